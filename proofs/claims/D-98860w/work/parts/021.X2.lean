/-! NamesWeatherModel -/
set_option maxRecDepth 100000
def RX2 : String := "NamesWeatherModel"
def TX2 : u_T := fun k => match k with
  | 0 => ("NamesWeatherModel", "told", "I", false)
  | 1 => ("NamesWeatherModel", "now", "[I", true)
  | 2 => ("NamesWeatherModel", "rows", "[I", true)
  | 3 => ("NamesWeatherModel", "undoable", "I", false)
  | 4 => ("NamesWeatherModel", "waiting", "[I", true)
  | 5 => ("NamesWeatherModel", "isThought", "Z", false)
  | 6 => ("NamesWeatherModel", "cryOdds", "I", false)
  | 7 => ("NamesWeatherModel", "routes", "[I", true)
  | 8 => ("NamesWeatherModel", "book", "[I", true)
  | 9 => ("NamesWeatherModel", "tape", "[I", true)
  | 10 => ("NamesWeatherModel", "taped", "I", false)
  | 11 => ("NamesWeatherModel", "spot", "I", false)
  | 12 => ("NamesWeatherModel", "from", "I", false)
  | 13 => ("NamesWeatherModel", "token", "I", false)
  | 14 => ("NamesWeatherModel", "value", "I", false)
  | 15 => ("NamesWeatherModel", "words", "[I", true)
  | 16 => ("NamesWeatherModel", "lineMany", "[I", true)
  | 17 => ("NamesWeatherModel", "lineWord", "[I", true)
  | 18 => ("NamesWeatherModel", "lineFrom", "[I", true)
  | 19 => ("NamesWeatherModel", "lineWhen", "[I", true)
  | 20 => ("NamesWeatherModel", "lineTo", "[I", true)
  | 21 => ("NamesWeatherModel", "op", "[I", true)
  | 22 => ("NamesWeatherModel", "arg", "[I", true)
  | 23 => ("NamesWeatherModel", "which", "I", false)
  | 24 => ("NamesWeatherModel", "codes", "I", false)
  | 25 => ("NamesWeatherModel", "open", "I", false)
  | 26 => ("NamesWeatherModel", "pending", "[I", true)
  | 27 => ("NamesWeatherModel", "pendings", "I", false)
  | 28 => ("NamesWeatherModel", "readFault", "I", false)
  | 29 => ("NamesWeatherModel", "readPlace", "I", false)
  | 30 => ("NamesWeatherModel", "faultKind", "I", false)
  | 31 => ("NamesWeatherModel", "faultPlace", "I", false)
  | 32 => ("NamesWeatherModel", "quenchMany", "I", false)
  | 33 => ("NamesWeatherModel", "quench", "[I", true)
  | 34 => ("NamesWeatherModel", "wantMany", "I", false)
  | 35 => ("NamesWeatherModel", "wants", "[I", true)
  | 36 => ("NamesWeatherModel", "planMany", "I", false)
  | 37 => ("NamesWeatherModel", "plan", "[I", true)
  | 38 => ("NamesWeatherModel", "asked", "[I", true)
  | 39 => ("NamesWeatherModel", "stack", "[I", true)
  | 40 => ("NamesWeatherModel", "came", "[I", true)
  | 41 => ("NamesWeatherModel", "weigh", "[I", true)
  | 42 => ("NamesWeatherModel", "boatOf", "[I", true)
  | 43 => ("NamesWeatherModel", "sets", "I", false)
  | 44 => ("NamesWeatherModel", "firstSet", "I", false)
  | 45 => ("NamesWeatherModel", "isTaking", "Z", false)
  | 46 => ("NamesWeatherModel", "hasImage", "Z", false)
  | 47 => ("NamesWeatherModel", "keptAt", "I", false)
  | _ => ("NamesWeatherModel", "images", "[I", true)
def tyX2 : Nat → FieldType := fun k => match k with
  | 0 => .int
  | 1 => .array .int
  | 2 => .array .int
  | 3 => .int
  | 4 => .array .int
  | 5 => .boolean
  | 6 => .int
  | 7 => .array .int
  | 8 => .array .int
  | 9 => .array .int
  | 10 => .int
  | 11 => .int
  | 12 => .int
  | 13 => .int
  | 14 => .int
  | 15 => .array .int
  | 16 => .array .int
  | 17 => .array .int
  | 18 => .array .int
  | 19 => .array .int
  | 20 => .array .int
  | 21 => .array .int
  | 22 => .array .int
  | 23 => .int
  | 24 => .int
  | 25 => .int
  | 26 => .array .int
  | 27 => .int
  | 28 => .int
  | 29 => .int
  | 30 => .int
  | 31 => .int
  | 32 => .int
  | 33 => .array .int
  | 34 => .int
  | 35 => .array .int
  | 36 => .int
  | 37 => .array .int
  | 38 => .array .int
  | 39 => .array .int
  | 40 => .array .int
  | 41 => .array .int
  | 42 => .array .int
  | 43 => .int
  | 44 => .int
  | 45 => .boolean
  | 46 => .boolean
  | 47 => .int
  | _ => .array .int
abbrev wsX20 : List Cond := u_ws RX2 TX2 49
set_option maxRecDepth 100000 in
theorem nmX2 : ∀ a, a < 49 → ∀ b, b < 49 → a ≠ b → (TX2 a).2.1 ≠ (TX2 b).2.1 := by decide +kernel
set_option maxRecDepth 100000 in
theorem tyX2_ok : ∀ k, k < 49 → parseFieldDescriptor (TX2 k).2.2.1 = some (tyX2 k) := by decide +kernel
abbrev cX2_init : ByteArray := prog_21_method_1_code
def yX2_init : MethodName := ⟨RX2, "<init>", "()V"⟩
def dkwX2_init_48 : List UInt8 := [42, 16, 12, 188, 10, 181, 0, 80, 42, 17, 7, 208, 188, 10, 181, 0, 83, 177]
abbrev dktX2_init_48 : List UInt8 := dkwX2_init_48 ++ []
def dkwX2_init_47 : List UInt8 := [17, 1, 164, 188, 10, 181, 0, 71, 42, 16, 40, 188, 10, 181, 0, 74, 42, 16, 12, 188, 10, 181, 0, 77]
abbrev dktX2_init_47 : List UInt8 := dkwX2_init_47 ++ dktX2_init_48
def dkwX2_init_46 : List UInt8 := [188, 10, 181, 0, 62, 42, 17, 0, 128, 188, 10, 181, 0, 65, 42, 16, 9, 188, 10, 181, 0, 68, 42]
abbrev dktX2_init_46 : List UInt8 := dkwX2_init_46 ++ dktX2_init_47
def dkwX2_init_45 : List UInt8 := [16, 40, 188, 10, 181, 0, 52, 42, 2, 181, 0, 55, 42, 16, 96, 188, 10, 181, 0, 59, 42, 16, 100]
abbrev dktX2_init_45 : List UInt8 := dkwX2_init_45 ++ dktX2_init_46
def dkwX2_init_44 : List UInt8 := [188, 10, 181, 0, 43, 42, 17, 4, 176, 188, 10, 181, 0, 46, 42, 17, 4, 176, 188, 10, 181, 0, 49, 42]
abbrev dktX2_init_44 : List UInt8 := dkwX2_init_44 ++ dktX2_init_45
def dkwX2_init_43 : List UInt8 := [188, 10, 181, 0, 34, 42, 16, 48, 188, 10, 181, 0, 37, 42, 16, 48, 188, 10, 181, 0, 40, 42, 16, 48]
abbrev dktX2_init_43 : List UInt8 := dkwX2_init_43 ++ dktX2_init_44
def dkwX2_init_42 : List UInt8 := [16, 121, 79, 89, 17, 0, 154, 16, 32, 79, 181, 0, 28, 42, 5, 188, 10, 181, 0, 31, 42, 16, 48]
abbrev dktX2_init_42 : List UInt8 := dkwX2_init_42 ++ dktX2_init_43
def dkwX2_init_41 : List UInt8 := [17, 0, 150, 16, 98, 79, 89, 17, 0, 151, 16, 117, 79, 89, 17, 0, 152, 16, 114, 79, 89, 17, 0, 153]
abbrev dktX2_init_41 : List UInt8 := dkwX2_init_41 ++ dktX2_init_42
def dkwX2_init_40 : List UInt8 := [89, 17, 0, 147, 16, 116, 79, 89, 17, 0, 148, 16, 111, 79, 89, 17, 0, 149, 16, 32, 79, 89]
abbrev dktX2_init_40 : List UInt8 := dkwX2_init_40 ++ dktX2_init_41
def dkwX2_init_39 : List UInt8 := [16, 111, 79, 89, 17, 0, 144, 16, 118, 79, 89, 17, 0, 145, 16, 101, 79, 89, 17, 0, 146, 16, 32, 79]
abbrev dktX2_init_39 : List UInt8 := dkwX2_init_39 ++ dktX2_init_40
def dkwX2_init_38 : List UInt8 := [17, 0, 140, 16, 108, 79, 89, 17, 0, 141, 16, 32, 79, 89, 17, 0, 142, 16, 109, 79, 89, 17, 0, 143]
abbrev dktX2_init_38 : List UInt8 := dkwX2_init_38 ++ dktX2_init_39
def dkwX2_init_37 : List UInt8 := [89, 17, 0, 137, 16, 99, 79, 89, 17, 0, 138, 16, 97, 79, 89, 17, 0, 139, 16, 108, 79, 89]
abbrev dktX2_init_37 : List UInt8 := dkwX2_init_37 ++ dktX2_init_38
def dkwX2_init_36 : List UInt8 := [16, 114, 79, 89, 17, 0, 134, 16, 116, 79, 89, 17, 0, 135, 16, 104, 79, 89, 17, 0, 136, 16, 32, 79]
abbrev dktX2_init_36 : List UInt8 := dkwX2_init_36 ++ dktX2_init_37
def dkwX2_init_35 : List UInt8 := [17, 0, 130, 16, 32, 79, 89, 17, 0, 131, 16, 119, 79, 89, 17, 0, 132, 16, 111, 79, 89, 17, 0, 133]
abbrev dktX2_init_35 : List UInt8 := dkwX2_init_35 ++ dktX2_init_36
def dkwX2_init_34 : List UInt8 := [16, 116, 79, 89, 16, 127, 16, 32, 79, 89, 17, 0, 128, 16, 111, 79, 89, 17, 0, 129, 16, 110, 79, 89]
abbrev dktX2_init_34 : List UInt8 := dkwX2_init_34 ++ dktX2_init_35
def dkwX2_init_33 : List UInt8 := [16, 97, 79, 89, 16, 123, 16, 114, 79, 89, 16, 124, 16, 32, 79, 89, 16, 125, 16, 97, 79, 89, 16, 126]
abbrev dktX2_init_33 : List UInt8 := dkwX2_init_33 ++ dktX2_init_34
def dkwX2_init_32 : List UInt8 := [16, 32, 79, 89, 16, 119, 16, 99, 79, 89, 16, 120, 16, 108, 79, 89, 16, 121, 16, 101, 79, 89, 16, 122]
abbrev dktX2_init_32 : List UInt8 := dkwX2_init_32 ++ dktX2_init_33
def dkwX2_init_31 : List UInt8 := [16, 119, 79, 89, 16, 115, 16, 97, 79, 89, 16, 116, 16, 110, 79, 89, 16, 117, 16, 116, 79, 89, 16, 118]
abbrev dktX2_init_31 : List UInt8 := dkwX2_init_31 ++ dktX2_init_32
def dkwX2_init_30 : List UInt8 := [16, 32, 79, 89, 16, 111, 16, 98, 79, 89, 16, 112, 16, 121, 79, 89, 16, 113, 16, 32, 79, 89, 16, 114]
abbrev dktX2_init_30 : List UInt8 := dkwX2_init_30 ++ dktX2_init_31
def dkwX2_init_29 : List UInt8 := [16, 99, 79, 89, 16, 107, 16, 104, 79, 89, 16, 108, 16, 101, 79, 89, 16, 109, 16, 115, 79, 89, 16, 110]
abbrev dktX2_init_29 : List UInt8 := dkwX2_init_29 ++ dktX2_init_30
def dkwX2_init_28 : List UInt8 := [16, 113, 79, 89, 16, 103, 16, 117, 79, 89, 16, 104, 16, 101, 79, 89, 16, 105, 16, 110, 79, 89, 16, 106]
abbrev dktX2_init_28 : List UInt8 := dkwX2_init_28 ++ dktX2_init_29
def dkwX2_init_27 : List UInt8 := [16, 111, 79, 89, 16, 99, 16, 108, 79, 89, 16, 100, 16, 107, 79, 89, 16, 101, 16, 32, 79, 89, 16, 102]
abbrev dktX2_init_27 : List UInt8 := dkwX2_init_27 ++ dktX2_init_28
def dkwX2_init_26 : List UInt8 := [16, 97, 79, 89, 16, 95, 16, 121, 79, 89, 16, 96, 16, 32, 79, 89, 16, 97, 16, 102, 79, 89, 16, 98]
abbrev dktX2_init_26 : List UInt8 := dkwX2_init_26 ++ dktX2_init_27
def dkwX2_init_25 : List UInt8 := [16, 32, 79, 89, 16, 91, 16, 116, 79, 89, 16, 92, 16, 111, 79, 89, 16, 93, 16, 100, 79, 89, 16, 94]
abbrev dktX2_init_25 : List UInt8 := dkwX2_init_25 ++ dktX2_init_26
def dkwX2_init_24 : List UInt8 := [16, 97, 79, 89, 16, 87, 16, 108, 79, 89, 16, 88, 16, 108, 79, 89, 16, 89, 16, 115, 79, 89, 16, 90]
abbrev dktX2_init_24 : List UInt8 := dkwX2_init_24 ++ dktX2_init_25
def dkwX2_init_23 : List UInt8 := [16, 97, 79, 89, 16, 83, 16, 100, 79, 89, 16, 84, 16, 32, 79, 89, 16, 85, 16, 99, 79, 89, 16, 86]
abbrev dktX2_init_23 : List UInt8 := dkwX2_init_23 ++ dktX2_init_24
def dkwX2_init_22 : List UInt8 := [16, 121, 79, 89, 16, 79, 16, 32, 79, 89, 16, 80, 16, 100, 79, 89, 16, 81, 16, 101, 79, 89, 16, 82]
abbrev dktX2_init_22 : List UInt8 := dkwX2_init_22 ++ dktX2_init_23
def dkwX2_init_21 : List UInt8 := [16, 108, 79, 89, 16, 75, 16, 32, 79, 89, 16, 76, 16, 100, 79, 89, 16, 77, 16, 97, 79, 89, 16, 78]
abbrev dktX2_init_21 : List UInt8 := dkwX2_init_21 ++ dktX2_init_22
def dkwX2_init_20 : List UInt8 := [16, 121, 79, 89, 16, 71, 16, 32, 79, 89, 16, 72, 16, 97, 79, 89, 16, 73, 16, 108, 79, 89, 16, 74]
abbrev dktX2_init_20 : List UInt8 := dkwX2_init_20 ++ dktX2_init_21
def dkwX2_init_19 : List UInt8 := [16, 104, 79, 89, 16, 67, 16, 32, 79, 89, 16, 68, 16, 115, 79, 89, 16, 69, 16, 107, 79, 89, 16, 70]
abbrev dktX2_init_19 : List UInt8 := dkwX2_init_19 ++ dktX2_init_20
def dkwX2_init_18 : List UInt8 := [16, 101, 79, 89, 16, 63, 16, 110, 79, 89, 16, 64, 16, 103, 79, 89, 16, 65, 16, 116, 79, 89, 16, 66]
abbrev dktX2_init_18 : List UInt8 := dkwX2_init_18 ++ dktX2_init_19
def dkwX2_init_17 : List UInt8 := [16, 32, 79, 89, 16, 59, 16, 115, 79, 89, 16, 60, 16, 116, 79, 89, 16, 61, 16, 114, 79, 89, 16, 62]
abbrev dktX2_init_17 : List UInt8 := dkwX2_init_17 ++ dktX2_init_18
def dkwX2_init_16 : List UInt8 := [16, 107, 79, 89, 16, 55, 16, 105, 79, 89, 16, 56, 16, 110, 79, 89, 16, 57, 16, 100, 79, 89, 16, 58]
abbrev dktX2_init_16 : List UInt8 := dkwX2_init_16 ++ dktX2_init_17
def dkwX2_init_15 : List UInt8 := [16, 110, 79, 89, 16, 51, 16, 111, 79, 89, 16, 52, 16, 116, 79, 89, 16, 53, 16, 32, 79, 89, 16, 54]
abbrev dktX2_init_15 : List UInt8 := dkwX2_init_15 ++ dktX2_init_16
def dkwX2_init_14 : List UInt8 := [16, 97, 79, 89, 16, 47, 16, 110, 79, 89, 16, 48, 16, 100, 79, 89, 16, 49, 16, 32, 79, 89, 16, 50]
abbrev dktX2_init_14 : List UInt8 := dkwX2_init_14 ++ dktX2_init_15
def dkwX2_init_13 : List UInt8 := [16, 32, 79, 89, 16, 43, 16, 111, 79, 89, 16, 44, 16, 114, 79, 89, 16, 45, 16, 32, 79, 89, 16, 46]
abbrev dktX2_init_13 : List UInt8 := dkwX2_init_13 ++ dktX2_init_14
def dkwX2_init_12 : List UInt8 := [16, 119, 79, 89, 16, 39, 16, 104, 79, 89, 16, 40, 16, 101, 79, 89, 16, 41, 16, 110, 79, 89, 16, 42]
abbrev dktX2_init_12 : List UInt8 := dkwX2_init_12 ++ dktX2_init_13
def dkwX2_init_11 : List UInt8 := [16, 111, 79, 89, 16, 35, 16, 115, 79, 89, 16, 36, 16, 116, 79, 89, 16, 37, 16, 32, 79, 89, 16, 38]
abbrev dktX2_init_11 : List UInt8 := dkwX2_init_11 ++ dktX2_init_12
def dkwX2_init_10 : List UInt8 := [16, 100, 79, 89, 16, 31, 16, 101, 79, 89, 16, 32, 16, 32, 79, 89, 16, 33, 16, 99, 79, 89, 16, 34]
abbrev dktX2_init_10 : List UInt8 := dkwX2_init_10 ++ dktX2_init_11
def dkwX2_init_9 : List UInt8 := [16, 100, 79, 89, 16, 27, 16, 32, 79, 89, 16, 28, 16, 102, 79, 89, 16, 29, 16, 97, 79, 89, 16, 30]
abbrev dktX2_init_9 : List UInt8 := dkwX2_init_9 ++ dktX2_init_10
def dkwX2_init_8 : List UInt8 := [16, 108, 79, 89, 16, 23, 16, 32, 79, 89, 16, 24, 16, 97, 79, 89, 16, 25, 16, 100, 79, 89, 16, 26]
abbrev dktX2_init_8 : List UInt8 := dkwX2_init_8 ++ dktX2_init_9
def dkwX2_init_7 : List UInt8 := [16, 32, 79, 89, 16, 19, 16, 104, 79, 89, 16, 20, 16, 97, 79, 89, 16, 21, 16, 105, 79, 89, 16, 22]
abbrev dktX2_init_7 : List UInt8 := dkwX2_init_7 ++ dktX2_init_8
def dkwX2_init_6 : List UInt8 := [16, 32, 79, 89, 16, 15, 16, 102, 79, 89, 16, 16, 16, 111, 79, 89, 16, 17, 16, 103, 79, 89, 16, 18]
abbrev dktX2_init_6 : List UInt8 := dkwX2_init_6 ++ dktX2_init_7
def dkwX2_init_5 : List UInt8 := [16, 119, 79, 89, 16, 11, 16, 105, 79, 89, 16, 12, 16, 110, 79, 89, 16, 13, 16, 100, 79, 89, 16, 14]
abbrev dktX2_init_5 : List UInt8 := dkwX2_init_5 ++ dktX2_init_6
def dkwX2_init_4 : List UInt8 := [16, 97, 79, 89, 16, 7, 16, 105, 79, 89, 16, 8, 16, 110, 79, 89, 16, 9, 16, 32, 79, 89, 16, 10]
abbrev dktX2_init_4 : List UInt8 := dkwX2_init_4 ++ dktX2_init_5
def dkwX2_init_3 : List UInt8 := [89, 5, 16, 117, 79, 89, 6, 16, 110, 79, 89, 7, 16, 32, 79, 89, 8, 16, 114, 79, 89, 16, 6]
abbrev dktX2_init_3 : List UInt8 := dkwX2_init_3 ++ dktX2_init_4
def dkwX2_init_2 : List UInt8 := [17, 1, 144, 188, 10, 181, 0, 25, 42, 17, 0, 155, 188, 10, 89, 3, 16, 32, 79, 89, 4, 16, 115, 79]
abbrev dktX2_init_2 : List UInt8 := dkwX2_init_2 ++ dktX2_init_3
def dkwX2_init_1 : List UInt8 := [188, 10, 181, 0, 16, 42, 16, 8, 188, 10, 181, 0, 19, 42, 17, 2, 238, 188, 10, 181, 0, 22, 42]
abbrev dktX2_init_1 : List UInt8 := dkwX2_init_1 ++ dktX2_init_2
def dkwX2_init_0 : List UInt8 := [42, 183, 0, 1, 42, 16, 105, 188, 10, 181, 0, 7, 42, 17, 2, 118, 188, 10, 181, 0, 13, 42, 16, 105]
abbrev dktX2_init_0 : List UInt8 := dkwX2_init_0 ++ dktX2_init_1
theorem dksX2_init_0 : cX2_init.data.toList.drop 0 = dktX2_init_0 := by decide +kernel
theorem dksX2_init_1 : cX2_init.data.toList.drop 24 = dktX2_init_1 := dk_seg dksX2_init_0 24 rfl rfl
theorem dksX2_init_2 : cX2_init.data.toList.drop 47 = dktX2_init_2 := dk_seg dksX2_init_1 23 rfl rfl
theorem dksX2_init_3 : cX2_init.data.toList.drop 71 = dktX2_init_3 := dk_seg dksX2_init_2 24 rfl rfl
theorem dksX2_init_4 : cX2_init.data.toList.drop 94 = dktX2_init_4 := dk_seg dksX2_init_3 23 rfl rfl
theorem dksX2_init_5 : cX2_init.data.toList.drop 118 = dktX2_init_5 := dk_seg dksX2_init_4 24 rfl rfl
theorem dksX2_init_6 : cX2_init.data.toList.drop 142 = dktX2_init_6 := dk_seg dksX2_init_5 24 rfl rfl
theorem dksX2_init_7 : cX2_init.data.toList.drop 166 = dktX2_init_7 := dk_seg dksX2_init_6 24 rfl rfl
theorem dksX2_init_8 : cX2_init.data.toList.drop 190 = dktX2_init_8 := dk_seg dksX2_init_7 24 rfl rfl
theorem dksX2_init_9 : cX2_init.data.toList.drop 214 = dktX2_init_9 := dk_seg dksX2_init_8 24 rfl rfl
theorem dksX2_init_10 : cX2_init.data.toList.drop 238 = dktX2_init_10 := dk_seg dksX2_init_9 24 rfl rfl
theorem dksX2_init_11 : cX2_init.data.toList.drop 262 = dktX2_init_11 := dk_seg dksX2_init_10 24 rfl rfl
theorem dksX2_init_12 : cX2_init.data.toList.drop 286 = dktX2_init_12 := dk_seg dksX2_init_11 24 rfl rfl
theorem dksX2_init_13 : cX2_init.data.toList.drop 310 = dktX2_init_13 := dk_seg dksX2_init_12 24 rfl rfl
theorem dksX2_init_14 : cX2_init.data.toList.drop 334 = dktX2_init_14 := dk_seg dksX2_init_13 24 rfl rfl
theorem dksX2_init_15 : cX2_init.data.toList.drop 358 = dktX2_init_15 := dk_seg dksX2_init_14 24 rfl rfl
theorem dksX2_init_16 : cX2_init.data.toList.drop 382 = dktX2_init_16 := dk_seg dksX2_init_15 24 rfl rfl
theorem dksX2_init_17 : cX2_init.data.toList.drop 406 = dktX2_init_17 := dk_seg dksX2_init_16 24 rfl rfl
theorem dksX2_init_18 : cX2_init.data.toList.drop 430 = dktX2_init_18 := dk_seg dksX2_init_17 24 rfl rfl
theorem dksX2_init_19 : cX2_init.data.toList.drop 454 = dktX2_init_19 := dk_seg dksX2_init_18 24 rfl rfl
theorem dksX2_init_20 : cX2_init.data.toList.drop 478 = dktX2_init_20 := dk_seg dksX2_init_19 24 rfl rfl
theorem dksX2_init_21 : cX2_init.data.toList.drop 502 = dktX2_init_21 := dk_seg dksX2_init_20 24 rfl rfl
theorem dksX2_init_22 : cX2_init.data.toList.drop 526 = dktX2_init_22 := dk_seg dksX2_init_21 24 rfl rfl
theorem dksX2_init_23 : cX2_init.data.toList.drop 550 = dktX2_init_23 := dk_seg dksX2_init_22 24 rfl rfl
theorem dksX2_init_24 : cX2_init.data.toList.drop 574 = dktX2_init_24 := dk_seg dksX2_init_23 24 rfl rfl
theorem dksX2_init_25 : cX2_init.data.toList.drop 598 = dktX2_init_25 := dk_seg dksX2_init_24 24 rfl rfl
theorem dksX2_init_26 : cX2_init.data.toList.drop 622 = dktX2_init_26 := dk_seg dksX2_init_25 24 rfl rfl
theorem dksX2_init_27 : cX2_init.data.toList.drop 646 = dktX2_init_27 := dk_seg dksX2_init_26 24 rfl rfl
theorem dksX2_init_28 : cX2_init.data.toList.drop 670 = dktX2_init_28 := dk_seg dksX2_init_27 24 rfl rfl
theorem dksX2_init_29 : cX2_init.data.toList.drop 694 = dktX2_init_29 := dk_seg dksX2_init_28 24 rfl rfl
theorem dksX2_init_30 : cX2_init.data.toList.drop 718 = dktX2_init_30 := dk_seg dksX2_init_29 24 rfl rfl
theorem dksX2_init_31 : cX2_init.data.toList.drop 742 = dktX2_init_31 := dk_seg dksX2_init_30 24 rfl rfl
theorem dksX2_init_32 : cX2_init.data.toList.drop 766 = dktX2_init_32 := dk_seg dksX2_init_31 24 rfl rfl
theorem dksX2_init_33 : cX2_init.data.toList.drop 790 = dktX2_init_33 := dk_seg dksX2_init_32 24 rfl rfl
theorem dksX2_init_34 : cX2_init.data.toList.drop 814 = dktX2_init_34 := dk_seg dksX2_init_33 24 rfl rfl
theorem dksX2_init_35 : cX2_init.data.toList.drop 838 = dktX2_init_35 := dk_seg dksX2_init_34 24 rfl rfl
theorem dksX2_init_36 : cX2_init.data.toList.drop 862 = dktX2_init_36 := dk_seg dksX2_init_35 24 rfl rfl
theorem dksX2_init_37 : cX2_init.data.toList.drop 886 = dktX2_init_37 := dk_seg dksX2_init_36 24 rfl rfl
theorem dksX2_init_38 : cX2_init.data.toList.drop 908 = dktX2_init_38 := dk_seg dksX2_init_37 22 rfl rfl
theorem dksX2_init_39 : cX2_init.data.toList.drop 932 = dktX2_init_39 := dk_seg dksX2_init_38 24 rfl rfl
theorem dksX2_init_40 : cX2_init.data.toList.drop 956 = dktX2_init_40 := dk_seg dksX2_init_39 24 rfl rfl
theorem dksX2_init_41 : cX2_init.data.toList.drop 978 = dktX2_init_41 := dk_seg dksX2_init_40 22 rfl rfl
theorem dksX2_init_42 : cX2_init.data.toList.drop 1002 = dktX2_init_42 := dk_seg dksX2_init_41 24 rfl rfl
theorem dksX2_init_43 : cX2_init.data.toList.drop 1025 = dktX2_init_43 := dk_seg dksX2_init_42 23 rfl rfl
theorem dksX2_init_44 : cX2_init.data.toList.drop 1049 = dktX2_init_44 := dk_seg dksX2_init_43 24 rfl rfl
theorem dksX2_init_45 : cX2_init.data.toList.drop 1073 = dktX2_init_45 := dk_seg dksX2_init_44 24 rfl rfl
theorem dksX2_init_46 : cX2_init.data.toList.drop 1096 = dktX2_init_46 := dk_seg dksX2_init_45 23 rfl rfl
theorem dksX2_init_47 : cX2_init.data.toList.drop 1119 = dktX2_init_47 := dk_seg dksX2_init_46 23 rfl rfl
theorem dksX2_init_48 : cX2_init.data.toList.drop 1143 = dktX2_init_48 := dk_seg dksX2_init_47 24 rfl rfl
theorem dX2_init_0 : decode cX2_init 0 = .ok (.aload_n 0, 1) := dk_42 (dk_at dksX2_init_0 0 rfl rfl)
theorem dX2_init_1 : decode cX2_init 1 = .ok (.invokespecial 1, 3) := dk_183 0 1 (dk_at dksX2_init_0 1 rfl rfl)
theorem dX2_init_4 : decode cX2_init 4 = .ok (.aload_n 0, 1) := dk_42 (dk_at dksX2_init_0 4 rfl rfl)
theorem dX2_init_5 : decode cX2_init 5 = .ok (.bipush 105, 2) := dk_16 105 (dk_at dksX2_init_0 5 rfl rfl)
theorem dX2_init_7 : decode cX2_init 7 = .ok (.newarray .int, 2) := dk_188_10 (dk_at dksX2_init_0 7 rfl rfl)
theorem dX2_init_9 : decode cX2_init 9 = .ok (.putfield 7, 3) := dk_181 0 7 (dk_at dksX2_init_0 9 rfl rfl)
theorem dX2_init_12 : decode cX2_init 12 = .ok (.aload_n 0, 1) := dk_42 (dk_at dksX2_init_0 12 rfl rfl)
theorem dX2_init_13 : decode cX2_init 13 = .ok (.sipush 630, 3) := dk_17 2 118 (dk_at dksX2_init_0 13 rfl rfl)
theorem dX2_init_16 : decode cX2_init 16 = .ok (.newarray .int, 2) := dk_188_10 (dk_at dksX2_init_0 16 rfl rfl)
theorem dX2_init_18 : decode cX2_init 18 = .ok (.putfield 13, 3) := dk_181 0 13 (dk_at dksX2_init_0 18 rfl rfl)
theorem dX2_init_21 : decode cX2_init 21 = .ok (.aload_n 0, 1) := dk_42 (dk_at dksX2_init_0 21 rfl rfl)
theorem dX2_init_22 : decode cX2_init 22 = .ok (.bipush 105, 2) := dk_16 105 (dk_at dksX2_init_0 22 rfl rfl)
theorem dX2_init_24 : decode cX2_init 24 = .ok (.newarray .int, 2) := dk_188_10 (dk_at dksX2_init_1 0 rfl rfl)
theorem dX2_init_26 : decode cX2_init 26 = .ok (.putfield 16, 3) := dk_181 0 16 (dk_at dksX2_init_1 2 rfl rfl)
theorem dX2_init_29 : decode cX2_init 29 = .ok (.aload_n 0, 1) := dk_42 (dk_at dksX2_init_1 5 rfl rfl)
theorem dX2_init_30 : decode cX2_init 30 = .ok (.bipush 8, 2) := dk_16 8 (dk_at dksX2_init_1 6 rfl rfl)
theorem dX2_init_32 : decode cX2_init 32 = .ok (.newarray .int, 2) := dk_188_10 (dk_at dksX2_init_1 8 rfl rfl)
theorem dX2_init_34 : decode cX2_init 34 = .ok (.putfield 19, 3) := dk_181 0 19 (dk_at dksX2_init_1 10 rfl rfl)
theorem dX2_init_37 : decode cX2_init 37 = .ok (.aload_n 0, 1) := dk_42 (dk_at dksX2_init_1 13 rfl rfl)
theorem dX2_init_38 : decode cX2_init 38 = .ok (.sipush 750, 3) := dk_17 2 238 (dk_at dksX2_init_1 14 rfl rfl)
theorem dX2_init_41 : decode cX2_init 41 = .ok (.newarray .int, 2) := dk_188_10 (dk_at dksX2_init_1 17 rfl rfl)
theorem dX2_init_43 : decode cX2_init 43 = .ok (.putfield 22, 3) := dk_181 0 22 (dk_at dksX2_init_1 19 rfl rfl)
theorem dX2_init_46 : decode cX2_init 46 = .ok (.aload_n 0, 1) := dk_42 (dk_at dksX2_init_1 22 rfl rfl)
theorem dX2_init_47 : decode cX2_init 47 = .ok (.sipush 400, 3) := dk_17 1 144 (dk_at dksX2_init_2 0 rfl rfl)
theorem dX2_init_50 : decode cX2_init 50 = .ok (.newarray .int, 2) := dk_188_10 (dk_at dksX2_init_2 3 rfl rfl)
theorem dX2_init_52 : decode cX2_init 52 = .ok (.putfield 25, 3) := dk_181 0 25 (dk_at dksX2_init_2 5 rfl rfl)
theorem dX2_init_55 : decode cX2_init 55 = .ok (.aload_n 0, 1) := dk_42 (dk_at dksX2_init_2 8 rfl rfl)
theorem dX2_init_56 : decode cX2_init 56 = .ok (.sipush 155, 3) := dk_17 0 155 (dk_at dksX2_init_2 9 rfl rfl)
theorem dX2_init_59 : decode cX2_init 59 = .ok (.newarray .int, 2) := dk_188_10 (dk_at dksX2_init_2 12 rfl rfl)
theorem dX2_init_61 : decode cX2_init 61 = .ok (.dup, 1) := dk_89 (dk_at dksX2_init_2 14 rfl rfl)
theorem dX2_init_62 : decode cX2_init 62 = .ok (.iconst 0, 1) := dk_3 (dk_at dksX2_init_2 15 rfl rfl)
theorem dX2_init_63 : decode cX2_init 63 = .ok (.bipush 32, 2) := dk_16 32 (dk_at dksX2_init_2 16 rfl rfl)
theorem dX2_init_65 : decode cX2_init 65 = .ok (.iastore, 1) := dk_79 (dk_at dksX2_init_2 18 rfl rfl)
theorem dX2_init_66 : decode cX2_init 66 = .ok (.dup, 1) := dk_89 (dk_at dksX2_init_2 19 rfl rfl)
theorem dX2_init_67 : decode cX2_init 67 = .ok (.iconst 1, 1) := dk_4 (dk_at dksX2_init_2 20 rfl rfl)
theorem dX2_init_68 : decode cX2_init 68 = .ok (.bipush 115, 2) := dk_16 115 (dk_at dksX2_init_2 21 rfl rfl)
theorem dX2_init_70 : decode cX2_init 70 = .ok (.iastore, 1) := dk_79 (dk_at dksX2_init_2 23 rfl rfl)
theorem dX2_init_71 : decode cX2_init 71 = .ok (.dup, 1) := dk_89 (dk_at dksX2_init_3 0 rfl rfl)
theorem dX2_init_72 : decode cX2_init 72 = .ok (.iconst 2, 1) := dk_5 (dk_at dksX2_init_3 1 rfl rfl)
theorem dX2_init_73 : decode cX2_init 73 = .ok (.bipush 117, 2) := dk_16 117 (dk_at dksX2_init_3 2 rfl rfl)
theorem dX2_init_75 : decode cX2_init 75 = .ok (.iastore, 1) := dk_79 (dk_at dksX2_init_3 4 rfl rfl)
theorem dX2_init_76 : decode cX2_init 76 = .ok (.dup, 1) := dk_89 (dk_at dksX2_init_3 5 rfl rfl)
theorem dX2_init_77 : decode cX2_init 77 = .ok (.iconst 3, 1) := dk_6 (dk_at dksX2_init_3 6 rfl rfl)
theorem dX2_init_78 : decode cX2_init 78 = .ok (.bipush 110, 2) := dk_16 110 (dk_at dksX2_init_3 7 rfl rfl)
theorem dX2_init_80 : decode cX2_init 80 = .ok (.iastore, 1) := dk_79 (dk_at dksX2_init_3 9 rfl rfl)
theorem dX2_init_81 : decode cX2_init 81 = .ok (.dup, 1) := dk_89 (dk_at dksX2_init_3 10 rfl rfl)
theorem dX2_init_82 : decode cX2_init 82 = .ok (.iconst 4, 1) := dk_7 (dk_at dksX2_init_3 11 rfl rfl)
theorem dX2_init_83 : decode cX2_init 83 = .ok (.bipush 32, 2) := dk_16 32 (dk_at dksX2_init_3 12 rfl rfl)
theorem dX2_init_85 : decode cX2_init 85 = .ok (.iastore, 1) := dk_79 (dk_at dksX2_init_3 14 rfl rfl)
theorem dX2_init_86 : decode cX2_init 86 = .ok (.dup, 1) := dk_89 (dk_at dksX2_init_3 15 rfl rfl)
theorem dX2_init_87 : decode cX2_init 87 = .ok (.iconst 5, 1) := dk_8 (dk_at dksX2_init_3 16 rfl rfl)
theorem dX2_init_88 : decode cX2_init 88 = .ok (.bipush 114, 2) := dk_16 114 (dk_at dksX2_init_3 17 rfl rfl)
theorem dX2_init_90 : decode cX2_init 90 = .ok (.iastore, 1) := dk_79 (dk_at dksX2_init_3 19 rfl rfl)
theorem dX2_init_91 : decode cX2_init 91 = .ok (.dup, 1) := dk_89 (dk_at dksX2_init_3 20 rfl rfl)
theorem dX2_init_92 : decode cX2_init 92 = .ok (.bipush 6, 2) := dk_16 6 (dk_at dksX2_init_3 21 rfl rfl)
theorem dX2_init_94 : decode cX2_init 94 = .ok (.bipush 97, 2) := dk_16 97 (dk_at dksX2_init_4 0 rfl rfl)
theorem dX2_init_96 : decode cX2_init 96 = .ok (.iastore, 1) := dk_79 (dk_at dksX2_init_4 2 rfl rfl)
theorem dX2_init_97 : decode cX2_init 97 = .ok (.dup, 1) := dk_89 (dk_at dksX2_init_4 3 rfl rfl)
theorem dX2_init_98 : decode cX2_init 98 = .ok (.bipush 7, 2) := dk_16 7 (dk_at dksX2_init_4 4 rfl rfl)
theorem dX2_init_100 : decode cX2_init 100 = .ok (.bipush 105, 2) := dk_16 105 (dk_at dksX2_init_4 6 rfl rfl)
theorem dX2_init_102 : decode cX2_init 102 = .ok (.iastore, 1) := dk_79 (dk_at dksX2_init_4 8 rfl rfl)
theorem dX2_init_103 : decode cX2_init 103 = .ok (.dup, 1) := dk_89 (dk_at dksX2_init_4 9 rfl rfl)
theorem dX2_init_104 : decode cX2_init 104 = .ok (.bipush 8, 2) := dk_16 8 (dk_at dksX2_init_4 10 rfl rfl)
theorem dX2_init_106 : decode cX2_init 106 = .ok (.bipush 110, 2) := dk_16 110 (dk_at dksX2_init_4 12 rfl rfl)
theorem dX2_init_108 : decode cX2_init 108 = .ok (.iastore, 1) := dk_79 (dk_at dksX2_init_4 14 rfl rfl)
theorem dX2_init_109 : decode cX2_init 109 = .ok (.dup, 1) := dk_89 (dk_at dksX2_init_4 15 rfl rfl)
theorem dX2_init_110 : decode cX2_init 110 = .ok (.bipush 9, 2) := dk_16 9 (dk_at dksX2_init_4 16 rfl rfl)
theorem dX2_init_112 : decode cX2_init 112 = .ok (.bipush 32, 2) := dk_16 32 (dk_at dksX2_init_4 18 rfl rfl)
theorem dX2_init_114 : decode cX2_init 114 = .ok (.iastore, 1) := dk_79 (dk_at dksX2_init_4 20 rfl rfl)
theorem dX2_init_115 : decode cX2_init 115 = .ok (.dup, 1) := dk_89 (dk_at dksX2_init_4 21 rfl rfl)
theorem dX2_init_116 : decode cX2_init 116 = .ok (.bipush 10, 2) := dk_16 10 (dk_at dksX2_init_4 22 rfl rfl)
theorem dX2_init_118 : decode cX2_init 118 = .ok (.bipush 119, 2) := dk_16 119 (dk_at dksX2_init_5 0 rfl rfl)
theorem dX2_init_120 : decode cX2_init 120 = .ok (.iastore, 1) := dk_79 (dk_at dksX2_init_5 2 rfl rfl)
theorem dX2_init_121 : decode cX2_init 121 = .ok (.dup, 1) := dk_89 (dk_at dksX2_init_5 3 rfl rfl)
theorem dX2_init_122 : decode cX2_init 122 = .ok (.bipush 11, 2) := dk_16 11 (dk_at dksX2_init_5 4 rfl rfl)
theorem dX2_init_124 : decode cX2_init 124 = .ok (.bipush 105, 2) := dk_16 105 (dk_at dksX2_init_5 6 rfl rfl)
theorem dX2_init_126 : decode cX2_init 126 = .ok (.iastore, 1) := dk_79 (dk_at dksX2_init_5 8 rfl rfl)
theorem dX2_init_127 : decode cX2_init 127 = .ok (.dup, 1) := dk_89 (dk_at dksX2_init_5 9 rfl rfl)
theorem dX2_init_128 : decode cX2_init 128 = .ok (.bipush 12, 2) := dk_16 12 (dk_at dksX2_init_5 10 rfl rfl)
theorem dX2_init_130 : decode cX2_init 130 = .ok (.bipush 110, 2) := dk_16 110 (dk_at dksX2_init_5 12 rfl rfl)
theorem dX2_init_132 : decode cX2_init 132 = .ok (.iastore, 1) := dk_79 (dk_at dksX2_init_5 14 rfl rfl)
theorem dX2_init_133 : decode cX2_init 133 = .ok (.dup, 1) := dk_89 (dk_at dksX2_init_5 15 rfl rfl)
theorem dX2_init_134 : decode cX2_init 134 = .ok (.bipush 13, 2) := dk_16 13 (dk_at dksX2_init_5 16 rfl rfl)
theorem dX2_init_136 : decode cX2_init 136 = .ok (.bipush 100, 2) := dk_16 100 (dk_at dksX2_init_5 18 rfl rfl)
theorem dX2_init_138 : decode cX2_init 138 = .ok (.iastore, 1) := dk_79 (dk_at dksX2_init_5 20 rfl rfl)
theorem dX2_init_139 : decode cX2_init 139 = .ok (.dup, 1) := dk_89 (dk_at dksX2_init_5 21 rfl rfl)
theorem dX2_init_140 : decode cX2_init 140 = .ok (.bipush 14, 2) := dk_16 14 (dk_at dksX2_init_5 22 rfl rfl)
theorem dX2_init_142 : decode cX2_init 142 = .ok (.bipush 32, 2) := dk_16 32 (dk_at dksX2_init_6 0 rfl rfl)
theorem dX2_init_144 : decode cX2_init 144 = .ok (.iastore, 1) := dk_79 (dk_at dksX2_init_6 2 rfl rfl)
theorem dX2_init_145 : decode cX2_init 145 = .ok (.dup, 1) := dk_89 (dk_at dksX2_init_6 3 rfl rfl)
theorem dX2_init_146 : decode cX2_init 146 = .ok (.bipush 15, 2) := dk_16 15 (dk_at dksX2_init_6 4 rfl rfl)
theorem dX2_init_148 : decode cX2_init 148 = .ok (.bipush 102, 2) := dk_16 102 (dk_at dksX2_init_6 6 rfl rfl)
theorem dX2_init_150 : decode cX2_init 150 = .ok (.iastore, 1) := dk_79 (dk_at dksX2_init_6 8 rfl rfl)
theorem dX2_init_151 : decode cX2_init 151 = .ok (.dup, 1) := dk_89 (dk_at dksX2_init_6 9 rfl rfl)
theorem dX2_init_152 : decode cX2_init 152 = .ok (.bipush 16, 2) := dk_16 16 (dk_at dksX2_init_6 10 rfl rfl)
theorem dX2_init_154 : decode cX2_init 154 = .ok (.bipush 111, 2) := dk_16 111 (dk_at dksX2_init_6 12 rfl rfl)
theorem dX2_init_156 : decode cX2_init 156 = .ok (.iastore, 1) := dk_79 (dk_at dksX2_init_6 14 rfl rfl)
theorem dX2_init_157 : decode cX2_init 157 = .ok (.dup, 1) := dk_89 (dk_at dksX2_init_6 15 rfl rfl)
theorem dX2_init_158 : decode cX2_init 158 = .ok (.bipush 17, 2) := dk_16 17 (dk_at dksX2_init_6 16 rfl rfl)
theorem dX2_init_160 : decode cX2_init 160 = .ok (.bipush 103, 2) := dk_16 103 (dk_at dksX2_init_6 18 rfl rfl)
theorem dX2_init_162 : decode cX2_init 162 = .ok (.iastore, 1) := dk_79 (dk_at dksX2_init_6 20 rfl rfl)
theorem dX2_init_163 : decode cX2_init 163 = .ok (.dup, 1) := dk_89 (dk_at dksX2_init_6 21 rfl rfl)
theorem dX2_init_164 : decode cX2_init 164 = .ok (.bipush 18, 2) := dk_16 18 (dk_at dksX2_init_6 22 rfl rfl)
theorem dX2_init_166 : decode cX2_init 166 = .ok (.bipush 32, 2) := dk_16 32 (dk_at dksX2_init_7 0 rfl rfl)
theorem dX2_init_168 : decode cX2_init 168 = .ok (.iastore, 1) := dk_79 (dk_at dksX2_init_7 2 rfl rfl)
theorem dX2_init_169 : decode cX2_init 169 = .ok (.dup, 1) := dk_89 (dk_at dksX2_init_7 3 rfl rfl)
theorem dX2_init_170 : decode cX2_init 170 = .ok (.bipush 19, 2) := dk_16 19 (dk_at dksX2_init_7 4 rfl rfl)
theorem dX2_init_172 : decode cX2_init 172 = .ok (.bipush 104, 2) := dk_16 104 (dk_at dksX2_init_7 6 rfl rfl)
theorem dX2_init_174 : decode cX2_init 174 = .ok (.iastore, 1) := dk_79 (dk_at dksX2_init_7 8 rfl rfl)
theorem dX2_init_175 : decode cX2_init 175 = .ok (.dup, 1) := dk_89 (dk_at dksX2_init_7 9 rfl rfl)
theorem dX2_init_176 : decode cX2_init 176 = .ok (.bipush 20, 2) := dk_16 20 (dk_at dksX2_init_7 10 rfl rfl)
theorem dX2_init_178 : decode cX2_init 178 = .ok (.bipush 97, 2) := dk_16 97 (dk_at dksX2_init_7 12 rfl rfl)
theorem dX2_init_180 : decode cX2_init 180 = .ok (.iastore, 1) := dk_79 (dk_at dksX2_init_7 14 rfl rfl)
theorem dX2_init_181 : decode cX2_init 181 = .ok (.dup, 1) := dk_89 (dk_at dksX2_init_7 15 rfl rfl)
theorem dX2_init_182 : decode cX2_init 182 = .ok (.bipush 21, 2) := dk_16 21 (dk_at dksX2_init_7 16 rfl rfl)
theorem dX2_init_184 : decode cX2_init 184 = .ok (.bipush 105, 2) := dk_16 105 (dk_at dksX2_init_7 18 rfl rfl)
theorem dX2_init_186 : decode cX2_init 186 = .ok (.iastore, 1) := dk_79 (dk_at dksX2_init_7 20 rfl rfl)
theorem dX2_init_187 : decode cX2_init 187 = .ok (.dup, 1) := dk_89 (dk_at dksX2_init_7 21 rfl rfl)
theorem dX2_init_188 : decode cX2_init 188 = .ok (.bipush 22, 2) := dk_16 22 (dk_at dksX2_init_7 22 rfl rfl)
theorem dX2_init_190 : decode cX2_init 190 = .ok (.bipush 108, 2) := dk_16 108 (dk_at dksX2_init_8 0 rfl rfl)
theorem dX2_init_192 : decode cX2_init 192 = .ok (.iastore, 1) := dk_79 (dk_at dksX2_init_8 2 rfl rfl)
theorem dX2_init_193 : decode cX2_init 193 = .ok (.dup, 1) := dk_89 (dk_at dksX2_init_8 3 rfl rfl)
theorem dX2_init_194 : decode cX2_init 194 = .ok (.bipush 23, 2) := dk_16 23 (dk_at dksX2_init_8 4 rfl rfl)
theorem dX2_init_196 : decode cX2_init 196 = .ok (.bipush 32, 2) := dk_16 32 (dk_at dksX2_init_8 6 rfl rfl)
theorem dX2_init_198 : decode cX2_init 198 = .ok (.iastore, 1) := dk_79 (dk_at dksX2_init_8 8 rfl rfl)
theorem dX2_init_199 : decode cX2_init 199 = .ok (.dup, 1) := dk_89 (dk_at dksX2_init_8 9 rfl rfl)
theorem dX2_init_200 : decode cX2_init 200 = .ok (.bipush 24, 2) := dk_16 24 (dk_at dksX2_init_8 10 rfl rfl)
theorem dX2_init_202 : decode cX2_init 202 = .ok (.bipush 97, 2) := dk_16 97 (dk_at dksX2_init_8 12 rfl rfl)
theorem dX2_init_204 : decode cX2_init 204 = .ok (.iastore, 1) := dk_79 (dk_at dksX2_init_8 14 rfl rfl)
theorem dX2_init_205 : decode cX2_init 205 = .ok (.dup, 1) := dk_89 (dk_at dksX2_init_8 15 rfl rfl)
theorem dX2_init_206 : decode cX2_init 206 = .ok (.bipush 25, 2) := dk_16 25 (dk_at dksX2_init_8 16 rfl rfl)
theorem dX2_init_208 : decode cX2_init 208 = .ok (.bipush 100, 2) := dk_16 100 (dk_at dksX2_init_8 18 rfl rfl)
theorem dX2_init_210 : decode cX2_init 210 = .ok (.iastore, 1) := dk_79 (dk_at dksX2_init_8 20 rfl rfl)
theorem dX2_init_211 : decode cX2_init 211 = .ok (.dup, 1) := dk_89 (dk_at dksX2_init_8 21 rfl rfl)
theorem dX2_init_212 : decode cX2_init 212 = .ok (.bipush 26, 2) := dk_16 26 (dk_at dksX2_init_8 22 rfl rfl)
theorem dX2_init_214 : decode cX2_init 214 = .ok (.bipush 100, 2) := dk_16 100 (dk_at dksX2_init_9 0 rfl rfl)
theorem dX2_init_216 : decode cX2_init 216 = .ok (.iastore, 1) := dk_79 (dk_at dksX2_init_9 2 rfl rfl)
theorem dX2_init_217 : decode cX2_init 217 = .ok (.dup, 1) := dk_89 (dk_at dksX2_init_9 3 rfl rfl)
theorem dX2_init_218 : decode cX2_init 218 = .ok (.bipush 27, 2) := dk_16 27 (dk_at dksX2_init_9 4 rfl rfl)
theorem dX2_init_220 : decode cX2_init 220 = .ok (.bipush 32, 2) := dk_16 32 (dk_at dksX2_init_9 6 rfl rfl)
theorem dX2_init_222 : decode cX2_init 222 = .ok (.iastore, 1) := dk_79 (dk_at dksX2_init_9 8 rfl rfl)
theorem dX2_init_223 : decode cX2_init 223 = .ok (.dup, 1) := dk_89 (dk_at dksX2_init_9 9 rfl rfl)
theorem dX2_init_224 : decode cX2_init 224 = .ok (.bipush 28, 2) := dk_16 28 (dk_at dksX2_init_9 10 rfl rfl)
theorem dX2_init_226 : decode cX2_init 226 = .ok (.bipush 102, 2) := dk_16 102 (dk_at dksX2_init_9 12 rfl rfl)
theorem dX2_init_228 : decode cX2_init 228 = .ok (.iastore, 1) := dk_79 (dk_at dksX2_init_9 14 rfl rfl)
theorem dX2_init_229 : decode cX2_init 229 = .ok (.dup, 1) := dk_89 (dk_at dksX2_init_9 15 rfl rfl)
theorem dX2_init_230 : decode cX2_init 230 = .ok (.bipush 29, 2) := dk_16 29 (dk_at dksX2_init_9 16 rfl rfl)
theorem dX2_init_232 : decode cX2_init 232 = .ok (.bipush 97, 2) := dk_16 97 (dk_at dksX2_init_9 18 rfl rfl)
theorem dX2_init_234 : decode cX2_init 234 = .ok (.iastore, 1) := dk_79 (dk_at dksX2_init_9 20 rfl rfl)
theorem dX2_init_235 : decode cX2_init 235 = .ok (.dup, 1) := dk_89 (dk_at dksX2_init_9 21 rfl rfl)
theorem dX2_init_236 : decode cX2_init 236 = .ok (.bipush 30, 2) := dk_16 30 (dk_at dksX2_init_9 22 rfl rfl)
theorem dX2_init_238 : decode cX2_init 238 = .ok (.bipush 100, 2) := dk_16 100 (dk_at dksX2_init_10 0 rfl rfl)
theorem dX2_init_240 : decode cX2_init 240 = .ok (.iastore, 1) := dk_79 (dk_at dksX2_init_10 2 rfl rfl)
theorem dX2_init_241 : decode cX2_init 241 = .ok (.dup, 1) := dk_89 (dk_at dksX2_init_10 3 rfl rfl)
theorem dX2_init_242 : decode cX2_init 242 = .ok (.bipush 31, 2) := dk_16 31 (dk_at dksX2_init_10 4 rfl rfl)
theorem dX2_init_244 : decode cX2_init 244 = .ok (.bipush 101, 2) := dk_16 101 (dk_at dksX2_init_10 6 rfl rfl)
theorem dX2_init_246 : decode cX2_init 246 = .ok (.iastore, 1) := dk_79 (dk_at dksX2_init_10 8 rfl rfl)
theorem dX2_init_247 : decode cX2_init 247 = .ok (.dup, 1) := dk_89 (dk_at dksX2_init_10 9 rfl rfl)
theorem dX2_init_248 : decode cX2_init 248 = .ok (.bipush 32, 2) := dk_16 32 (dk_at dksX2_init_10 10 rfl rfl)
theorem dX2_init_250 : decode cX2_init 250 = .ok (.bipush 32, 2) := dk_16 32 (dk_at dksX2_init_10 12 rfl rfl)
theorem dX2_init_252 : decode cX2_init 252 = .ok (.iastore, 1) := dk_79 (dk_at dksX2_init_10 14 rfl rfl)
theorem dX2_init_253 : decode cX2_init 253 = .ok (.dup, 1) := dk_89 (dk_at dksX2_init_10 15 rfl rfl)
theorem dX2_init_254 : decode cX2_init 254 = .ok (.bipush 33, 2) := dk_16 33 (dk_at dksX2_init_10 16 rfl rfl)
theorem dX2_init_256 : decode cX2_init 256 = .ok (.bipush 99, 2) := dk_16 99 (dk_at dksX2_init_10 18 rfl rfl)
theorem dX2_init_258 : decode cX2_init 258 = .ok (.iastore, 1) := dk_79 (dk_at dksX2_init_10 20 rfl rfl)
theorem dX2_init_259 : decode cX2_init 259 = .ok (.dup, 1) := dk_89 (dk_at dksX2_init_10 21 rfl rfl)
theorem dX2_init_260 : decode cX2_init 260 = .ok (.bipush 34, 2) := dk_16 34 (dk_at dksX2_init_10 22 rfl rfl)
theorem dX2_init_262 : decode cX2_init 262 = .ok (.bipush 111, 2) := dk_16 111 (dk_at dksX2_init_11 0 rfl rfl)
theorem dX2_init_264 : decode cX2_init 264 = .ok (.iastore, 1) := dk_79 (dk_at dksX2_init_11 2 rfl rfl)
theorem dX2_init_265 : decode cX2_init 265 = .ok (.dup, 1) := dk_89 (dk_at dksX2_init_11 3 rfl rfl)
theorem dX2_init_266 : decode cX2_init 266 = .ok (.bipush 35, 2) := dk_16 35 (dk_at dksX2_init_11 4 rfl rfl)
theorem dX2_init_268 : decode cX2_init 268 = .ok (.bipush 115, 2) := dk_16 115 (dk_at dksX2_init_11 6 rfl rfl)
theorem dX2_init_270 : decode cX2_init 270 = .ok (.iastore, 1) := dk_79 (dk_at dksX2_init_11 8 rfl rfl)
theorem dX2_init_271 : decode cX2_init 271 = .ok (.dup, 1) := dk_89 (dk_at dksX2_init_11 9 rfl rfl)
theorem dX2_init_272 : decode cX2_init 272 = .ok (.bipush 36, 2) := dk_16 36 (dk_at dksX2_init_11 10 rfl rfl)
theorem dX2_init_274 : decode cX2_init 274 = .ok (.bipush 116, 2) := dk_16 116 (dk_at dksX2_init_11 12 rfl rfl)
theorem dX2_init_276 : decode cX2_init 276 = .ok (.iastore, 1) := dk_79 (dk_at dksX2_init_11 14 rfl rfl)
theorem dX2_init_277 : decode cX2_init 277 = .ok (.dup, 1) := dk_89 (dk_at dksX2_init_11 15 rfl rfl)
theorem dX2_init_278 : decode cX2_init 278 = .ok (.bipush 37, 2) := dk_16 37 (dk_at dksX2_init_11 16 rfl rfl)
theorem dX2_init_280 : decode cX2_init 280 = .ok (.bipush 32, 2) := dk_16 32 (dk_at dksX2_init_11 18 rfl rfl)
theorem dX2_init_282 : decode cX2_init 282 = .ok (.iastore, 1) := dk_79 (dk_at dksX2_init_11 20 rfl rfl)
theorem dX2_init_283 : decode cX2_init 283 = .ok (.dup, 1) := dk_89 (dk_at dksX2_init_11 21 rfl rfl)
theorem dX2_init_284 : decode cX2_init 284 = .ok (.bipush 38, 2) := dk_16 38 (dk_at dksX2_init_11 22 rfl rfl)
theorem dX2_init_286 : decode cX2_init 286 = .ok (.bipush 119, 2) := dk_16 119 (dk_at dksX2_init_12 0 rfl rfl)
theorem dX2_init_288 : decode cX2_init 288 = .ok (.iastore, 1) := dk_79 (dk_at dksX2_init_12 2 rfl rfl)
theorem dX2_init_289 : decode cX2_init 289 = .ok (.dup, 1) := dk_89 (dk_at dksX2_init_12 3 rfl rfl)
theorem dX2_init_290 : decode cX2_init 290 = .ok (.bipush 39, 2) := dk_16 39 (dk_at dksX2_init_12 4 rfl rfl)
theorem dX2_init_292 : decode cX2_init 292 = .ok (.bipush 104, 2) := dk_16 104 (dk_at dksX2_init_12 6 rfl rfl)
theorem dX2_init_294 : decode cX2_init 294 = .ok (.iastore, 1) := dk_79 (dk_at dksX2_init_12 8 rfl rfl)
theorem dX2_init_295 : decode cX2_init 295 = .ok (.dup, 1) := dk_89 (dk_at dksX2_init_12 9 rfl rfl)
theorem dX2_init_296 : decode cX2_init 296 = .ok (.bipush 40, 2) := dk_16 40 (dk_at dksX2_init_12 10 rfl rfl)
theorem dX2_init_298 : decode cX2_init 298 = .ok (.bipush 101, 2) := dk_16 101 (dk_at dksX2_init_12 12 rfl rfl)
theorem dX2_init_300 : decode cX2_init 300 = .ok (.iastore, 1) := dk_79 (dk_at dksX2_init_12 14 rfl rfl)
theorem dX2_init_301 : decode cX2_init 301 = .ok (.dup, 1) := dk_89 (dk_at dksX2_init_12 15 rfl rfl)
theorem dX2_init_302 : decode cX2_init 302 = .ok (.bipush 41, 2) := dk_16 41 (dk_at dksX2_init_12 16 rfl rfl)
theorem dX2_init_304 : decode cX2_init 304 = .ok (.bipush 110, 2) := dk_16 110 (dk_at dksX2_init_12 18 rfl rfl)
theorem dX2_init_306 : decode cX2_init 306 = .ok (.iastore, 1) := dk_79 (dk_at dksX2_init_12 20 rfl rfl)
theorem dX2_init_307 : decode cX2_init 307 = .ok (.dup, 1) := dk_89 (dk_at dksX2_init_12 21 rfl rfl)
theorem dX2_init_308 : decode cX2_init 308 = .ok (.bipush 42, 2) := dk_16 42 (dk_at dksX2_init_12 22 rfl rfl)
theorem dX2_init_310 : decode cX2_init 310 = .ok (.bipush 32, 2) := dk_16 32 (dk_at dksX2_init_13 0 rfl rfl)
theorem dX2_init_312 : decode cX2_init 312 = .ok (.iastore, 1) := dk_79 (dk_at dksX2_init_13 2 rfl rfl)
theorem dX2_init_313 : decode cX2_init 313 = .ok (.dup, 1) := dk_89 (dk_at dksX2_init_13 3 rfl rfl)
theorem dX2_init_314 : decode cX2_init 314 = .ok (.bipush 43, 2) := dk_16 43 (dk_at dksX2_init_13 4 rfl rfl)
theorem dX2_init_316 : decode cX2_init 316 = .ok (.bipush 111, 2) := dk_16 111 (dk_at dksX2_init_13 6 rfl rfl)
theorem dX2_init_318 : decode cX2_init 318 = .ok (.iastore, 1) := dk_79 (dk_at dksX2_init_13 8 rfl rfl)
theorem dX2_init_319 : decode cX2_init 319 = .ok (.dup, 1) := dk_89 (dk_at dksX2_init_13 9 rfl rfl)
theorem dX2_init_320 : decode cX2_init 320 = .ok (.bipush 44, 2) := dk_16 44 (dk_at dksX2_init_13 10 rfl rfl)
theorem dX2_init_322 : decode cX2_init 322 = .ok (.bipush 114, 2) := dk_16 114 (dk_at dksX2_init_13 12 rfl rfl)
theorem dX2_init_324 : decode cX2_init 324 = .ok (.iastore, 1) := dk_79 (dk_at dksX2_init_13 14 rfl rfl)
theorem dX2_init_325 : decode cX2_init 325 = .ok (.dup, 1) := dk_89 (dk_at dksX2_init_13 15 rfl rfl)
theorem dX2_init_326 : decode cX2_init 326 = .ok (.bipush 45, 2) := dk_16 45 (dk_at dksX2_init_13 16 rfl rfl)
theorem dX2_init_328 : decode cX2_init 328 = .ok (.bipush 32, 2) := dk_16 32 (dk_at dksX2_init_13 18 rfl rfl)
theorem dX2_init_330 : decode cX2_init 330 = .ok (.iastore, 1) := dk_79 (dk_at dksX2_init_13 20 rfl rfl)
theorem dX2_init_331 : decode cX2_init 331 = .ok (.dup, 1) := dk_89 (dk_at dksX2_init_13 21 rfl rfl)
theorem dX2_init_332 : decode cX2_init 332 = .ok (.bipush 46, 2) := dk_16 46 (dk_at dksX2_init_13 22 rfl rfl)
theorem dX2_init_334 : decode cX2_init 334 = .ok (.bipush 97, 2) := dk_16 97 (dk_at dksX2_init_14 0 rfl rfl)
theorem dX2_init_336 : decode cX2_init 336 = .ok (.iastore, 1) := dk_79 (dk_at dksX2_init_14 2 rfl rfl)
theorem dX2_init_337 : decode cX2_init 337 = .ok (.dup, 1) := dk_89 (dk_at dksX2_init_14 3 rfl rfl)
theorem dX2_init_338 : decode cX2_init 338 = .ok (.bipush 47, 2) := dk_16 47 (dk_at dksX2_init_14 4 rfl rfl)
theorem dX2_init_340 : decode cX2_init 340 = .ok (.bipush 110, 2) := dk_16 110 (dk_at dksX2_init_14 6 rfl rfl)
theorem dX2_init_342 : decode cX2_init 342 = .ok (.iastore, 1) := dk_79 (dk_at dksX2_init_14 8 rfl rfl)
theorem dX2_init_343 : decode cX2_init 343 = .ok (.dup, 1) := dk_89 (dk_at dksX2_init_14 9 rfl rfl)
theorem dX2_init_344 : decode cX2_init 344 = .ok (.bipush 48, 2) := dk_16 48 (dk_at dksX2_init_14 10 rfl rfl)
theorem dX2_init_346 : decode cX2_init 346 = .ok (.bipush 100, 2) := dk_16 100 (dk_at dksX2_init_14 12 rfl rfl)
theorem dX2_init_348 : decode cX2_init 348 = .ok (.iastore, 1) := dk_79 (dk_at dksX2_init_14 14 rfl rfl)
theorem dX2_init_349 : decode cX2_init 349 = .ok (.dup, 1) := dk_89 (dk_at dksX2_init_14 15 rfl rfl)
theorem dX2_init_350 : decode cX2_init 350 = .ok (.bipush 49, 2) := dk_16 49 (dk_at dksX2_init_14 16 rfl rfl)
theorem dX2_init_352 : decode cX2_init 352 = .ok (.bipush 32, 2) := dk_16 32 (dk_at dksX2_init_14 18 rfl rfl)
theorem dX2_init_354 : decode cX2_init 354 = .ok (.iastore, 1) := dk_79 (dk_at dksX2_init_14 20 rfl rfl)
theorem dX2_init_355 : decode cX2_init 355 = .ok (.dup, 1) := dk_89 (dk_at dksX2_init_14 21 rfl rfl)
theorem dX2_init_356 : decode cX2_init 356 = .ok (.bipush 50, 2) := dk_16 50 (dk_at dksX2_init_14 22 rfl rfl)
theorem dX2_init_358 : decode cX2_init 358 = .ok (.bipush 110, 2) := dk_16 110 (dk_at dksX2_init_15 0 rfl rfl)
theorem dX2_init_360 : decode cX2_init 360 = .ok (.iastore, 1) := dk_79 (dk_at dksX2_init_15 2 rfl rfl)
theorem dX2_init_361 : decode cX2_init 361 = .ok (.dup, 1) := dk_89 (dk_at dksX2_init_15 3 rfl rfl)
theorem dX2_init_362 : decode cX2_init 362 = .ok (.bipush 51, 2) := dk_16 51 (dk_at dksX2_init_15 4 rfl rfl)
theorem dX2_init_364 : decode cX2_init 364 = .ok (.bipush 111, 2) := dk_16 111 (dk_at dksX2_init_15 6 rfl rfl)
theorem dX2_init_366 : decode cX2_init 366 = .ok (.iastore, 1) := dk_79 (dk_at dksX2_init_15 8 rfl rfl)
theorem dX2_init_367 : decode cX2_init 367 = .ok (.dup, 1) := dk_89 (dk_at dksX2_init_15 9 rfl rfl)
theorem dX2_init_368 : decode cX2_init 368 = .ok (.bipush 52, 2) := dk_16 52 (dk_at dksX2_init_15 10 rfl rfl)
theorem dX2_init_370 : decode cX2_init 370 = .ok (.bipush 116, 2) := dk_16 116 (dk_at dksX2_init_15 12 rfl rfl)
theorem dX2_init_372 : decode cX2_init 372 = .ok (.iastore, 1) := dk_79 (dk_at dksX2_init_15 14 rfl rfl)
theorem dX2_init_373 : decode cX2_init 373 = .ok (.dup, 1) := dk_89 (dk_at dksX2_init_15 15 rfl rfl)
theorem dX2_init_374 : decode cX2_init 374 = .ok (.bipush 53, 2) := dk_16 53 (dk_at dksX2_init_15 16 rfl rfl)
theorem dX2_init_376 : decode cX2_init 376 = .ok (.bipush 32, 2) := dk_16 32 (dk_at dksX2_init_15 18 rfl rfl)
theorem dX2_init_378 : decode cX2_init 378 = .ok (.iastore, 1) := dk_79 (dk_at dksX2_init_15 20 rfl rfl)
theorem dX2_init_379 : decode cX2_init 379 = .ok (.dup, 1) := dk_89 (dk_at dksX2_init_15 21 rfl rfl)
theorem dX2_init_380 : decode cX2_init 380 = .ok (.bipush 54, 2) := dk_16 54 (dk_at dksX2_init_15 22 rfl rfl)
theorem dX2_init_382 : decode cX2_init 382 = .ok (.bipush 107, 2) := dk_16 107 (dk_at dksX2_init_16 0 rfl rfl)
theorem dX2_init_384 : decode cX2_init 384 = .ok (.iastore, 1) := dk_79 (dk_at dksX2_init_16 2 rfl rfl)
theorem dX2_init_385 : decode cX2_init 385 = .ok (.dup, 1) := dk_89 (dk_at dksX2_init_16 3 rfl rfl)
theorem dX2_init_386 : decode cX2_init 386 = .ok (.bipush 55, 2) := dk_16 55 (dk_at dksX2_init_16 4 rfl rfl)
theorem dX2_init_388 : decode cX2_init 388 = .ok (.bipush 105, 2) := dk_16 105 (dk_at dksX2_init_16 6 rfl rfl)
theorem dX2_init_390 : decode cX2_init 390 = .ok (.iastore, 1) := dk_79 (dk_at dksX2_init_16 8 rfl rfl)
theorem dX2_init_391 : decode cX2_init 391 = .ok (.dup, 1) := dk_89 (dk_at dksX2_init_16 9 rfl rfl)
theorem dX2_init_392 : decode cX2_init 392 = .ok (.bipush 56, 2) := dk_16 56 (dk_at dksX2_init_16 10 rfl rfl)
theorem dX2_init_394 : decode cX2_init 394 = .ok (.bipush 110, 2) := dk_16 110 (dk_at dksX2_init_16 12 rfl rfl)
theorem dX2_init_396 : decode cX2_init 396 = .ok (.iastore, 1) := dk_79 (dk_at dksX2_init_16 14 rfl rfl)
theorem dX2_init_397 : decode cX2_init 397 = .ok (.dup, 1) := dk_89 (dk_at dksX2_init_16 15 rfl rfl)
theorem dX2_init_398 : decode cX2_init 398 = .ok (.bipush 57, 2) := dk_16 57 (dk_at dksX2_init_16 16 rfl rfl)
theorem dX2_init_400 : decode cX2_init 400 = .ok (.bipush 100, 2) := dk_16 100 (dk_at dksX2_init_16 18 rfl rfl)
theorem dX2_init_402 : decode cX2_init 402 = .ok (.iastore, 1) := dk_79 (dk_at dksX2_init_16 20 rfl rfl)
theorem dX2_init_403 : decode cX2_init 403 = .ok (.dup, 1) := dk_89 (dk_at dksX2_init_16 21 rfl rfl)
theorem dX2_init_404 : decode cX2_init 404 = .ok (.bipush 58, 2) := dk_16 58 (dk_at dksX2_init_16 22 rfl rfl)
theorem dX2_init_406 : decode cX2_init 406 = .ok (.bipush 32, 2) := dk_16 32 (dk_at dksX2_init_17 0 rfl rfl)
theorem dX2_init_408 : decode cX2_init 408 = .ok (.iastore, 1) := dk_79 (dk_at dksX2_init_17 2 rfl rfl)
theorem dX2_init_409 : decode cX2_init 409 = .ok (.dup, 1) := dk_89 (dk_at dksX2_init_17 3 rfl rfl)
theorem dX2_init_410 : decode cX2_init 410 = .ok (.bipush 59, 2) := dk_16 59 (dk_at dksX2_init_17 4 rfl rfl)
theorem dX2_init_412 : decode cX2_init 412 = .ok (.bipush 115, 2) := dk_16 115 (dk_at dksX2_init_17 6 rfl rfl)
theorem dX2_init_414 : decode cX2_init 414 = .ok (.iastore, 1) := dk_79 (dk_at dksX2_init_17 8 rfl rfl)
theorem dX2_init_415 : decode cX2_init 415 = .ok (.dup, 1) := dk_89 (dk_at dksX2_init_17 9 rfl rfl)
theorem dX2_init_416 : decode cX2_init 416 = .ok (.bipush 60, 2) := dk_16 60 (dk_at dksX2_init_17 10 rfl rfl)
theorem dX2_init_418 : decode cX2_init 418 = .ok (.bipush 116, 2) := dk_16 116 (dk_at dksX2_init_17 12 rfl rfl)
theorem dX2_init_420 : decode cX2_init 420 = .ok (.iastore, 1) := dk_79 (dk_at dksX2_init_17 14 rfl rfl)
theorem dX2_init_421 : decode cX2_init 421 = .ok (.dup, 1) := dk_89 (dk_at dksX2_init_17 15 rfl rfl)
theorem dX2_init_422 : decode cX2_init 422 = .ok (.bipush 61, 2) := dk_16 61 (dk_at dksX2_init_17 16 rfl rfl)
theorem dX2_init_424 : decode cX2_init 424 = .ok (.bipush 114, 2) := dk_16 114 (dk_at dksX2_init_17 18 rfl rfl)
theorem dX2_init_426 : decode cX2_init 426 = .ok (.iastore, 1) := dk_79 (dk_at dksX2_init_17 20 rfl rfl)
theorem dX2_init_427 : decode cX2_init 427 = .ok (.dup, 1) := dk_89 (dk_at dksX2_init_17 21 rfl rfl)
theorem dX2_init_428 : decode cX2_init 428 = .ok (.bipush 62, 2) := dk_16 62 (dk_at dksX2_init_17 22 rfl rfl)
theorem dX2_init_430 : decode cX2_init 430 = .ok (.bipush 101, 2) := dk_16 101 (dk_at dksX2_init_18 0 rfl rfl)
theorem dX2_init_432 : decode cX2_init 432 = .ok (.iastore, 1) := dk_79 (dk_at dksX2_init_18 2 rfl rfl)
theorem dX2_init_433 : decode cX2_init 433 = .ok (.dup, 1) := dk_89 (dk_at dksX2_init_18 3 rfl rfl)
theorem dX2_init_434 : decode cX2_init 434 = .ok (.bipush 63, 2) := dk_16 63 (dk_at dksX2_init_18 4 rfl rfl)
theorem dX2_init_436 : decode cX2_init 436 = .ok (.bipush 110, 2) := dk_16 110 (dk_at dksX2_init_18 6 rfl rfl)
theorem dX2_init_438 : decode cX2_init 438 = .ok (.iastore, 1) := dk_79 (dk_at dksX2_init_18 8 rfl rfl)
theorem dX2_init_439 : decode cX2_init 439 = .ok (.dup, 1) := dk_89 (dk_at dksX2_init_18 9 rfl rfl)
theorem dX2_init_440 : decode cX2_init 440 = .ok (.bipush 64, 2) := dk_16 64 (dk_at dksX2_init_18 10 rfl rfl)
theorem dX2_init_442 : decode cX2_init 442 = .ok (.bipush 103, 2) := dk_16 103 (dk_at dksX2_init_18 12 rfl rfl)
theorem dX2_init_444 : decode cX2_init 444 = .ok (.iastore, 1) := dk_79 (dk_at dksX2_init_18 14 rfl rfl)
theorem dX2_init_445 : decode cX2_init 445 = .ok (.dup, 1) := dk_89 (dk_at dksX2_init_18 15 rfl rfl)
theorem dX2_init_446 : decode cX2_init 446 = .ok (.bipush 65, 2) := dk_16 65 (dk_at dksX2_init_18 16 rfl rfl)
theorem dX2_init_448 : decode cX2_init 448 = .ok (.bipush 116, 2) := dk_16 116 (dk_at dksX2_init_18 18 rfl rfl)
theorem dX2_init_450 : decode cX2_init 450 = .ok (.iastore, 1) := dk_79 (dk_at dksX2_init_18 20 rfl rfl)
theorem dX2_init_451 : decode cX2_init 451 = .ok (.dup, 1) := dk_89 (dk_at dksX2_init_18 21 rfl rfl)
theorem dX2_init_452 : decode cX2_init 452 = .ok (.bipush 66, 2) := dk_16 66 (dk_at dksX2_init_18 22 rfl rfl)
theorem dX2_init_454 : decode cX2_init 454 = .ok (.bipush 104, 2) := dk_16 104 (dk_at dksX2_init_19 0 rfl rfl)
theorem dX2_init_456 : decode cX2_init 456 = .ok (.iastore, 1) := dk_79 (dk_at dksX2_init_19 2 rfl rfl)
theorem dX2_init_457 : decode cX2_init 457 = .ok (.dup, 1) := dk_89 (dk_at dksX2_init_19 3 rfl rfl)
theorem dX2_init_458 : decode cX2_init 458 = .ok (.bipush 67, 2) := dk_16 67 (dk_at dksX2_init_19 4 rfl rfl)
theorem dX2_init_460 : decode cX2_init 460 = .ok (.bipush 32, 2) := dk_16 32 (dk_at dksX2_init_19 6 rfl rfl)
theorem dX2_init_462 : decode cX2_init 462 = .ok (.iastore, 1) := dk_79 (dk_at dksX2_init_19 8 rfl rfl)
theorem dX2_init_463 : decode cX2_init 463 = .ok (.dup, 1) := dk_89 (dk_at dksX2_init_19 9 rfl rfl)
theorem dX2_init_464 : decode cX2_init 464 = .ok (.bipush 68, 2) := dk_16 68 (dk_at dksX2_init_19 10 rfl rfl)
theorem dX2_init_466 : decode cX2_init 466 = .ok (.bipush 115, 2) := dk_16 115 (dk_at dksX2_init_19 12 rfl rfl)
theorem dX2_init_468 : decode cX2_init 468 = .ok (.iastore, 1) := dk_79 (dk_at dksX2_init_19 14 rfl rfl)
theorem dX2_init_469 : decode cX2_init 469 = .ok (.dup, 1) := dk_89 (dk_at dksX2_init_19 15 rfl rfl)
theorem dX2_init_470 : decode cX2_init 470 = .ok (.bipush 69, 2) := dk_16 69 (dk_at dksX2_init_19 16 rfl rfl)
theorem dX2_init_472 : decode cX2_init 472 = .ok (.bipush 107, 2) := dk_16 107 (dk_at dksX2_init_19 18 rfl rfl)
theorem dX2_init_474 : decode cX2_init 474 = .ok (.iastore, 1) := dk_79 (dk_at dksX2_init_19 20 rfl rfl)
theorem dX2_init_475 : decode cX2_init 475 = .ok (.dup, 1) := dk_89 (dk_at dksX2_init_19 21 rfl rfl)
theorem dX2_init_476 : decode cX2_init 476 = .ok (.bipush 70, 2) := dk_16 70 (dk_at dksX2_init_19 22 rfl rfl)
theorem dX2_init_478 : decode cX2_init 478 = .ok (.bipush 121, 2) := dk_16 121 (dk_at dksX2_init_20 0 rfl rfl)
theorem dX2_init_480 : decode cX2_init 480 = .ok (.iastore, 1) := dk_79 (dk_at dksX2_init_20 2 rfl rfl)
theorem dX2_init_481 : decode cX2_init 481 = .ok (.dup, 1) := dk_89 (dk_at dksX2_init_20 3 rfl rfl)
theorem dX2_init_482 : decode cX2_init 482 = .ok (.bipush 71, 2) := dk_16 71 (dk_at dksX2_init_20 4 rfl rfl)
theorem dX2_init_484 : decode cX2_init 484 = .ok (.bipush 32, 2) := dk_16 32 (dk_at dksX2_init_20 6 rfl rfl)
theorem dX2_init_486 : decode cX2_init 486 = .ok (.iastore, 1) := dk_79 (dk_at dksX2_init_20 8 rfl rfl)
theorem dX2_init_487 : decode cX2_init 487 = .ok (.dup, 1) := dk_89 (dk_at dksX2_init_20 9 rfl rfl)
theorem dX2_init_488 : decode cX2_init 488 = .ok (.bipush 72, 2) := dk_16 72 (dk_at dksX2_init_20 10 rfl rfl)
theorem dX2_init_490 : decode cX2_init 490 = .ok (.bipush 97, 2) := dk_16 97 (dk_at dksX2_init_20 12 rfl rfl)
theorem dX2_init_492 : decode cX2_init 492 = .ok (.iastore, 1) := dk_79 (dk_at dksX2_init_20 14 rfl rfl)
theorem dX2_init_493 : decode cX2_init 493 = .ok (.dup, 1) := dk_89 (dk_at dksX2_init_20 15 rfl rfl)
theorem dX2_init_494 : decode cX2_init 494 = .ok (.bipush 73, 2) := dk_16 73 (dk_at dksX2_init_20 16 rfl rfl)
theorem dX2_init_496 : decode cX2_init 496 = .ok (.bipush 108, 2) := dk_16 108 (dk_at dksX2_init_20 18 rfl rfl)
theorem dX2_init_498 : decode cX2_init 498 = .ok (.iastore, 1) := dk_79 (dk_at dksX2_init_20 20 rfl rfl)
theorem dX2_init_499 : decode cX2_init 499 = .ok (.dup, 1) := dk_89 (dk_at dksX2_init_20 21 rfl rfl)
theorem dX2_init_500 : decode cX2_init 500 = .ok (.bipush 74, 2) := dk_16 74 (dk_at dksX2_init_20 22 rfl rfl)
theorem dX2_init_502 : decode cX2_init 502 = .ok (.bipush 108, 2) := dk_16 108 (dk_at dksX2_init_21 0 rfl rfl)
theorem dX2_init_504 : decode cX2_init 504 = .ok (.iastore, 1) := dk_79 (dk_at dksX2_init_21 2 rfl rfl)
theorem dX2_init_505 : decode cX2_init 505 = .ok (.dup, 1) := dk_89 (dk_at dksX2_init_21 3 rfl rfl)
theorem dX2_init_506 : decode cX2_init 506 = .ok (.bipush 75, 2) := dk_16 75 (dk_at dksX2_init_21 4 rfl rfl)
theorem dX2_init_508 : decode cX2_init 508 = .ok (.bipush 32, 2) := dk_16 32 (dk_at dksX2_init_21 6 rfl rfl)
theorem dX2_init_510 : decode cX2_init 510 = .ok (.iastore, 1) := dk_79 (dk_at dksX2_init_21 8 rfl rfl)
theorem dX2_init_511 : decode cX2_init 511 = .ok (.dup, 1) := dk_89 (dk_at dksX2_init_21 9 rfl rfl)
theorem dX2_init_512 : decode cX2_init 512 = .ok (.bipush 76, 2) := dk_16 76 (dk_at dksX2_init_21 10 rfl rfl)
theorem dX2_init_514 : decode cX2_init 514 = .ok (.bipush 100, 2) := dk_16 100 (dk_at dksX2_init_21 12 rfl rfl)
theorem dX2_init_516 : decode cX2_init 516 = .ok (.iastore, 1) := dk_79 (dk_at dksX2_init_21 14 rfl rfl)
theorem dX2_init_517 : decode cX2_init 517 = .ok (.dup, 1) := dk_89 (dk_at dksX2_init_21 15 rfl rfl)
theorem dX2_init_518 : decode cX2_init 518 = .ok (.bipush 77, 2) := dk_16 77 (dk_at dksX2_init_21 16 rfl rfl)
theorem dX2_init_520 : decode cX2_init 520 = .ok (.bipush 97, 2) := dk_16 97 (dk_at dksX2_init_21 18 rfl rfl)
theorem dX2_init_522 : decode cX2_init 522 = .ok (.iastore, 1) := dk_79 (dk_at dksX2_init_21 20 rfl rfl)
theorem dX2_init_523 : decode cX2_init 523 = .ok (.dup, 1) := dk_89 (dk_at dksX2_init_21 21 rfl rfl)
theorem dX2_init_524 : decode cX2_init 524 = .ok (.bipush 78, 2) := dk_16 78 (dk_at dksX2_init_21 22 rfl rfl)
theorem dX2_init_526 : decode cX2_init 526 = .ok (.bipush 121, 2) := dk_16 121 (dk_at dksX2_init_22 0 rfl rfl)
theorem dX2_init_528 : decode cX2_init 528 = .ok (.iastore, 1) := dk_79 (dk_at dksX2_init_22 2 rfl rfl)
theorem dX2_init_529 : decode cX2_init 529 = .ok (.dup, 1) := dk_89 (dk_at dksX2_init_22 3 rfl rfl)
theorem dX2_init_530 : decode cX2_init 530 = .ok (.bipush 79, 2) := dk_16 79 (dk_at dksX2_init_22 4 rfl rfl)
theorem dX2_init_532 : decode cX2_init 532 = .ok (.bipush 32, 2) := dk_16 32 (dk_at dksX2_init_22 6 rfl rfl)
theorem dX2_init_534 : decode cX2_init 534 = .ok (.iastore, 1) := dk_79 (dk_at dksX2_init_22 8 rfl rfl)
theorem dX2_init_535 : decode cX2_init 535 = .ok (.dup, 1) := dk_89 (dk_at dksX2_init_22 9 rfl rfl)
theorem dX2_init_536 : decode cX2_init 536 = .ok (.bipush 80, 2) := dk_16 80 (dk_at dksX2_init_22 10 rfl rfl)
theorem dX2_init_538 : decode cX2_init 538 = .ok (.bipush 100, 2) := dk_16 100 (dk_at dksX2_init_22 12 rfl rfl)
theorem dX2_init_540 : decode cX2_init 540 = .ok (.iastore, 1) := dk_79 (dk_at dksX2_init_22 14 rfl rfl)
theorem dX2_init_541 : decode cX2_init 541 = .ok (.dup, 1) := dk_89 (dk_at dksX2_init_22 15 rfl rfl)
theorem dX2_init_542 : decode cX2_init 542 = .ok (.bipush 81, 2) := dk_16 81 (dk_at dksX2_init_22 16 rfl rfl)
theorem dX2_init_544 : decode cX2_init 544 = .ok (.bipush 101, 2) := dk_16 101 (dk_at dksX2_init_22 18 rfl rfl)
theorem dX2_init_546 : decode cX2_init 546 = .ok (.iastore, 1) := dk_79 (dk_at dksX2_init_22 20 rfl rfl)
theorem dX2_init_547 : decode cX2_init 547 = .ok (.dup, 1) := dk_89 (dk_at dksX2_init_22 21 rfl rfl)
theorem dX2_init_548 : decode cX2_init 548 = .ok (.bipush 82, 2) := dk_16 82 (dk_at dksX2_init_22 22 rfl rfl)
theorem dX2_init_550 : decode cX2_init 550 = .ok (.bipush 97, 2) := dk_16 97 (dk_at dksX2_init_23 0 rfl rfl)
theorem dX2_init_552 : decode cX2_init 552 = .ok (.iastore, 1) := dk_79 (dk_at dksX2_init_23 2 rfl rfl)
theorem dX2_init_553 : decode cX2_init 553 = .ok (.dup, 1) := dk_89 (dk_at dksX2_init_23 3 rfl rfl)
theorem dX2_init_554 : decode cX2_init 554 = .ok (.bipush 83, 2) := dk_16 83 (dk_at dksX2_init_23 4 rfl rfl)
theorem dX2_init_556 : decode cX2_init 556 = .ok (.bipush 100, 2) := dk_16 100 (dk_at dksX2_init_23 6 rfl rfl)
theorem dX2_init_558 : decode cX2_init 558 = .ok (.iastore, 1) := dk_79 (dk_at dksX2_init_23 8 rfl rfl)
theorem dX2_init_559 : decode cX2_init 559 = .ok (.dup, 1) := dk_89 (dk_at dksX2_init_23 9 rfl rfl)
theorem dX2_init_560 : decode cX2_init 560 = .ok (.bipush 84, 2) := dk_16 84 (dk_at dksX2_init_23 10 rfl rfl)
theorem dX2_init_562 : decode cX2_init 562 = .ok (.bipush 32, 2) := dk_16 32 (dk_at dksX2_init_23 12 rfl rfl)
theorem dX2_init_564 : decode cX2_init 564 = .ok (.iastore, 1) := dk_79 (dk_at dksX2_init_23 14 rfl rfl)
theorem dX2_init_565 : decode cX2_init 565 = .ok (.dup, 1) := dk_89 (dk_at dksX2_init_23 15 rfl rfl)
theorem dX2_init_566 : decode cX2_init 566 = .ok (.bipush 85, 2) := dk_16 85 (dk_at dksX2_init_23 16 rfl rfl)
theorem dX2_init_568 : decode cX2_init 568 = .ok (.bipush 99, 2) := dk_16 99 (dk_at dksX2_init_23 18 rfl rfl)
theorem dX2_init_570 : decode cX2_init 570 = .ok (.iastore, 1) := dk_79 (dk_at dksX2_init_23 20 rfl rfl)
theorem dX2_init_571 : decode cX2_init 571 = .ok (.dup, 1) := dk_89 (dk_at dksX2_init_23 21 rfl rfl)
theorem dX2_init_572 : decode cX2_init 572 = .ok (.bipush 86, 2) := dk_16 86 (dk_at dksX2_init_23 22 rfl rfl)
theorem dX2_init_574 : decode cX2_init 574 = .ok (.bipush 97, 2) := dk_16 97 (dk_at dksX2_init_24 0 rfl rfl)
theorem dX2_init_576 : decode cX2_init 576 = .ok (.iastore, 1) := dk_79 (dk_at dksX2_init_24 2 rfl rfl)
theorem dX2_init_577 : decode cX2_init 577 = .ok (.dup, 1) := dk_89 (dk_at dksX2_init_24 3 rfl rfl)
theorem dX2_init_578 : decode cX2_init 578 = .ok (.bipush 87, 2) := dk_16 87 (dk_at dksX2_init_24 4 rfl rfl)
theorem dX2_init_580 : decode cX2_init 580 = .ok (.bipush 108, 2) := dk_16 108 (dk_at dksX2_init_24 6 rfl rfl)
theorem dX2_init_582 : decode cX2_init 582 = .ok (.iastore, 1) := dk_79 (dk_at dksX2_init_24 8 rfl rfl)
theorem dX2_init_583 : decode cX2_init 583 = .ok (.dup, 1) := dk_89 (dk_at dksX2_init_24 9 rfl rfl)
theorem dX2_init_584 : decode cX2_init 584 = .ok (.bipush 88, 2) := dk_16 88 (dk_at dksX2_init_24 10 rfl rfl)
theorem dX2_init_586 : decode cX2_init 586 = .ok (.bipush 108, 2) := dk_16 108 (dk_at dksX2_init_24 12 rfl rfl)
theorem dX2_init_588 : decode cX2_init 588 = .ok (.iastore, 1) := dk_79 (dk_at dksX2_init_24 14 rfl rfl)
theorem dX2_init_589 : decode cX2_init 589 = .ok (.dup, 1) := dk_89 (dk_at dksX2_init_24 15 rfl rfl)
theorem dX2_init_590 : decode cX2_init 590 = .ok (.bipush 89, 2) := dk_16 89 (dk_at dksX2_init_24 16 rfl rfl)
theorem dX2_init_592 : decode cX2_init 592 = .ok (.bipush 115, 2) := dk_16 115 (dk_at dksX2_init_24 18 rfl rfl)
theorem dX2_init_594 : decode cX2_init 594 = .ok (.iastore, 1) := dk_79 (dk_at dksX2_init_24 20 rfl rfl)
theorem dX2_init_595 : decode cX2_init 595 = .ok (.dup, 1) := dk_89 (dk_at dksX2_init_24 21 rfl rfl)
theorem dX2_init_596 : decode cX2_init 596 = .ok (.bipush 90, 2) := dk_16 90 (dk_at dksX2_init_24 22 rfl rfl)
theorem dX2_init_598 : decode cX2_init 598 = .ok (.bipush 32, 2) := dk_16 32 (dk_at dksX2_init_25 0 rfl rfl)
theorem dX2_init_600 : decode cX2_init 600 = .ok (.iastore, 1) := dk_79 (dk_at dksX2_init_25 2 rfl rfl)
theorem dX2_init_601 : decode cX2_init 601 = .ok (.dup, 1) := dk_89 (dk_at dksX2_init_25 3 rfl rfl)
theorem dX2_init_602 : decode cX2_init 602 = .ok (.bipush 91, 2) := dk_16 91 (dk_at dksX2_init_25 4 rfl rfl)
theorem dX2_init_604 : decode cX2_init 604 = .ok (.bipush 116, 2) := dk_16 116 (dk_at dksX2_init_25 6 rfl rfl)
theorem dX2_init_606 : decode cX2_init 606 = .ok (.iastore, 1) := dk_79 (dk_at dksX2_init_25 8 rfl rfl)
theorem dX2_init_607 : decode cX2_init 607 = .ok (.dup, 1) := dk_89 (dk_at dksX2_init_25 9 rfl rfl)
theorem dX2_init_608 : decode cX2_init 608 = .ok (.bipush 92, 2) := dk_16 92 (dk_at dksX2_init_25 10 rfl rfl)
theorem dX2_init_610 : decode cX2_init 610 = .ok (.bipush 111, 2) := dk_16 111 (dk_at dksX2_init_25 12 rfl rfl)
theorem dX2_init_612 : decode cX2_init 612 = .ok (.iastore, 1) := dk_79 (dk_at dksX2_init_25 14 rfl rfl)
theorem dX2_init_613 : decode cX2_init 613 = .ok (.dup, 1) := dk_89 (dk_at dksX2_init_25 15 rfl rfl)
theorem dX2_init_614 : decode cX2_init 614 = .ok (.bipush 93, 2) := dk_16 93 (dk_at dksX2_init_25 16 rfl rfl)
theorem dX2_init_616 : decode cX2_init 616 = .ok (.bipush 100, 2) := dk_16 100 (dk_at dksX2_init_25 18 rfl rfl)
theorem dX2_init_618 : decode cX2_init 618 = .ok (.iastore, 1) := dk_79 (dk_at dksX2_init_25 20 rfl rfl)
theorem dX2_init_619 : decode cX2_init 619 = .ok (.dup, 1) := dk_89 (dk_at dksX2_init_25 21 rfl rfl)
theorem dX2_init_620 : decode cX2_init 620 = .ok (.bipush 94, 2) := dk_16 94 (dk_at dksX2_init_25 22 rfl rfl)
theorem dX2_init_622 : decode cX2_init 622 = .ok (.bipush 97, 2) := dk_16 97 (dk_at dksX2_init_26 0 rfl rfl)
theorem dX2_init_624 : decode cX2_init 624 = .ok (.iastore, 1) := dk_79 (dk_at dksX2_init_26 2 rfl rfl)
theorem dX2_init_625 : decode cX2_init 625 = .ok (.dup, 1) := dk_89 (dk_at dksX2_init_26 3 rfl rfl)
theorem dX2_init_626 : decode cX2_init 626 = .ok (.bipush 95, 2) := dk_16 95 (dk_at dksX2_init_26 4 rfl rfl)
theorem dX2_init_628 : decode cX2_init 628 = .ok (.bipush 121, 2) := dk_16 121 (dk_at dksX2_init_26 6 rfl rfl)
theorem dX2_init_630 : decode cX2_init 630 = .ok (.iastore, 1) := dk_79 (dk_at dksX2_init_26 8 rfl rfl)
theorem dX2_init_631 : decode cX2_init 631 = .ok (.dup, 1) := dk_89 (dk_at dksX2_init_26 9 rfl rfl)
theorem dX2_init_632 : decode cX2_init 632 = .ok (.bipush 96, 2) := dk_16 96 (dk_at dksX2_init_26 10 rfl rfl)
theorem dX2_init_634 : decode cX2_init 634 = .ok (.bipush 32, 2) := dk_16 32 (dk_at dksX2_init_26 12 rfl rfl)
theorem dX2_init_636 : decode cX2_init 636 = .ok (.iastore, 1) := dk_79 (dk_at dksX2_init_26 14 rfl rfl)
theorem dX2_init_637 : decode cX2_init 637 = .ok (.dup, 1) := dk_89 (dk_at dksX2_init_26 15 rfl rfl)
theorem dX2_init_638 : decode cX2_init 638 = .ok (.bipush 97, 2) := dk_16 97 (dk_at dksX2_init_26 16 rfl rfl)
theorem dX2_init_640 : decode cX2_init 640 = .ok (.bipush 102, 2) := dk_16 102 (dk_at dksX2_init_26 18 rfl rfl)
theorem dX2_init_642 : decode cX2_init 642 = .ok (.iastore, 1) := dk_79 (dk_at dksX2_init_26 20 rfl rfl)
theorem dX2_init_643 : decode cX2_init 643 = .ok (.dup, 1) := dk_89 (dk_at dksX2_init_26 21 rfl rfl)
theorem dX2_init_644 : decode cX2_init 644 = .ok (.bipush 98, 2) := dk_16 98 (dk_at dksX2_init_26 22 rfl rfl)
theorem dX2_init_646 : decode cX2_init 646 = .ok (.bipush 111, 2) := dk_16 111 (dk_at dksX2_init_27 0 rfl rfl)
theorem dX2_init_648 : decode cX2_init 648 = .ok (.iastore, 1) := dk_79 (dk_at dksX2_init_27 2 rfl rfl)
theorem dX2_init_649 : decode cX2_init 649 = .ok (.dup, 1) := dk_89 (dk_at dksX2_init_27 3 rfl rfl)
theorem dX2_init_650 : decode cX2_init 650 = .ok (.bipush 99, 2) := dk_16 99 (dk_at dksX2_init_27 4 rfl rfl)
theorem dX2_init_652 : decode cX2_init 652 = .ok (.bipush 108, 2) := dk_16 108 (dk_at dksX2_init_27 6 rfl rfl)
theorem dX2_init_654 : decode cX2_init 654 = .ok (.iastore, 1) := dk_79 (dk_at dksX2_init_27 8 rfl rfl)
theorem dX2_init_655 : decode cX2_init 655 = .ok (.dup, 1) := dk_89 (dk_at dksX2_init_27 9 rfl rfl)
theorem dX2_init_656 : decode cX2_init 656 = .ok (.bipush 100, 2) := dk_16 100 (dk_at dksX2_init_27 10 rfl rfl)
theorem dX2_init_658 : decode cX2_init 658 = .ok (.bipush 107, 2) := dk_16 107 (dk_at dksX2_init_27 12 rfl rfl)
theorem dX2_init_660 : decode cX2_init 660 = .ok (.iastore, 1) := dk_79 (dk_at dksX2_init_27 14 rfl rfl)
theorem dX2_init_661 : decode cX2_init 661 = .ok (.dup, 1) := dk_89 (dk_at dksX2_init_27 15 rfl rfl)
theorem dX2_init_662 : decode cX2_init 662 = .ok (.bipush 101, 2) := dk_16 101 (dk_at dksX2_init_27 16 rfl rfl)
theorem dX2_init_664 : decode cX2_init 664 = .ok (.bipush 32, 2) := dk_16 32 (dk_at dksX2_init_27 18 rfl rfl)
theorem dX2_init_666 : decode cX2_init 666 = .ok (.iastore, 1) := dk_79 (dk_at dksX2_init_27 20 rfl rfl)
theorem dX2_init_667 : decode cX2_init 667 = .ok (.dup, 1) := dk_89 (dk_at dksX2_init_27 21 rfl rfl)
theorem dX2_init_668 : decode cX2_init 668 = .ok (.bipush 102, 2) := dk_16 102 (dk_at dksX2_init_27 22 rfl rfl)
theorem dX2_init_670 : decode cX2_init 670 = .ok (.bipush 113, 2) := dk_16 113 (dk_at dksX2_init_28 0 rfl rfl)
theorem dX2_init_672 : decode cX2_init 672 = .ok (.iastore, 1) := dk_79 (dk_at dksX2_init_28 2 rfl rfl)
theorem dX2_init_673 : decode cX2_init 673 = .ok (.dup, 1) := dk_89 (dk_at dksX2_init_28 3 rfl rfl)
theorem dX2_init_674 : decode cX2_init 674 = .ok (.bipush 103, 2) := dk_16 103 (dk_at dksX2_init_28 4 rfl rfl)
theorem dX2_init_676 : decode cX2_init 676 = .ok (.bipush 117, 2) := dk_16 117 (dk_at dksX2_init_28 6 rfl rfl)
theorem dX2_init_678 : decode cX2_init 678 = .ok (.iastore, 1) := dk_79 (dk_at dksX2_init_28 8 rfl rfl)
theorem dX2_init_679 : decode cX2_init 679 = .ok (.dup, 1) := dk_89 (dk_at dksX2_init_28 9 rfl rfl)
theorem dX2_init_680 : decode cX2_init 680 = .ok (.bipush 104, 2) := dk_16 104 (dk_at dksX2_init_28 10 rfl rfl)
theorem dX2_init_682 : decode cX2_init 682 = .ok (.bipush 101, 2) := dk_16 101 (dk_at dksX2_init_28 12 rfl rfl)
theorem dX2_init_684 : decode cX2_init 684 = .ok (.iastore, 1) := dk_79 (dk_at dksX2_init_28 14 rfl rfl)
theorem dX2_init_685 : decode cX2_init 685 = .ok (.dup, 1) := dk_89 (dk_at dksX2_init_28 15 rfl rfl)
theorem dX2_init_686 : decode cX2_init 686 = .ok (.bipush 105, 2) := dk_16 105 (dk_at dksX2_init_28 16 rfl rfl)
theorem dX2_init_688 : decode cX2_init 688 = .ok (.bipush 110, 2) := dk_16 110 (dk_at dksX2_init_28 18 rfl rfl)
theorem dX2_init_690 : decode cX2_init 690 = .ok (.iastore, 1) := dk_79 (dk_at dksX2_init_28 20 rfl rfl)
theorem dX2_init_691 : decode cX2_init 691 = .ok (.dup, 1) := dk_89 (dk_at dksX2_init_28 21 rfl rfl)
theorem dX2_init_692 : decode cX2_init 692 = .ok (.bipush 106, 2) := dk_16 106 (dk_at dksX2_init_28 22 rfl rfl)
theorem dX2_init_694 : decode cX2_init 694 = .ok (.bipush 99, 2) := dk_16 99 (dk_at dksX2_init_29 0 rfl rfl)
theorem dX2_init_696 : decode cX2_init 696 = .ok (.iastore, 1) := dk_79 (dk_at dksX2_init_29 2 rfl rfl)
theorem dX2_init_697 : decode cX2_init 697 = .ok (.dup, 1) := dk_89 (dk_at dksX2_init_29 3 rfl rfl)
theorem dX2_init_698 : decode cX2_init 698 = .ok (.bipush 107, 2) := dk_16 107 (dk_at dksX2_init_29 4 rfl rfl)
theorem dX2_init_700 : decode cX2_init 700 = .ok (.bipush 104, 2) := dk_16 104 (dk_at dksX2_init_29 6 rfl rfl)
theorem dX2_init_702 : decode cX2_init 702 = .ok (.iastore, 1) := dk_79 (dk_at dksX2_init_29 8 rfl rfl)
theorem dX2_init_703 : decode cX2_init 703 = .ok (.dup, 1) := dk_89 (dk_at dksX2_init_29 9 rfl rfl)
theorem dX2_init_704 : decode cX2_init 704 = .ok (.bipush 108, 2) := dk_16 108 (dk_at dksX2_init_29 10 rfl rfl)
theorem dX2_init_706 : decode cX2_init 706 = .ok (.bipush 101, 2) := dk_16 101 (dk_at dksX2_init_29 12 rfl rfl)
theorem dX2_init_708 : decode cX2_init 708 = .ok (.iastore, 1) := dk_79 (dk_at dksX2_init_29 14 rfl rfl)
theorem dX2_init_709 : decode cX2_init 709 = .ok (.dup, 1) := dk_89 (dk_at dksX2_init_29 15 rfl rfl)
theorem dX2_init_710 : decode cX2_init 710 = .ok (.bipush 109, 2) := dk_16 109 (dk_at dksX2_init_29 16 rfl rfl)
theorem dX2_init_712 : decode cX2_init 712 = .ok (.bipush 115, 2) := dk_16 115 (dk_at dksX2_init_29 18 rfl rfl)
theorem dX2_init_714 : decode cX2_init 714 = .ok (.iastore, 1) := dk_79 (dk_at dksX2_init_29 20 rfl rfl)
theorem dX2_init_715 : decode cX2_init 715 = .ok (.dup, 1) := dk_89 (dk_at dksX2_init_29 21 rfl rfl)
theorem dX2_init_716 : decode cX2_init 716 = .ok (.bipush 110, 2) := dk_16 110 (dk_at dksX2_init_29 22 rfl rfl)
theorem dX2_init_718 : decode cX2_init 718 = .ok (.bipush 32, 2) := dk_16 32 (dk_at dksX2_init_30 0 rfl rfl)
theorem dX2_init_720 : decode cX2_init 720 = .ok (.iastore, 1) := dk_79 (dk_at dksX2_init_30 2 rfl rfl)
theorem dX2_init_721 : decode cX2_init 721 = .ok (.dup, 1) := dk_89 (dk_at dksX2_init_30 3 rfl rfl)
theorem dX2_init_722 : decode cX2_init 722 = .ok (.bipush 111, 2) := dk_16 111 (dk_at dksX2_init_30 4 rfl rfl)
theorem dX2_init_724 : decode cX2_init 724 = .ok (.bipush 98, 2) := dk_16 98 (dk_at dksX2_init_30 6 rfl rfl)
theorem dX2_init_726 : decode cX2_init 726 = .ok (.iastore, 1) := dk_79 (dk_at dksX2_init_30 8 rfl rfl)
theorem dX2_init_727 : decode cX2_init 727 = .ok (.dup, 1) := dk_89 (dk_at dksX2_init_30 9 rfl rfl)
theorem dX2_init_728 : decode cX2_init 728 = .ok (.bipush 112, 2) := dk_16 112 (dk_at dksX2_init_30 10 rfl rfl)
theorem dX2_init_730 : decode cX2_init 730 = .ok (.bipush 121, 2) := dk_16 121 (dk_at dksX2_init_30 12 rfl rfl)
theorem dX2_init_732 : decode cX2_init 732 = .ok (.iastore, 1) := dk_79 (dk_at dksX2_init_30 14 rfl rfl)
theorem dX2_init_733 : decode cX2_init 733 = .ok (.dup, 1) := dk_89 (dk_at dksX2_init_30 15 rfl rfl)
theorem dX2_init_734 : decode cX2_init 734 = .ok (.bipush 113, 2) := dk_16 113 (dk_at dksX2_init_30 16 rfl rfl)
theorem dX2_init_736 : decode cX2_init 736 = .ok (.bipush 32, 2) := dk_16 32 (dk_at dksX2_init_30 18 rfl rfl)
theorem dX2_init_738 : decode cX2_init 738 = .ok (.iastore, 1) := dk_79 (dk_at dksX2_init_30 20 rfl rfl)
theorem dX2_init_739 : decode cX2_init 739 = .ok (.dup, 1) := dk_89 (dk_at dksX2_init_30 21 rfl rfl)
theorem dX2_init_740 : decode cX2_init 740 = .ok (.bipush 114, 2) := dk_16 114 (dk_at dksX2_init_30 22 rfl rfl)
theorem dX2_init_742 : decode cX2_init 742 = .ok (.bipush 119, 2) := dk_16 119 (dk_at dksX2_init_31 0 rfl rfl)
theorem dX2_init_744 : decode cX2_init 744 = .ok (.iastore, 1) := dk_79 (dk_at dksX2_init_31 2 rfl rfl)
theorem dX2_init_745 : decode cX2_init 745 = .ok (.dup, 1) := dk_89 (dk_at dksX2_init_31 3 rfl rfl)
theorem dX2_init_746 : decode cX2_init 746 = .ok (.bipush 115, 2) := dk_16 115 (dk_at dksX2_init_31 4 rfl rfl)
theorem dX2_init_748 : decode cX2_init 748 = .ok (.bipush 97, 2) := dk_16 97 (dk_at dksX2_init_31 6 rfl rfl)
theorem dX2_init_750 : decode cX2_init 750 = .ok (.iastore, 1) := dk_79 (dk_at dksX2_init_31 8 rfl rfl)
theorem dX2_init_751 : decode cX2_init 751 = .ok (.dup, 1) := dk_89 (dk_at dksX2_init_31 9 rfl rfl)
theorem dX2_init_752 : decode cX2_init 752 = .ok (.bipush 116, 2) := dk_16 116 (dk_at dksX2_init_31 10 rfl rfl)
theorem dX2_init_754 : decode cX2_init 754 = .ok (.bipush 110, 2) := dk_16 110 (dk_at dksX2_init_31 12 rfl rfl)
theorem dX2_init_756 : decode cX2_init 756 = .ok (.iastore, 1) := dk_79 (dk_at dksX2_init_31 14 rfl rfl)
theorem dX2_init_757 : decode cX2_init 757 = .ok (.dup, 1) := dk_89 (dk_at dksX2_init_31 15 rfl rfl)
theorem dX2_init_758 : decode cX2_init 758 = .ok (.bipush 117, 2) := dk_16 117 (dk_at dksX2_init_31 16 rfl rfl)
theorem dX2_init_760 : decode cX2_init 760 = .ok (.bipush 116, 2) := dk_16 116 (dk_at dksX2_init_31 18 rfl rfl)
theorem dX2_init_762 : decode cX2_init 762 = .ok (.iastore, 1) := dk_79 (dk_at dksX2_init_31 20 rfl rfl)
theorem dX2_init_763 : decode cX2_init 763 = .ok (.dup, 1) := dk_89 (dk_at dksX2_init_31 21 rfl rfl)
theorem dX2_init_764 : decode cX2_init 764 = .ok (.bipush 118, 2) := dk_16 118 (dk_at dksX2_init_31 22 rfl rfl)
theorem dX2_init_766 : decode cX2_init 766 = .ok (.bipush 32, 2) := dk_16 32 (dk_at dksX2_init_32 0 rfl rfl)
theorem dX2_init_768 : decode cX2_init 768 = .ok (.iastore, 1) := dk_79 (dk_at dksX2_init_32 2 rfl rfl)
theorem dX2_init_769 : decode cX2_init 769 = .ok (.dup, 1) := dk_89 (dk_at dksX2_init_32 3 rfl rfl)
theorem dX2_init_770 : decode cX2_init 770 = .ok (.bipush 119, 2) := dk_16 119 (dk_at dksX2_init_32 4 rfl rfl)
theorem dX2_init_772 : decode cX2_init 772 = .ok (.bipush 99, 2) := dk_16 99 (dk_at dksX2_init_32 6 rfl rfl)
theorem dX2_init_774 : decode cX2_init 774 = .ok (.iastore, 1) := dk_79 (dk_at dksX2_init_32 8 rfl rfl)
theorem dX2_init_775 : decode cX2_init 775 = .ok (.dup, 1) := dk_89 (dk_at dksX2_init_32 9 rfl rfl)
theorem dX2_init_776 : decode cX2_init 776 = .ok (.bipush 120, 2) := dk_16 120 (dk_at dksX2_init_32 10 rfl rfl)
theorem dX2_init_778 : decode cX2_init 778 = .ok (.bipush 108, 2) := dk_16 108 (dk_at dksX2_init_32 12 rfl rfl)
theorem dX2_init_780 : decode cX2_init 780 = .ok (.iastore, 1) := dk_79 (dk_at dksX2_init_32 14 rfl rfl)
theorem dX2_init_781 : decode cX2_init 781 = .ok (.dup, 1) := dk_89 (dk_at dksX2_init_32 15 rfl rfl)
theorem dX2_init_782 : decode cX2_init 782 = .ok (.bipush 121, 2) := dk_16 121 (dk_at dksX2_init_32 16 rfl rfl)
theorem dX2_init_784 : decode cX2_init 784 = .ok (.bipush 101, 2) := dk_16 101 (dk_at dksX2_init_32 18 rfl rfl)
theorem dX2_init_786 : decode cX2_init 786 = .ok (.iastore, 1) := dk_79 (dk_at dksX2_init_32 20 rfl rfl)
theorem dX2_init_787 : decode cX2_init 787 = .ok (.dup, 1) := dk_89 (dk_at dksX2_init_32 21 rfl rfl)
theorem dX2_init_788 : decode cX2_init 788 = .ok (.bipush 122, 2) := dk_16 122 (dk_at dksX2_init_32 22 rfl rfl)
theorem dX2_init_790 : decode cX2_init 790 = .ok (.bipush 97, 2) := dk_16 97 (dk_at dksX2_init_33 0 rfl rfl)
theorem dX2_init_792 : decode cX2_init 792 = .ok (.iastore, 1) := dk_79 (dk_at dksX2_init_33 2 rfl rfl)
theorem dX2_init_793 : decode cX2_init 793 = .ok (.dup, 1) := dk_89 (dk_at dksX2_init_33 3 rfl rfl)
theorem dX2_init_794 : decode cX2_init 794 = .ok (.bipush 123, 2) := dk_16 123 (dk_at dksX2_init_33 4 rfl rfl)
theorem dX2_init_796 : decode cX2_init 796 = .ok (.bipush 114, 2) := dk_16 114 (dk_at dksX2_init_33 6 rfl rfl)
theorem dX2_init_798 : decode cX2_init 798 = .ok (.iastore, 1) := dk_79 (dk_at dksX2_init_33 8 rfl rfl)
theorem dX2_init_799 : decode cX2_init 799 = .ok (.dup, 1) := dk_89 (dk_at dksX2_init_33 9 rfl rfl)
theorem dX2_init_800 : decode cX2_init 800 = .ok (.bipush 124, 2) := dk_16 124 (dk_at dksX2_init_33 10 rfl rfl)
theorem dX2_init_802 : decode cX2_init 802 = .ok (.bipush 32, 2) := dk_16 32 (dk_at dksX2_init_33 12 rfl rfl)
theorem dX2_init_804 : decode cX2_init 804 = .ok (.iastore, 1) := dk_79 (dk_at dksX2_init_33 14 rfl rfl)
theorem dX2_init_805 : decode cX2_init 805 = .ok (.dup, 1) := dk_89 (dk_at dksX2_init_33 15 rfl rfl)
theorem dX2_init_806 : decode cX2_init 806 = .ok (.bipush 125, 2) := dk_16 125 (dk_at dksX2_init_33 16 rfl rfl)
theorem dX2_init_808 : decode cX2_init 808 = .ok (.bipush 97, 2) := dk_16 97 (dk_at dksX2_init_33 18 rfl rfl)
theorem dX2_init_810 : decode cX2_init 810 = .ok (.iastore, 1) := dk_79 (dk_at dksX2_init_33 20 rfl rfl)
theorem dX2_init_811 : decode cX2_init 811 = .ok (.dup, 1) := dk_89 (dk_at dksX2_init_33 21 rfl rfl)
theorem dX2_init_812 : decode cX2_init 812 = .ok (.bipush 126, 2) := dk_16 126 (dk_at dksX2_init_33 22 rfl rfl)
theorem dX2_init_814 : decode cX2_init 814 = .ok (.bipush 116, 2) := dk_16 116 (dk_at dksX2_init_34 0 rfl rfl)
theorem dX2_init_816 : decode cX2_init 816 = .ok (.iastore, 1) := dk_79 (dk_at dksX2_init_34 2 rfl rfl)
theorem dX2_init_817 : decode cX2_init 817 = .ok (.dup, 1) := dk_89 (dk_at dksX2_init_34 3 rfl rfl)
theorem dX2_init_818 : decode cX2_init 818 = .ok (.bipush 127, 2) := dk_16 127 (dk_at dksX2_init_34 4 rfl rfl)
theorem dX2_init_820 : decode cX2_init 820 = .ok (.bipush 32, 2) := dk_16 32 (dk_at dksX2_init_34 6 rfl rfl)
theorem dX2_init_822 : decode cX2_init 822 = .ok (.iastore, 1) := dk_79 (dk_at dksX2_init_34 8 rfl rfl)
theorem dX2_init_823 : decode cX2_init 823 = .ok (.dup, 1) := dk_89 (dk_at dksX2_init_34 9 rfl rfl)
theorem dX2_init_824 : decode cX2_init 824 = .ok (.sipush 128, 3) := dk_17 0 128 (dk_at dksX2_init_34 10 rfl rfl)
theorem dX2_init_827 : decode cX2_init 827 = .ok (.bipush 111, 2) := dk_16 111 (dk_at dksX2_init_34 13 rfl rfl)
theorem dX2_init_829 : decode cX2_init 829 = .ok (.iastore, 1) := dk_79 (dk_at dksX2_init_34 15 rfl rfl)
theorem dX2_init_830 : decode cX2_init 830 = .ok (.dup, 1) := dk_89 (dk_at dksX2_init_34 16 rfl rfl)
theorem dX2_init_831 : decode cX2_init 831 = .ok (.sipush 129, 3) := dk_17 0 129 (dk_at dksX2_init_34 17 rfl rfl)
theorem dX2_init_834 : decode cX2_init 834 = .ok (.bipush 110, 2) := dk_16 110 (dk_at dksX2_init_34 20 rfl rfl)
theorem dX2_init_836 : decode cX2_init 836 = .ok (.iastore, 1) := dk_79 (dk_at dksX2_init_34 22 rfl rfl)
theorem dX2_init_837 : decode cX2_init 837 = .ok (.dup, 1) := dk_89 (dk_at dksX2_init_34 23 rfl rfl)
theorem dX2_init_838 : decode cX2_init 838 = .ok (.sipush 130, 3) := dk_17 0 130 (dk_at dksX2_init_35 0 rfl rfl)
theorem dX2_init_841 : decode cX2_init 841 = .ok (.bipush 32, 2) := dk_16 32 (dk_at dksX2_init_35 3 rfl rfl)
theorem dX2_init_843 : decode cX2_init 843 = .ok (.iastore, 1) := dk_79 (dk_at dksX2_init_35 5 rfl rfl)
theorem dX2_init_844 : decode cX2_init 844 = .ok (.dup, 1) := dk_89 (dk_at dksX2_init_35 6 rfl rfl)
theorem dX2_init_845 : decode cX2_init 845 = .ok (.sipush 131, 3) := dk_17 0 131 (dk_at dksX2_init_35 7 rfl rfl)
theorem dX2_init_848 : decode cX2_init 848 = .ok (.bipush 119, 2) := dk_16 119 (dk_at dksX2_init_35 10 rfl rfl)
theorem dX2_init_850 : decode cX2_init 850 = .ok (.iastore, 1) := dk_79 (dk_at dksX2_init_35 12 rfl rfl)
theorem dX2_init_851 : decode cX2_init 851 = .ok (.dup, 1) := dk_89 (dk_at dksX2_init_35 13 rfl rfl)
theorem dX2_init_852 : decode cX2_init 852 = .ok (.sipush 132, 3) := dk_17 0 132 (dk_at dksX2_init_35 14 rfl rfl)
theorem dX2_init_855 : decode cX2_init 855 = .ok (.bipush 111, 2) := dk_16 111 (dk_at dksX2_init_35 17 rfl rfl)
theorem dX2_init_857 : decode cX2_init 857 = .ok (.iastore, 1) := dk_79 (dk_at dksX2_init_35 19 rfl rfl)
theorem dX2_init_858 : decode cX2_init 858 = .ok (.dup, 1) := dk_89 (dk_at dksX2_init_35 20 rfl rfl)
theorem dX2_init_859 : decode cX2_init 859 = .ok (.sipush 133, 3) := dk_17 0 133 (dk_at dksX2_init_35 21 rfl rfl)
theorem dX2_init_862 : decode cX2_init 862 = .ok (.bipush 114, 2) := dk_16 114 (dk_at dksX2_init_36 0 rfl rfl)
theorem dX2_init_864 : decode cX2_init 864 = .ok (.iastore, 1) := dk_79 (dk_at dksX2_init_36 2 rfl rfl)
theorem dX2_init_865 : decode cX2_init 865 = .ok (.dup, 1) := dk_89 (dk_at dksX2_init_36 3 rfl rfl)
theorem dX2_init_866 : decode cX2_init 866 = .ok (.sipush 134, 3) := dk_17 0 134 (dk_at dksX2_init_36 4 rfl rfl)
theorem dX2_init_869 : decode cX2_init 869 = .ok (.bipush 116, 2) := dk_16 116 (dk_at dksX2_init_36 7 rfl rfl)
theorem dX2_init_871 : decode cX2_init 871 = .ok (.iastore, 1) := dk_79 (dk_at dksX2_init_36 9 rfl rfl)
theorem dX2_init_872 : decode cX2_init 872 = .ok (.dup, 1) := dk_89 (dk_at dksX2_init_36 10 rfl rfl)
theorem dX2_init_873 : decode cX2_init 873 = .ok (.sipush 135, 3) := dk_17 0 135 (dk_at dksX2_init_36 11 rfl rfl)
theorem dX2_init_876 : decode cX2_init 876 = .ok (.bipush 104, 2) := dk_16 104 (dk_at dksX2_init_36 14 rfl rfl)
theorem dX2_init_878 : decode cX2_init 878 = .ok (.iastore, 1) := dk_79 (dk_at dksX2_init_36 16 rfl rfl)
theorem dX2_init_879 : decode cX2_init 879 = .ok (.dup, 1) := dk_89 (dk_at dksX2_init_36 17 rfl rfl)
theorem dX2_init_880 : decode cX2_init 880 = .ok (.sipush 136, 3) := dk_17 0 136 (dk_at dksX2_init_36 18 rfl rfl)
theorem dX2_init_883 : decode cX2_init 883 = .ok (.bipush 32, 2) := dk_16 32 (dk_at dksX2_init_36 21 rfl rfl)
theorem dX2_init_885 : decode cX2_init 885 = .ok (.iastore, 1) := dk_79 (dk_at dksX2_init_36 23 rfl rfl)
theorem dX2_init_886 : decode cX2_init 886 = .ok (.dup, 1) := dk_89 (dk_at dksX2_init_37 0 rfl rfl)
theorem dX2_init_887 : decode cX2_init 887 = .ok (.sipush 137, 3) := dk_17 0 137 (dk_at dksX2_init_37 1 rfl rfl)
theorem dX2_init_890 : decode cX2_init 890 = .ok (.bipush 99, 2) := dk_16 99 (dk_at dksX2_init_37 4 rfl rfl)
theorem dX2_init_892 : decode cX2_init 892 = .ok (.iastore, 1) := dk_79 (dk_at dksX2_init_37 6 rfl rfl)
theorem dX2_init_893 : decode cX2_init 893 = .ok (.dup, 1) := dk_89 (dk_at dksX2_init_37 7 rfl rfl)
theorem dX2_init_894 : decode cX2_init 894 = .ok (.sipush 138, 3) := dk_17 0 138 (dk_at dksX2_init_37 8 rfl rfl)
theorem dX2_init_897 : decode cX2_init 897 = .ok (.bipush 97, 2) := dk_16 97 (dk_at dksX2_init_37 11 rfl rfl)
theorem dX2_init_899 : decode cX2_init 899 = .ok (.iastore, 1) := dk_79 (dk_at dksX2_init_37 13 rfl rfl)
theorem dX2_init_900 : decode cX2_init 900 = .ok (.dup, 1) := dk_89 (dk_at dksX2_init_37 14 rfl rfl)
theorem dX2_init_901 : decode cX2_init 901 = .ok (.sipush 139, 3) := dk_17 0 139 (dk_at dksX2_init_37 15 rfl rfl)
theorem dX2_init_904 : decode cX2_init 904 = .ok (.bipush 108, 2) := dk_16 108 (dk_at dksX2_init_37 18 rfl rfl)
theorem dX2_init_906 : decode cX2_init 906 = .ok (.iastore, 1) := dk_79 (dk_at dksX2_init_37 20 rfl rfl)
theorem dX2_init_907 : decode cX2_init 907 = .ok (.dup, 1) := dk_89 (dk_at dksX2_init_37 21 rfl rfl)
theorem dX2_init_908 : decode cX2_init 908 = .ok (.sipush 140, 3) := dk_17 0 140 (dk_at dksX2_init_38 0 rfl rfl)
theorem dX2_init_911 : decode cX2_init 911 = .ok (.bipush 108, 2) := dk_16 108 (dk_at dksX2_init_38 3 rfl rfl)
theorem dX2_init_913 : decode cX2_init 913 = .ok (.iastore, 1) := dk_79 (dk_at dksX2_init_38 5 rfl rfl)
theorem dX2_init_914 : decode cX2_init 914 = .ok (.dup, 1) := dk_89 (dk_at dksX2_init_38 6 rfl rfl)
theorem dX2_init_915 : decode cX2_init 915 = .ok (.sipush 141, 3) := dk_17 0 141 (dk_at dksX2_init_38 7 rfl rfl)
theorem dX2_init_918 : decode cX2_init 918 = .ok (.bipush 32, 2) := dk_16 32 (dk_at dksX2_init_38 10 rfl rfl)
theorem dX2_init_920 : decode cX2_init 920 = .ok (.iastore, 1) := dk_79 (dk_at dksX2_init_38 12 rfl rfl)
theorem dX2_init_921 : decode cX2_init 921 = .ok (.dup, 1) := dk_89 (dk_at dksX2_init_38 13 rfl rfl)
theorem dX2_init_922 : decode cX2_init 922 = .ok (.sipush 142, 3) := dk_17 0 142 (dk_at dksX2_init_38 14 rfl rfl)
theorem dX2_init_925 : decode cX2_init 925 = .ok (.bipush 109, 2) := dk_16 109 (dk_at dksX2_init_38 17 rfl rfl)
theorem dX2_init_927 : decode cX2_init 927 = .ok (.iastore, 1) := dk_79 (dk_at dksX2_init_38 19 rfl rfl)
theorem dX2_init_928 : decode cX2_init 928 = .ok (.dup, 1) := dk_89 (dk_at dksX2_init_38 20 rfl rfl)
theorem dX2_init_929 : decode cX2_init 929 = .ok (.sipush 143, 3) := dk_17 0 143 (dk_at dksX2_init_38 21 rfl rfl)
theorem dX2_init_932 : decode cX2_init 932 = .ok (.bipush 111, 2) := dk_16 111 (dk_at dksX2_init_39 0 rfl rfl)
theorem dX2_init_934 : decode cX2_init 934 = .ok (.iastore, 1) := dk_79 (dk_at dksX2_init_39 2 rfl rfl)
theorem dX2_init_935 : decode cX2_init 935 = .ok (.dup, 1) := dk_89 (dk_at dksX2_init_39 3 rfl rfl)
theorem dX2_init_936 : decode cX2_init 936 = .ok (.sipush 144, 3) := dk_17 0 144 (dk_at dksX2_init_39 4 rfl rfl)
theorem dX2_init_939 : decode cX2_init 939 = .ok (.bipush 118, 2) := dk_16 118 (dk_at dksX2_init_39 7 rfl rfl)
theorem dX2_init_941 : decode cX2_init 941 = .ok (.iastore, 1) := dk_79 (dk_at dksX2_init_39 9 rfl rfl)
theorem dX2_init_942 : decode cX2_init 942 = .ok (.dup, 1) := dk_89 (dk_at dksX2_init_39 10 rfl rfl)
theorem dX2_init_943 : decode cX2_init 943 = .ok (.sipush 145, 3) := dk_17 0 145 (dk_at dksX2_init_39 11 rfl rfl)
theorem dX2_init_946 : decode cX2_init 946 = .ok (.bipush 101, 2) := dk_16 101 (dk_at dksX2_init_39 14 rfl rfl)
theorem dX2_init_948 : decode cX2_init 948 = .ok (.iastore, 1) := dk_79 (dk_at dksX2_init_39 16 rfl rfl)
theorem dX2_init_949 : decode cX2_init 949 = .ok (.dup, 1) := dk_89 (dk_at dksX2_init_39 17 rfl rfl)
theorem dX2_init_950 : decode cX2_init 950 = .ok (.sipush 146, 3) := dk_17 0 146 (dk_at dksX2_init_39 18 rfl rfl)
theorem dX2_init_953 : decode cX2_init 953 = .ok (.bipush 32, 2) := dk_16 32 (dk_at dksX2_init_39 21 rfl rfl)
theorem dX2_init_955 : decode cX2_init 955 = .ok (.iastore, 1) := dk_79 (dk_at dksX2_init_39 23 rfl rfl)
theorem dX2_init_956 : decode cX2_init 956 = .ok (.dup, 1) := dk_89 (dk_at dksX2_init_40 0 rfl rfl)
theorem dX2_init_957 : decode cX2_init 957 = .ok (.sipush 147, 3) := dk_17 0 147 (dk_at dksX2_init_40 1 rfl rfl)
theorem dX2_init_960 : decode cX2_init 960 = .ok (.bipush 116, 2) := dk_16 116 (dk_at dksX2_init_40 4 rfl rfl)
theorem dX2_init_962 : decode cX2_init 962 = .ok (.iastore, 1) := dk_79 (dk_at dksX2_init_40 6 rfl rfl)
theorem dX2_init_963 : decode cX2_init 963 = .ok (.dup, 1) := dk_89 (dk_at dksX2_init_40 7 rfl rfl)
theorem dX2_init_964 : decode cX2_init 964 = .ok (.sipush 148, 3) := dk_17 0 148 (dk_at dksX2_init_40 8 rfl rfl)
theorem dX2_init_967 : decode cX2_init 967 = .ok (.bipush 111, 2) := dk_16 111 (dk_at dksX2_init_40 11 rfl rfl)
theorem dX2_init_969 : decode cX2_init 969 = .ok (.iastore, 1) := dk_79 (dk_at dksX2_init_40 13 rfl rfl)
theorem dX2_init_970 : decode cX2_init 970 = .ok (.dup, 1) := dk_89 (dk_at dksX2_init_40 14 rfl rfl)
theorem dX2_init_971 : decode cX2_init 971 = .ok (.sipush 149, 3) := dk_17 0 149 (dk_at dksX2_init_40 15 rfl rfl)
theorem dX2_init_974 : decode cX2_init 974 = .ok (.bipush 32, 2) := dk_16 32 (dk_at dksX2_init_40 18 rfl rfl)
theorem dX2_init_976 : decode cX2_init 976 = .ok (.iastore, 1) := dk_79 (dk_at dksX2_init_40 20 rfl rfl)
theorem dX2_init_977 : decode cX2_init 977 = .ok (.dup, 1) := dk_89 (dk_at dksX2_init_40 21 rfl rfl)
theorem dX2_init_978 : decode cX2_init 978 = .ok (.sipush 150, 3) := dk_17 0 150 (dk_at dksX2_init_41 0 rfl rfl)
theorem dX2_init_981 : decode cX2_init 981 = .ok (.bipush 98, 2) := dk_16 98 (dk_at dksX2_init_41 3 rfl rfl)
theorem dX2_init_983 : decode cX2_init 983 = .ok (.iastore, 1) := dk_79 (dk_at dksX2_init_41 5 rfl rfl)
theorem dX2_init_984 : decode cX2_init 984 = .ok (.dup, 1) := dk_89 (dk_at dksX2_init_41 6 rfl rfl)
theorem dX2_init_985 : decode cX2_init 985 = .ok (.sipush 151, 3) := dk_17 0 151 (dk_at dksX2_init_41 7 rfl rfl)
theorem dX2_init_988 : decode cX2_init 988 = .ok (.bipush 117, 2) := dk_16 117 (dk_at dksX2_init_41 10 rfl rfl)
theorem dX2_init_990 : decode cX2_init 990 = .ok (.iastore, 1) := dk_79 (dk_at dksX2_init_41 12 rfl rfl)
theorem dX2_init_991 : decode cX2_init 991 = .ok (.dup, 1) := dk_89 (dk_at dksX2_init_41 13 rfl rfl)
theorem dX2_init_992 : decode cX2_init 992 = .ok (.sipush 152, 3) := dk_17 0 152 (dk_at dksX2_init_41 14 rfl rfl)
theorem dX2_init_995 : decode cX2_init 995 = .ok (.bipush 114, 2) := dk_16 114 (dk_at dksX2_init_41 17 rfl rfl)
theorem dX2_init_997 : decode cX2_init 997 = .ok (.iastore, 1) := dk_79 (dk_at dksX2_init_41 19 rfl rfl)
theorem dX2_init_998 : decode cX2_init 998 = .ok (.dup, 1) := dk_89 (dk_at dksX2_init_41 20 rfl rfl)
theorem dX2_init_999 : decode cX2_init 999 = .ok (.sipush 153, 3) := dk_17 0 153 (dk_at dksX2_init_41 21 rfl rfl)
theorem dX2_init_1002 : decode cX2_init 1002 = .ok (.bipush 121, 2) := dk_16 121 (dk_at dksX2_init_42 0 rfl rfl)
theorem dX2_init_1004 : decode cX2_init 1004 = .ok (.iastore, 1) := dk_79 (dk_at dksX2_init_42 2 rfl rfl)
theorem dX2_init_1005 : decode cX2_init 1005 = .ok (.dup, 1) := dk_89 (dk_at dksX2_init_42 3 rfl rfl)
theorem dX2_init_1006 : decode cX2_init 1006 = .ok (.sipush 154, 3) := dk_17 0 154 (dk_at dksX2_init_42 4 rfl rfl)
theorem dX2_init_1009 : decode cX2_init 1009 = .ok (.bipush 32, 2) := dk_16 32 (dk_at dksX2_init_42 7 rfl rfl)
theorem dX2_init_1011 : decode cX2_init 1011 = .ok (.iastore, 1) := dk_79 (dk_at dksX2_init_42 9 rfl rfl)
theorem dX2_init_1012 : decode cX2_init 1012 = .ok (.putfield 28, 3) := dk_181 0 28 (dk_at dksX2_init_42 10 rfl rfl)
theorem dX2_init_1015 : decode cX2_init 1015 = .ok (.aload_n 0, 1) := dk_42 (dk_at dksX2_init_42 13 rfl rfl)
theorem dX2_init_1016 : decode cX2_init 1016 = .ok (.iconst 2, 1) := dk_5 (dk_at dksX2_init_42 14 rfl rfl)
theorem dX2_init_1017 : decode cX2_init 1017 = .ok (.newarray .int, 2) := dk_188_10 (dk_at dksX2_init_42 15 rfl rfl)
theorem dX2_init_1019 : decode cX2_init 1019 = .ok (.putfield 31, 3) := dk_181 0 31 (dk_at dksX2_init_42 17 rfl rfl)
theorem dX2_init_1022 : decode cX2_init 1022 = .ok (.aload_n 0, 1) := dk_42 (dk_at dksX2_init_42 20 rfl rfl)
theorem dX2_init_1023 : decode cX2_init 1023 = .ok (.bipush 48, 2) := dk_16 48 (dk_at dksX2_init_42 21 rfl rfl)
theorem dX2_init_1025 : decode cX2_init 1025 = .ok (.newarray .int, 2) := dk_188_10 (dk_at dksX2_init_43 0 rfl rfl)
theorem dX2_init_1027 : decode cX2_init 1027 = .ok (.putfield 34, 3) := dk_181 0 34 (dk_at dksX2_init_43 2 rfl rfl)
theorem dX2_init_1030 : decode cX2_init 1030 = .ok (.aload_n 0, 1) := dk_42 (dk_at dksX2_init_43 5 rfl rfl)
theorem dX2_init_1031 : decode cX2_init 1031 = .ok (.bipush 48, 2) := dk_16 48 (dk_at dksX2_init_43 6 rfl rfl)
theorem dX2_init_1033 : decode cX2_init 1033 = .ok (.newarray .int, 2) := dk_188_10 (dk_at dksX2_init_43 8 rfl rfl)
theorem dX2_init_1035 : decode cX2_init 1035 = .ok (.putfield 37, 3) := dk_181 0 37 (dk_at dksX2_init_43 10 rfl rfl)
theorem dX2_init_1038 : decode cX2_init 1038 = .ok (.aload_n 0, 1) := dk_42 (dk_at dksX2_init_43 13 rfl rfl)
theorem dX2_init_1039 : decode cX2_init 1039 = .ok (.bipush 48, 2) := dk_16 48 (dk_at dksX2_init_43 14 rfl rfl)
theorem dX2_init_1041 : decode cX2_init 1041 = .ok (.newarray .int, 2) := dk_188_10 (dk_at dksX2_init_43 16 rfl rfl)
theorem dX2_init_1043 : decode cX2_init 1043 = .ok (.putfield 40, 3) := dk_181 0 40 (dk_at dksX2_init_43 18 rfl rfl)
theorem dX2_init_1046 : decode cX2_init 1046 = .ok (.aload_n 0, 1) := dk_42 (dk_at dksX2_init_43 21 rfl rfl)
theorem dX2_init_1047 : decode cX2_init 1047 = .ok (.bipush 48, 2) := dk_16 48 (dk_at dksX2_init_43 22 rfl rfl)
theorem dX2_init_1049 : decode cX2_init 1049 = .ok (.newarray .int, 2) := dk_188_10 (dk_at dksX2_init_44 0 rfl rfl)
theorem dX2_init_1051 : decode cX2_init 1051 = .ok (.putfield 43, 3) := dk_181 0 43 (dk_at dksX2_init_44 2 rfl rfl)
theorem dX2_init_1054 : decode cX2_init 1054 = .ok (.aload_n 0, 1) := dk_42 (dk_at dksX2_init_44 5 rfl rfl)
theorem dX2_init_1055 : decode cX2_init 1055 = .ok (.sipush 1200, 3) := dk_17 4 176 (dk_at dksX2_init_44 6 rfl rfl)
theorem dX2_init_1058 : decode cX2_init 1058 = .ok (.newarray .int, 2) := dk_188_10 (dk_at dksX2_init_44 9 rfl rfl)
theorem dX2_init_1060 : decode cX2_init 1060 = .ok (.putfield 46, 3) := dk_181 0 46 (dk_at dksX2_init_44 11 rfl rfl)
theorem dX2_init_1063 : decode cX2_init 1063 = .ok (.aload_n 0, 1) := dk_42 (dk_at dksX2_init_44 14 rfl rfl)
theorem dX2_init_1064 : decode cX2_init 1064 = .ok (.sipush 1200, 3) := dk_17 4 176 (dk_at dksX2_init_44 15 rfl rfl)
theorem dX2_init_1067 : decode cX2_init 1067 = .ok (.newarray .int, 2) := dk_188_10 (dk_at dksX2_init_44 18 rfl rfl)
theorem dX2_init_1069 : decode cX2_init 1069 = .ok (.putfield 49, 3) := dk_181 0 49 (dk_at dksX2_init_44 20 rfl rfl)
theorem dX2_init_1072 : decode cX2_init 1072 = .ok (.aload_n 0, 1) := dk_42 (dk_at dksX2_init_44 23 rfl rfl)
theorem dX2_init_1073 : decode cX2_init 1073 = .ok (.bipush 40, 2) := dk_16 40 (dk_at dksX2_init_45 0 rfl rfl)
theorem dX2_init_1075 : decode cX2_init 1075 = .ok (.newarray .int, 2) := dk_188_10 (dk_at dksX2_init_45 2 rfl rfl)
theorem dX2_init_1077 : decode cX2_init 1077 = .ok (.putfield 52, 3) := dk_181 0 52 (dk_at dksX2_init_45 4 rfl rfl)
theorem dX2_init_1080 : decode cX2_init 1080 = .ok (.aload_n 0, 1) := dk_42 (dk_at dksX2_init_45 7 rfl rfl)
theorem dX2_init_1081 : decode cX2_init 1081 = .ok (.iconst (-1), 1) := dk_2 (dk_at dksX2_init_45 8 rfl rfl)
theorem dX2_init_1082 : decode cX2_init 1082 = .ok (.putfield 55, 3) := dk_181 0 55 (dk_at dksX2_init_45 9 rfl rfl)
theorem dX2_init_1085 : decode cX2_init 1085 = .ok (.aload_n 0, 1) := dk_42 (dk_at dksX2_init_45 12 rfl rfl)
theorem dX2_init_1086 : decode cX2_init 1086 = .ok (.bipush 96, 2) := dk_16 96 (dk_at dksX2_init_45 13 rfl rfl)
theorem dX2_init_1088 : decode cX2_init 1088 = .ok (.newarray .int, 2) := dk_188_10 (dk_at dksX2_init_45 15 rfl rfl)
theorem dX2_init_1090 : decode cX2_init 1090 = .ok (.putfield 59, 3) := dk_181 0 59 (dk_at dksX2_init_45 17 rfl rfl)
theorem dX2_init_1093 : decode cX2_init 1093 = .ok (.aload_n 0, 1) := dk_42 (dk_at dksX2_init_45 20 rfl rfl)
theorem dX2_init_1094 : decode cX2_init 1094 = .ok (.bipush 100, 2) := dk_16 100 (dk_at dksX2_init_45 21 rfl rfl)
theorem dX2_init_1096 : decode cX2_init 1096 = .ok (.newarray .int, 2) := dk_188_10 (dk_at dksX2_init_46 0 rfl rfl)
theorem dX2_init_1098 : decode cX2_init 1098 = .ok (.putfield 62, 3) := dk_181 0 62 (dk_at dksX2_init_46 2 rfl rfl)
theorem dX2_init_1101 : decode cX2_init 1101 = .ok (.aload_n 0, 1) := dk_42 (dk_at dksX2_init_46 5 rfl rfl)
theorem dX2_init_1102 : decode cX2_init 1102 = .ok (.sipush 128, 3) := dk_17 0 128 (dk_at dksX2_init_46 6 rfl rfl)
theorem dX2_init_1105 : decode cX2_init 1105 = .ok (.newarray .int, 2) := dk_188_10 (dk_at dksX2_init_46 9 rfl rfl)
theorem dX2_init_1107 : decode cX2_init 1107 = .ok (.putfield 65, 3) := dk_181 0 65 (dk_at dksX2_init_46 11 rfl rfl)
theorem dX2_init_1110 : decode cX2_init 1110 = .ok (.aload_n 0, 1) := dk_42 (dk_at dksX2_init_46 14 rfl rfl)
theorem dX2_init_1111 : decode cX2_init 1111 = .ok (.bipush 9, 2) := dk_16 9 (dk_at dksX2_init_46 15 rfl rfl)
theorem dX2_init_1113 : decode cX2_init 1113 = .ok (.newarray .int, 2) := dk_188_10 (dk_at dksX2_init_46 17 rfl rfl)
theorem dX2_init_1115 : decode cX2_init 1115 = .ok (.putfield 68, 3) := dk_181 0 68 (dk_at dksX2_init_46 19 rfl rfl)
theorem dX2_init_1118 : decode cX2_init 1118 = .ok (.aload_n 0, 1) := dk_42 (dk_at dksX2_init_46 22 rfl rfl)
theorem dX2_init_1119 : decode cX2_init 1119 = .ok (.sipush 420, 3) := dk_17 1 164 (dk_at dksX2_init_47 0 rfl rfl)
theorem dX2_init_1122 : decode cX2_init 1122 = .ok (.newarray .int, 2) := dk_188_10 (dk_at dksX2_init_47 3 rfl rfl)
theorem dX2_init_1124 : decode cX2_init 1124 = .ok (.putfield 71, 3) := dk_181 0 71 (dk_at dksX2_init_47 5 rfl rfl)
theorem dX2_init_1127 : decode cX2_init 1127 = .ok (.aload_n 0, 1) := dk_42 (dk_at dksX2_init_47 8 rfl rfl)
theorem dX2_init_1128 : decode cX2_init 1128 = .ok (.bipush 40, 2) := dk_16 40 (dk_at dksX2_init_47 9 rfl rfl)
theorem dX2_init_1130 : decode cX2_init 1130 = .ok (.newarray .int, 2) := dk_188_10 (dk_at dksX2_init_47 11 rfl rfl)
theorem dX2_init_1132 : decode cX2_init 1132 = .ok (.putfield 74, 3) := dk_181 0 74 (dk_at dksX2_init_47 13 rfl rfl)
theorem dX2_init_1135 : decode cX2_init 1135 = .ok (.aload_n 0, 1) := dk_42 (dk_at dksX2_init_47 16 rfl rfl)
theorem dX2_init_1136 : decode cX2_init 1136 = .ok (.bipush 12, 2) := dk_16 12 (dk_at dksX2_init_47 17 rfl rfl)
theorem dX2_init_1138 : decode cX2_init 1138 = .ok (.newarray .int, 2) := dk_188_10 (dk_at dksX2_init_47 19 rfl rfl)
theorem dX2_init_1140 : decode cX2_init 1140 = .ok (.putfield 77, 3) := dk_181 0 77 (dk_at dksX2_init_47 21 rfl rfl)
theorem dX2_init_1143 : decode cX2_init 1143 = .ok (.aload_n 0, 1) := dk_42 (dk_at dksX2_init_48 0 rfl rfl)
theorem dX2_init_1144 : decode cX2_init 1144 = .ok (.bipush 12, 2) := dk_16 12 (dk_at dksX2_init_48 1 rfl rfl)
theorem dX2_init_1146 : decode cX2_init 1146 = .ok (.newarray .int, 2) := dk_188_10 (dk_at dksX2_init_48 3 rfl rfl)
theorem dX2_init_1148 : decode cX2_init 1148 = .ok (.putfield 80, 3) := dk_181 0 80 (dk_at dksX2_init_48 5 rfl rfl)
theorem dX2_init_1151 : decode cX2_init 1151 = .ok (.aload_n 0, 1) := dk_42 (dk_at dksX2_init_48 8 rfl rfl)
theorem dX2_init_1152 : decode cX2_init 1152 = .ok (.sipush 2000, 3) := dk_17 7 208 (dk_at dksX2_init_48 9 rfl rfl)
theorem dX2_init_1155 : decode cX2_init 1155 = .ok (.newarray .int, 2) := dk_188_10 (dk_at dksX2_init_48 12 rfl rfl)
theorem dX2_init_1157 : decode cX2_init 1157 = .ok (.putfield 83, 3) := dk_181 0 83 (dk_at dksX2_init_48 14 rfl rfl)
theorem dX2_init_1160 : decode cX2_init 1160 = .ok (.return_, 1) := dk_177 (dk_at dksX2_init_48 17 rfl rfl)
abbrev cX2_undo : ByteArray := prog_21_method_8_code
def yX2_undo : MethodName := ⟨RX2, "undo", "()Z"⟩
def dkwX2_undo_2 : List UInt8 := [27, 96, 46, 79, 132, 1, 1, 167, 255, 227, 4, 172]
abbrev dktX2_undo_2 : List UInt8 := dkwX2_undo_2 ++ []
def dkwX2_undo_1 : List UInt8 := [3, 60, 27, 16, 105, 162, 0, 29, 42, 180, 0, 7, 27, 42, 180, 0, 13, 16, 105, 42, 180, 0, 89, 104]
abbrev dktX2_undo_1 : List UInt8 := dkwX2_undo_1 ++ dktX2_undo_2
def dkwX2_undo_0 : List UInt8 := [42, 3, 181, 0, 86, 42, 180, 0, 89, 154, 0, 5, 3, 172, 42, 42, 180, 0, 89, 4, 100, 181, 0, 89]
abbrev dktX2_undo_0 : List UInt8 := dkwX2_undo_0 ++ dktX2_undo_1
theorem dksX2_undo_0 : cX2_undo.data.toList.drop 0 = dktX2_undo_0 := by decide +kernel
theorem dksX2_undo_1 : cX2_undo.data.toList.drop 24 = dktX2_undo_1 := dk_seg dksX2_undo_0 24 rfl rfl
theorem dksX2_undo_2 : cX2_undo.data.toList.drop 48 = dktX2_undo_2 := dk_seg dksX2_undo_1 24 rfl rfl
theorem dX2_undo_0 : decode cX2_undo 0 = .ok (.aload_n 0, 1) := dk_42 (dk_at dksX2_undo_0 0 rfl rfl)
theorem dX2_undo_1 : decode cX2_undo 1 = .ok (.iconst 0, 1) := dk_3 (dk_at dksX2_undo_0 1 rfl rfl)
theorem dX2_undo_2 : decode cX2_undo 2 = .ok (.putfield 86, 3) := dk_181 0 86 (dk_at dksX2_undo_0 2 rfl rfl)
theorem dX2_undo_5 : decode cX2_undo 5 = .ok (.aload_n 0, 1) := dk_42 (dk_at dksX2_undo_0 5 rfl rfl)
theorem dX2_undo_6 : decode cX2_undo 6 = .ok (.getfield 89, 3) := dk_180 0 89 (dk_at dksX2_undo_0 6 rfl rfl)
theorem dX2_undo_9 : decode cX2_undo 9 = .ok (.ifCond .ne 5, 3) := dk_154 0 5 (dk_at dksX2_undo_0 9 rfl rfl)
theorem dX2_undo_12 : decode cX2_undo 12 = .ok (.iconst 0, 1) := dk_3 (dk_at dksX2_undo_0 12 rfl rfl)
theorem dX2_undo_13 : decode cX2_undo 13 = .ok (.ireturn, 1) := dk_172 (dk_at dksX2_undo_0 13 rfl rfl)
theorem dX2_undo_14 : decode cX2_undo 14 = .ok (.aload_n 0, 1) := dk_42 (dk_at dksX2_undo_0 14 rfl rfl)
theorem dX2_undo_15 : decode cX2_undo 15 = .ok (.aload_n 0, 1) := dk_42 (dk_at dksX2_undo_0 15 rfl rfl)
theorem dX2_undo_16 : decode cX2_undo 16 = .ok (.getfield 89, 3) := dk_180 0 89 (dk_at dksX2_undo_0 16 rfl rfl)
theorem dX2_undo_19 : decode cX2_undo 19 = .ok (.iconst 1, 1) := dk_4 (dk_at dksX2_undo_0 19 rfl rfl)
theorem dX2_undo_20 : decode cX2_undo 20 = .ok (.isub, 1) := dk_100 (dk_at dksX2_undo_0 20 rfl rfl)
theorem dX2_undo_21 : decode cX2_undo 21 = .ok (.putfield 89, 3) := dk_181 0 89 (dk_at dksX2_undo_0 21 rfl rfl)
theorem dX2_undo_24 : decode cX2_undo 24 = .ok (.iconst 0, 1) := dk_3 (dk_at dksX2_undo_1 0 rfl rfl)
theorem dX2_undo_25 : decode cX2_undo 25 = .ok (.istore_n 1, 1) := dk_60 (dk_at dksX2_undo_1 1 rfl rfl)
theorem dX2_undo_26 : decode cX2_undo 26 = .ok (.iload_n 1, 1) := dk_27 (dk_at dksX2_undo_1 2 rfl rfl)
theorem dX2_undo_27 : decode cX2_undo 27 = .ok (.bipush 105, 2) := dk_16 105 (dk_at dksX2_undo_1 3 rfl rfl)
theorem dX2_undo_29 : decode cX2_undo 29 = .ok (.if_icmp .ge 29, 3) := dk_162 0 29 (dk_at dksX2_undo_1 5 rfl rfl)
theorem dX2_undo_32 : decode cX2_undo 32 = .ok (.aload_n 0, 1) := dk_42 (dk_at dksX2_undo_1 8 rfl rfl)
theorem dX2_undo_33 : decode cX2_undo 33 = .ok (.getfield 7, 3) := dk_180 0 7 (dk_at dksX2_undo_1 9 rfl rfl)
theorem dX2_undo_36 : decode cX2_undo 36 = .ok (.iload_n 1, 1) := dk_27 (dk_at dksX2_undo_1 12 rfl rfl)
theorem dX2_undo_37 : decode cX2_undo 37 = .ok (.aload_n 0, 1) := dk_42 (dk_at dksX2_undo_1 13 rfl rfl)
theorem dX2_undo_38 : decode cX2_undo 38 = .ok (.getfield 13, 3) := dk_180 0 13 (dk_at dksX2_undo_1 14 rfl rfl)
theorem dX2_undo_41 : decode cX2_undo 41 = .ok (.bipush 105, 2) := dk_16 105 (dk_at dksX2_undo_1 17 rfl rfl)
theorem dX2_undo_43 : decode cX2_undo 43 = .ok (.aload_n 0, 1) := dk_42 (dk_at dksX2_undo_1 19 rfl rfl)
theorem dX2_undo_44 : decode cX2_undo 44 = .ok (.getfield 89, 3) := dk_180 0 89 (dk_at dksX2_undo_1 20 rfl rfl)
theorem dX2_undo_47 : decode cX2_undo 47 = .ok (.imul, 1) := dk_104 (dk_at dksX2_undo_1 23 rfl rfl)
theorem dX2_undo_48 : decode cX2_undo 48 = .ok (.iload_n 1, 1) := dk_27 (dk_at dksX2_undo_2 0 rfl rfl)
theorem dX2_undo_49 : decode cX2_undo 49 = .ok (.iadd, 1) := dk_96 (dk_at dksX2_undo_2 1 rfl rfl)
theorem dX2_undo_50 : decode cX2_undo 50 = .ok (.iaload, 1) := dk_46 (dk_at dksX2_undo_2 2 rfl rfl)
theorem dX2_undo_51 : decode cX2_undo 51 = .ok (.iastore, 1) := dk_79 (dk_at dksX2_undo_2 3 rfl rfl)
theorem dX2_undo_52 : decode cX2_undo 52 = .ok (.iinc 1 1, 3) := dk_132 1 1 (dk_at dksX2_undo_2 4 rfl rfl)
theorem dX2_undo_55 : decode cX2_undo 55 = .ok (.goto (-29), 3) := dk_167 255 227 (dk_at dksX2_undo_2 7 rfl rfl)
theorem dX2_undo_58 : decode cX2_undo 58 = .ok (.iconst 1, 1) := dk_4 (dk_at dksX2_undo_2 10 rfl rfl)
theorem dX2_undo_59 : decode cX2_undo 59 = .ok (.ireturn, 1) := dk_172 (dk_at dksX2_undo_2 11 rfl rfl)
abbrev cX2_state : ByteArray := prog_21_method_11_code
def yX2_state : MethodName := ⟨RX2, "state", "(I)I"⟩
def dkwX2_state_1 : List UInt8 := [28, 172]
abbrev dktX2_state_1 : List UInt8 := dkwX2_state_1 ++ []
def dkwX2_state_0 : List UInt8 := [42, 3, 181, 0, 86, 42, 180, 0, 7, 4, 46, 61, 42, 180, 0, 7, 4, 27, 79, 42, 3, 181, 0, 89]
abbrev dktX2_state_0 : List UInt8 := dkwX2_state_0 ++ dktX2_state_1
theorem dksX2_state_0 : cX2_state.data.toList.drop 0 = dktX2_state_0 := by decide +kernel
theorem dksX2_state_1 : cX2_state.data.toList.drop 24 = dktX2_state_1 := dk_seg dksX2_state_0 24 rfl rfl
theorem dX2_state_0 : decode cX2_state 0 = .ok (.aload_n 0, 1) := dk_42 (dk_at dksX2_state_0 0 rfl rfl)
theorem dX2_state_1 : decode cX2_state 1 = .ok (.iconst 0, 1) := dk_3 (dk_at dksX2_state_0 1 rfl rfl)
theorem dX2_state_2 : decode cX2_state 2 = .ok (.putfield 86, 3) := dk_181 0 86 (dk_at dksX2_state_0 2 rfl rfl)
theorem dX2_state_5 : decode cX2_state 5 = .ok (.aload_n 0, 1) := dk_42 (dk_at dksX2_state_0 5 rfl rfl)
theorem dX2_state_6 : decode cX2_state 6 = .ok (.getfield 7, 3) := dk_180 0 7 (dk_at dksX2_state_0 6 rfl rfl)
theorem dX2_state_9 : decode cX2_state 9 = .ok (.iconst 1, 1) := dk_4 (dk_at dksX2_state_0 9 rfl rfl)
theorem dX2_state_10 : decode cX2_state 10 = .ok (.iaload, 1) := dk_46 (dk_at dksX2_state_0 10 rfl rfl)
theorem dX2_state_11 : decode cX2_state 11 = .ok (.istore_n 2, 1) := dk_61 (dk_at dksX2_state_0 11 rfl rfl)
theorem dX2_state_12 : decode cX2_state 12 = .ok (.aload_n 0, 1) := dk_42 (dk_at dksX2_state_0 12 rfl rfl)
theorem dX2_state_13 : decode cX2_state 13 = .ok (.getfield 7, 3) := dk_180 0 7 (dk_at dksX2_state_0 13 rfl rfl)
theorem dX2_state_16 : decode cX2_state 16 = .ok (.iconst 1, 1) := dk_4 (dk_at dksX2_state_0 16 rfl rfl)
theorem dX2_state_17 : decode cX2_state 17 = .ok (.iload_n 1, 1) := dk_27 (dk_at dksX2_state_0 17 rfl rfl)
theorem dX2_state_18 : decode cX2_state 18 = .ok (.iastore, 1) := dk_79 (dk_at dksX2_state_0 18 rfl rfl)
theorem dX2_state_19 : decode cX2_state 19 = .ok (.aload_n 0, 1) := dk_42 (dk_at dksX2_state_0 19 rfl rfl)
theorem dX2_state_20 : decode cX2_state 20 = .ok (.iconst 0, 1) := dk_3 (dk_at dksX2_state_0 20 rfl rfl)
theorem dX2_state_21 : decode cX2_state 21 = .ok (.putfield 89, 3) := dk_181 0 89 (dk_at dksX2_state_0 21 rfl rfl)
theorem dX2_state_24 : decode cX2_state 24 = .ok (.iload_n 2, 1) := dk_28 (dk_at dksX2_state_1 0 rfl rfl)
theorem dX2_state_25 : decode cX2_state 25 = .ok (.ireturn, 1) := dk_172 (dk_at dksX2_state_1 1 rfl rfl)
abbrev cX2_person : ByteArray := prog_21_method_19_code
def yX2_person : MethodName := ⟨RX2, "person", "(III)I"⟩
def dkwX2_person_2 : List UInt8 := [42, 3, 181, 0, 89, 42, 27, 28, 29, 182, 0, 110, 172]
abbrev dktX2_person_2 : List UInt8 := dkwX2_person_2 ++ []
def dkwX2_person_1 : List UInt8 := [153, 0, 22, 42, 29, 182, 0, 106, 153, 0, 14, 42, 180, 0, 7, 7, 46, 16, 12, 160, 0, 5, 2, 172]
abbrev dktX2_person_1 : List UInt8 := dkwX2_person_1 ++ dktX2_person_2
def dkwX2_person_0 : List UInt8 := [42, 3, 181, 0, 86, 42, 27, 3, 7, 182, 0, 102, 153, 0, 33, 42, 28, 4, 16, 9, 182, 0, 102]
abbrev dktX2_person_0 : List UInt8 := dkwX2_person_0 ++ dktX2_person_1
theorem dksX2_person_0 : cX2_person.data.toList.drop 0 = dktX2_person_0 := by decide +kernel
theorem dksX2_person_1 : cX2_person.data.toList.drop 23 = dktX2_person_1 := dk_seg dksX2_person_0 23 rfl rfl
theorem dksX2_person_2 : cX2_person.data.toList.drop 47 = dktX2_person_2 := dk_seg dksX2_person_1 24 rfl rfl
theorem dX2_person_0 : decode cX2_person 0 = .ok (.aload_n 0, 1) := dk_42 (dk_at dksX2_person_0 0 rfl rfl)
theorem dX2_person_1 : decode cX2_person 1 = .ok (.iconst 0, 1) := dk_3 (dk_at dksX2_person_0 1 rfl rfl)
theorem dX2_person_2 : decode cX2_person 2 = .ok (.putfield 86, 3) := dk_181 0 86 (dk_at dksX2_person_0 2 rfl rfl)
theorem dX2_person_5 : decode cX2_person 5 = .ok (.aload_n 0, 1) := dk_42 (dk_at dksX2_person_0 5 rfl rfl)
theorem dX2_person_6 : decode cX2_person 6 = .ok (.iload_n 1, 1) := dk_27 (dk_at dksX2_person_0 6 rfl rfl)
theorem dX2_person_7 : decode cX2_person 7 = .ok (.iconst 0, 1) := dk_3 (dk_at dksX2_person_0 7 rfl rfl)
theorem dX2_person_8 : decode cX2_person 8 = .ok (.iconst 4, 1) := dk_7 (dk_at dksX2_person_0 8 rfl rfl)
theorem dX2_person_9 : decode cX2_person 9 = .ok (.invokevirtual 102, 3) := dk_182 0 102 (dk_at dksX2_person_0 9 rfl rfl)
theorem dX2_person_12 : decode cX2_person 12 = .ok (.ifCond .eq 33, 3) := dk_153 0 33 (dk_at dksX2_person_0 12 rfl rfl)
theorem dX2_person_15 : decode cX2_person 15 = .ok (.aload_n 0, 1) := dk_42 (dk_at dksX2_person_0 15 rfl rfl)
theorem dX2_person_16 : decode cX2_person 16 = .ok (.iload_n 2, 1) := dk_28 (dk_at dksX2_person_0 16 rfl rfl)
theorem dX2_person_17 : decode cX2_person 17 = .ok (.iconst 1, 1) := dk_4 (dk_at dksX2_person_0 17 rfl rfl)
theorem dX2_person_18 : decode cX2_person 18 = .ok (.bipush 9, 2) := dk_16 9 (dk_at dksX2_person_0 18 rfl rfl)
theorem dX2_person_20 : decode cX2_person 20 = .ok (.invokevirtual 102, 3) := dk_182 0 102 (dk_at dksX2_person_0 20 rfl rfl)
theorem dX2_person_23 : decode cX2_person 23 = .ok (.ifCond .eq 22, 3) := dk_153 0 22 (dk_at dksX2_person_1 0 rfl rfl)
theorem dX2_person_26 : decode cX2_person 26 = .ok (.aload_n 0, 1) := dk_42 (dk_at dksX2_person_1 3 rfl rfl)
theorem dX2_person_27 : decode cX2_person 27 = .ok (.iload_n 3, 1) := dk_29 (dk_at dksX2_person_1 4 rfl rfl)
theorem dX2_person_28 : decode cX2_person 28 = .ok (.invokevirtual 106, 3) := dk_182 0 106 (dk_at dksX2_person_1 5 rfl rfl)
theorem dX2_person_31 : decode cX2_person 31 = .ok (.ifCond .eq 14, 3) := dk_153 0 14 (dk_at dksX2_person_1 8 rfl rfl)
theorem dX2_person_34 : decode cX2_person 34 = .ok (.aload_n 0, 1) := dk_42 (dk_at dksX2_person_1 11 rfl rfl)
theorem dX2_person_35 : decode cX2_person 35 = .ok (.getfield 7, 3) := dk_180 0 7 (dk_at dksX2_person_1 12 rfl rfl)
theorem dX2_person_38 : decode cX2_person 38 = .ok (.iconst 4, 1) := dk_7 (dk_at dksX2_person_1 15 rfl rfl)
theorem dX2_person_39 : decode cX2_person 39 = .ok (.iaload, 1) := dk_46 (dk_at dksX2_person_1 16 rfl rfl)
theorem dX2_person_40 : decode cX2_person 40 = .ok (.bipush 12, 2) := dk_16 12 (dk_at dksX2_person_1 17 rfl rfl)
theorem dX2_person_42 : decode cX2_person 42 = .ok (.if_icmp .ne 5, 3) := dk_160 0 5 (dk_at dksX2_person_1 19 rfl rfl)
theorem dX2_person_45 : decode cX2_person 45 = .ok (.iconst (-1), 1) := dk_2 (dk_at dksX2_person_1 22 rfl rfl)
theorem dX2_person_46 : decode cX2_person 46 = .ok (.ireturn, 1) := dk_172 (dk_at dksX2_person_1 23 rfl rfl)
theorem dX2_person_47 : decode cX2_person 47 = .ok (.aload_n 0, 1) := dk_42 (dk_at dksX2_person_2 0 rfl rfl)
theorem dX2_person_48 : decode cX2_person 48 = .ok (.iconst 0, 1) := dk_3 (dk_at dksX2_person_2 1 rfl rfl)
theorem dX2_person_49 : decode cX2_person 49 = .ok (.putfield 89, 3) := dk_181 0 89 (dk_at dksX2_person_2 2 rfl rfl)
theorem dX2_person_52 : decode cX2_person 52 = .ok (.aload_n 0, 1) := dk_42 (dk_at dksX2_person_2 5 rfl rfl)
theorem dX2_person_53 : decode cX2_person 53 = .ok (.iload_n 1, 1) := dk_27 (dk_at dksX2_person_2 6 rfl rfl)
theorem dX2_person_54 : decode cX2_person 54 = .ok (.iload_n 2, 1) := dk_28 (dk_at dksX2_person_2 7 rfl rfl)
theorem dX2_person_55 : decode cX2_person 55 = .ok (.iload_n 3, 1) := dk_29 (dk_at dksX2_person_2 8 rfl rfl)
theorem dX2_person_56 : decode cX2_person 56 = .ok (.invokevirtual 110, 3) := dk_182 0 110 (dk_at dksX2_person_2 9 rfl rfl)
theorem dX2_person_59 : decode cX2_person 59 = .ok (.ireturn, 1) := dk_172 (dk_at dksX2_person_2 12 rfl rfl)
abbrev cX2_isIn : ByteArray := prog_21_method_3_code
def yX2_isIn : MethodName := ⟨RX2, "isIn", "(III)Z"⟩
def dkwX2_isIn_0 : List UInt8 := [27, 28, 161, 0, 12, 27, 29, 163, 0, 7, 4, 167, 0, 4, 3, 172]
abbrev dktX2_isIn_0 : List UInt8 := dkwX2_isIn_0 ++ []
theorem dksX2_isIn_0 : cX2_isIn.data.toList.drop 0 = dktX2_isIn_0 := by decide +kernel
theorem dX2_isIn_0 : decode cX2_isIn 0 = .ok (.iload_n 1, 1) := dk_27 (dk_at dksX2_isIn_0 0 rfl rfl)
theorem dX2_isIn_1 : decode cX2_isIn 1 = .ok (.iload_n 2, 1) := dk_28 (dk_at dksX2_isIn_0 1 rfl rfl)
theorem dX2_isIn_2 : decode cX2_isIn 2 = .ok (.if_icmp .lt 12, 3) := dk_161 0 12 (dk_at dksX2_isIn_0 2 rfl rfl)
theorem dX2_isIn_5 : decode cX2_isIn 5 = .ok (.iload_n 1, 1) := dk_27 (dk_at dksX2_isIn_0 5 rfl rfl)
theorem dX2_isIn_6 : decode cX2_isIn 6 = .ok (.iload_n 3, 1) := dk_29 (dk_at dksX2_isIn_0 6 rfl rfl)
theorem dX2_isIn_7 : decode cX2_isIn 7 = .ok (.if_icmp .gt 7, 3) := dk_163 0 7 (dk_at dksX2_isIn_0 7 rfl rfl)
theorem dX2_isIn_10 : decode cX2_isIn 10 = .ok (.iconst 1, 1) := dk_4 (dk_at dksX2_isIn_0 10 rfl rfl)
theorem dX2_isIn_11 : decode cX2_isIn 11 = .ok (.goto 4, 3) := dk_167 0 4 (dk_at dksX2_isIn_0 11 rfl rfl)
theorem dX2_isIn_14 : decode cX2_isIn 14 = .ok (.iconst 0, 1) := dk_3 (dk_at dksX2_isIn_0 14 rfl rfl)
theorem dX2_isIn_15 : decode cX2_isIn 15 = .ok (.ireturn, 1) := dk_172 (dk_at dksX2_isIn_0 15 rfl rfl)
abbrev cX2_isIsland : ByteArray := prog_21_method_14_code
def yX2_isIsland : MethodName := ⟨RX2, "isIsland", "(I)Z"⟩
def dkwX2_isIsland_0 : List UInt8 := [27, 155, 0, 13, 27, 16, 8, 162, 0, 7, 4, 167, 0, 4, 3, 172]
abbrev dktX2_isIsland_0 : List UInt8 := dkwX2_isIsland_0 ++ []
theorem dksX2_isIsland_0 : cX2_isIsland.data.toList.drop 0 = dktX2_isIsland_0 := by decide +kernel
theorem dX2_isIsland_0 : decode cX2_isIsland 0 = .ok (.iload_n 1, 1) := dk_27 (dk_at dksX2_isIsland_0 0 rfl rfl)
theorem dX2_isIsland_1 : decode cX2_isIsland 1 = .ok (.ifCond .lt 13, 3) := dk_155 0 13 (dk_at dksX2_isIsland_0 1 rfl rfl)
theorem dX2_isIsland_4 : decode cX2_isIsland 4 = .ok (.iload_n 1, 1) := dk_27 (dk_at dksX2_isIsland_0 4 rfl rfl)
theorem dX2_isIsland_5 : decode cX2_isIsland 5 = .ok (.bipush 8, 2) := dk_16 8 (dk_at dksX2_isIsland_0 5 rfl rfl)
theorem dX2_isIsland_7 : decode cX2_isIsland 7 = .ok (.if_icmp .ge 7, 3) := dk_162 0 7 (dk_at dksX2_isIsland_0 7 rfl rfl)
theorem dX2_isIsland_10 : decode cX2_isIsland 10 = .ok (.iconst 1, 1) := dk_4 (dk_at dksX2_isIsland_0 10 rfl rfl)
theorem dX2_isIsland_11 : decode cX2_isIsland 11 = .ok (.goto 4, 3) := dk_167 0 4 (dk_at dksX2_isIsland_0 11 rfl rfl)
theorem dX2_isIsland_14 : decode cX2_isIsland 14 = .ok (.iconst 0, 1) := dk_3 (dk_at dksX2_isIsland_0 14 rfl rfl)
theorem dX2_isIsland_15 : decode cX2_isIsland 15 = .ok (.ireturn, 1) := dk_172 (dk_at dksX2_isIsland_0 15 rfl rfl)
abbrev cX2_comes : ByteArray := prog_21_method_18_code
def yX2_comes : MethodName := ⟨RX2, "comes", "(III)I"⟩
def dkwX2_comes_3 : List UInt8 := [96, 79, 21, 4, 172]
abbrev dktX2_comes_3 : List UInt8 := dkwX2_comes_3 ++ []
def dkwX2_comes_2 : List UInt8 := [21, 4, 96, 3, 79, 42, 180, 0, 7, 16, 93, 21, 4, 96, 3, 79, 42, 180, 0, 7, 7, 21, 4, 4]
abbrev dktX2_comes_2 : List UInt8 := dkwX2_comes_2 ++ dktX2_comes_3
def dkwX2_comes_1 : List UInt8 := [16, 57, 21, 4, 96, 28, 79, 42, 180, 0, 7, 16, 69, 21, 4, 96, 29, 79, 42, 180, 0, 7, 16, 81]
abbrev dktX2_comes_1 : List UInt8 := dkwX2_comes_1 ++ dktX2_comes_2
def dkwX2_comes_0 : List UInt8 := [42, 180, 0, 7, 7, 46, 54, 4, 42, 180, 0, 7, 16, 45, 21, 4, 96, 27, 79, 42, 180, 0, 7]
abbrev dktX2_comes_0 : List UInt8 := dkwX2_comes_0 ++ dktX2_comes_1
theorem dksX2_comes_0 : cX2_comes.data.toList.drop 0 = dktX2_comes_0 := by decide +kernel
theorem dksX2_comes_1 : cX2_comes.data.toList.drop 23 = dktX2_comes_1 := dk_seg dksX2_comes_0 23 rfl rfl
theorem dksX2_comes_2 : cX2_comes.data.toList.drop 47 = dktX2_comes_2 := dk_seg dksX2_comes_1 24 rfl rfl
theorem dksX2_comes_3 : cX2_comes.data.toList.drop 71 = dktX2_comes_3 := dk_seg dksX2_comes_2 24 rfl rfl
theorem dX2_comes_0 : decode cX2_comes 0 = .ok (.aload_n 0, 1) := dk_42 (dk_at dksX2_comes_0 0 rfl rfl)
theorem dX2_comes_1 : decode cX2_comes 1 = .ok (.getfield 7, 3) := dk_180 0 7 (dk_at dksX2_comes_0 1 rfl rfl)
theorem dX2_comes_4 : decode cX2_comes 4 = .ok (.iconst 4, 1) := dk_7 (dk_at dksX2_comes_0 4 rfl rfl)
theorem dX2_comes_5 : decode cX2_comes 5 = .ok (.iaload, 1) := dk_46 (dk_at dksX2_comes_0 5 rfl rfl)
theorem dX2_comes_6 : decode cX2_comes 6 = .ok (.istore 4, 2) := dk_54 4 (dk_at dksX2_comes_0 6 rfl rfl)
theorem dX2_comes_8 : decode cX2_comes 8 = .ok (.aload_n 0, 1) := dk_42 (dk_at dksX2_comes_0 8 rfl rfl)
theorem dX2_comes_9 : decode cX2_comes 9 = .ok (.getfield 7, 3) := dk_180 0 7 (dk_at dksX2_comes_0 9 rfl rfl)
theorem dX2_comes_12 : decode cX2_comes 12 = .ok (.bipush 45, 2) := dk_16 45 (dk_at dksX2_comes_0 12 rfl rfl)
theorem dX2_comes_14 : decode cX2_comes 14 = .ok (.iload 4, 2) := dk_21 4 (dk_at dksX2_comes_0 14 rfl rfl)
theorem dX2_comes_16 : decode cX2_comes 16 = .ok (.iadd, 1) := dk_96 (dk_at dksX2_comes_0 16 rfl rfl)
theorem dX2_comes_17 : decode cX2_comes 17 = .ok (.iload_n 1, 1) := dk_27 (dk_at dksX2_comes_0 17 rfl rfl)
theorem dX2_comes_18 : decode cX2_comes 18 = .ok (.iastore, 1) := dk_79 (dk_at dksX2_comes_0 18 rfl rfl)
theorem dX2_comes_19 : decode cX2_comes 19 = .ok (.aload_n 0, 1) := dk_42 (dk_at dksX2_comes_0 19 rfl rfl)
theorem dX2_comes_20 : decode cX2_comes 20 = .ok (.getfield 7, 3) := dk_180 0 7 (dk_at dksX2_comes_0 20 rfl rfl)
theorem dX2_comes_23 : decode cX2_comes 23 = .ok (.bipush 57, 2) := dk_16 57 (dk_at dksX2_comes_1 0 rfl rfl)
theorem dX2_comes_25 : decode cX2_comes 25 = .ok (.iload 4, 2) := dk_21 4 (dk_at dksX2_comes_1 2 rfl rfl)
theorem dX2_comes_27 : decode cX2_comes 27 = .ok (.iadd, 1) := dk_96 (dk_at dksX2_comes_1 4 rfl rfl)
theorem dX2_comes_28 : decode cX2_comes 28 = .ok (.iload_n 2, 1) := dk_28 (dk_at dksX2_comes_1 5 rfl rfl)
theorem dX2_comes_29 : decode cX2_comes 29 = .ok (.iastore, 1) := dk_79 (dk_at dksX2_comes_1 6 rfl rfl)
theorem dX2_comes_30 : decode cX2_comes 30 = .ok (.aload_n 0, 1) := dk_42 (dk_at dksX2_comes_1 7 rfl rfl)
theorem dX2_comes_31 : decode cX2_comes 31 = .ok (.getfield 7, 3) := dk_180 0 7 (dk_at dksX2_comes_1 8 rfl rfl)
theorem dX2_comes_34 : decode cX2_comes 34 = .ok (.bipush 69, 2) := dk_16 69 (dk_at dksX2_comes_1 11 rfl rfl)
theorem dX2_comes_36 : decode cX2_comes 36 = .ok (.iload 4, 2) := dk_21 4 (dk_at dksX2_comes_1 13 rfl rfl)
theorem dX2_comes_38 : decode cX2_comes 38 = .ok (.iadd, 1) := dk_96 (dk_at dksX2_comes_1 15 rfl rfl)
theorem dX2_comes_39 : decode cX2_comes 39 = .ok (.iload_n 3, 1) := dk_29 (dk_at dksX2_comes_1 16 rfl rfl)
theorem dX2_comes_40 : decode cX2_comes 40 = .ok (.iastore, 1) := dk_79 (dk_at dksX2_comes_1 17 rfl rfl)
theorem dX2_comes_41 : decode cX2_comes 41 = .ok (.aload_n 0, 1) := dk_42 (dk_at dksX2_comes_1 18 rfl rfl)
theorem dX2_comes_42 : decode cX2_comes 42 = .ok (.getfield 7, 3) := dk_180 0 7 (dk_at dksX2_comes_1 19 rfl rfl)
theorem dX2_comes_45 : decode cX2_comes 45 = .ok (.bipush 81, 2) := dk_16 81 (dk_at dksX2_comes_1 22 rfl rfl)
theorem dX2_comes_47 : decode cX2_comes 47 = .ok (.iload 4, 2) := dk_21 4 (dk_at dksX2_comes_2 0 rfl rfl)
theorem dX2_comes_49 : decode cX2_comes 49 = .ok (.iadd, 1) := dk_96 (dk_at dksX2_comes_2 2 rfl rfl)
theorem dX2_comes_50 : decode cX2_comes 50 = .ok (.iconst 0, 1) := dk_3 (dk_at dksX2_comes_2 3 rfl rfl)
theorem dX2_comes_51 : decode cX2_comes 51 = .ok (.iastore, 1) := dk_79 (dk_at dksX2_comes_2 4 rfl rfl)
theorem dX2_comes_52 : decode cX2_comes 52 = .ok (.aload_n 0, 1) := dk_42 (dk_at dksX2_comes_2 5 rfl rfl)
theorem dX2_comes_53 : decode cX2_comes 53 = .ok (.getfield 7, 3) := dk_180 0 7 (dk_at dksX2_comes_2 6 rfl rfl)
theorem dX2_comes_56 : decode cX2_comes 56 = .ok (.bipush 93, 2) := dk_16 93 (dk_at dksX2_comes_2 9 rfl rfl)
theorem dX2_comes_58 : decode cX2_comes 58 = .ok (.iload 4, 2) := dk_21 4 (dk_at dksX2_comes_2 11 rfl rfl)
theorem dX2_comes_60 : decode cX2_comes 60 = .ok (.iadd, 1) := dk_96 (dk_at dksX2_comes_2 13 rfl rfl)
theorem dX2_comes_61 : decode cX2_comes 61 = .ok (.iconst 0, 1) := dk_3 (dk_at dksX2_comes_2 14 rfl rfl)
theorem dX2_comes_62 : decode cX2_comes 62 = .ok (.iastore, 1) := dk_79 (dk_at dksX2_comes_2 15 rfl rfl)
theorem dX2_comes_63 : decode cX2_comes 63 = .ok (.aload_n 0, 1) := dk_42 (dk_at dksX2_comes_2 16 rfl rfl)
theorem dX2_comes_64 : decode cX2_comes 64 = .ok (.getfield 7, 3) := dk_180 0 7 (dk_at dksX2_comes_2 17 rfl rfl)
theorem dX2_comes_67 : decode cX2_comes 67 = .ok (.iconst 4, 1) := dk_7 (dk_at dksX2_comes_2 20 rfl rfl)
theorem dX2_comes_68 : decode cX2_comes 68 = .ok (.iload 4, 2) := dk_21 4 (dk_at dksX2_comes_2 21 rfl rfl)
theorem dX2_comes_70 : decode cX2_comes 70 = .ok (.iconst 1, 1) := dk_4 (dk_at dksX2_comes_2 23 rfl rfl)
theorem dX2_comes_71 : decode cX2_comes 71 = .ok (.iadd, 1) := dk_96 (dk_at dksX2_comes_3 0 rfl rfl)
theorem dX2_comes_72 : decode cX2_comes 72 = .ok (.iastore, 1) := dk_79 (dk_at dksX2_comes_3 1 rfl rfl)
theorem dX2_comes_73 : decode cX2_comes 73 = .ok (.iload 4, 2) := dk_21 4 (dk_at dksX2_comes_3 2 rfl rfl)
theorem dX2_comes_75 : decode cX2_comes 75 = .ok (.ireturn, 1) := dk_172 (dk_at dksX2_comes_3 4 rfl rfl)
abbrev cX2_sky : ByteArray := prog_21_method_20_code
def yX2_sky : MethodName := ⟨RX2, "sky", "(III)Z"⟩
def dkwX2_sky_2 : List UInt8 := [4, 172]
abbrev dktX2_sky_2 : List UInt8 := dkwX2_sky_2 ++ []
def dkwX2_sky_1 : List UInt8 := [29, 3, 16, 99, 182, 0, 102, 154, 0, 5, 3, 172, 42, 27, 28, 29, 182, 0, 113, 42, 3, 181, 0, 89]
abbrev dktX2_sky_1 : List UInt8 := dkwX2_sky_1 ++ dktX2_sky_2
def dkwX2_sky_0 : List UInt8 := [42, 3, 181, 0, 86, 42, 27, 182, 0, 106, 153, 0, 24, 42, 28, 3, 7, 182, 0, 102, 153, 0, 14, 42]
abbrev dktX2_sky_0 : List UInt8 := dkwX2_sky_0 ++ dktX2_sky_1
theorem dksX2_sky_0 : cX2_sky.data.toList.drop 0 = dktX2_sky_0 := by decide +kernel
theorem dksX2_sky_1 : cX2_sky.data.toList.drop 24 = dktX2_sky_1 := dk_seg dksX2_sky_0 24 rfl rfl
theorem dksX2_sky_2 : cX2_sky.data.toList.drop 48 = dktX2_sky_2 := dk_seg dksX2_sky_1 24 rfl rfl
theorem dX2_sky_0 : decode cX2_sky 0 = .ok (.aload_n 0, 1) := dk_42 (dk_at dksX2_sky_0 0 rfl rfl)
theorem dX2_sky_1 : decode cX2_sky 1 = .ok (.iconst 0, 1) := dk_3 (dk_at dksX2_sky_0 1 rfl rfl)
theorem dX2_sky_2 : decode cX2_sky 2 = .ok (.putfield 86, 3) := dk_181 0 86 (dk_at dksX2_sky_0 2 rfl rfl)
theorem dX2_sky_5 : decode cX2_sky 5 = .ok (.aload_n 0, 1) := dk_42 (dk_at dksX2_sky_0 5 rfl rfl)
theorem dX2_sky_6 : decode cX2_sky 6 = .ok (.iload_n 1, 1) := dk_27 (dk_at dksX2_sky_0 6 rfl rfl)
theorem dX2_sky_7 : decode cX2_sky 7 = .ok (.invokevirtual 106, 3) := dk_182 0 106 (dk_at dksX2_sky_0 7 rfl rfl)
theorem dX2_sky_10 : decode cX2_sky 10 = .ok (.ifCond .eq 24, 3) := dk_153 0 24 (dk_at dksX2_sky_0 10 rfl rfl)
theorem dX2_sky_13 : decode cX2_sky 13 = .ok (.aload_n 0, 1) := dk_42 (dk_at dksX2_sky_0 13 rfl rfl)
theorem dX2_sky_14 : decode cX2_sky 14 = .ok (.iload_n 2, 1) := dk_28 (dk_at dksX2_sky_0 14 rfl rfl)
theorem dX2_sky_15 : decode cX2_sky 15 = .ok (.iconst 0, 1) := dk_3 (dk_at dksX2_sky_0 15 rfl rfl)
theorem dX2_sky_16 : decode cX2_sky 16 = .ok (.iconst 4, 1) := dk_7 (dk_at dksX2_sky_0 16 rfl rfl)
theorem dX2_sky_17 : decode cX2_sky 17 = .ok (.invokevirtual 102, 3) := dk_182 0 102 (dk_at dksX2_sky_0 17 rfl rfl)
theorem dX2_sky_20 : decode cX2_sky 20 = .ok (.ifCond .eq 14, 3) := dk_153 0 14 (dk_at dksX2_sky_0 20 rfl rfl)
theorem dX2_sky_23 : decode cX2_sky 23 = .ok (.aload_n 0, 1) := dk_42 (dk_at dksX2_sky_0 23 rfl rfl)
theorem dX2_sky_24 : decode cX2_sky 24 = .ok (.iload_n 3, 1) := dk_29 (dk_at dksX2_sky_1 0 rfl rfl)
theorem dX2_sky_25 : decode cX2_sky 25 = .ok (.iconst 0, 1) := dk_3 (dk_at dksX2_sky_1 1 rfl rfl)
theorem dX2_sky_26 : decode cX2_sky 26 = .ok (.bipush 99, 2) := dk_16 99 (dk_at dksX2_sky_1 2 rfl rfl)
theorem dX2_sky_28 : decode cX2_sky 28 = .ok (.invokevirtual 102, 3) := dk_182 0 102 (dk_at dksX2_sky_1 4 rfl rfl)
theorem dX2_sky_31 : decode cX2_sky 31 = .ok (.ifCond .ne 5, 3) := dk_154 0 5 (dk_at dksX2_sky_1 7 rfl rfl)
theorem dX2_sky_34 : decode cX2_sky 34 = .ok (.iconst 0, 1) := dk_3 (dk_at dksX2_sky_1 10 rfl rfl)
theorem dX2_sky_35 : decode cX2_sky 35 = .ok (.ireturn, 1) := dk_172 (dk_at dksX2_sky_1 11 rfl rfl)
theorem dX2_sky_36 : decode cX2_sky 36 = .ok (.aload_n 0, 1) := dk_42 (dk_at dksX2_sky_1 12 rfl rfl)
theorem dX2_sky_37 : decode cX2_sky 37 = .ok (.iload_n 1, 1) := dk_27 (dk_at dksX2_sky_1 13 rfl rfl)
theorem dX2_sky_38 : decode cX2_sky 38 = .ok (.iload_n 2, 1) := dk_28 (dk_at dksX2_sky_1 14 rfl rfl)
theorem dX2_sky_39 : decode cX2_sky 39 = .ok (.iload_n 3, 1) := dk_29 (dk_at dksX2_sky_1 15 rfl rfl)
theorem dX2_sky_40 : decode cX2_sky 40 = .ok (.invokevirtual 113, 3) := dk_182 0 113 (dk_at dksX2_sky_1 16 rfl rfl)
theorem dX2_sky_43 : decode cX2_sky 43 = .ok (.aload_n 0, 1) := dk_42 (dk_at dksX2_sky_1 19 rfl rfl)
theorem dX2_sky_44 : decode cX2_sky 44 = .ok (.iconst 0, 1) := dk_3 (dk_at dksX2_sky_1 20 rfl rfl)
theorem dX2_sky_45 : decode cX2_sky 45 = .ok (.putfield 89, 3) := dk_181 0 89 (dk_at dksX2_sky_1 21 rfl rfl)
theorem dX2_sky_48 : decode cX2_sky 48 = .ok (.iconst 1, 1) := dk_4 (dk_at dksX2_sky_2 0 rfl rfl)
theorem dX2_sky_49 : decode cX2_sky 49 = .ok (.ireturn, 1) := dk_172 (dk_at dksX2_sky_2 1 rfl rfl)
abbrev cX2_skyBe : ByteArray := prog_21_method_17_code
def yX2_skyBe : MethodName := ⟨RX2, "skyBe", "(III)V"⟩
def dkwX2_skyBe_0 : List UInt8 := [42, 180, 0, 7, 8, 8, 27, 104, 96, 28, 96, 42, 29, 3, 16, 99, 182, 0, 98, 79, 177]
abbrev dktX2_skyBe_0 : List UInt8 := dkwX2_skyBe_0 ++ []
theorem dksX2_skyBe_0 : cX2_skyBe.data.toList.drop 0 = dktX2_skyBe_0 := by decide +kernel
theorem dX2_skyBe_0 : decode cX2_skyBe 0 = .ok (.aload_n 0, 1) := dk_42 (dk_at dksX2_skyBe_0 0 rfl rfl)
theorem dX2_skyBe_1 : decode cX2_skyBe 1 = .ok (.getfield 7, 3) := dk_180 0 7 (dk_at dksX2_skyBe_0 1 rfl rfl)
theorem dX2_skyBe_4 : decode cX2_skyBe 4 = .ok (.iconst 5, 1) := dk_8 (dk_at dksX2_skyBe_0 4 rfl rfl)
theorem dX2_skyBe_5 : decode cX2_skyBe 5 = .ok (.iconst 5, 1) := dk_8 (dk_at dksX2_skyBe_0 5 rfl rfl)
theorem dX2_skyBe_6 : decode cX2_skyBe 6 = .ok (.iload_n 1, 1) := dk_27 (dk_at dksX2_skyBe_0 6 rfl rfl)
theorem dX2_skyBe_7 : decode cX2_skyBe 7 = .ok (.imul, 1) := dk_104 (dk_at dksX2_skyBe_0 7 rfl rfl)
theorem dX2_skyBe_8 : decode cX2_skyBe 8 = .ok (.iadd, 1) := dk_96 (dk_at dksX2_skyBe_0 8 rfl rfl)
theorem dX2_skyBe_9 : decode cX2_skyBe 9 = .ok (.iload_n 2, 1) := dk_28 (dk_at dksX2_skyBe_0 9 rfl rfl)
theorem dX2_skyBe_10 : decode cX2_skyBe 10 = .ok (.iadd, 1) := dk_96 (dk_at dksX2_skyBe_0 10 rfl rfl)
theorem dX2_skyBe_11 : decode cX2_skyBe 11 = .ok (.aload_n 0, 1) := dk_42 (dk_at dksX2_skyBe_0 11 rfl rfl)
theorem dX2_skyBe_12 : decode cX2_skyBe 12 = .ok (.iload_n 3, 1) := dk_29 (dk_at dksX2_skyBe_0 12 rfl rfl)
theorem dX2_skyBe_13 : decode cX2_skyBe 13 = .ok (.iconst 0, 1) := dk_3 (dk_at dksX2_skyBe_0 13 rfl rfl)
theorem dX2_skyBe_14 : decode cX2_skyBe 14 = .ok (.bipush 99, 2) := dk_16 99 (dk_at dksX2_skyBe_0 14 rfl rfl)
theorem dX2_skyBe_16 : decode cX2_skyBe 16 = .ok (.invokevirtual 98, 3) := dk_182 0 98 (dk_at dksX2_skyBe_0 16 rfl rfl)
theorem dX2_skyBe_19 : decode cX2_skyBe 19 = .ok (.iastore, 1) := dk_79 (dk_at dksX2_skyBe_0 19 rfl rfl)
theorem dX2_skyBe_20 : decode cX2_skyBe 20 = .ok (.return_, 1) := dk_177 (dk_at dksX2_skyBe_0 20 rfl rfl)
abbrev cX2_held : ByteArray := prog_21_method_4_code
def yX2_held : MethodName := ⟨RX2, "held", "(III)I"⟩
def dkwX2_held_0 : List UInt8 := [27, 28, 162, 0, 7, 28, 167, 0, 13, 27, 29, 164, 0, 7, 29, 167, 0, 4, 27, 172]
abbrev dktX2_held_0 : List UInt8 := dkwX2_held_0 ++ []
theorem dksX2_held_0 : cX2_held.data.toList.drop 0 = dktX2_held_0 := by decide +kernel
theorem dX2_held_0 : decode cX2_held 0 = .ok (.iload_n 1, 1) := dk_27 (dk_at dksX2_held_0 0 rfl rfl)
theorem dX2_held_1 : decode cX2_held 1 = .ok (.iload_n 2, 1) := dk_28 (dk_at dksX2_held_0 1 rfl rfl)
theorem dX2_held_2 : decode cX2_held 2 = .ok (.if_icmp .ge 7, 3) := dk_162 0 7 (dk_at dksX2_held_0 2 rfl rfl)
theorem dX2_held_5 : decode cX2_held 5 = .ok (.iload_n 2, 1) := dk_28 (dk_at dksX2_held_0 5 rfl rfl)
theorem dX2_held_6 : decode cX2_held 6 = .ok (.goto 13, 3) := dk_167 0 13 (dk_at dksX2_held_0 6 rfl rfl)
theorem dX2_held_9 : decode cX2_held 9 = .ok (.iload_n 1, 1) := dk_27 (dk_at dksX2_held_0 9 rfl rfl)
theorem dX2_held_10 : decode cX2_held 10 = .ok (.iload_n 3, 1) := dk_29 (dk_at dksX2_held_0 10 rfl rfl)
theorem dX2_held_11 : decode cX2_held 11 = .ok (.if_icmp .le 7, 3) := dk_164 0 7 (dk_at dksX2_held_0 11 rfl rfl)
theorem dX2_held_14 : decode cX2_held 14 = .ok (.iload_n 3, 1) := dk_29 (dk_at dksX2_held_0 14 rfl rfl)
theorem dX2_held_15 : decode cX2_held 15 = .ok (.goto 4, 3) := dk_167 0 4 (dk_at dksX2_held_0 15 rfl rfl)
theorem dX2_held_18 : decode cX2_held 18 = .ok (.iload_n 1, 1) := dk_27 (dk_at dksX2_held_0 18 rfl rfl)
theorem dX2_held_19 : decode cX2_held 19 = .ok (.ireturn, 1) := dk_172 (dk_at dksX2_held_0 19 rfl rfl)
abbrev cX2_cry : ByteArray := prog_21_method_21_code
def yX2_cry : MethodName := ⟨RX2, "cry", "(I)Z"⟩
def dkwX2_cry_1 : List UInt8 := [42, 3, 181, 0, 89, 4, 172]
abbrev dktX2_cry_1 : List UInt8 := dkwX2_cry_1 ++ []
def dkwX2_cry_0 : List UInt8 := [42, 3, 181, 0, 86, 42, 27, 3, 17, 3, 232, 182, 0, 102, 154, 0, 5, 3, 172, 42, 27, 181, 0, 117]
abbrev dktX2_cry_0 : List UInt8 := dkwX2_cry_0 ++ dktX2_cry_1
theorem dksX2_cry_0 : cX2_cry.data.toList.drop 0 = dktX2_cry_0 := by decide +kernel
theorem dksX2_cry_1 : cX2_cry.data.toList.drop 24 = dktX2_cry_1 := dk_seg dksX2_cry_0 24 rfl rfl
theorem dX2_cry_0 : decode cX2_cry 0 = .ok (.aload_n 0, 1) := dk_42 (dk_at dksX2_cry_0 0 rfl rfl)
theorem dX2_cry_1 : decode cX2_cry 1 = .ok (.iconst 0, 1) := dk_3 (dk_at dksX2_cry_0 1 rfl rfl)
theorem dX2_cry_2 : decode cX2_cry 2 = .ok (.putfield 86, 3) := dk_181 0 86 (dk_at dksX2_cry_0 2 rfl rfl)
theorem dX2_cry_5 : decode cX2_cry 5 = .ok (.aload_n 0, 1) := dk_42 (dk_at dksX2_cry_0 5 rfl rfl)
theorem dX2_cry_6 : decode cX2_cry 6 = .ok (.iload_n 1, 1) := dk_27 (dk_at dksX2_cry_0 6 rfl rfl)
theorem dX2_cry_7 : decode cX2_cry 7 = .ok (.iconst 0, 1) := dk_3 (dk_at dksX2_cry_0 7 rfl rfl)
theorem dX2_cry_8 : decode cX2_cry 8 = .ok (.sipush 1000, 3) := dk_17 3 232 (dk_at dksX2_cry_0 8 rfl rfl)
theorem dX2_cry_11 : decode cX2_cry 11 = .ok (.invokevirtual 102, 3) := dk_182 0 102 (dk_at dksX2_cry_0 11 rfl rfl)
theorem dX2_cry_14 : decode cX2_cry 14 = .ok (.ifCond .ne 5, 3) := dk_154 0 5 (dk_at dksX2_cry_0 14 rfl rfl)
theorem dX2_cry_17 : decode cX2_cry 17 = .ok (.iconst 0, 1) := dk_3 (dk_at dksX2_cry_0 17 rfl rfl)
theorem dX2_cry_18 : decode cX2_cry 18 = .ok (.ireturn, 1) := dk_172 (dk_at dksX2_cry_0 18 rfl rfl)
theorem dX2_cry_19 : decode cX2_cry 19 = .ok (.aload_n 0, 1) := dk_42 (dk_at dksX2_cry_0 19 rfl rfl)
theorem dX2_cry_20 : decode cX2_cry 20 = .ok (.iload_n 1, 1) := dk_27 (dk_at dksX2_cry_0 20 rfl rfl)
theorem dX2_cry_21 : decode cX2_cry 21 = .ok (.putfield 117, 3) := dk_181 0 117 (dk_at dksX2_cry_0 21 rfl rfl)
theorem dX2_cry_24 : decode cX2_cry 24 = .ok (.aload_n 0, 1) := dk_42 (dk_at dksX2_cry_1 0 rfl rfl)
theorem dX2_cry_25 : decode cX2_cry 25 = .ok (.iconst 0, 1) := dk_3 (dk_at dksX2_cry_1 1 rfl rfl)
theorem dX2_cry_26 : decode cX2_cry 26 = .ok (.putfield 89, 3) := dk_181 0 89 (dk_at dksX2_cry_1 2 rfl rfl)
theorem dX2_cry_29 : decode cX2_cry 29 = .ok (.iconst 1, 1) := dk_4 (dk_at dksX2_cry_1 5 rfl rfl)
theorem dX2_cry_30 : decode cX2_cry 30 = .ok (.ireturn, 1) := dk_172 (dk_at dksX2_cry_1 6 rfl rfl)
abbrev cX2_route : ByteArray := prog_21_method_22_code
def yX2_route : MethodName := ⟨RX2, "route", "(II)Z"⟩
def dkwX2_route_2 : List UInt8 := [172]
abbrev dktX2_route_2 : List UInt8 := dkwX2_route_2 ++ []
def dkwX2_route_1 : List UInt8 := [28, 182, 0, 106, 154, 0, 5, 3, 172, 42, 180, 0, 19, 27, 28, 4, 96, 79, 42, 3, 181, 0, 89, 4]
abbrev dktX2_route_1 : List UInt8 := dkwX2_route_1 ++ dktX2_route_2
def dkwX2_route_0 : List UInt8 := [42, 3, 181, 0, 86, 42, 27, 182, 0, 106, 153, 0, 21, 28, 27, 159, 0, 16, 28, 2, 159, 0, 13, 42]
abbrev dktX2_route_0 : List UInt8 := dkwX2_route_0 ++ dktX2_route_1
theorem dksX2_route_0 : cX2_route.data.toList.drop 0 = dktX2_route_0 := by decide +kernel
theorem dksX2_route_1 : cX2_route.data.toList.drop 24 = dktX2_route_1 := dk_seg dksX2_route_0 24 rfl rfl
theorem dksX2_route_2 : cX2_route.data.toList.drop 48 = dktX2_route_2 := dk_seg dksX2_route_1 24 rfl rfl
theorem dX2_route_0 : decode cX2_route 0 = .ok (.aload_n 0, 1) := dk_42 (dk_at dksX2_route_0 0 rfl rfl)
theorem dX2_route_1 : decode cX2_route 1 = .ok (.iconst 0, 1) := dk_3 (dk_at dksX2_route_0 1 rfl rfl)
theorem dX2_route_2 : decode cX2_route 2 = .ok (.putfield 86, 3) := dk_181 0 86 (dk_at dksX2_route_0 2 rfl rfl)
theorem dX2_route_5 : decode cX2_route 5 = .ok (.aload_n 0, 1) := dk_42 (dk_at dksX2_route_0 5 rfl rfl)
theorem dX2_route_6 : decode cX2_route 6 = .ok (.iload_n 1, 1) := dk_27 (dk_at dksX2_route_0 6 rfl rfl)
theorem dX2_route_7 : decode cX2_route 7 = .ok (.invokevirtual 106, 3) := dk_182 0 106 (dk_at dksX2_route_0 7 rfl rfl)
theorem dX2_route_10 : decode cX2_route 10 = .ok (.ifCond .eq 21, 3) := dk_153 0 21 (dk_at dksX2_route_0 10 rfl rfl)
theorem dX2_route_13 : decode cX2_route 13 = .ok (.iload_n 2, 1) := dk_28 (dk_at dksX2_route_0 13 rfl rfl)
theorem dX2_route_14 : decode cX2_route 14 = .ok (.iload_n 1, 1) := dk_27 (dk_at dksX2_route_0 14 rfl rfl)
theorem dX2_route_15 : decode cX2_route 15 = .ok (.if_icmp .eq 16, 3) := dk_159 0 16 (dk_at dksX2_route_0 15 rfl rfl)
theorem dX2_route_18 : decode cX2_route 18 = .ok (.iload_n 2, 1) := dk_28 (dk_at dksX2_route_0 18 rfl rfl)
theorem dX2_route_19 : decode cX2_route 19 = .ok (.iconst (-1), 1) := dk_2 (dk_at dksX2_route_0 19 rfl rfl)
theorem dX2_route_20 : decode cX2_route 20 = .ok (.if_icmp .eq 13, 3) := dk_159 0 13 (dk_at dksX2_route_0 20 rfl rfl)
theorem dX2_route_23 : decode cX2_route 23 = .ok (.aload_n 0, 1) := dk_42 (dk_at dksX2_route_0 23 rfl rfl)
theorem dX2_route_24 : decode cX2_route 24 = .ok (.iload_n 2, 1) := dk_28 (dk_at dksX2_route_1 0 rfl rfl)
theorem dX2_route_25 : decode cX2_route 25 = .ok (.invokevirtual 106, 3) := dk_182 0 106 (dk_at dksX2_route_1 1 rfl rfl)
theorem dX2_route_28 : decode cX2_route 28 = .ok (.ifCond .ne 5, 3) := dk_154 0 5 (dk_at dksX2_route_1 4 rfl rfl)
theorem dX2_route_31 : decode cX2_route 31 = .ok (.iconst 0, 1) := dk_3 (dk_at dksX2_route_1 7 rfl rfl)
theorem dX2_route_32 : decode cX2_route 32 = .ok (.ireturn, 1) := dk_172 (dk_at dksX2_route_1 8 rfl rfl)
theorem dX2_route_33 : decode cX2_route 33 = .ok (.aload_n 0, 1) := dk_42 (dk_at dksX2_route_1 9 rfl rfl)
theorem dX2_route_34 : decode cX2_route 34 = .ok (.getfield 19, 3) := dk_180 0 19 (dk_at dksX2_route_1 10 rfl rfl)
theorem dX2_route_37 : decode cX2_route 37 = .ok (.iload_n 1, 1) := dk_27 (dk_at dksX2_route_1 13 rfl rfl)
theorem dX2_route_38 : decode cX2_route 38 = .ok (.iload_n 2, 1) := dk_28 (dk_at dksX2_route_1 14 rfl rfl)
theorem dX2_route_39 : decode cX2_route 39 = .ok (.iconst 1, 1) := dk_4 (dk_at dksX2_route_1 15 rfl rfl)
theorem dX2_route_40 : decode cX2_route 40 = .ok (.iadd, 1) := dk_96 (dk_at dksX2_route_1 16 rfl rfl)
theorem dX2_route_41 : decode cX2_route 41 = .ok (.iastore, 1) := dk_79 (dk_at dksX2_route_1 17 rfl rfl)
theorem dX2_route_42 : decode cX2_route 42 = .ok (.aload_n 0, 1) := dk_42 (dk_at dksX2_route_1 18 rfl rfl)
theorem dX2_route_43 : decode cX2_route 43 = .ok (.iconst 0, 1) := dk_3 (dk_at dksX2_route_1 19 rfl rfl)
theorem dX2_route_44 : decode cX2_route 44 = .ok (.putfield 89, 3) := dk_181 0 89 (dk_at dksX2_route_1 20 rfl rfl)
theorem dX2_route_47 : decode cX2_route 47 = .ok (.iconst 1, 1) := dk_4 (dk_at dksX2_route_1 23 rfl rfl)
theorem dX2_route_48 : decode cX2_route 48 = .ok (.ireturn, 1) := dk_172 (dk_at dksX2_route_2 0 rfl rfl)
abbrev cX2_feed : ByteArray := prog_21_method_24_code
def yX2_feed : MethodName := ⟨RX2, "feed", "(IIIII)I"⟩
def dkwX2_feed_2 : List UInt8 := [172]
abbrev dktX2_feed_2 : List UInt8 := dkwX2_feed_2 ++ []
def dkwX2_feed_1 : List UInt8 := [182, 0, 123, 42, 29, 182, 0, 123, 42, 21, 4, 182, 0, 123, 42, 21, 5, 182, 0, 123, 42, 180, 0, 120]
abbrev dktX2_feed_1 : List UInt8 := dkwX2_feed_1 ++ dktX2_feed_2
def dkwX2_feed_0 : List UInt8 := [42, 3, 181, 0, 86, 42, 180, 0, 120, 17, 1, 124, 164, 0, 5, 2, 172, 42, 27, 182, 0, 123, 42, 28]
abbrev dktX2_feed_0 : List UInt8 := dkwX2_feed_0 ++ dktX2_feed_1
theorem dksX2_feed_0 : cX2_feed.data.toList.drop 0 = dktX2_feed_0 := by decide +kernel
theorem dksX2_feed_1 : cX2_feed.data.toList.drop 24 = dktX2_feed_1 := dk_seg dksX2_feed_0 24 rfl rfl
theorem dksX2_feed_2 : cX2_feed.data.toList.drop 48 = dktX2_feed_2 := dk_seg dksX2_feed_1 24 rfl rfl
theorem dX2_feed_0 : decode cX2_feed 0 = .ok (.aload_n 0, 1) := dk_42 (dk_at dksX2_feed_0 0 rfl rfl)
theorem dX2_feed_1 : decode cX2_feed 1 = .ok (.iconst 0, 1) := dk_3 (dk_at dksX2_feed_0 1 rfl rfl)
theorem dX2_feed_2 : decode cX2_feed 2 = .ok (.putfield 86, 3) := dk_181 0 86 (dk_at dksX2_feed_0 2 rfl rfl)
theorem dX2_feed_5 : decode cX2_feed 5 = .ok (.aload_n 0, 1) := dk_42 (dk_at dksX2_feed_0 5 rfl rfl)
theorem dX2_feed_6 : decode cX2_feed 6 = .ok (.getfield 120, 3) := dk_180 0 120 (dk_at dksX2_feed_0 6 rfl rfl)
theorem dX2_feed_9 : decode cX2_feed 9 = .ok (.sipush 380, 3) := dk_17 1 124 (dk_at dksX2_feed_0 9 rfl rfl)
theorem dX2_feed_12 : decode cX2_feed 12 = .ok (.if_icmp .le 5, 3) := dk_164 0 5 (dk_at dksX2_feed_0 12 rfl rfl)
theorem dX2_feed_15 : decode cX2_feed 15 = .ok (.iconst (-1), 1) := dk_2 (dk_at dksX2_feed_0 15 rfl rfl)
theorem dX2_feed_16 : decode cX2_feed 16 = .ok (.ireturn, 1) := dk_172 (dk_at dksX2_feed_0 16 rfl rfl)
theorem dX2_feed_17 : decode cX2_feed 17 = .ok (.aload_n 0, 1) := dk_42 (dk_at dksX2_feed_0 17 rfl rfl)
theorem dX2_feed_18 : decode cX2_feed 18 = .ok (.iload_n 1, 1) := dk_27 (dk_at dksX2_feed_0 18 rfl rfl)
theorem dX2_feed_19 : decode cX2_feed 19 = .ok (.invokevirtual 123, 3) := dk_182 0 123 (dk_at dksX2_feed_0 19 rfl rfl)
theorem dX2_feed_22 : decode cX2_feed 22 = .ok (.aload_n 0, 1) := dk_42 (dk_at dksX2_feed_0 22 rfl rfl)
theorem dX2_feed_23 : decode cX2_feed 23 = .ok (.iload_n 2, 1) := dk_28 (dk_at dksX2_feed_0 23 rfl rfl)
theorem dX2_feed_24 : decode cX2_feed 24 = .ok (.invokevirtual 123, 3) := dk_182 0 123 (dk_at dksX2_feed_1 0 rfl rfl)
theorem dX2_feed_27 : decode cX2_feed 27 = .ok (.aload_n 0, 1) := dk_42 (dk_at dksX2_feed_1 3 rfl rfl)
theorem dX2_feed_28 : decode cX2_feed 28 = .ok (.iload_n 3, 1) := dk_29 (dk_at dksX2_feed_1 4 rfl rfl)
theorem dX2_feed_29 : decode cX2_feed 29 = .ok (.invokevirtual 123, 3) := dk_182 0 123 (dk_at dksX2_feed_1 5 rfl rfl)
theorem dX2_feed_32 : decode cX2_feed 32 = .ok (.aload_n 0, 1) := dk_42 (dk_at dksX2_feed_1 8 rfl rfl)
theorem dX2_feed_33 : decode cX2_feed 33 = .ok (.iload 4, 2) := dk_21 4 (dk_at dksX2_feed_1 9 rfl rfl)
theorem dX2_feed_35 : decode cX2_feed 35 = .ok (.invokevirtual 123, 3) := dk_182 0 123 (dk_at dksX2_feed_1 11 rfl rfl)
theorem dX2_feed_38 : decode cX2_feed 38 = .ok (.aload_n 0, 1) := dk_42 (dk_at dksX2_feed_1 14 rfl rfl)
theorem dX2_feed_39 : decode cX2_feed 39 = .ok (.iload 5, 2) := dk_21 5 (dk_at dksX2_feed_1 15 rfl rfl)
theorem dX2_feed_41 : decode cX2_feed 41 = .ok (.invokevirtual 123, 3) := dk_182 0 123 (dk_at dksX2_feed_1 17 rfl rfl)
theorem dX2_feed_44 : decode cX2_feed 44 = .ok (.aload_n 0, 1) := dk_42 (dk_at dksX2_feed_1 20 rfl rfl)
theorem dX2_feed_45 : decode cX2_feed 45 = .ok (.getfield 120, 3) := dk_180 0 120 (dk_at dksX2_feed_1 21 rfl rfl)
theorem dX2_feed_48 : decode cX2_feed 48 = .ok (.ireturn, 1) := dk_172 (dk_at dksX2_feed_2 0 rfl rfl)
abbrev cX2_types : ByteArray := prog_21_method_23_code
def yX2_types : MethodName := ⟨RX2, "types", "(I)V"⟩
def dkwX2_types_1 : List UInt8 := [42, 180, 0, 120, 4, 96, 181, 0, 120, 132, 2, 248, 167, 255, 223, 177]
abbrev dktX2_types_1 : List UInt8 := dkwX2_types_1 ++ []
def dkwX2_types_0 : List UInt8 := [16, 24, 61, 28, 155, 0, 35, 42, 180, 0, 25, 42, 180, 0, 120, 27, 28, 122, 17, 0, 255, 126, 79, 42]
abbrev dktX2_types_0 : List UInt8 := dkwX2_types_0 ++ dktX2_types_1
theorem dksX2_types_0 : cX2_types.data.toList.drop 0 = dktX2_types_0 := by decide +kernel
theorem dksX2_types_1 : cX2_types.data.toList.drop 24 = dktX2_types_1 := dk_seg dksX2_types_0 24 rfl rfl
theorem dX2_types_0 : decode cX2_types 0 = .ok (.bipush 24, 2) := dk_16 24 (dk_at dksX2_types_0 0 rfl rfl)
theorem dX2_types_2 : decode cX2_types 2 = .ok (.istore_n 2, 1) := dk_61 (dk_at dksX2_types_0 2 rfl rfl)
theorem dX2_types_3 : decode cX2_types 3 = .ok (.iload_n 2, 1) := dk_28 (dk_at dksX2_types_0 3 rfl rfl)
theorem dX2_types_4 : decode cX2_types 4 = .ok (.ifCond .lt 35, 3) := dk_155 0 35 (dk_at dksX2_types_0 4 rfl rfl)
theorem dX2_types_7 : decode cX2_types 7 = .ok (.aload_n 0, 1) := dk_42 (dk_at dksX2_types_0 7 rfl rfl)
theorem dX2_types_8 : decode cX2_types 8 = .ok (.getfield 25, 3) := dk_180 0 25 (dk_at dksX2_types_0 8 rfl rfl)
theorem dX2_types_11 : decode cX2_types 11 = .ok (.aload_n 0, 1) := dk_42 (dk_at dksX2_types_0 11 rfl rfl)
theorem dX2_types_12 : decode cX2_types 12 = .ok (.getfield 120, 3) := dk_180 0 120 (dk_at dksX2_types_0 12 rfl rfl)
theorem dX2_types_15 : decode cX2_types 15 = .ok (.iload_n 1, 1) := dk_27 (dk_at dksX2_types_0 15 rfl rfl)
theorem dX2_types_16 : decode cX2_types 16 = .ok (.iload_n 2, 1) := dk_28 (dk_at dksX2_types_0 16 rfl rfl)
theorem dX2_types_17 : decode cX2_types 17 = .ok (.ishr, 1) := dk_122 (dk_at dksX2_types_0 17 rfl rfl)
theorem dX2_types_18 : decode cX2_types 18 = .ok (.sipush 255, 3) := dk_17 0 255 (dk_at dksX2_types_0 18 rfl rfl)
theorem dX2_types_21 : decode cX2_types 21 = .ok (.iand, 1) := dk_126 (dk_at dksX2_types_0 21 rfl rfl)
theorem dX2_types_22 : decode cX2_types 22 = .ok (.iastore, 1) := dk_79 (dk_at dksX2_types_0 22 rfl rfl)
theorem dX2_types_23 : decode cX2_types 23 = .ok (.aload_n 0, 1) := dk_42 (dk_at dksX2_types_0 23 rfl rfl)
theorem dX2_types_24 : decode cX2_types 24 = .ok (.aload_n 0, 1) := dk_42 (dk_at dksX2_types_1 0 rfl rfl)
theorem dX2_types_25 : decode cX2_types 25 = .ok (.getfield 120, 3) := dk_180 0 120 (dk_at dksX2_types_1 1 rfl rfl)
theorem dX2_types_28 : decode cX2_types 28 = .ok (.iconst 1, 1) := dk_4 (dk_at dksX2_types_1 4 rfl rfl)
theorem dX2_types_29 : decode cX2_types 29 = .ok (.iadd, 1) := dk_96 (dk_at dksX2_types_1 5 rfl rfl)
theorem dX2_types_30 : decode cX2_types 30 = .ok (.putfield 120, 3) := dk_181 0 120 (dk_at dksX2_types_1 6 rfl rfl)
theorem dX2_types_33 : decode cX2_types 33 = .ok (.iinc 2 (-8), 3) := dk_132 2 248 (dk_at dksX2_types_1 9 rfl rfl)
theorem dX2_types_36 : decode cX2_types 36 = .ok (.goto (-33), 3) := dk_167 255 223 (dk_at dksX2_types_1 12 rfl rfl)
theorem dX2_types_39 : decode cX2_types 39 = .ok (.return_, 1) := dk_177 (dk_at dksX2_types_1 15 rfl rfl)
abbrev cX2_end : ByteArray := prog_21_method_25_code
def yX2_end : MethodName := ⟨RX2, "end", "(I)Z"⟩
def dkwX2_end_1 : List UInt8 := [181, 0, 120, 4, 172]
abbrev dktX2_end_1 : List UInt8 := dkwX2_end_1 ++ []
def dkwX2_end_0 : List UInt8 := [42, 3, 181, 0, 86, 42, 27, 3, 42, 180, 0, 120, 182, 0, 102, 154, 0, 5, 3, 172, 42, 27]
abbrev dktX2_end_0 : List UInt8 := dkwX2_end_0 ++ dktX2_end_1
theorem dksX2_end_0 : cX2_end.data.toList.drop 0 = dktX2_end_0 := by decide +kernel
theorem dksX2_end_1 : cX2_end.data.toList.drop 22 = dktX2_end_1 := dk_seg dksX2_end_0 22 rfl rfl
theorem dX2_end_0 : decode cX2_end 0 = .ok (.aload_n 0, 1) := dk_42 (dk_at dksX2_end_0 0 rfl rfl)
theorem dX2_end_1 : decode cX2_end 1 = .ok (.iconst 0, 1) := dk_3 (dk_at dksX2_end_0 1 rfl rfl)
theorem dX2_end_2 : decode cX2_end 2 = .ok (.putfield 86, 3) := dk_181 0 86 (dk_at dksX2_end_0 2 rfl rfl)
theorem dX2_end_5 : decode cX2_end 5 = .ok (.aload_n 0, 1) := dk_42 (dk_at dksX2_end_0 5 rfl rfl)
theorem dX2_end_6 : decode cX2_end 6 = .ok (.iload_n 1, 1) := dk_27 (dk_at dksX2_end_0 6 rfl rfl)
theorem dX2_end_7 : decode cX2_end 7 = .ok (.iconst 0, 1) := dk_3 (dk_at dksX2_end_0 7 rfl rfl)
theorem dX2_end_8 : decode cX2_end 8 = .ok (.aload_n 0, 1) := dk_42 (dk_at dksX2_end_0 8 rfl rfl)
theorem dX2_end_9 : decode cX2_end 9 = .ok (.getfield 120, 3) := dk_180 0 120 (dk_at dksX2_end_0 9 rfl rfl)
theorem dX2_end_12 : decode cX2_end 12 = .ok (.invokevirtual 102, 3) := dk_182 0 102 (dk_at dksX2_end_0 12 rfl rfl)
theorem dX2_end_15 : decode cX2_end 15 = .ok (.ifCond .ne 5, 3) := dk_154 0 5 (dk_at dksX2_end_0 15 rfl rfl)
theorem dX2_end_18 : decode cX2_end 18 = .ok (.iconst 0, 1) := dk_3 (dk_at dksX2_end_0 18 rfl rfl)
theorem dX2_end_19 : decode cX2_end 19 = .ok (.ireturn, 1) := dk_172 (dk_at dksX2_end_0 19 rfl rfl)
theorem dX2_end_20 : decode cX2_end 20 = .ok (.aload_n 0, 1) := dk_42 (dk_at dksX2_end_0 20 rfl rfl)
theorem dX2_end_21 : decode cX2_end 21 = .ok (.iload_n 1, 1) := dk_27 (dk_at dksX2_end_0 21 rfl rfl)
theorem dX2_end_22 : decode cX2_end 22 = .ok (.putfield 120, 3) := dk_181 0 120 (dk_at dksX2_end_1 0 rfl rfl)
theorem dX2_end_25 : decode cX2_end 25 = .ok (.iconst 1, 1) := dk_4 (dk_at dksX2_end_1 3 rfl rfl)
theorem dX2_end_26 : decode cX2_end 26 = .ok (.ireturn, 1) := dk_172 (dk_at dksX2_end_1 4 rfl rfl)
abbrev cX2_text : ByteArray := prog_21_method_62_code
def yX2_text : MethodName := ⟨RX2, "text", "(I)I"⟩
def dkwX2_text_4 : List UInt8 := [167, 0, 9, 42, 27, 28, 182, 1, 23, 28, 172]
abbrev dktX2_text_4 : List UInt8 := dkwX2_text_4 ++ []
def dkwX2_text_3 : List UInt8 := [181, 0, 55, 42, 3, 181, 0, 120, 28, 2, 160, 0, 5, 2, 172, 27, 154, 0, 11, 42, 28, 182, 1, 20]
abbrev dktX2_text_3 : List UInt8 := dkwX2_text_3 ++ dktX2_text_4
def dkwX2_text_2 : List UInt8 := [182, 1, 17, 61, 28, 2, 160, 0, 19, 42, 42, 180, 0, 156, 181, 1, 14, 42, 42, 180, 0, 159]
abbrev dktX2_text_2 : List UInt8 := dkwX2_text_2 ++ dktX2_text_3
def dkwX2_text_1 : List UInt8 := [181, 0, 162, 42, 3, 181, 0, 194, 2, 61, 42, 27, 3, 6, 182, 0, 102, 153, 0, 30, 42, 27]
abbrev dktX2_text_1 : List UInt8 := dkwX2_text_1 ++ dktX2_text_2
def dkwX2_text_0 : List UInt8 := [42, 3, 181, 0, 86, 42, 3, 181, 1, 14, 42, 2, 181, 0, 55, 42, 3, 181, 0, 127, 42, 3]
abbrev dktX2_text_0 : List UInt8 := dkwX2_text_0 ++ dktX2_text_1
theorem dksX2_text_0 : cX2_text.data.toList.drop 0 = dktX2_text_0 := by decide +kernel
theorem dksX2_text_1 : cX2_text.data.toList.drop 22 = dktX2_text_1 := dk_seg dksX2_text_0 22 rfl rfl
theorem dksX2_text_2 : cX2_text.data.toList.drop 44 = dktX2_text_2 := dk_seg dksX2_text_1 22 rfl rfl
theorem dksX2_text_3 : cX2_text.data.toList.drop 66 = dktX2_text_3 := dk_seg dksX2_text_2 22 rfl rfl
theorem dksX2_text_4 : cX2_text.data.toList.drop 90 = dktX2_text_4 := dk_seg dksX2_text_3 24 rfl rfl
theorem dX2_text_0 : decode cX2_text 0 = .ok (.aload_n 0, 1) := dk_42 (dk_at dksX2_text_0 0 rfl rfl)
theorem dX2_text_1 : decode cX2_text 1 = .ok (.iconst 0, 1) := dk_3 (dk_at dksX2_text_0 1 rfl rfl)
theorem dX2_text_2 : decode cX2_text 2 = .ok (.putfield 86, 3) := dk_181 0 86 (dk_at dksX2_text_0 2 rfl rfl)
theorem dX2_text_5 : decode cX2_text 5 = .ok (.aload_n 0, 1) := dk_42 (dk_at dksX2_text_0 5 rfl rfl)
theorem dX2_text_6 : decode cX2_text 6 = .ok (.iconst 0, 1) := dk_3 (dk_at dksX2_text_0 6 rfl rfl)
theorem dX2_text_7 : decode cX2_text 7 = .ok (.putfield 270, 3) := dk_181 1 14 (dk_at dksX2_text_0 7 rfl rfl)
theorem dX2_text_10 : decode cX2_text 10 = .ok (.aload_n 0, 1) := dk_42 (dk_at dksX2_text_0 10 rfl rfl)
theorem dX2_text_11 : decode cX2_text 11 = .ok (.iconst (-1), 1) := dk_2 (dk_at dksX2_text_0 11 rfl rfl)
theorem dX2_text_12 : decode cX2_text 12 = .ok (.putfield 55, 3) := dk_181 0 55 (dk_at dksX2_text_0 12 rfl rfl)
theorem dX2_text_15 : decode cX2_text 15 = .ok (.aload_n 0, 1) := dk_42 (dk_at dksX2_text_0 15 rfl rfl)
theorem dX2_text_16 : decode cX2_text 16 = .ok (.iconst 0, 1) := dk_3 (dk_at dksX2_text_0 16 rfl rfl)
theorem dX2_text_17 : decode cX2_text 17 = .ok (.putfield 127, 3) := dk_181 0 127 (dk_at dksX2_text_0 17 rfl rfl)
theorem dX2_text_20 : decode cX2_text 20 = .ok (.aload_n 0, 1) := dk_42 (dk_at dksX2_text_0 20 rfl rfl)
theorem dX2_text_21 : decode cX2_text 21 = .ok (.iconst 0, 1) := dk_3 (dk_at dksX2_text_0 21 rfl rfl)
theorem dX2_text_22 : decode cX2_text 22 = .ok (.putfield 162, 3) := dk_181 0 162 (dk_at dksX2_text_1 0 rfl rfl)
theorem dX2_text_25 : decode cX2_text 25 = .ok (.aload_n 0, 1) := dk_42 (dk_at dksX2_text_1 3 rfl rfl)
theorem dX2_text_26 : decode cX2_text 26 = .ok (.iconst 0, 1) := dk_3 (dk_at dksX2_text_1 4 rfl rfl)
theorem dX2_text_27 : decode cX2_text 27 = .ok (.putfield 194, 3) := dk_181 0 194 (dk_at dksX2_text_1 5 rfl rfl)
theorem dX2_text_30 : decode cX2_text 30 = .ok (.iconst (-1), 1) := dk_2 (dk_at dksX2_text_1 8 rfl rfl)
theorem dX2_text_31 : decode cX2_text 31 = .ok (.istore_n 2, 1) := dk_61 (dk_at dksX2_text_1 9 rfl rfl)
theorem dX2_text_32 : decode cX2_text 32 = .ok (.aload_n 0, 1) := dk_42 (dk_at dksX2_text_1 10 rfl rfl)
theorem dX2_text_33 : decode cX2_text 33 = .ok (.iload_n 1, 1) := dk_27 (dk_at dksX2_text_1 11 rfl rfl)
theorem dX2_text_34 : decode cX2_text 34 = .ok (.iconst 0, 1) := dk_3 (dk_at dksX2_text_1 12 rfl rfl)
theorem dX2_text_35 : decode cX2_text 35 = .ok (.iconst 3, 1) := dk_6 (dk_at dksX2_text_1 13 rfl rfl)
theorem dX2_text_36 : decode cX2_text 36 = .ok (.invokevirtual 102, 3) := dk_182 0 102 (dk_at dksX2_text_1 14 rfl rfl)
theorem dX2_text_39 : decode cX2_text 39 = .ok (.ifCond .eq 30, 3) := dk_153 0 30 (dk_at dksX2_text_1 17 rfl rfl)
theorem dX2_text_42 : decode cX2_text 42 = .ok (.aload_n 0, 1) := dk_42 (dk_at dksX2_text_1 20 rfl rfl)
theorem dX2_text_43 : decode cX2_text 43 = .ok (.iload_n 1, 1) := dk_27 (dk_at dksX2_text_1 21 rfl rfl)
theorem dX2_text_44 : decode cX2_text 44 = .ok (.invokevirtual 273, 3) := dk_182 1 17 (dk_at dksX2_text_2 0 rfl rfl)
theorem dX2_text_47 : decode cX2_text 47 = .ok (.istore_n 2, 1) := dk_61 (dk_at dksX2_text_2 3 rfl rfl)
theorem dX2_text_48 : decode cX2_text 48 = .ok (.iload_n 2, 1) := dk_28 (dk_at dksX2_text_2 4 rfl rfl)
theorem dX2_text_49 : decode cX2_text 49 = .ok (.iconst (-1), 1) := dk_2 (dk_at dksX2_text_2 5 rfl rfl)
theorem dX2_text_50 : decode cX2_text 50 = .ok (.if_icmp .ne 19, 3) := dk_160 0 19 (dk_at dksX2_text_2 6 rfl rfl)
theorem dX2_text_53 : decode cX2_text 53 = .ok (.aload_n 0, 1) := dk_42 (dk_at dksX2_text_2 9 rfl rfl)
theorem dX2_text_54 : decode cX2_text 54 = .ok (.aload_n 0, 1) := dk_42 (dk_at dksX2_text_2 10 rfl rfl)
theorem dX2_text_55 : decode cX2_text 55 = .ok (.getfield 156, 3) := dk_180 0 156 (dk_at dksX2_text_2 11 rfl rfl)
theorem dX2_text_58 : decode cX2_text 58 = .ok (.putfield 270, 3) := dk_181 1 14 (dk_at dksX2_text_2 14 rfl rfl)
theorem dX2_text_61 : decode cX2_text 61 = .ok (.aload_n 0, 1) := dk_42 (dk_at dksX2_text_2 17 rfl rfl)
theorem dX2_text_62 : decode cX2_text 62 = .ok (.aload_n 0, 1) := dk_42 (dk_at dksX2_text_2 18 rfl rfl)
theorem dX2_text_63 : decode cX2_text 63 = .ok (.getfield 159, 3) := dk_180 0 159 (dk_at dksX2_text_2 19 rfl rfl)
theorem dX2_text_66 : decode cX2_text 66 = .ok (.putfield 55, 3) := dk_181 0 55 (dk_at dksX2_text_3 0 rfl rfl)
theorem dX2_text_69 : decode cX2_text 69 = .ok (.aload_n 0, 1) := dk_42 (dk_at dksX2_text_3 3 rfl rfl)
theorem dX2_text_70 : decode cX2_text 70 = .ok (.iconst 0, 1) := dk_3 (dk_at dksX2_text_3 4 rfl rfl)
theorem dX2_text_71 : decode cX2_text 71 = .ok (.putfield 120, 3) := dk_181 0 120 (dk_at dksX2_text_3 5 rfl rfl)
theorem dX2_text_74 : decode cX2_text 74 = .ok (.iload_n 2, 1) := dk_28 (dk_at dksX2_text_3 8 rfl rfl)
theorem dX2_text_75 : decode cX2_text 75 = .ok (.iconst (-1), 1) := dk_2 (dk_at dksX2_text_3 9 rfl rfl)
theorem dX2_text_76 : decode cX2_text 76 = .ok (.if_icmp .ne 5, 3) := dk_160 0 5 (dk_at dksX2_text_3 10 rfl rfl)
theorem dX2_text_79 : decode cX2_text 79 = .ok (.iconst (-1), 1) := dk_2 (dk_at dksX2_text_3 13 rfl rfl)
theorem dX2_text_80 : decode cX2_text 80 = .ok (.ireturn, 1) := dk_172 (dk_at dksX2_text_3 14 rfl rfl)
theorem dX2_text_81 : decode cX2_text 81 = .ok (.iload_n 1, 1) := dk_27 (dk_at dksX2_text_3 15 rfl rfl)
theorem dX2_text_82 : decode cX2_text 82 = .ok (.ifCond .ne 11, 3) := dk_154 0 11 (dk_at dksX2_text_3 16 rfl rfl)
theorem dX2_text_85 : decode cX2_text 85 = .ok (.aload_n 0, 1) := dk_42 (dk_at dksX2_text_3 19 rfl rfl)
theorem dX2_text_86 : decode cX2_text 86 = .ok (.iload_n 2, 1) := dk_28 (dk_at dksX2_text_3 20 rfl rfl)
theorem dX2_text_87 : decode cX2_text 87 = .ok (.invokevirtual 276, 3) := dk_182 1 20 (dk_at dksX2_text_3 21 rfl rfl)
theorem dX2_text_90 : decode cX2_text 90 = .ok (.goto 9, 3) := dk_167 0 9 (dk_at dksX2_text_4 0 rfl rfl)
theorem dX2_text_93 : decode cX2_text 93 = .ok (.aload_n 0, 1) := dk_42 (dk_at dksX2_text_4 3 rfl rfl)
theorem dX2_text_94 : decode cX2_text 94 = .ok (.iload_n 1, 1) := dk_27 (dk_at dksX2_text_4 4 rfl rfl)
theorem dX2_text_95 : decode cX2_text 95 = .ok (.iload_n 2, 1) := dk_28 (dk_at dksX2_text_4 5 rfl rfl)
theorem dX2_text_96 : decode cX2_text 96 = .ok (.invokevirtual 279, 3) := dk_182 1 23 (dk_at dksX2_text_4 6 rfl rfl)
theorem dX2_text_99 : decode cX2_text 99 = .ok (.iload_n 2, 1) := dk_28 (dk_at dksX2_text_4 9 rfl rfl)
theorem dX2_text_100 : decode cX2_text 100 = .ok (.ireturn, 1) := dk_172 (dk_at dksX2_text_4 10 rfl rfl)
abbrev cX2_readsText : ByteArray := prog_21_method_60_code
def yX2_readsText : MethodName := ⟨RX2, "readsText", "(I)I"⟩
def dkwX2_readsText_1 : List UInt8 := [42, 182, 0, 252, 172, 27, 6, 160, 0, 10, 42, 182, 0, 255, 167, 0, 7, 42, 182, 1, 2, 172]
abbrev dktX2_readsText_1 : List UInt8 := dkwX2_readsText_1 ++ []
def dkwX2_readsText_0 : List UInt8 := [42, 3, 181, 0, 216, 42, 182, 0, 175, 27, 4, 160, 0, 8, 42, 182, 0, 249, 172, 27, 5, 160, 0, 8]
abbrev dktX2_readsText_0 : List UInt8 := dkwX2_readsText_0 ++ dktX2_readsText_1
theorem dksX2_readsText_0 : cX2_readsText.data.toList.drop 0 = dktX2_readsText_0 := by decide +kernel
theorem dksX2_readsText_1 : cX2_readsText.data.toList.drop 24 = dktX2_readsText_1 := dk_seg dksX2_readsText_0 24 rfl rfl
theorem dX2_readsText_0 : decode cX2_readsText 0 = .ok (.aload_n 0, 1) := dk_42 (dk_at dksX2_readsText_0 0 rfl rfl)
theorem dX2_readsText_1 : decode cX2_readsText 1 = .ok (.iconst 0, 1) := dk_3 (dk_at dksX2_readsText_0 1 rfl rfl)
theorem dX2_readsText_2 : decode cX2_readsText 2 = .ok (.putfield 216, 3) := dk_181 0 216 (dk_at dksX2_readsText_0 2 rfl rfl)
theorem dX2_readsText_5 : decode cX2_readsText 5 = .ok (.aload_n 0, 1) := dk_42 (dk_at dksX2_readsText_0 5 rfl rfl)
theorem dX2_readsText_6 : decode cX2_readsText 6 = .ok (.invokevirtual 175, 3) := dk_182 0 175 (dk_at dksX2_readsText_0 6 rfl rfl)
theorem dX2_readsText_9 : decode cX2_readsText 9 = .ok (.iload_n 1, 1) := dk_27 (dk_at dksX2_readsText_0 9 rfl rfl)
theorem dX2_readsText_10 : decode cX2_readsText 10 = .ok (.iconst 1, 1) := dk_4 (dk_at dksX2_readsText_0 10 rfl rfl)
theorem dX2_readsText_11 : decode cX2_readsText 11 = .ok (.if_icmp .ne 8, 3) := dk_160 0 8 (dk_at dksX2_readsText_0 11 rfl rfl)
theorem dX2_readsText_14 : decode cX2_readsText 14 = .ok (.aload_n 0, 1) := dk_42 (dk_at dksX2_readsText_0 14 rfl rfl)
theorem dX2_readsText_15 : decode cX2_readsText 15 = .ok (.invokevirtual 249, 3) := dk_182 0 249 (dk_at dksX2_readsText_0 15 rfl rfl)
theorem dX2_readsText_18 : decode cX2_readsText 18 = .ok (.ireturn, 1) := dk_172 (dk_at dksX2_readsText_0 18 rfl rfl)
theorem dX2_readsText_19 : decode cX2_readsText 19 = .ok (.iload_n 1, 1) := dk_27 (dk_at dksX2_readsText_0 19 rfl rfl)
theorem dX2_readsText_20 : decode cX2_readsText 20 = .ok (.iconst 2, 1) := dk_5 (dk_at dksX2_readsText_0 20 rfl rfl)
theorem dX2_readsText_21 : decode cX2_readsText 21 = .ok (.if_icmp .ne 8, 3) := dk_160 0 8 (dk_at dksX2_readsText_0 21 rfl rfl)
theorem dX2_readsText_24 : decode cX2_readsText 24 = .ok (.aload_n 0, 1) := dk_42 (dk_at dksX2_readsText_1 0 rfl rfl)
theorem dX2_readsText_25 : decode cX2_readsText 25 = .ok (.invokevirtual 252, 3) := dk_182 0 252 (dk_at dksX2_readsText_1 1 rfl rfl)
theorem dX2_readsText_28 : decode cX2_readsText 28 = .ok (.ireturn, 1) := dk_172 (dk_at dksX2_readsText_1 4 rfl rfl)
theorem dX2_readsText_29 : decode cX2_readsText 29 = .ok (.iload_n 1, 1) := dk_27 (dk_at dksX2_readsText_1 5 rfl rfl)
theorem dX2_readsText_30 : decode cX2_readsText 30 = .ok (.iconst 3, 1) := dk_6 (dk_at dksX2_readsText_1 6 rfl rfl)
theorem dX2_readsText_31 : decode cX2_readsText 31 = .ok (.if_icmp .ne 10, 3) := dk_160 0 10 (dk_at dksX2_readsText_1 7 rfl rfl)
theorem dX2_readsText_34 : decode cX2_readsText 34 = .ok (.aload_n 0, 1) := dk_42 (dk_at dksX2_readsText_1 10 rfl rfl)
theorem dX2_readsText_35 : decode cX2_readsText 35 = .ok (.invokevirtual 255, 3) := dk_182 0 255 (dk_at dksX2_readsText_1 11 rfl rfl)
theorem dX2_readsText_38 : decode cX2_readsText 38 = .ok (.goto 7, 3) := dk_167 0 7 (dk_at dksX2_readsText_1 14 rfl rfl)
theorem dX2_readsText_41 : decode cX2_readsText 41 = .ok (.aload_n 0, 1) := dk_42 (dk_at dksX2_readsText_1 17 rfl rfl)
theorem dX2_readsText_42 : decode cX2_readsText 42 = .ok (.invokevirtual 258, 3) := dk_182 1 2 (dk_at dksX2_readsText_1 18 rfl rfl)
theorem dX2_readsText_45 : decode cX2_readsText 45 = .ok (.ireturn, 1) := dk_172 (dk_at dksX2_readsText_1 21 rfl rfl)
abbrev cX2_reads : ByteArray := prog_21_method_31_code
def yX2_reads : MethodName := ⟨RX2, "reads", "()V"⟩
def dkwX2_reads_11 : List UInt8 := [42, 27, 182, 0, 153, 153, 0, 8, 42, 7, 181, 0, 137, 177]
abbrev dktX2_reads_11 : List UInt8 := dkwX2_reads_11 ++ []
def dkwX2_reads_10 : List UInt8 := [167, 255, 191, 42, 180, 0, 127, 42, 180, 0, 134, 100, 8, 162, 0, 24, 42, 6, 181, 0, 137, 167, 0, 16]
abbrev dktX2_reads_10 : List UInt8 := dkwX2_reads_10 ++ dktX2_reads_11
def dkwX2_reads_9 : List UInt8 := [96, 16, 48, 100, 167, 0, 7, 42, 180, 0, 140, 181, 0, 140, 42, 42, 180, 0, 127, 4, 96, 181, 0, 127]
abbrev dktX2_reads_9 : List UInt8 := dkwX2_reads_9 ++ dktX2_reads_10
def dkwX2_reads_8 : List UInt8 := [180, 0, 140, 17, 39, 16, 162, 0, 25, 16, 10, 42, 180, 0, 140, 104, 42, 42, 180, 0, 127, 182, 0, 130]
abbrev dktX2_reads_8 : List UInt8 := dkwX2_reads_8 ++ dktX2_reads_9
def dkwX2_reads_7 : List UInt8 := [27, 16, 48, 100, 181, 0, 140, 42, 42, 42, 180, 0, 127, 182, 0, 130, 182, 0, 150, 153, 0, 56, 42, 42]
abbrev dktX2_reads_7 : List UInt8 := dkwX2_reads_7 ++ dktX2_reads_8
def dkwX2_reads_6 : List UInt8 := [180, 0, 140, 2, 159, 0, 129, 42, 5, 181, 0, 137, 167, 0, 121, 42, 27, 182, 0, 150, 153, 0, 100, 42]
abbrev dktX2_reads_6 : List UInt8 := dkwX2_reads_6 ++ dktX2_reads_7
def dkwX2_reads_5 : List UInt8 := [181, 0, 127, 167, 255, 231, 42, 42, 42, 180, 0, 134, 42, 180, 0, 127, 182, 0, 146, 181, 0, 140, 42]
abbrev dktX2_reads_5 : List UInt8 := dkwX2_reads_5 ++ dktX2_reads_6
def dkwX2_reads_4 : List UInt8 := [42, 42, 42, 180, 0, 127, 182, 0, 130, 182, 0, 143, 153, 0, 16, 42, 42, 180, 0, 127, 4, 96]
abbrev dktX2_reads_4 : List UInt8 := dkwX2_reads_4 ++ dktX2_reads_5
def dkwX2_reads_3 : List UInt8 := [177, 42, 42, 180, 0, 127, 4, 96, 181, 0, 127, 42, 27, 181, 0, 140, 42, 27, 182, 0, 143, 153, 0, 63]
abbrev dktX2_reads_3 : List UInt8 := dkwX2_reads_3 ++ dktX2_reads_4
def dkwX2_reads_2 : List UInt8 := [42, 4, 181, 0, 137, 42, 42, 180, 0, 127, 182, 0, 130, 60, 27, 2, 160, 0, 9, 42, 3, 181, 0, 137]
abbrev dktX2_reads_2 : List UInt8 := dkwX2_reads_2 ++ dktX2_reads_3
def dkwX2_reads_1 : List UInt8 := [160, 0, 16, 42, 42, 180, 0, 127, 4, 96, 181, 0, 127, 167, 255, 220, 42, 42, 180, 0, 127, 181, 0, 134]
abbrev dktX2_reads_1 : List UInt8 := dkwX2_reads_1 ++ dktX2_reads_2
def dkwX2_reads_0 : List UInt8 := [42, 42, 180, 0, 127, 182, 0, 130, 16, 32, 159, 0, 16, 42, 42, 180, 0, 127, 182, 0, 130, 16, 10]
abbrev dktX2_reads_0 : List UInt8 := dkwX2_reads_0 ++ dktX2_reads_1
theorem dksX2_reads_0 : cX2_reads.data.toList.drop 0 = dktX2_reads_0 := by decide +kernel
theorem dksX2_reads_1 : cX2_reads.data.toList.drop 23 = dktX2_reads_1 := dk_seg dksX2_reads_0 23 rfl rfl
theorem dksX2_reads_2 : cX2_reads.data.toList.drop 47 = dktX2_reads_2 := dk_seg dksX2_reads_1 24 rfl rfl
theorem dksX2_reads_3 : cX2_reads.data.toList.drop 71 = dktX2_reads_3 := dk_seg dksX2_reads_2 24 rfl rfl
theorem dksX2_reads_4 : cX2_reads.data.toList.drop 95 = dktX2_reads_4 := dk_seg dksX2_reads_3 24 rfl rfl
theorem dksX2_reads_5 : cX2_reads.data.toList.drop 117 = dktX2_reads_5 := dk_seg dksX2_reads_4 22 rfl rfl
theorem dksX2_reads_6 : cX2_reads.data.toList.drop 140 = dktX2_reads_6 := dk_seg dksX2_reads_5 23 rfl rfl
theorem dksX2_reads_7 : cX2_reads.data.toList.drop 164 = dktX2_reads_7 := dk_seg dksX2_reads_6 24 rfl rfl
theorem dksX2_reads_8 : cX2_reads.data.toList.drop 188 = dktX2_reads_8 := dk_seg dksX2_reads_7 24 rfl rfl
theorem dksX2_reads_9 : cX2_reads.data.toList.drop 212 = dktX2_reads_9 := dk_seg dksX2_reads_8 24 rfl rfl
theorem dksX2_reads_10 : cX2_reads.data.toList.drop 236 = dktX2_reads_10 := dk_seg dksX2_reads_9 24 rfl rfl
theorem dksX2_reads_11 : cX2_reads.data.toList.drop 260 = dktX2_reads_11 := dk_seg dksX2_reads_10 24 rfl rfl
theorem dX2_reads_0 : decode cX2_reads 0 = .ok (.aload_n 0, 1) := dk_42 (dk_at dksX2_reads_0 0 rfl rfl)
theorem dX2_reads_1 : decode cX2_reads 1 = .ok (.aload_n 0, 1) := dk_42 (dk_at dksX2_reads_0 1 rfl rfl)
theorem dX2_reads_2 : decode cX2_reads 2 = .ok (.getfield 127, 3) := dk_180 0 127 (dk_at dksX2_reads_0 2 rfl rfl)
theorem dX2_reads_5 : decode cX2_reads 5 = .ok (.invokevirtual 130, 3) := dk_182 0 130 (dk_at dksX2_reads_0 5 rfl rfl)
theorem dX2_reads_8 : decode cX2_reads 8 = .ok (.bipush 32, 2) := dk_16 32 (dk_at dksX2_reads_0 8 rfl rfl)
theorem dX2_reads_10 : decode cX2_reads 10 = .ok (.if_icmp .eq 16, 3) := dk_159 0 16 (dk_at dksX2_reads_0 10 rfl rfl)
theorem dX2_reads_13 : decode cX2_reads 13 = .ok (.aload_n 0, 1) := dk_42 (dk_at dksX2_reads_0 13 rfl rfl)
theorem dX2_reads_14 : decode cX2_reads 14 = .ok (.aload_n 0, 1) := dk_42 (dk_at dksX2_reads_0 14 rfl rfl)
theorem dX2_reads_15 : decode cX2_reads 15 = .ok (.getfield 127, 3) := dk_180 0 127 (dk_at dksX2_reads_0 15 rfl rfl)
theorem dX2_reads_18 : decode cX2_reads 18 = .ok (.invokevirtual 130, 3) := dk_182 0 130 (dk_at dksX2_reads_0 18 rfl rfl)
theorem dX2_reads_21 : decode cX2_reads 21 = .ok (.bipush 10, 2) := dk_16 10 (dk_at dksX2_reads_0 21 rfl rfl)
theorem dX2_reads_23 : decode cX2_reads 23 = .ok (.if_icmp .ne 16, 3) := dk_160 0 16 (dk_at dksX2_reads_1 0 rfl rfl)
theorem dX2_reads_26 : decode cX2_reads 26 = .ok (.aload_n 0, 1) := dk_42 (dk_at dksX2_reads_1 3 rfl rfl)
theorem dX2_reads_27 : decode cX2_reads 27 = .ok (.aload_n 0, 1) := dk_42 (dk_at dksX2_reads_1 4 rfl rfl)
theorem dX2_reads_28 : decode cX2_reads 28 = .ok (.getfield 127, 3) := dk_180 0 127 (dk_at dksX2_reads_1 5 rfl rfl)
theorem dX2_reads_31 : decode cX2_reads 31 = .ok (.iconst 1, 1) := dk_4 (dk_at dksX2_reads_1 8 rfl rfl)
theorem dX2_reads_32 : decode cX2_reads 32 = .ok (.iadd, 1) := dk_96 (dk_at dksX2_reads_1 9 rfl rfl)
theorem dX2_reads_33 : decode cX2_reads 33 = .ok (.putfield 127, 3) := dk_181 0 127 (dk_at dksX2_reads_1 10 rfl rfl)
theorem dX2_reads_36 : decode cX2_reads 36 = .ok (.goto (-36), 3) := dk_167 255 220 (dk_at dksX2_reads_1 13 rfl rfl)
theorem dX2_reads_39 : decode cX2_reads 39 = .ok (.aload_n 0, 1) := dk_42 (dk_at dksX2_reads_1 16 rfl rfl)
theorem dX2_reads_40 : decode cX2_reads 40 = .ok (.aload_n 0, 1) := dk_42 (dk_at dksX2_reads_1 17 rfl rfl)
theorem dX2_reads_41 : decode cX2_reads 41 = .ok (.getfield 127, 3) := dk_180 0 127 (dk_at dksX2_reads_1 18 rfl rfl)
theorem dX2_reads_44 : decode cX2_reads 44 = .ok (.putfield 134, 3) := dk_181 0 134 (dk_at dksX2_reads_1 21 rfl rfl)
theorem dX2_reads_47 : decode cX2_reads 47 = .ok (.aload_n 0, 1) := dk_42 (dk_at dksX2_reads_2 0 rfl rfl)
theorem dX2_reads_48 : decode cX2_reads 48 = .ok (.iconst 1, 1) := dk_4 (dk_at dksX2_reads_2 1 rfl rfl)
theorem dX2_reads_49 : decode cX2_reads 49 = .ok (.putfield 137, 3) := dk_181 0 137 (dk_at dksX2_reads_2 2 rfl rfl)
theorem dX2_reads_52 : decode cX2_reads 52 = .ok (.aload_n 0, 1) := dk_42 (dk_at dksX2_reads_2 5 rfl rfl)
theorem dX2_reads_53 : decode cX2_reads 53 = .ok (.aload_n 0, 1) := dk_42 (dk_at dksX2_reads_2 6 rfl rfl)
theorem dX2_reads_54 : decode cX2_reads 54 = .ok (.getfield 127, 3) := dk_180 0 127 (dk_at dksX2_reads_2 7 rfl rfl)
theorem dX2_reads_57 : decode cX2_reads 57 = .ok (.invokevirtual 130, 3) := dk_182 0 130 (dk_at dksX2_reads_2 10 rfl rfl)
theorem dX2_reads_60 : decode cX2_reads 60 = .ok (.istore_n 1, 1) := dk_60 (dk_at dksX2_reads_2 13 rfl rfl)
theorem dX2_reads_61 : decode cX2_reads 61 = .ok (.iload_n 1, 1) := dk_27 (dk_at dksX2_reads_2 14 rfl rfl)
theorem dX2_reads_62 : decode cX2_reads 62 = .ok (.iconst (-1), 1) := dk_2 (dk_at dksX2_reads_2 15 rfl rfl)
theorem dX2_reads_63 : decode cX2_reads 63 = .ok (.if_icmp .ne 9, 3) := dk_160 0 9 (dk_at dksX2_reads_2 16 rfl rfl)
theorem dX2_reads_66 : decode cX2_reads 66 = .ok (.aload_n 0, 1) := dk_42 (dk_at dksX2_reads_2 19 rfl rfl)
theorem dX2_reads_67 : decode cX2_reads 67 = .ok (.iconst 0, 1) := dk_3 (dk_at dksX2_reads_2 20 rfl rfl)
theorem dX2_reads_68 : decode cX2_reads 68 = .ok (.putfield 137, 3) := dk_181 0 137 (dk_at dksX2_reads_2 21 rfl rfl)
theorem dX2_reads_71 : decode cX2_reads 71 = .ok (.return_, 1) := dk_177 (dk_at dksX2_reads_3 0 rfl rfl)
theorem dX2_reads_72 : decode cX2_reads 72 = .ok (.aload_n 0, 1) := dk_42 (dk_at dksX2_reads_3 1 rfl rfl)
theorem dX2_reads_73 : decode cX2_reads 73 = .ok (.aload_n 0, 1) := dk_42 (dk_at dksX2_reads_3 2 rfl rfl)
theorem dX2_reads_74 : decode cX2_reads 74 = .ok (.getfield 127, 3) := dk_180 0 127 (dk_at dksX2_reads_3 3 rfl rfl)
theorem dX2_reads_77 : decode cX2_reads 77 = .ok (.iconst 1, 1) := dk_4 (dk_at dksX2_reads_3 6 rfl rfl)
theorem dX2_reads_78 : decode cX2_reads 78 = .ok (.iadd, 1) := dk_96 (dk_at dksX2_reads_3 7 rfl rfl)
theorem dX2_reads_79 : decode cX2_reads 79 = .ok (.putfield 127, 3) := dk_181 0 127 (dk_at dksX2_reads_3 8 rfl rfl)
theorem dX2_reads_82 : decode cX2_reads 82 = .ok (.aload_n 0, 1) := dk_42 (dk_at dksX2_reads_3 11 rfl rfl)
theorem dX2_reads_83 : decode cX2_reads 83 = .ok (.iload_n 1, 1) := dk_27 (dk_at dksX2_reads_3 12 rfl rfl)
theorem dX2_reads_84 : decode cX2_reads 84 = .ok (.putfield 140, 3) := dk_181 0 140 (dk_at dksX2_reads_3 13 rfl rfl)
theorem dX2_reads_87 : decode cX2_reads 87 = .ok (.aload_n 0, 1) := dk_42 (dk_at dksX2_reads_3 16 rfl rfl)
theorem dX2_reads_88 : decode cX2_reads 88 = .ok (.iload_n 1, 1) := dk_27 (dk_at dksX2_reads_3 17 rfl rfl)
theorem dX2_reads_89 : decode cX2_reads 89 = .ok (.invokevirtual 143, 3) := dk_182 0 143 (dk_at dksX2_reads_3 18 rfl rfl)
theorem dX2_reads_92 : decode cX2_reads 92 = .ok (.ifCond .eq 63, 3) := dk_153 0 63 (dk_at dksX2_reads_3 21 rfl rfl)
theorem dX2_reads_95 : decode cX2_reads 95 = .ok (.aload_n 0, 1) := dk_42 (dk_at dksX2_reads_4 0 rfl rfl)
theorem dX2_reads_96 : decode cX2_reads 96 = .ok (.aload_n 0, 1) := dk_42 (dk_at dksX2_reads_4 1 rfl rfl)
theorem dX2_reads_97 : decode cX2_reads 97 = .ok (.aload_n 0, 1) := dk_42 (dk_at dksX2_reads_4 2 rfl rfl)
theorem dX2_reads_98 : decode cX2_reads 98 = .ok (.getfield 127, 3) := dk_180 0 127 (dk_at dksX2_reads_4 3 rfl rfl)
theorem dX2_reads_101 : decode cX2_reads 101 = .ok (.invokevirtual 130, 3) := dk_182 0 130 (dk_at dksX2_reads_4 6 rfl rfl)
theorem dX2_reads_104 : decode cX2_reads 104 = .ok (.invokevirtual 143, 3) := dk_182 0 143 (dk_at dksX2_reads_4 9 rfl rfl)
theorem dX2_reads_107 : decode cX2_reads 107 = .ok (.ifCond .eq 16, 3) := dk_153 0 16 (dk_at dksX2_reads_4 12 rfl rfl)
theorem dX2_reads_110 : decode cX2_reads 110 = .ok (.aload_n 0, 1) := dk_42 (dk_at dksX2_reads_4 15 rfl rfl)
theorem dX2_reads_111 : decode cX2_reads 111 = .ok (.aload_n 0, 1) := dk_42 (dk_at dksX2_reads_4 16 rfl rfl)
theorem dX2_reads_112 : decode cX2_reads 112 = .ok (.getfield 127, 3) := dk_180 0 127 (dk_at dksX2_reads_4 17 rfl rfl)
theorem dX2_reads_115 : decode cX2_reads 115 = .ok (.iconst 1, 1) := dk_4 (dk_at dksX2_reads_4 20 rfl rfl)
theorem dX2_reads_116 : decode cX2_reads 116 = .ok (.iadd, 1) := dk_96 (dk_at dksX2_reads_4 21 rfl rfl)
theorem dX2_reads_117 : decode cX2_reads 117 = .ok (.putfield 127, 3) := dk_181 0 127 (dk_at dksX2_reads_5 0 rfl rfl)
theorem dX2_reads_120 : decode cX2_reads 120 = .ok (.goto (-25), 3) := dk_167 255 231 (dk_at dksX2_reads_5 3 rfl rfl)
theorem dX2_reads_123 : decode cX2_reads 123 = .ok (.aload_n 0, 1) := dk_42 (dk_at dksX2_reads_5 6 rfl rfl)
theorem dX2_reads_124 : decode cX2_reads 124 = .ok (.aload_n 0, 1) := dk_42 (dk_at dksX2_reads_5 7 rfl rfl)
theorem dX2_reads_125 : decode cX2_reads 125 = .ok (.aload_n 0, 1) := dk_42 (dk_at dksX2_reads_5 8 rfl rfl)
theorem dX2_reads_126 : decode cX2_reads 126 = .ok (.getfield 134, 3) := dk_180 0 134 (dk_at dksX2_reads_5 9 rfl rfl)
theorem dX2_reads_129 : decode cX2_reads 129 = .ok (.aload_n 0, 1) := dk_42 (dk_at dksX2_reads_5 12 rfl rfl)
theorem dX2_reads_130 : decode cX2_reads 130 = .ok (.getfield 127, 3) := dk_180 0 127 (dk_at dksX2_reads_5 13 rfl rfl)
theorem dX2_reads_133 : decode cX2_reads 133 = .ok (.invokevirtual 146, 3) := dk_182 0 146 (dk_at dksX2_reads_5 16 rfl rfl)
theorem dX2_reads_136 : decode cX2_reads 136 = .ok (.putfield 140, 3) := dk_181 0 140 (dk_at dksX2_reads_5 19 rfl rfl)
theorem dX2_reads_139 : decode cX2_reads 139 = .ok (.aload_n 0, 1) := dk_42 (dk_at dksX2_reads_5 22 rfl rfl)
theorem dX2_reads_140 : decode cX2_reads 140 = .ok (.getfield 140, 3) := dk_180 0 140 (dk_at dksX2_reads_6 0 rfl rfl)
theorem dX2_reads_143 : decode cX2_reads 143 = .ok (.iconst (-1), 1) := dk_2 (dk_at dksX2_reads_6 3 rfl rfl)
theorem dX2_reads_144 : decode cX2_reads 144 = .ok (.if_icmp .eq 129, 3) := dk_159 0 129 (dk_at dksX2_reads_6 4 rfl rfl)
theorem dX2_reads_147 : decode cX2_reads 147 = .ok (.aload_n 0, 1) := dk_42 (dk_at dksX2_reads_6 7 rfl rfl)
theorem dX2_reads_148 : decode cX2_reads 148 = .ok (.iconst 2, 1) := dk_5 (dk_at dksX2_reads_6 8 rfl rfl)
theorem dX2_reads_149 : decode cX2_reads 149 = .ok (.putfield 137, 3) := dk_181 0 137 (dk_at dksX2_reads_6 9 rfl rfl)
theorem dX2_reads_152 : decode cX2_reads 152 = .ok (.goto 121, 3) := dk_167 0 121 (dk_at dksX2_reads_6 12 rfl rfl)
theorem dX2_reads_155 : decode cX2_reads 155 = .ok (.aload_n 0, 1) := dk_42 (dk_at dksX2_reads_6 15 rfl rfl)
theorem dX2_reads_156 : decode cX2_reads 156 = .ok (.iload_n 1, 1) := dk_27 (dk_at dksX2_reads_6 16 rfl rfl)
theorem dX2_reads_157 : decode cX2_reads 157 = .ok (.invokevirtual 150, 3) := dk_182 0 150 (dk_at dksX2_reads_6 17 rfl rfl)
theorem dX2_reads_160 : decode cX2_reads 160 = .ok (.ifCond .eq 100, 3) := dk_153 0 100 (dk_at dksX2_reads_6 20 rfl rfl)
theorem dX2_reads_163 : decode cX2_reads 163 = .ok (.aload_n 0, 1) := dk_42 (dk_at dksX2_reads_6 23 rfl rfl)
theorem dX2_reads_164 : decode cX2_reads 164 = .ok (.iload_n 1, 1) := dk_27 (dk_at dksX2_reads_7 0 rfl rfl)
theorem dX2_reads_165 : decode cX2_reads 165 = .ok (.bipush 48, 2) := dk_16 48 (dk_at dksX2_reads_7 1 rfl rfl)
theorem dX2_reads_167 : decode cX2_reads 167 = .ok (.isub, 1) := dk_100 (dk_at dksX2_reads_7 3 rfl rfl)
theorem dX2_reads_168 : decode cX2_reads 168 = .ok (.putfield 140, 3) := dk_181 0 140 (dk_at dksX2_reads_7 4 rfl rfl)
theorem dX2_reads_171 : decode cX2_reads 171 = .ok (.aload_n 0, 1) := dk_42 (dk_at dksX2_reads_7 7 rfl rfl)
theorem dX2_reads_172 : decode cX2_reads 172 = .ok (.aload_n 0, 1) := dk_42 (dk_at dksX2_reads_7 8 rfl rfl)
theorem dX2_reads_173 : decode cX2_reads 173 = .ok (.aload_n 0, 1) := dk_42 (dk_at dksX2_reads_7 9 rfl rfl)
theorem dX2_reads_174 : decode cX2_reads 174 = .ok (.getfield 127, 3) := dk_180 0 127 (dk_at dksX2_reads_7 10 rfl rfl)
theorem dX2_reads_177 : decode cX2_reads 177 = .ok (.invokevirtual 130, 3) := dk_182 0 130 (dk_at dksX2_reads_7 13 rfl rfl)
theorem dX2_reads_180 : decode cX2_reads 180 = .ok (.invokevirtual 150, 3) := dk_182 0 150 (dk_at dksX2_reads_7 16 rfl rfl)
theorem dX2_reads_183 : decode cX2_reads 183 = .ok (.ifCond .eq 56, 3) := dk_153 0 56 (dk_at dksX2_reads_7 19 rfl rfl)
theorem dX2_reads_186 : decode cX2_reads 186 = .ok (.aload_n 0, 1) := dk_42 (dk_at dksX2_reads_7 22 rfl rfl)
theorem dX2_reads_187 : decode cX2_reads 187 = .ok (.aload_n 0, 1) := dk_42 (dk_at dksX2_reads_7 23 rfl rfl)
theorem dX2_reads_188 : decode cX2_reads 188 = .ok (.getfield 140, 3) := dk_180 0 140 (dk_at dksX2_reads_8 0 rfl rfl)
theorem dX2_reads_191 : decode cX2_reads 191 = .ok (.sipush 10000, 3) := dk_17 39 16 (dk_at dksX2_reads_8 3 rfl rfl)
theorem dX2_reads_194 : decode cX2_reads 194 = .ok (.if_icmp .ge 25, 3) := dk_162 0 25 (dk_at dksX2_reads_8 6 rfl rfl)
theorem dX2_reads_197 : decode cX2_reads 197 = .ok (.bipush 10, 2) := dk_16 10 (dk_at dksX2_reads_8 9 rfl rfl)
theorem dX2_reads_199 : decode cX2_reads 199 = .ok (.aload_n 0, 1) := dk_42 (dk_at dksX2_reads_8 11 rfl rfl)
theorem dX2_reads_200 : decode cX2_reads 200 = .ok (.getfield 140, 3) := dk_180 0 140 (dk_at dksX2_reads_8 12 rfl rfl)
theorem dX2_reads_203 : decode cX2_reads 203 = .ok (.imul, 1) := dk_104 (dk_at dksX2_reads_8 15 rfl rfl)
theorem dX2_reads_204 : decode cX2_reads 204 = .ok (.aload_n 0, 1) := dk_42 (dk_at dksX2_reads_8 16 rfl rfl)
theorem dX2_reads_205 : decode cX2_reads 205 = .ok (.aload_n 0, 1) := dk_42 (dk_at dksX2_reads_8 17 rfl rfl)
theorem dX2_reads_206 : decode cX2_reads 206 = .ok (.getfield 127, 3) := dk_180 0 127 (dk_at dksX2_reads_8 18 rfl rfl)
theorem dX2_reads_209 : decode cX2_reads 209 = .ok (.invokevirtual 130, 3) := dk_182 0 130 (dk_at dksX2_reads_8 21 rfl rfl)
theorem dX2_reads_212 : decode cX2_reads 212 = .ok (.iadd, 1) := dk_96 (dk_at dksX2_reads_9 0 rfl rfl)
theorem dX2_reads_213 : decode cX2_reads 213 = .ok (.bipush 48, 2) := dk_16 48 (dk_at dksX2_reads_9 1 rfl rfl)
theorem dX2_reads_215 : decode cX2_reads 215 = .ok (.isub, 1) := dk_100 (dk_at dksX2_reads_9 3 rfl rfl)
theorem dX2_reads_216 : decode cX2_reads 216 = .ok (.goto 7, 3) := dk_167 0 7 (dk_at dksX2_reads_9 4 rfl rfl)
theorem dX2_reads_219 : decode cX2_reads 219 = .ok (.aload_n 0, 1) := dk_42 (dk_at dksX2_reads_9 7 rfl rfl)
theorem dX2_reads_220 : decode cX2_reads 220 = .ok (.getfield 140, 3) := dk_180 0 140 (dk_at dksX2_reads_9 8 rfl rfl)
theorem dX2_reads_223 : decode cX2_reads 223 = .ok (.putfield 140, 3) := dk_181 0 140 (dk_at dksX2_reads_9 11 rfl rfl)
theorem dX2_reads_226 : decode cX2_reads 226 = .ok (.aload_n 0, 1) := dk_42 (dk_at dksX2_reads_9 14 rfl rfl)
theorem dX2_reads_227 : decode cX2_reads 227 = .ok (.aload_n 0, 1) := dk_42 (dk_at dksX2_reads_9 15 rfl rfl)
theorem dX2_reads_228 : decode cX2_reads 228 = .ok (.getfield 127, 3) := dk_180 0 127 (dk_at dksX2_reads_9 16 rfl rfl)
theorem dX2_reads_231 : decode cX2_reads 231 = .ok (.iconst 1, 1) := dk_4 (dk_at dksX2_reads_9 19 rfl rfl)
theorem dX2_reads_232 : decode cX2_reads 232 = .ok (.iadd, 1) := dk_96 (dk_at dksX2_reads_9 20 rfl rfl)
theorem dX2_reads_233 : decode cX2_reads 233 = .ok (.putfield 127, 3) := dk_181 0 127 (dk_at dksX2_reads_9 21 rfl rfl)
theorem dX2_reads_236 : decode cX2_reads 236 = .ok (.goto (-65), 3) := dk_167 255 191 (dk_at dksX2_reads_10 0 rfl rfl)
theorem dX2_reads_239 : decode cX2_reads 239 = .ok (.aload_n 0, 1) := dk_42 (dk_at dksX2_reads_10 3 rfl rfl)
theorem dX2_reads_240 : decode cX2_reads 240 = .ok (.getfield 127, 3) := dk_180 0 127 (dk_at dksX2_reads_10 4 rfl rfl)
theorem dX2_reads_243 : decode cX2_reads 243 = .ok (.aload_n 0, 1) := dk_42 (dk_at dksX2_reads_10 7 rfl rfl)
theorem dX2_reads_244 : decode cX2_reads 244 = .ok (.getfield 134, 3) := dk_180 0 134 (dk_at dksX2_reads_10 8 rfl rfl)
theorem dX2_reads_247 : decode cX2_reads 247 = .ok (.isub, 1) := dk_100 (dk_at dksX2_reads_10 11 rfl rfl)
theorem dX2_reads_248 : decode cX2_reads 248 = .ok (.iconst 5, 1) := dk_8 (dk_at dksX2_reads_10 12 rfl rfl)
theorem dX2_reads_249 : decode cX2_reads 249 = .ok (.if_icmp .ge 24, 3) := dk_162 0 24 (dk_at dksX2_reads_10 13 rfl rfl)
theorem dX2_reads_252 : decode cX2_reads 252 = .ok (.aload_n 0, 1) := dk_42 (dk_at dksX2_reads_10 16 rfl rfl)
theorem dX2_reads_253 : decode cX2_reads 253 = .ok (.iconst 3, 1) := dk_6 (dk_at dksX2_reads_10 17 rfl rfl)
theorem dX2_reads_254 : decode cX2_reads 254 = .ok (.putfield 137, 3) := dk_181 0 137 (dk_at dksX2_reads_10 18 rfl rfl)
theorem dX2_reads_257 : decode cX2_reads 257 = .ok (.goto 16, 3) := dk_167 0 16 (dk_at dksX2_reads_10 21 rfl rfl)
theorem dX2_reads_260 : decode cX2_reads 260 = .ok (.aload_n 0, 1) := dk_42 (dk_at dksX2_reads_11 0 rfl rfl)
theorem dX2_reads_261 : decode cX2_reads 261 = .ok (.iload_n 1, 1) := dk_27 (dk_at dksX2_reads_11 1 rfl rfl)
theorem dX2_reads_262 : decode cX2_reads 262 = .ok (.invokevirtual 153, 3) := dk_182 0 153 (dk_at dksX2_reads_11 2 rfl rfl)
theorem dX2_reads_265 : decode cX2_reads 265 = .ok (.ifCond .eq 8, 3) := dk_153 0 8 (dk_at dksX2_reads_11 5 rfl rfl)
theorem dX2_reads_268 : decode cX2_reads 268 = .ok (.aload_n 0, 1) := dk_42 (dk_at dksX2_reads_11 8 rfl rfl)
theorem dX2_reads_269 : decode cX2_reads 269 = .ok (.iconst 4, 1) := dk_7 (dk_at dksX2_reads_11 9 rfl rfl)
theorem dX2_reads_270 : decode cX2_reads 270 = .ok (.putfield 137, 3) := dk_181 0 137 (dk_at dksX2_reads_11 10 rfl rfl)
theorem dX2_reads_273 : decode cX2_reads 273 = .ok (.return_, 1) := dk_177 (dk_at dksX2_reads_11 13 rfl rfl)
abbrev cX2_raw : ByteArray := prog_21_method_26_code
def yX2_raw : MethodName := ⟨RX2, "raw", "(I)I"⟩
def dkwX2_raw_0 : List UInt8 := [27, 42, 180, 0, 120, 162, 0, 12, 42, 180, 0, 25, 27, 46, 167, 0, 4, 2, 172]
abbrev dktX2_raw_0 : List UInt8 := dkwX2_raw_0 ++ []
theorem dksX2_raw_0 : cX2_raw.data.toList.drop 0 = dktX2_raw_0 := by decide +kernel
theorem dX2_raw_0 : decode cX2_raw 0 = .ok (.iload_n 1, 1) := dk_27 (dk_at dksX2_raw_0 0 rfl rfl)
theorem dX2_raw_1 : decode cX2_raw 1 = .ok (.aload_n 0, 1) := dk_42 (dk_at dksX2_raw_0 1 rfl rfl)
theorem dX2_raw_2 : decode cX2_raw 2 = .ok (.getfield 120, 3) := dk_180 0 120 (dk_at dksX2_raw_0 2 rfl rfl)
theorem dX2_raw_5 : decode cX2_raw 5 = .ok (.if_icmp .ge 12, 3) := dk_162 0 12 (dk_at dksX2_raw_0 5 rfl rfl)
theorem dX2_raw_8 : decode cX2_raw 8 = .ok (.aload_n 0, 1) := dk_42 (dk_at dksX2_raw_0 8 rfl rfl)
theorem dX2_raw_9 : decode cX2_raw 9 = .ok (.getfield 25, 3) := dk_180 0 25 (dk_at dksX2_raw_0 9 rfl rfl)
theorem dX2_raw_12 : decode cX2_raw 12 = .ok (.iload_n 1, 1) := dk_27 (dk_at dksX2_raw_0 12 rfl rfl)
theorem dX2_raw_13 : decode cX2_raw 13 = .ok (.iaload, 1) := dk_46 (dk_at dksX2_raw_0 13 rfl rfl)
theorem dX2_raw_14 : decode cX2_raw 14 = .ok (.goto 4, 3) := dk_167 0 4 (dk_at dksX2_raw_0 14 rfl rfl)
theorem dX2_raw_17 : decode cX2_raw 17 = .ok (.iconst (-1), 1) := dk_2 (dk_at dksX2_raw_0 17 rfl rfl)
theorem dX2_raw_18 : decode cX2_raw 18 = .ok (.ireturn, 1) := dk_172 (dk_at dksX2_raw_0 18 rfl rfl)
abbrev cX2_isLetter : ByteArray := prog_21_method_27_code
def yX2_isLetter : MethodName := ⟨RX2, "isLetter", "(I)Z"⟩
def dkwX2_isLetter_1 : List UInt8 := [4, 167, 0, 4, 3, 172]
abbrev dktX2_isLetter_1 : List UInt8 := dkwX2_isLetter_1 ++ []
def dkwX2_isLetter_0 : List UInt8 := [42, 27, 16, 97, 16, 122, 182, 0, 102, 154, 0, 15, 42, 27, 16, 65, 16, 90, 182, 0, 102, 153, 0, 7]
abbrev dktX2_isLetter_0 : List UInt8 := dkwX2_isLetter_0 ++ dktX2_isLetter_1
theorem dksX2_isLetter_0 : cX2_isLetter.data.toList.drop 0 = dktX2_isLetter_0 := by decide +kernel
theorem dksX2_isLetter_1 : cX2_isLetter.data.toList.drop 24 = dktX2_isLetter_1 := dk_seg dksX2_isLetter_0 24 rfl rfl
theorem dX2_isLetter_0 : decode cX2_isLetter 0 = .ok (.aload_n 0, 1) := dk_42 (dk_at dksX2_isLetter_0 0 rfl rfl)
theorem dX2_isLetter_1 : decode cX2_isLetter 1 = .ok (.iload_n 1, 1) := dk_27 (dk_at dksX2_isLetter_0 1 rfl rfl)
theorem dX2_isLetter_2 : decode cX2_isLetter 2 = .ok (.bipush 97, 2) := dk_16 97 (dk_at dksX2_isLetter_0 2 rfl rfl)
theorem dX2_isLetter_4 : decode cX2_isLetter 4 = .ok (.bipush 122, 2) := dk_16 122 (dk_at dksX2_isLetter_0 4 rfl rfl)
theorem dX2_isLetter_6 : decode cX2_isLetter 6 = .ok (.invokevirtual 102, 3) := dk_182 0 102 (dk_at dksX2_isLetter_0 6 rfl rfl)
theorem dX2_isLetter_9 : decode cX2_isLetter 9 = .ok (.ifCond .ne 15, 3) := dk_154 0 15 (dk_at dksX2_isLetter_0 9 rfl rfl)
theorem dX2_isLetter_12 : decode cX2_isLetter 12 = .ok (.aload_n 0, 1) := dk_42 (dk_at dksX2_isLetter_0 12 rfl rfl)
theorem dX2_isLetter_13 : decode cX2_isLetter 13 = .ok (.iload_n 1, 1) := dk_27 (dk_at dksX2_isLetter_0 13 rfl rfl)
theorem dX2_isLetter_14 : decode cX2_isLetter 14 = .ok (.bipush 65, 2) := dk_16 65 (dk_at dksX2_isLetter_0 14 rfl rfl)
theorem dX2_isLetter_16 : decode cX2_isLetter 16 = .ok (.bipush 90, 2) := dk_16 90 (dk_at dksX2_isLetter_0 16 rfl rfl)
theorem dX2_isLetter_18 : decode cX2_isLetter 18 = .ok (.invokevirtual 102, 3) := dk_182 0 102 (dk_at dksX2_isLetter_0 18 rfl rfl)
theorem dX2_isLetter_21 : decode cX2_isLetter 21 = .ok (.ifCond .eq 7, 3) := dk_153 0 7 (dk_at dksX2_isLetter_0 21 rfl rfl)
theorem dX2_isLetter_24 : decode cX2_isLetter 24 = .ok (.iconst 1, 1) := dk_4 (dk_at dksX2_isLetter_1 0 rfl rfl)
theorem dX2_isLetter_25 : decode cX2_isLetter 25 = .ok (.goto 4, 3) := dk_167 0 4 (dk_at dksX2_isLetter_1 1 rfl rfl)
theorem dX2_isLetter_28 : decode cX2_isLetter 28 = .ok (.iconst 0, 1) := dk_3 (dk_at dksX2_isLetter_1 4 rfl rfl)
theorem dX2_isLetter_29 : decode cX2_isLetter 29 = .ok (.ireturn, 1) := dk_172 (dk_at dksX2_isLetter_1 5 rfl rfl)
abbrev cX2_wordAt : ByteArray := prog_21_method_30_code
def yX2_wordAt : MethodName := ⟨RX2, "wordAt", "(II)I"⟩
def dkwX2_wordAt_5 : List UInt8 := [2, 172]
abbrev dktX2_wordAt_5 : List UInt8 := dkwX2_wordAt_5 ++ []
def dkwX2_wordAt_4 : List UInt8 := [42, 180, 0, 28, 21, 4, 46, 16, 32, 159, 0, 12, 21, 4, 4, 96, 54, 4, 167, 255, 238, 167, 255, 146]
abbrev dktX2_wordAt_4 : List UInt8 := dkwX2_wordAt_4 ++ dktX2_wordAt_5
def dkwX2_wordAt_3 : List UInt8 := [180, 0, 28, 21, 4, 4, 96, 21, 5, 96, 46, 16, 32, 160, 0, 5, 29, 172, 21, 4, 4, 96, 54, 4]
abbrev dktX2_wordAt_3 : List UInt8 := dkwX2_wordAt_3 ++ dktX2_wordAt_4
def dkwX2_wordAt_2 : List UInt8 := [46, 160, 0, 12, 21, 5, 4, 96, 54, 5, 167, 255, 218, 27, 21, 5, 96, 28, 160, 0, 22, 42]
abbrev dktX2_wordAt_2 : List UInt8 := dkwX2_wordAt_2 ++ dktX2_wordAt_3
def dkwX2_wordAt_1 : List UInt8 := [28, 162, 0, 36, 42, 180, 0, 28, 21, 4, 4, 96, 21, 5, 96, 46, 42, 180, 0, 25, 27, 21, 5, 96]
abbrev dktX2_wordAt_1 : List UInt8 := dkwX2_wordAt_1 ++ dktX2_wordAt_2
def dkwX2_wordAt_0 : List UInt8 := [2, 62, 3, 54, 4, 21, 4, 17, 0, 154, 162, 0, 108, 3, 54, 5, 29, 4, 96, 62, 27, 21, 5, 96]
abbrev dktX2_wordAt_0 : List UInt8 := dkwX2_wordAt_0 ++ dktX2_wordAt_1
theorem dksX2_wordAt_0 : cX2_wordAt.data.toList.drop 0 = dktX2_wordAt_0 := by decide +kernel
theorem dksX2_wordAt_1 : cX2_wordAt.data.toList.drop 24 = dktX2_wordAt_1 := dk_seg dksX2_wordAt_0 24 rfl rfl
theorem dksX2_wordAt_2 : cX2_wordAt.data.toList.drop 48 = dktX2_wordAt_2 := dk_seg dksX2_wordAt_1 24 rfl rfl
theorem dksX2_wordAt_3 : cX2_wordAt.data.toList.drop 70 = dktX2_wordAt_3 := dk_seg dksX2_wordAt_2 22 rfl rfl
theorem dksX2_wordAt_4 : cX2_wordAt.data.toList.drop 94 = dktX2_wordAt_4 := dk_seg dksX2_wordAt_3 24 rfl rfl
theorem dksX2_wordAt_5 : cX2_wordAt.data.toList.drop 118 = dktX2_wordAt_5 := dk_seg dksX2_wordAt_4 24 rfl rfl
theorem dX2_wordAt_0 : decode cX2_wordAt 0 = .ok (.iconst (-1), 1) := dk_2 (dk_at dksX2_wordAt_0 0 rfl rfl)
theorem dX2_wordAt_1 : decode cX2_wordAt 1 = .ok (.istore_n 3, 1) := dk_62 (dk_at dksX2_wordAt_0 1 rfl rfl)
theorem dX2_wordAt_2 : decode cX2_wordAt 2 = .ok (.iconst 0, 1) := dk_3 (dk_at dksX2_wordAt_0 2 rfl rfl)
theorem dX2_wordAt_3 : decode cX2_wordAt 3 = .ok (.istore 4, 2) := dk_54 4 (dk_at dksX2_wordAt_0 3 rfl rfl)
theorem dX2_wordAt_5 : decode cX2_wordAt 5 = .ok (.iload 4, 2) := dk_21 4 (dk_at dksX2_wordAt_0 5 rfl rfl)
theorem dX2_wordAt_7 : decode cX2_wordAt 7 = .ok (.sipush 154, 3) := dk_17 0 154 (dk_at dksX2_wordAt_0 7 rfl rfl)
theorem dX2_wordAt_10 : decode cX2_wordAt 10 = .ok (.if_icmp .ge 108, 3) := dk_162 0 108 (dk_at dksX2_wordAt_0 10 rfl rfl)
theorem dX2_wordAt_13 : decode cX2_wordAt 13 = .ok (.iconst 0, 1) := dk_3 (dk_at dksX2_wordAt_0 13 rfl rfl)
theorem dX2_wordAt_14 : decode cX2_wordAt 14 = .ok (.istore 5, 2) := dk_54 5 (dk_at dksX2_wordAt_0 14 rfl rfl)
theorem dX2_wordAt_16 : decode cX2_wordAt 16 = .ok (.iload_n 3, 1) := dk_29 (dk_at dksX2_wordAt_0 16 rfl rfl)
theorem dX2_wordAt_17 : decode cX2_wordAt 17 = .ok (.iconst 1, 1) := dk_4 (dk_at dksX2_wordAt_0 17 rfl rfl)
theorem dX2_wordAt_18 : decode cX2_wordAt 18 = .ok (.iadd, 1) := dk_96 (dk_at dksX2_wordAt_0 18 rfl rfl)
theorem dX2_wordAt_19 : decode cX2_wordAt 19 = .ok (.istore_n 3, 1) := dk_62 (dk_at dksX2_wordAt_0 19 rfl rfl)
theorem dX2_wordAt_20 : decode cX2_wordAt 20 = .ok (.iload_n 1, 1) := dk_27 (dk_at dksX2_wordAt_0 20 rfl rfl)
theorem dX2_wordAt_21 : decode cX2_wordAt 21 = .ok (.iload 5, 2) := dk_21 5 (dk_at dksX2_wordAt_0 21 rfl rfl)
theorem dX2_wordAt_23 : decode cX2_wordAt 23 = .ok (.iadd, 1) := dk_96 (dk_at dksX2_wordAt_0 23 rfl rfl)
theorem dX2_wordAt_24 : decode cX2_wordAt 24 = .ok (.iload_n 2, 1) := dk_28 (dk_at dksX2_wordAt_1 0 rfl rfl)
theorem dX2_wordAt_25 : decode cX2_wordAt 25 = .ok (.if_icmp .ge 36, 3) := dk_162 0 36 (dk_at dksX2_wordAt_1 1 rfl rfl)
theorem dX2_wordAt_28 : decode cX2_wordAt 28 = .ok (.aload_n 0, 1) := dk_42 (dk_at dksX2_wordAt_1 4 rfl rfl)
theorem dX2_wordAt_29 : decode cX2_wordAt 29 = .ok (.getfield 28, 3) := dk_180 0 28 (dk_at dksX2_wordAt_1 5 rfl rfl)
theorem dX2_wordAt_32 : decode cX2_wordAt 32 = .ok (.iload 4, 2) := dk_21 4 (dk_at dksX2_wordAt_1 8 rfl rfl)
theorem dX2_wordAt_34 : decode cX2_wordAt 34 = .ok (.iconst 1, 1) := dk_4 (dk_at dksX2_wordAt_1 10 rfl rfl)
theorem dX2_wordAt_35 : decode cX2_wordAt 35 = .ok (.iadd, 1) := dk_96 (dk_at dksX2_wordAt_1 11 rfl rfl)
theorem dX2_wordAt_36 : decode cX2_wordAt 36 = .ok (.iload 5, 2) := dk_21 5 (dk_at dksX2_wordAt_1 12 rfl rfl)
theorem dX2_wordAt_38 : decode cX2_wordAt 38 = .ok (.iadd, 1) := dk_96 (dk_at dksX2_wordAt_1 14 rfl rfl)
theorem dX2_wordAt_39 : decode cX2_wordAt 39 = .ok (.iaload, 1) := dk_46 (dk_at dksX2_wordAt_1 15 rfl rfl)
theorem dX2_wordAt_40 : decode cX2_wordAt 40 = .ok (.aload_n 0, 1) := dk_42 (dk_at dksX2_wordAt_1 16 rfl rfl)
theorem dX2_wordAt_41 : decode cX2_wordAt 41 = .ok (.getfield 25, 3) := dk_180 0 25 (dk_at dksX2_wordAt_1 17 rfl rfl)
theorem dX2_wordAt_44 : decode cX2_wordAt 44 = .ok (.iload_n 1, 1) := dk_27 (dk_at dksX2_wordAt_1 20 rfl rfl)
theorem dX2_wordAt_45 : decode cX2_wordAt 45 = .ok (.iload 5, 2) := dk_21 5 (dk_at dksX2_wordAt_1 21 rfl rfl)
theorem dX2_wordAt_47 : decode cX2_wordAt 47 = .ok (.iadd, 1) := dk_96 (dk_at dksX2_wordAt_1 23 rfl rfl)
theorem dX2_wordAt_48 : decode cX2_wordAt 48 = .ok (.iaload, 1) := dk_46 (dk_at dksX2_wordAt_2 0 rfl rfl)
theorem dX2_wordAt_49 : decode cX2_wordAt 49 = .ok (.if_icmp .ne 12, 3) := dk_160 0 12 (dk_at dksX2_wordAt_2 1 rfl rfl)
theorem dX2_wordAt_52 : decode cX2_wordAt 52 = .ok (.iload 5, 2) := dk_21 5 (dk_at dksX2_wordAt_2 4 rfl rfl)
theorem dX2_wordAt_54 : decode cX2_wordAt 54 = .ok (.iconst 1, 1) := dk_4 (dk_at dksX2_wordAt_2 6 rfl rfl)
theorem dX2_wordAt_55 : decode cX2_wordAt 55 = .ok (.iadd, 1) := dk_96 (dk_at dksX2_wordAt_2 7 rfl rfl)
theorem dX2_wordAt_56 : decode cX2_wordAt 56 = .ok (.istore 5, 2) := dk_54 5 (dk_at dksX2_wordAt_2 8 rfl rfl)
theorem dX2_wordAt_58 : decode cX2_wordAt 58 = .ok (.goto (-38), 3) := dk_167 255 218 (dk_at dksX2_wordAt_2 10 rfl rfl)
theorem dX2_wordAt_61 : decode cX2_wordAt 61 = .ok (.iload_n 1, 1) := dk_27 (dk_at dksX2_wordAt_2 13 rfl rfl)
theorem dX2_wordAt_62 : decode cX2_wordAt 62 = .ok (.iload 5, 2) := dk_21 5 (dk_at dksX2_wordAt_2 14 rfl rfl)
theorem dX2_wordAt_64 : decode cX2_wordAt 64 = .ok (.iadd, 1) := dk_96 (dk_at dksX2_wordAt_2 16 rfl rfl)
theorem dX2_wordAt_65 : decode cX2_wordAt 65 = .ok (.iload_n 2, 1) := dk_28 (dk_at dksX2_wordAt_2 17 rfl rfl)
theorem dX2_wordAt_66 : decode cX2_wordAt 66 = .ok (.if_icmp .ne 22, 3) := dk_160 0 22 (dk_at dksX2_wordAt_2 18 rfl rfl)
theorem dX2_wordAt_69 : decode cX2_wordAt 69 = .ok (.aload_n 0, 1) := dk_42 (dk_at dksX2_wordAt_2 21 rfl rfl)
theorem dX2_wordAt_70 : decode cX2_wordAt 70 = .ok (.getfield 28, 3) := dk_180 0 28 (dk_at dksX2_wordAt_3 0 rfl rfl)
theorem dX2_wordAt_73 : decode cX2_wordAt 73 = .ok (.iload 4, 2) := dk_21 4 (dk_at dksX2_wordAt_3 3 rfl rfl)
theorem dX2_wordAt_75 : decode cX2_wordAt 75 = .ok (.iconst 1, 1) := dk_4 (dk_at dksX2_wordAt_3 5 rfl rfl)
theorem dX2_wordAt_76 : decode cX2_wordAt 76 = .ok (.iadd, 1) := dk_96 (dk_at dksX2_wordAt_3 6 rfl rfl)
theorem dX2_wordAt_77 : decode cX2_wordAt 77 = .ok (.iload 5, 2) := dk_21 5 (dk_at dksX2_wordAt_3 7 rfl rfl)
theorem dX2_wordAt_79 : decode cX2_wordAt 79 = .ok (.iadd, 1) := dk_96 (dk_at dksX2_wordAt_3 9 rfl rfl)
theorem dX2_wordAt_80 : decode cX2_wordAt 80 = .ok (.iaload, 1) := dk_46 (dk_at dksX2_wordAt_3 10 rfl rfl)
theorem dX2_wordAt_81 : decode cX2_wordAt 81 = .ok (.bipush 32, 2) := dk_16 32 (dk_at dksX2_wordAt_3 11 rfl rfl)
theorem dX2_wordAt_83 : decode cX2_wordAt 83 = .ok (.if_icmp .ne 5, 3) := dk_160 0 5 (dk_at dksX2_wordAt_3 13 rfl rfl)
theorem dX2_wordAt_86 : decode cX2_wordAt 86 = .ok (.iload_n 3, 1) := dk_29 (dk_at dksX2_wordAt_3 16 rfl rfl)
theorem dX2_wordAt_87 : decode cX2_wordAt 87 = .ok (.ireturn, 1) := dk_172 (dk_at dksX2_wordAt_3 17 rfl rfl)
theorem dX2_wordAt_88 : decode cX2_wordAt 88 = .ok (.iload 4, 2) := dk_21 4 (dk_at dksX2_wordAt_3 18 rfl rfl)
theorem dX2_wordAt_90 : decode cX2_wordAt 90 = .ok (.iconst 1, 1) := dk_4 (dk_at dksX2_wordAt_3 20 rfl rfl)
theorem dX2_wordAt_91 : decode cX2_wordAt 91 = .ok (.iadd, 1) := dk_96 (dk_at dksX2_wordAt_3 21 rfl rfl)
theorem dX2_wordAt_92 : decode cX2_wordAt 92 = .ok (.istore 4, 2) := dk_54 4 (dk_at dksX2_wordAt_3 22 rfl rfl)
theorem dX2_wordAt_94 : decode cX2_wordAt 94 = .ok (.aload_n 0, 1) := dk_42 (dk_at dksX2_wordAt_4 0 rfl rfl)
theorem dX2_wordAt_95 : decode cX2_wordAt 95 = .ok (.getfield 28, 3) := dk_180 0 28 (dk_at dksX2_wordAt_4 1 rfl rfl)
theorem dX2_wordAt_98 : decode cX2_wordAt 98 = .ok (.iload 4, 2) := dk_21 4 (dk_at dksX2_wordAt_4 4 rfl rfl)
theorem dX2_wordAt_100 : decode cX2_wordAt 100 = .ok (.iaload, 1) := dk_46 (dk_at dksX2_wordAt_4 6 rfl rfl)
theorem dX2_wordAt_101 : decode cX2_wordAt 101 = .ok (.bipush 32, 2) := dk_16 32 (dk_at dksX2_wordAt_4 7 rfl rfl)
theorem dX2_wordAt_103 : decode cX2_wordAt 103 = .ok (.if_icmp .eq 12, 3) := dk_159 0 12 (dk_at dksX2_wordAt_4 9 rfl rfl)
theorem dX2_wordAt_106 : decode cX2_wordAt 106 = .ok (.iload 4, 2) := dk_21 4 (dk_at dksX2_wordAt_4 12 rfl rfl)
theorem dX2_wordAt_108 : decode cX2_wordAt 108 = .ok (.iconst 1, 1) := dk_4 (dk_at dksX2_wordAt_4 14 rfl rfl)
theorem dX2_wordAt_109 : decode cX2_wordAt 109 = .ok (.iadd, 1) := dk_96 (dk_at dksX2_wordAt_4 15 rfl rfl)
theorem dX2_wordAt_110 : decode cX2_wordAt 110 = .ok (.istore 4, 2) := dk_54 4 (dk_at dksX2_wordAt_4 16 rfl rfl)
theorem dX2_wordAt_112 : decode cX2_wordAt 112 = .ok (.goto (-18), 3) := dk_167 255 238 (dk_at dksX2_wordAt_4 18 rfl rfl)
theorem dX2_wordAt_115 : decode cX2_wordAt 115 = .ok (.goto (-110), 3) := dk_167 255 146 (dk_at dksX2_wordAt_4 21 rfl rfl)
theorem dX2_wordAt_118 : decode cX2_wordAt 118 = .ok (.iconst (-1), 1) := dk_2 (dk_at dksX2_wordAt_5 0 rfl rfl)
theorem dX2_wordAt_119 : decode cX2_wordAt 119 = .ok (.ireturn, 1) := dk_172 (dk_at dksX2_wordAt_5 1 rfl rfl)
abbrev cX2_isDigit : ByteArray := prog_21_method_28_code
def yX2_isDigit : MethodName := ⟨RX2, "isDigit", "(I)Z"⟩
def dkwX2_isDigit_0 : List UInt8 := [42, 27, 16, 48, 16, 57, 182, 0, 102, 172]
abbrev dktX2_isDigit_0 : List UInt8 := dkwX2_isDigit_0 ++ []
theorem dksX2_isDigit_0 : cX2_isDigit.data.toList.drop 0 = dktX2_isDigit_0 := by decide +kernel
theorem dX2_isDigit_0 : decode cX2_isDigit 0 = .ok (.aload_n 0, 1) := dk_42 (dk_at dksX2_isDigit_0 0 rfl rfl)
theorem dX2_isDigit_1 : decode cX2_isDigit 1 = .ok (.iload_n 1, 1) := dk_27 (dk_at dksX2_isDigit_0 1 rfl rfl)
theorem dX2_isDigit_2 : decode cX2_isDigit 2 = .ok (.bipush 48, 2) := dk_16 48 (dk_at dksX2_isDigit_0 2 rfl rfl)
theorem dX2_isDigit_4 : decode cX2_isDigit 4 = .ok (.bipush 57, 2) := dk_16 57 (dk_at dksX2_isDigit_0 4 rfl rfl)
theorem dX2_isDigit_6 : decode cX2_isDigit 6 = .ok (.invokevirtual 102, 3) := dk_182 0 102 (dk_at dksX2_isDigit_0 6 rfl rfl)
theorem dX2_isDigit_9 : decode cX2_isDigit 9 = .ok (.ireturn, 1) := dk_172 (dk_at dksX2_isDigit_0 9 rfl rfl)
abbrev cX2_isMarkSign : ByteArray := prog_21_method_29_code
def yX2_isMarkSign : MethodName := ⟨RX2, "isMarkSign", "(I)Z"⟩
def dkwX2_isMarkSign_2 : List UInt8 := [27, 16, 61, 159, 0, 9, 27, 16, 62, 160, 0, 7, 4, 167, 0, 4, 3, 172]
abbrev dktX2_isMarkSign_2 : List UInt8 := dkwX2_isMarkSign_2 ++ []
def dkwX2_isMarkSign_1 : List UInt8 := [27, 16, 47, 159, 0, 33, 27, 16, 40, 159, 0, 27, 27, 16, 41, 159, 0, 21, 27, 16, 60, 159, 0, 15]
abbrev dktX2_isMarkSign_1 : List UInt8 := dkwX2_isMarkSign_1 ++ dktX2_isMarkSign_2
def dkwX2_isMarkSign_0 : List UInt8 := [27, 16, 59, 159, 0, 57, 27, 16, 43, 159, 0, 51, 27, 16, 45, 159, 0, 45, 27, 16, 42, 159, 0, 39]
abbrev dktX2_isMarkSign_0 : List UInt8 := dkwX2_isMarkSign_0 ++ dktX2_isMarkSign_1
theorem dksX2_isMarkSign_0 : cX2_isMarkSign.data.toList.drop 0 = dktX2_isMarkSign_0 := by decide +kernel
theorem dksX2_isMarkSign_1 : cX2_isMarkSign.data.toList.drop 24 = dktX2_isMarkSign_1 := dk_seg dksX2_isMarkSign_0 24 rfl rfl
theorem dksX2_isMarkSign_2 : cX2_isMarkSign.data.toList.drop 48 = dktX2_isMarkSign_2 := dk_seg dksX2_isMarkSign_1 24 rfl rfl
theorem dX2_isMarkSign_0 : decode cX2_isMarkSign 0 = .ok (.iload_n 1, 1) := dk_27 (dk_at dksX2_isMarkSign_0 0 rfl rfl)
theorem dX2_isMarkSign_1 : decode cX2_isMarkSign 1 = .ok (.bipush 59, 2) := dk_16 59 (dk_at dksX2_isMarkSign_0 1 rfl rfl)
theorem dX2_isMarkSign_3 : decode cX2_isMarkSign 3 = .ok (.if_icmp .eq 57, 3) := dk_159 0 57 (dk_at dksX2_isMarkSign_0 3 rfl rfl)
theorem dX2_isMarkSign_6 : decode cX2_isMarkSign 6 = .ok (.iload_n 1, 1) := dk_27 (dk_at dksX2_isMarkSign_0 6 rfl rfl)
theorem dX2_isMarkSign_7 : decode cX2_isMarkSign 7 = .ok (.bipush 43, 2) := dk_16 43 (dk_at dksX2_isMarkSign_0 7 rfl rfl)
theorem dX2_isMarkSign_9 : decode cX2_isMarkSign 9 = .ok (.if_icmp .eq 51, 3) := dk_159 0 51 (dk_at dksX2_isMarkSign_0 9 rfl rfl)
theorem dX2_isMarkSign_12 : decode cX2_isMarkSign 12 = .ok (.iload_n 1, 1) := dk_27 (dk_at dksX2_isMarkSign_0 12 rfl rfl)
theorem dX2_isMarkSign_13 : decode cX2_isMarkSign 13 = .ok (.bipush 45, 2) := dk_16 45 (dk_at dksX2_isMarkSign_0 13 rfl rfl)
theorem dX2_isMarkSign_15 : decode cX2_isMarkSign 15 = .ok (.if_icmp .eq 45, 3) := dk_159 0 45 (dk_at dksX2_isMarkSign_0 15 rfl rfl)
theorem dX2_isMarkSign_18 : decode cX2_isMarkSign 18 = .ok (.iload_n 1, 1) := dk_27 (dk_at dksX2_isMarkSign_0 18 rfl rfl)
theorem dX2_isMarkSign_19 : decode cX2_isMarkSign 19 = .ok (.bipush 42, 2) := dk_16 42 (dk_at dksX2_isMarkSign_0 19 rfl rfl)
theorem dX2_isMarkSign_21 : decode cX2_isMarkSign 21 = .ok (.if_icmp .eq 39, 3) := dk_159 0 39 (dk_at dksX2_isMarkSign_0 21 rfl rfl)
theorem dX2_isMarkSign_24 : decode cX2_isMarkSign 24 = .ok (.iload_n 1, 1) := dk_27 (dk_at dksX2_isMarkSign_1 0 rfl rfl)
theorem dX2_isMarkSign_25 : decode cX2_isMarkSign 25 = .ok (.bipush 47, 2) := dk_16 47 (dk_at dksX2_isMarkSign_1 1 rfl rfl)
theorem dX2_isMarkSign_27 : decode cX2_isMarkSign 27 = .ok (.if_icmp .eq 33, 3) := dk_159 0 33 (dk_at dksX2_isMarkSign_1 3 rfl rfl)
theorem dX2_isMarkSign_30 : decode cX2_isMarkSign 30 = .ok (.iload_n 1, 1) := dk_27 (dk_at dksX2_isMarkSign_1 6 rfl rfl)
theorem dX2_isMarkSign_31 : decode cX2_isMarkSign 31 = .ok (.bipush 40, 2) := dk_16 40 (dk_at dksX2_isMarkSign_1 7 rfl rfl)
theorem dX2_isMarkSign_33 : decode cX2_isMarkSign 33 = .ok (.if_icmp .eq 27, 3) := dk_159 0 27 (dk_at dksX2_isMarkSign_1 9 rfl rfl)
theorem dX2_isMarkSign_36 : decode cX2_isMarkSign 36 = .ok (.iload_n 1, 1) := dk_27 (dk_at dksX2_isMarkSign_1 12 rfl rfl)
theorem dX2_isMarkSign_37 : decode cX2_isMarkSign 37 = .ok (.bipush 41, 2) := dk_16 41 (dk_at dksX2_isMarkSign_1 13 rfl rfl)
theorem dX2_isMarkSign_39 : decode cX2_isMarkSign 39 = .ok (.if_icmp .eq 21, 3) := dk_159 0 21 (dk_at dksX2_isMarkSign_1 15 rfl rfl)
theorem dX2_isMarkSign_42 : decode cX2_isMarkSign 42 = .ok (.iload_n 1, 1) := dk_27 (dk_at dksX2_isMarkSign_1 18 rfl rfl)
theorem dX2_isMarkSign_43 : decode cX2_isMarkSign 43 = .ok (.bipush 60, 2) := dk_16 60 (dk_at dksX2_isMarkSign_1 19 rfl rfl)
theorem dX2_isMarkSign_45 : decode cX2_isMarkSign 45 = .ok (.if_icmp .eq 15, 3) := dk_159 0 15 (dk_at dksX2_isMarkSign_1 21 rfl rfl)
theorem dX2_isMarkSign_48 : decode cX2_isMarkSign 48 = .ok (.iload_n 1, 1) := dk_27 (dk_at dksX2_isMarkSign_2 0 rfl rfl)
theorem dX2_isMarkSign_49 : decode cX2_isMarkSign 49 = .ok (.bipush 61, 2) := dk_16 61 (dk_at dksX2_isMarkSign_2 1 rfl rfl)
theorem dX2_isMarkSign_51 : decode cX2_isMarkSign 51 = .ok (.if_icmp .eq 9, 3) := dk_159 0 9 (dk_at dksX2_isMarkSign_2 3 rfl rfl)
theorem dX2_isMarkSign_54 : decode cX2_isMarkSign 54 = .ok (.iload_n 1, 1) := dk_27 (dk_at dksX2_isMarkSign_2 6 rfl rfl)
theorem dX2_isMarkSign_55 : decode cX2_isMarkSign 55 = .ok (.bipush 62, 2) := dk_16 62 (dk_at dksX2_isMarkSign_2 7 rfl rfl)
theorem dX2_isMarkSign_57 : decode cX2_isMarkSign 57 = .ok (.if_icmp .ne 7, 3) := dk_160 0 7 (dk_at dksX2_isMarkSign_2 9 rfl rfl)
theorem dX2_isMarkSign_60 : decode cX2_isMarkSign 60 = .ok (.iconst 1, 1) := dk_4 (dk_at dksX2_isMarkSign_2 12 rfl rfl)
theorem dX2_isMarkSign_61 : decode cX2_isMarkSign 61 = .ok (.goto 4, 3) := dk_167 0 4 (dk_at dksX2_isMarkSign_2 13 rfl rfl)
theorem dX2_isMarkSign_64 : decode cX2_isMarkSign 64 = .ok (.iconst 0, 1) := dk_3 (dk_at dksX2_isMarkSign_2 16 rfl rfl)
theorem dX2_isMarkSign_65 : decode cX2_isMarkSign 65 = .ok (.ireturn, 1) := dk_172 (dk_at dksX2_isMarkSign_2 17 rfl rfl)
abbrev cX2_readQuenching : ByteArray := prog_21_method_53_code
def yX2_readQuenching : MethodName := ⟨RX2, "readQuenching", "()I"⟩
def dkwX2_readQuenching_2 : List UInt8 := [154, 0, 7, 27, 167, 0, 8, 42, 4, 182, 0, 168, 172]
abbrev dktX2_readQuenching_2 : List UInt8 := dkwX2_readQuenching_2 ++ []
def dkwX2_readQuenching_1 : List UInt8 := [6, 27, 104, 96, 182, 0, 234, 2, 160, 0, 5, 2, 172, 27, 4, 96, 60, 167, 255, 217, 42, 180, 0, 137]
abbrev dktX2_readQuenching_1 : List UInt8 := dkwX2_readQuenching_1 ++ dktX2_readQuenching_2
def dkwX2_readQuenching_0 : List UInt8 := [3, 60, 42, 182, 0, 225, 153, 0, 38, 27, 16, 16, 160, 0, 9, 42, 6, 182, 0, 168, 172, 42, 16, 48]
abbrev dktX2_readQuenching_0 : List UInt8 := dkwX2_readQuenching_0 ++ dktX2_readQuenching_1
theorem dksX2_readQuenching_0 : cX2_readQuenching.data.toList.drop 0 = dktX2_readQuenching_0 := by decide +kernel
theorem dksX2_readQuenching_1 : cX2_readQuenching.data.toList.drop 24 = dktX2_readQuenching_1 := dk_seg dksX2_readQuenching_0 24 rfl rfl
theorem dksX2_readQuenching_2 : cX2_readQuenching.data.toList.drop 48 = dktX2_readQuenching_2 := dk_seg dksX2_readQuenching_1 24 rfl rfl
theorem dX2_readQuenching_0 : decode cX2_readQuenching 0 = .ok (.iconst 0, 1) := dk_3 (dk_at dksX2_readQuenching_0 0 rfl rfl)
theorem dX2_readQuenching_1 : decode cX2_readQuenching 1 = .ok (.istore_n 1, 1) := dk_60 (dk_at dksX2_readQuenching_0 1 rfl rfl)
theorem dX2_readQuenching_2 : decode cX2_readQuenching 2 = .ok (.aload_n 0, 1) := dk_42 (dk_at dksX2_readQuenching_0 2 rfl rfl)
theorem dX2_readQuenching_3 : decode cX2_readQuenching 3 = .ok (.invokevirtual 225, 3) := dk_182 0 225 (dk_at dksX2_readQuenching_0 3 rfl rfl)
theorem dX2_readQuenching_6 : decode cX2_readQuenching 6 = .ok (.ifCond .eq 38, 3) := dk_153 0 38 (dk_at dksX2_readQuenching_0 6 rfl rfl)
theorem dX2_readQuenching_9 : decode cX2_readQuenching 9 = .ok (.iload_n 1, 1) := dk_27 (dk_at dksX2_readQuenching_0 9 rfl rfl)
theorem dX2_readQuenching_10 : decode cX2_readQuenching 10 = .ok (.bipush 16, 2) := dk_16 16 (dk_at dksX2_readQuenching_0 10 rfl rfl)
theorem dX2_readQuenching_12 : decode cX2_readQuenching 12 = .ok (.if_icmp .ne 9, 3) := dk_160 0 9 (dk_at dksX2_readQuenching_0 12 rfl rfl)
theorem dX2_readQuenching_15 : decode cX2_readQuenching 15 = .ok (.aload_n 0, 1) := dk_42 (dk_at dksX2_readQuenching_0 15 rfl rfl)
theorem dX2_readQuenching_16 : decode cX2_readQuenching 16 = .ok (.iconst 3, 1) := dk_6 (dk_at dksX2_readQuenching_0 16 rfl rfl)
theorem dX2_readQuenching_17 : decode cX2_readQuenching 17 = .ok (.invokevirtual 168, 3) := dk_182 0 168 (dk_at dksX2_readQuenching_0 17 rfl rfl)
theorem dX2_readQuenching_20 : decode cX2_readQuenching 20 = .ok (.ireturn, 1) := dk_172 (dk_at dksX2_readQuenching_0 20 rfl rfl)
theorem dX2_readQuenching_21 : decode cX2_readQuenching 21 = .ok (.aload_n 0, 1) := dk_42 (dk_at dksX2_readQuenching_0 21 rfl rfl)
theorem dX2_readQuenching_22 : decode cX2_readQuenching 22 = .ok (.bipush 48, 2) := dk_16 48 (dk_at dksX2_readQuenching_0 22 rfl rfl)
theorem dX2_readQuenching_24 : decode cX2_readQuenching 24 = .ok (.iconst 3, 1) := dk_6 (dk_at dksX2_readQuenching_1 0 rfl rfl)
theorem dX2_readQuenching_25 : decode cX2_readQuenching 25 = .ok (.iload_n 1, 1) := dk_27 (dk_at dksX2_readQuenching_1 1 rfl rfl)
theorem dX2_readQuenching_26 : decode cX2_readQuenching 26 = .ok (.imul, 1) := dk_104 (dk_at dksX2_readQuenching_1 2 rfl rfl)
theorem dX2_readQuenching_27 : decode cX2_readQuenching 27 = .ok (.iadd, 1) := dk_96 (dk_at dksX2_readQuenching_1 3 rfl rfl)
theorem dX2_readQuenching_28 : decode cX2_readQuenching 28 = .ok (.invokevirtual 234, 3) := dk_182 0 234 (dk_at dksX2_readQuenching_1 4 rfl rfl)
theorem dX2_readQuenching_31 : decode cX2_readQuenching 31 = .ok (.iconst (-1), 1) := dk_2 (dk_at dksX2_readQuenching_1 7 rfl rfl)
theorem dX2_readQuenching_32 : decode cX2_readQuenching 32 = .ok (.if_icmp .ne 5, 3) := dk_160 0 5 (dk_at dksX2_readQuenching_1 8 rfl rfl)
theorem dX2_readQuenching_35 : decode cX2_readQuenching 35 = .ok (.iconst (-1), 1) := dk_2 (dk_at dksX2_readQuenching_1 11 rfl rfl)
theorem dX2_readQuenching_36 : decode cX2_readQuenching 36 = .ok (.ireturn, 1) := dk_172 (dk_at dksX2_readQuenching_1 12 rfl rfl)
theorem dX2_readQuenching_37 : decode cX2_readQuenching 37 = .ok (.iload_n 1, 1) := dk_27 (dk_at dksX2_readQuenching_1 13 rfl rfl)
theorem dX2_readQuenching_38 : decode cX2_readQuenching 38 = .ok (.iconst 1, 1) := dk_4 (dk_at dksX2_readQuenching_1 14 rfl rfl)
theorem dX2_readQuenching_39 : decode cX2_readQuenching 39 = .ok (.iadd, 1) := dk_96 (dk_at dksX2_readQuenching_1 15 rfl rfl)
theorem dX2_readQuenching_40 : decode cX2_readQuenching 40 = .ok (.istore_n 1, 1) := dk_60 (dk_at dksX2_readQuenching_1 16 rfl rfl)
theorem dX2_readQuenching_41 : decode cX2_readQuenching 41 = .ok (.goto (-39), 3) := dk_167 255 217 (dk_at dksX2_readQuenching_1 17 rfl rfl)
theorem dX2_readQuenching_44 : decode cX2_readQuenching 44 = .ok (.aload_n 0, 1) := dk_42 (dk_at dksX2_readQuenching_1 20 rfl rfl)
theorem dX2_readQuenching_45 : decode cX2_readQuenching 45 = .ok (.getfield 137, 3) := dk_180 0 137 (dk_at dksX2_readQuenching_1 21 rfl rfl)
theorem dX2_readQuenching_48 : decode cX2_readQuenching 48 = .ok (.ifCond .ne 7, 3) := dk_154 0 7 (dk_at dksX2_readQuenching_2 0 rfl rfl)
theorem dX2_readQuenching_51 : decode cX2_readQuenching 51 = .ok (.iload_n 1, 1) := dk_27 (dk_at dksX2_readQuenching_2 3 rfl rfl)
theorem dX2_readQuenching_52 : decode cX2_readQuenching 52 = .ok (.goto 8, 3) := dk_167 0 8 (dk_at dksX2_readQuenching_2 4 rfl rfl)
theorem dX2_readQuenching_55 : decode cX2_readQuenching 55 = .ok (.aload_n 0, 1) := dk_42 (dk_at dksX2_readQuenching_2 7 rfl rfl)
theorem dX2_readQuenching_56 : decode cX2_readQuenching 56 = .ok (.iconst 1, 1) := dk_4 (dk_at dksX2_readQuenching_2 8 rfl rfl)
theorem dX2_readQuenching_57 : decode cX2_readQuenching 57 = .ok (.invokevirtual 168, 3) := dk_182 0 168 (dk_at dksX2_readQuenching_2 9 rfl rfl)
theorem dX2_readQuenching_60 : decode cX2_readQuenching 60 = .ok (.ireturn, 1) := dk_172 (dk_at dksX2_readQuenching_2 12 rfl rfl)
abbrev cX2_isKind : ByteArray := prog_21_method_51_code
def yX2_isKind : MethodName := ⟨RX2, "isKind", "()Z"⟩
def dkwX2_isKind_1 : List UInt8 := [167, 0, 4, 3, 172]
abbrev dktX2_isKind_1 : List UInt8 := dkwX2_isKind_1 ++ []
def dkwX2_isKind_0 : List UInt8 := [42, 180, 0, 137, 5, 160, 0, 20, 42, 42, 180, 0, 140, 3, 7, 182, 0, 102, 153, 0, 7, 4]
abbrev dktX2_isKind_0 : List UInt8 := dkwX2_isKind_0 ++ dktX2_isKind_1
theorem dksX2_isKind_0 : cX2_isKind.data.toList.drop 0 = dktX2_isKind_0 := by decide +kernel
theorem dksX2_isKind_1 : cX2_isKind.data.toList.drop 22 = dktX2_isKind_1 := dk_seg dksX2_isKind_0 22 rfl rfl
theorem dX2_isKind_0 : decode cX2_isKind 0 = .ok (.aload_n 0, 1) := dk_42 (dk_at dksX2_isKind_0 0 rfl rfl)
theorem dX2_isKind_1 : decode cX2_isKind 1 = .ok (.getfield 137, 3) := dk_180 0 137 (dk_at dksX2_isKind_0 1 rfl rfl)
theorem dX2_isKind_4 : decode cX2_isKind 4 = .ok (.iconst 2, 1) := dk_5 (dk_at dksX2_isKind_0 4 rfl rfl)
theorem dX2_isKind_5 : decode cX2_isKind 5 = .ok (.if_icmp .ne 20, 3) := dk_160 0 20 (dk_at dksX2_isKind_0 5 rfl rfl)
theorem dX2_isKind_8 : decode cX2_isKind 8 = .ok (.aload_n 0, 1) := dk_42 (dk_at dksX2_isKind_0 8 rfl rfl)
theorem dX2_isKind_9 : decode cX2_isKind 9 = .ok (.aload_n 0, 1) := dk_42 (dk_at dksX2_isKind_0 9 rfl rfl)
theorem dX2_isKind_10 : decode cX2_isKind 10 = .ok (.getfield 140, 3) := dk_180 0 140 (dk_at dksX2_isKind_0 10 rfl rfl)
theorem dX2_isKind_13 : decode cX2_isKind 13 = .ok (.iconst 0, 1) := dk_3 (dk_at dksX2_isKind_0 13 rfl rfl)
theorem dX2_isKind_14 : decode cX2_isKind 14 = .ok (.iconst 4, 1) := dk_7 (dk_at dksX2_isKind_0 14 rfl rfl)
theorem dX2_isKind_15 : decode cX2_isKind 15 = .ok (.invokevirtual 102, 3) := dk_182 0 102 (dk_at dksX2_isKind_0 15 rfl rfl)
theorem dX2_isKind_18 : decode cX2_isKind 18 = .ok (.ifCond .eq 7, 3) := dk_153 0 7 (dk_at dksX2_isKind_0 18 rfl rfl)
theorem dX2_isKind_21 : decode cX2_isKind 21 = .ok (.iconst 1, 1) := dk_4 (dk_at dksX2_isKind_0 21 rfl rfl)
theorem dX2_isKind_22 : decode cX2_isKind 22 = .ok (.goto 4, 3) := dk_167 0 4 (dk_at dksX2_isKind_1 0 rfl rfl)
theorem dX2_isKind_25 : decode cX2_isKind 25 = .ok (.iconst 0, 1) := dk_3 (dk_at dksX2_isKind_1 3 rfl rfl)
theorem dX2_isKind_26 : decode cX2_isKind 26 = .ok (.ireturn, 1) := dk_172 (dk_at dksX2_isKind_1 4 rfl rfl)
abbrev cX2_errs : ByteArray := prog_21_method_32_code
def yX2_errs : MethodName := ⟨RX2, "errs", "(I)I"⟩
def dkwX2_errs_0 : List UInt8 := [42, 27, 181, 0, 156, 42, 42, 180, 0, 134, 181, 0, 159, 2, 172]
abbrev dktX2_errs_0 : List UInt8 := dkwX2_errs_0 ++ []
theorem dksX2_errs_0 : cX2_errs.data.toList.drop 0 = dktX2_errs_0 := by decide +kernel
theorem dX2_errs_0 : decode cX2_errs 0 = .ok (.aload_n 0, 1) := dk_42 (dk_at dksX2_errs_0 0 rfl rfl)
theorem dX2_errs_1 : decode cX2_errs 1 = .ok (.iload_n 1, 1) := dk_27 (dk_at dksX2_errs_0 1 rfl rfl)
theorem dX2_errs_2 : decode cX2_errs 2 = .ok (.putfield 156, 3) := dk_181 0 156 (dk_at dksX2_errs_0 2 rfl rfl)
theorem dX2_errs_5 : decode cX2_errs 5 = .ok (.aload_n 0, 1) := dk_42 (dk_at dksX2_errs_0 5 rfl rfl)
theorem dX2_errs_6 : decode cX2_errs 6 = .ok (.aload_n 0, 1) := dk_42 (dk_at dksX2_errs_0 6 rfl rfl)
theorem dX2_errs_7 : decode cX2_errs 7 = .ok (.getfield 134, 3) := dk_180 0 134 (dk_at dksX2_errs_0 7 rfl rfl)
theorem dX2_errs_10 : decode cX2_errs 10 = .ok (.putfield 159, 3) := dk_181 0 159 (dk_at dksX2_errs_0 10 rfl rfl)
theorem dX2_errs_13 : decode cX2_errs 13 = .ok (.iconst (-1), 1) := dk_2 (dk_at dksX2_errs_0 13 rfl rfl)
theorem dX2_errs_14 : decode cX2_errs 14 = .ok (.ireturn, 1) := dk_172 (dk_at dksX2_errs_0 14 rfl rfl)
abbrev cX2_readQuench : ByteArray := prog_21_method_52_code
def yX2_readQuench : MethodName := ⟨RX2, "readQuench", "(I)I"⟩
def dkwX2_readQuench_4 : List UInt8 := [160, 0, 7, 2, 167, 0, 9, 42, 16, 59, 182, 0, 231, 172]
abbrev dktX2_readQuench_4 : List UInt8 := dkwX2_readQuench_4 ++ []
def dkwX2_readQuench_3 : List UInt8 := [27, 5, 96, 42, 16, 22, 4, 16, 50, 182, 0, 228, 79, 42, 180, 0, 59, 27, 5, 96, 46, 2]
abbrev dktX2_readQuench_3 : List UInt8 := dkwX2_readQuench_3 ++ dktX2_readQuench_4
def dkwX2_readQuench_2 : List UInt8 := [182, 0, 168, 172, 42, 180, 0, 59, 27, 4, 96, 42, 180, 0, 140, 79, 42, 182, 0, 175, 42, 180, 0, 59]
abbrev dktX2_readQuench_2 : List UInt8 := dkwX2_readQuench_2 ++ dktX2_readQuench_3
def dkwX2_readQuench_1 : List UInt8 := [2, 172, 42, 182, 0, 225, 153, 0, 16, 42, 180, 0, 140, 42, 180, 0, 59, 27, 46, 160, 0, 9, 42, 4]
abbrev dktX2_readQuench_1 : List UInt8 := dkwX2_readQuench_1 ++ dktX2_readQuench_2
def dkwX2_readQuench_0 : List UInt8 := [42, 180, 0, 59, 27, 42, 180, 0, 140, 79, 42, 182, 0, 175, 42, 16, 21, 182, 0, 219, 2, 160, 0, 5]
abbrev dktX2_readQuench_0 : List UInt8 := dkwX2_readQuench_0 ++ dktX2_readQuench_1
theorem dksX2_readQuench_0 : cX2_readQuench.data.toList.drop 0 = dktX2_readQuench_0 := by decide +kernel
theorem dksX2_readQuench_1 : cX2_readQuench.data.toList.drop 24 = dktX2_readQuench_1 := dk_seg dksX2_readQuench_0 24 rfl rfl
theorem dksX2_readQuench_2 : cX2_readQuench.data.toList.drop 48 = dktX2_readQuench_2 := dk_seg dksX2_readQuench_1 24 rfl rfl
theorem dksX2_readQuench_3 : cX2_readQuench.data.toList.drop 72 = dktX2_readQuench_3 := dk_seg dksX2_readQuench_2 24 rfl rfl
theorem dksX2_readQuench_4 : cX2_readQuench.data.toList.drop 94 = dktX2_readQuench_4 := dk_seg dksX2_readQuench_3 22 rfl rfl
theorem dX2_readQuench_0 : decode cX2_readQuench 0 = .ok (.aload_n 0, 1) := dk_42 (dk_at dksX2_readQuench_0 0 rfl rfl)
theorem dX2_readQuench_1 : decode cX2_readQuench 1 = .ok (.getfield 59, 3) := dk_180 0 59 (dk_at dksX2_readQuench_0 1 rfl rfl)
theorem dX2_readQuench_4 : decode cX2_readQuench 4 = .ok (.iload_n 1, 1) := dk_27 (dk_at dksX2_readQuench_0 4 rfl rfl)
theorem dX2_readQuench_5 : decode cX2_readQuench 5 = .ok (.aload_n 0, 1) := dk_42 (dk_at dksX2_readQuench_0 5 rfl rfl)
theorem dX2_readQuench_6 : decode cX2_readQuench 6 = .ok (.getfield 140, 3) := dk_180 0 140 (dk_at dksX2_readQuench_0 6 rfl rfl)
theorem dX2_readQuench_9 : decode cX2_readQuench 9 = .ok (.iastore, 1) := dk_79 (dk_at dksX2_readQuench_0 9 rfl rfl)
theorem dX2_readQuench_10 : decode cX2_readQuench 10 = .ok (.aload_n 0, 1) := dk_42 (dk_at dksX2_readQuench_0 10 rfl rfl)
theorem dX2_readQuench_11 : decode cX2_readQuench 11 = .ok (.invokevirtual 175, 3) := dk_182 0 175 (dk_at dksX2_readQuench_0 11 rfl rfl)
theorem dX2_readQuench_14 : decode cX2_readQuench 14 = .ok (.aload_n 0, 1) := dk_42 (dk_at dksX2_readQuench_0 14 rfl rfl)
theorem dX2_readQuench_15 : decode cX2_readQuench 15 = .ok (.bipush 21, 2) := dk_16 21 (dk_at dksX2_readQuench_0 15 rfl rfl)
theorem dX2_readQuench_17 : decode cX2_readQuench 17 = .ok (.invokevirtual 219, 3) := dk_182 0 219 (dk_at dksX2_readQuench_0 17 rfl rfl)
theorem dX2_readQuench_20 : decode cX2_readQuench 20 = .ok (.iconst (-1), 1) := dk_2 (dk_at dksX2_readQuench_0 20 rfl rfl)
theorem dX2_readQuench_21 : decode cX2_readQuench 21 = .ok (.if_icmp .ne 5, 3) := dk_160 0 5 (dk_at dksX2_readQuench_0 21 rfl rfl)
theorem dX2_readQuench_24 : decode cX2_readQuench 24 = .ok (.iconst (-1), 1) := dk_2 (dk_at dksX2_readQuench_1 0 rfl rfl)
theorem dX2_readQuench_25 : decode cX2_readQuench 25 = .ok (.ireturn, 1) := dk_172 (dk_at dksX2_readQuench_1 1 rfl rfl)
theorem dX2_readQuench_26 : decode cX2_readQuench 26 = .ok (.aload_n 0, 1) := dk_42 (dk_at dksX2_readQuench_1 2 rfl rfl)
theorem dX2_readQuench_27 : decode cX2_readQuench 27 = .ok (.invokevirtual 225, 3) := dk_182 0 225 (dk_at dksX2_readQuench_1 3 rfl rfl)
theorem dX2_readQuench_30 : decode cX2_readQuench 30 = .ok (.ifCond .eq 16, 3) := dk_153 0 16 (dk_at dksX2_readQuench_1 6 rfl rfl)
theorem dX2_readQuench_33 : decode cX2_readQuench 33 = .ok (.aload_n 0, 1) := dk_42 (dk_at dksX2_readQuench_1 9 rfl rfl)
theorem dX2_readQuench_34 : decode cX2_readQuench 34 = .ok (.getfield 140, 3) := dk_180 0 140 (dk_at dksX2_readQuench_1 10 rfl rfl)
theorem dX2_readQuench_37 : decode cX2_readQuench 37 = .ok (.aload_n 0, 1) := dk_42 (dk_at dksX2_readQuench_1 13 rfl rfl)
theorem dX2_readQuench_38 : decode cX2_readQuench 38 = .ok (.getfield 59, 3) := dk_180 0 59 (dk_at dksX2_readQuench_1 14 rfl rfl)
theorem dX2_readQuench_41 : decode cX2_readQuench 41 = .ok (.iload_n 1, 1) := dk_27 (dk_at dksX2_readQuench_1 17 rfl rfl)
theorem dX2_readQuench_42 : decode cX2_readQuench 42 = .ok (.iaload, 1) := dk_46 (dk_at dksX2_readQuench_1 18 rfl rfl)
theorem dX2_readQuench_43 : decode cX2_readQuench 43 = .ok (.if_icmp .ne 9, 3) := dk_160 0 9 (dk_at dksX2_readQuench_1 19 rfl rfl)
theorem dX2_readQuench_46 : decode cX2_readQuench 46 = .ok (.aload_n 0, 1) := dk_42 (dk_at dksX2_readQuench_1 22 rfl rfl)
theorem dX2_readQuench_47 : decode cX2_readQuench 47 = .ok (.iconst 1, 1) := dk_4 (dk_at dksX2_readQuench_1 23 rfl rfl)
theorem dX2_readQuench_48 : decode cX2_readQuench 48 = .ok (.invokevirtual 168, 3) := dk_182 0 168 (dk_at dksX2_readQuench_2 0 rfl rfl)
theorem dX2_readQuench_51 : decode cX2_readQuench 51 = .ok (.ireturn, 1) := dk_172 (dk_at dksX2_readQuench_2 3 rfl rfl)
theorem dX2_readQuench_52 : decode cX2_readQuench 52 = .ok (.aload_n 0, 1) := dk_42 (dk_at dksX2_readQuench_2 4 rfl rfl)
theorem dX2_readQuench_53 : decode cX2_readQuench 53 = .ok (.getfield 59, 3) := dk_180 0 59 (dk_at dksX2_readQuench_2 5 rfl rfl)
theorem dX2_readQuench_56 : decode cX2_readQuench 56 = .ok (.iload_n 1, 1) := dk_27 (dk_at dksX2_readQuench_2 8 rfl rfl)
theorem dX2_readQuench_57 : decode cX2_readQuench 57 = .ok (.iconst 1, 1) := dk_4 (dk_at dksX2_readQuench_2 9 rfl rfl)
theorem dX2_readQuench_58 : decode cX2_readQuench 58 = .ok (.iadd, 1) := dk_96 (dk_at dksX2_readQuench_2 10 rfl rfl)
theorem dX2_readQuench_59 : decode cX2_readQuench 59 = .ok (.aload_n 0, 1) := dk_42 (dk_at dksX2_readQuench_2 11 rfl rfl)
theorem dX2_readQuench_60 : decode cX2_readQuench 60 = .ok (.getfield 140, 3) := dk_180 0 140 (dk_at dksX2_readQuench_2 12 rfl rfl)
theorem dX2_readQuench_63 : decode cX2_readQuench 63 = .ok (.iastore, 1) := dk_79 (dk_at dksX2_readQuench_2 15 rfl rfl)
theorem dX2_readQuench_64 : decode cX2_readQuench 64 = .ok (.aload_n 0, 1) := dk_42 (dk_at dksX2_readQuench_2 16 rfl rfl)
theorem dX2_readQuench_65 : decode cX2_readQuench 65 = .ok (.invokevirtual 175, 3) := dk_182 0 175 (dk_at dksX2_readQuench_2 17 rfl rfl)
theorem dX2_readQuench_68 : decode cX2_readQuench 68 = .ok (.aload_n 0, 1) := dk_42 (dk_at dksX2_readQuench_2 20 rfl rfl)
theorem dX2_readQuench_69 : decode cX2_readQuench 69 = .ok (.getfield 59, 3) := dk_180 0 59 (dk_at dksX2_readQuench_2 21 rfl rfl)
theorem dX2_readQuench_72 : decode cX2_readQuench 72 = .ok (.iload_n 1, 1) := dk_27 (dk_at dksX2_readQuench_3 0 rfl rfl)
theorem dX2_readQuench_73 : decode cX2_readQuench 73 = .ok (.iconst 2, 1) := dk_5 (dk_at dksX2_readQuench_3 1 rfl rfl)
theorem dX2_readQuench_74 : decode cX2_readQuench 74 = .ok (.iadd, 1) := dk_96 (dk_at dksX2_readQuench_3 2 rfl rfl)
theorem dX2_readQuench_75 : decode cX2_readQuench 75 = .ok (.aload_n 0, 1) := dk_42 (dk_at dksX2_readQuench_3 3 rfl rfl)
theorem dX2_readQuench_76 : decode cX2_readQuench 76 = .ok (.bipush 22, 2) := dk_16 22 (dk_at dksX2_readQuench_3 4 rfl rfl)
theorem dX2_readQuench_78 : decode cX2_readQuench 78 = .ok (.iconst 1, 1) := dk_4 (dk_at dksX2_readQuench_3 6 rfl rfl)
theorem dX2_readQuench_79 : decode cX2_readQuench 79 = .ok (.bipush 50, 2) := dk_16 50 (dk_at dksX2_readQuench_3 7 rfl rfl)
theorem dX2_readQuench_81 : decode cX2_readQuench 81 = .ok (.invokevirtual 228, 3) := dk_182 0 228 (dk_at dksX2_readQuench_3 9 rfl rfl)
theorem dX2_readQuench_84 : decode cX2_readQuench 84 = .ok (.iastore, 1) := dk_79 (dk_at dksX2_readQuench_3 12 rfl rfl)
theorem dX2_readQuench_85 : decode cX2_readQuench 85 = .ok (.aload_n 0, 1) := dk_42 (dk_at dksX2_readQuench_3 13 rfl rfl)
theorem dX2_readQuench_86 : decode cX2_readQuench 86 = .ok (.getfield 59, 3) := dk_180 0 59 (dk_at dksX2_readQuench_3 14 rfl rfl)
theorem dX2_readQuench_89 : decode cX2_readQuench 89 = .ok (.iload_n 1, 1) := dk_27 (dk_at dksX2_readQuench_3 17 rfl rfl)
theorem dX2_readQuench_90 : decode cX2_readQuench 90 = .ok (.iconst 2, 1) := dk_5 (dk_at dksX2_readQuench_3 18 rfl rfl)
theorem dX2_readQuench_91 : decode cX2_readQuench 91 = .ok (.iadd, 1) := dk_96 (dk_at dksX2_readQuench_3 19 rfl rfl)
theorem dX2_readQuench_92 : decode cX2_readQuench 92 = .ok (.iaload, 1) := dk_46 (dk_at dksX2_readQuench_3 20 rfl rfl)
theorem dX2_readQuench_93 : decode cX2_readQuench 93 = .ok (.iconst (-1), 1) := dk_2 (dk_at dksX2_readQuench_3 21 rfl rfl)
theorem dX2_readQuench_94 : decode cX2_readQuench 94 = .ok (.if_icmp .ne 7, 3) := dk_160 0 7 (dk_at dksX2_readQuench_4 0 rfl rfl)
theorem dX2_readQuench_97 : decode cX2_readQuench 97 = .ok (.iconst (-1), 1) := dk_2 (dk_at dksX2_readQuench_4 3 rfl rfl)
theorem dX2_readQuench_98 : decode cX2_readQuench 98 = .ok (.goto 9, 3) := dk_167 0 9 (dk_at dksX2_readQuench_4 4 rfl rfl)
theorem dX2_readQuench_101 : decode cX2_readQuench 101 = .ok (.aload_n 0, 1) := dk_42 (dk_at dksX2_readQuench_4 7 rfl rfl)
theorem dX2_readQuench_102 : decode cX2_readQuench 102 = .ok (.bipush 59, 2) := dk_16 59 (dk_at dksX2_readQuench_4 8 rfl rfl)
theorem dX2_readQuench_104 : decode cX2_readQuench 104 = .ok (.invokevirtual 231, 3) := dk_182 0 231 (dk_at dksX2_readQuench_4 10 rfl rfl)
theorem dX2_readQuench_107 : decode cX2_readQuench 107 = .ok (.ireturn, 1) := dk_172 (dk_at dksX2_readQuench_4 13 rfl rfl)
abbrev cX2_readWord : ByteArray := prog_21_method_48_code
def yX2_readWord : MethodName := ⟨RX2, "readWord", "(I)I"⟩
def dkwX2_readWord_0 : List UInt8 := [42, 27, 182, 0, 197, 154, 0, 9, 42, 4, 182, 0, 168, 172, 42, 182, 0, 175, 3, 172]
abbrev dktX2_readWord_0 : List UInt8 := dkwX2_readWord_0 ++ []
theorem dksX2_readWord_0 : cX2_readWord.data.toList.drop 0 = dktX2_readWord_0 := by decide +kernel
theorem dX2_readWord_0 : decode cX2_readWord 0 = .ok (.aload_n 0, 1) := dk_42 (dk_at dksX2_readWord_0 0 rfl rfl)
theorem dX2_readWord_1 : decode cX2_readWord 1 = .ok (.iload_n 1, 1) := dk_27 (dk_at dksX2_readWord_0 1 rfl rfl)
theorem dX2_readWord_2 : decode cX2_readWord 2 = .ok (.invokevirtual 197, 3) := dk_182 0 197 (dk_at dksX2_readWord_0 2 rfl rfl)
theorem dX2_readWord_5 : decode cX2_readWord 5 = .ok (.ifCond .ne 9, 3) := dk_154 0 9 (dk_at dksX2_readWord_0 5 rfl rfl)
theorem dX2_readWord_8 : decode cX2_readWord 8 = .ok (.aload_n 0, 1) := dk_42 (dk_at dksX2_readWord_0 8 rfl rfl)
theorem dX2_readWord_9 : decode cX2_readWord 9 = .ok (.iconst 1, 1) := dk_4 (dk_at dksX2_readWord_0 9 rfl rfl)
theorem dX2_readWord_10 : decode cX2_readWord 10 = .ok (.invokevirtual 168, 3) := dk_182 0 168 (dk_at dksX2_readWord_0 10 rfl rfl)
theorem dX2_readWord_13 : decode cX2_readWord 13 = .ok (.ireturn, 1) := dk_172 (dk_at dksX2_readWord_0 13 rfl rfl)
theorem dX2_readWord_14 : decode cX2_readWord 14 = .ok (.aload_n 0, 1) := dk_42 (dk_at dksX2_readWord_0 14 rfl rfl)
theorem dX2_readWord_15 : decode cX2_readWord 15 = .ok (.invokevirtual 175, 3) := dk_182 0 175 (dk_at dksX2_readWord_0 15 rfl rfl)
theorem dX2_readWord_18 : decode cX2_readWord 18 = .ok (.iconst 0, 1) := dk_3 (dk_at dksX2_readWord_0 18 rfl rfl)
theorem dX2_readWord_19 : decode cX2_readWord 19 = .ok (.ireturn, 1) := dk_172 (dk_at dksX2_readWord_0 19 rfl rfl)
abbrev cX2_isWord : ByteArray := prog_21_method_33_code
def yX2_isWord : MethodName := ⟨RX2, "isWord", "(I)Z"⟩
def dkwX2_isWord_0 : List UInt8 := [42, 180, 0, 137, 5, 160, 0, 15, 42, 180, 0, 140, 27, 160, 0, 7, 4, 167, 0, 4, 3, 172]
abbrev dktX2_isWord_0 : List UInt8 := dkwX2_isWord_0 ++ []
theorem dksX2_isWord_0 : cX2_isWord.data.toList.drop 0 = dktX2_isWord_0 := by decide +kernel
theorem dX2_isWord_0 : decode cX2_isWord 0 = .ok (.aload_n 0, 1) := dk_42 (dk_at dksX2_isWord_0 0 rfl rfl)
theorem dX2_isWord_1 : decode cX2_isWord 1 = .ok (.getfield 137, 3) := dk_180 0 137 (dk_at dksX2_isWord_0 1 rfl rfl)
theorem dX2_isWord_4 : decode cX2_isWord 4 = .ok (.iconst 2, 1) := dk_5 (dk_at dksX2_isWord_0 4 rfl rfl)
theorem dX2_isWord_5 : decode cX2_isWord 5 = .ok (.if_icmp .ne 15, 3) := dk_160 0 15 (dk_at dksX2_isWord_0 5 rfl rfl)
theorem dX2_isWord_8 : decode cX2_isWord 8 = .ok (.aload_n 0, 1) := dk_42 (dk_at dksX2_isWord_0 8 rfl rfl)
theorem dX2_isWord_9 : decode cX2_isWord 9 = .ok (.getfield 140, 3) := dk_180 0 140 (dk_at dksX2_isWord_0 9 rfl rfl)
theorem dX2_isWord_12 : decode cX2_isWord 12 = .ok (.iload_n 1, 1) := dk_27 (dk_at dksX2_isWord_0 12 rfl rfl)
theorem dX2_isWord_13 : decode cX2_isWord 13 = .ok (.if_icmp .ne 7, 3) := dk_160 0 7 (dk_at dksX2_isWord_0 13 rfl rfl)
theorem dX2_isWord_16 : decode cX2_isWord 16 = .ok (.iconst 1, 1) := dk_4 (dk_at dksX2_isWord_0 16 rfl rfl)
theorem dX2_isWord_17 : decode cX2_isWord 17 = .ok (.goto 4, 3) := dk_167 0 4 (dk_at dksX2_isWord_0 17 rfl rfl)
theorem dX2_isWord_20 : decode cX2_isWord 20 = .ok (.iconst 0, 1) := dk_3 (dk_at dksX2_isWord_0 20 rfl rfl)
theorem dX2_isWord_21 : decode cX2_isWord 21 = .ok (.ireturn, 1) := dk_172 (dk_at dksX2_isWord_0 21 rfl rfl)
abbrev cX2_readTold : ByteArray := prog_21_method_50_code
def yX2_readTold : MethodName := ⟨RX2, "readTold", "(III)I"⟩
def dkwX2_readTold_0 : List UInt8 := [42, 27, 182, 0, 219, 2, 160, 0, 7, 2, 167, 0, 9, 42, 28, 29, 182, 0, 222, 172]
abbrev dktX2_readTold_0 : List UInt8 := dkwX2_readTold_0 ++ []
theorem dksX2_readTold_0 : cX2_readTold.data.toList.drop 0 = dktX2_readTold_0 := by decide +kernel
theorem dX2_readTold_0 : decode cX2_readTold 0 = .ok (.aload_n 0, 1) := dk_42 (dk_at dksX2_readTold_0 0 rfl rfl)
theorem dX2_readTold_1 : decode cX2_readTold 1 = .ok (.iload_n 1, 1) := dk_27 (dk_at dksX2_readTold_0 1 rfl rfl)
theorem dX2_readTold_2 : decode cX2_readTold 2 = .ok (.invokevirtual 219, 3) := dk_182 0 219 (dk_at dksX2_readTold_0 2 rfl rfl)
theorem dX2_readTold_5 : decode cX2_readTold 5 = .ok (.iconst (-1), 1) := dk_2 (dk_at dksX2_readTold_0 5 rfl rfl)
theorem dX2_readTold_6 : decode cX2_readTold 6 = .ok (.if_icmp .ne 7, 3) := dk_160 0 7 (dk_at dksX2_readTold_0 6 rfl rfl)
theorem dX2_readTold_9 : decode cX2_readTold 9 = .ok (.iconst (-1), 1) := dk_2 (dk_at dksX2_readTold_0 9 rfl rfl)
theorem dX2_readTold_10 : decode cX2_readTold 10 = .ok (.goto 9, 3) := dk_167 0 9 (dk_at dksX2_readTold_0 10 rfl rfl)
theorem dX2_readTold_13 : decode cX2_readTold 13 = .ok (.aload_n 0, 1) := dk_42 (dk_at dksX2_readTold_0 13 rfl rfl)
theorem dX2_readTold_14 : decode cX2_readTold 14 = .ok (.iload_n 2, 1) := dk_28 (dk_at dksX2_readTold_0 14 rfl rfl)
theorem dX2_readTold_15 : decode cX2_readTold 15 = .ok (.iload_n 3, 1) := dk_29 (dk_at dksX2_readTold_0 15 rfl rfl)
theorem dX2_readTold_16 : decode cX2_readTold 16 = .ok (.invokevirtual 222, 3) := dk_182 0 222 (dk_at dksX2_readTold_0 16 rfl rfl)
theorem dX2_readTold_19 : decode cX2_readTold 19 = .ok (.ireturn, 1) := dk_172 (dk_at dksX2_readTold_0 19 rfl rfl)
abbrev cX2_readNumber : ByteArray := prog_21_method_47_code
def yX2_readNumber : MethodName := ⟨RX2, "readNumber", "(II)I"⟩
def dkwX2_readNumber_1 : List UInt8 := [154, 0, 9, 42, 5, 182, 0, 168, 172, 42, 180, 0, 140, 62, 42, 182, 0, 175, 29, 172]
abbrev dktX2_readNumber_1 : List UInt8 := dkwX2_readNumber_1 ++ []
def dkwX2_readNumber_0 : List UInt8 := [42, 180, 0, 137, 6, 159, 0, 9, 42, 4, 182, 0, 168, 172, 42, 42, 180, 0, 140, 27, 28, 182, 0, 102]
abbrev dktX2_readNumber_0 : List UInt8 := dkwX2_readNumber_0 ++ dktX2_readNumber_1
theorem dksX2_readNumber_0 : cX2_readNumber.data.toList.drop 0 = dktX2_readNumber_0 := by decide +kernel
theorem dksX2_readNumber_1 : cX2_readNumber.data.toList.drop 24 = dktX2_readNumber_1 := dk_seg dksX2_readNumber_0 24 rfl rfl
theorem dX2_readNumber_0 : decode cX2_readNumber 0 = .ok (.aload_n 0, 1) := dk_42 (dk_at dksX2_readNumber_0 0 rfl rfl)
theorem dX2_readNumber_1 : decode cX2_readNumber 1 = .ok (.getfield 137, 3) := dk_180 0 137 (dk_at dksX2_readNumber_0 1 rfl rfl)
theorem dX2_readNumber_4 : decode cX2_readNumber 4 = .ok (.iconst 3, 1) := dk_6 (dk_at dksX2_readNumber_0 4 rfl rfl)
theorem dX2_readNumber_5 : decode cX2_readNumber 5 = .ok (.if_icmp .eq 9, 3) := dk_159 0 9 (dk_at dksX2_readNumber_0 5 rfl rfl)
theorem dX2_readNumber_8 : decode cX2_readNumber 8 = .ok (.aload_n 0, 1) := dk_42 (dk_at dksX2_readNumber_0 8 rfl rfl)
theorem dX2_readNumber_9 : decode cX2_readNumber 9 = .ok (.iconst 1, 1) := dk_4 (dk_at dksX2_readNumber_0 9 rfl rfl)
theorem dX2_readNumber_10 : decode cX2_readNumber 10 = .ok (.invokevirtual 168, 3) := dk_182 0 168 (dk_at dksX2_readNumber_0 10 rfl rfl)
theorem dX2_readNumber_13 : decode cX2_readNumber 13 = .ok (.ireturn, 1) := dk_172 (dk_at dksX2_readNumber_0 13 rfl rfl)
theorem dX2_readNumber_14 : decode cX2_readNumber 14 = .ok (.aload_n 0, 1) := dk_42 (dk_at dksX2_readNumber_0 14 rfl rfl)
theorem dX2_readNumber_15 : decode cX2_readNumber 15 = .ok (.aload_n 0, 1) := dk_42 (dk_at dksX2_readNumber_0 15 rfl rfl)
theorem dX2_readNumber_16 : decode cX2_readNumber 16 = .ok (.getfield 140, 3) := dk_180 0 140 (dk_at dksX2_readNumber_0 16 rfl rfl)
theorem dX2_readNumber_19 : decode cX2_readNumber 19 = .ok (.iload_n 1, 1) := dk_27 (dk_at dksX2_readNumber_0 19 rfl rfl)
theorem dX2_readNumber_20 : decode cX2_readNumber 20 = .ok (.iload_n 2, 1) := dk_28 (dk_at dksX2_readNumber_0 20 rfl rfl)
theorem dX2_readNumber_21 : decode cX2_readNumber 21 = .ok (.invokevirtual 102, 3) := dk_182 0 102 (dk_at dksX2_readNumber_0 21 rfl rfl)
theorem dX2_readNumber_24 : decode cX2_readNumber 24 = .ok (.ifCond .ne 9, 3) := dk_154 0 9 (dk_at dksX2_readNumber_1 0 rfl rfl)
theorem dX2_readNumber_27 : decode cX2_readNumber 27 = .ok (.aload_n 0, 1) := dk_42 (dk_at dksX2_readNumber_1 3 rfl rfl)
theorem dX2_readNumber_28 : decode cX2_readNumber 28 = .ok (.iconst 2, 1) := dk_5 (dk_at dksX2_readNumber_1 4 rfl rfl)
theorem dX2_readNumber_29 : decode cX2_readNumber 29 = .ok (.invokevirtual 168, 3) := dk_182 0 168 (dk_at dksX2_readNumber_1 5 rfl rfl)
theorem dX2_readNumber_32 : decode cX2_readNumber 32 = .ok (.ireturn, 1) := dk_172 (dk_at dksX2_readNumber_1 8 rfl rfl)
theorem dX2_readNumber_33 : decode cX2_readNumber 33 = .ok (.aload_n 0, 1) := dk_42 (dk_at dksX2_readNumber_1 9 rfl rfl)
theorem dX2_readNumber_34 : decode cX2_readNumber 34 = .ok (.getfield 140, 3) := dk_180 0 140 (dk_at dksX2_readNumber_1 10 rfl rfl)
theorem dX2_readNumber_37 : decode cX2_readNumber 37 = .ok (.istore_n 3, 1) := dk_62 (dk_at dksX2_readNumber_1 13 rfl rfl)
theorem dX2_readNumber_38 : decode cX2_readNumber 38 = .ok (.aload_n 0, 1) := dk_42 (dk_at dksX2_readNumber_1 14 rfl rfl)
theorem dX2_readNumber_39 : decode cX2_readNumber 39 = .ok (.invokevirtual 175, 3) := dk_182 0 175 (dk_at dksX2_readNumber_1 15 rfl rfl)
theorem dX2_readNumber_42 : decode cX2_readNumber 42 = .ok (.iload_n 3, 1) := dk_29 (dk_at dksX2_readNumber_1 18 rfl rfl)
theorem dX2_readNumber_43 : decode cX2_readNumber 43 = .ok (.ireturn, 1) := dk_172 (dk_at dksX2_readNumber_1 19 rfl rfl)
abbrev cX2_readMark : ByteArray := prog_21_method_49_code
def yX2_readMark : MethodName := ⟨RX2, "readMark", "(I)I"⟩
def dkwX2_readMark_0 : List UInt8 := [42, 27, 182, 0, 182, 154, 0, 9, 42, 4, 182, 0, 168, 172, 42, 182, 0, 175, 3, 172]
abbrev dktX2_readMark_0 : List UInt8 := dkwX2_readMark_0 ++ []
theorem dksX2_readMark_0 : cX2_readMark.data.toList.drop 0 = dktX2_readMark_0 := by decide +kernel
theorem dX2_readMark_0 : decode cX2_readMark 0 = .ok (.aload_n 0, 1) := dk_42 (dk_at dksX2_readMark_0 0 rfl rfl)
theorem dX2_readMark_1 : decode cX2_readMark 1 = .ok (.iload_n 1, 1) := dk_27 (dk_at dksX2_readMark_0 1 rfl rfl)
theorem dX2_readMark_2 : decode cX2_readMark 2 = .ok (.invokevirtual 182, 3) := dk_182 0 182 (dk_at dksX2_readMark_0 2 rfl rfl)
theorem dX2_readMark_5 : decode cX2_readMark 5 = .ok (.ifCond .ne 9, 3) := dk_154 0 9 (dk_at dksX2_readMark_0 5 rfl rfl)
theorem dX2_readMark_8 : decode cX2_readMark 8 = .ok (.aload_n 0, 1) := dk_42 (dk_at dksX2_readMark_0 8 rfl rfl)
theorem dX2_readMark_9 : decode cX2_readMark 9 = .ok (.iconst 1, 1) := dk_4 (dk_at dksX2_readMark_0 9 rfl rfl)
theorem dX2_readMark_10 : decode cX2_readMark 10 = .ok (.invokevirtual 168, 3) := dk_182 0 168 (dk_at dksX2_readMark_0 10 rfl rfl)
theorem dX2_readMark_13 : decode cX2_readMark 13 = .ok (.ireturn, 1) := dk_172 (dk_at dksX2_readMark_0 13 rfl rfl)
theorem dX2_readMark_14 : decode cX2_readMark 14 = .ok (.aload_n 0, 1) := dk_42 (dk_at dksX2_readMark_0 14 rfl rfl)
theorem dX2_readMark_15 : decode cX2_readMark 15 = .ok (.invokevirtual 175, 3) := dk_182 0 175 (dk_at dksX2_readMark_0 15 rfl rfl)
theorem dX2_readMark_18 : decode cX2_readMark 18 = .ok (.iconst 0, 1) := dk_3 (dk_at dksX2_readMark_0 18 rfl rfl)
theorem dX2_readMark_19 : decode cX2_readMark 19 = .ok (.ireturn, 1) := dk_172 (dk_at dksX2_readMark_0 19 rfl rfl)
abbrev cX2_isSign : ByteArray := prog_21_method_34_code
def yX2_isSign : MethodName := ⟨RX2, "isSign", "(I)Z"⟩
def dkwX2_isSign_0 : List UInt8 := [42, 180, 0, 137, 7, 160, 0, 15, 42, 180, 0, 140, 27, 160, 0, 7, 4, 167, 0, 4, 3, 172]
abbrev dktX2_isSign_0 : List UInt8 := dkwX2_isSign_0 ++ []
theorem dksX2_isSign_0 : cX2_isSign.data.toList.drop 0 = dktX2_isSign_0 := by decide +kernel
theorem dX2_isSign_0 : decode cX2_isSign 0 = .ok (.aload_n 0, 1) := dk_42 (dk_at dksX2_isSign_0 0 rfl rfl)
theorem dX2_isSign_1 : decode cX2_isSign 1 = .ok (.getfield 137, 3) := dk_180 0 137 (dk_at dksX2_isSign_0 1 rfl rfl)
theorem dX2_isSign_4 : decode cX2_isSign 4 = .ok (.iconst 4, 1) := dk_7 (dk_at dksX2_isSign_0 4 rfl rfl)
theorem dX2_isSign_5 : decode cX2_isSign 5 = .ok (.if_icmp .ne 15, 3) := dk_160 0 15 (dk_at dksX2_isSign_0 5 rfl rfl)
theorem dX2_isSign_8 : decode cX2_isSign 8 = .ok (.aload_n 0, 1) := dk_42 (dk_at dksX2_isSign_0 8 rfl rfl)
theorem dX2_isSign_9 : decode cX2_isSign 9 = .ok (.getfield 140, 3) := dk_180 0 140 (dk_at dksX2_isSign_0 9 rfl rfl)
theorem dX2_isSign_12 : decode cX2_isSign 12 = .ok (.iload_n 1, 1) := dk_27 (dk_at dksX2_isSign_0 12 rfl rfl)
theorem dX2_isSign_13 : decode cX2_isSign 13 = .ok (.if_icmp .ne 7, 3) := dk_160 0 7 (dk_at dksX2_isSign_0 13 rfl rfl)
theorem dX2_isSign_16 : decode cX2_isSign 16 = .ok (.iconst 1, 1) := dk_4 (dk_at dksX2_isSign_0 16 rfl rfl)
theorem dX2_isSign_17 : decode cX2_isSign 17 = .ok (.goto 4, 3) := dk_167 0 4 (dk_at dksX2_isSign_0 17 rfl rfl)
theorem dX2_isSign_20 : decode cX2_isSign 20 = .ok (.iconst 0, 1) := dk_3 (dk_at dksX2_isSign_0 20 rfl rfl)
theorem dX2_isSign_21 : decode cX2_isSign 21 = .ok (.ireturn, 1) := dk_172 (dk_at dksX2_isSign_0 21 rfl rfl)
abbrev cX2_readWants : ByteArray := prog_21_method_56_code
def yX2_readWants : MethodName := ⟨RX2, "readWants", "()I"⟩
def dkwX2_readWants_2 : List UInt8 := [180, 0, 137, 154, 0, 7, 27, 167, 0, 8, 42, 4, 182, 0, 168, 172]
abbrev dktX2_readWants_2 : List UInt8 := dkwX2_readWants_2 ++ []
def dkwX2_readWants_1 : List UInt8 := [16, 50, 8, 27, 104, 96, 182, 0, 240, 2, 160, 0, 5, 2, 172, 27, 4, 96, 60, 167, 255, 215, 42]
abbrev dktX2_readWants_1 : List UInt8 := dkwX2_readWants_1 ++ dktX2_readWants_2
def dkwX2_readWants_0 : List UInt8 := [3, 60, 42, 16, 23, 182, 0, 197, 153, 0, 38, 27, 16, 10, 160, 0, 9, 42, 6, 182, 0, 168, 172, 42]
abbrev dktX2_readWants_0 : List UInt8 := dkwX2_readWants_0 ++ dktX2_readWants_1
theorem dksX2_readWants_0 : cX2_readWants.data.toList.drop 0 = dktX2_readWants_0 := by decide +kernel
theorem dksX2_readWants_1 : cX2_readWants.data.toList.drop 24 = dktX2_readWants_1 := dk_seg dksX2_readWants_0 24 rfl rfl
theorem dksX2_readWants_2 : cX2_readWants.data.toList.drop 47 = dktX2_readWants_2 := dk_seg dksX2_readWants_1 23 rfl rfl
theorem dX2_readWants_0 : decode cX2_readWants 0 = .ok (.iconst 0, 1) := dk_3 (dk_at dksX2_readWants_0 0 rfl rfl)
theorem dX2_readWants_1 : decode cX2_readWants 1 = .ok (.istore_n 1, 1) := dk_60 (dk_at dksX2_readWants_0 1 rfl rfl)
theorem dX2_readWants_2 : decode cX2_readWants 2 = .ok (.aload_n 0, 1) := dk_42 (dk_at dksX2_readWants_0 2 rfl rfl)
theorem dX2_readWants_3 : decode cX2_readWants 3 = .ok (.bipush 23, 2) := dk_16 23 (dk_at dksX2_readWants_0 3 rfl rfl)
theorem dX2_readWants_5 : decode cX2_readWants 5 = .ok (.invokevirtual 197, 3) := dk_182 0 197 (dk_at dksX2_readWants_0 5 rfl rfl)
theorem dX2_readWants_8 : decode cX2_readWants 8 = .ok (.ifCond .eq 38, 3) := dk_153 0 38 (dk_at dksX2_readWants_0 8 rfl rfl)
theorem dX2_readWants_11 : decode cX2_readWants 11 = .ok (.iload_n 1, 1) := dk_27 (dk_at dksX2_readWants_0 11 rfl rfl)
theorem dX2_readWants_12 : decode cX2_readWants 12 = .ok (.bipush 10, 2) := dk_16 10 (dk_at dksX2_readWants_0 12 rfl rfl)
theorem dX2_readWants_14 : decode cX2_readWants 14 = .ok (.if_icmp .ne 9, 3) := dk_160 0 9 (dk_at dksX2_readWants_0 14 rfl rfl)
theorem dX2_readWants_17 : decode cX2_readWants 17 = .ok (.aload_n 0, 1) := dk_42 (dk_at dksX2_readWants_0 17 rfl rfl)
theorem dX2_readWants_18 : decode cX2_readWants 18 = .ok (.iconst 3, 1) := dk_6 (dk_at dksX2_readWants_0 18 rfl rfl)
theorem dX2_readWants_19 : decode cX2_readWants 19 = .ok (.invokevirtual 168, 3) := dk_182 0 168 (dk_at dksX2_readWants_0 19 rfl rfl)
theorem dX2_readWants_22 : decode cX2_readWants 22 = .ok (.ireturn, 1) := dk_172 (dk_at dksX2_readWants_0 22 rfl rfl)
theorem dX2_readWants_23 : decode cX2_readWants 23 = .ok (.aload_n 0, 1) := dk_42 (dk_at dksX2_readWants_0 23 rfl rfl)
theorem dX2_readWants_24 : decode cX2_readWants 24 = .ok (.bipush 50, 2) := dk_16 50 (dk_at dksX2_readWants_1 0 rfl rfl)
theorem dX2_readWants_26 : decode cX2_readWants 26 = .ok (.iconst 5, 1) := dk_8 (dk_at dksX2_readWants_1 2 rfl rfl)
theorem dX2_readWants_27 : decode cX2_readWants 27 = .ok (.iload_n 1, 1) := dk_27 (dk_at dksX2_readWants_1 3 rfl rfl)
theorem dX2_readWants_28 : decode cX2_readWants 28 = .ok (.imul, 1) := dk_104 (dk_at dksX2_readWants_1 4 rfl rfl)
theorem dX2_readWants_29 : decode cX2_readWants 29 = .ok (.iadd, 1) := dk_96 (dk_at dksX2_readWants_1 5 rfl rfl)
theorem dX2_readWants_30 : decode cX2_readWants 30 = .ok (.invokevirtual 240, 3) := dk_182 0 240 (dk_at dksX2_readWants_1 6 rfl rfl)
theorem dX2_readWants_33 : decode cX2_readWants 33 = .ok (.iconst (-1), 1) := dk_2 (dk_at dksX2_readWants_1 9 rfl rfl)
theorem dX2_readWants_34 : decode cX2_readWants 34 = .ok (.if_icmp .ne 5, 3) := dk_160 0 5 (dk_at dksX2_readWants_1 10 rfl rfl)
theorem dX2_readWants_37 : decode cX2_readWants 37 = .ok (.iconst (-1), 1) := dk_2 (dk_at dksX2_readWants_1 13 rfl rfl)
theorem dX2_readWants_38 : decode cX2_readWants 38 = .ok (.ireturn, 1) := dk_172 (dk_at dksX2_readWants_1 14 rfl rfl)
theorem dX2_readWants_39 : decode cX2_readWants 39 = .ok (.iload_n 1, 1) := dk_27 (dk_at dksX2_readWants_1 15 rfl rfl)
theorem dX2_readWants_40 : decode cX2_readWants 40 = .ok (.iconst 1, 1) := dk_4 (dk_at dksX2_readWants_1 16 rfl rfl)
theorem dX2_readWants_41 : decode cX2_readWants 41 = .ok (.iadd, 1) := dk_96 (dk_at dksX2_readWants_1 17 rfl rfl)
theorem dX2_readWants_42 : decode cX2_readWants 42 = .ok (.istore_n 1, 1) := dk_60 (dk_at dksX2_readWants_1 18 rfl rfl)
theorem dX2_readWants_43 : decode cX2_readWants 43 = .ok (.goto (-41), 3) := dk_167 255 215 (dk_at dksX2_readWants_1 19 rfl rfl)
theorem dX2_readWants_46 : decode cX2_readWants 46 = .ok (.aload_n 0, 1) := dk_42 (dk_at dksX2_readWants_1 22 rfl rfl)
theorem dX2_readWants_47 : decode cX2_readWants 47 = .ok (.getfield 137, 3) := dk_180 0 137 (dk_at dksX2_readWants_2 0 rfl rfl)
theorem dX2_readWants_50 : decode cX2_readWants 50 = .ok (.ifCond .ne 7, 3) := dk_154 0 7 (dk_at dksX2_readWants_2 3 rfl rfl)
theorem dX2_readWants_53 : decode cX2_readWants 53 = .ok (.iload_n 1, 1) := dk_27 (dk_at dksX2_readWants_2 6 rfl rfl)
theorem dX2_readWants_54 : decode cX2_readWants 54 = .ok (.goto 8, 3) := dk_167 0 8 (dk_at dksX2_readWants_2 7 rfl rfl)
theorem dX2_readWants_57 : decode cX2_readWants 57 = .ok (.aload_n 0, 1) := dk_42 (dk_at dksX2_readWants_2 10 rfl rfl)
theorem dX2_readWants_58 : decode cX2_readWants 58 = .ok (.iconst 1, 1) := dk_4 (dk_at dksX2_readWants_2 11 rfl rfl)
theorem dX2_readWants_59 : decode cX2_readWants 59 = .ok (.invokevirtual 168, 3) := dk_182 0 168 (dk_at dksX2_readWants_2 12 rfl rfl)
theorem dX2_readWants_62 : decode cX2_readWants 62 = .ok (.ireturn, 1) := dk_172 (dk_at dksX2_readWants_2 15 rfl rfl)
abbrev cX2_readWant : ByteArray := prog_21_method_55_code
def yX2_readWant : MethodName := ⟨RX2, "readWant", "(I)I"⟩
def dkwX2_readWant_5 : List UInt8 := [16, 59, 182, 0, 231, 172]
abbrev dktX2_readWant_5 : List UInt8 := dkwX2_readWant_5 ++ []
def dkwX2_readWant_4 : List UInt8 := [4, 16, 99, 182, 0, 228, 79, 42, 180, 0, 62, 27, 7, 96, 46, 2, 160, 0, 7, 2, 167, 0, 9, 42]
abbrev dktX2_readWant_4 : List UInt8 := dkwX2_readWant_4 ++ dktX2_readWant_5
def dkwX2_readWant_3 : List UInt8 := [42, 180, 0, 62, 27, 6, 96, 46, 2, 160, 0, 5, 2, 172, 42, 180, 0, 62, 27, 7, 96, 42, 16, 27]
abbrev dktX2_readWant_3 : List UInt8 := dkwX2_readWant_3 ++ dktX2_readWant_4
def dkwX2_readWant_2 : List UInt8 := [2, 160, 0, 5, 2, 172, 42, 180, 0, 62, 27, 6, 96, 42, 16, 26, 3, 17, 3, 231, 182, 0, 228, 79]
abbrev dktX2_readWant_2 : List UInt8 := dkwX2_readWant_2 ++ dktX2_readWant_3
def dkwX2_readWant_1 : List UInt8 := [180, 0, 62, 27, 5, 96, 42, 16, 25, 3, 16, 7, 182, 0, 228, 79, 42, 180, 0, 62, 27, 5, 96, 46]
abbrev dktX2_readWant_1 : List UInt8 := dkwX2_readWant_1 ++ dktX2_readWant_2
def dkwX2_readWant_0 : List UInt8 := [42, 16, 23, 182, 0, 219, 2, 159, 0, 12, 42, 27, 182, 0, 237, 2, 160, 0, 5, 2, 172, 42]
abbrev dktX2_readWant_0 : List UInt8 := dkwX2_readWant_0 ++ dktX2_readWant_1
theorem dksX2_readWant_0 : cX2_readWant.data.toList.drop 0 = dktX2_readWant_0 := by decide +kernel
theorem dksX2_readWant_1 : cX2_readWant.data.toList.drop 22 = dktX2_readWant_1 := dk_seg dksX2_readWant_0 22 rfl rfl
theorem dksX2_readWant_2 : cX2_readWant.data.toList.drop 46 = dktX2_readWant_2 := dk_seg dksX2_readWant_1 24 rfl rfl
theorem dksX2_readWant_3 : cX2_readWant.data.toList.drop 70 = dktX2_readWant_3 := dk_seg dksX2_readWant_2 24 rfl rfl
theorem dksX2_readWant_4 : cX2_readWant.data.toList.drop 94 = dktX2_readWant_4 := dk_seg dksX2_readWant_3 24 rfl rfl
theorem dksX2_readWant_5 : cX2_readWant.data.toList.drop 118 = dktX2_readWant_5 := dk_seg dksX2_readWant_4 24 rfl rfl
theorem dX2_readWant_0 : decode cX2_readWant 0 = .ok (.aload_n 0, 1) := dk_42 (dk_at dksX2_readWant_0 0 rfl rfl)
theorem dX2_readWant_1 : decode cX2_readWant 1 = .ok (.bipush 23, 2) := dk_16 23 (dk_at dksX2_readWant_0 1 rfl rfl)
theorem dX2_readWant_3 : decode cX2_readWant 3 = .ok (.invokevirtual 219, 3) := dk_182 0 219 (dk_at dksX2_readWant_0 3 rfl rfl)
theorem dX2_readWant_6 : decode cX2_readWant 6 = .ok (.iconst (-1), 1) := dk_2 (dk_at dksX2_readWant_0 6 rfl rfl)
theorem dX2_readWant_7 : decode cX2_readWant 7 = .ok (.if_icmp .eq 12, 3) := dk_159 0 12 (dk_at dksX2_readWant_0 7 rfl rfl)
theorem dX2_readWant_10 : decode cX2_readWant 10 = .ok (.aload_n 0, 1) := dk_42 (dk_at dksX2_readWant_0 10 rfl rfl)
theorem dX2_readWant_11 : decode cX2_readWant 11 = .ok (.iload_n 1, 1) := dk_27 (dk_at dksX2_readWant_0 11 rfl rfl)
theorem dX2_readWant_12 : decode cX2_readWant 12 = .ok (.invokevirtual 237, 3) := dk_182 0 237 (dk_at dksX2_readWant_0 12 rfl rfl)
theorem dX2_readWant_15 : decode cX2_readWant 15 = .ok (.iconst (-1), 1) := dk_2 (dk_at dksX2_readWant_0 15 rfl rfl)
theorem dX2_readWant_16 : decode cX2_readWant 16 = .ok (.if_icmp .ne 5, 3) := dk_160 0 5 (dk_at dksX2_readWant_0 16 rfl rfl)
theorem dX2_readWant_19 : decode cX2_readWant 19 = .ok (.iconst (-1), 1) := dk_2 (dk_at dksX2_readWant_0 19 rfl rfl)
theorem dX2_readWant_20 : decode cX2_readWant 20 = .ok (.ireturn, 1) := dk_172 (dk_at dksX2_readWant_0 20 rfl rfl)
theorem dX2_readWant_21 : decode cX2_readWant 21 = .ok (.aload_n 0, 1) := dk_42 (dk_at dksX2_readWant_0 21 rfl rfl)
theorem dX2_readWant_22 : decode cX2_readWant 22 = .ok (.getfield 62, 3) := dk_180 0 62 (dk_at dksX2_readWant_1 0 rfl rfl)
theorem dX2_readWant_25 : decode cX2_readWant 25 = .ok (.iload_n 1, 1) := dk_27 (dk_at dksX2_readWant_1 3 rfl rfl)
theorem dX2_readWant_26 : decode cX2_readWant 26 = .ok (.iconst 2, 1) := dk_5 (dk_at dksX2_readWant_1 4 rfl rfl)
theorem dX2_readWant_27 : decode cX2_readWant 27 = .ok (.iadd, 1) := dk_96 (dk_at dksX2_readWant_1 5 rfl rfl)
theorem dX2_readWant_28 : decode cX2_readWant 28 = .ok (.aload_n 0, 1) := dk_42 (dk_at dksX2_readWant_1 6 rfl rfl)
theorem dX2_readWant_29 : decode cX2_readWant 29 = .ok (.bipush 25, 2) := dk_16 25 (dk_at dksX2_readWant_1 7 rfl rfl)
theorem dX2_readWant_31 : decode cX2_readWant 31 = .ok (.iconst 0, 1) := dk_3 (dk_at dksX2_readWant_1 9 rfl rfl)
theorem dX2_readWant_32 : decode cX2_readWant 32 = .ok (.bipush 7, 2) := dk_16 7 (dk_at dksX2_readWant_1 10 rfl rfl)
theorem dX2_readWant_34 : decode cX2_readWant 34 = .ok (.invokevirtual 228, 3) := dk_182 0 228 (dk_at dksX2_readWant_1 12 rfl rfl)
theorem dX2_readWant_37 : decode cX2_readWant 37 = .ok (.iastore, 1) := dk_79 (dk_at dksX2_readWant_1 15 rfl rfl)
theorem dX2_readWant_38 : decode cX2_readWant 38 = .ok (.aload_n 0, 1) := dk_42 (dk_at dksX2_readWant_1 16 rfl rfl)
theorem dX2_readWant_39 : decode cX2_readWant 39 = .ok (.getfield 62, 3) := dk_180 0 62 (dk_at dksX2_readWant_1 17 rfl rfl)
theorem dX2_readWant_42 : decode cX2_readWant 42 = .ok (.iload_n 1, 1) := dk_27 (dk_at dksX2_readWant_1 20 rfl rfl)
theorem dX2_readWant_43 : decode cX2_readWant 43 = .ok (.iconst 2, 1) := dk_5 (dk_at dksX2_readWant_1 21 rfl rfl)
theorem dX2_readWant_44 : decode cX2_readWant 44 = .ok (.iadd, 1) := dk_96 (dk_at dksX2_readWant_1 22 rfl rfl)
theorem dX2_readWant_45 : decode cX2_readWant 45 = .ok (.iaload, 1) := dk_46 (dk_at dksX2_readWant_1 23 rfl rfl)
theorem dX2_readWant_46 : decode cX2_readWant 46 = .ok (.iconst (-1), 1) := dk_2 (dk_at dksX2_readWant_2 0 rfl rfl)
theorem dX2_readWant_47 : decode cX2_readWant 47 = .ok (.if_icmp .ne 5, 3) := dk_160 0 5 (dk_at dksX2_readWant_2 1 rfl rfl)
theorem dX2_readWant_50 : decode cX2_readWant 50 = .ok (.iconst (-1), 1) := dk_2 (dk_at dksX2_readWant_2 4 rfl rfl)
theorem dX2_readWant_51 : decode cX2_readWant 51 = .ok (.ireturn, 1) := dk_172 (dk_at dksX2_readWant_2 5 rfl rfl)
theorem dX2_readWant_52 : decode cX2_readWant 52 = .ok (.aload_n 0, 1) := dk_42 (dk_at dksX2_readWant_2 6 rfl rfl)
theorem dX2_readWant_53 : decode cX2_readWant 53 = .ok (.getfield 62, 3) := dk_180 0 62 (dk_at dksX2_readWant_2 7 rfl rfl)
theorem dX2_readWant_56 : decode cX2_readWant 56 = .ok (.iload_n 1, 1) := dk_27 (dk_at dksX2_readWant_2 10 rfl rfl)
theorem dX2_readWant_57 : decode cX2_readWant 57 = .ok (.iconst 3, 1) := dk_6 (dk_at dksX2_readWant_2 11 rfl rfl)
theorem dX2_readWant_58 : decode cX2_readWant 58 = .ok (.iadd, 1) := dk_96 (dk_at dksX2_readWant_2 12 rfl rfl)
theorem dX2_readWant_59 : decode cX2_readWant 59 = .ok (.aload_n 0, 1) := dk_42 (dk_at dksX2_readWant_2 13 rfl rfl)
theorem dX2_readWant_60 : decode cX2_readWant 60 = .ok (.bipush 26, 2) := dk_16 26 (dk_at dksX2_readWant_2 14 rfl rfl)
theorem dX2_readWant_62 : decode cX2_readWant 62 = .ok (.iconst 0, 1) := dk_3 (dk_at dksX2_readWant_2 16 rfl rfl)
theorem dX2_readWant_63 : decode cX2_readWant 63 = .ok (.sipush 999, 3) := dk_17 3 231 (dk_at dksX2_readWant_2 17 rfl rfl)
theorem dX2_readWant_66 : decode cX2_readWant 66 = .ok (.invokevirtual 228, 3) := dk_182 0 228 (dk_at dksX2_readWant_2 20 rfl rfl)
theorem dX2_readWant_69 : decode cX2_readWant 69 = .ok (.iastore, 1) := dk_79 (dk_at dksX2_readWant_2 23 rfl rfl)
theorem dX2_readWant_70 : decode cX2_readWant 70 = .ok (.aload_n 0, 1) := dk_42 (dk_at dksX2_readWant_3 0 rfl rfl)
theorem dX2_readWant_71 : decode cX2_readWant 71 = .ok (.getfield 62, 3) := dk_180 0 62 (dk_at dksX2_readWant_3 1 rfl rfl)
theorem dX2_readWant_74 : decode cX2_readWant 74 = .ok (.iload_n 1, 1) := dk_27 (dk_at dksX2_readWant_3 4 rfl rfl)
theorem dX2_readWant_75 : decode cX2_readWant 75 = .ok (.iconst 3, 1) := dk_6 (dk_at dksX2_readWant_3 5 rfl rfl)
theorem dX2_readWant_76 : decode cX2_readWant 76 = .ok (.iadd, 1) := dk_96 (dk_at dksX2_readWant_3 6 rfl rfl)
theorem dX2_readWant_77 : decode cX2_readWant 77 = .ok (.iaload, 1) := dk_46 (dk_at dksX2_readWant_3 7 rfl rfl)
theorem dX2_readWant_78 : decode cX2_readWant 78 = .ok (.iconst (-1), 1) := dk_2 (dk_at dksX2_readWant_3 8 rfl rfl)
theorem dX2_readWant_79 : decode cX2_readWant 79 = .ok (.if_icmp .ne 5, 3) := dk_160 0 5 (dk_at dksX2_readWant_3 9 rfl rfl)
theorem dX2_readWant_82 : decode cX2_readWant 82 = .ok (.iconst (-1), 1) := dk_2 (dk_at dksX2_readWant_3 12 rfl rfl)
theorem dX2_readWant_83 : decode cX2_readWant 83 = .ok (.ireturn, 1) := dk_172 (dk_at dksX2_readWant_3 13 rfl rfl)
theorem dX2_readWant_84 : decode cX2_readWant 84 = .ok (.aload_n 0, 1) := dk_42 (dk_at dksX2_readWant_3 14 rfl rfl)
theorem dX2_readWant_85 : decode cX2_readWant 85 = .ok (.getfield 62, 3) := dk_180 0 62 (dk_at dksX2_readWant_3 15 rfl rfl)
theorem dX2_readWant_88 : decode cX2_readWant 88 = .ok (.iload_n 1, 1) := dk_27 (dk_at dksX2_readWant_3 18 rfl rfl)
theorem dX2_readWant_89 : decode cX2_readWant 89 = .ok (.iconst 4, 1) := dk_7 (dk_at dksX2_readWant_3 19 rfl rfl)
theorem dX2_readWant_90 : decode cX2_readWant 90 = .ok (.iadd, 1) := dk_96 (dk_at dksX2_readWant_3 20 rfl rfl)
theorem dX2_readWant_91 : decode cX2_readWant 91 = .ok (.aload_n 0, 1) := dk_42 (dk_at dksX2_readWant_3 21 rfl rfl)
theorem dX2_readWant_92 : decode cX2_readWant 92 = .ok (.bipush 27, 2) := dk_16 27 (dk_at dksX2_readWant_3 22 rfl rfl)
theorem dX2_readWant_94 : decode cX2_readWant 94 = .ok (.iconst 1, 1) := dk_4 (dk_at dksX2_readWant_4 0 rfl rfl)
theorem dX2_readWant_95 : decode cX2_readWant 95 = .ok (.bipush 99, 2) := dk_16 99 (dk_at dksX2_readWant_4 1 rfl rfl)
theorem dX2_readWant_97 : decode cX2_readWant 97 = .ok (.invokevirtual 228, 3) := dk_182 0 228 (dk_at dksX2_readWant_4 3 rfl rfl)
theorem dX2_readWant_100 : decode cX2_readWant 100 = .ok (.iastore, 1) := dk_79 (dk_at dksX2_readWant_4 6 rfl rfl)
theorem dX2_readWant_101 : decode cX2_readWant 101 = .ok (.aload_n 0, 1) := dk_42 (dk_at dksX2_readWant_4 7 rfl rfl)
theorem dX2_readWant_102 : decode cX2_readWant 102 = .ok (.getfield 62, 3) := dk_180 0 62 (dk_at dksX2_readWant_4 8 rfl rfl)
theorem dX2_readWant_105 : decode cX2_readWant 105 = .ok (.iload_n 1, 1) := dk_27 (dk_at dksX2_readWant_4 11 rfl rfl)
theorem dX2_readWant_106 : decode cX2_readWant 106 = .ok (.iconst 4, 1) := dk_7 (dk_at dksX2_readWant_4 12 rfl rfl)
theorem dX2_readWant_107 : decode cX2_readWant 107 = .ok (.iadd, 1) := dk_96 (dk_at dksX2_readWant_4 13 rfl rfl)
theorem dX2_readWant_108 : decode cX2_readWant 108 = .ok (.iaload, 1) := dk_46 (dk_at dksX2_readWant_4 14 rfl rfl)
theorem dX2_readWant_109 : decode cX2_readWant 109 = .ok (.iconst (-1), 1) := dk_2 (dk_at dksX2_readWant_4 15 rfl rfl)
theorem dX2_readWant_110 : decode cX2_readWant 110 = .ok (.if_icmp .ne 7, 3) := dk_160 0 7 (dk_at dksX2_readWant_4 16 rfl rfl)
theorem dX2_readWant_113 : decode cX2_readWant 113 = .ok (.iconst (-1), 1) := dk_2 (dk_at dksX2_readWant_4 19 rfl rfl)
theorem dX2_readWant_114 : decode cX2_readWant 114 = .ok (.goto 9, 3) := dk_167 0 9 (dk_at dksX2_readWant_4 20 rfl rfl)
theorem dX2_readWant_117 : decode cX2_readWant 117 = .ok (.aload_n 0, 1) := dk_42 (dk_at dksX2_readWant_4 23 rfl rfl)
theorem dX2_readWant_118 : decode cX2_readWant 118 = .ok (.bipush 59, 2) := dk_16 59 (dk_at dksX2_readWant_5 0 rfl rfl)
theorem dX2_readWant_120 : decode cX2_readWant 120 = .ok (.invokevirtual 231, 3) := dk_182 0 231 (dk_at dksX2_readWant_5 2 rfl rfl)
theorem dX2_readWant_123 : decode cX2_readWant 123 = .ok (.ireturn, 1) := dk_172 (dk_at dksX2_readWant_5 5 rfl rfl)
abbrev cX2_readSky : ByteArray := prog_21_method_54_code
def yX2_readSky : MethodName := ⟨RX2, "readSky", "(I)I"⟩
def dkwX2_readSky_3 : List UInt8 := [182, 0, 222, 79, 42, 180, 0, 62, 27, 4, 96, 46, 172]
abbrev dktX2_readSky_3 : List UInt8 := dkwX2_readSky_3 ++ []
def dkwX2_readSky_2 : List UInt8 := [180, 0, 62, 27, 42, 180, 0, 140, 79, 42, 182, 0, 175, 42, 180, 0, 62, 27, 4, 96, 42, 4, 16, 99]
abbrev dktX2_readSky_2 : List UInt8 := dkwX2_readSky_2 ++ dktX2_readSky_3
def dkwX2_readSky_1 : List UInt8 := [153, 0, 9, 42, 182, 0, 175, 3, 172, 42, 182, 0, 225, 154, 0, 9, 42, 4, 182, 0, 168, 172, 42]
abbrev dktX2_readSky_1 : List UInt8 := dkwX2_readSky_1 ++ dktX2_readSky_2
def dkwX2_readSky_0 : List UInt8 := [42, 180, 0, 62, 27, 8, 79, 42, 180, 0, 62, 27, 4, 96, 3, 79, 42, 16, 24, 182, 0, 197]
abbrev dktX2_readSky_0 : List UInt8 := dkwX2_readSky_0 ++ dktX2_readSky_1
theorem dksX2_readSky_0 : cX2_readSky.data.toList.drop 0 = dktX2_readSky_0 := by decide +kernel
theorem dksX2_readSky_1 : cX2_readSky.data.toList.drop 22 = dktX2_readSky_1 := dk_seg dksX2_readSky_0 22 rfl rfl
theorem dksX2_readSky_2 : cX2_readSky.data.toList.drop 45 = dktX2_readSky_2 := dk_seg dksX2_readSky_1 23 rfl rfl
theorem dksX2_readSky_3 : cX2_readSky.data.toList.drop 69 = dktX2_readSky_3 := dk_seg dksX2_readSky_2 24 rfl rfl
theorem dX2_readSky_0 : decode cX2_readSky 0 = .ok (.aload_n 0, 1) := dk_42 (dk_at dksX2_readSky_0 0 rfl rfl)
theorem dX2_readSky_1 : decode cX2_readSky 1 = .ok (.getfield 62, 3) := dk_180 0 62 (dk_at dksX2_readSky_0 1 rfl rfl)
theorem dX2_readSky_4 : decode cX2_readSky 4 = .ok (.iload_n 1, 1) := dk_27 (dk_at dksX2_readSky_0 4 rfl rfl)
theorem dX2_readSky_5 : decode cX2_readSky 5 = .ok (.iconst 5, 1) := dk_8 (dk_at dksX2_readSky_0 5 rfl rfl)
theorem dX2_readSky_6 : decode cX2_readSky 6 = .ok (.iastore, 1) := dk_79 (dk_at dksX2_readSky_0 6 rfl rfl)
theorem dX2_readSky_7 : decode cX2_readSky 7 = .ok (.aload_n 0, 1) := dk_42 (dk_at dksX2_readSky_0 7 rfl rfl)
theorem dX2_readSky_8 : decode cX2_readSky 8 = .ok (.getfield 62, 3) := dk_180 0 62 (dk_at dksX2_readSky_0 8 rfl rfl)
theorem dX2_readSky_11 : decode cX2_readSky 11 = .ok (.iload_n 1, 1) := dk_27 (dk_at dksX2_readSky_0 11 rfl rfl)
theorem dX2_readSky_12 : decode cX2_readSky 12 = .ok (.iconst 1, 1) := dk_4 (dk_at dksX2_readSky_0 12 rfl rfl)
theorem dX2_readSky_13 : decode cX2_readSky 13 = .ok (.iadd, 1) := dk_96 (dk_at dksX2_readSky_0 13 rfl rfl)
theorem dX2_readSky_14 : decode cX2_readSky 14 = .ok (.iconst 0, 1) := dk_3 (dk_at dksX2_readSky_0 14 rfl rfl)
theorem dX2_readSky_15 : decode cX2_readSky 15 = .ok (.iastore, 1) := dk_79 (dk_at dksX2_readSky_0 15 rfl rfl)
theorem dX2_readSky_16 : decode cX2_readSky 16 = .ok (.aload_n 0, 1) := dk_42 (dk_at dksX2_readSky_0 16 rfl rfl)
theorem dX2_readSky_17 : decode cX2_readSky 17 = .ok (.bipush 24, 2) := dk_16 24 (dk_at dksX2_readSky_0 17 rfl rfl)
theorem dX2_readSky_19 : decode cX2_readSky 19 = .ok (.invokevirtual 197, 3) := dk_182 0 197 (dk_at dksX2_readSky_0 19 rfl rfl)
theorem dX2_readSky_22 : decode cX2_readSky 22 = .ok (.ifCond .eq 9, 3) := dk_153 0 9 (dk_at dksX2_readSky_1 0 rfl rfl)
theorem dX2_readSky_25 : decode cX2_readSky 25 = .ok (.aload_n 0, 1) := dk_42 (dk_at dksX2_readSky_1 3 rfl rfl)
theorem dX2_readSky_26 : decode cX2_readSky 26 = .ok (.invokevirtual 175, 3) := dk_182 0 175 (dk_at dksX2_readSky_1 4 rfl rfl)
theorem dX2_readSky_29 : decode cX2_readSky 29 = .ok (.iconst 0, 1) := dk_3 (dk_at dksX2_readSky_1 7 rfl rfl)
theorem dX2_readSky_30 : decode cX2_readSky 30 = .ok (.ireturn, 1) := dk_172 (dk_at dksX2_readSky_1 8 rfl rfl)
theorem dX2_readSky_31 : decode cX2_readSky 31 = .ok (.aload_n 0, 1) := dk_42 (dk_at dksX2_readSky_1 9 rfl rfl)
theorem dX2_readSky_32 : decode cX2_readSky 32 = .ok (.invokevirtual 225, 3) := dk_182 0 225 (dk_at dksX2_readSky_1 10 rfl rfl)
theorem dX2_readSky_35 : decode cX2_readSky 35 = .ok (.ifCond .ne 9, 3) := dk_154 0 9 (dk_at dksX2_readSky_1 13 rfl rfl)
theorem dX2_readSky_38 : decode cX2_readSky 38 = .ok (.aload_n 0, 1) := dk_42 (dk_at dksX2_readSky_1 16 rfl rfl)
theorem dX2_readSky_39 : decode cX2_readSky 39 = .ok (.iconst 1, 1) := dk_4 (dk_at dksX2_readSky_1 17 rfl rfl)
theorem dX2_readSky_40 : decode cX2_readSky 40 = .ok (.invokevirtual 168, 3) := dk_182 0 168 (dk_at dksX2_readSky_1 18 rfl rfl)
theorem dX2_readSky_43 : decode cX2_readSky 43 = .ok (.ireturn, 1) := dk_172 (dk_at dksX2_readSky_1 21 rfl rfl)
theorem dX2_readSky_44 : decode cX2_readSky 44 = .ok (.aload_n 0, 1) := dk_42 (dk_at dksX2_readSky_1 22 rfl rfl)
theorem dX2_readSky_45 : decode cX2_readSky 45 = .ok (.getfield 62, 3) := dk_180 0 62 (dk_at dksX2_readSky_2 0 rfl rfl)
theorem dX2_readSky_48 : decode cX2_readSky 48 = .ok (.iload_n 1, 1) := dk_27 (dk_at dksX2_readSky_2 3 rfl rfl)
theorem dX2_readSky_49 : decode cX2_readSky 49 = .ok (.aload_n 0, 1) := dk_42 (dk_at dksX2_readSky_2 4 rfl rfl)
theorem dX2_readSky_50 : decode cX2_readSky 50 = .ok (.getfield 140, 3) := dk_180 0 140 (dk_at dksX2_readSky_2 5 rfl rfl)
theorem dX2_readSky_53 : decode cX2_readSky 53 = .ok (.iastore, 1) := dk_79 (dk_at dksX2_readSky_2 8 rfl rfl)
theorem dX2_readSky_54 : decode cX2_readSky 54 = .ok (.aload_n 0, 1) := dk_42 (dk_at dksX2_readSky_2 9 rfl rfl)
theorem dX2_readSky_55 : decode cX2_readSky 55 = .ok (.invokevirtual 175, 3) := dk_182 0 175 (dk_at dksX2_readSky_2 10 rfl rfl)
theorem dX2_readSky_58 : decode cX2_readSky 58 = .ok (.aload_n 0, 1) := dk_42 (dk_at dksX2_readSky_2 13 rfl rfl)
theorem dX2_readSky_59 : decode cX2_readSky 59 = .ok (.getfield 62, 3) := dk_180 0 62 (dk_at dksX2_readSky_2 14 rfl rfl)
theorem dX2_readSky_62 : decode cX2_readSky 62 = .ok (.iload_n 1, 1) := dk_27 (dk_at dksX2_readSky_2 17 rfl rfl)
theorem dX2_readSky_63 : decode cX2_readSky 63 = .ok (.iconst 1, 1) := dk_4 (dk_at dksX2_readSky_2 18 rfl rfl)
theorem dX2_readSky_64 : decode cX2_readSky 64 = .ok (.iadd, 1) := dk_96 (dk_at dksX2_readSky_2 19 rfl rfl)
theorem dX2_readSky_65 : decode cX2_readSky 65 = .ok (.aload_n 0, 1) := dk_42 (dk_at dksX2_readSky_2 20 rfl rfl)
theorem dX2_readSky_66 : decode cX2_readSky 66 = .ok (.iconst 1, 1) := dk_4 (dk_at dksX2_readSky_2 21 rfl rfl)
theorem dX2_readSky_67 : decode cX2_readSky 67 = .ok (.bipush 99, 2) := dk_16 99 (dk_at dksX2_readSky_2 22 rfl rfl)
theorem dX2_readSky_69 : decode cX2_readSky 69 = .ok (.invokevirtual 222, 3) := dk_182 0 222 (dk_at dksX2_readSky_3 0 rfl rfl)
theorem dX2_readSky_72 : decode cX2_readSky 72 = .ok (.iastore, 1) := dk_79 (dk_at dksX2_readSky_3 3 rfl rfl)
theorem dX2_readSky_73 : decode cX2_readSky 73 = .ok (.aload_n 0, 1) := dk_42 (dk_at dksX2_readSky_3 4 rfl rfl)
theorem dX2_readSky_74 : decode cX2_readSky 74 = .ok (.getfield 62, 3) := dk_180 0 62 (dk_at dksX2_readSky_3 5 rfl rfl)
theorem dX2_readSky_77 : decode cX2_readSky 77 = .ok (.iload_n 1, 1) := dk_27 (dk_at dksX2_readSky_3 8 rfl rfl)
theorem dX2_readSky_78 : decode cX2_readSky 78 = .ok (.iconst 1, 1) := dk_4 (dk_at dksX2_readSky_3 9 rfl rfl)
theorem dX2_readSky_79 : decode cX2_readSky 79 = .ok (.iadd, 1) := dk_96 (dk_at dksX2_readSky_3 10 rfl rfl)
theorem dX2_readSky_80 : decode cX2_readSky 80 = .ok (.iaload, 1) := dk_46 (dk_at dksX2_readSky_3 11 rfl rfl)
theorem dX2_readSky_81 : decode cX2_readSky 81 = .ok (.ireturn, 1) := dk_172 (dk_at dksX2_readSky_3 12 rfl rfl)
abbrev cX2_readPlan : ByteArray := prog_21_method_59_code
def yX2_readPlan : MethodName := ⟨RX2, "readPlan", "()I"⟩
def dkwX2_readPlan_2 : List UInt8 := [180, 0, 137, 154, 0, 7, 27, 167, 0, 8, 42, 4, 182, 0, 168, 172]
abbrev dktX2_readPlan_2 : List UInt8 := dkwX2_readPlan_2 ++ []
def dkwX2_readPlan_1 : List UInt8 := [16, 64, 7, 27, 104, 96, 182, 0, 246, 2, 160, 0, 5, 2, 172, 27, 4, 96, 60, 167, 255, 215, 42]
abbrev dktX2_readPlan_1 : List UInt8 := dkwX2_readPlan_1 ++ dktX2_readPlan_2
def dkwX2_readPlan_0 : List UInt8 := [3, 60, 42, 16, 26, 182, 0, 197, 153, 0, 38, 27, 16, 16, 160, 0, 9, 42, 6, 182, 0, 168, 172, 42]
abbrev dktX2_readPlan_0 : List UInt8 := dkwX2_readPlan_0 ++ dktX2_readPlan_1
theorem dksX2_readPlan_0 : cX2_readPlan.data.toList.drop 0 = dktX2_readPlan_0 := by decide +kernel
theorem dksX2_readPlan_1 : cX2_readPlan.data.toList.drop 24 = dktX2_readPlan_1 := dk_seg dksX2_readPlan_0 24 rfl rfl
theorem dksX2_readPlan_2 : cX2_readPlan.data.toList.drop 47 = dktX2_readPlan_2 := dk_seg dksX2_readPlan_1 23 rfl rfl
theorem dX2_readPlan_0 : decode cX2_readPlan 0 = .ok (.iconst 0, 1) := dk_3 (dk_at dksX2_readPlan_0 0 rfl rfl)
theorem dX2_readPlan_1 : decode cX2_readPlan 1 = .ok (.istore_n 1, 1) := dk_60 (dk_at dksX2_readPlan_0 1 rfl rfl)
theorem dX2_readPlan_2 : decode cX2_readPlan 2 = .ok (.aload_n 0, 1) := dk_42 (dk_at dksX2_readPlan_0 2 rfl rfl)
theorem dX2_readPlan_3 : decode cX2_readPlan 3 = .ok (.bipush 26, 2) := dk_16 26 (dk_at dksX2_readPlan_0 3 rfl rfl)
theorem dX2_readPlan_5 : decode cX2_readPlan 5 = .ok (.invokevirtual 197, 3) := dk_182 0 197 (dk_at dksX2_readPlan_0 5 rfl rfl)
theorem dX2_readPlan_8 : decode cX2_readPlan 8 = .ok (.ifCond .eq 38, 3) := dk_153 0 38 (dk_at dksX2_readPlan_0 8 rfl rfl)
theorem dX2_readPlan_11 : decode cX2_readPlan 11 = .ok (.iload_n 1, 1) := dk_27 (dk_at dksX2_readPlan_0 11 rfl rfl)
theorem dX2_readPlan_12 : decode cX2_readPlan 12 = .ok (.bipush 16, 2) := dk_16 16 (dk_at dksX2_readPlan_0 12 rfl rfl)
theorem dX2_readPlan_14 : decode cX2_readPlan 14 = .ok (.if_icmp .ne 9, 3) := dk_160 0 9 (dk_at dksX2_readPlan_0 14 rfl rfl)
theorem dX2_readPlan_17 : decode cX2_readPlan 17 = .ok (.aload_n 0, 1) := dk_42 (dk_at dksX2_readPlan_0 17 rfl rfl)
theorem dX2_readPlan_18 : decode cX2_readPlan 18 = .ok (.iconst 3, 1) := dk_6 (dk_at dksX2_readPlan_0 18 rfl rfl)
theorem dX2_readPlan_19 : decode cX2_readPlan 19 = .ok (.invokevirtual 168, 3) := dk_182 0 168 (dk_at dksX2_readPlan_0 19 rfl rfl)
theorem dX2_readPlan_22 : decode cX2_readPlan 22 = .ok (.ireturn, 1) := dk_172 (dk_at dksX2_readPlan_0 22 rfl rfl)
theorem dX2_readPlan_23 : decode cX2_readPlan 23 = .ok (.aload_n 0, 1) := dk_42 (dk_at dksX2_readPlan_0 23 rfl rfl)
theorem dX2_readPlan_24 : decode cX2_readPlan 24 = .ok (.bipush 64, 2) := dk_16 64 (dk_at dksX2_readPlan_1 0 rfl rfl)
theorem dX2_readPlan_26 : decode cX2_readPlan 26 = .ok (.iconst 4, 1) := dk_7 (dk_at dksX2_readPlan_1 2 rfl rfl)
theorem dX2_readPlan_27 : decode cX2_readPlan 27 = .ok (.iload_n 1, 1) := dk_27 (dk_at dksX2_readPlan_1 3 rfl rfl)
theorem dX2_readPlan_28 : decode cX2_readPlan 28 = .ok (.imul, 1) := dk_104 (dk_at dksX2_readPlan_1 4 rfl rfl)
theorem dX2_readPlan_29 : decode cX2_readPlan 29 = .ok (.iadd, 1) := dk_96 (dk_at dksX2_readPlan_1 5 rfl rfl)
theorem dX2_readPlan_30 : decode cX2_readPlan 30 = .ok (.invokevirtual 246, 3) := dk_182 0 246 (dk_at dksX2_readPlan_1 6 rfl rfl)
theorem dX2_readPlan_33 : decode cX2_readPlan 33 = .ok (.iconst (-1), 1) := dk_2 (dk_at dksX2_readPlan_1 9 rfl rfl)
theorem dX2_readPlan_34 : decode cX2_readPlan 34 = .ok (.if_icmp .ne 5, 3) := dk_160 0 5 (dk_at dksX2_readPlan_1 10 rfl rfl)
theorem dX2_readPlan_37 : decode cX2_readPlan 37 = .ok (.iconst (-1), 1) := dk_2 (dk_at dksX2_readPlan_1 13 rfl rfl)
theorem dX2_readPlan_38 : decode cX2_readPlan 38 = .ok (.ireturn, 1) := dk_172 (dk_at dksX2_readPlan_1 14 rfl rfl)
theorem dX2_readPlan_39 : decode cX2_readPlan 39 = .ok (.iload_n 1, 1) := dk_27 (dk_at dksX2_readPlan_1 15 rfl rfl)
theorem dX2_readPlan_40 : decode cX2_readPlan 40 = .ok (.iconst 1, 1) := dk_4 (dk_at dksX2_readPlan_1 16 rfl rfl)
theorem dX2_readPlan_41 : decode cX2_readPlan 41 = .ok (.iadd, 1) := dk_96 (dk_at dksX2_readPlan_1 17 rfl rfl)
theorem dX2_readPlan_42 : decode cX2_readPlan 42 = .ok (.istore_n 1, 1) := dk_60 (dk_at dksX2_readPlan_1 18 rfl rfl)
theorem dX2_readPlan_43 : decode cX2_readPlan 43 = .ok (.goto (-41), 3) := dk_167 255 215 (dk_at dksX2_readPlan_1 19 rfl rfl)
theorem dX2_readPlan_46 : decode cX2_readPlan 46 = .ok (.aload_n 0, 1) := dk_42 (dk_at dksX2_readPlan_1 22 rfl rfl)
theorem dX2_readPlan_47 : decode cX2_readPlan 47 = .ok (.getfield 137, 3) := dk_180 0 137 (dk_at dksX2_readPlan_2 0 rfl rfl)
theorem dX2_readPlan_50 : decode cX2_readPlan 50 = .ok (.ifCond .ne 7, 3) := dk_154 0 7 (dk_at dksX2_readPlan_2 3 rfl rfl)
theorem dX2_readPlan_53 : decode cX2_readPlan 53 = .ok (.iload_n 1, 1) := dk_27 (dk_at dksX2_readPlan_2 6 rfl rfl)
theorem dX2_readPlan_54 : decode cX2_readPlan 54 = .ok (.goto 8, 3) := dk_167 0 8 (dk_at dksX2_readPlan_2 7 rfl rfl)
theorem dX2_readPlan_57 : decode cX2_readPlan 57 = .ok (.aload_n 0, 1) := dk_42 (dk_at dksX2_readPlan_2 10 rfl rfl)
theorem dX2_readPlan_58 : decode cX2_readPlan 58 = .ok (.iconst 1, 1) := dk_4 (dk_at dksX2_readPlan_2 11 rfl rfl)
theorem dX2_readPlan_59 : decode cX2_readPlan 59 = .ok (.invokevirtual 168, 3) := dk_182 0 168 (dk_at dksX2_readPlan_2 12 rfl rfl)
theorem dX2_readPlan_62 : decode cX2_readPlan 62 = .ok (.ireturn, 1) := dk_172 (dk_at dksX2_readPlan_2 15 rfl rfl)
abbrev cX2_readPlanLine : ByteArray := prog_21_method_58_code
def yX2_readPlanLine : MethodName := ⟨RX2, "readPlanLine", "(I)I"⟩
def dkwX2_readPlanLine_7 : List UInt8 := [182, 0, 231, 172]
abbrev dktX2_readPlanLine_7 : List UInt8 := dkwX2_readPlanLine_7 ++ []
def dkwX2_readPlanLine_6 : List UInt8 := [182, 0, 228, 79, 42, 180, 0, 65, 27, 6, 96, 46, 2, 160, 0, 7, 2, 167, 0, 9, 42, 16, 59]
abbrev dktX2_readPlanLine_6 : List UInt8 := dkwX2_readPlanLine_6 ++ dktX2_readPlanLine_7
def dkwX2_readPlanLine_5 : List UInt8 := [160, 0, 7, 3, 167, 0, 21, 42, 28, 154, 0, 8, 16, 25, 167, 0, 5, 16, 30, 3, 16, 7]
abbrev dktX2_readPlanLine_5 : List UInt8 := dkwX2_readPlanLine_5 ++ dktX2_readPlanLine_6
def dkwX2_readPlanLine_4 : List UInt8 := [180, 0, 65, 27, 5, 96, 46, 2, 160, 0, 5, 2, 172, 42, 180, 0, 65, 27, 6, 96, 28, 5]
abbrev dktX2_readPlanLine_4 : List UInt8 := dkwX2_readPlanLine_4 ++ dktX2_readPlanLine_5
def dkwX2_readPlanLine_3 : List UInt8 := [28, 79, 42, 180, 0, 65, 27, 5, 96, 42, 3, 42, 180, 0, 7, 7, 46, 4, 100, 182, 0, 222, 79, 42]
abbrev dktX2_readPlanLine_3 : List UInt8 := dkwX2_readPlanLine_3 ++ dktX2_readPlanLine_4
def dkwX2_readPlanLine_2 : List UInt8 := [2, 61, 28, 2, 160, 0, 9, 42, 4, 182, 0, 168, 172, 42, 182, 0, 175, 42, 180, 0, 65, 27, 4, 96]
abbrev dktX2_readPlanLine_2 : List UInt8 := dkwX2_readPlanLine_2 ++ dktX2_readPlanLine_3
def dkwX2_readPlanLine_1 : List UInt8 := [160, 0, 5, 2, 172, 42, 180, 0, 137, 5, 160, 0, 14, 42, 42, 180, 0, 140, 182, 0, 243, 167, 0, 4]
abbrev dktX2_readPlanLine_1 : List UInt8 := dkwX2_readPlanLine_1 ++ dktX2_readPlanLine_2
def dkwX2_readPlanLine_0 : List UInt8 := [42, 180, 0, 65, 27, 42, 16, 26, 3, 17, 3, 231, 182, 0, 228, 79, 42, 180, 0, 65, 27, 46, 2]
abbrev dktX2_readPlanLine_0 : List UInt8 := dkwX2_readPlanLine_0 ++ dktX2_readPlanLine_1
theorem dksX2_readPlanLine_0 : cX2_readPlanLine.data.toList.drop 0 = dktX2_readPlanLine_0 := by decide +kernel
theorem dksX2_readPlanLine_1 : cX2_readPlanLine.data.toList.drop 23 = dktX2_readPlanLine_1 := dk_seg dksX2_readPlanLine_0 23 rfl rfl
theorem dksX2_readPlanLine_2 : cX2_readPlanLine.data.toList.drop 47 = dktX2_readPlanLine_2 := dk_seg dksX2_readPlanLine_1 24 rfl rfl
theorem dksX2_readPlanLine_3 : cX2_readPlanLine.data.toList.drop 71 = dktX2_readPlanLine_3 := dk_seg dksX2_readPlanLine_2 24 rfl rfl
theorem dksX2_readPlanLine_4 : cX2_readPlanLine.data.toList.drop 95 = dktX2_readPlanLine_4 := dk_seg dksX2_readPlanLine_3 24 rfl rfl
theorem dksX2_readPlanLine_5 : cX2_readPlanLine.data.toList.drop 117 = dktX2_readPlanLine_5 := dk_seg dksX2_readPlanLine_4 22 rfl rfl
theorem dksX2_readPlanLine_6 : cX2_readPlanLine.data.toList.drop 139 = dktX2_readPlanLine_6 := dk_seg dksX2_readPlanLine_5 22 rfl rfl
theorem dksX2_readPlanLine_7 : cX2_readPlanLine.data.toList.drop 162 = dktX2_readPlanLine_7 := dk_seg dksX2_readPlanLine_6 23 rfl rfl
theorem dX2_readPlanLine_0 : decode cX2_readPlanLine 0 = .ok (.aload_n 0, 1) := dk_42 (dk_at dksX2_readPlanLine_0 0 rfl rfl)
theorem dX2_readPlanLine_1 : decode cX2_readPlanLine 1 = .ok (.getfield 65, 3) := dk_180 0 65 (dk_at dksX2_readPlanLine_0 1 rfl rfl)
theorem dX2_readPlanLine_4 : decode cX2_readPlanLine 4 = .ok (.iload_n 1, 1) := dk_27 (dk_at dksX2_readPlanLine_0 4 rfl rfl)
theorem dX2_readPlanLine_5 : decode cX2_readPlanLine 5 = .ok (.aload_n 0, 1) := dk_42 (dk_at dksX2_readPlanLine_0 5 rfl rfl)
theorem dX2_readPlanLine_6 : decode cX2_readPlanLine 6 = .ok (.bipush 26, 2) := dk_16 26 (dk_at dksX2_readPlanLine_0 6 rfl rfl)
theorem dX2_readPlanLine_8 : decode cX2_readPlanLine 8 = .ok (.iconst 0, 1) := dk_3 (dk_at dksX2_readPlanLine_0 8 rfl rfl)
theorem dX2_readPlanLine_9 : decode cX2_readPlanLine 9 = .ok (.sipush 999, 3) := dk_17 3 231 (dk_at dksX2_readPlanLine_0 9 rfl rfl)
theorem dX2_readPlanLine_12 : decode cX2_readPlanLine 12 = .ok (.invokevirtual 228, 3) := dk_182 0 228 (dk_at dksX2_readPlanLine_0 12 rfl rfl)
theorem dX2_readPlanLine_15 : decode cX2_readPlanLine 15 = .ok (.iastore, 1) := dk_79 (dk_at dksX2_readPlanLine_0 15 rfl rfl)
theorem dX2_readPlanLine_16 : decode cX2_readPlanLine 16 = .ok (.aload_n 0, 1) := dk_42 (dk_at dksX2_readPlanLine_0 16 rfl rfl)
theorem dX2_readPlanLine_17 : decode cX2_readPlanLine 17 = .ok (.getfield 65, 3) := dk_180 0 65 (dk_at dksX2_readPlanLine_0 17 rfl rfl)
theorem dX2_readPlanLine_20 : decode cX2_readPlanLine 20 = .ok (.iload_n 1, 1) := dk_27 (dk_at dksX2_readPlanLine_0 20 rfl rfl)
theorem dX2_readPlanLine_21 : decode cX2_readPlanLine 21 = .ok (.iaload, 1) := dk_46 (dk_at dksX2_readPlanLine_0 21 rfl rfl)
theorem dX2_readPlanLine_22 : decode cX2_readPlanLine 22 = .ok (.iconst (-1), 1) := dk_2 (dk_at dksX2_readPlanLine_0 22 rfl rfl)
theorem dX2_readPlanLine_23 : decode cX2_readPlanLine 23 = .ok (.if_icmp .ne 5, 3) := dk_160 0 5 (dk_at dksX2_readPlanLine_1 0 rfl rfl)
theorem dX2_readPlanLine_26 : decode cX2_readPlanLine 26 = .ok (.iconst (-1), 1) := dk_2 (dk_at dksX2_readPlanLine_1 3 rfl rfl)
theorem dX2_readPlanLine_27 : decode cX2_readPlanLine 27 = .ok (.ireturn, 1) := dk_172 (dk_at dksX2_readPlanLine_1 4 rfl rfl)
theorem dX2_readPlanLine_28 : decode cX2_readPlanLine 28 = .ok (.aload_n 0, 1) := dk_42 (dk_at dksX2_readPlanLine_1 5 rfl rfl)
theorem dX2_readPlanLine_29 : decode cX2_readPlanLine 29 = .ok (.getfield 137, 3) := dk_180 0 137 (dk_at dksX2_readPlanLine_1 6 rfl rfl)
theorem dX2_readPlanLine_32 : decode cX2_readPlanLine 32 = .ok (.iconst 2, 1) := dk_5 (dk_at dksX2_readPlanLine_1 9 rfl rfl)
theorem dX2_readPlanLine_33 : decode cX2_readPlanLine 33 = .ok (.if_icmp .ne 14, 3) := dk_160 0 14 (dk_at dksX2_readPlanLine_1 10 rfl rfl)
theorem dX2_readPlanLine_36 : decode cX2_readPlanLine 36 = .ok (.aload_n 0, 1) := dk_42 (dk_at dksX2_readPlanLine_1 13 rfl rfl)
theorem dX2_readPlanLine_37 : decode cX2_readPlanLine 37 = .ok (.aload_n 0, 1) := dk_42 (dk_at dksX2_readPlanLine_1 14 rfl rfl)
theorem dX2_readPlanLine_38 : decode cX2_readPlanLine 38 = .ok (.getfield 140, 3) := dk_180 0 140 (dk_at dksX2_readPlanLine_1 15 rfl rfl)
theorem dX2_readPlanLine_41 : decode cX2_readPlanLine 41 = .ok (.invokevirtual 243, 3) := dk_182 0 243 (dk_at dksX2_readPlanLine_1 18 rfl rfl)
theorem dX2_readPlanLine_44 : decode cX2_readPlanLine 44 = .ok (.goto 4, 3) := dk_167 0 4 (dk_at dksX2_readPlanLine_1 21 rfl rfl)
theorem dX2_readPlanLine_47 : decode cX2_readPlanLine 47 = .ok (.iconst (-1), 1) := dk_2 (dk_at dksX2_readPlanLine_2 0 rfl rfl)
theorem dX2_readPlanLine_48 : decode cX2_readPlanLine 48 = .ok (.istore_n 2, 1) := dk_61 (dk_at dksX2_readPlanLine_2 1 rfl rfl)
theorem dX2_readPlanLine_49 : decode cX2_readPlanLine 49 = .ok (.iload_n 2, 1) := dk_28 (dk_at dksX2_readPlanLine_2 2 rfl rfl)
theorem dX2_readPlanLine_50 : decode cX2_readPlanLine 50 = .ok (.iconst (-1), 1) := dk_2 (dk_at dksX2_readPlanLine_2 3 rfl rfl)
theorem dX2_readPlanLine_51 : decode cX2_readPlanLine 51 = .ok (.if_icmp .ne 9, 3) := dk_160 0 9 (dk_at dksX2_readPlanLine_2 4 rfl rfl)
theorem dX2_readPlanLine_54 : decode cX2_readPlanLine 54 = .ok (.aload_n 0, 1) := dk_42 (dk_at dksX2_readPlanLine_2 7 rfl rfl)
theorem dX2_readPlanLine_55 : decode cX2_readPlanLine 55 = .ok (.iconst 1, 1) := dk_4 (dk_at dksX2_readPlanLine_2 8 rfl rfl)
theorem dX2_readPlanLine_56 : decode cX2_readPlanLine 56 = .ok (.invokevirtual 168, 3) := dk_182 0 168 (dk_at dksX2_readPlanLine_2 9 rfl rfl)
theorem dX2_readPlanLine_59 : decode cX2_readPlanLine 59 = .ok (.ireturn, 1) := dk_172 (dk_at dksX2_readPlanLine_2 12 rfl rfl)
theorem dX2_readPlanLine_60 : decode cX2_readPlanLine 60 = .ok (.aload_n 0, 1) := dk_42 (dk_at dksX2_readPlanLine_2 13 rfl rfl)
theorem dX2_readPlanLine_61 : decode cX2_readPlanLine 61 = .ok (.invokevirtual 175, 3) := dk_182 0 175 (dk_at dksX2_readPlanLine_2 14 rfl rfl)
theorem dX2_readPlanLine_64 : decode cX2_readPlanLine 64 = .ok (.aload_n 0, 1) := dk_42 (dk_at dksX2_readPlanLine_2 17 rfl rfl)
theorem dX2_readPlanLine_65 : decode cX2_readPlanLine 65 = .ok (.getfield 65, 3) := dk_180 0 65 (dk_at dksX2_readPlanLine_2 18 rfl rfl)
theorem dX2_readPlanLine_68 : decode cX2_readPlanLine 68 = .ok (.iload_n 1, 1) := dk_27 (dk_at dksX2_readPlanLine_2 21 rfl rfl)
theorem dX2_readPlanLine_69 : decode cX2_readPlanLine 69 = .ok (.iconst 1, 1) := dk_4 (dk_at dksX2_readPlanLine_2 22 rfl rfl)
theorem dX2_readPlanLine_70 : decode cX2_readPlanLine 70 = .ok (.iadd, 1) := dk_96 (dk_at dksX2_readPlanLine_2 23 rfl rfl)
theorem dX2_readPlanLine_71 : decode cX2_readPlanLine 71 = .ok (.iload_n 2, 1) := dk_28 (dk_at dksX2_readPlanLine_3 0 rfl rfl)
theorem dX2_readPlanLine_72 : decode cX2_readPlanLine 72 = .ok (.iastore, 1) := dk_79 (dk_at dksX2_readPlanLine_3 1 rfl rfl)
theorem dX2_readPlanLine_73 : decode cX2_readPlanLine 73 = .ok (.aload_n 0, 1) := dk_42 (dk_at dksX2_readPlanLine_3 2 rfl rfl)
theorem dX2_readPlanLine_74 : decode cX2_readPlanLine 74 = .ok (.getfield 65, 3) := dk_180 0 65 (dk_at dksX2_readPlanLine_3 3 rfl rfl)
theorem dX2_readPlanLine_77 : decode cX2_readPlanLine 77 = .ok (.iload_n 1, 1) := dk_27 (dk_at dksX2_readPlanLine_3 6 rfl rfl)
theorem dX2_readPlanLine_78 : decode cX2_readPlanLine 78 = .ok (.iconst 2, 1) := dk_5 (dk_at dksX2_readPlanLine_3 7 rfl rfl)
theorem dX2_readPlanLine_79 : decode cX2_readPlanLine 79 = .ok (.iadd, 1) := dk_96 (dk_at dksX2_readPlanLine_3 8 rfl rfl)
theorem dX2_readPlanLine_80 : decode cX2_readPlanLine 80 = .ok (.aload_n 0, 1) := dk_42 (dk_at dksX2_readPlanLine_3 9 rfl rfl)
theorem dX2_readPlanLine_81 : decode cX2_readPlanLine 81 = .ok (.iconst 0, 1) := dk_3 (dk_at dksX2_readPlanLine_3 10 rfl rfl)
theorem dX2_readPlanLine_82 : decode cX2_readPlanLine 82 = .ok (.aload_n 0, 1) := dk_42 (dk_at dksX2_readPlanLine_3 11 rfl rfl)
theorem dX2_readPlanLine_83 : decode cX2_readPlanLine 83 = .ok (.getfield 7, 3) := dk_180 0 7 (dk_at dksX2_readPlanLine_3 12 rfl rfl)
theorem dX2_readPlanLine_86 : decode cX2_readPlanLine 86 = .ok (.iconst 4, 1) := dk_7 (dk_at dksX2_readPlanLine_3 15 rfl rfl)
theorem dX2_readPlanLine_87 : decode cX2_readPlanLine 87 = .ok (.iaload, 1) := dk_46 (dk_at dksX2_readPlanLine_3 16 rfl rfl)
theorem dX2_readPlanLine_88 : decode cX2_readPlanLine 88 = .ok (.iconst 1, 1) := dk_4 (dk_at dksX2_readPlanLine_3 17 rfl rfl)
theorem dX2_readPlanLine_89 : decode cX2_readPlanLine 89 = .ok (.isub, 1) := dk_100 (dk_at dksX2_readPlanLine_3 18 rfl rfl)
theorem dX2_readPlanLine_90 : decode cX2_readPlanLine 90 = .ok (.invokevirtual 222, 3) := dk_182 0 222 (dk_at dksX2_readPlanLine_3 19 rfl rfl)
theorem dX2_readPlanLine_93 : decode cX2_readPlanLine 93 = .ok (.iastore, 1) := dk_79 (dk_at dksX2_readPlanLine_3 22 rfl rfl)
theorem dX2_readPlanLine_94 : decode cX2_readPlanLine 94 = .ok (.aload_n 0, 1) := dk_42 (dk_at dksX2_readPlanLine_3 23 rfl rfl)
theorem dX2_readPlanLine_95 : decode cX2_readPlanLine 95 = .ok (.getfield 65, 3) := dk_180 0 65 (dk_at dksX2_readPlanLine_4 0 rfl rfl)
theorem dX2_readPlanLine_98 : decode cX2_readPlanLine 98 = .ok (.iload_n 1, 1) := dk_27 (dk_at dksX2_readPlanLine_4 3 rfl rfl)
theorem dX2_readPlanLine_99 : decode cX2_readPlanLine 99 = .ok (.iconst 2, 1) := dk_5 (dk_at dksX2_readPlanLine_4 4 rfl rfl)
theorem dX2_readPlanLine_100 : decode cX2_readPlanLine 100 = .ok (.iadd, 1) := dk_96 (dk_at dksX2_readPlanLine_4 5 rfl rfl)
theorem dX2_readPlanLine_101 : decode cX2_readPlanLine 101 = .ok (.iaload, 1) := dk_46 (dk_at dksX2_readPlanLine_4 6 rfl rfl)
theorem dX2_readPlanLine_102 : decode cX2_readPlanLine 102 = .ok (.iconst (-1), 1) := dk_2 (dk_at dksX2_readPlanLine_4 7 rfl rfl)
theorem dX2_readPlanLine_103 : decode cX2_readPlanLine 103 = .ok (.if_icmp .ne 5, 3) := dk_160 0 5 (dk_at dksX2_readPlanLine_4 8 rfl rfl)
theorem dX2_readPlanLine_106 : decode cX2_readPlanLine 106 = .ok (.iconst (-1), 1) := dk_2 (dk_at dksX2_readPlanLine_4 11 rfl rfl)
theorem dX2_readPlanLine_107 : decode cX2_readPlanLine 107 = .ok (.ireturn, 1) := dk_172 (dk_at dksX2_readPlanLine_4 12 rfl rfl)
theorem dX2_readPlanLine_108 : decode cX2_readPlanLine 108 = .ok (.aload_n 0, 1) := dk_42 (dk_at dksX2_readPlanLine_4 13 rfl rfl)
theorem dX2_readPlanLine_109 : decode cX2_readPlanLine 109 = .ok (.getfield 65, 3) := dk_180 0 65 (dk_at dksX2_readPlanLine_4 14 rfl rfl)
theorem dX2_readPlanLine_112 : decode cX2_readPlanLine 112 = .ok (.iload_n 1, 1) := dk_27 (dk_at dksX2_readPlanLine_4 17 rfl rfl)
theorem dX2_readPlanLine_113 : decode cX2_readPlanLine 113 = .ok (.iconst 3, 1) := dk_6 (dk_at dksX2_readPlanLine_4 18 rfl rfl)
theorem dX2_readPlanLine_114 : decode cX2_readPlanLine 114 = .ok (.iadd, 1) := dk_96 (dk_at dksX2_readPlanLine_4 19 rfl rfl)
theorem dX2_readPlanLine_115 : decode cX2_readPlanLine 115 = .ok (.iload_n 2, 1) := dk_28 (dk_at dksX2_readPlanLine_4 20 rfl rfl)
theorem dX2_readPlanLine_116 : decode cX2_readPlanLine 116 = .ok (.iconst 2, 1) := dk_5 (dk_at dksX2_readPlanLine_4 21 rfl rfl)
theorem dX2_readPlanLine_117 : decode cX2_readPlanLine 117 = .ok (.if_icmp .ne 7, 3) := dk_160 0 7 (dk_at dksX2_readPlanLine_5 0 rfl rfl)
theorem dX2_readPlanLine_120 : decode cX2_readPlanLine 120 = .ok (.iconst 0, 1) := dk_3 (dk_at dksX2_readPlanLine_5 3 rfl rfl)
theorem dX2_readPlanLine_121 : decode cX2_readPlanLine 121 = .ok (.goto 21, 3) := dk_167 0 21 (dk_at dksX2_readPlanLine_5 4 rfl rfl)
theorem dX2_readPlanLine_124 : decode cX2_readPlanLine 124 = .ok (.aload_n 0, 1) := dk_42 (dk_at dksX2_readPlanLine_5 7 rfl rfl)
theorem dX2_readPlanLine_125 : decode cX2_readPlanLine 125 = .ok (.iload_n 2, 1) := dk_28 (dk_at dksX2_readPlanLine_5 8 rfl rfl)
theorem dX2_readPlanLine_126 : decode cX2_readPlanLine 126 = .ok (.ifCond .ne 8, 3) := dk_154 0 8 (dk_at dksX2_readPlanLine_5 9 rfl rfl)
theorem dX2_readPlanLine_129 : decode cX2_readPlanLine 129 = .ok (.bipush 25, 2) := dk_16 25 (dk_at dksX2_readPlanLine_5 12 rfl rfl)
theorem dX2_readPlanLine_131 : decode cX2_readPlanLine 131 = .ok (.goto 5, 3) := dk_167 0 5 (dk_at dksX2_readPlanLine_5 14 rfl rfl)
theorem dX2_readPlanLine_134 : decode cX2_readPlanLine 134 = .ok (.bipush 30, 2) := dk_16 30 (dk_at dksX2_readPlanLine_5 17 rfl rfl)
theorem dX2_readPlanLine_136 : decode cX2_readPlanLine 136 = .ok (.iconst 0, 1) := dk_3 (dk_at dksX2_readPlanLine_5 19 rfl rfl)
theorem dX2_readPlanLine_137 : decode cX2_readPlanLine 137 = .ok (.bipush 7, 2) := dk_16 7 (dk_at dksX2_readPlanLine_5 20 rfl rfl)
theorem dX2_readPlanLine_139 : decode cX2_readPlanLine 139 = .ok (.invokevirtual 228, 3) := dk_182 0 228 (dk_at dksX2_readPlanLine_6 0 rfl rfl)
theorem dX2_readPlanLine_142 : decode cX2_readPlanLine 142 = .ok (.iastore, 1) := dk_79 (dk_at dksX2_readPlanLine_6 3 rfl rfl)
theorem dX2_readPlanLine_143 : decode cX2_readPlanLine 143 = .ok (.aload_n 0, 1) := dk_42 (dk_at dksX2_readPlanLine_6 4 rfl rfl)
theorem dX2_readPlanLine_144 : decode cX2_readPlanLine 144 = .ok (.getfield 65, 3) := dk_180 0 65 (dk_at dksX2_readPlanLine_6 5 rfl rfl)
theorem dX2_readPlanLine_147 : decode cX2_readPlanLine 147 = .ok (.iload_n 1, 1) := dk_27 (dk_at dksX2_readPlanLine_6 8 rfl rfl)
theorem dX2_readPlanLine_148 : decode cX2_readPlanLine 148 = .ok (.iconst 3, 1) := dk_6 (dk_at dksX2_readPlanLine_6 9 rfl rfl)
theorem dX2_readPlanLine_149 : decode cX2_readPlanLine 149 = .ok (.iadd, 1) := dk_96 (dk_at dksX2_readPlanLine_6 10 rfl rfl)
theorem dX2_readPlanLine_150 : decode cX2_readPlanLine 150 = .ok (.iaload, 1) := dk_46 (dk_at dksX2_readPlanLine_6 11 rfl rfl)
theorem dX2_readPlanLine_151 : decode cX2_readPlanLine 151 = .ok (.iconst (-1), 1) := dk_2 (dk_at dksX2_readPlanLine_6 12 rfl rfl)
theorem dX2_readPlanLine_152 : decode cX2_readPlanLine 152 = .ok (.if_icmp .ne 7, 3) := dk_160 0 7 (dk_at dksX2_readPlanLine_6 13 rfl rfl)
theorem dX2_readPlanLine_155 : decode cX2_readPlanLine 155 = .ok (.iconst (-1), 1) := dk_2 (dk_at dksX2_readPlanLine_6 16 rfl rfl)
theorem dX2_readPlanLine_156 : decode cX2_readPlanLine 156 = .ok (.goto 9, 3) := dk_167 0 9 (dk_at dksX2_readPlanLine_6 17 rfl rfl)
theorem dX2_readPlanLine_159 : decode cX2_readPlanLine 159 = .ok (.aload_n 0, 1) := dk_42 (dk_at dksX2_readPlanLine_6 20 rfl rfl)
theorem dX2_readPlanLine_160 : decode cX2_readPlanLine 160 = .ok (.bipush 59, 2) := dk_16 59 (dk_at dksX2_readPlanLine_6 21 rfl rfl)
theorem dX2_readPlanLine_162 : decode cX2_readPlanLine 162 = .ok (.invokevirtual 231, 3) := dk_182 0 231 (dk_at dksX2_readPlanLine_7 0 rfl rfl)
theorem dX2_readPlanLine_165 : decode cX2_readPlanLine 165 = .ok (.ireturn, 1) := dk_172 (dk_at dksX2_readPlanLine_7 3 rfl rfl)
abbrev cX2_deedOf : ByteArray := prog_21_method_57_code
def yX2_deedOf : MethodName := ⟨RX2, "deedOf", "(I)I"⟩
def dkwX2_deedOf_1 : List UInt8 := [160, 0, 7, 5, 167, 0, 4, 2, 172]
abbrev dktX2_deedOf_1 : List UInt8 := dkwX2_deedOf_1 ++ []
def dkwX2_deedOf_0 : List UInt8 := [27, 16, 28, 160, 0, 7, 3, 167, 0, 24, 27, 16, 29, 160, 0, 7, 4, 167, 0, 14, 27, 16, 31]
abbrev dktX2_deedOf_0 : List UInt8 := dkwX2_deedOf_0 ++ dktX2_deedOf_1
theorem dksX2_deedOf_0 : cX2_deedOf.data.toList.drop 0 = dktX2_deedOf_0 := by decide +kernel
theorem dksX2_deedOf_1 : cX2_deedOf.data.toList.drop 23 = dktX2_deedOf_1 := dk_seg dksX2_deedOf_0 23 rfl rfl
theorem dX2_deedOf_0 : decode cX2_deedOf 0 = .ok (.iload_n 1, 1) := dk_27 (dk_at dksX2_deedOf_0 0 rfl rfl)
theorem dX2_deedOf_1 : decode cX2_deedOf 1 = .ok (.bipush 28, 2) := dk_16 28 (dk_at dksX2_deedOf_0 1 rfl rfl)
theorem dX2_deedOf_3 : decode cX2_deedOf 3 = .ok (.if_icmp .ne 7, 3) := dk_160 0 7 (dk_at dksX2_deedOf_0 3 rfl rfl)
theorem dX2_deedOf_6 : decode cX2_deedOf 6 = .ok (.iconst 0, 1) := dk_3 (dk_at dksX2_deedOf_0 6 rfl rfl)
theorem dX2_deedOf_7 : decode cX2_deedOf 7 = .ok (.goto 24, 3) := dk_167 0 24 (dk_at dksX2_deedOf_0 7 rfl rfl)
theorem dX2_deedOf_10 : decode cX2_deedOf 10 = .ok (.iload_n 1, 1) := dk_27 (dk_at dksX2_deedOf_0 10 rfl rfl)
theorem dX2_deedOf_11 : decode cX2_deedOf 11 = .ok (.bipush 29, 2) := dk_16 29 (dk_at dksX2_deedOf_0 11 rfl rfl)
theorem dX2_deedOf_13 : decode cX2_deedOf 13 = .ok (.if_icmp .ne 7, 3) := dk_160 0 7 (dk_at dksX2_deedOf_0 13 rfl rfl)
theorem dX2_deedOf_16 : decode cX2_deedOf 16 = .ok (.iconst 1, 1) := dk_4 (dk_at dksX2_deedOf_0 16 rfl rfl)
theorem dX2_deedOf_17 : decode cX2_deedOf 17 = .ok (.goto 14, 3) := dk_167 0 14 (dk_at dksX2_deedOf_0 17 rfl rfl)
theorem dX2_deedOf_20 : decode cX2_deedOf 20 = .ok (.iload_n 1, 1) := dk_27 (dk_at dksX2_deedOf_0 20 rfl rfl)
theorem dX2_deedOf_21 : decode cX2_deedOf 21 = .ok (.bipush 31, 2) := dk_16 31 (dk_at dksX2_deedOf_0 21 rfl rfl)
theorem dX2_deedOf_23 : decode cX2_deedOf 23 = .ok (.if_icmp .ne 7, 3) := dk_160 0 7 (dk_at dksX2_deedOf_1 0 rfl rfl)
theorem dX2_deedOf_26 : decode cX2_deedOf 26 = .ok (.iconst 2, 1) := dk_5 (dk_at dksX2_deedOf_1 3 rfl rfl)
theorem dX2_deedOf_27 : decode cX2_deedOf 27 = .ok (.goto 4, 3) := dk_167 0 4 (dk_at dksX2_deedOf_1 4 rfl rfl)
theorem dX2_deedOf_30 : decode cX2_deedOf 30 = .ok (.iconst (-1), 1) := dk_2 (dk_at dksX2_deedOf_1 7 rfl rfl)
theorem dX2_deedOf_31 : decode cX2_deedOf 31 = .ok (.ireturn, 1) := dk_172 (dk_at dksX2_deedOf_1 8 rfl rfl)
abbrev cX2_readLaw : ByteArray := prog_21_method_45_code
def yX2_readLaw : MethodName := ⟨RX2, "readLaw", "()I"⟩
def dkwX2_readLaw_6 : List UInt8 := [182, 0, 168, 172]
abbrev dktX2_readLaw_6 : List UInt8 := dkwX2_readLaw_6 ++ []
def dkwX2_readLaw_5 : List UInt8 := [42, 182, 0, 175, 27, 4, 96, 60, 167, 255, 132, 42, 180, 0, 137, 154, 0, 7, 27, 167, 0, 8, 42, 4]
abbrev dktX2_readLaw_5 : List UInt8 := dkwX2_readLaw_5 ++ dktX2_readLaw_6
def dkwX2_readLaw_4 : List UInt8 := [180, 0, 43, 28, 42, 180, 0, 162, 79, 42, 16, 59, 182, 0, 182, 154, 0, 9, 42, 4, 182, 0, 168, 172]
abbrev dktX2_readLaw_4 : List UInt8 := dkwX2_readLaw_4 ++ dktX2_readLaw_5
def dkwX2_readLaw_3 : List UInt8 := [42, 16, 8, 182, 0, 197, 153, 0, 17, 42, 182, 0, 175, 42, 182, 0, 213, 2, 160, 0, 5, 2, 172, 42]
abbrev dktX2_readLaw_3 : List UInt8 := dkwX2_readLaw_3 ++ dktX2_readLaw_4
def dkwX2_readLaw_2 : List UInt8 := [180, 0, 162, 79, 42, 182, 0, 188, 2, 160, 0, 5, 2, 172, 42, 180, 0, 40, 28, 42, 180, 0, 162, 79]
abbrev dktX2_readLaw_2 : List UInt8 := dkwX2_readLaw_2 ++ dktX2_readLaw_3
def dkwX2_readLaw_1 : List UInt8 := [96, 61, 42, 180, 0, 34, 28, 42, 180, 0, 140, 79, 42, 182, 0, 175, 42, 180, 0, 37, 28, 42]
abbrev dktX2_readLaw_1 : List UInt8 := dkwX2_readLaw_1 ++ dktX2_readLaw_2
def dkwX2_readLaw_0 : List UInt8 := [3, 60, 42, 182, 0, 209, 153, 0, 123, 27, 16, 16, 160, 0, 9, 42, 6, 182, 0, 168, 172, 16, 32, 27]
abbrev dktX2_readLaw_0 : List UInt8 := dkwX2_readLaw_0 ++ dktX2_readLaw_1
theorem dksX2_readLaw_0 : cX2_readLaw.data.toList.drop 0 = dktX2_readLaw_0 := by decide +kernel
theorem dksX2_readLaw_1 : cX2_readLaw.data.toList.drop 24 = dktX2_readLaw_1 := dk_seg dksX2_readLaw_0 24 rfl rfl
theorem dksX2_readLaw_2 : cX2_readLaw.data.toList.drop 46 = dktX2_readLaw_2 := dk_seg dksX2_readLaw_1 22 rfl rfl
theorem dksX2_readLaw_3 : cX2_readLaw.data.toList.drop 70 = dktX2_readLaw_3 := dk_seg dksX2_readLaw_2 24 rfl rfl
theorem dksX2_readLaw_4 : cX2_readLaw.data.toList.drop 94 = dktX2_readLaw_4 := dk_seg dksX2_readLaw_3 24 rfl rfl
theorem dksX2_readLaw_5 : cX2_readLaw.data.toList.drop 118 = dktX2_readLaw_5 := dk_seg dksX2_readLaw_4 24 rfl rfl
theorem dksX2_readLaw_6 : cX2_readLaw.data.toList.drop 142 = dktX2_readLaw_6 := dk_seg dksX2_readLaw_5 24 rfl rfl
theorem dX2_readLaw_0 : decode cX2_readLaw 0 = .ok (.iconst 0, 1) := dk_3 (dk_at dksX2_readLaw_0 0 rfl rfl)
theorem dX2_readLaw_1 : decode cX2_readLaw 1 = .ok (.istore_n 1, 1) := dk_60 (dk_at dksX2_readLaw_0 1 rfl rfl)
theorem dX2_readLaw_2 : decode cX2_readLaw 2 = .ok (.aload_n 0, 1) := dk_42 (dk_at dksX2_readLaw_0 2 rfl rfl)
theorem dX2_readLaw_3 : decode cX2_readLaw 3 = .ok (.invokevirtual 209, 3) := dk_182 0 209 (dk_at dksX2_readLaw_0 3 rfl rfl)
theorem dX2_readLaw_6 : decode cX2_readLaw 6 = .ok (.ifCond .eq 123, 3) := dk_153 0 123 (dk_at dksX2_readLaw_0 6 rfl rfl)
theorem dX2_readLaw_9 : decode cX2_readLaw 9 = .ok (.iload_n 1, 1) := dk_27 (dk_at dksX2_readLaw_0 9 rfl rfl)
theorem dX2_readLaw_10 : decode cX2_readLaw 10 = .ok (.bipush 16, 2) := dk_16 16 (dk_at dksX2_readLaw_0 10 rfl rfl)
theorem dX2_readLaw_12 : decode cX2_readLaw 12 = .ok (.if_icmp .ne 9, 3) := dk_160 0 9 (dk_at dksX2_readLaw_0 12 rfl rfl)
theorem dX2_readLaw_15 : decode cX2_readLaw 15 = .ok (.aload_n 0, 1) := dk_42 (dk_at dksX2_readLaw_0 15 rfl rfl)
theorem dX2_readLaw_16 : decode cX2_readLaw 16 = .ok (.iconst 3, 1) := dk_6 (dk_at dksX2_readLaw_0 16 rfl rfl)
theorem dX2_readLaw_17 : decode cX2_readLaw 17 = .ok (.invokevirtual 168, 3) := dk_182 0 168 (dk_at dksX2_readLaw_0 17 rfl rfl)
theorem dX2_readLaw_20 : decode cX2_readLaw 20 = .ok (.ireturn, 1) := dk_172 (dk_at dksX2_readLaw_0 20 rfl rfl)
theorem dX2_readLaw_21 : decode cX2_readLaw 21 = .ok (.bipush 32, 2) := dk_16 32 (dk_at dksX2_readLaw_0 21 rfl rfl)
theorem dX2_readLaw_23 : decode cX2_readLaw 23 = .ok (.iload_n 1, 1) := dk_27 (dk_at dksX2_readLaw_0 23 rfl rfl)
theorem dX2_readLaw_24 : decode cX2_readLaw 24 = .ok (.iadd, 1) := dk_96 (dk_at dksX2_readLaw_1 0 rfl rfl)
theorem dX2_readLaw_25 : decode cX2_readLaw 25 = .ok (.istore_n 2, 1) := dk_61 (dk_at dksX2_readLaw_1 1 rfl rfl)
theorem dX2_readLaw_26 : decode cX2_readLaw 26 = .ok (.aload_n 0, 1) := dk_42 (dk_at dksX2_readLaw_1 2 rfl rfl)
theorem dX2_readLaw_27 : decode cX2_readLaw 27 = .ok (.getfield 34, 3) := dk_180 0 34 (dk_at dksX2_readLaw_1 3 rfl rfl)
theorem dX2_readLaw_30 : decode cX2_readLaw 30 = .ok (.iload_n 2, 1) := dk_28 (dk_at dksX2_readLaw_1 6 rfl rfl)
theorem dX2_readLaw_31 : decode cX2_readLaw 31 = .ok (.aload_n 0, 1) := dk_42 (dk_at dksX2_readLaw_1 7 rfl rfl)
theorem dX2_readLaw_32 : decode cX2_readLaw 32 = .ok (.getfield 140, 3) := dk_180 0 140 (dk_at dksX2_readLaw_1 8 rfl rfl)
theorem dX2_readLaw_35 : decode cX2_readLaw 35 = .ok (.iastore, 1) := dk_79 (dk_at dksX2_readLaw_1 11 rfl rfl)
theorem dX2_readLaw_36 : decode cX2_readLaw 36 = .ok (.aload_n 0, 1) := dk_42 (dk_at dksX2_readLaw_1 12 rfl rfl)
theorem dX2_readLaw_37 : decode cX2_readLaw 37 = .ok (.invokevirtual 175, 3) := dk_182 0 175 (dk_at dksX2_readLaw_1 13 rfl rfl)
theorem dX2_readLaw_40 : decode cX2_readLaw 40 = .ok (.aload_n 0, 1) := dk_42 (dk_at dksX2_readLaw_1 16 rfl rfl)
theorem dX2_readLaw_41 : decode cX2_readLaw 41 = .ok (.getfield 37, 3) := dk_180 0 37 (dk_at dksX2_readLaw_1 17 rfl rfl)
theorem dX2_readLaw_44 : decode cX2_readLaw 44 = .ok (.iload_n 2, 1) := dk_28 (dk_at dksX2_readLaw_1 20 rfl rfl)
theorem dX2_readLaw_45 : decode cX2_readLaw 45 = .ok (.aload_n 0, 1) := dk_42 (dk_at dksX2_readLaw_1 21 rfl rfl)
theorem dX2_readLaw_46 : decode cX2_readLaw 46 = .ok (.getfield 162, 3) := dk_180 0 162 (dk_at dksX2_readLaw_2 0 rfl rfl)
theorem dX2_readLaw_49 : decode cX2_readLaw 49 = .ok (.iastore, 1) := dk_79 (dk_at dksX2_readLaw_2 3 rfl rfl)
theorem dX2_readLaw_50 : decode cX2_readLaw 50 = .ok (.aload_n 0, 1) := dk_42 (dk_at dksX2_readLaw_2 4 rfl rfl)
theorem dX2_readLaw_51 : decode cX2_readLaw 51 = .ok (.invokevirtual 188, 3) := dk_182 0 188 (dk_at dksX2_readLaw_2 5 rfl rfl)
theorem dX2_readLaw_54 : decode cX2_readLaw 54 = .ok (.iconst (-1), 1) := dk_2 (dk_at dksX2_readLaw_2 8 rfl rfl)
theorem dX2_readLaw_55 : decode cX2_readLaw 55 = .ok (.if_icmp .ne 5, 3) := dk_160 0 5 (dk_at dksX2_readLaw_2 9 rfl rfl)
theorem dX2_readLaw_58 : decode cX2_readLaw 58 = .ok (.iconst (-1), 1) := dk_2 (dk_at dksX2_readLaw_2 12 rfl rfl)
theorem dX2_readLaw_59 : decode cX2_readLaw 59 = .ok (.ireturn, 1) := dk_172 (dk_at dksX2_readLaw_2 13 rfl rfl)
theorem dX2_readLaw_60 : decode cX2_readLaw 60 = .ok (.aload_n 0, 1) := dk_42 (dk_at dksX2_readLaw_2 14 rfl rfl)
theorem dX2_readLaw_61 : decode cX2_readLaw 61 = .ok (.getfield 40, 3) := dk_180 0 40 (dk_at dksX2_readLaw_2 15 rfl rfl)
theorem dX2_readLaw_64 : decode cX2_readLaw 64 = .ok (.iload_n 2, 1) := dk_28 (dk_at dksX2_readLaw_2 18 rfl rfl)
theorem dX2_readLaw_65 : decode cX2_readLaw 65 = .ok (.aload_n 0, 1) := dk_42 (dk_at dksX2_readLaw_2 19 rfl rfl)
theorem dX2_readLaw_66 : decode cX2_readLaw 66 = .ok (.getfield 162, 3) := dk_180 0 162 (dk_at dksX2_readLaw_2 20 rfl rfl)
theorem dX2_readLaw_69 : decode cX2_readLaw 69 = .ok (.iastore, 1) := dk_79 (dk_at dksX2_readLaw_2 23 rfl rfl)
theorem dX2_readLaw_70 : decode cX2_readLaw 70 = .ok (.aload_n 0, 1) := dk_42 (dk_at dksX2_readLaw_3 0 rfl rfl)
theorem dX2_readLaw_71 : decode cX2_readLaw 71 = .ok (.bipush 8, 2) := dk_16 8 (dk_at dksX2_readLaw_3 1 rfl rfl)
theorem dX2_readLaw_73 : decode cX2_readLaw 73 = .ok (.invokevirtual 197, 3) := dk_182 0 197 (dk_at dksX2_readLaw_3 3 rfl rfl)
theorem dX2_readLaw_76 : decode cX2_readLaw 76 = .ok (.ifCond .eq 17, 3) := dk_153 0 17 (dk_at dksX2_readLaw_3 6 rfl rfl)
theorem dX2_readLaw_79 : decode cX2_readLaw 79 = .ok (.aload_n 0, 1) := dk_42 (dk_at dksX2_readLaw_3 9 rfl rfl)
theorem dX2_readLaw_80 : decode cX2_readLaw 80 = .ok (.invokevirtual 175, 3) := dk_182 0 175 (dk_at dksX2_readLaw_3 10 rfl rfl)
theorem dX2_readLaw_83 : decode cX2_readLaw 83 = .ok (.aload_n 0, 1) := dk_42 (dk_at dksX2_readLaw_3 13 rfl rfl)
theorem dX2_readLaw_84 : decode cX2_readLaw 84 = .ok (.invokevirtual 213, 3) := dk_182 0 213 (dk_at dksX2_readLaw_3 14 rfl rfl)
theorem dX2_readLaw_87 : decode cX2_readLaw 87 = .ok (.iconst (-1), 1) := dk_2 (dk_at dksX2_readLaw_3 17 rfl rfl)
theorem dX2_readLaw_88 : decode cX2_readLaw 88 = .ok (.if_icmp .ne 5, 3) := dk_160 0 5 (dk_at dksX2_readLaw_3 18 rfl rfl)
theorem dX2_readLaw_91 : decode cX2_readLaw 91 = .ok (.iconst (-1), 1) := dk_2 (dk_at dksX2_readLaw_3 21 rfl rfl)
theorem dX2_readLaw_92 : decode cX2_readLaw 92 = .ok (.ireturn, 1) := dk_172 (dk_at dksX2_readLaw_3 22 rfl rfl)
theorem dX2_readLaw_93 : decode cX2_readLaw 93 = .ok (.aload_n 0, 1) := dk_42 (dk_at dksX2_readLaw_3 23 rfl rfl)
theorem dX2_readLaw_94 : decode cX2_readLaw 94 = .ok (.getfield 43, 3) := dk_180 0 43 (dk_at dksX2_readLaw_4 0 rfl rfl)
theorem dX2_readLaw_97 : decode cX2_readLaw 97 = .ok (.iload_n 2, 1) := dk_28 (dk_at dksX2_readLaw_4 3 rfl rfl)
theorem dX2_readLaw_98 : decode cX2_readLaw 98 = .ok (.aload_n 0, 1) := dk_42 (dk_at dksX2_readLaw_4 4 rfl rfl)
theorem dX2_readLaw_99 : decode cX2_readLaw 99 = .ok (.getfield 162, 3) := dk_180 0 162 (dk_at dksX2_readLaw_4 5 rfl rfl)
theorem dX2_readLaw_102 : decode cX2_readLaw 102 = .ok (.iastore, 1) := dk_79 (dk_at dksX2_readLaw_4 8 rfl rfl)
theorem dX2_readLaw_103 : decode cX2_readLaw 103 = .ok (.aload_n 0, 1) := dk_42 (dk_at dksX2_readLaw_4 9 rfl rfl)
theorem dX2_readLaw_104 : decode cX2_readLaw 104 = .ok (.bipush 59, 2) := dk_16 59 (dk_at dksX2_readLaw_4 10 rfl rfl)
theorem dX2_readLaw_106 : decode cX2_readLaw 106 = .ok (.invokevirtual 182, 3) := dk_182 0 182 (dk_at dksX2_readLaw_4 12 rfl rfl)
theorem dX2_readLaw_109 : decode cX2_readLaw 109 = .ok (.ifCond .ne 9, 3) := dk_154 0 9 (dk_at dksX2_readLaw_4 15 rfl rfl)
theorem dX2_readLaw_112 : decode cX2_readLaw 112 = .ok (.aload_n 0, 1) := dk_42 (dk_at dksX2_readLaw_4 18 rfl rfl)
theorem dX2_readLaw_113 : decode cX2_readLaw 113 = .ok (.iconst 1, 1) := dk_4 (dk_at dksX2_readLaw_4 19 rfl rfl)
theorem dX2_readLaw_114 : decode cX2_readLaw 114 = .ok (.invokevirtual 168, 3) := dk_182 0 168 (dk_at dksX2_readLaw_4 20 rfl rfl)
theorem dX2_readLaw_117 : decode cX2_readLaw 117 = .ok (.ireturn, 1) := dk_172 (dk_at dksX2_readLaw_4 23 rfl rfl)
theorem dX2_readLaw_118 : decode cX2_readLaw 118 = .ok (.aload_n 0, 1) := dk_42 (dk_at dksX2_readLaw_5 0 rfl rfl)
theorem dX2_readLaw_119 : decode cX2_readLaw 119 = .ok (.invokevirtual 175, 3) := dk_182 0 175 (dk_at dksX2_readLaw_5 1 rfl rfl)
theorem dX2_readLaw_122 : decode cX2_readLaw 122 = .ok (.iload_n 1, 1) := dk_27 (dk_at dksX2_readLaw_5 4 rfl rfl)
theorem dX2_readLaw_123 : decode cX2_readLaw 123 = .ok (.iconst 1, 1) := dk_4 (dk_at dksX2_readLaw_5 5 rfl rfl)
theorem dX2_readLaw_124 : decode cX2_readLaw 124 = .ok (.iadd, 1) := dk_96 (dk_at dksX2_readLaw_5 6 rfl rfl)
theorem dX2_readLaw_125 : decode cX2_readLaw 125 = .ok (.istore_n 1, 1) := dk_60 (dk_at dksX2_readLaw_5 7 rfl rfl)
theorem dX2_readLaw_126 : decode cX2_readLaw 126 = .ok (.goto (-124), 3) := dk_167 255 132 (dk_at dksX2_readLaw_5 8 rfl rfl)
theorem dX2_readLaw_129 : decode cX2_readLaw 129 = .ok (.aload_n 0, 1) := dk_42 (dk_at dksX2_readLaw_5 11 rfl rfl)
theorem dX2_readLaw_130 : decode cX2_readLaw 130 = .ok (.getfield 137, 3) := dk_180 0 137 (dk_at dksX2_readLaw_5 12 rfl rfl)
theorem dX2_readLaw_133 : decode cX2_readLaw 133 = .ok (.ifCond .ne 7, 3) := dk_154 0 7 (dk_at dksX2_readLaw_5 15 rfl rfl)
theorem dX2_readLaw_136 : decode cX2_readLaw 136 = .ok (.iload_n 1, 1) := dk_27 (dk_at dksX2_readLaw_5 18 rfl rfl)
theorem dX2_readLaw_137 : decode cX2_readLaw 137 = .ok (.goto 8, 3) := dk_167 0 8 (dk_at dksX2_readLaw_5 19 rfl rfl)
theorem dX2_readLaw_140 : decode cX2_readLaw 140 = .ok (.aload_n 0, 1) := dk_42 (dk_at dksX2_readLaw_5 22 rfl rfl)
theorem dX2_readLaw_141 : decode cX2_readLaw 141 = .ok (.iconst 1, 1) := dk_4 (dk_at dksX2_readLaw_5 23 rfl rfl)
theorem dX2_readLaw_142 : decode cX2_readLaw 142 = .ok (.invokevirtual 168, 3) := dk_182 0 168 (dk_at dksX2_readLaw_6 0 rfl rfl)
theorem dX2_readLaw_145 : decode cX2_readLaw 145 = .ok (.ireturn, 1) := dk_172 (dk_at dksX2_readLaw_6 3 rfl rfl)
abbrev cX2_isLineWord : ByteArray := prog_21_method_44_code
def yX2_isLineWord : MethodName := ⟨RX2, "isLineWord", "()Z"⟩
def dkwX2_isLineWord_1 : List UInt8 := [153, 0, 7, 4, 167, 0, 4, 3, 172]
abbrev dktX2_isLineWord_1 : List UInt8 := dkwX2_isLineWord_1 ++ []
def dkwX2_isLineWord_0 : List UInt8 := [42, 8, 182, 0, 197, 154, 0, 21, 42, 16, 6, 182, 0, 197, 154, 0, 12, 42, 16, 7, 182, 0, 197]
abbrev dktX2_isLineWord_0 : List UInt8 := dkwX2_isLineWord_0 ++ dktX2_isLineWord_1
theorem dksX2_isLineWord_0 : cX2_isLineWord.data.toList.drop 0 = dktX2_isLineWord_0 := by decide +kernel
theorem dksX2_isLineWord_1 : cX2_isLineWord.data.toList.drop 23 = dktX2_isLineWord_1 := dk_seg dksX2_isLineWord_0 23 rfl rfl
theorem dX2_isLineWord_0 : decode cX2_isLineWord 0 = .ok (.aload_n 0, 1) := dk_42 (dk_at dksX2_isLineWord_0 0 rfl rfl)
theorem dX2_isLineWord_1 : decode cX2_isLineWord 1 = .ok (.iconst 5, 1) := dk_8 (dk_at dksX2_isLineWord_0 1 rfl rfl)
theorem dX2_isLineWord_2 : decode cX2_isLineWord 2 = .ok (.invokevirtual 197, 3) := dk_182 0 197 (dk_at dksX2_isLineWord_0 2 rfl rfl)
theorem dX2_isLineWord_5 : decode cX2_isLineWord 5 = .ok (.ifCond .ne 21, 3) := dk_154 0 21 (dk_at dksX2_isLineWord_0 5 rfl rfl)
theorem dX2_isLineWord_8 : decode cX2_isLineWord 8 = .ok (.aload_n 0, 1) := dk_42 (dk_at dksX2_isLineWord_0 8 rfl rfl)
theorem dX2_isLineWord_9 : decode cX2_isLineWord 9 = .ok (.bipush 6, 2) := dk_16 6 (dk_at dksX2_isLineWord_0 9 rfl rfl)
theorem dX2_isLineWord_11 : decode cX2_isLineWord 11 = .ok (.invokevirtual 197, 3) := dk_182 0 197 (dk_at dksX2_isLineWord_0 11 rfl rfl)
theorem dX2_isLineWord_14 : decode cX2_isLineWord 14 = .ok (.ifCond .ne 12, 3) := dk_154 0 12 (dk_at dksX2_isLineWord_0 14 rfl rfl)
theorem dX2_isLineWord_17 : decode cX2_isLineWord 17 = .ok (.aload_n 0, 1) := dk_42 (dk_at dksX2_isLineWord_0 17 rfl rfl)
theorem dX2_isLineWord_18 : decode cX2_isLineWord 18 = .ok (.bipush 7, 2) := dk_16 7 (dk_at dksX2_isLineWord_0 18 rfl rfl)
theorem dX2_isLineWord_20 : decode cX2_isLineWord 20 = .ok (.invokevirtual 197, 3) := dk_182 0 197 (dk_at dksX2_isLineWord_0 20 rfl rfl)
theorem dX2_isLineWord_23 : decode cX2_isLineWord 23 = .ok (.ifCond .eq 7, 3) := dk_153 0 7 (dk_at dksX2_isLineWord_1 0 rfl rfl)
theorem dX2_isLineWord_26 : decode cX2_isLineWord 26 = .ok (.iconst 1, 1) := dk_4 (dk_at dksX2_isLineWord_1 3 rfl rfl)
theorem dX2_isLineWord_27 : decode cX2_isLineWord 27 = .ok (.goto 4, 3) := dk_167 0 4 (dk_at dksX2_isLineWord_1 4 rfl rfl)
theorem dX2_isLineWord_30 : decode cX2_isLineWord 30 = .ok (.iconst 0, 1) := dk_3 (dk_at dksX2_isLineWord_1 7 rfl rfl)
theorem dX2_isLineWord_31 : decode cX2_isLineWord 31 = .ok (.ireturn, 1) := dk_172 (dk_at dksX2_isLineWord_1 8 rfl rfl)
abbrev cX2_readSum : ByteArray := prog_21_method_39_code
def yX2_readSum : MethodName := ⟨RX2, "readSum", "()I"⟩
def dkwX2_readSum_2 : List UInt8 := [182, 0, 175, 42, 182, 0, 185, 2, 160, 0, 5, 2, 172, 42, 27, 3, 182, 0, 171, 167, 255, 203, 3, 172]
abbrev dktX2_readSum_2 : List UInt8 := dkwX2_readSum_2 ++ []
def dkwX2_readSum_1 : List UInt8 := [182, 0, 182, 153, 0, 41, 42, 180, 0, 140, 16, 43, 160, 0, 7, 5, 167, 0, 4, 6, 60, 42]
abbrev dktX2_readSum_1 : List UInt8 := dkwX2_readSum_1 ++ dktX2_readSum_2
def dkwX2_readSum_0 : List UInt8 := [42, 182, 0, 185, 2, 160, 0, 5, 2, 172, 42, 16, 43, 182, 0, 182, 154, 0, 12, 42, 16, 45]
abbrev dktX2_readSum_0 : List UInt8 := dkwX2_readSum_0 ++ dktX2_readSum_1
theorem dksX2_readSum_0 : cX2_readSum.data.toList.drop 0 = dktX2_readSum_0 := by decide +kernel
theorem dksX2_readSum_1 : cX2_readSum.data.toList.drop 22 = dktX2_readSum_1 := dk_seg dksX2_readSum_0 22 rfl rfl
theorem dksX2_readSum_2 : cX2_readSum.data.toList.drop 44 = dktX2_readSum_2 := dk_seg dksX2_readSum_1 22 rfl rfl
theorem dX2_readSum_0 : decode cX2_readSum 0 = .ok (.aload_n 0, 1) := dk_42 (dk_at dksX2_readSum_0 0 rfl rfl)
theorem dX2_readSum_1 : decode cX2_readSum 1 = .ok (.invokevirtual 185, 3) := dk_182 0 185 (dk_at dksX2_readSum_0 1 rfl rfl)
theorem dX2_readSum_4 : decode cX2_readSum 4 = .ok (.iconst (-1), 1) := dk_2 (dk_at dksX2_readSum_0 4 rfl rfl)
theorem dX2_readSum_5 : decode cX2_readSum 5 = .ok (.if_icmp .ne 5, 3) := dk_160 0 5 (dk_at dksX2_readSum_0 5 rfl rfl)
theorem dX2_readSum_8 : decode cX2_readSum 8 = .ok (.iconst (-1), 1) := dk_2 (dk_at dksX2_readSum_0 8 rfl rfl)
theorem dX2_readSum_9 : decode cX2_readSum 9 = .ok (.ireturn, 1) := dk_172 (dk_at dksX2_readSum_0 9 rfl rfl)
theorem dX2_readSum_10 : decode cX2_readSum 10 = .ok (.aload_n 0, 1) := dk_42 (dk_at dksX2_readSum_0 10 rfl rfl)
theorem dX2_readSum_11 : decode cX2_readSum 11 = .ok (.bipush 43, 2) := dk_16 43 (dk_at dksX2_readSum_0 11 rfl rfl)
theorem dX2_readSum_13 : decode cX2_readSum 13 = .ok (.invokevirtual 182, 3) := dk_182 0 182 (dk_at dksX2_readSum_0 13 rfl rfl)
theorem dX2_readSum_16 : decode cX2_readSum 16 = .ok (.ifCond .ne 12, 3) := dk_154 0 12 (dk_at dksX2_readSum_0 16 rfl rfl)
theorem dX2_readSum_19 : decode cX2_readSum 19 = .ok (.aload_n 0, 1) := dk_42 (dk_at dksX2_readSum_0 19 rfl rfl)
theorem dX2_readSum_20 : decode cX2_readSum 20 = .ok (.bipush 45, 2) := dk_16 45 (dk_at dksX2_readSum_0 20 rfl rfl)
theorem dX2_readSum_22 : decode cX2_readSum 22 = .ok (.invokevirtual 182, 3) := dk_182 0 182 (dk_at dksX2_readSum_1 0 rfl rfl)
theorem dX2_readSum_25 : decode cX2_readSum 25 = .ok (.ifCond .eq 41, 3) := dk_153 0 41 (dk_at dksX2_readSum_1 3 rfl rfl)
theorem dX2_readSum_28 : decode cX2_readSum 28 = .ok (.aload_n 0, 1) := dk_42 (dk_at dksX2_readSum_1 6 rfl rfl)
theorem dX2_readSum_29 : decode cX2_readSum 29 = .ok (.getfield 140, 3) := dk_180 0 140 (dk_at dksX2_readSum_1 7 rfl rfl)
theorem dX2_readSum_32 : decode cX2_readSum 32 = .ok (.bipush 43, 2) := dk_16 43 (dk_at dksX2_readSum_1 10 rfl rfl)
theorem dX2_readSum_34 : decode cX2_readSum 34 = .ok (.if_icmp .ne 7, 3) := dk_160 0 7 (dk_at dksX2_readSum_1 12 rfl rfl)
theorem dX2_readSum_37 : decode cX2_readSum 37 = .ok (.iconst 2, 1) := dk_5 (dk_at dksX2_readSum_1 15 rfl rfl)
theorem dX2_readSum_38 : decode cX2_readSum 38 = .ok (.goto 4, 3) := dk_167 0 4 (dk_at dksX2_readSum_1 16 rfl rfl)
theorem dX2_readSum_41 : decode cX2_readSum 41 = .ok (.iconst 3, 1) := dk_6 (dk_at dksX2_readSum_1 19 rfl rfl)
theorem dX2_readSum_42 : decode cX2_readSum 42 = .ok (.istore_n 1, 1) := dk_60 (dk_at dksX2_readSum_1 20 rfl rfl)
theorem dX2_readSum_43 : decode cX2_readSum 43 = .ok (.aload_n 0, 1) := dk_42 (dk_at dksX2_readSum_1 21 rfl rfl)
theorem dX2_readSum_44 : decode cX2_readSum 44 = .ok (.invokevirtual 175, 3) := dk_182 0 175 (dk_at dksX2_readSum_2 0 rfl rfl)
theorem dX2_readSum_47 : decode cX2_readSum 47 = .ok (.aload_n 0, 1) := dk_42 (dk_at dksX2_readSum_2 3 rfl rfl)
theorem dX2_readSum_48 : decode cX2_readSum 48 = .ok (.invokevirtual 185, 3) := dk_182 0 185 (dk_at dksX2_readSum_2 4 rfl rfl)
theorem dX2_readSum_51 : decode cX2_readSum 51 = .ok (.iconst (-1), 1) := dk_2 (dk_at dksX2_readSum_2 7 rfl rfl)
theorem dX2_readSum_52 : decode cX2_readSum 52 = .ok (.if_icmp .ne 5, 3) := dk_160 0 5 (dk_at dksX2_readSum_2 8 rfl rfl)
theorem dX2_readSum_55 : decode cX2_readSum 55 = .ok (.iconst (-1), 1) := dk_2 (dk_at dksX2_readSum_2 11 rfl rfl)
theorem dX2_readSum_56 : decode cX2_readSum 56 = .ok (.ireturn, 1) := dk_172 (dk_at dksX2_readSum_2 12 rfl rfl)
theorem dX2_readSum_57 : decode cX2_readSum 57 = .ok (.aload_n 0, 1) := dk_42 (dk_at dksX2_readSum_2 13 rfl rfl)
theorem dX2_readSum_58 : decode cX2_readSum 58 = .ok (.iload_n 1, 1) := dk_27 (dk_at dksX2_readSum_2 14 rfl rfl)
theorem dX2_readSum_59 : decode cX2_readSum 59 = .ok (.iconst 0, 1) := dk_3 (dk_at dksX2_readSum_2 15 rfl rfl)
theorem dX2_readSum_60 : decode cX2_readSum 60 = .ok (.invokevirtual 171, 3) := dk_182 0 171 (dk_at dksX2_readSum_2 16 rfl rfl)
theorem dX2_readSum_63 : decode cX2_readSum 63 = .ok (.goto (-53), 3) := dk_167 255 203 (dk_at dksX2_readSum_2 19 rfl rfl)
theorem dX2_readSum_66 : decode cX2_readSum 66 = .ok (.iconst 0, 1) := dk_3 (dk_at dksX2_readSum_2 22 rfl rfl)
theorem dX2_readSum_67 : decode cX2_readSum 67 = .ok (.ireturn, 1) := dk_172 (dk_at dksX2_readSum_2 23 rfl rfl)
abbrev cX2_readProduct : ByteArray := prog_21_method_38_code
def yX2_readProduct : MethodName := ⟨RX2, "readProduct", "()I"⟩
def dkwX2_readProduct_4 : List UInt8 := [167, 0, 4, 8, 3, 182, 0, 171, 167, 255, 168, 3, 172]
abbrev dktX2_readProduct_4 : List UInt8 := dkwX2_readProduct_4 ++ []
def dkwX2_readProduct_3 : List UInt8 := [42, 5, 182, 0, 168, 172, 42, 182, 0, 178, 2, 160, 0, 5, 2, 172, 42, 27, 153, 0, 7, 7]
abbrev dktX2_readProduct_3 : List UInt8 := dkwX2_readProduct_3 ++ dktX2_readProduct_4
def dkwX2_readProduct_2 : List UInt8 := [180, 0, 137, 6, 159, 0, 9, 42, 4, 182, 0, 168, 172, 27, 154, 0, 16, 42, 180, 0, 140, 154, 0, 9]
abbrev dktX2_readProduct_2 : List UInt8 := dkwX2_readProduct_2 ++ dktX2_readProduct_3
def dkwX2_readProduct_1 : List UInt8 := [182, 0, 182, 153, 0, 76, 42, 16, 42, 182, 0, 182, 60, 42, 182, 0, 175, 27, 154, 0, 17, 42]
abbrev dktX2_readProduct_1 : List UInt8 := dkwX2_readProduct_1 ++ dktX2_readProduct_2
def dkwX2_readProduct_0 : List UInt8 := [42, 182, 0, 178, 2, 160, 0, 5, 2, 172, 42, 16, 42, 182, 0, 182, 154, 0, 12, 42, 16, 47]
abbrev dktX2_readProduct_0 : List UInt8 := dkwX2_readProduct_0 ++ dktX2_readProduct_1
theorem dksX2_readProduct_0 : cX2_readProduct.data.toList.drop 0 = dktX2_readProduct_0 := by decide +kernel
theorem dksX2_readProduct_1 : cX2_readProduct.data.toList.drop 22 = dktX2_readProduct_1 := dk_seg dksX2_readProduct_0 22 rfl rfl
theorem dksX2_readProduct_2 : cX2_readProduct.data.toList.drop 44 = dktX2_readProduct_2 := dk_seg dksX2_readProduct_1 22 rfl rfl
theorem dksX2_readProduct_3 : cX2_readProduct.data.toList.drop 68 = dktX2_readProduct_3 := dk_seg dksX2_readProduct_2 24 rfl rfl
theorem dksX2_readProduct_4 : cX2_readProduct.data.toList.drop 90 = dktX2_readProduct_4 := dk_seg dksX2_readProduct_3 22 rfl rfl
theorem dX2_readProduct_0 : decode cX2_readProduct 0 = .ok (.aload_n 0, 1) := dk_42 (dk_at dksX2_readProduct_0 0 rfl rfl)
theorem dX2_readProduct_1 : decode cX2_readProduct 1 = .ok (.invokevirtual 178, 3) := dk_182 0 178 (dk_at dksX2_readProduct_0 1 rfl rfl)
theorem dX2_readProduct_4 : decode cX2_readProduct 4 = .ok (.iconst (-1), 1) := dk_2 (dk_at dksX2_readProduct_0 4 rfl rfl)
theorem dX2_readProduct_5 : decode cX2_readProduct 5 = .ok (.if_icmp .ne 5, 3) := dk_160 0 5 (dk_at dksX2_readProduct_0 5 rfl rfl)
theorem dX2_readProduct_8 : decode cX2_readProduct 8 = .ok (.iconst (-1), 1) := dk_2 (dk_at dksX2_readProduct_0 8 rfl rfl)
theorem dX2_readProduct_9 : decode cX2_readProduct 9 = .ok (.ireturn, 1) := dk_172 (dk_at dksX2_readProduct_0 9 rfl rfl)
theorem dX2_readProduct_10 : decode cX2_readProduct 10 = .ok (.aload_n 0, 1) := dk_42 (dk_at dksX2_readProduct_0 10 rfl rfl)
theorem dX2_readProduct_11 : decode cX2_readProduct 11 = .ok (.bipush 42, 2) := dk_16 42 (dk_at dksX2_readProduct_0 11 rfl rfl)
theorem dX2_readProduct_13 : decode cX2_readProduct 13 = .ok (.invokevirtual 182, 3) := dk_182 0 182 (dk_at dksX2_readProduct_0 13 rfl rfl)
theorem dX2_readProduct_16 : decode cX2_readProduct 16 = .ok (.ifCond .ne 12, 3) := dk_154 0 12 (dk_at dksX2_readProduct_0 16 rfl rfl)
theorem dX2_readProduct_19 : decode cX2_readProduct 19 = .ok (.aload_n 0, 1) := dk_42 (dk_at dksX2_readProduct_0 19 rfl rfl)
theorem dX2_readProduct_20 : decode cX2_readProduct 20 = .ok (.bipush 47, 2) := dk_16 47 (dk_at dksX2_readProduct_0 20 rfl rfl)
theorem dX2_readProduct_22 : decode cX2_readProduct 22 = .ok (.invokevirtual 182, 3) := dk_182 0 182 (dk_at dksX2_readProduct_1 0 rfl rfl)
theorem dX2_readProduct_25 : decode cX2_readProduct 25 = .ok (.ifCond .eq 76, 3) := dk_153 0 76 (dk_at dksX2_readProduct_1 3 rfl rfl)
theorem dX2_readProduct_28 : decode cX2_readProduct 28 = .ok (.aload_n 0, 1) := dk_42 (dk_at dksX2_readProduct_1 6 rfl rfl)
theorem dX2_readProduct_29 : decode cX2_readProduct 29 = .ok (.bipush 42, 2) := dk_16 42 (dk_at dksX2_readProduct_1 7 rfl rfl)
theorem dX2_readProduct_31 : decode cX2_readProduct 31 = .ok (.invokevirtual 182, 3) := dk_182 0 182 (dk_at dksX2_readProduct_1 9 rfl rfl)
theorem dX2_readProduct_34 : decode cX2_readProduct 34 = .ok (.istore_n 1, 1) := dk_60 (dk_at dksX2_readProduct_1 12 rfl rfl)
theorem dX2_readProduct_35 : decode cX2_readProduct 35 = .ok (.aload_n 0, 1) := dk_42 (dk_at dksX2_readProduct_1 13 rfl rfl)
theorem dX2_readProduct_36 : decode cX2_readProduct 36 = .ok (.invokevirtual 175, 3) := dk_182 0 175 (dk_at dksX2_readProduct_1 14 rfl rfl)
theorem dX2_readProduct_39 : decode cX2_readProduct 39 = .ok (.iload_n 1, 1) := dk_27 (dk_at dksX2_readProduct_1 17 rfl rfl)
theorem dX2_readProduct_40 : decode cX2_readProduct 40 = .ok (.ifCond .ne 17, 3) := dk_154 0 17 (dk_at dksX2_readProduct_1 18 rfl rfl)
theorem dX2_readProduct_43 : decode cX2_readProduct 43 = .ok (.aload_n 0, 1) := dk_42 (dk_at dksX2_readProduct_1 21 rfl rfl)
theorem dX2_readProduct_44 : decode cX2_readProduct 44 = .ok (.getfield 137, 3) := dk_180 0 137 (dk_at dksX2_readProduct_2 0 rfl rfl)
theorem dX2_readProduct_47 : decode cX2_readProduct 47 = .ok (.iconst 3, 1) := dk_6 (dk_at dksX2_readProduct_2 3 rfl rfl)
theorem dX2_readProduct_48 : decode cX2_readProduct 48 = .ok (.if_icmp .eq 9, 3) := dk_159 0 9 (dk_at dksX2_readProduct_2 4 rfl rfl)
theorem dX2_readProduct_51 : decode cX2_readProduct 51 = .ok (.aload_n 0, 1) := dk_42 (dk_at dksX2_readProduct_2 7 rfl rfl)
theorem dX2_readProduct_52 : decode cX2_readProduct 52 = .ok (.iconst 1, 1) := dk_4 (dk_at dksX2_readProduct_2 8 rfl rfl)
theorem dX2_readProduct_53 : decode cX2_readProduct 53 = .ok (.invokevirtual 168, 3) := dk_182 0 168 (dk_at dksX2_readProduct_2 9 rfl rfl)
theorem dX2_readProduct_56 : decode cX2_readProduct 56 = .ok (.ireturn, 1) := dk_172 (dk_at dksX2_readProduct_2 12 rfl rfl)
theorem dX2_readProduct_57 : decode cX2_readProduct 57 = .ok (.iload_n 1, 1) := dk_27 (dk_at dksX2_readProduct_2 13 rfl rfl)
theorem dX2_readProduct_58 : decode cX2_readProduct 58 = .ok (.ifCond .ne 16, 3) := dk_154 0 16 (dk_at dksX2_readProduct_2 14 rfl rfl)
theorem dX2_readProduct_61 : decode cX2_readProduct 61 = .ok (.aload_n 0, 1) := dk_42 (dk_at dksX2_readProduct_2 17 rfl rfl)
theorem dX2_readProduct_62 : decode cX2_readProduct 62 = .ok (.getfield 140, 3) := dk_180 0 140 (dk_at dksX2_readProduct_2 18 rfl rfl)
theorem dX2_readProduct_65 : decode cX2_readProduct 65 = .ok (.ifCond .ne 9, 3) := dk_154 0 9 (dk_at dksX2_readProduct_2 21 rfl rfl)
theorem dX2_readProduct_68 : decode cX2_readProduct 68 = .ok (.aload_n 0, 1) := dk_42 (dk_at dksX2_readProduct_3 0 rfl rfl)
theorem dX2_readProduct_69 : decode cX2_readProduct 69 = .ok (.iconst 2, 1) := dk_5 (dk_at dksX2_readProduct_3 1 rfl rfl)
theorem dX2_readProduct_70 : decode cX2_readProduct 70 = .ok (.invokevirtual 168, 3) := dk_182 0 168 (dk_at dksX2_readProduct_3 2 rfl rfl)
theorem dX2_readProduct_73 : decode cX2_readProduct 73 = .ok (.ireturn, 1) := dk_172 (dk_at dksX2_readProduct_3 5 rfl rfl)
theorem dX2_readProduct_74 : decode cX2_readProduct 74 = .ok (.aload_n 0, 1) := dk_42 (dk_at dksX2_readProduct_3 6 rfl rfl)
theorem dX2_readProduct_75 : decode cX2_readProduct 75 = .ok (.invokevirtual 178, 3) := dk_182 0 178 (dk_at dksX2_readProduct_3 7 rfl rfl)
theorem dX2_readProduct_78 : decode cX2_readProduct 78 = .ok (.iconst (-1), 1) := dk_2 (dk_at dksX2_readProduct_3 10 rfl rfl)
theorem dX2_readProduct_79 : decode cX2_readProduct 79 = .ok (.if_icmp .ne 5, 3) := dk_160 0 5 (dk_at dksX2_readProduct_3 11 rfl rfl)
theorem dX2_readProduct_82 : decode cX2_readProduct 82 = .ok (.iconst (-1), 1) := dk_2 (dk_at dksX2_readProduct_3 14 rfl rfl)
theorem dX2_readProduct_83 : decode cX2_readProduct 83 = .ok (.ireturn, 1) := dk_172 (dk_at dksX2_readProduct_3 15 rfl rfl)
theorem dX2_readProduct_84 : decode cX2_readProduct 84 = .ok (.aload_n 0, 1) := dk_42 (dk_at dksX2_readProduct_3 16 rfl rfl)
theorem dX2_readProduct_85 : decode cX2_readProduct 85 = .ok (.iload_n 1, 1) := dk_27 (dk_at dksX2_readProduct_3 17 rfl rfl)
theorem dX2_readProduct_86 : decode cX2_readProduct 86 = .ok (.ifCond .eq 7, 3) := dk_153 0 7 (dk_at dksX2_readProduct_3 18 rfl rfl)
theorem dX2_readProduct_89 : decode cX2_readProduct 89 = .ok (.iconst 4, 1) := dk_7 (dk_at dksX2_readProduct_3 21 rfl rfl)
theorem dX2_readProduct_90 : decode cX2_readProduct 90 = .ok (.goto 4, 3) := dk_167 0 4 (dk_at dksX2_readProduct_4 0 rfl rfl)
theorem dX2_readProduct_93 : decode cX2_readProduct 93 = .ok (.iconst 5, 1) := dk_8 (dk_at dksX2_readProduct_4 3 rfl rfl)
theorem dX2_readProduct_94 : decode cX2_readProduct 94 = .ok (.iconst 0, 1) := dk_3 (dk_at dksX2_readProduct_4 4 rfl rfl)
theorem dX2_readProduct_95 : decode cX2_readProduct 95 = .ok (.invokevirtual 171, 3) := dk_182 0 171 (dk_at dksX2_readProduct_4 5 rfl rfl)
theorem dX2_readProduct_98 : decode cX2_readProduct 98 = .ok (.goto (-88), 3) := dk_167 255 168 (dk_at dksX2_readProduct_4 8 rfl rfl)
theorem dX2_readProduct_101 : decode cX2_readProduct 101 = .ok (.iconst 0, 1) := dk_3 (dk_at dksX2_readProduct_4 11 rfl rfl)
theorem dX2_readProduct_102 : decode cX2_readProduct 102 = .ok (.ireturn, 1) := dk_172 (dk_at dksX2_readProduct_4 12 rfl rfl)
abbrev cX2_readUnit : ByteArray := prog_21_method_37_code
def yX2_readUnit : MethodName := ⟨RX2, "readUnit", "()I"⟩
def dkwX2_readUnit_3 : List UInt8 := [182, 0, 171, 42, 182, 0, 175, 3, 172]
abbrev dktX2_readUnit_3 : List UInt8 := dkwX2_readUnit_3 ++ []
def dkwX2_readUnit_2 : List UInt8 := [4, 167, 0, 4, 3, 27, 153, 0, 13, 42, 180, 0, 140, 16, 12, 100, 167, 0, 7, 42, 180, 0, 140]
abbrev dktX2_readUnit_2 : List UInt8 := dkwX2_readUnit_2 ++ dktX2_readUnit_3
def dkwX2_readUnit_1 : List UInt8 := [60, 27, 154, 0, 17, 42, 180, 0, 137, 6, 159, 0, 9, 42, 4, 182, 0, 168, 172, 42, 27, 153, 0, 7]
abbrev dktX2_readUnit_1 : List UInt8 := dkwX2_readUnit_1 ++ dktX2_readUnit_2
def dkwX2_readUnit_0 : List UInt8 := [42, 180, 0, 137, 5, 160, 0, 18, 42, 42, 180, 0, 140, 182, 0, 165, 153, 0, 7, 4, 167, 0, 4, 3]
abbrev dktX2_readUnit_0 : List UInt8 := dkwX2_readUnit_0 ++ dktX2_readUnit_1
theorem dksX2_readUnit_0 : cX2_readUnit.data.toList.drop 0 = dktX2_readUnit_0 := by decide +kernel
theorem dksX2_readUnit_1 : cX2_readUnit.data.toList.drop 24 = dktX2_readUnit_1 := dk_seg dksX2_readUnit_0 24 rfl rfl
theorem dksX2_readUnit_2 : cX2_readUnit.data.toList.drop 48 = dktX2_readUnit_2 := dk_seg dksX2_readUnit_1 24 rfl rfl
theorem dksX2_readUnit_3 : cX2_readUnit.data.toList.drop 71 = dktX2_readUnit_3 := dk_seg dksX2_readUnit_2 23 rfl rfl
theorem dX2_readUnit_0 : decode cX2_readUnit 0 = .ok (.aload_n 0, 1) := dk_42 (dk_at dksX2_readUnit_0 0 rfl rfl)
theorem dX2_readUnit_1 : decode cX2_readUnit 1 = .ok (.getfield 137, 3) := dk_180 0 137 (dk_at dksX2_readUnit_0 1 rfl rfl)
theorem dX2_readUnit_4 : decode cX2_readUnit 4 = .ok (.iconst 2, 1) := dk_5 (dk_at dksX2_readUnit_0 4 rfl rfl)
theorem dX2_readUnit_5 : decode cX2_readUnit 5 = .ok (.if_icmp .ne 18, 3) := dk_160 0 18 (dk_at dksX2_readUnit_0 5 rfl rfl)
theorem dX2_readUnit_8 : decode cX2_readUnit 8 = .ok (.aload_n 0, 1) := dk_42 (dk_at dksX2_readUnit_0 8 rfl rfl)
theorem dX2_readUnit_9 : decode cX2_readUnit 9 = .ok (.aload_n 0, 1) := dk_42 (dk_at dksX2_readUnit_0 9 rfl rfl)
theorem dX2_readUnit_10 : decode cX2_readUnit 10 = .ok (.getfield 140, 3) := dk_180 0 140 (dk_at dksX2_readUnit_0 10 rfl rfl)
theorem dX2_readUnit_13 : decode cX2_readUnit 13 = .ok (.invokevirtual 165, 3) := dk_182 0 165 (dk_at dksX2_readUnit_0 13 rfl rfl)
theorem dX2_readUnit_16 : decode cX2_readUnit 16 = .ok (.ifCond .eq 7, 3) := dk_153 0 7 (dk_at dksX2_readUnit_0 16 rfl rfl)
theorem dX2_readUnit_19 : decode cX2_readUnit 19 = .ok (.iconst 1, 1) := dk_4 (dk_at dksX2_readUnit_0 19 rfl rfl)
theorem dX2_readUnit_20 : decode cX2_readUnit 20 = .ok (.goto 4, 3) := dk_167 0 4 (dk_at dksX2_readUnit_0 20 rfl rfl)
theorem dX2_readUnit_23 : decode cX2_readUnit 23 = .ok (.iconst 0, 1) := dk_3 (dk_at dksX2_readUnit_0 23 rfl rfl)
theorem dX2_readUnit_24 : decode cX2_readUnit 24 = .ok (.istore_n 1, 1) := dk_60 (dk_at dksX2_readUnit_1 0 rfl rfl)
theorem dX2_readUnit_25 : decode cX2_readUnit 25 = .ok (.iload_n 1, 1) := dk_27 (dk_at dksX2_readUnit_1 1 rfl rfl)
theorem dX2_readUnit_26 : decode cX2_readUnit 26 = .ok (.ifCond .ne 17, 3) := dk_154 0 17 (dk_at dksX2_readUnit_1 2 rfl rfl)
theorem dX2_readUnit_29 : decode cX2_readUnit 29 = .ok (.aload_n 0, 1) := dk_42 (dk_at dksX2_readUnit_1 5 rfl rfl)
theorem dX2_readUnit_30 : decode cX2_readUnit 30 = .ok (.getfield 137, 3) := dk_180 0 137 (dk_at dksX2_readUnit_1 6 rfl rfl)
theorem dX2_readUnit_33 : decode cX2_readUnit 33 = .ok (.iconst 3, 1) := dk_6 (dk_at dksX2_readUnit_1 9 rfl rfl)
theorem dX2_readUnit_34 : decode cX2_readUnit 34 = .ok (.if_icmp .eq 9, 3) := dk_159 0 9 (dk_at dksX2_readUnit_1 10 rfl rfl)
theorem dX2_readUnit_37 : decode cX2_readUnit 37 = .ok (.aload_n 0, 1) := dk_42 (dk_at dksX2_readUnit_1 13 rfl rfl)
theorem dX2_readUnit_38 : decode cX2_readUnit 38 = .ok (.iconst 1, 1) := dk_4 (dk_at dksX2_readUnit_1 14 rfl rfl)
theorem dX2_readUnit_39 : decode cX2_readUnit 39 = .ok (.invokevirtual 168, 3) := dk_182 0 168 (dk_at dksX2_readUnit_1 15 rfl rfl)
theorem dX2_readUnit_42 : decode cX2_readUnit 42 = .ok (.ireturn, 1) := dk_172 (dk_at dksX2_readUnit_1 18 rfl rfl)
theorem dX2_readUnit_43 : decode cX2_readUnit 43 = .ok (.aload_n 0, 1) := dk_42 (dk_at dksX2_readUnit_1 19 rfl rfl)
theorem dX2_readUnit_44 : decode cX2_readUnit 44 = .ok (.iload_n 1, 1) := dk_27 (dk_at dksX2_readUnit_1 20 rfl rfl)
theorem dX2_readUnit_45 : decode cX2_readUnit 45 = .ok (.ifCond .eq 7, 3) := dk_153 0 7 (dk_at dksX2_readUnit_1 21 rfl rfl)
theorem dX2_readUnit_48 : decode cX2_readUnit 48 = .ok (.iconst 1, 1) := dk_4 (dk_at dksX2_readUnit_2 0 rfl rfl)
theorem dX2_readUnit_49 : decode cX2_readUnit 49 = .ok (.goto 4, 3) := dk_167 0 4 (dk_at dksX2_readUnit_2 1 rfl rfl)
theorem dX2_readUnit_52 : decode cX2_readUnit 52 = .ok (.iconst 0, 1) := dk_3 (dk_at dksX2_readUnit_2 4 rfl rfl)
theorem dX2_readUnit_53 : decode cX2_readUnit 53 = .ok (.iload_n 1, 1) := dk_27 (dk_at dksX2_readUnit_2 5 rfl rfl)
theorem dX2_readUnit_54 : decode cX2_readUnit 54 = .ok (.ifCond .eq 13, 3) := dk_153 0 13 (dk_at dksX2_readUnit_2 6 rfl rfl)
theorem dX2_readUnit_57 : decode cX2_readUnit 57 = .ok (.aload_n 0, 1) := dk_42 (dk_at dksX2_readUnit_2 9 rfl rfl)
theorem dX2_readUnit_58 : decode cX2_readUnit 58 = .ok (.getfield 140, 3) := dk_180 0 140 (dk_at dksX2_readUnit_2 10 rfl rfl)
theorem dX2_readUnit_61 : decode cX2_readUnit 61 = .ok (.bipush 12, 2) := dk_16 12 (dk_at dksX2_readUnit_2 13 rfl rfl)
theorem dX2_readUnit_63 : decode cX2_readUnit 63 = .ok (.isub, 1) := dk_100 (dk_at dksX2_readUnit_2 15 rfl rfl)
theorem dX2_readUnit_64 : decode cX2_readUnit 64 = .ok (.goto 7, 3) := dk_167 0 7 (dk_at dksX2_readUnit_2 16 rfl rfl)
theorem dX2_readUnit_67 : decode cX2_readUnit 67 = .ok (.aload_n 0, 1) := dk_42 (dk_at dksX2_readUnit_2 19 rfl rfl)
theorem dX2_readUnit_68 : decode cX2_readUnit 68 = .ok (.getfield 140, 3) := dk_180 0 140 (dk_at dksX2_readUnit_2 20 rfl rfl)
theorem dX2_readUnit_71 : decode cX2_readUnit 71 = .ok (.invokevirtual 171, 3) := dk_182 0 171 (dk_at dksX2_readUnit_3 0 rfl rfl)
theorem dX2_readUnit_74 : decode cX2_readUnit 74 = .ok (.aload_n 0, 1) := dk_42 (dk_at dksX2_readUnit_3 3 rfl rfl)
theorem dX2_readUnit_75 : decode cX2_readUnit 75 = .ok (.invokevirtual 175, 3) := dk_182 0 175 (dk_at dksX2_readUnit_3 4 rfl rfl)
theorem dX2_readUnit_78 : decode cX2_readUnit 78 = .ok (.iconst 0, 1) := dk_3 (dk_at dksX2_readUnit_3 7 rfl rfl)
theorem dX2_readUnit_79 : decode cX2_readUnit 79 = .ok (.ireturn, 1) := dk_172 (dk_at dksX2_readUnit_3 8 rfl rfl)
abbrev cX2_canAsk : ByteArray := prog_21_method_36_code
def yX2_canAsk : MethodName := ⟨RX2, "canAsk", "(I)Z"⟩
def dkwX2_canAsk_0 : List UInt8 := [42, 27, 16, 12, 16, 20, 182, 0, 102, 172]
abbrev dktX2_canAsk_0 : List UInt8 := dkwX2_canAsk_0 ++ []
theorem dksX2_canAsk_0 : cX2_canAsk.data.toList.drop 0 = dktX2_canAsk_0 := by decide +kernel
theorem dX2_canAsk_0 : decode cX2_canAsk 0 = .ok (.aload_n 0, 1) := dk_42 (dk_at dksX2_canAsk_0 0 rfl rfl)
theorem dX2_canAsk_1 : decode cX2_canAsk 1 = .ok (.iload_n 1, 1) := dk_27 (dk_at dksX2_canAsk_0 1 rfl rfl)
theorem dX2_canAsk_2 : decode cX2_canAsk 2 = .ok (.bipush 12, 2) := dk_16 12 (dk_at dksX2_canAsk_0 2 rfl rfl)
theorem dX2_canAsk_4 : decode cX2_canAsk 4 = .ok (.bipush 20, 2) := dk_16 20 (dk_at dksX2_canAsk_0 4 rfl rfl)
theorem dX2_canAsk_6 : decode cX2_canAsk 6 = .ok (.invokevirtual 102, 3) := dk_182 0 102 (dk_at dksX2_canAsk_0 6 rfl rfl)
theorem dX2_canAsk_9 : decode cX2_canAsk 9 = .ok (.ireturn, 1) := dk_172 (dk_at dksX2_canAsk_0 9 rfl rfl)
abbrev cX2_emits : ByteArray := prog_21_method_35_code
def yX2_emits : MethodName := ⟨RX2, "emits", "(II)V"⟩
def dkwX2_emits_1 : List UInt8 := [180, 0, 162, 96, 28, 79, 42, 42, 180, 0, 162, 4, 96, 181, 0, 162, 177]
abbrev dktX2_emits_1 : List UInt8 := dkwX2_emits_1 ++ []
def dkwX2_emits_0 : List UInt8 := [42, 180, 0, 46, 17, 3, 32, 42, 180, 0, 162, 96, 27, 79, 42, 180, 0, 49, 17, 3, 32, 42]
abbrev dktX2_emits_0 : List UInt8 := dkwX2_emits_0 ++ dktX2_emits_1
theorem dksX2_emits_0 : cX2_emits.data.toList.drop 0 = dktX2_emits_0 := by decide +kernel
theorem dksX2_emits_1 : cX2_emits.data.toList.drop 22 = dktX2_emits_1 := dk_seg dksX2_emits_0 22 rfl rfl
theorem dX2_emits_0 : decode cX2_emits 0 = .ok (.aload_n 0, 1) := dk_42 (dk_at dksX2_emits_0 0 rfl rfl)
theorem dX2_emits_1 : decode cX2_emits 1 = .ok (.getfield 46, 3) := dk_180 0 46 (dk_at dksX2_emits_0 1 rfl rfl)
theorem dX2_emits_4 : decode cX2_emits 4 = .ok (.sipush 800, 3) := dk_17 3 32 (dk_at dksX2_emits_0 4 rfl rfl)
theorem dX2_emits_7 : decode cX2_emits 7 = .ok (.aload_n 0, 1) := dk_42 (dk_at dksX2_emits_0 7 rfl rfl)
theorem dX2_emits_8 : decode cX2_emits 8 = .ok (.getfield 162, 3) := dk_180 0 162 (dk_at dksX2_emits_0 8 rfl rfl)
theorem dX2_emits_11 : decode cX2_emits 11 = .ok (.iadd, 1) := dk_96 (dk_at dksX2_emits_0 11 rfl rfl)
theorem dX2_emits_12 : decode cX2_emits 12 = .ok (.iload_n 1, 1) := dk_27 (dk_at dksX2_emits_0 12 rfl rfl)
theorem dX2_emits_13 : decode cX2_emits 13 = .ok (.iastore, 1) := dk_79 (dk_at dksX2_emits_0 13 rfl rfl)
theorem dX2_emits_14 : decode cX2_emits 14 = .ok (.aload_n 0, 1) := dk_42 (dk_at dksX2_emits_0 14 rfl rfl)
theorem dX2_emits_15 : decode cX2_emits 15 = .ok (.getfield 49, 3) := dk_180 0 49 (dk_at dksX2_emits_0 15 rfl rfl)
theorem dX2_emits_18 : decode cX2_emits 18 = .ok (.sipush 800, 3) := dk_17 3 32 (dk_at dksX2_emits_0 18 rfl rfl)
theorem dX2_emits_21 : decode cX2_emits 21 = .ok (.aload_n 0, 1) := dk_42 (dk_at dksX2_emits_0 21 rfl rfl)
theorem dX2_emits_22 : decode cX2_emits 22 = .ok (.getfield 162, 3) := dk_180 0 162 (dk_at dksX2_emits_1 0 rfl rfl)
theorem dX2_emits_25 : decode cX2_emits 25 = .ok (.iadd, 1) := dk_96 (dk_at dksX2_emits_1 3 rfl rfl)
theorem dX2_emits_26 : decode cX2_emits 26 = .ok (.iload_n 2, 1) := dk_28 (dk_at dksX2_emits_1 4 rfl rfl)
theorem dX2_emits_27 : decode cX2_emits 27 = .ok (.iastore, 1) := dk_79 (dk_at dksX2_emits_1 5 rfl rfl)
theorem dX2_emits_28 : decode cX2_emits 28 = .ok (.aload_n 0, 1) := dk_42 (dk_at dksX2_emits_1 6 rfl rfl)
theorem dX2_emits_29 : decode cX2_emits 29 = .ok (.aload_n 0, 1) := dk_42 (dk_at dksX2_emits_1 7 rfl rfl)
theorem dX2_emits_30 : decode cX2_emits 30 = .ok (.getfield 162, 3) := dk_180 0 162 (dk_at dksX2_emits_1 8 rfl rfl)
theorem dX2_emits_33 : decode cX2_emits 33 = .ok (.iconst 1, 1) := dk_4 (dk_at dksX2_emits_1 11 rfl rfl)
theorem dX2_emits_34 : decode cX2_emits 34 = .ok (.iadd, 1) := dk_96 (dk_at dksX2_emits_1 12 rfl rfl)
theorem dX2_emits_35 : decode cX2_emits 35 = .ok (.putfield 162, 3) := dk_181 0 162 (dk_at dksX2_emits_1 13 rfl rfl)
theorem dX2_emits_38 : decode cX2_emits 38 = .ok (.return_, 1) := dk_177 (dk_at dksX2_emits_1 16 rfl rfl)
abbrev cX2_readAny : ByteArray := prog_21_method_43_code
def yX2_readAny : MethodName := ⟨RX2, "readAny", "()I"⟩
def dkwX2_readAny_10 : List UInt8 := [16, 9, 182, 0, 206, 42, 182, 0, 175, 167, 255, 23]
abbrev dktX2_readAny_10 : List UInt8 := dkwX2_readAny_10 ++ []
def dkwX2_readAny_9 : List UInt8 := [180, 0, 191, 4, 100, 181, 0, 191, 27, 4, 100, 60, 42, 42, 180, 0, 194, 4, 100, 181, 0, 194, 42]
abbrev dktX2_readAny_9 : List UInt8 := dkwX2_readAny_9 ++ dktX2_readAny_10
def dkwX2_readAny_8 : List UInt8 := [27, 154, 0, 5, 3, 172, 42, 16, 41, 182, 0, 182, 154, 0, 9, 42, 4, 182, 0, 168, 172, 42, 42]
abbrev dktX2_readAny_8 : List UInt8 := dkwX2_readAny_8 ++ dktX2_readAny_9
def dkwX2_readAny_7 : List UInt8 := [182, 0, 200, 42, 182, 0, 175, 4, 61, 167, 255, 93, 42, 16, 10, 182, 0, 206, 42, 16, 11, 182, 0, 206]
abbrev dktX2_readAny_7 : List UInt8 := dkwX2_readAny_7 ++ dktX2_readAny_8
def dkwX2_readAny_6 : List UInt8 := [42, 16, 9, 182, 0, 197, 153, 0, 30, 42, 16, 10, 182, 0, 206, 42, 16, 11, 182, 0, 206, 42, 16, 11]
abbrev dktX2_readAny_6 : List UInt8 := dkwX2_readAny_6 ++ dktX2_readAny_7
def dkwX2_readAny_5 : List UInt8 := [153, 0, 24, 42, 16, 10, 182, 0, 206, 42, 16, 10, 182, 0, 200, 42, 182, 0, 175, 4, 61, 167, 255, 129]
abbrev dktX2_readAny_5 : List UInt8 := dkwX2_readAny_5 ++ dktX2_readAny_6
def dkwX2_readAny_4 : List UInt8 := [160, 0, 5, 2, 172, 42, 16, 9, 182, 0, 206, 3, 61, 167, 255, 159, 42, 16, 10, 182, 0, 197]
abbrev dktX2_readAny_4 : List UInt8 := dkwX2_readAny_4 ++ dktX2_readAny_5
def dkwX2_readAny_3 : List UInt8 := [16, 9, 167, 0, 5, 16, 12, 182, 0, 200, 42, 182, 0, 175, 167, 255, 180, 42, 182, 0, 203, 2]
abbrev dktX2_readAny_3 : List UInt8 := dkwX2_readAny_3 ++ dktX2_readAny_4
def dkwX2_readAny_2 : List UInt8 := [42, 42, 180, 0, 194, 4, 96, 181, 0, 194, 29, 154, 0, 7, 27, 4, 96, 60, 42, 29, 153, 0, 8]
abbrev dktX2_readAny_2 : List UInt8 := dkwX2_readAny_2 ++ dktX2_readAny_3
def dkwX2_readAny_1 : List UInt8 := [42, 16, 40, 182, 0, 182, 153, 0, 58, 42, 180, 0, 194, 16, 8, 160, 0, 9, 42, 6, 182, 0, 168, 172]
abbrev dktX2_readAny_1 : List UInt8 := dkwX2_readAny_1 ++ dktX2_readAny_2
def dkwX2_readAny_0 : List UInt8 := [3, 60, 42, 3, 181, 0, 191, 4, 61, 28, 153, 0, 99, 42, 16, 11, 182, 0, 197, 62, 29, 154, 0, 12]
abbrev dktX2_readAny_0 : List UInt8 := dkwX2_readAny_0 ++ dktX2_readAny_1
theorem dksX2_readAny_0 : cX2_readAny.data.toList.drop 0 = dktX2_readAny_0 := by decide +kernel
theorem dksX2_readAny_1 : cX2_readAny.data.toList.drop 24 = dktX2_readAny_1 := dk_seg dksX2_readAny_0 24 rfl rfl
theorem dksX2_readAny_2 : cX2_readAny.data.toList.drop 48 = dktX2_readAny_2 := dk_seg dksX2_readAny_1 24 rfl rfl
theorem dksX2_readAny_3 : cX2_readAny.data.toList.drop 71 = dktX2_readAny_3 := dk_seg dksX2_readAny_2 23 rfl rfl
theorem dksX2_readAny_4 : cX2_readAny.data.toList.drop 93 = dktX2_readAny_4 := dk_seg dksX2_readAny_3 22 rfl rfl
theorem dksX2_readAny_5 : cX2_readAny.data.toList.drop 115 = dktX2_readAny_5 := dk_seg dksX2_readAny_4 22 rfl rfl
theorem dksX2_readAny_6 : cX2_readAny.data.toList.drop 139 = dktX2_readAny_6 := dk_seg dksX2_readAny_5 24 rfl rfl
theorem dksX2_readAny_7 : cX2_readAny.data.toList.drop 163 = dktX2_readAny_7 := dk_seg dksX2_readAny_6 24 rfl rfl
theorem dksX2_readAny_8 : cX2_readAny.data.toList.drop 187 = dktX2_readAny_8 := dk_seg dksX2_readAny_7 24 rfl rfl
theorem dksX2_readAny_9 : cX2_readAny.data.toList.drop 210 = dktX2_readAny_9 := dk_seg dksX2_readAny_8 23 rfl rfl
theorem dksX2_readAny_10 : cX2_readAny.data.toList.drop 233 = dktX2_readAny_10 := dk_seg dksX2_readAny_9 23 rfl rfl
theorem dX2_readAny_0 : decode cX2_readAny 0 = .ok (.iconst 0, 1) := dk_3 (dk_at dksX2_readAny_0 0 rfl rfl)
theorem dX2_readAny_1 : decode cX2_readAny 1 = .ok (.istore_n 1, 1) := dk_60 (dk_at dksX2_readAny_0 1 rfl rfl)
theorem dX2_readAny_2 : decode cX2_readAny 2 = .ok (.aload_n 0, 1) := dk_42 (dk_at dksX2_readAny_0 2 rfl rfl)
theorem dX2_readAny_3 : decode cX2_readAny 3 = .ok (.iconst 0, 1) := dk_3 (dk_at dksX2_readAny_0 3 rfl rfl)
theorem dX2_readAny_4 : decode cX2_readAny 4 = .ok (.putfield 191, 3) := dk_181 0 191 (dk_at dksX2_readAny_0 4 rfl rfl)
theorem dX2_readAny_7 : decode cX2_readAny 7 = .ok (.iconst 1, 1) := dk_4 (dk_at dksX2_readAny_0 7 rfl rfl)
theorem dX2_readAny_8 : decode cX2_readAny 8 = .ok (.istore_n 2, 1) := dk_61 (dk_at dksX2_readAny_0 8 rfl rfl)
theorem dX2_readAny_9 : decode cX2_readAny 9 = .ok (.iload_n 2, 1) := dk_28 (dk_at dksX2_readAny_0 9 rfl rfl)
theorem dX2_readAny_10 : decode cX2_readAny 10 = .ok (.ifCond .eq 99, 3) := dk_153 0 99 (dk_at dksX2_readAny_0 10 rfl rfl)
theorem dX2_readAny_13 : decode cX2_readAny 13 = .ok (.aload_n 0, 1) := dk_42 (dk_at dksX2_readAny_0 13 rfl rfl)
theorem dX2_readAny_14 : decode cX2_readAny 14 = .ok (.bipush 11, 2) := dk_16 11 (dk_at dksX2_readAny_0 14 rfl rfl)
theorem dX2_readAny_16 : decode cX2_readAny 16 = .ok (.invokevirtual 197, 3) := dk_182 0 197 (dk_at dksX2_readAny_0 16 rfl rfl)
theorem dX2_readAny_19 : decode cX2_readAny 19 = .ok (.istore_n 3, 1) := dk_62 (dk_at dksX2_readAny_0 19 rfl rfl)
theorem dX2_readAny_20 : decode cX2_readAny 20 = .ok (.iload_n 3, 1) := dk_29 (dk_at dksX2_readAny_0 20 rfl rfl)
theorem dX2_readAny_21 : decode cX2_readAny 21 = .ok (.ifCond .ne 12, 3) := dk_154 0 12 (dk_at dksX2_readAny_0 21 rfl rfl)
theorem dX2_readAny_24 : decode cX2_readAny 24 = .ok (.aload_n 0, 1) := dk_42 (dk_at dksX2_readAny_1 0 rfl rfl)
theorem dX2_readAny_25 : decode cX2_readAny 25 = .ok (.bipush 40, 2) := dk_16 40 (dk_at dksX2_readAny_1 1 rfl rfl)
theorem dX2_readAny_27 : decode cX2_readAny 27 = .ok (.invokevirtual 182, 3) := dk_182 0 182 (dk_at dksX2_readAny_1 3 rfl rfl)
theorem dX2_readAny_30 : decode cX2_readAny 30 = .ok (.ifCond .eq 58, 3) := dk_153 0 58 (dk_at dksX2_readAny_1 6 rfl rfl)
theorem dX2_readAny_33 : decode cX2_readAny 33 = .ok (.aload_n 0, 1) := dk_42 (dk_at dksX2_readAny_1 9 rfl rfl)
theorem dX2_readAny_34 : decode cX2_readAny 34 = .ok (.getfield 194, 3) := dk_180 0 194 (dk_at dksX2_readAny_1 10 rfl rfl)
theorem dX2_readAny_37 : decode cX2_readAny 37 = .ok (.bipush 8, 2) := dk_16 8 (dk_at dksX2_readAny_1 13 rfl rfl)
theorem dX2_readAny_39 : decode cX2_readAny 39 = .ok (.if_icmp .ne 9, 3) := dk_160 0 9 (dk_at dksX2_readAny_1 15 rfl rfl)
theorem dX2_readAny_42 : decode cX2_readAny 42 = .ok (.aload_n 0, 1) := dk_42 (dk_at dksX2_readAny_1 18 rfl rfl)
theorem dX2_readAny_43 : decode cX2_readAny 43 = .ok (.iconst 3, 1) := dk_6 (dk_at dksX2_readAny_1 19 rfl rfl)
theorem dX2_readAny_44 : decode cX2_readAny 44 = .ok (.invokevirtual 168, 3) := dk_182 0 168 (dk_at dksX2_readAny_1 20 rfl rfl)
theorem dX2_readAny_47 : decode cX2_readAny 47 = .ok (.ireturn, 1) := dk_172 (dk_at dksX2_readAny_1 23 rfl rfl)
theorem dX2_readAny_48 : decode cX2_readAny 48 = .ok (.aload_n 0, 1) := dk_42 (dk_at dksX2_readAny_2 0 rfl rfl)
theorem dX2_readAny_49 : decode cX2_readAny 49 = .ok (.aload_n 0, 1) := dk_42 (dk_at dksX2_readAny_2 1 rfl rfl)
theorem dX2_readAny_50 : decode cX2_readAny 50 = .ok (.getfield 194, 3) := dk_180 0 194 (dk_at dksX2_readAny_2 2 rfl rfl)
theorem dX2_readAny_53 : decode cX2_readAny 53 = .ok (.iconst 1, 1) := dk_4 (dk_at dksX2_readAny_2 5 rfl rfl)
theorem dX2_readAny_54 : decode cX2_readAny 54 = .ok (.iadd, 1) := dk_96 (dk_at dksX2_readAny_2 6 rfl rfl)
theorem dX2_readAny_55 : decode cX2_readAny 55 = .ok (.putfield 194, 3) := dk_181 0 194 (dk_at dksX2_readAny_2 7 rfl rfl)
theorem dX2_readAny_58 : decode cX2_readAny 58 = .ok (.iload_n 3, 1) := dk_29 (dk_at dksX2_readAny_2 10 rfl rfl)
theorem dX2_readAny_59 : decode cX2_readAny 59 = .ok (.ifCond .ne 7, 3) := dk_154 0 7 (dk_at dksX2_readAny_2 11 rfl rfl)
theorem dX2_readAny_62 : decode cX2_readAny 62 = .ok (.iload_n 1, 1) := dk_27 (dk_at dksX2_readAny_2 14 rfl rfl)
theorem dX2_readAny_63 : decode cX2_readAny 63 = .ok (.iconst 1, 1) := dk_4 (dk_at dksX2_readAny_2 15 rfl rfl)
theorem dX2_readAny_64 : decode cX2_readAny 64 = .ok (.iadd, 1) := dk_96 (dk_at dksX2_readAny_2 16 rfl rfl)
theorem dX2_readAny_65 : decode cX2_readAny 65 = .ok (.istore_n 1, 1) := dk_60 (dk_at dksX2_readAny_2 17 rfl rfl)
theorem dX2_readAny_66 : decode cX2_readAny 66 = .ok (.aload_n 0, 1) := dk_42 (dk_at dksX2_readAny_2 18 rfl rfl)
theorem dX2_readAny_67 : decode cX2_readAny 67 = .ok (.iload_n 3, 1) := dk_29 (dk_at dksX2_readAny_2 19 rfl rfl)
theorem dX2_readAny_68 : decode cX2_readAny 68 = .ok (.ifCond .eq 8, 3) := dk_153 0 8 (dk_at dksX2_readAny_2 20 rfl rfl)
theorem dX2_readAny_71 : decode cX2_readAny 71 = .ok (.bipush 9, 2) := dk_16 9 (dk_at dksX2_readAny_3 0 rfl rfl)
theorem dX2_readAny_73 : decode cX2_readAny 73 = .ok (.goto 5, 3) := dk_167 0 5 (dk_at dksX2_readAny_3 2 rfl rfl)
theorem dX2_readAny_76 : decode cX2_readAny 76 = .ok (.bipush 12, 2) := dk_16 12 (dk_at dksX2_readAny_3 5 rfl rfl)
theorem dX2_readAny_78 : decode cX2_readAny 78 = .ok (.invokevirtual 200, 3) := dk_182 0 200 (dk_at dksX2_readAny_3 7 rfl rfl)
theorem dX2_readAny_81 : decode cX2_readAny 81 = .ok (.aload_n 0, 1) := dk_42 (dk_at dksX2_readAny_3 10 rfl rfl)
theorem dX2_readAny_82 : decode cX2_readAny 82 = .ok (.invokevirtual 175, 3) := dk_182 0 175 (dk_at dksX2_readAny_3 11 rfl rfl)
theorem dX2_readAny_85 : decode cX2_readAny 85 = .ok (.goto (-76), 3) := dk_167 255 180 (dk_at dksX2_readAny_3 14 rfl rfl)
theorem dX2_readAny_88 : decode cX2_readAny 88 = .ok (.aload_n 0, 1) := dk_42 (dk_at dksX2_readAny_3 17 rfl rfl)
theorem dX2_readAny_89 : decode cX2_readAny 89 = .ok (.invokevirtual 203, 3) := dk_182 0 203 (dk_at dksX2_readAny_3 18 rfl rfl)
theorem dX2_readAny_92 : decode cX2_readAny 92 = .ok (.iconst (-1), 1) := dk_2 (dk_at dksX2_readAny_3 21 rfl rfl)
theorem dX2_readAny_93 : decode cX2_readAny 93 = .ok (.if_icmp .ne 5, 3) := dk_160 0 5 (dk_at dksX2_readAny_4 0 rfl rfl)
theorem dX2_readAny_96 : decode cX2_readAny 96 = .ok (.iconst (-1), 1) := dk_2 (dk_at dksX2_readAny_4 3 rfl rfl)
theorem dX2_readAny_97 : decode cX2_readAny 97 = .ok (.ireturn, 1) := dk_172 (dk_at dksX2_readAny_4 4 rfl rfl)
theorem dX2_readAny_98 : decode cX2_readAny 98 = .ok (.aload_n 0, 1) := dk_42 (dk_at dksX2_readAny_4 5 rfl rfl)
theorem dX2_readAny_99 : decode cX2_readAny 99 = .ok (.bipush 9, 2) := dk_16 9 (dk_at dksX2_readAny_4 6 rfl rfl)
theorem dX2_readAny_101 : decode cX2_readAny 101 = .ok (.invokevirtual 206, 3) := dk_182 0 206 (dk_at dksX2_readAny_4 8 rfl rfl)
theorem dX2_readAny_104 : decode cX2_readAny 104 = .ok (.iconst 0, 1) := dk_3 (dk_at dksX2_readAny_4 11 rfl rfl)
theorem dX2_readAny_105 : decode cX2_readAny 105 = .ok (.istore_n 2, 1) := dk_61 (dk_at dksX2_readAny_4 12 rfl rfl)
theorem dX2_readAny_106 : decode cX2_readAny 106 = .ok (.goto (-97), 3) := dk_167 255 159 (dk_at dksX2_readAny_4 13 rfl rfl)
theorem dX2_readAny_109 : decode cX2_readAny 109 = .ok (.aload_n 0, 1) := dk_42 (dk_at dksX2_readAny_4 16 rfl rfl)
theorem dX2_readAny_110 : decode cX2_readAny 110 = .ok (.bipush 10, 2) := dk_16 10 (dk_at dksX2_readAny_4 17 rfl rfl)
theorem dX2_readAny_112 : decode cX2_readAny 112 = .ok (.invokevirtual 197, 3) := dk_182 0 197 (dk_at dksX2_readAny_4 19 rfl rfl)
theorem dX2_readAny_115 : decode cX2_readAny 115 = .ok (.ifCond .eq 24, 3) := dk_153 0 24 (dk_at dksX2_readAny_5 0 rfl rfl)
theorem dX2_readAny_118 : decode cX2_readAny 118 = .ok (.aload_n 0, 1) := dk_42 (dk_at dksX2_readAny_5 3 rfl rfl)
theorem dX2_readAny_119 : decode cX2_readAny 119 = .ok (.bipush 10, 2) := dk_16 10 (dk_at dksX2_readAny_5 4 rfl rfl)
theorem dX2_readAny_121 : decode cX2_readAny 121 = .ok (.invokevirtual 206, 3) := dk_182 0 206 (dk_at dksX2_readAny_5 6 rfl rfl)
theorem dX2_readAny_124 : decode cX2_readAny 124 = .ok (.aload_n 0, 1) := dk_42 (dk_at dksX2_readAny_5 9 rfl rfl)
theorem dX2_readAny_125 : decode cX2_readAny 125 = .ok (.bipush 10, 2) := dk_16 10 (dk_at dksX2_readAny_5 10 rfl rfl)
theorem dX2_readAny_127 : decode cX2_readAny 127 = .ok (.invokevirtual 200, 3) := dk_182 0 200 (dk_at dksX2_readAny_5 12 rfl rfl)
theorem dX2_readAny_130 : decode cX2_readAny 130 = .ok (.aload_n 0, 1) := dk_42 (dk_at dksX2_readAny_5 15 rfl rfl)
theorem dX2_readAny_131 : decode cX2_readAny 131 = .ok (.invokevirtual 175, 3) := dk_182 0 175 (dk_at dksX2_readAny_5 16 rfl rfl)
theorem dX2_readAny_134 : decode cX2_readAny 134 = .ok (.iconst 1, 1) := dk_4 (dk_at dksX2_readAny_5 19 rfl rfl)
theorem dX2_readAny_135 : decode cX2_readAny 135 = .ok (.istore_n 2, 1) := dk_61 (dk_at dksX2_readAny_5 20 rfl rfl)
theorem dX2_readAny_136 : decode cX2_readAny 136 = .ok (.goto (-127), 3) := dk_167 255 129 (dk_at dksX2_readAny_5 21 rfl rfl)
theorem dX2_readAny_139 : decode cX2_readAny 139 = .ok (.aload_n 0, 1) := dk_42 (dk_at dksX2_readAny_6 0 rfl rfl)
theorem dX2_readAny_140 : decode cX2_readAny 140 = .ok (.bipush 9, 2) := dk_16 9 (dk_at dksX2_readAny_6 1 rfl rfl)
theorem dX2_readAny_142 : decode cX2_readAny 142 = .ok (.invokevirtual 197, 3) := dk_182 0 197 (dk_at dksX2_readAny_6 3 rfl rfl)
theorem dX2_readAny_145 : decode cX2_readAny 145 = .ok (.ifCond .eq 30, 3) := dk_153 0 30 (dk_at dksX2_readAny_6 6 rfl rfl)
theorem dX2_readAny_148 : decode cX2_readAny 148 = .ok (.aload_n 0, 1) := dk_42 (dk_at dksX2_readAny_6 9 rfl rfl)
theorem dX2_readAny_149 : decode cX2_readAny 149 = .ok (.bipush 10, 2) := dk_16 10 (dk_at dksX2_readAny_6 10 rfl rfl)
theorem dX2_readAny_151 : decode cX2_readAny 151 = .ok (.invokevirtual 206, 3) := dk_182 0 206 (dk_at dksX2_readAny_6 12 rfl rfl)
theorem dX2_readAny_154 : decode cX2_readAny 154 = .ok (.aload_n 0, 1) := dk_42 (dk_at dksX2_readAny_6 15 rfl rfl)
theorem dX2_readAny_155 : decode cX2_readAny 155 = .ok (.bipush 11, 2) := dk_16 11 (dk_at dksX2_readAny_6 16 rfl rfl)
theorem dX2_readAny_157 : decode cX2_readAny 157 = .ok (.invokevirtual 206, 3) := dk_182 0 206 (dk_at dksX2_readAny_6 18 rfl rfl)
theorem dX2_readAny_160 : decode cX2_readAny 160 = .ok (.aload_n 0, 1) := dk_42 (dk_at dksX2_readAny_6 21 rfl rfl)
theorem dX2_readAny_161 : decode cX2_readAny 161 = .ok (.bipush 11, 2) := dk_16 11 (dk_at dksX2_readAny_6 22 rfl rfl)
theorem dX2_readAny_163 : decode cX2_readAny 163 = .ok (.invokevirtual 200, 3) := dk_182 0 200 (dk_at dksX2_readAny_7 0 rfl rfl)
theorem dX2_readAny_166 : decode cX2_readAny 166 = .ok (.aload_n 0, 1) := dk_42 (dk_at dksX2_readAny_7 3 rfl rfl)
theorem dX2_readAny_167 : decode cX2_readAny 167 = .ok (.invokevirtual 175, 3) := dk_182 0 175 (dk_at dksX2_readAny_7 4 rfl rfl)
theorem dX2_readAny_170 : decode cX2_readAny 170 = .ok (.iconst 1, 1) := dk_4 (dk_at dksX2_readAny_7 7 rfl rfl)
theorem dX2_readAny_171 : decode cX2_readAny 171 = .ok (.istore_n 2, 1) := dk_61 (dk_at dksX2_readAny_7 8 rfl rfl)
theorem dX2_readAny_172 : decode cX2_readAny 172 = .ok (.goto (-163), 3) := dk_167 255 93 (dk_at dksX2_readAny_7 9 rfl rfl)
theorem dX2_readAny_175 : decode cX2_readAny 175 = .ok (.aload_n 0, 1) := dk_42 (dk_at dksX2_readAny_7 12 rfl rfl)
theorem dX2_readAny_176 : decode cX2_readAny 176 = .ok (.bipush 10, 2) := dk_16 10 (dk_at dksX2_readAny_7 13 rfl rfl)
theorem dX2_readAny_178 : decode cX2_readAny 178 = .ok (.invokevirtual 206, 3) := dk_182 0 206 (dk_at dksX2_readAny_7 15 rfl rfl)
theorem dX2_readAny_181 : decode cX2_readAny 181 = .ok (.aload_n 0, 1) := dk_42 (dk_at dksX2_readAny_7 18 rfl rfl)
theorem dX2_readAny_182 : decode cX2_readAny 182 = .ok (.bipush 11, 2) := dk_16 11 (dk_at dksX2_readAny_7 19 rfl rfl)
theorem dX2_readAny_184 : decode cX2_readAny 184 = .ok (.invokevirtual 206, 3) := dk_182 0 206 (dk_at dksX2_readAny_7 21 rfl rfl)
theorem dX2_readAny_187 : decode cX2_readAny 187 = .ok (.iload_n 1, 1) := dk_27 (dk_at dksX2_readAny_8 0 rfl rfl)
theorem dX2_readAny_188 : decode cX2_readAny 188 = .ok (.ifCond .ne 5, 3) := dk_154 0 5 (dk_at dksX2_readAny_8 1 rfl rfl)
theorem dX2_readAny_191 : decode cX2_readAny 191 = .ok (.iconst 0, 1) := dk_3 (dk_at dksX2_readAny_8 4 rfl rfl)
theorem dX2_readAny_192 : decode cX2_readAny 192 = .ok (.ireturn, 1) := dk_172 (dk_at dksX2_readAny_8 5 rfl rfl)
theorem dX2_readAny_193 : decode cX2_readAny 193 = .ok (.aload_n 0, 1) := dk_42 (dk_at dksX2_readAny_8 6 rfl rfl)
theorem dX2_readAny_194 : decode cX2_readAny 194 = .ok (.bipush 41, 2) := dk_16 41 (dk_at dksX2_readAny_8 7 rfl rfl)
theorem dX2_readAny_196 : decode cX2_readAny 196 = .ok (.invokevirtual 182, 3) := dk_182 0 182 (dk_at dksX2_readAny_8 9 rfl rfl)
theorem dX2_readAny_199 : decode cX2_readAny 199 = .ok (.ifCond .ne 9, 3) := dk_154 0 9 (dk_at dksX2_readAny_8 12 rfl rfl)
theorem dX2_readAny_202 : decode cX2_readAny 202 = .ok (.aload_n 0, 1) := dk_42 (dk_at dksX2_readAny_8 15 rfl rfl)
theorem dX2_readAny_203 : decode cX2_readAny 203 = .ok (.iconst 1, 1) := dk_4 (dk_at dksX2_readAny_8 16 rfl rfl)
theorem dX2_readAny_204 : decode cX2_readAny 204 = .ok (.invokevirtual 168, 3) := dk_182 0 168 (dk_at dksX2_readAny_8 17 rfl rfl)
theorem dX2_readAny_207 : decode cX2_readAny 207 = .ok (.ireturn, 1) := dk_172 (dk_at dksX2_readAny_8 20 rfl rfl)
theorem dX2_readAny_208 : decode cX2_readAny 208 = .ok (.aload_n 0, 1) := dk_42 (dk_at dksX2_readAny_8 21 rfl rfl)
theorem dX2_readAny_209 : decode cX2_readAny 209 = .ok (.aload_n 0, 1) := dk_42 (dk_at dksX2_readAny_8 22 rfl rfl)
theorem dX2_readAny_210 : decode cX2_readAny 210 = .ok (.getfield 191, 3) := dk_180 0 191 (dk_at dksX2_readAny_9 0 rfl rfl)
theorem dX2_readAny_213 : decode cX2_readAny 213 = .ok (.iconst 1, 1) := dk_4 (dk_at dksX2_readAny_9 3 rfl rfl)
theorem dX2_readAny_214 : decode cX2_readAny 214 = .ok (.isub, 1) := dk_100 (dk_at dksX2_readAny_9 4 rfl rfl)
theorem dX2_readAny_215 : decode cX2_readAny 215 = .ok (.putfield 191, 3) := dk_181 0 191 (dk_at dksX2_readAny_9 5 rfl rfl)
theorem dX2_readAny_218 : decode cX2_readAny 218 = .ok (.iload_n 1, 1) := dk_27 (dk_at dksX2_readAny_9 8 rfl rfl)
theorem dX2_readAny_219 : decode cX2_readAny 219 = .ok (.iconst 1, 1) := dk_4 (dk_at dksX2_readAny_9 9 rfl rfl)
theorem dX2_readAny_220 : decode cX2_readAny 220 = .ok (.isub, 1) := dk_100 (dk_at dksX2_readAny_9 10 rfl rfl)
theorem dX2_readAny_221 : decode cX2_readAny 221 = .ok (.istore_n 1, 1) := dk_60 (dk_at dksX2_readAny_9 11 rfl rfl)
theorem dX2_readAny_222 : decode cX2_readAny 222 = .ok (.aload_n 0, 1) := dk_42 (dk_at dksX2_readAny_9 12 rfl rfl)
theorem dX2_readAny_223 : decode cX2_readAny 223 = .ok (.aload_n 0, 1) := dk_42 (dk_at dksX2_readAny_9 13 rfl rfl)
theorem dX2_readAny_224 : decode cX2_readAny 224 = .ok (.getfield 194, 3) := dk_180 0 194 (dk_at dksX2_readAny_9 14 rfl rfl)
theorem dX2_readAny_227 : decode cX2_readAny 227 = .ok (.iconst 1, 1) := dk_4 (dk_at dksX2_readAny_9 17 rfl rfl)
theorem dX2_readAny_228 : decode cX2_readAny 228 = .ok (.isub, 1) := dk_100 (dk_at dksX2_readAny_9 18 rfl rfl)
theorem dX2_readAny_229 : decode cX2_readAny 229 = .ok (.putfield 194, 3) := dk_181 0 194 (dk_at dksX2_readAny_9 19 rfl rfl)
theorem dX2_readAny_232 : decode cX2_readAny 232 = .ok (.aload_n 0, 1) := dk_42 (dk_at dksX2_readAny_9 22 rfl rfl)
theorem dX2_readAny_233 : decode cX2_readAny 233 = .ok (.bipush 9, 2) := dk_16 9 (dk_at dksX2_readAny_10 0 rfl rfl)
theorem dX2_readAny_235 : decode cX2_readAny 235 = .ok (.invokevirtual 206, 3) := dk_182 0 206 (dk_at dksX2_readAny_10 2 rfl rfl)
theorem dX2_readAny_238 : decode cX2_readAny 238 = .ok (.aload_n 0, 1) := dk_42 (dk_at dksX2_readAny_10 5 rfl rfl)
theorem dX2_readAny_239 : decode cX2_readAny 239 = .ok (.invokevirtual 175, 3) := dk_182 0 175 (dk_at dksX2_readAny_10 6 rfl rfl)
theorem dX2_readAny_242 : decode cX2_readAny 242 = .ok (.goto (-233), 3) := dk_167 255 23 (dk_at dksX2_readAny_10 9 rfl rfl)
abbrev cX2_waits : ByteArray := prog_21_method_41_code
def yX2_waits : MethodName := ⟨RX2, "waits", "(I)V"⟩
def dkwX2_waits_0 : List UInt8 := [42, 180, 0, 52, 42, 180, 0, 191, 27, 79, 42, 42, 180, 0, 191, 4, 96, 181, 0, 191, 177]
abbrev dktX2_waits_0 : List UInt8 := dkwX2_waits_0 ++ []
theorem dksX2_waits_0 : cX2_waits.data.toList.drop 0 = dktX2_waits_0 := by decide +kernel
theorem dX2_waits_0 : decode cX2_waits 0 = .ok (.aload_n 0, 1) := dk_42 (dk_at dksX2_waits_0 0 rfl rfl)
theorem dX2_waits_1 : decode cX2_waits 1 = .ok (.getfield 52, 3) := dk_180 0 52 (dk_at dksX2_waits_0 1 rfl rfl)
theorem dX2_waits_4 : decode cX2_waits 4 = .ok (.aload_n 0, 1) := dk_42 (dk_at dksX2_waits_0 4 rfl rfl)
theorem dX2_waits_5 : decode cX2_waits 5 = .ok (.getfield 191, 3) := dk_180 0 191 (dk_at dksX2_waits_0 5 rfl rfl)
theorem dX2_waits_8 : decode cX2_waits 8 = .ok (.iload_n 1, 1) := dk_27 (dk_at dksX2_waits_0 8 rfl rfl)
theorem dX2_waits_9 : decode cX2_waits 9 = .ok (.iastore, 1) := dk_79 (dk_at dksX2_waits_0 9 rfl rfl)
theorem dX2_waits_10 : decode cX2_waits 10 = .ok (.aload_n 0, 1) := dk_42 (dk_at dksX2_waits_0 10 rfl rfl)
theorem dX2_waits_11 : decode cX2_waits 11 = .ok (.aload_n 0, 1) := dk_42 (dk_at dksX2_waits_0 11 rfl rfl)
theorem dX2_waits_12 : decode cX2_waits 12 = .ok (.getfield 191, 3) := dk_180 0 191 (dk_at dksX2_waits_0 12 rfl rfl)
theorem dX2_waits_15 : decode cX2_waits 15 = .ok (.iconst 1, 1) := dk_4 (dk_at dksX2_waits_0 15 rfl rfl)
theorem dX2_waits_16 : decode cX2_waits 16 = .ok (.iadd, 1) := dk_96 (dk_at dksX2_waits_0 16 rfl rfl)
theorem dX2_waits_17 : decode cX2_waits 17 = .ok (.putfield 191, 3) := dk_181 0 191 (dk_at dksX2_waits_0 17 rfl rfl)
theorem dX2_waits_20 : decode cX2_waits 20 = .ok (.return_, 1) := dk_177 (dk_at dksX2_waits_0 20 rfl rfl)
abbrev cX2_readCompared : ByteArray := prog_21_method_40_code
def yX2_readCompared : MethodName := ⟨RX2, "readCompared", "()I"⟩
def dkwX2_readCompared_4 : List UInt8 := [182, 0, 171, 3, 172]
abbrev dktX2_readCompared_4 : List UInt8 := dkwX2_readCompared_4 ++ []
def dkwX2_readCompared_3 : List UInt8 := [167, 0, 5, 16, 8, 60, 42, 182, 0, 175, 42, 182, 0, 188, 2, 160, 0, 5, 2, 172, 42, 27, 3]
abbrev dktX2_readCompared_3 : List UInt8 := dkwX2_readCompared_3 ++ dktX2_readCompared_4
def dkwX2_readCompared_2 : List UInt8 := [180, 0, 140, 16, 60, 160, 0, 8, 16, 6, 167, 0, 19, 42, 180, 0, 140, 16, 61, 160, 0, 8, 16, 7]
abbrev dktX2_readCompared_2 : List UInt8 := dkwX2_readCompared_2 ++ dktX2_readCompared_3
def dkwX2_readCompared_1 : List UInt8 := [182, 0, 182, 154, 0, 18, 42, 16, 62, 182, 0, 182, 154, 0, 9, 42, 4, 182, 0, 168, 172, 42]
abbrev dktX2_readCompared_1 : List UInt8 := dkwX2_readCompared_1 ++ dktX2_readCompared_2
def dkwX2_readCompared_0 : List UInt8 := [42, 182, 0, 188, 2, 160, 0, 5, 2, 172, 42, 16, 60, 182, 0, 182, 154, 0, 27, 42, 16, 61]
abbrev dktX2_readCompared_0 : List UInt8 := dkwX2_readCompared_0 ++ dktX2_readCompared_1
theorem dksX2_readCompared_0 : cX2_readCompared.data.toList.drop 0 = dktX2_readCompared_0 := by decide +kernel
theorem dksX2_readCompared_1 : cX2_readCompared.data.toList.drop 22 = dktX2_readCompared_1 := dk_seg dksX2_readCompared_0 22 rfl rfl
theorem dksX2_readCompared_2 : cX2_readCompared.data.toList.drop 44 = dktX2_readCompared_2 := dk_seg dksX2_readCompared_1 22 rfl rfl
theorem dksX2_readCompared_3 : cX2_readCompared.data.toList.drop 68 = dktX2_readCompared_3 := dk_seg dksX2_readCompared_2 24 rfl rfl
theorem dksX2_readCompared_4 : cX2_readCompared.data.toList.drop 91 = dktX2_readCompared_4 := dk_seg dksX2_readCompared_3 23 rfl rfl
theorem dX2_readCompared_0 : decode cX2_readCompared 0 = .ok (.aload_n 0, 1) := dk_42 (dk_at dksX2_readCompared_0 0 rfl rfl)
theorem dX2_readCompared_1 : decode cX2_readCompared 1 = .ok (.invokevirtual 188, 3) := dk_182 0 188 (dk_at dksX2_readCompared_0 1 rfl rfl)
theorem dX2_readCompared_4 : decode cX2_readCompared 4 = .ok (.iconst (-1), 1) := dk_2 (dk_at dksX2_readCompared_0 4 rfl rfl)
theorem dX2_readCompared_5 : decode cX2_readCompared 5 = .ok (.if_icmp .ne 5, 3) := dk_160 0 5 (dk_at dksX2_readCompared_0 5 rfl rfl)
theorem dX2_readCompared_8 : decode cX2_readCompared 8 = .ok (.iconst (-1), 1) := dk_2 (dk_at dksX2_readCompared_0 8 rfl rfl)
theorem dX2_readCompared_9 : decode cX2_readCompared 9 = .ok (.ireturn, 1) := dk_172 (dk_at dksX2_readCompared_0 9 rfl rfl)
theorem dX2_readCompared_10 : decode cX2_readCompared 10 = .ok (.aload_n 0, 1) := dk_42 (dk_at dksX2_readCompared_0 10 rfl rfl)
theorem dX2_readCompared_11 : decode cX2_readCompared 11 = .ok (.bipush 60, 2) := dk_16 60 (dk_at dksX2_readCompared_0 11 rfl rfl)
theorem dX2_readCompared_13 : decode cX2_readCompared 13 = .ok (.invokevirtual 182, 3) := dk_182 0 182 (dk_at dksX2_readCompared_0 13 rfl rfl)
theorem dX2_readCompared_16 : decode cX2_readCompared 16 = .ok (.ifCond .ne 27, 3) := dk_154 0 27 (dk_at dksX2_readCompared_0 16 rfl rfl)
theorem dX2_readCompared_19 : decode cX2_readCompared 19 = .ok (.aload_n 0, 1) := dk_42 (dk_at dksX2_readCompared_0 19 rfl rfl)
theorem dX2_readCompared_20 : decode cX2_readCompared 20 = .ok (.bipush 61, 2) := dk_16 61 (dk_at dksX2_readCompared_0 20 rfl rfl)
theorem dX2_readCompared_22 : decode cX2_readCompared 22 = .ok (.invokevirtual 182, 3) := dk_182 0 182 (dk_at dksX2_readCompared_1 0 rfl rfl)
theorem dX2_readCompared_25 : decode cX2_readCompared 25 = .ok (.ifCond .ne 18, 3) := dk_154 0 18 (dk_at dksX2_readCompared_1 3 rfl rfl)
theorem dX2_readCompared_28 : decode cX2_readCompared 28 = .ok (.aload_n 0, 1) := dk_42 (dk_at dksX2_readCompared_1 6 rfl rfl)
theorem dX2_readCompared_29 : decode cX2_readCompared 29 = .ok (.bipush 62, 2) := dk_16 62 (dk_at dksX2_readCompared_1 7 rfl rfl)
theorem dX2_readCompared_31 : decode cX2_readCompared 31 = .ok (.invokevirtual 182, 3) := dk_182 0 182 (dk_at dksX2_readCompared_1 9 rfl rfl)
theorem dX2_readCompared_34 : decode cX2_readCompared 34 = .ok (.ifCond .ne 9, 3) := dk_154 0 9 (dk_at dksX2_readCompared_1 12 rfl rfl)
theorem dX2_readCompared_37 : decode cX2_readCompared 37 = .ok (.aload_n 0, 1) := dk_42 (dk_at dksX2_readCompared_1 15 rfl rfl)
theorem dX2_readCompared_38 : decode cX2_readCompared 38 = .ok (.iconst 1, 1) := dk_4 (dk_at dksX2_readCompared_1 16 rfl rfl)
theorem dX2_readCompared_39 : decode cX2_readCompared 39 = .ok (.invokevirtual 168, 3) := dk_182 0 168 (dk_at dksX2_readCompared_1 17 rfl rfl)
theorem dX2_readCompared_42 : decode cX2_readCompared 42 = .ok (.ireturn, 1) := dk_172 (dk_at dksX2_readCompared_1 20 rfl rfl)
theorem dX2_readCompared_43 : decode cX2_readCompared 43 = .ok (.aload_n 0, 1) := dk_42 (dk_at dksX2_readCompared_1 21 rfl rfl)
theorem dX2_readCompared_44 : decode cX2_readCompared 44 = .ok (.getfield 140, 3) := dk_180 0 140 (dk_at dksX2_readCompared_2 0 rfl rfl)
theorem dX2_readCompared_47 : decode cX2_readCompared 47 = .ok (.bipush 60, 2) := dk_16 60 (dk_at dksX2_readCompared_2 3 rfl rfl)
theorem dX2_readCompared_49 : decode cX2_readCompared 49 = .ok (.if_icmp .ne 8, 3) := dk_160 0 8 (dk_at dksX2_readCompared_2 5 rfl rfl)
theorem dX2_readCompared_52 : decode cX2_readCompared 52 = .ok (.bipush 6, 2) := dk_16 6 (dk_at dksX2_readCompared_2 8 rfl rfl)
theorem dX2_readCompared_54 : decode cX2_readCompared 54 = .ok (.goto 19, 3) := dk_167 0 19 (dk_at dksX2_readCompared_2 10 rfl rfl)
theorem dX2_readCompared_57 : decode cX2_readCompared 57 = .ok (.aload_n 0, 1) := dk_42 (dk_at dksX2_readCompared_2 13 rfl rfl)
theorem dX2_readCompared_58 : decode cX2_readCompared 58 = .ok (.getfield 140, 3) := dk_180 0 140 (dk_at dksX2_readCompared_2 14 rfl rfl)
theorem dX2_readCompared_61 : decode cX2_readCompared 61 = .ok (.bipush 61, 2) := dk_16 61 (dk_at dksX2_readCompared_2 17 rfl rfl)
theorem dX2_readCompared_63 : decode cX2_readCompared 63 = .ok (.if_icmp .ne 8, 3) := dk_160 0 8 (dk_at dksX2_readCompared_2 19 rfl rfl)
theorem dX2_readCompared_66 : decode cX2_readCompared 66 = .ok (.bipush 7, 2) := dk_16 7 (dk_at dksX2_readCompared_2 22 rfl rfl)
theorem dX2_readCompared_68 : decode cX2_readCompared 68 = .ok (.goto 5, 3) := dk_167 0 5 (dk_at dksX2_readCompared_3 0 rfl rfl)
theorem dX2_readCompared_71 : decode cX2_readCompared 71 = .ok (.bipush 8, 2) := dk_16 8 (dk_at dksX2_readCompared_3 3 rfl rfl)
theorem dX2_readCompared_73 : decode cX2_readCompared 73 = .ok (.istore_n 1, 1) := dk_60 (dk_at dksX2_readCompared_3 5 rfl rfl)
theorem dX2_readCompared_74 : decode cX2_readCompared 74 = .ok (.aload_n 0, 1) := dk_42 (dk_at dksX2_readCompared_3 6 rfl rfl)
theorem dX2_readCompared_75 : decode cX2_readCompared 75 = .ok (.invokevirtual 175, 3) := dk_182 0 175 (dk_at dksX2_readCompared_3 7 rfl rfl)
theorem dX2_readCompared_78 : decode cX2_readCompared 78 = .ok (.aload_n 0, 1) := dk_42 (dk_at dksX2_readCompared_3 10 rfl rfl)
theorem dX2_readCompared_79 : decode cX2_readCompared 79 = .ok (.invokevirtual 188, 3) := dk_182 0 188 (dk_at dksX2_readCompared_3 11 rfl rfl)
theorem dX2_readCompared_82 : decode cX2_readCompared 82 = .ok (.iconst (-1), 1) := dk_2 (dk_at dksX2_readCompared_3 14 rfl rfl)
theorem dX2_readCompared_83 : decode cX2_readCompared 83 = .ok (.if_icmp .ne 5, 3) := dk_160 0 5 (dk_at dksX2_readCompared_3 15 rfl rfl)
theorem dX2_readCompared_86 : decode cX2_readCompared 86 = .ok (.iconst (-1), 1) := dk_2 (dk_at dksX2_readCompared_3 18 rfl rfl)
theorem dX2_readCompared_87 : decode cX2_readCompared 87 = .ok (.ireturn, 1) := dk_172 (dk_at dksX2_readCompared_3 19 rfl rfl)
theorem dX2_readCompared_88 : decode cX2_readCompared 88 = .ok (.aload_n 0, 1) := dk_42 (dk_at dksX2_readCompared_3 20 rfl rfl)
theorem dX2_readCompared_89 : decode cX2_readCompared 89 = .ok (.iload_n 1, 1) := dk_27 (dk_at dksX2_readCompared_3 21 rfl rfl)
theorem dX2_readCompared_90 : decode cX2_readCompared 90 = .ok (.iconst 0, 1) := dk_3 (dk_at dksX2_readCompared_3 22 rfl rfl)
theorem dX2_readCompared_91 : decode cX2_readCompared 91 = .ok (.invokevirtual 171, 3) := dk_182 0 171 (dk_at dksX2_readCompared_4 0 rfl rfl)
theorem dX2_readCompared_94 : decode cX2_readCompared 94 = .ok (.iconst 0, 1) := dk_3 (dk_at dksX2_readCompared_4 3 rfl rfl)
theorem dX2_readCompared_95 : decode cX2_readCompared 95 = .ok (.ireturn, 1) := dk_172 (dk_at dksX2_readCompared_4 4 rfl rfl)
abbrev cX2_settles : ByteArray := prog_21_method_42_code
def yX2_settles : MethodName := ⟨RX2, "settles", "(I)V"⟩
def dkwX2_settles_2 : List UInt8 := [180, 0, 194, 4, 100, 181, 0, 194, 167, 255, 202, 177]
abbrev dktX2_settles_2 : List UInt8 := dkwX2_settles_2 ++ []
def dkwX2_settles_1 : List UInt8 := [180, 0, 191, 4, 100, 181, 0, 191, 42, 27, 3, 182, 0, 171, 27, 16, 9, 160, 255, 215, 42, 42]
abbrev dktX2_settles_1 : List UInt8 := dkwX2_settles_1 ++ dktX2_settles_2
def dkwX2_settles_0 : List UInt8 := [42, 180, 0, 191, 158, 0, 53, 42, 180, 0, 52, 42, 180, 0, 191, 4, 100, 46, 27, 160, 0, 38, 42, 42]
abbrev dktX2_settles_0 : List UInt8 := dkwX2_settles_0 ++ dktX2_settles_1
theorem dksX2_settles_0 : cX2_settles.data.toList.drop 0 = dktX2_settles_0 := by decide +kernel
theorem dksX2_settles_1 : cX2_settles.data.toList.drop 24 = dktX2_settles_1 := dk_seg dksX2_settles_0 24 rfl rfl
theorem dksX2_settles_2 : cX2_settles.data.toList.drop 46 = dktX2_settles_2 := dk_seg dksX2_settles_1 22 rfl rfl
theorem dX2_settles_0 : decode cX2_settles 0 = .ok (.aload_n 0, 1) := dk_42 (dk_at dksX2_settles_0 0 rfl rfl)
theorem dX2_settles_1 : decode cX2_settles 1 = .ok (.getfield 191, 3) := dk_180 0 191 (dk_at dksX2_settles_0 1 rfl rfl)
theorem dX2_settles_4 : decode cX2_settles 4 = .ok (.ifCond .le 53, 3) := dk_158 0 53 (dk_at dksX2_settles_0 4 rfl rfl)
theorem dX2_settles_7 : decode cX2_settles 7 = .ok (.aload_n 0, 1) := dk_42 (dk_at dksX2_settles_0 7 rfl rfl)
theorem dX2_settles_8 : decode cX2_settles 8 = .ok (.getfield 52, 3) := dk_180 0 52 (dk_at dksX2_settles_0 8 rfl rfl)
theorem dX2_settles_11 : decode cX2_settles 11 = .ok (.aload_n 0, 1) := dk_42 (dk_at dksX2_settles_0 11 rfl rfl)
theorem dX2_settles_12 : decode cX2_settles 12 = .ok (.getfield 191, 3) := dk_180 0 191 (dk_at dksX2_settles_0 12 rfl rfl)
theorem dX2_settles_15 : decode cX2_settles 15 = .ok (.iconst 1, 1) := dk_4 (dk_at dksX2_settles_0 15 rfl rfl)
theorem dX2_settles_16 : decode cX2_settles 16 = .ok (.isub, 1) := dk_100 (dk_at dksX2_settles_0 16 rfl rfl)
theorem dX2_settles_17 : decode cX2_settles 17 = .ok (.iaload, 1) := dk_46 (dk_at dksX2_settles_0 17 rfl rfl)
theorem dX2_settles_18 : decode cX2_settles 18 = .ok (.iload_n 1, 1) := dk_27 (dk_at dksX2_settles_0 18 rfl rfl)
theorem dX2_settles_19 : decode cX2_settles 19 = .ok (.if_icmp .ne 38, 3) := dk_160 0 38 (dk_at dksX2_settles_0 19 rfl rfl)
theorem dX2_settles_22 : decode cX2_settles 22 = .ok (.aload_n 0, 1) := dk_42 (dk_at dksX2_settles_0 22 rfl rfl)
theorem dX2_settles_23 : decode cX2_settles 23 = .ok (.aload_n 0, 1) := dk_42 (dk_at dksX2_settles_0 23 rfl rfl)
theorem dX2_settles_24 : decode cX2_settles 24 = .ok (.getfield 191, 3) := dk_180 0 191 (dk_at dksX2_settles_1 0 rfl rfl)
theorem dX2_settles_27 : decode cX2_settles 27 = .ok (.iconst 1, 1) := dk_4 (dk_at dksX2_settles_1 3 rfl rfl)
theorem dX2_settles_28 : decode cX2_settles 28 = .ok (.isub, 1) := dk_100 (dk_at dksX2_settles_1 4 rfl rfl)
theorem dX2_settles_29 : decode cX2_settles 29 = .ok (.putfield 191, 3) := dk_181 0 191 (dk_at dksX2_settles_1 5 rfl rfl)
theorem dX2_settles_32 : decode cX2_settles 32 = .ok (.aload_n 0, 1) := dk_42 (dk_at dksX2_settles_1 8 rfl rfl)
theorem dX2_settles_33 : decode cX2_settles 33 = .ok (.iload_n 1, 1) := dk_27 (dk_at dksX2_settles_1 9 rfl rfl)
theorem dX2_settles_34 : decode cX2_settles 34 = .ok (.iconst 0, 1) := dk_3 (dk_at dksX2_settles_1 10 rfl rfl)
theorem dX2_settles_35 : decode cX2_settles 35 = .ok (.invokevirtual 171, 3) := dk_182 0 171 (dk_at dksX2_settles_1 11 rfl rfl)
theorem dX2_settles_38 : decode cX2_settles 38 = .ok (.iload_n 1, 1) := dk_27 (dk_at dksX2_settles_1 14 rfl rfl)
theorem dX2_settles_39 : decode cX2_settles 39 = .ok (.bipush 9, 2) := dk_16 9 (dk_at dksX2_settles_1 15 rfl rfl)
theorem dX2_settles_41 : decode cX2_settles 41 = .ok (.if_icmp .ne (-41), 3) := dk_160 255 215 (dk_at dksX2_settles_1 17 rfl rfl)
theorem dX2_settles_44 : decode cX2_settles 44 = .ok (.aload_n 0, 1) := dk_42 (dk_at dksX2_settles_1 20 rfl rfl)
theorem dX2_settles_45 : decode cX2_settles 45 = .ok (.aload_n 0, 1) := dk_42 (dk_at dksX2_settles_1 21 rfl rfl)
theorem dX2_settles_46 : decode cX2_settles 46 = .ok (.getfield 194, 3) := dk_180 0 194 (dk_at dksX2_settles_2 0 rfl rfl)
theorem dX2_settles_49 : decode cX2_settles 49 = .ok (.iconst 1, 1) := dk_4 (dk_at dksX2_settles_2 3 rfl rfl)
theorem dX2_settles_50 : decode cX2_settles 50 = .ok (.isub, 1) := dk_100 (dk_at dksX2_settles_2 4 rfl rfl)
theorem dX2_settles_51 : decode cX2_settles 51 = .ok (.putfield 194, 3) := dk_181 0 194 (dk_at dksX2_settles_2 5 rfl rfl)
theorem dX2_settles_54 : decode cX2_settles 54 = .ok (.goto (-54), 3) := dk_167 255 202 (dk_at dksX2_settles_2 8 rfl rfl)
theorem dX2_settles_57 : decode cX2_settles 57 = .ok (.return_, 1) := dk_177 (dk_at dksX2_settles_2 11 rfl rfl)
abbrev cX2_takesLaw : ByteArray := prog_21_method_46_code
def yX2_takesLaw : MethodName := ⟨RX2, "takesLaw", "(I)V"⟩
def dkwX2_takesLaw_7 : List UInt8 := [79, 132, 2, 1, 167, 255, 195, 42, 180, 0, 31, 42, 180, 0, 216, 27, 79, 177]
abbrev dktX2_takesLaw_7 : List UInt8 := dkwX2_takesLaw_7 ++ []
def dkwX2_takesLaw_6 : List UInt8 := [42, 180, 0, 49, 17, 1, 144, 42, 180, 0, 216, 104, 28, 96, 42, 180, 0, 49, 17, 3, 32, 28, 96, 46]
abbrev dktX2_takesLaw_6 : List UInt8 := dkwX2_takesLaw_6 ++ dktX2_takesLaw_7
def dkwX2_takesLaw_5 : List UInt8 := [180, 0, 46, 17, 1, 144, 42, 180, 0, 216, 104, 28, 96, 42, 180, 0, 46, 17, 3, 32, 28, 96, 46, 79]
abbrev dktX2_takesLaw_5 : List UInt8 := dkwX2_takesLaw_5 ++ dktX2_takesLaw_6
def dkwX2_takesLaw_4 : List UInt8 := [16, 32, 28, 96, 46, 79, 132, 2, 1, 167, 255, 156, 3, 61, 28, 42, 180, 0, 162, 162, 0, 59, 42]
abbrev dktX2_takesLaw_4 : List UInt8 := dkwX2_takesLaw_4 ++ dktX2_takesLaw_5
def dkwX2_takesLaw_3 : List UInt8 := [16, 32, 28, 96, 46, 79, 42, 180, 0, 43, 16, 16, 42, 180, 0, 216, 104, 28, 96, 42, 180, 0, 43]
abbrev dktX2_takesLaw_3 : List UInt8 := dkwX2_takesLaw_3 ++ dktX2_takesLaw_4
def dkwX2_takesLaw_2 : List UInt8 := [16, 32, 28, 96, 46, 79, 42, 180, 0, 40, 16, 16, 42, 180, 0, 216, 104, 28, 96, 42, 180, 0, 40]
abbrev dktX2_takesLaw_2 : List UInt8 := dkwX2_takesLaw_2 ++ dktX2_takesLaw_3
def dkwX2_takesLaw_1 : List UInt8 := [16, 32, 28, 96, 46, 79, 42, 180, 0, 37, 16, 16, 42, 180, 0, 216, 104, 28, 96, 42, 180, 0, 37]
abbrev dktX2_takesLaw_1 : List UInt8 := dkwX2_takesLaw_1 ++ dktX2_takesLaw_2
def dkwX2_takesLaw_0 : List UInt8 := [3, 61, 28, 27, 162, 0, 101, 42, 180, 0, 34, 16, 16, 42, 180, 0, 216, 104, 28, 96, 42, 180, 0, 34]
abbrev dktX2_takesLaw_0 : List UInt8 := dkwX2_takesLaw_0 ++ dktX2_takesLaw_1
theorem dksX2_takesLaw_0 : cX2_takesLaw.data.toList.drop 0 = dktX2_takesLaw_0 := by decide +kernel
theorem dksX2_takesLaw_1 : cX2_takesLaw.data.toList.drop 24 = dktX2_takesLaw_1 := dk_seg dksX2_takesLaw_0 24 rfl rfl
theorem dksX2_takesLaw_2 : cX2_takesLaw.data.toList.drop 47 = dktX2_takesLaw_2 := dk_seg dksX2_takesLaw_1 23 rfl rfl
theorem dksX2_takesLaw_3 : cX2_takesLaw.data.toList.drop 70 = dktX2_takesLaw_3 := dk_seg dksX2_takesLaw_2 23 rfl rfl
theorem dksX2_takesLaw_4 : cX2_takesLaw.data.toList.drop 93 = dktX2_takesLaw_4 := dk_seg dksX2_takesLaw_3 23 rfl rfl
theorem dksX2_takesLaw_5 : cX2_takesLaw.data.toList.drop 116 = dktX2_takesLaw_5 := dk_seg dksX2_takesLaw_4 23 rfl rfl
theorem dksX2_takesLaw_6 : cX2_takesLaw.data.toList.drop 140 = dktX2_takesLaw_6 := dk_seg dksX2_takesLaw_5 24 rfl rfl
theorem dksX2_takesLaw_7 : cX2_takesLaw.data.toList.drop 164 = dktX2_takesLaw_7 := dk_seg dksX2_takesLaw_6 24 rfl rfl
theorem dX2_takesLaw_0 : decode cX2_takesLaw 0 = .ok (.iconst 0, 1) := dk_3 (dk_at dksX2_takesLaw_0 0 rfl rfl)
theorem dX2_takesLaw_1 : decode cX2_takesLaw 1 = .ok (.istore_n 2, 1) := dk_61 (dk_at dksX2_takesLaw_0 1 rfl rfl)
theorem dX2_takesLaw_2 : decode cX2_takesLaw 2 = .ok (.iload_n 2, 1) := dk_28 (dk_at dksX2_takesLaw_0 2 rfl rfl)
theorem dX2_takesLaw_3 : decode cX2_takesLaw 3 = .ok (.iload_n 1, 1) := dk_27 (dk_at dksX2_takesLaw_0 3 rfl rfl)
theorem dX2_takesLaw_4 : decode cX2_takesLaw 4 = .ok (.if_icmp .ge 101, 3) := dk_162 0 101 (dk_at dksX2_takesLaw_0 4 rfl rfl)
theorem dX2_takesLaw_7 : decode cX2_takesLaw 7 = .ok (.aload_n 0, 1) := dk_42 (dk_at dksX2_takesLaw_0 7 rfl rfl)
theorem dX2_takesLaw_8 : decode cX2_takesLaw 8 = .ok (.getfield 34, 3) := dk_180 0 34 (dk_at dksX2_takesLaw_0 8 rfl rfl)
theorem dX2_takesLaw_11 : decode cX2_takesLaw 11 = .ok (.bipush 16, 2) := dk_16 16 (dk_at dksX2_takesLaw_0 11 rfl rfl)
theorem dX2_takesLaw_13 : decode cX2_takesLaw 13 = .ok (.aload_n 0, 1) := dk_42 (dk_at dksX2_takesLaw_0 13 rfl rfl)
theorem dX2_takesLaw_14 : decode cX2_takesLaw 14 = .ok (.getfield 216, 3) := dk_180 0 216 (dk_at dksX2_takesLaw_0 14 rfl rfl)
theorem dX2_takesLaw_17 : decode cX2_takesLaw 17 = .ok (.imul, 1) := dk_104 (dk_at dksX2_takesLaw_0 17 rfl rfl)
theorem dX2_takesLaw_18 : decode cX2_takesLaw 18 = .ok (.iload_n 2, 1) := dk_28 (dk_at dksX2_takesLaw_0 18 rfl rfl)
theorem dX2_takesLaw_19 : decode cX2_takesLaw 19 = .ok (.iadd, 1) := dk_96 (dk_at dksX2_takesLaw_0 19 rfl rfl)
theorem dX2_takesLaw_20 : decode cX2_takesLaw 20 = .ok (.aload_n 0, 1) := dk_42 (dk_at dksX2_takesLaw_0 20 rfl rfl)
theorem dX2_takesLaw_21 : decode cX2_takesLaw 21 = .ok (.getfield 34, 3) := dk_180 0 34 (dk_at dksX2_takesLaw_0 21 rfl rfl)
theorem dX2_takesLaw_24 : decode cX2_takesLaw 24 = .ok (.bipush 32, 2) := dk_16 32 (dk_at dksX2_takesLaw_1 0 rfl rfl)
theorem dX2_takesLaw_26 : decode cX2_takesLaw 26 = .ok (.iload_n 2, 1) := dk_28 (dk_at dksX2_takesLaw_1 2 rfl rfl)
theorem dX2_takesLaw_27 : decode cX2_takesLaw 27 = .ok (.iadd, 1) := dk_96 (dk_at dksX2_takesLaw_1 3 rfl rfl)
theorem dX2_takesLaw_28 : decode cX2_takesLaw 28 = .ok (.iaload, 1) := dk_46 (dk_at dksX2_takesLaw_1 4 rfl rfl)
theorem dX2_takesLaw_29 : decode cX2_takesLaw 29 = .ok (.iastore, 1) := dk_79 (dk_at dksX2_takesLaw_1 5 rfl rfl)
theorem dX2_takesLaw_30 : decode cX2_takesLaw 30 = .ok (.aload_n 0, 1) := dk_42 (dk_at dksX2_takesLaw_1 6 rfl rfl)
theorem dX2_takesLaw_31 : decode cX2_takesLaw 31 = .ok (.getfield 37, 3) := dk_180 0 37 (dk_at dksX2_takesLaw_1 7 rfl rfl)
theorem dX2_takesLaw_34 : decode cX2_takesLaw 34 = .ok (.bipush 16, 2) := dk_16 16 (dk_at dksX2_takesLaw_1 10 rfl rfl)
theorem dX2_takesLaw_36 : decode cX2_takesLaw 36 = .ok (.aload_n 0, 1) := dk_42 (dk_at dksX2_takesLaw_1 12 rfl rfl)
theorem dX2_takesLaw_37 : decode cX2_takesLaw 37 = .ok (.getfield 216, 3) := dk_180 0 216 (dk_at dksX2_takesLaw_1 13 rfl rfl)
theorem dX2_takesLaw_40 : decode cX2_takesLaw 40 = .ok (.imul, 1) := dk_104 (dk_at dksX2_takesLaw_1 16 rfl rfl)
theorem dX2_takesLaw_41 : decode cX2_takesLaw 41 = .ok (.iload_n 2, 1) := dk_28 (dk_at dksX2_takesLaw_1 17 rfl rfl)
theorem dX2_takesLaw_42 : decode cX2_takesLaw 42 = .ok (.iadd, 1) := dk_96 (dk_at dksX2_takesLaw_1 18 rfl rfl)
theorem dX2_takesLaw_43 : decode cX2_takesLaw 43 = .ok (.aload_n 0, 1) := dk_42 (dk_at dksX2_takesLaw_1 19 rfl rfl)
theorem dX2_takesLaw_44 : decode cX2_takesLaw 44 = .ok (.getfield 37, 3) := dk_180 0 37 (dk_at dksX2_takesLaw_1 20 rfl rfl)
theorem dX2_takesLaw_47 : decode cX2_takesLaw 47 = .ok (.bipush 32, 2) := dk_16 32 (dk_at dksX2_takesLaw_2 0 rfl rfl)
theorem dX2_takesLaw_49 : decode cX2_takesLaw 49 = .ok (.iload_n 2, 1) := dk_28 (dk_at dksX2_takesLaw_2 2 rfl rfl)
theorem dX2_takesLaw_50 : decode cX2_takesLaw 50 = .ok (.iadd, 1) := dk_96 (dk_at dksX2_takesLaw_2 3 rfl rfl)
theorem dX2_takesLaw_51 : decode cX2_takesLaw 51 = .ok (.iaload, 1) := dk_46 (dk_at dksX2_takesLaw_2 4 rfl rfl)
theorem dX2_takesLaw_52 : decode cX2_takesLaw 52 = .ok (.iastore, 1) := dk_79 (dk_at dksX2_takesLaw_2 5 rfl rfl)
theorem dX2_takesLaw_53 : decode cX2_takesLaw 53 = .ok (.aload_n 0, 1) := dk_42 (dk_at dksX2_takesLaw_2 6 rfl rfl)
theorem dX2_takesLaw_54 : decode cX2_takesLaw 54 = .ok (.getfield 40, 3) := dk_180 0 40 (dk_at dksX2_takesLaw_2 7 rfl rfl)
theorem dX2_takesLaw_57 : decode cX2_takesLaw 57 = .ok (.bipush 16, 2) := dk_16 16 (dk_at dksX2_takesLaw_2 10 rfl rfl)
theorem dX2_takesLaw_59 : decode cX2_takesLaw 59 = .ok (.aload_n 0, 1) := dk_42 (dk_at dksX2_takesLaw_2 12 rfl rfl)
theorem dX2_takesLaw_60 : decode cX2_takesLaw 60 = .ok (.getfield 216, 3) := dk_180 0 216 (dk_at dksX2_takesLaw_2 13 rfl rfl)
theorem dX2_takesLaw_63 : decode cX2_takesLaw 63 = .ok (.imul, 1) := dk_104 (dk_at dksX2_takesLaw_2 16 rfl rfl)
theorem dX2_takesLaw_64 : decode cX2_takesLaw 64 = .ok (.iload_n 2, 1) := dk_28 (dk_at dksX2_takesLaw_2 17 rfl rfl)
theorem dX2_takesLaw_65 : decode cX2_takesLaw 65 = .ok (.iadd, 1) := dk_96 (dk_at dksX2_takesLaw_2 18 rfl rfl)
theorem dX2_takesLaw_66 : decode cX2_takesLaw 66 = .ok (.aload_n 0, 1) := dk_42 (dk_at dksX2_takesLaw_2 19 rfl rfl)
theorem dX2_takesLaw_67 : decode cX2_takesLaw 67 = .ok (.getfield 40, 3) := dk_180 0 40 (dk_at dksX2_takesLaw_2 20 rfl rfl)
theorem dX2_takesLaw_70 : decode cX2_takesLaw 70 = .ok (.bipush 32, 2) := dk_16 32 (dk_at dksX2_takesLaw_3 0 rfl rfl)
theorem dX2_takesLaw_72 : decode cX2_takesLaw 72 = .ok (.iload_n 2, 1) := dk_28 (dk_at dksX2_takesLaw_3 2 rfl rfl)
theorem dX2_takesLaw_73 : decode cX2_takesLaw 73 = .ok (.iadd, 1) := dk_96 (dk_at dksX2_takesLaw_3 3 rfl rfl)
theorem dX2_takesLaw_74 : decode cX2_takesLaw 74 = .ok (.iaload, 1) := dk_46 (dk_at dksX2_takesLaw_3 4 rfl rfl)
theorem dX2_takesLaw_75 : decode cX2_takesLaw 75 = .ok (.iastore, 1) := dk_79 (dk_at dksX2_takesLaw_3 5 rfl rfl)
theorem dX2_takesLaw_76 : decode cX2_takesLaw 76 = .ok (.aload_n 0, 1) := dk_42 (dk_at dksX2_takesLaw_3 6 rfl rfl)
theorem dX2_takesLaw_77 : decode cX2_takesLaw 77 = .ok (.getfield 43, 3) := dk_180 0 43 (dk_at dksX2_takesLaw_3 7 rfl rfl)
theorem dX2_takesLaw_80 : decode cX2_takesLaw 80 = .ok (.bipush 16, 2) := dk_16 16 (dk_at dksX2_takesLaw_3 10 rfl rfl)
theorem dX2_takesLaw_82 : decode cX2_takesLaw 82 = .ok (.aload_n 0, 1) := dk_42 (dk_at dksX2_takesLaw_3 12 rfl rfl)
theorem dX2_takesLaw_83 : decode cX2_takesLaw 83 = .ok (.getfield 216, 3) := dk_180 0 216 (dk_at dksX2_takesLaw_3 13 rfl rfl)
theorem dX2_takesLaw_86 : decode cX2_takesLaw 86 = .ok (.imul, 1) := dk_104 (dk_at dksX2_takesLaw_3 16 rfl rfl)
theorem dX2_takesLaw_87 : decode cX2_takesLaw 87 = .ok (.iload_n 2, 1) := dk_28 (dk_at dksX2_takesLaw_3 17 rfl rfl)
theorem dX2_takesLaw_88 : decode cX2_takesLaw 88 = .ok (.iadd, 1) := dk_96 (dk_at dksX2_takesLaw_3 18 rfl rfl)
theorem dX2_takesLaw_89 : decode cX2_takesLaw 89 = .ok (.aload_n 0, 1) := dk_42 (dk_at dksX2_takesLaw_3 19 rfl rfl)
theorem dX2_takesLaw_90 : decode cX2_takesLaw 90 = .ok (.getfield 43, 3) := dk_180 0 43 (dk_at dksX2_takesLaw_3 20 rfl rfl)
theorem dX2_takesLaw_93 : decode cX2_takesLaw 93 = .ok (.bipush 32, 2) := dk_16 32 (dk_at dksX2_takesLaw_4 0 rfl rfl)
theorem dX2_takesLaw_95 : decode cX2_takesLaw 95 = .ok (.iload_n 2, 1) := dk_28 (dk_at dksX2_takesLaw_4 2 rfl rfl)
theorem dX2_takesLaw_96 : decode cX2_takesLaw 96 = .ok (.iadd, 1) := dk_96 (dk_at dksX2_takesLaw_4 3 rfl rfl)
theorem dX2_takesLaw_97 : decode cX2_takesLaw 97 = .ok (.iaload, 1) := dk_46 (dk_at dksX2_takesLaw_4 4 rfl rfl)
theorem dX2_takesLaw_98 : decode cX2_takesLaw 98 = .ok (.iastore, 1) := dk_79 (dk_at dksX2_takesLaw_4 5 rfl rfl)
theorem dX2_takesLaw_99 : decode cX2_takesLaw 99 = .ok (.iinc 2 1, 3) := dk_132 2 1 (dk_at dksX2_takesLaw_4 6 rfl rfl)
theorem dX2_takesLaw_102 : decode cX2_takesLaw 102 = .ok (.goto (-100), 3) := dk_167 255 156 (dk_at dksX2_takesLaw_4 9 rfl rfl)
theorem dX2_takesLaw_105 : decode cX2_takesLaw 105 = .ok (.iconst 0, 1) := dk_3 (dk_at dksX2_takesLaw_4 12 rfl rfl)
theorem dX2_takesLaw_106 : decode cX2_takesLaw 106 = .ok (.istore_n 2, 1) := dk_61 (dk_at dksX2_takesLaw_4 13 rfl rfl)
theorem dX2_takesLaw_107 : decode cX2_takesLaw 107 = .ok (.iload_n 2, 1) := dk_28 (dk_at dksX2_takesLaw_4 14 rfl rfl)
theorem dX2_takesLaw_108 : decode cX2_takesLaw 108 = .ok (.aload_n 0, 1) := dk_42 (dk_at dksX2_takesLaw_4 15 rfl rfl)
theorem dX2_takesLaw_109 : decode cX2_takesLaw 109 = .ok (.getfield 162, 3) := dk_180 0 162 (dk_at dksX2_takesLaw_4 16 rfl rfl)
theorem dX2_takesLaw_112 : decode cX2_takesLaw 112 = .ok (.if_icmp .ge 59, 3) := dk_162 0 59 (dk_at dksX2_takesLaw_4 19 rfl rfl)
theorem dX2_takesLaw_115 : decode cX2_takesLaw 115 = .ok (.aload_n 0, 1) := dk_42 (dk_at dksX2_takesLaw_4 22 rfl rfl)
theorem dX2_takesLaw_116 : decode cX2_takesLaw 116 = .ok (.getfield 46, 3) := dk_180 0 46 (dk_at dksX2_takesLaw_5 0 rfl rfl)
theorem dX2_takesLaw_119 : decode cX2_takesLaw 119 = .ok (.sipush 400, 3) := dk_17 1 144 (dk_at dksX2_takesLaw_5 3 rfl rfl)
theorem dX2_takesLaw_122 : decode cX2_takesLaw 122 = .ok (.aload_n 0, 1) := dk_42 (dk_at dksX2_takesLaw_5 6 rfl rfl)
theorem dX2_takesLaw_123 : decode cX2_takesLaw 123 = .ok (.getfield 216, 3) := dk_180 0 216 (dk_at dksX2_takesLaw_5 7 rfl rfl)
theorem dX2_takesLaw_126 : decode cX2_takesLaw 126 = .ok (.imul, 1) := dk_104 (dk_at dksX2_takesLaw_5 10 rfl rfl)
theorem dX2_takesLaw_127 : decode cX2_takesLaw 127 = .ok (.iload_n 2, 1) := dk_28 (dk_at dksX2_takesLaw_5 11 rfl rfl)
theorem dX2_takesLaw_128 : decode cX2_takesLaw 128 = .ok (.iadd, 1) := dk_96 (dk_at dksX2_takesLaw_5 12 rfl rfl)
theorem dX2_takesLaw_129 : decode cX2_takesLaw 129 = .ok (.aload_n 0, 1) := dk_42 (dk_at dksX2_takesLaw_5 13 rfl rfl)
theorem dX2_takesLaw_130 : decode cX2_takesLaw 130 = .ok (.getfield 46, 3) := dk_180 0 46 (dk_at dksX2_takesLaw_5 14 rfl rfl)
theorem dX2_takesLaw_133 : decode cX2_takesLaw 133 = .ok (.sipush 800, 3) := dk_17 3 32 (dk_at dksX2_takesLaw_5 17 rfl rfl)
theorem dX2_takesLaw_136 : decode cX2_takesLaw 136 = .ok (.iload_n 2, 1) := dk_28 (dk_at dksX2_takesLaw_5 20 rfl rfl)
theorem dX2_takesLaw_137 : decode cX2_takesLaw 137 = .ok (.iadd, 1) := dk_96 (dk_at dksX2_takesLaw_5 21 rfl rfl)
theorem dX2_takesLaw_138 : decode cX2_takesLaw 138 = .ok (.iaload, 1) := dk_46 (dk_at dksX2_takesLaw_5 22 rfl rfl)
theorem dX2_takesLaw_139 : decode cX2_takesLaw 139 = .ok (.iastore, 1) := dk_79 (dk_at dksX2_takesLaw_5 23 rfl rfl)
theorem dX2_takesLaw_140 : decode cX2_takesLaw 140 = .ok (.aload_n 0, 1) := dk_42 (dk_at dksX2_takesLaw_6 0 rfl rfl)
theorem dX2_takesLaw_141 : decode cX2_takesLaw 141 = .ok (.getfield 49, 3) := dk_180 0 49 (dk_at dksX2_takesLaw_6 1 rfl rfl)
theorem dX2_takesLaw_144 : decode cX2_takesLaw 144 = .ok (.sipush 400, 3) := dk_17 1 144 (dk_at dksX2_takesLaw_6 4 rfl rfl)
theorem dX2_takesLaw_147 : decode cX2_takesLaw 147 = .ok (.aload_n 0, 1) := dk_42 (dk_at dksX2_takesLaw_6 7 rfl rfl)
theorem dX2_takesLaw_148 : decode cX2_takesLaw 148 = .ok (.getfield 216, 3) := dk_180 0 216 (dk_at dksX2_takesLaw_6 8 rfl rfl)
theorem dX2_takesLaw_151 : decode cX2_takesLaw 151 = .ok (.imul, 1) := dk_104 (dk_at dksX2_takesLaw_6 11 rfl rfl)
theorem dX2_takesLaw_152 : decode cX2_takesLaw 152 = .ok (.iload_n 2, 1) := dk_28 (dk_at dksX2_takesLaw_6 12 rfl rfl)
theorem dX2_takesLaw_153 : decode cX2_takesLaw 153 = .ok (.iadd, 1) := dk_96 (dk_at dksX2_takesLaw_6 13 rfl rfl)
theorem dX2_takesLaw_154 : decode cX2_takesLaw 154 = .ok (.aload_n 0, 1) := dk_42 (dk_at dksX2_takesLaw_6 14 rfl rfl)
theorem dX2_takesLaw_155 : decode cX2_takesLaw 155 = .ok (.getfield 49, 3) := dk_180 0 49 (dk_at dksX2_takesLaw_6 15 rfl rfl)
theorem dX2_takesLaw_158 : decode cX2_takesLaw 158 = .ok (.sipush 800, 3) := dk_17 3 32 (dk_at dksX2_takesLaw_6 18 rfl rfl)
theorem dX2_takesLaw_161 : decode cX2_takesLaw 161 = .ok (.iload_n 2, 1) := dk_28 (dk_at dksX2_takesLaw_6 21 rfl rfl)
theorem dX2_takesLaw_162 : decode cX2_takesLaw 162 = .ok (.iadd, 1) := dk_96 (dk_at dksX2_takesLaw_6 22 rfl rfl)
theorem dX2_takesLaw_163 : decode cX2_takesLaw 163 = .ok (.iaload, 1) := dk_46 (dk_at dksX2_takesLaw_6 23 rfl rfl)
theorem dX2_takesLaw_164 : decode cX2_takesLaw 164 = .ok (.iastore, 1) := dk_79 (dk_at dksX2_takesLaw_7 0 rfl rfl)
theorem dX2_takesLaw_165 : decode cX2_takesLaw 165 = .ok (.iinc 2 1, 3) := dk_132 2 1 (dk_at dksX2_takesLaw_7 1 rfl rfl)
theorem dX2_takesLaw_168 : decode cX2_takesLaw 168 = .ok (.goto (-61), 3) := dk_167 255 195 (dk_at dksX2_takesLaw_7 4 rfl rfl)
theorem dX2_takesLaw_171 : decode cX2_takesLaw 171 = .ok (.aload_n 0, 1) := dk_42 (dk_at dksX2_takesLaw_7 7 rfl rfl)
theorem dX2_takesLaw_172 : decode cX2_takesLaw 172 = .ok (.getfield 31, 3) := dk_180 0 31 (dk_at dksX2_takesLaw_7 8 rfl rfl)
theorem dX2_takesLaw_175 : decode cX2_takesLaw 175 = .ok (.aload_n 0, 1) := dk_42 (dk_at dksX2_takesLaw_7 11 rfl rfl)
theorem dX2_takesLaw_176 : decode cX2_takesLaw 176 = .ok (.getfield 216, 3) := dk_180 0 216 (dk_at dksX2_takesLaw_7 12 rfl rfl)
theorem dX2_takesLaw_179 : decode cX2_takesLaw 179 = .ok (.iload_n 1, 1) := dk_27 (dk_at dksX2_takesLaw_7 15 rfl rfl)
theorem dX2_takesLaw_180 : decode cX2_takesLaw 180 = .ok (.iastore, 1) := dk_79 (dk_at dksX2_takesLaw_7 16 rfl rfl)
theorem dX2_takesLaw_181 : decode cX2_takesLaw 181 = .ok (.return_, 1) := dk_177 (dk_at dksX2_takesLaw_7 17 rfl rfl)
abbrev cX2_takesOther : ByteArray := prog_21_method_61_code
def yX2_takesOther : MethodName := ⟨RX2, "takesOther", "(II)V"⟩
def dkwX2_takesOther_5 : List UInt8 := [42, 28, 181, 1, 11, 42, 3, 181, 0, 89, 177]
abbrev dktX2_takesOther_5 : List UInt8 := dkwX2_takesOther_5 ++ []
def dkwX2_takesOther_4 : List UInt8 := [162, 0, 24, 42, 180, 0, 65, 29, 42, 180, 0, 65, 16, 64, 29, 96, 46, 79, 132, 3, 1, 167, 255, 231]
abbrev dktX2_takesOther_4 : List UInt8 := dkwX2_takesOther_4 ++ dktX2_takesOther_5
def dkwX2_takesOther_3 : List UInt8 := [132, 3, 1, 167, 255, 231, 42, 28, 181, 1, 8, 27, 6, 160, 0, 43, 3, 62, 29, 7, 28, 104]
abbrev dktX2_takesOther_3 : List UInt8 := dkwX2_takesOther_3 ++ dktX2_takesOther_4
def dkwX2_takesOther_2 : List UInt8 := [29, 8, 28, 104, 162, 0, 24, 42, 180, 0, 62, 29, 42, 180, 0, 62, 16, 50, 29, 96, 46, 79]
abbrev dktX2_takesOther_2 : List UInt8 := dkwX2_takesOther_2 ++ dktX2_takesOther_3
def dkwX2_takesOther_1 : List UInt8 := [16, 48, 29, 96, 46, 79, 132, 3, 1, 167, 255, 231, 42, 28, 181, 1, 5, 27, 5, 160, 0, 38, 3, 62]
abbrev dktX2_takesOther_1 : List UInt8 := dkwX2_takesOther_1 ++ dktX2_takesOther_2
def dkwX2_takesOther_0 : List UInt8 := [27, 4, 160, 0, 38, 3, 62, 29, 6, 28, 104, 162, 0, 24, 42, 180, 0, 59, 29, 42, 180, 0, 59]
abbrev dktX2_takesOther_0 : List UInt8 := dkwX2_takesOther_0 ++ dktX2_takesOther_1
theorem dksX2_takesOther_0 : cX2_takesOther.data.toList.drop 0 = dktX2_takesOther_0 := by decide +kernel
theorem dksX2_takesOther_1 : cX2_takesOther.data.toList.drop 23 = dktX2_takesOther_1 := dk_seg dksX2_takesOther_0 23 rfl rfl
theorem dksX2_takesOther_2 : cX2_takesOther.data.toList.drop 47 = dktX2_takesOther_2 := dk_seg dksX2_takesOther_1 24 rfl rfl
theorem dksX2_takesOther_3 : cX2_takesOther.data.toList.drop 69 = dktX2_takesOther_3 := dk_seg dksX2_takesOther_2 22 rfl rfl
theorem dksX2_takesOther_4 : cX2_takesOther.data.toList.drop 91 = dktX2_takesOther_4 := dk_seg dksX2_takesOther_3 22 rfl rfl
theorem dksX2_takesOther_5 : cX2_takesOther.data.toList.drop 115 = dktX2_takesOther_5 := dk_seg dksX2_takesOther_4 24 rfl rfl
theorem dX2_takesOther_0 : decode cX2_takesOther 0 = .ok (.iload_n 1, 1) := dk_27 (dk_at dksX2_takesOther_0 0 rfl rfl)
theorem dX2_takesOther_1 : decode cX2_takesOther 1 = .ok (.iconst 1, 1) := dk_4 (dk_at dksX2_takesOther_0 1 rfl rfl)
theorem dX2_takesOther_2 : decode cX2_takesOther 2 = .ok (.if_icmp .ne 38, 3) := dk_160 0 38 (dk_at dksX2_takesOther_0 2 rfl rfl)
theorem dX2_takesOther_5 : decode cX2_takesOther 5 = .ok (.iconst 0, 1) := dk_3 (dk_at dksX2_takesOther_0 5 rfl rfl)
theorem dX2_takesOther_6 : decode cX2_takesOther 6 = .ok (.istore_n 3, 1) := dk_62 (dk_at dksX2_takesOther_0 6 rfl rfl)
theorem dX2_takesOther_7 : decode cX2_takesOther 7 = .ok (.iload_n 3, 1) := dk_29 (dk_at dksX2_takesOther_0 7 rfl rfl)
theorem dX2_takesOther_8 : decode cX2_takesOther 8 = .ok (.iconst 3, 1) := dk_6 (dk_at dksX2_takesOther_0 8 rfl rfl)
theorem dX2_takesOther_9 : decode cX2_takesOther 9 = .ok (.iload_n 2, 1) := dk_28 (dk_at dksX2_takesOther_0 9 rfl rfl)
theorem dX2_takesOther_10 : decode cX2_takesOther 10 = .ok (.imul, 1) := dk_104 (dk_at dksX2_takesOther_0 10 rfl rfl)
theorem dX2_takesOther_11 : decode cX2_takesOther 11 = .ok (.if_icmp .ge 24, 3) := dk_162 0 24 (dk_at dksX2_takesOther_0 11 rfl rfl)
theorem dX2_takesOther_14 : decode cX2_takesOther 14 = .ok (.aload_n 0, 1) := dk_42 (dk_at dksX2_takesOther_0 14 rfl rfl)
theorem dX2_takesOther_15 : decode cX2_takesOther 15 = .ok (.getfield 59, 3) := dk_180 0 59 (dk_at dksX2_takesOther_0 15 rfl rfl)
theorem dX2_takesOther_18 : decode cX2_takesOther 18 = .ok (.iload_n 3, 1) := dk_29 (dk_at dksX2_takesOther_0 18 rfl rfl)
theorem dX2_takesOther_19 : decode cX2_takesOther 19 = .ok (.aload_n 0, 1) := dk_42 (dk_at dksX2_takesOther_0 19 rfl rfl)
theorem dX2_takesOther_20 : decode cX2_takesOther 20 = .ok (.getfield 59, 3) := dk_180 0 59 (dk_at dksX2_takesOther_0 20 rfl rfl)
theorem dX2_takesOther_23 : decode cX2_takesOther 23 = .ok (.bipush 48, 2) := dk_16 48 (dk_at dksX2_takesOther_1 0 rfl rfl)
theorem dX2_takesOther_25 : decode cX2_takesOther 25 = .ok (.iload_n 3, 1) := dk_29 (dk_at dksX2_takesOther_1 2 rfl rfl)
theorem dX2_takesOther_26 : decode cX2_takesOther 26 = .ok (.iadd, 1) := dk_96 (dk_at dksX2_takesOther_1 3 rfl rfl)
theorem dX2_takesOther_27 : decode cX2_takesOther 27 = .ok (.iaload, 1) := dk_46 (dk_at dksX2_takesOther_1 4 rfl rfl)
theorem dX2_takesOther_28 : decode cX2_takesOther 28 = .ok (.iastore, 1) := dk_79 (dk_at dksX2_takesOther_1 5 rfl rfl)
theorem dX2_takesOther_29 : decode cX2_takesOther 29 = .ok (.iinc 3 1, 3) := dk_132 3 1 (dk_at dksX2_takesOther_1 6 rfl rfl)
theorem dX2_takesOther_32 : decode cX2_takesOther 32 = .ok (.goto (-25), 3) := dk_167 255 231 (dk_at dksX2_takesOther_1 9 rfl rfl)
theorem dX2_takesOther_35 : decode cX2_takesOther 35 = .ok (.aload_n 0, 1) := dk_42 (dk_at dksX2_takesOther_1 12 rfl rfl)
theorem dX2_takesOther_36 : decode cX2_takesOther 36 = .ok (.iload_n 2, 1) := dk_28 (dk_at dksX2_takesOther_1 13 rfl rfl)
theorem dX2_takesOther_37 : decode cX2_takesOther 37 = .ok (.putfield 261, 3) := dk_181 1 5 (dk_at dksX2_takesOther_1 14 rfl rfl)
theorem dX2_takesOther_40 : decode cX2_takesOther 40 = .ok (.iload_n 1, 1) := dk_27 (dk_at dksX2_takesOther_1 17 rfl rfl)
theorem dX2_takesOther_41 : decode cX2_takesOther 41 = .ok (.iconst 2, 1) := dk_5 (dk_at dksX2_takesOther_1 18 rfl rfl)
theorem dX2_takesOther_42 : decode cX2_takesOther 42 = .ok (.if_icmp .ne 38, 3) := dk_160 0 38 (dk_at dksX2_takesOther_1 19 rfl rfl)
theorem dX2_takesOther_45 : decode cX2_takesOther 45 = .ok (.iconst 0, 1) := dk_3 (dk_at dksX2_takesOther_1 22 rfl rfl)
theorem dX2_takesOther_46 : decode cX2_takesOther 46 = .ok (.istore_n 3, 1) := dk_62 (dk_at dksX2_takesOther_1 23 rfl rfl)
theorem dX2_takesOther_47 : decode cX2_takesOther 47 = .ok (.iload_n 3, 1) := dk_29 (dk_at dksX2_takesOther_2 0 rfl rfl)
theorem dX2_takesOther_48 : decode cX2_takesOther 48 = .ok (.iconst 5, 1) := dk_8 (dk_at dksX2_takesOther_2 1 rfl rfl)
theorem dX2_takesOther_49 : decode cX2_takesOther 49 = .ok (.iload_n 2, 1) := dk_28 (dk_at dksX2_takesOther_2 2 rfl rfl)
theorem dX2_takesOther_50 : decode cX2_takesOther 50 = .ok (.imul, 1) := dk_104 (dk_at dksX2_takesOther_2 3 rfl rfl)
theorem dX2_takesOther_51 : decode cX2_takesOther 51 = .ok (.if_icmp .ge 24, 3) := dk_162 0 24 (dk_at dksX2_takesOther_2 4 rfl rfl)
theorem dX2_takesOther_54 : decode cX2_takesOther 54 = .ok (.aload_n 0, 1) := dk_42 (dk_at dksX2_takesOther_2 7 rfl rfl)
theorem dX2_takesOther_55 : decode cX2_takesOther 55 = .ok (.getfield 62, 3) := dk_180 0 62 (dk_at dksX2_takesOther_2 8 rfl rfl)
theorem dX2_takesOther_58 : decode cX2_takesOther 58 = .ok (.iload_n 3, 1) := dk_29 (dk_at dksX2_takesOther_2 11 rfl rfl)
theorem dX2_takesOther_59 : decode cX2_takesOther 59 = .ok (.aload_n 0, 1) := dk_42 (dk_at dksX2_takesOther_2 12 rfl rfl)
theorem dX2_takesOther_60 : decode cX2_takesOther 60 = .ok (.getfield 62, 3) := dk_180 0 62 (dk_at dksX2_takesOther_2 13 rfl rfl)
theorem dX2_takesOther_63 : decode cX2_takesOther 63 = .ok (.bipush 50, 2) := dk_16 50 (dk_at dksX2_takesOther_2 16 rfl rfl)
theorem dX2_takesOther_65 : decode cX2_takesOther 65 = .ok (.iload_n 3, 1) := dk_29 (dk_at dksX2_takesOther_2 18 rfl rfl)
theorem dX2_takesOther_66 : decode cX2_takesOther 66 = .ok (.iadd, 1) := dk_96 (dk_at dksX2_takesOther_2 19 rfl rfl)
theorem dX2_takesOther_67 : decode cX2_takesOther 67 = .ok (.iaload, 1) := dk_46 (dk_at dksX2_takesOther_2 20 rfl rfl)
theorem dX2_takesOther_68 : decode cX2_takesOther 68 = .ok (.iastore, 1) := dk_79 (dk_at dksX2_takesOther_2 21 rfl rfl)
theorem dX2_takesOther_69 : decode cX2_takesOther 69 = .ok (.iinc 3 1, 3) := dk_132 3 1 (dk_at dksX2_takesOther_3 0 rfl rfl)
theorem dX2_takesOther_72 : decode cX2_takesOther 72 = .ok (.goto (-25), 3) := dk_167 255 231 (dk_at dksX2_takesOther_3 3 rfl rfl)
theorem dX2_takesOther_75 : decode cX2_takesOther 75 = .ok (.aload_n 0, 1) := dk_42 (dk_at dksX2_takesOther_3 6 rfl rfl)
theorem dX2_takesOther_76 : decode cX2_takesOther 76 = .ok (.iload_n 2, 1) := dk_28 (dk_at dksX2_takesOther_3 7 rfl rfl)
theorem dX2_takesOther_77 : decode cX2_takesOther 77 = .ok (.putfield 264, 3) := dk_181 1 8 (dk_at dksX2_takesOther_3 8 rfl rfl)
theorem dX2_takesOther_80 : decode cX2_takesOther 80 = .ok (.iload_n 1, 1) := dk_27 (dk_at dksX2_takesOther_3 11 rfl rfl)
theorem dX2_takesOther_81 : decode cX2_takesOther 81 = .ok (.iconst 3, 1) := dk_6 (dk_at dksX2_takesOther_3 12 rfl rfl)
theorem dX2_takesOther_82 : decode cX2_takesOther 82 = .ok (.if_icmp .ne 43, 3) := dk_160 0 43 (dk_at dksX2_takesOther_3 13 rfl rfl)
theorem dX2_takesOther_85 : decode cX2_takesOther 85 = .ok (.iconst 0, 1) := dk_3 (dk_at dksX2_takesOther_3 16 rfl rfl)
theorem dX2_takesOther_86 : decode cX2_takesOther 86 = .ok (.istore_n 3, 1) := dk_62 (dk_at dksX2_takesOther_3 17 rfl rfl)
theorem dX2_takesOther_87 : decode cX2_takesOther 87 = .ok (.iload_n 3, 1) := dk_29 (dk_at dksX2_takesOther_3 18 rfl rfl)
theorem dX2_takesOther_88 : decode cX2_takesOther 88 = .ok (.iconst 4, 1) := dk_7 (dk_at dksX2_takesOther_3 19 rfl rfl)
theorem dX2_takesOther_89 : decode cX2_takesOther 89 = .ok (.iload_n 2, 1) := dk_28 (dk_at dksX2_takesOther_3 20 rfl rfl)
theorem dX2_takesOther_90 : decode cX2_takesOther 90 = .ok (.imul, 1) := dk_104 (dk_at dksX2_takesOther_3 21 rfl rfl)
theorem dX2_takesOther_91 : decode cX2_takesOther 91 = .ok (.if_icmp .ge 24, 3) := dk_162 0 24 (dk_at dksX2_takesOther_4 0 rfl rfl)
theorem dX2_takesOther_94 : decode cX2_takesOther 94 = .ok (.aload_n 0, 1) := dk_42 (dk_at dksX2_takesOther_4 3 rfl rfl)
theorem dX2_takesOther_95 : decode cX2_takesOther 95 = .ok (.getfield 65, 3) := dk_180 0 65 (dk_at dksX2_takesOther_4 4 rfl rfl)
theorem dX2_takesOther_98 : decode cX2_takesOther 98 = .ok (.iload_n 3, 1) := dk_29 (dk_at dksX2_takesOther_4 7 rfl rfl)
theorem dX2_takesOther_99 : decode cX2_takesOther 99 = .ok (.aload_n 0, 1) := dk_42 (dk_at dksX2_takesOther_4 8 rfl rfl)
theorem dX2_takesOther_100 : decode cX2_takesOther 100 = .ok (.getfield 65, 3) := dk_180 0 65 (dk_at dksX2_takesOther_4 9 rfl rfl)
theorem dX2_takesOther_103 : decode cX2_takesOther 103 = .ok (.bipush 64, 2) := dk_16 64 (dk_at dksX2_takesOther_4 12 rfl rfl)
theorem dX2_takesOther_105 : decode cX2_takesOther 105 = .ok (.iload_n 3, 1) := dk_29 (dk_at dksX2_takesOther_4 14 rfl rfl)
theorem dX2_takesOther_106 : decode cX2_takesOther 106 = .ok (.iadd, 1) := dk_96 (dk_at dksX2_takesOther_4 15 rfl rfl)
theorem dX2_takesOther_107 : decode cX2_takesOther 107 = .ok (.iaload, 1) := dk_46 (dk_at dksX2_takesOther_4 16 rfl rfl)
theorem dX2_takesOther_108 : decode cX2_takesOther 108 = .ok (.iastore, 1) := dk_79 (dk_at dksX2_takesOther_4 17 rfl rfl)
theorem dX2_takesOther_109 : decode cX2_takesOther 109 = .ok (.iinc 3 1, 3) := dk_132 3 1 (dk_at dksX2_takesOther_4 18 rfl rfl)
theorem dX2_takesOther_112 : decode cX2_takesOther 112 = .ok (.goto (-25), 3) := dk_167 255 231 (dk_at dksX2_takesOther_4 21 rfl rfl)
theorem dX2_takesOther_115 : decode cX2_takesOther 115 = .ok (.aload_n 0, 1) := dk_42 (dk_at dksX2_takesOther_5 0 rfl rfl)
theorem dX2_takesOther_116 : decode cX2_takesOther 116 = .ok (.iload_n 2, 1) := dk_28 (dk_at dksX2_takesOther_5 1 rfl rfl)
theorem dX2_takesOther_117 : decode cX2_takesOther 117 = .ok (.putfield 267, 3) := dk_181 1 11 (dk_at dksX2_takesOther_5 2 rfl rfl)
theorem dX2_takesOther_120 : decode cX2_takesOther 120 = .ok (.aload_n 0, 1) := dk_42 (dk_at dksX2_takesOther_5 5 rfl rfl)
theorem dX2_takesOther_121 : decode cX2_takesOther 121 = .ok (.iconst 0, 1) := dk_3 (dk_at dksX2_takesOther_5 6 rfl rfl)
theorem dX2_takesOther_122 : decode cX2_takesOther 122 = .ok (.putfield 89, 3) := dk_181 0 89 (dk_at dksX2_takesOther_5 7 rfl rfl)
theorem dX2_takesOther_125 : decode cX2_takesOther 125 = .ok (.return_, 1) := dk_177 (dk_at dksX2_takesOther_5 10 rfl rfl)
abbrev cX2_fault : ByteArray := prog_21_method_63_code
def yX2_fault : MethodName := ⟨RX2, "fault", "(I)I"⟩
def dkwX2_fault_1 : List UInt8 := [180, 0, 55, 167, 0, 4, 2, 172]
abbrev dktX2_fault_1 : List UInt8 := dkwX2_fault_1 ++ []
def dkwX2_fault_0 : List UInt8 := [42, 3, 181, 0, 86, 27, 154, 0, 10, 42, 180, 1, 14, 167, 0, 16, 27, 4, 160, 0, 10, 42]
abbrev dktX2_fault_0 : List UInt8 := dkwX2_fault_0 ++ dktX2_fault_1
theorem dksX2_fault_0 : cX2_fault.data.toList.drop 0 = dktX2_fault_0 := by decide +kernel
theorem dksX2_fault_1 : cX2_fault.data.toList.drop 22 = dktX2_fault_1 := dk_seg dksX2_fault_0 22 rfl rfl
theorem dX2_fault_0 : decode cX2_fault 0 = .ok (.aload_n 0, 1) := dk_42 (dk_at dksX2_fault_0 0 rfl rfl)
theorem dX2_fault_1 : decode cX2_fault 1 = .ok (.iconst 0, 1) := dk_3 (dk_at dksX2_fault_0 1 rfl rfl)
theorem dX2_fault_2 : decode cX2_fault 2 = .ok (.putfield 86, 3) := dk_181 0 86 (dk_at dksX2_fault_0 2 rfl rfl)
theorem dX2_fault_5 : decode cX2_fault 5 = .ok (.iload_n 1, 1) := dk_27 (dk_at dksX2_fault_0 5 rfl rfl)
theorem dX2_fault_6 : decode cX2_fault 6 = .ok (.ifCond .ne 10, 3) := dk_154 0 10 (dk_at dksX2_fault_0 6 rfl rfl)
theorem dX2_fault_9 : decode cX2_fault 9 = .ok (.aload_n 0, 1) := dk_42 (dk_at dksX2_fault_0 9 rfl rfl)
theorem dX2_fault_10 : decode cX2_fault 10 = .ok (.getfield 270, 3) := dk_180 1 14 (dk_at dksX2_fault_0 10 rfl rfl)
theorem dX2_fault_13 : decode cX2_fault 13 = .ok (.goto 16, 3) := dk_167 0 16 (dk_at dksX2_fault_0 13 rfl rfl)
theorem dX2_fault_16 : decode cX2_fault 16 = .ok (.iload_n 1, 1) := dk_27 (dk_at dksX2_fault_0 16 rfl rfl)
theorem dX2_fault_17 : decode cX2_fault 17 = .ok (.iconst 1, 1) := dk_4 (dk_at dksX2_fault_0 17 rfl rfl)
theorem dX2_fault_18 : decode cX2_fault 18 = .ok (.if_icmp .ne 10, 3) := dk_160 0 10 (dk_at dksX2_fault_0 18 rfl rfl)
theorem dX2_fault_21 : decode cX2_fault 21 = .ok (.aload_n 0, 1) := dk_42 (dk_at dksX2_fault_0 21 rfl rfl)
theorem dX2_fault_22 : decode cX2_fault 22 = .ok (.getfield 55, 3) := dk_180 0 55 (dk_at dksX2_fault_1 0 rfl rfl)
theorem dX2_fault_25 : decode cX2_fault 25 = .ok (.goto 4, 3) := dk_167 0 4 (dk_at dksX2_fault_1 3 rfl rfl)
theorem dX2_fault_28 : decode cX2_fault 28 = .ok (.iconst (-1), 1) := dk_2 (dk_at dksX2_fault_1 6 rfl rfl)
theorem dX2_fault_29 : decode cX2_fault 29 = .ok (.ireturn, 1) := dk_172 (dk_at dksX2_fault_1 7 rfl rfl)
abbrev cX2_call : ByteArray := prog_21_method_81_code
def yX2_call : MethodName := ⟨RX2, "call", "(II)I"⟩
def dkwX2_call_1 : List UInt8 := [182, 1, 76, 172]
abbrev dktX2_call_1 : List UInt8 := dkwX2_call_1 ++ []
def dkwX2_call_0 : List UInt8 := [42, 3, 181, 0, 86, 42, 27, 28, 182, 1, 69, 154, 0, 5, 2, 172, 42, 182, 1, 73, 42, 27, 28, 3]
abbrev dktX2_call_0 : List UInt8 := dkwX2_call_0 ++ dktX2_call_1
theorem dksX2_call_0 : cX2_call.data.toList.drop 0 = dktX2_call_0 := by decide +kernel
theorem dksX2_call_1 : cX2_call.data.toList.drop 24 = dktX2_call_1 := dk_seg dksX2_call_0 24 rfl rfl
theorem dX2_call_0 : decode cX2_call 0 = .ok (.aload_n 0, 1) := dk_42 (dk_at dksX2_call_0 0 rfl rfl)
theorem dX2_call_1 : decode cX2_call 1 = .ok (.iconst 0, 1) := dk_3 (dk_at dksX2_call_0 1 rfl rfl)
theorem dX2_call_2 : decode cX2_call 2 = .ok (.putfield 86, 3) := dk_181 0 86 (dk_at dksX2_call_0 2 rfl rfl)
theorem dX2_call_5 : decode cX2_call 5 = .ok (.aload_n 0, 1) := dk_42 (dk_at dksX2_call_0 5 rfl rfl)
theorem dX2_call_6 : decode cX2_call 6 = .ok (.iload_n 1, 1) := dk_27 (dk_at dksX2_call_0 6 rfl rfl)
theorem dX2_call_7 : decode cX2_call 7 = .ok (.iload_n 2, 1) := dk_28 (dk_at dksX2_call_0 7 rfl rfl)
theorem dX2_call_8 : decode cX2_call 8 = .ok (.invokevirtual 325, 3) := dk_182 1 69 (dk_at dksX2_call_0 8 rfl rfl)
theorem dX2_call_11 : decode cX2_call 11 = .ok (.ifCond .ne 5, 3) := dk_154 0 5 (dk_at dksX2_call_0 11 rfl rfl)
theorem dX2_call_14 : decode cX2_call 14 = .ok (.iconst (-1), 1) := dk_2 (dk_at dksX2_call_0 14 rfl rfl)
theorem dX2_call_15 : decode cX2_call 15 = .ok (.ireturn, 1) := dk_172 (dk_at dksX2_call_0 15 rfl rfl)
theorem dX2_call_16 : decode cX2_call 16 = .ok (.aload_n 0, 1) := dk_42 (dk_at dksX2_call_0 16 rfl rfl)
theorem dX2_call_17 : decode cX2_call 17 = .ok (.invokevirtual 329, 3) := dk_182 1 73 (dk_at dksX2_call_0 17 rfl rfl)
theorem dX2_call_20 : decode cX2_call 20 = .ok (.aload_n 0, 1) := dk_42 (dk_at dksX2_call_0 20 rfl rfl)
theorem dX2_call_21 : decode cX2_call 21 = .ok (.iload_n 1, 1) := dk_27 (dk_at dksX2_call_0 21 rfl rfl)
theorem dX2_call_22 : decode cX2_call 22 = .ok (.iload_n 2, 1) := dk_28 (dk_at dksX2_call_0 22 rfl rfl)
theorem dX2_call_23 : decode cX2_call 23 = .ok (.iconst 0, 1) := dk_3 (dk_at dksX2_call_0 23 rfl rfl)
theorem dX2_call_24 : decode cX2_call 24 = .ok (.invokevirtual 332, 3) := dk_182 1 76 (dk_at dksX2_call_1 0 rfl rfl)
theorem dX2_call_27 : decode cX2_call 27 = .ok (.ireturn, 1) := dk_172 (dk_at dksX2_call_1 3 rfl rfl)
abbrev cX2_canCall : ByteArray := prog_21_method_76_code
def yX2_canCall : MethodName := ⟨RX2, "canCall", "(II)Z"⟩
def dkwX2_canCall_1 : List UInt8 := [42, 180, 0, 7, 16, 69, 27, 96, 46, 28, 160, 0, 7, 4, 167, 0, 4, 3, 172]
abbrev dktX2_canCall_1 : List UInt8 := dkwX2_canCall_1 ++ []
def dkwX2_canCall_0 : List UInt8 := [42, 27, 182, 1, 56, 153, 0, 36, 42, 28, 182, 0, 106, 153, 0, 28, 42, 27, 182, 1, 59, 153, 0, 16]
abbrev dktX2_canCall_0 : List UInt8 := dkwX2_canCall_0 ++ dktX2_canCall_1
theorem dksX2_canCall_0 : cX2_canCall.data.toList.drop 0 = dktX2_canCall_0 := by decide +kernel
theorem dksX2_canCall_1 : cX2_canCall.data.toList.drop 24 = dktX2_canCall_1 := dk_seg dksX2_canCall_0 24 rfl rfl
theorem dX2_canCall_0 : decode cX2_canCall 0 = .ok (.aload_n 0, 1) := dk_42 (dk_at dksX2_canCall_0 0 rfl rfl)
theorem dX2_canCall_1 : decode cX2_canCall 1 = .ok (.iload_n 1, 1) := dk_27 (dk_at dksX2_canCall_0 1 rfl rfl)
theorem dX2_canCall_2 : decode cX2_canCall 2 = .ok (.invokevirtual 312, 3) := dk_182 1 56 (dk_at dksX2_canCall_0 2 rfl rfl)
theorem dX2_canCall_5 : decode cX2_canCall 5 = .ok (.ifCond .eq 36, 3) := dk_153 0 36 (dk_at dksX2_canCall_0 5 rfl rfl)
theorem dX2_canCall_8 : decode cX2_canCall 8 = .ok (.aload_n 0, 1) := dk_42 (dk_at dksX2_canCall_0 8 rfl rfl)
theorem dX2_canCall_9 : decode cX2_canCall 9 = .ok (.iload_n 2, 1) := dk_28 (dk_at dksX2_canCall_0 9 rfl rfl)
theorem dX2_canCall_10 : decode cX2_canCall 10 = .ok (.invokevirtual 106, 3) := dk_182 0 106 (dk_at dksX2_canCall_0 10 rfl rfl)
theorem dX2_canCall_13 : decode cX2_canCall 13 = .ok (.ifCond .eq 28, 3) := dk_153 0 28 (dk_at dksX2_canCall_0 13 rfl rfl)
theorem dX2_canCall_16 : decode cX2_canCall 16 = .ok (.aload_n 0, 1) := dk_42 (dk_at dksX2_canCall_0 16 rfl rfl)
theorem dX2_canCall_17 : decode cX2_canCall 17 = .ok (.iload_n 1, 1) := dk_27 (dk_at dksX2_canCall_0 17 rfl rfl)
theorem dX2_canCall_18 : decode cX2_canCall 18 = .ok (.invokevirtual 315, 3) := dk_182 1 59 (dk_at dksX2_canCall_0 18 rfl rfl)
theorem dX2_canCall_21 : decode cX2_canCall 21 = .ok (.ifCond .eq 16, 3) := dk_153 0 16 (dk_at dksX2_canCall_0 21 rfl rfl)
theorem dX2_canCall_24 : decode cX2_canCall 24 = .ok (.aload_n 0, 1) := dk_42 (dk_at dksX2_canCall_1 0 rfl rfl)
theorem dX2_canCall_25 : decode cX2_canCall 25 = .ok (.getfield 7, 3) := dk_180 0 7 (dk_at dksX2_canCall_1 1 rfl rfl)
theorem dX2_canCall_28 : decode cX2_canCall 28 = .ok (.bipush 69, 2) := dk_16 69 (dk_at dksX2_canCall_1 4 rfl rfl)
theorem dX2_canCall_30 : decode cX2_canCall 30 = .ok (.iload_n 1, 1) := dk_27 (dk_at dksX2_canCall_1 6 rfl rfl)
theorem dX2_canCall_31 : decode cX2_canCall 31 = .ok (.iadd, 1) := dk_96 (dk_at dksX2_canCall_1 7 rfl rfl)
theorem dX2_canCall_32 : decode cX2_canCall 32 = .ok (.iaload, 1) := dk_46 (dk_at dksX2_canCall_1 8 rfl rfl)
theorem dX2_canCall_33 : decode cX2_canCall 33 = .ok (.iload_n 2, 1) := dk_28 (dk_at dksX2_canCall_1 9 rfl rfl)
theorem dX2_canCall_34 : decode cX2_canCall 34 = .ok (.if_icmp .ne 7, 3) := dk_160 0 7 (dk_at dksX2_canCall_1 10 rfl rfl)
theorem dX2_canCall_37 : decode cX2_canCall 37 = .ok (.iconst 1, 1) := dk_4 (dk_at dksX2_canCall_1 13 rfl rfl)
theorem dX2_canCall_38 : decode cX2_canCall 38 = .ok (.goto 4, 3) := dk_167 0 4 (dk_at dksX2_canCall_1 14 rfl rfl)
theorem dX2_canCall_41 : decode cX2_canCall 41 = .ok (.iconst 0, 1) := dk_3 (dk_at dksX2_canCall_1 17 rfl rfl)
theorem dX2_canCall_42 : decode cX2_canCall 42 = .ok (.ireturn, 1) := dk_172 (dk_at dksX2_canCall_1 18 rfl rfl)
abbrev cX2_isOne : ByteArray := prog_21_method_13_code
def yX2_isOne : MethodName := ⟨RX2, "isOne", "(I)Z"⟩
def dkwX2_isOne_0 : List UInt8 := [27, 155, 0, 17, 27, 42, 180, 0, 7, 7, 46, 162, 0, 7, 4, 167, 0, 4, 3, 172]
abbrev dktX2_isOne_0 : List UInt8 := dkwX2_isOne_0 ++ []
theorem dksX2_isOne_0 : cX2_isOne.data.toList.drop 0 = dktX2_isOne_0 := by decide +kernel
theorem dX2_isOne_0 : decode cX2_isOne 0 = .ok (.iload_n 1, 1) := dk_27 (dk_at dksX2_isOne_0 0 rfl rfl)
theorem dX2_isOne_1 : decode cX2_isOne 1 = .ok (.ifCond .lt 17, 3) := dk_155 0 17 (dk_at dksX2_isOne_0 1 rfl rfl)
theorem dX2_isOne_4 : decode cX2_isOne 4 = .ok (.iload_n 1, 1) := dk_27 (dk_at dksX2_isOne_0 4 rfl rfl)
theorem dX2_isOne_5 : decode cX2_isOne 5 = .ok (.aload_n 0, 1) := dk_42 (dk_at dksX2_isOne_0 5 rfl rfl)
theorem dX2_isOne_6 : decode cX2_isOne 6 = .ok (.getfield 7, 3) := dk_180 0 7 (dk_at dksX2_isOne_0 6 rfl rfl)
theorem dX2_isOne_9 : decode cX2_isOne 9 = .ok (.iconst 4, 1) := dk_7 (dk_at dksX2_isOne_0 9 rfl rfl)
theorem dX2_isOne_10 : decode cX2_isOne 10 = .ok (.iaload, 1) := dk_46 (dk_at dksX2_isOne_0 10 rfl rfl)
theorem dX2_isOne_11 : decode cX2_isOne 11 = .ok (.if_icmp .ge 7, 3) := dk_162 0 7 (dk_at dksX2_isOne_0 11 rfl rfl)
theorem dX2_isOne_14 : decode cX2_isOne 14 = .ok (.iconst 1, 1) := dk_4 (dk_at dksX2_isOne_0 14 rfl rfl)
theorem dX2_isOne_15 : decode cX2_isOne 15 = .ok (.goto 4, 3) := dk_167 0 4 (dk_at dksX2_isOne_0 15 rfl rfl)
theorem dX2_isOne_18 : decode cX2_isOne 18 = .ok (.iconst 0, 1) := dk_3 (dk_at dksX2_isOne_0 18 rfl rfl)
theorem dX2_isOne_19 : decode cX2_isOne 19 = .ok (.ireturn, 1) := dk_172 (dk_at dksX2_isOne_0 19 rfl rfl)
abbrev cX2_isDead : ByteArray := prog_21_method_15_code
def yX2_isDead : MethodName := ⟨RX2, "isDead", "(I)Z"⟩
def dkwX2_isDead_0 : List UInt8 := [42, 180, 0, 7, 16, 81, 27, 96, 46, 4, 160, 0, 7, 4, 167, 0, 4, 3, 172]
abbrev dktX2_isDead_0 : List UInt8 := dkwX2_isDead_0 ++ []
theorem dksX2_isDead_0 : cX2_isDead.data.toList.drop 0 = dktX2_isDead_0 := by decide +kernel
theorem dX2_isDead_0 : decode cX2_isDead 0 = .ok (.aload_n 0, 1) := dk_42 (dk_at dksX2_isDead_0 0 rfl rfl)
theorem dX2_isDead_1 : decode cX2_isDead 1 = .ok (.getfield 7, 3) := dk_180 0 7 (dk_at dksX2_isDead_0 1 rfl rfl)
theorem dX2_isDead_4 : decode cX2_isDead 4 = .ok (.bipush 81, 2) := dk_16 81 (dk_at dksX2_isDead_0 4 rfl rfl)
theorem dX2_isDead_6 : decode cX2_isDead 6 = .ok (.iload_n 1, 1) := dk_27 (dk_at dksX2_isDead_0 6 rfl rfl)
theorem dX2_isDead_7 : decode cX2_isDead 7 = .ok (.iadd, 1) := dk_96 (dk_at dksX2_isDead_0 7 rfl rfl)
theorem dX2_isDead_8 : decode cX2_isDead 8 = .ok (.iaload, 1) := dk_46 (dk_at dksX2_isDead_0 8 rfl rfl)
theorem dX2_isDead_9 : decode cX2_isDead 9 = .ok (.iconst 1, 1) := dk_4 (dk_at dksX2_isDead_0 9 rfl rfl)
theorem dX2_isDead_10 : decode cX2_isDead 10 = .ok (.if_icmp .ne 7, 3) := dk_160 0 7 (dk_at dksX2_isDead_0 10 rfl rfl)
theorem dX2_isDead_13 : decode cX2_isDead 13 = .ok (.iconst 1, 1) := dk_4 (dk_at dksX2_isDead_0 13 rfl rfl)
theorem dX2_isDead_14 : decode cX2_isDead 14 = .ok (.goto 4, 3) := dk_167 0 4 (dk_at dksX2_isDead_0 14 rfl rfl)
theorem dX2_isDead_17 : decode cX2_isDead 17 = .ok (.iconst 0, 1) := dk_3 (dk_at dksX2_isDead_0 17 rfl rfl)
theorem dX2_isDead_18 : decode cX2_isDead 18 = .ok (.ireturn, 1) := dk_172 (dk_at dksX2_isDead_0 18 rfl rfl)
abbrev cX2_keepsAhead : ByteArray := prog_21_method_7_code
def yX2_keepsAhead : MethodName := ⟨RX2, "keepsAhead", "()V"⟩
def dkwX2_keepsAhead_4 : List UInt8 := [181, 0, 89, 177]
abbrev dktX2_keepsAhead_4 : List UInt8 := dkwX2_keepsAhead_4 ++ []
def dkwX2_keepsAhead_3 : List UInt8 := [104, 27, 96, 42, 180, 0, 7, 27, 46, 79, 132, 1, 1, 167, 255, 227, 42, 42, 180, 0, 89, 4, 96]
abbrev dktX2_keepsAhead_3 : List UInt8 := dkwX2_keepsAhead_3 ++ dktX2_keepsAhead_4
def dkwX2_keepsAhead_2 : List UInt8 := [132, 1, 1, 167, 255, 227, 3, 60, 27, 16, 105, 162, 0, 29, 42, 180, 0, 13, 16, 105, 42, 180, 0, 89]
abbrev dktX2_keepsAhead_2 : List UInt8 := dkwX2_keepsAhead_2 ++ dktX2_keepsAhead_3
def dkwX2_keepsAhead_1 : List UInt8 := [42, 180, 0, 89, 104, 162, 0, 24, 42, 180, 0, 13, 27, 42, 180, 0, 13, 27, 16, 105, 96, 46, 79]
abbrev dktX2_keepsAhead_1 : List UInt8 := dkwX2_keepsAhead_1 ++ dktX2_keepsAhead_2
def dkwX2_keepsAhead_0 : List UInt8 := [42, 180, 0, 89, 16, 6, 160, 0, 47, 42, 42, 180, 0, 89, 4, 100, 181, 0, 89, 3, 60, 27, 16, 105]
abbrev dktX2_keepsAhead_0 : List UInt8 := dkwX2_keepsAhead_0 ++ dktX2_keepsAhead_1
theorem dksX2_keepsAhead_0 : cX2_keepsAhead.data.toList.drop 0 = dktX2_keepsAhead_0 := by decide +kernel
theorem dksX2_keepsAhead_1 : cX2_keepsAhead.data.toList.drop 24 = dktX2_keepsAhead_1 := dk_seg dksX2_keepsAhead_0 24 rfl rfl
theorem dksX2_keepsAhead_2 : cX2_keepsAhead.data.toList.drop 47 = dktX2_keepsAhead_2 := dk_seg dksX2_keepsAhead_1 23 rfl rfl
theorem dksX2_keepsAhead_3 : cX2_keepsAhead.data.toList.drop 71 = dktX2_keepsAhead_3 := dk_seg dksX2_keepsAhead_2 24 rfl rfl
theorem dksX2_keepsAhead_4 : cX2_keepsAhead.data.toList.drop 94 = dktX2_keepsAhead_4 := dk_seg dksX2_keepsAhead_3 23 rfl rfl
theorem dX2_keepsAhead_0 : decode cX2_keepsAhead 0 = .ok (.aload_n 0, 1) := dk_42 (dk_at dksX2_keepsAhead_0 0 rfl rfl)
theorem dX2_keepsAhead_1 : decode cX2_keepsAhead 1 = .ok (.getfield 89, 3) := dk_180 0 89 (dk_at dksX2_keepsAhead_0 1 rfl rfl)
theorem dX2_keepsAhead_4 : decode cX2_keepsAhead 4 = .ok (.bipush 6, 2) := dk_16 6 (dk_at dksX2_keepsAhead_0 4 rfl rfl)
theorem dX2_keepsAhead_6 : decode cX2_keepsAhead 6 = .ok (.if_icmp .ne 47, 3) := dk_160 0 47 (dk_at dksX2_keepsAhead_0 6 rfl rfl)
theorem dX2_keepsAhead_9 : decode cX2_keepsAhead 9 = .ok (.aload_n 0, 1) := dk_42 (dk_at dksX2_keepsAhead_0 9 rfl rfl)
theorem dX2_keepsAhead_10 : decode cX2_keepsAhead 10 = .ok (.aload_n 0, 1) := dk_42 (dk_at dksX2_keepsAhead_0 10 rfl rfl)
theorem dX2_keepsAhead_11 : decode cX2_keepsAhead 11 = .ok (.getfield 89, 3) := dk_180 0 89 (dk_at dksX2_keepsAhead_0 11 rfl rfl)
theorem dX2_keepsAhead_14 : decode cX2_keepsAhead 14 = .ok (.iconst 1, 1) := dk_4 (dk_at dksX2_keepsAhead_0 14 rfl rfl)
theorem dX2_keepsAhead_15 : decode cX2_keepsAhead 15 = .ok (.isub, 1) := dk_100 (dk_at dksX2_keepsAhead_0 15 rfl rfl)
theorem dX2_keepsAhead_16 : decode cX2_keepsAhead 16 = .ok (.putfield 89, 3) := dk_181 0 89 (dk_at dksX2_keepsAhead_0 16 rfl rfl)
theorem dX2_keepsAhead_19 : decode cX2_keepsAhead 19 = .ok (.iconst 0, 1) := dk_3 (dk_at dksX2_keepsAhead_0 19 rfl rfl)
theorem dX2_keepsAhead_20 : decode cX2_keepsAhead 20 = .ok (.istore_n 1, 1) := dk_60 (dk_at dksX2_keepsAhead_0 20 rfl rfl)
theorem dX2_keepsAhead_21 : decode cX2_keepsAhead 21 = .ok (.iload_n 1, 1) := dk_27 (dk_at dksX2_keepsAhead_0 21 rfl rfl)
theorem dX2_keepsAhead_22 : decode cX2_keepsAhead 22 = .ok (.bipush 105, 2) := dk_16 105 (dk_at dksX2_keepsAhead_0 22 rfl rfl)
theorem dX2_keepsAhead_24 : decode cX2_keepsAhead 24 = .ok (.aload_n 0, 1) := dk_42 (dk_at dksX2_keepsAhead_1 0 rfl rfl)
theorem dX2_keepsAhead_25 : decode cX2_keepsAhead 25 = .ok (.getfield 89, 3) := dk_180 0 89 (dk_at dksX2_keepsAhead_1 1 rfl rfl)
theorem dX2_keepsAhead_28 : decode cX2_keepsAhead 28 = .ok (.imul, 1) := dk_104 (dk_at dksX2_keepsAhead_1 4 rfl rfl)
theorem dX2_keepsAhead_29 : decode cX2_keepsAhead 29 = .ok (.if_icmp .ge 24, 3) := dk_162 0 24 (dk_at dksX2_keepsAhead_1 5 rfl rfl)
theorem dX2_keepsAhead_32 : decode cX2_keepsAhead 32 = .ok (.aload_n 0, 1) := dk_42 (dk_at dksX2_keepsAhead_1 8 rfl rfl)
theorem dX2_keepsAhead_33 : decode cX2_keepsAhead 33 = .ok (.getfield 13, 3) := dk_180 0 13 (dk_at dksX2_keepsAhead_1 9 rfl rfl)
theorem dX2_keepsAhead_36 : decode cX2_keepsAhead 36 = .ok (.iload_n 1, 1) := dk_27 (dk_at dksX2_keepsAhead_1 12 rfl rfl)
theorem dX2_keepsAhead_37 : decode cX2_keepsAhead 37 = .ok (.aload_n 0, 1) := dk_42 (dk_at dksX2_keepsAhead_1 13 rfl rfl)
theorem dX2_keepsAhead_38 : decode cX2_keepsAhead 38 = .ok (.getfield 13, 3) := dk_180 0 13 (dk_at dksX2_keepsAhead_1 14 rfl rfl)
theorem dX2_keepsAhead_41 : decode cX2_keepsAhead 41 = .ok (.iload_n 1, 1) := dk_27 (dk_at dksX2_keepsAhead_1 17 rfl rfl)
theorem dX2_keepsAhead_42 : decode cX2_keepsAhead 42 = .ok (.bipush 105, 2) := dk_16 105 (dk_at dksX2_keepsAhead_1 18 rfl rfl)
theorem dX2_keepsAhead_44 : decode cX2_keepsAhead 44 = .ok (.iadd, 1) := dk_96 (dk_at dksX2_keepsAhead_1 20 rfl rfl)
theorem dX2_keepsAhead_45 : decode cX2_keepsAhead 45 = .ok (.iaload, 1) := dk_46 (dk_at dksX2_keepsAhead_1 21 rfl rfl)
theorem dX2_keepsAhead_46 : decode cX2_keepsAhead 46 = .ok (.iastore, 1) := dk_79 (dk_at dksX2_keepsAhead_1 22 rfl rfl)
theorem dX2_keepsAhead_47 : decode cX2_keepsAhead 47 = .ok (.iinc 1 1, 3) := dk_132 1 1 (dk_at dksX2_keepsAhead_2 0 rfl rfl)
theorem dX2_keepsAhead_50 : decode cX2_keepsAhead 50 = .ok (.goto (-29), 3) := dk_167 255 227 (dk_at dksX2_keepsAhead_2 3 rfl rfl)
theorem dX2_keepsAhead_53 : decode cX2_keepsAhead 53 = .ok (.iconst 0, 1) := dk_3 (dk_at dksX2_keepsAhead_2 6 rfl rfl)
theorem dX2_keepsAhead_54 : decode cX2_keepsAhead 54 = .ok (.istore_n 1, 1) := dk_60 (dk_at dksX2_keepsAhead_2 7 rfl rfl)
theorem dX2_keepsAhead_55 : decode cX2_keepsAhead 55 = .ok (.iload_n 1, 1) := dk_27 (dk_at dksX2_keepsAhead_2 8 rfl rfl)
theorem dX2_keepsAhead_56 : decode cX2_keepsAhead 56 = .ok (.bipush 105, 2) := dk_16 105 (dk_at dksX2_keepsAhead_2 9 rfl rfl)
theorem dX2_keepsAhead_58 : decode cX2_keepsAhead 58 = .ok (.if_icmp .ge 29, 3) := dk_162 0 29 (dk_at dksX2_keepsAhead_2 11 rfl rfl)
theorem dX2_keepsAhead_61 : decode cX2_keepsAhead 61 = .ok (.aload_n 0, 1) := dk_42 (dk_at dksX2_keepsAhead_2 14 rfl rfl)
theorem dX2_keepsAhead_62 : decode cX2_keepsAhead 62 = .ok (.getfield 13, 3) := dk_180 0 13 (dk_at dksX2_keepsAhead_2 15 rfl rfl)
theorem dX2_keepsAhead_65 : decode cX2_keepsAhead 65 = .ok (.bipush 105, 2) := dk_16 105 (dk_at dksX2_keepsAhead_2 18 rfl rfl)
theorem dX2_keepsAhead_67 : decode cX2_keepsAhead 67 = .ok (.aload_n 0, 1) := dk_42 (dk_at dksX2_keepsAhead_2 20 rfl rfl)
theorem dX2_keepsAhead_68 : decode cX2_keepsAhead 68 = .ok (.getfield 89, 3) := dk_180 0 89 (dk_at dksX2_keepsAhead_2 21 rfl rfl)
theorem dX2_keepsAhead_71 : decode cX2_keepsAhead 71 = .ok (.imul, 1) := dk_104 (dk_at dksX2_keepsAhead_3 0 rfl rfl)
theorem dX2_keepsAhead_72 : decode cX2_keepsAhead 72 = .ok (.iload_n 1, 1) := dk_27 (dk_at dksX2_keepsAhead_3 1 rfl rfl)
theorem dX2_keepsAhead_73 : decode cX2_keepsAhead 73 = .ok (.iadd, 1) := dk_96 (dk_at dksX2_keepsAhead_3 2 rfl rfl)
theorem dX2_keepsAhead_74 : decode cX2_keepsAhead 74 = .ok (.aload_n 0, 1) := dk_42 (dk_at dksX2_keepsAhead_3 3 rfl rfl)
theorem dX2_keepsAhead_75 : decode cX2_keepsAhead 75 = .ok (.getfield 7, 3) := dk_180 0 7 (dk_at dksX2_keepsAhead_3 4 rfl rfl)
theorem dX2_keepsAhead_78 : decode cX2_keepsAhead 78 = .ok (.iload_n 1, 1) := dk_27 (dk_at dksX2_keepsAhead_3 7 rfl rfl)
theorem dX2_keepsAhead_79 : decode cX2_keepsAhead 79 = .ok (.iaload, 1) := dk_46 (dk_at dksX2_keepsAhead_3 8 rfl rfl)
theorem dX2_keepsAhead_80 : decode cX2_keepsAhead 80 = .ok (.iastore, 1) := dk_79 (dk_at dksX2_keepsAhead_3 9 rfl rfl)
theorem dX2_keepsAhead_81 : decode cX2_keepsAhead 81 = .ok (.iinc 1 1, 3) := dk_132 1 1 (dk_at dksX2_keepsAhead_3 10 rfl rfl)
theorem dX2_keepsAhead_84 : decode cX2_keepsAhead 84 = .ok (.goto (-29), 3) := dk_167 255 227 (dk_at dksX2_keepsAhead_3 13 rfl rfl)
theorem dX2_keepsAhead_87 : decode cX2_keepsAhead 87 = .ok (.aload_n 0, 1) := dk_42 (dk_at dksX2_keepsAhead_3 16 rfl rfl)
theorem dX2_keepsAhead_88 : decode cX2_keepsAhead 88 = .ok (.aload_n 0, 1) := dk_42 (dk_at dksX2_keepsAhead_3 17 rfl rfl)
theorem dX2_keepsAhead_89 : decode cX2_keepsAhead 89 = .ok (.getfield 89, 3) := dk_180 0 89 (dk_at dksX2_keepsAhead_3 18 rfl rfl)
theorem dX2_keepsAhead_92 : decode cX2_keepsAhead 92 = .ok (.iconst 1, 1) := dk_4 (dk_at dksX2_keepsAhead_3 21 rfl rfl)
theorem dX2_keepsAhead_93 : decode cX2_keepsAhead 93 = .ok (.iadd, 1) := dk_96 (dk_at dksX2_keepsAhead_3 22 rfl rfl)
theorem dX2_keepsAhead_94 : decode cX2_keepsAhead 94 = .ok (.putfield 89, 3) := dk_181 0 89 (dk_at dksX2_keepsAhead_4 0 rfl rfl)
theorem dX2_keepsAhead_97 : decode cX2_keepsAhead 97 = .ok (.return_, 1) := dk_177 (dk_at dksX2_keepsAhead_4 3 rfl rfl)
abbrev cX2_calledAt : ByteArray := prog_21_method_77_code
def yX2_calledAt : MethodName := ⟨RX2, "calledAt", "(III)I"⟩
def dkwX2_calledAt_4 : List UInt8 := [182, 1, 32, 21, 5, 100, 182, 1, 65, 42, 28, 21, 4, 182, 1, 32, 21, 5, 100, 172]
abbrev dktX2_calledAt_4 : List UInt8 := dkwX2_calledAt_4 ++ []
def dkwX2_calledAt_3 : List UInt8 := [42, 180, 0, 7, 6, 46, 4, 96, 3, 17, 3, 231, 182, 0, 98, 79, 42, 29, 27, 28, 42, 28, 21, 4]
abbrev dktX2_calledAt_3 : List UInt8 := dkwX2_calledAt_3 ++ dktX2_calledAt_4
def dkwX2_calledAt_2 : List UInt8 := [180, 0, 7, 16, 93, 27, 96, 46, 4, 96, 3, 17, 3, 231, 182, 0, 98, 79, 42, 180, 0, 7, 6, 42]
abbrev dktX2_calledAt_2 : List UInt8 := dkwX2_calledAt_2 ++ dktX2_calledAt_3
def dkwX2_calledAt_1 : List UInt8 := [21, 5, 42, 27, 28, 182, 1, 62, 96, 182, 0, 113, 42, 180, 0, 7, 16, 93, 27, 96, 42, 42]
abbrev dktX2_calledAt_1 : List UInt8 := dkwX2_calledAt_1 ++ dktX2_calledAt_2
def dkwX2_calledAt_0 : List UInt8 := [42, 180, 0, 7, 16, 45, 27, 96, 46, 54, 4, 42, 28, 21, 4, 182, 1, 32, 54, 5, 42, 28, 21, 4]
abbrev dktX2_calledAt_0 : List UInt8 := dkwX2_calledAt_0 ++ dktX2_calledAt_1
theorem dksX2_calledAt_0 : cX2_calledAt.data.toList.drop 0 = dktX2_calledAt_0 := by decide +kernel
theorem dksX2_calledAt_1 : cX2_calledAt.data.toList.drop 24 = dktX2_calledAt_1 := dk_seg dksX2_calledAt_0 24 rfl rfl
theorem dksX2_calledAt_2 : cX2_calledAt.data.toList.drop 46 = dktX2_calledAt_2 := dk_seg dksX2_calledAt_1 22 rfl rfl
theorem dksX2_calledAt_3 : cX2_calledAt.data.toList.drop 70 = dktX2_calledAt_3 := dk_seg dksX2_calledAt_2 24 rfl rfl
theorem dksX2_calledAt_4 : cX2_calledAt.data.toList.drop 94 = dktX2_calledAt_4 := dk_seg dksX2_calledAt_3 24 rfl rfl
theorem dX2_calledAt_0 : decode cX2_calledAt 0 = .ok (.aload_n 0, 1) := dk_42 (dk_at dksX2_calledAt_0 0 rfl rfl)
theorem dX2_calledAt_1 : decode cX2_calledAt 1 = .ok (.getfield 7, 3) := dk_180 0 7 (dk_at dksX2_calledAt_0 1 rfl rfl)
theorem dX2_calledAt_4 : decode cX2_calledAt 4 = .ok (.bipush 45, 2) := dk_16 45 (dk_at dksX2_calledAt_0 4 rfl rfl)
theorem dX2_calledAt_6 : decode cX2_calledAt 6 = .ok (.iload_n 1, 1) := dk_27 (dk_at dksX2_calledAt_0 6 rfl rfl)
theorem dX2_calledAt_7 : decode cX2_calledAt 7 = .ok (.iadd, 1) := dk_96 (dk_at dksX2_calledAt_0 7 rfl rfl)
theorem dX2_calledAt_8 : decode cX2_calledAt 8 = .ok (.iaload, 1) := dk_46 (dk_at dksX2_calledAt_0 8 rfl rfl)
theorem dX2_calledAt_9 : decode cX2_calledAt 9 = .ok (.istore 4, 2) := dk_54 4 (dk_at dksX2_calledAt_0 9 rfl rfl)
theorem dX2_calledAt_11 : decode cX2_calledAt 11 = .ok (.aload_n 0, 1) := dk_42 (dk_at dksX2_calledAt_0 11 rfl rfl)
theorem dX2_calledAt_12 : decode cX2_calledAt 12 = .ok (.iload_n 2, 1) := dk_28 (dk_at dksX2_calledAt_0 12 rfl rfl)
theorem dX2_calledAt_13 : decode cX2_calledAt 13 = .ok (.iload 4, 2) := dk_21 4 (dk_at dksX2_calledAt_0 13 rfl rfl)
theorem dX2_calledAt_15 : decode cX2_calledAt 15 = .ok (.invokevirtual 288, 3) := dk_182 1 32 (dk_at dksX2_calledAt_0 15 rfl rfl)
theorem dX2_calledAt_18 : decode cX2_calledAt 18 = .ok (.istore 5, 2) := dk_54 5 (dk_at dksX2_calledAt_0 18 rfl rfl)
theorem dX2_calledAt_20 : decode cX2_calledAt 20 = .ok (.aload_n 0, 1) := dk_42 (dk_at dksX2_calledAt_0 20 rfl rfl)
theorem dX2_calledAt_21 : decode cX2_calledAt 21 = .ok (.iload_n 2, 1) := dk_28 (dk_at dksX2_calledAt_0 21 rfl rfl)
theorem dX2_calledAt_22 : decode cX2_calledAt 22 = .ok (.iload 4, 2) := dk_21 4 (dk_at dksX2_calledAt_0 22 rfl rfl)
theorem dX2_calledAt_24 : decode cX2_calledAt 24 = .ok (.iload 5, 2) := dk_21 5 (dk_at dksX2_calledAt_1 0 rfl rfl)
theorem dX2_calledAt_26 : decode cX2_calledAt 26 = .ok (.aload_n 0, 1) := dk_42 (dk_at dksX2_calledAt_1 2 rfl rfl)
theorem dX2_calledAt_27 : decode cX2_calledAt 27 = .ok (.iload_n 1, 1) := dk_27 (dk_at dksX2_calledAt_1 3 rfl rfl)
theorem dX2_calledAt_28 : decode cX2_calledAt 28 = .ok (.iload_n 2, 1) := dk_28 (dk_at dksX2_calledAt_1 4 rfl rfl)
theorem dX2_calledAt_29 : decode cX2_calledAt 29 = .ok (.invokevirtual 318, 3) := dk_182 1 62 (dk_at dksX2_calledAt_1 5 rfl rfl)
theorem dX2_calledAt_32 : decode cX2_calledAt 32 = .ok (.iadd, 1) := dk_96 (dk_at dksX2_calledAt_1 8 rfl rfl)
theorem dX2_calledAt_33 : decode cX2_calledAt 33 = .ok (.invokevirtual 113, 3) := dk_182 0 113 (dk_at dksX2_calledAt_1 9 rfl rfl)
theorem dX2_calledAt_36 : decode cX2_calledAt 36 = .ok (.aload_n 0, 1) := dk_42 (dk_at dksX2_calledAt_1 12 rfl rfl)
theorem dX2_calledAt_37 : decode cX2_calledAt 37 = .ok (.getfield 7, 3) := dk_180 0 7 (dk_at dksX2_calledAt_1 13 rfl rfl)
theorem dX2_calledAt_40 : decode cX2_calledAt 40 = .ok (.bipush 93, 2) := dk_16 93 (dk_at dksX2_calledAt_1 16 rfl rfl)
theorem dX2_calledAt_42 : decode cX2_calledAt 42 = .ok (.iload_n 1, 1) := dk_27 (dk_at dksX2_calledAt_1 18 rfl rfl)
theorem dX2_calledAt_43 : decode cX2_calledAt 43 = .ok (.iadd, 1) := dk_96 (dk_at dksX2_calledAt_1 19 rfl rfl)
theorem dX2_calledAt_44 : decode cX2_calledAt 44 = .ok (.aload_n 0, 1) := dk_42 (dk_at dksX2_calledAt_1 20 rfl rfl)
theorem dX2_calledAt_45 : decode cX2_calledAt 45 = .ok (.aload_n 0, 1) := dk_42 (dk_at dksX2_calledAt_1 21 rfl rfl)
theorem dX2_calledAt_46 : decode cX2_calledAt 46 = .ok (.getfield 7, 3) := dk_180 0 7 (dk_at dksX2_calledAt_2 0 rfl rfl)
theorem dX2_calledAt_49 : decode cX2_calledAt 49 = .ok (.bipush 93, 2) := dk_16 93 (dk_at dksX2_calledAt_2 3 rfl rfl)
theorem dX2_calledAt_51 : decode cX2_calledAt 51 = .ok (.iload_n 1, 1) := dk_27 (dk_at dksX2_calledAt_2 5 rfl rfl)
theorem dX2_calledAt_52 : decode cX2_calledAt 52 = .ok (.iadd, 1) := dk_96 (dk_at dksX2_calledAt_2 6 rfl rfl)
theorem dX2_calledAt_53 : decode cX2_calledAt 53 = .ok (.iaload, 1) := dk_46 (dk_at dksX2_calledAt_2 7 rfl rfl)
theorem dX2_calledAt_54 : decode cX2_calledAt 54 = .ok (.iconst 1, 1) := dk_4 (dk_at dksX2_calledAt_2 8 rfl rfl)
theorem dX2_calledAt_55 : decode cX2_calledAt 55 = .ok (.iadd, 1) := dk_96 (dk_at dksX2_calledAt_2 9 rfl rfl)
theorem dX2_calledAt_56 : decode cX2_calledAt 56 = .ok (.iconst 0, 1) := dk_3 (dk_at dksX2_calledAt_2 10 rfl rfl)
theorem dX2_calledAt_57 : decode cX2_calledAt 57 = .ok (.sipush 999, 3) := dk_17 3 231 (dk_at dksX2_calledAt_2 11 rfl rfl)
theorem dX2_calledAt_60 : decode cX2_calledAt 60 = .ok (.invokevirtual 98, 3) := dk_182 0 98 (dk_at dksX2_calledAt_2 14 rfl rfl)
theorem dX2_calledAt_63 : decode cX2_calledAt 63 = .ok (.iastore, 1) := dk_79 (dk_at dksX2_calledAt_2 17 rfl rfl)
theorem dX2_calledAt_64 : decode cX2_calledAt 64 = .ok (.aload_n 0, 1) := dk_42 (dk_at dksX2_calledAt_2 18 rfl rfl)
theorem dX2_calledAt_65 : decode cX2_calledAt 65 = .ok (.getfield 7, 3) := dk_180 0 7 (dk_at dksX2_calledAt_2 19 rfl rfl)
theorem dX2_calledAt_68 : decode cX2_calledAt 68 = .ok (.iconst 3, 1) := dk_6 (dk_at dksX2_calledAt_2 22 rfl rfl)
theorem dX2_calledAt_69 : decode cX2_calledAt 69 = .ok (.aload_n 0, 1) := dk_42 (dk_at dksX2_calledAt_2 23 rfl rfl)
theorem dX2_calledAt_70 : decode cX2_calledAt 70 = .ok (.aload_n 0, 1) := dk_42 (dk_at dksX2_calledAt_3 0 rfl rfl)
theorem dX2_calledAt_71 : decode cX2_calledAt 71 = .ok (.getfield 7, 3) := dk_180 0 7 (dk_at dksX2_calledAt_3 1 rfl rfl)
theorem dX2_calledAt_74 : decode cX2_calledAt 74 = .ok (.iconst 3, 1) := dk_6 (dk_at dksX2_calledAt_3 4 rfl rfl)
theorem dX2_calledAt_75 : decode cX2_calledAt 75 = .ok (.iaload, 1) := dk_46 (dk_at dksX2_calledAt_3 5 rfl rfl)
theorem dX2_calledAt_76 : decode cX2_calledAt 76 = .ok (.iconst 1, 1) := dk_4 (dk_at dksX2_calledAt_3 6 rfl rfl)
theorem dX2_calledAt_77 : decode cX2_calledAt 77 = .ok (.iadd, 1) := dk_96 (dk_at dksX2_calledAt_3 7 rfl rfl)
theorem dX2_calledAt_78 : decode cX2_calledAt 78 = .ok (.iconst 0, 1) := dk_3 (dk_at dksX2_calledAt_3 8 rfl rfl)
theorem dX2_calledAt_79 : decode cX2_calledAt 79 = .ok (.sipush 999, 3) := dk_17 3 231 (dk_at dksX2_calledAt_3 9 rfl rfl)
theorem dX2_calledAt_82 : decode cX2_calledAt 82 = .ok (.invokevirtual 98, 3) := dk_182 0 98 (dk_at dksX2_calledAt_3 12 rfl rfl)
theorem dX2_calledAt_85 : decode cX2_calledAt 85 = .ok (.iastore, 1) := dk_79 (dk_at dksX2_calledAt_3 15 rfl rfl)
theorem dX2_calledAt_86 : decode cX2_calledAt 86 = .ok (.aload_n 0, 1) := dk_42 (dk_at dksX2_calledAt_3 16 rfl rfl)
theorem dX2_calledAt_87 : decode cX2_calledAt 87 = .ok (.iload_n 3, 1) := dk_29 (dk_at dksX2_calledAt_3 17 rfl rfl)
theorem dX2_calledAt_88 : decode cX2_calledAt 88 = .ok (.iload_n 1, 1) := dk_27 (dk_at dksX2_calledAt_3 18 rfl rfl)
theorem dX2_calledAt_89 : decode cX2_calledAt 89 = .ok (.iload_n 2, 1) := dk_28 (dk_at dksX2_calledAt_3 19 rfl rfl)
theorem dX2_calledAt_90 : decode cX2_calledAt 90 = .ok (.aload_n 0, 1) := dk_42 (dk_at dksX2_calledAt_3 20 rfl rfl)
theorem dX2_calledAt_91 : decode cX2_calledAt 91 = .ok (.iload_n 2, 1) := dk_28 (dk_at dksX2_calledAt_3 21 rfl rfl)
theorem dX2_calledAt_92 : decode cX2_calledAt 92 = .ok (.iload 4, 2) := dk_21 4 (dk_at dksX2_calledAt_3 22 rfl rfl)
theorem dX2_calledAt_94 : decode cX2_calledAt 94 = .ok (.invokevirtual 288, 3) := dk_182 1 32 (dk_at dksX2_calledAt_4 0 rfl rfl)
theorem dX2_calledAt_97 : decode cX2_calledAt 97 = .ok (.iload 5, 2) := dk_21 5 (dk_at dksX2_calledAt_4 3 rfl rfl)
theorem dX2_calledAt_99 : decode cX2_calledAt 99 = .ok (.isub, 1) := dk_100 (dk_at dksX2_calledAt_4 5 rfl rfl)
theorem dX2_calledAt_100 : decode cX2_calledAt 100 = .ok (.invokevirtual 321, 3) := dk_182 1 65 (dk_at dksX2_calledAt_4 6 rfl rfl)
theorem dX2_calledAt_103 : decode cX2_calledAt 103 = .ok (.aload_n 0, 1) := dk_42 (dk_at dksX2_calledAt_4 9 rfl rfl)
theorem dX2_calledAt_104 : decode cX2_calledAt 104 = .ok (.iload_n 2, 1) := dk_28 (dk_at dksX2_calledAt_4 10 rfl rfl)
theorem dX2_calledAt_105 : decode cX2_calledAt 105 = .ok (.iload 4, 2) := dk_21 4 (dk_at dksX2_calledAt_4 11 rfl rfl)
theorem dX2_calledAt_107 : decode cX2_calledAt 107 = .ok (.invokevirtual 288, 3) := dk_182 1 32 (dk_at dksX2_calledAt_4 13 rfl rfl)
theorem dX2_calledAt_110 : decode cX2_calledAt 110 = .ok (.iload 5, 2) := dk_21 5 (dk_at dksX2_calledAt_4 16 rfl rfl)
theorem dX2_calledAt_112 : decode cX2_calledAt 112 = .ok (.isub, 1) := dk_100 (dk_at dksX2_calledAt_4 18 rfl rfl)
theorem dX2_calledAt_113 : decode cX2_calledAt 113 = .ok (.ireturn, 1) := dk_172 (dk_at dksX2_calledAt_4 19 rfl rfl)
abbrev cX2_skyAt : ByteArray := prog_21_method_16_code
def yX2_skyAt : MethodName := ⟨RX2, "skyAt", "(II)I"⟩
def dkwX2_skyAt_0 : List UInt8 := [42, 180, 0, 7, 8, 8, 27, 104, 96, 28, 96, 46, 172]
abbrev dktX2_skyAt_0 : List UInt8 := dkwX2_skyAt_0 ++ []
theorem dksX2_skyAt_0 : cX2_skyAt.data.toList.drop 0 = dktX2_skyAt_0 := by decide +kernel
theorem dX2_skyAt_0 : decode cX2_skyAt 0 = .ok (.aload_n 0, 1) := dk_42 (dk_at dksX2_skyAt_0 0 rfl rfl)
theorem dX2_skyAt_1 : decode cX2_skyAt 1 = .ok (.getfield 7, 3) := dk_180 0 7 (dk_at dksX2_skyAt_0 1 rfl rfl)
theorem dX2_skyAt_4 : decode cX2_skyAt 4 = .ok (.iconst 5, 1) := dk_8 (dk_at dksX2_skyAt_0 4 rfl rfl)
theorem dX2_skyAt_5 : decode cX2_skyAt 5 = .ok (.iconst 5, 1) := dk_8 (dk_at dksX2_skyAt_0 5 rfl rfl)
theorem dX2_skyAt_6 : decode cX2_skyAt 6 = .ok (.iload_n 1, 1) := dk_27 (dk_at dksX2_skyAt_0 6 rfl rfl)
theorem dX2_skyAt_7 : decode cX2_skyAt 7 = .ok (.imul, 1) := dk_104 (dk_at dksX2_skyAt_0 7 rfl rfl)
theorem dX2_skyAt_8 : decode cX2_skyAt 8 = .ok (.iadd, 1) := dk_96 (dk_at dksX2_skyAt_0 8 rfl rfl)
theorem dX2_skyAt_9 : decode cX2_skyAt 9 = .ok (.iload_n 2, 1) := dk_28 (dk_at dksX2_skyAt_0 9 rfl rfl)
theorem dX2_skyAt_10 : decode cX2_skyAt 10 = .ok (.iadd, 1) := dk_96 (dk_at dksX2_skyAt_0 10 rfl rfl)
theorem dX2_skyAt_11 : decode cX2_skyAt 11 = .ok (.iaload, 1) := dk_46 (dk_at dksX2_skyAt_0 11 rfl rfl)
theorem dX2_skyAt_12 : decode cX2_skyAt 12 = .ok (.ireturn, 1) := dk_172 (dk_at dksX2_skyAt_0 12 rfl rfl)
abbrev cX2_addOf : ByteArray := prog_21_method_72_code
def yX2_addOf : MethodName := ⟨RX2, "addOf", "(II)I"⟩
def dkwX2_addOf_0 : List UInt8 := [42, 27, 28, 182, 1, 50, 42, 8, 6, 42, 180, 0, 68, 4, 46, 104, 16, 99, 182, 1, 53, 172]
abbrev dktX2_addOf_0 : List UInt8 := dkwX2_addOf_0 ++ []
theorem dksX2_addOf_0 : cX2_addOf.data.toList.drop 0 = dktX2_addOf_0 := by decide +kernel
theorem dX2_addOf_0 : decode cX2_addOf 0 = .ok (.aload_n 0, 1) := dk_42 (dk_at dksX2_addOf_0 0 rfl rfl)
theorem dX2_addOf_1 : decode cX2_addOf 1 = .ok (.iload_n 1, 1) := dk_27 (dk_at dksX2_addOf_0 1 rfl rfl)
theorem dX2_addOf_2 : decode cX2_addOf 2 = .ok (.iload_n 2, 1) := dk_28 (dk_at dksX2_addOf_0 2 rfl rfl)
theorem dX2_addOf_3 : decode cX2_addOf 3 = .ok (.invokevirtual 306, 3) := dk_182 1 50 (dk_at dksX2_addOf_0 3 rfl rfl)
theorem dX2_addOf_6 : decode cX2_addOf 6 = .ok (.aload_n 0, 1) := dk_42 (dk_at dksX2_addOf_0 6 rfl rfl)
theorem dX2_addOf_7 : decode cX2_addOf 7 = .ok (.iconst 5, 1) := dk_8 (dk_at dksX2_addOf_0 7 rfl rfl)
theorem dX2_addOf_8 : decode cX2_addOf 8 = .ok (.iconst 3, 1) := dk_6 (dk_at dksX2_addOf_0 8 rfl rfl)
theorem dX2_addOf_9 : decode cX2_addOf 9 = .ok (.aload_n 0, 1) := dk_42 (dk_at dksX2_addOf_0 9 rfl rfl)
theorem dX2_addOf_10 : decode cX2_addOf 10 = .ok (.getfield 68, 3) := dk_180 0 68 (dk_at dksX2_addOf_0 10 rfl rfl)
theorem dX2_addOf_13 : decode cX2_addOf 13 = .ok (.iconst 1, 1) := dk_4 (dk_at dksX2_addOf_0 13 rfl rfl)
theorem dX2_addOf_14 : decode cX2_addOf 14 = .ok (.iaload, 1) := dk_46 (dk_at dksX2_addOf_0 14 rfl rfl)
theorem dX2_addOf_15 : decode cX2_addOf 15 = .ok (.imul, 1) := dk_104 (dk_at dksX2_addOf_0 15 rfl rfl)
theorem dX2_addOf_16 : decode cX2_addOf 16 = .ok (.bipush 99, 2) := dk_16 99 (dk_at dksX2_addOf_0 16 rfl rfl)
theorem dX2_addOf_18 : decode cX2_addOf 18 = .ok (.invokevirtual 309, 3) := dk_182 1 53 (dk_at dksX2_addOf_0 18 rfl rfl)
theorem dX2_addOf_21 : decode cX2_addOf 21 = .ok (.ireturn, 1) := dk_172 (dk_at dksX2_addOf_0 21 rfl rfl)
abbrev cX2_asksOf : ByteArray := prog_21_method_70_code
def yX2_asksOf : MethodName := ⟨RX2, "asksOf", "(II)V"⟩
def dkwX2_asksOf_2 : List UInt8 := [180, 0, 68, 16, 6, 42, 180, 0, 7, 16, 93, 27, 96, 46, 79, 177]
abbrev dktX2_asksOf_2 : List UInt8 := dkwX2_asksOf_2 ++ []
def dkwX2_asksOf_1 : List UInt8 := [16, 57, 27, 96, 46, 79, 42, 180, 0, 68, 8, 42, 180, 0, 7, 16, 81, 27, 96, 46, 79, 42]
abbrev dktX2_asksOf_1 : List UInt8 := dkwX2_asksOf_1 ++ dktX2_asksOf_2
def dkwX2_asksOf_0 : List UInt8 := [42, 42, 180, 0, 7, 16, 45, 27, 96, 46, 28, 182, 1, 44, 42, 180, 0, 68, 4, 42, 180, 0, 7]
abbrev dktX2_asksOf_0 : List UInt8 := dkwX2_asksOf_0 ++ dktX2_asksOf_1
theorem dksX2_asksOf_0 : cX2_asksOf.data.toList.drop 0 = dktX2_asksOf_0 := by decide +kernel
theorem dksX2_asksOf_1 : cX2_asksOf.data.toList.drop 23 = dktX2_asksOf_1 := dk_seg dksX2_asksOf_0 23 rfl rfl
theorem dksX2_asksOf_2 : cX2_asksOf.data.toList.drop 45 = dktX2_asksOf_2 := dk_seg dksX2_asksOf_1 22 rfl rfl
theorem dX2_asksOf_0 : decode cX2_asksOf 0 = .ok (.aload_n 0, 1) := dk_42 (dk_at dksX2_asksOf_0 0 rfl rfl)
theorem dX2_asksOf_1 : decode cX2_asksOf 1 = .ok (.aload_n 0, 1) := dk_42 (dk_at dksX2_asksOf_0 1 rfl rfl)
theorem dX2_asksOf_2 : decode cX2_asksOf 2 = .ok (.getfield 7, 3) := dk_180 0 7 (dk_at dksX2_asksOf_0 2 rfl rfl)
theorem dX2_asksOf_5 : decode cX2_asksOf 5 = .ok (.bipush 45, 2) := dk_16 45 (dk_at dksX2_asksOf_0 5 rfl rfl)
theorem dX2_asksOf_7 : decode cX2_asksOf 7 = .ok (.iload_n 1, 1) := dk_27 (dk_at dksX2_asksOf_0 7 rfl rfl)
theorem dX2_asksOf_8 : decode cX2_asksOf 8 = .ok (.iadd, 1) := dk_96 (dk_at dksX2_asksOf_0 8 rfl rfl)
theorem dX2_asksOf_9 : decode cX2_asksOf 9 = .ok (.iaload, 1) := dk_46 (dk_at dksX2_asksOf_0 9 rfl rfl)
theorem dX2_asksOf_10 : decode cX2_asksOf 10 = .ok (.iload_n 2, 1) := dk_28 (dk_at dksX2_asksOf_0 10 rfl rfl)
theorem dX2_asksOf_11 : decode cX2_asksOf 11 = .ok (.invokevirtual 300, 3) := dk_182 1 44 (dk_at dksX2_asksOf_0 11 rfl rfl)
theorem dX2_asksOf_14 : decode cX2_asksOf 14 = .ok (.aload_n 0, 1) := dk_42 (dk_at dksX2_asksOf_0 14 rfl rfl)
theorem dX2_asksOf_15 : decode cX2_asksOf 15 = .ok (.getfield 68, 3) := dk_180 0 68 (dk_at dksX2_asksOf_0 15 rfl rfl)
theorem dX2_asksOf_18 : decode cX2_asksOf 18 = .ok (.iconst 1, 1) := dk_4 (dk_at dksX2_asksOf_0 18 rfl rfl)
theorem dX2_asksOf_19 : decode cX2_asksOf 19 = .ok (.aload_n 0, 1) := dk_42 (dk_at dksX2_asksOf_0 19 rfl rfl)
theorem dX2_asksOf_20 : decode cX2_asksOf 20 = .ok (.getfield 7, 3) := dk_180 0 7 (dk_at dksX2_asksOf_0 20 rfl rfl)
theorem dX2_asksOf_23 : decode cX2_asksOf 23 = .ok (.bipush 57, 2) := dk_16 57 (dk_at dksX2_asksOf_1 0 rfl rfl)
theorem dX2_asksOf_25 : decode cX2_asksOf 25 = .ok (.iload_n 1, 1) := dk_27 (dk_at dksX2_asksOf_1 2 rfl rfl)
theorem dX2_asksOf_26 : decode cX2_asksOf 26 = .ok (.iadd, 1) := dk_96 (dk_at dksX2_asksOf_1 3 rfl rfl)
theorem dX2_asksOf_27 : decode cX2_asksOf 27 = .ok (.iaload, 1) := dk_46 (dk_at dksX2_asksOf_1 4 rfl rfl)
theorem dX2_asksOf_28 : decode cX2_asksOf 28 = .ok (.iastore, 1) := dk_79 (dk_at dksX2_asksOf_1 5 rfl rfl)
theorem dX2_asksOf_29 : decode cX2_asksOf 29 = .ok (.aload_n 0, 1) := dk_42 (dk_at dksX2_asksOf_1 6 rfl rfl)
theorem dX2_asksOf_30 : decode cX2_asksOf 30 = .ok (.getfield 68, 3) := dk_180 0 68 (dk_at dksX2_asksOf_1 7 rfl rfl)
theorem dX2_asksOf_33 : decode cX2_asksOf 33 = .ok (.iconst 5, 1) := dk_8 (dk_at dksX2_asksOf_1 10 rfl rfl)
theorem dX2_asksOf_34 : decode cX2_asksOf 34 = .ok (.aload_n 0, 1) := dk_42 (dk_at dksX2_asksOf_1 11 rfl rfl)
theorem dX2_asksOf_35 : decode cX2_asksOf 35 = .ok (.getfield 7, 3) := dk_180 0 7 (dk_at dksX2_asksOf_1 12 rfl rfl)
theorem dX2_asksOf_38 : decode cX2_asksOf 38 = .ok (.bipush 81, 2) := dk_16 81 (dk_at dksX2_asksOf_1 15 rfl rfl)
theorem dX2_asksOf_40 : decode cX2_asksOf 40 = .ok (.iload_n 1, 1) := dk_27 (dk_at dksX2_asksOf_1 17 rfl rfl)
theorem dX2_asksOf_41 : decode cX2_asksOf 41 = .ok (.iadd, 1) := dk_96 (dk_at dksX2_asksOf_1 18 rfl rfl)
theorem dX2_asksOf_42 : decode cX2_asksOf 42 = .ok (.iaload, 1) := dk_46 (dk_at dksX2_asksOf_1 19 rfl rfl)
theorem dX2_asksOf_43 : decode cX2_asksOf 43 = .ok (.iastore, 1) := dk_79 (dk_at dksX2_asksOf_1 20 rfl rfl)
theorem dX2_asksOf_44 : decode cX2_asksOf 44 = .ok (.aload_n 0, 1) := dk_42 (dk_at dksX2_asksOf_1 21 rfl rfl)
theorem dX2_asksOf_45 : decode cX2_asksOf 45 = .ok (.getfield 68, 3) := dk_180 0 68 (dk_at dksX2_asksOf_2 0 rfl rfl)
theorem dX2_asksOf_48 : decode cX2_asksOf 48 = .ok (.bipush 6, 2) := dk_16 6 (dk_at dksX2_asksOf_2 3 rfl rfl)
theorem dX2_asksOf_50 : decode cX2_asksOf 50 = .ok (.aload_n 0, 1) := dk_42 (dk_at dksX2_asksOf_2 5 rfl rfl)
theorem dX2_asksOf_51 : decode cX2_asksOf 51 = .ok (.getfield 7, 3) := dk_180 0 7 (dk_at dksX2_asksOf_2 6 rfl rfl)
theorem dX2_asksOf_54 : decode cX2_asksOf 54 = .ok (.bipush 93, 2) := dk_16 93 (dk_at dksX2_asksOf_2 9 rfl rfl)
theorem dX2_asksOf_56 : decode cX2_asksOf 56 = .ok (.iload_n 1, 1) := dk_27 (dk_at dksX2_asksOf_2 11 rfl rfl)
theorem dX2_asksOf_57 : decode cX2_asksOf 57 = .ok (.iadd, 1) := dk_96 (dk_at dksX2_asksOf_2 12 rfl rfl)
theorem dX2_asksOf_58 : decode cX2_asksOf 58 = .ok (.iaload, 1) := dk_46 (dk_at dksX2_asksOf_2 13 rfl rfl)
theorem dX2_asksOf_59 : decode cX2_asksOf 59 = .ok (.iastore, 1) := dk_79 (dk_at dksX2_asksOf_2 14 rfl rfl)
theorem dX2_asksOf_60 : decode cX2_asksOf 60 = .ok (.return_, 1) := dk_177 (dk_at dksX2_asksOf_2 15 rfl rfl)
abbrev cX2_asks : ByteArray := prog_21_method_69_code
def yX2_asks : MethodName := ⟨RX2, "asks", "(II)V"⟩
def dkwX2_asks_4 : List UInt8 := [177]
abbrev dktX2_asks_4 : List UInt8 := dkwX2_asks_4 ++ []
def dkwX2_asks_3 : List UInt8 := [42, 180, 0, 7, 6, 46, 79, 42, 180, 0, 68, 16, 8, 42, 42, 28, 3, 182, 1, 38, 182, 1, 41, 79]
abbrev dktX2_asks_3 : List UInt8 := dkwX2_asks_3 ++ dktX2_asks_4
def dkwX2_asks_2 : List UInt8 := [3, 46, 79, 42, 180, 0, 68, 8, 3, 79, 42, 180, 0, 68, 16, 6, 3, 79, 42, 180, 0, 68, 16, 7]
abbrev dktX2_asks_2 : List UInt8 := dkwX2_asks_2 ++ dktX2_asks_3
def dkwX2_asks_1 : List UInt8 := [182, 1, 32, 79, 42, 180, 0, 68, 6, 42, 28, 182, 1, 35, 79, 42, 180, 0, 68, 7, 42, 180, 0, 7]
abbrev dktX2_asks_1 : List UInt8 := dkwX2_asks_1 ++ dktX2_asks_2
def dkwX2_asks_0 : List UInt8 := [42, 180, 0, 68, 3, 27, 79, 42, 180, 0, 68, 4, 3, 79, 42, 180, 0, 68, 5, 42, 28, 27]
abbrev dktX2_asks_0 : List UInt8 := dkwX2_asks_0 ++ dktX2_asks_1
theorem dksX2_asks_0 : cX2_asks.data.toList.drop 0 = dktX2_asks_0 := by decide +kernel
theorem dksX2_asks_1 : cX2_asks.data.toList.drop 22 = dktX2_asks_1 := dk_seg dksX2_asks_0 22 rfl rfl
theorem dksX2_asks_2 : cX2_asks.data.toList.drop 46 = dktX2_asks_2 := dk_seg dksX2_asks_1 24 rfl rfl
theorem dksX2_asks_3 : cX2_asks.data.toList.drop 70 = dktX2_asks_3 := dk_seg dksX2_asks_2 24 rfl rfl
theorem dksX2_asks_4 : cX2_asks.data.toList.drop 94 = dktX2_asks_4 := dk_seg dksX2_asks_3 24 rfl rfl
theorem dX2_asks_0 : decode cX2_asks 0 = .ok (.aload_n 0, 1) := dk_42 (dk_at dksX2_asks_0 0 rfl rfl)
theorem dX2_asks_1 : decode cX2_asks 1 = .ok (.getfield 68, 3) := dk_180 0 68 (dk_at dksX2_asks_0 1 rfl rfl)
theorem dX2_asks_4 : decode cX2_asks 4 = .ok (.iconst 0, 1) := dk_3 (dk_at dksX2_asks_0 4 rfl rfl)
theorem dX2_asks_5 : decode cX2_asks 5 = .ok (.iload_n 1, 1) := dk_27 (dk_at dksX2_asks_0 5 rfl rfl)
theorem dX2_asks_6 : decode cX2_asks 6 = .ok (.iastore, 1) := dk_79 (dk_at dksX2_asks_0 6 rfl rfl)
theorem dX2_asks_7 : decode cX2_asks 7 = .ok (.aload_n 0, 1) := dk_42 (dk_at dksX2_asks_0 7 rfl rfl)
theorem dX2_asks_8 : decode cX2_asks 8 = .ok (.getfield 68, 3) := dk_180 0 68 (dk_at dksX2_asks_0 8 rfl rfl)
theorem dX2_asks_11 : decode cX2_asks 11 = .ok (.iconst 1, 1) := dk_4 (dk_at dksX2_asks_0 11 rfl rfl)
theorem dX2_asks_12 : decode cX2_asks 12 = .ok (.iconst 0, 1) := dk_3 (dk_at dksX2_asks_0 12 rfl rfl)
theorem dX2_asks_13 : decode cX2_asks 13 = .ok (.iastore, 1) := dk_79 (dk_at dksX2_asks_0 13 rfl rfl)
theorem dX2_asks_14 : decode cX2_asks 14 = .ok (.aload_n 0, 1) := dk_42 (dk_at dksX2_asks_0 14 rfl rfl)
theorem dX2_asks_15 : decode cX2_asks 15 = .ok (.getfield 68, 3) := dk_180 0 68 (dk_at dksX2_asks_0 15 rfl rfl)
theorem dX2_asks_18 : decode cX2_asks 18 = .ok (.iconst 2, 1) := dk_5 (dk_at dksX2_asks_0 18 rfl rfl)
theorem dX2_asks_19 : decode cX2_asks 19 = .ok (.aload_n 0, 1) := dk_42 (dk_at dksX2_asks_0 19 rfl rfl)
theorem dX2_asks_20 : decode cX2_asks 20 = .ok (.iload_n 2, 1) := dk_28 (dk_at dksX2_asks_0 20 rfl rfl)
theorem dX2_asks_21 : decode cX2_asks 21 = .ok (.iload_n 1, 1) := dk_27 (dk_at dksX2_asks_0 21 rfl rfl)
theorem dX2_asks_22 : decode cX2_asks 22 = .ok (.invokevirtual 288, 3) := dk_182 1 32 (dk_at dksX2_asks_1 0 rfl rfl)
theorem dX2_asks_25 : decode cX2_asks 25 = .ok (.iastore, 1) := dk_79 (dk_at dksX2_asks_1 3 rfl rfl)
theorem dX2_asks_26 : decode cX2_asks 26 = .ok (.aload_n 0, 1) := dk_42 (dk_at dksX2_asks_1 4 rfl rfl)
theorem dX2_asks_27 : decode cX2_asks 27 = .ok (.getfield 68, 3) := dk_180 0 68 (dk_at dksX2_asks_1 5 rfl rfl)
theorem dX2_asks_30 : decode cX2_asks 30 = .ok (.iconst 3, 1) := dk_6 (dk_at dksX2_asks_1 8 rfl rfl)
theorem dX2_asks_31 : decode cX2_asks 31 = .ok (.aload_n 0, 1) := dk_42 (dk_at dksX2_asks_1 9 rfl rfl)
theorem dX2_asks_32 : decode cX2_asks 32 = .ok (.iload_n 2, 1) := dk_28 (dk_at dksX2_asks_1 10 rfl rfl)
theorem dX2_asks_33 : decode cX2_asks 33 = .ok (.invokevirtual 291, 3) := dk_182 1 35 (dk_at dksX2_asks_1 11 rfl rfl)
theorem dX2_asks_36 : decode cX2_asks 36 = .ok (.iastore, 1) := dk_79 (dk_at dksX2_asks_1 14 rfl rfl)
theorem dX2_asks_37 : decode cX2_asks 37 = .ok (.aload_n 0, 1) := dk_42 (dk_at dksX2_asks_1 15 rfl rfl)
theorem dX2_asks_38 : decode cX2_asks 38 = .ok (.getfield 68, 3) := dk_180 0 68 (dk_at dksX2_asks_1 16 rfl rfl)
theorem dX2_asks_41 : decode cX2_asks 41 = .ok (.iconst 4, 1) := dk_7 (dk_at dksX2_asks_1 19 rfl rfl)
theorem dX2_asks_42 : decode cX2_asks 42 = .ok (.aload_n 0, 1) := dk_42 (dk_at dksX2_asks_1 20 rfl rfl)
theorem dX2_asks_43 : decode cX2_asks 43 = .ok (.getfield 7, 3) := dk_180 0 7 (dk_at dksX2_asks_1 21 rfl rfl)
theorem dX2_asks_46 : decode cX2_asks 46 = .ok (.iconst 0, 1) := dk_3 (dk_at dksX2_asks_2 0 rfl rfl)
theorem dX2_asks_47 : decode cX2_asks 47 = .ok (.iaload, 1) := dk_46 (dk_at dksX2_asks_2 1 rfl rfl)
theorem dX2_asks_48 : decode cX2_asks 48 = .ok (.iastore, 1) := dk_79 (dk_at dksX2_asks_2 2 rfl rfl)
theorem dX2_asks_49 : decode cX2_asks 49 = .ok (.aload_n 0, 1) := dk_42 (dk_at dksX2_asks_2 3 rfl rfl)
theorem dX2_asks_50 : decode cX2_asks 50 = .ok (.getfield 68, 3) := dk_180 0 68 (dk_at dksX2_asks_2 4 rfl rfl)
theorem dX2_asks_53 : decode cX2_asks 53 = .ok (.iconst 5, 1) := dk_8 (dk_at dksX2_asks_2 7 rfl rfl)
theorem dX2_asks_54 : decode cX2_asks 54 = .ok (.iconst 0, 1) := dk_3 (dk_at dksX2_asks_2 8 rfl rfl)
theorem dX2_asks_55 : decode cX2_asks 55 = .ok (.iastore, 1) := dk_79 (dk_at dksX2_asks_2 9 rfl rfl)
theorem dX2_asks_56 : decode cX2_asks 56 = .ok (.aload_n 0, 1) := dk_42 (dk_at dksX2_asks_2 10 rfl rfl)
theorem dX2_asks_57 : decode cX2_asks 57 = .ok (.getfield 68, 3) := dk_180 0 68 (dk_at dksX2_asks_2 11 rfl rfl)
theorem dX2_asks_60 : decode cX2_asks 60 = .ok (.bipush 6, 2) := dk_16 6 (dk_at dksX2_asks_2 14 rfl rfl)
theorem dX2_asks_62 : decode cX2_asks 62 = .ok (.iconst 0, 1) := dk_3 (dk_at dksX2_asks_2 16 rfl rfl)
theorem dX2_asks_63 : decode cX2_asks 63 = .ok (.iastore, 1) := dk_79 (dk_at dksX2_asks_2 17 rfl rfl)
theorem dX2_asks_64 : decode cX2_asks 64 = .ok (.aload_n 0, 1) := dk_42 (dk_at dksX2_asks_2 18 rfl rfl)
theorem dX2_asks_65 : decode cX2_asks 65 = .ok (.getfield 68, 3) := dk_180 0 68 (dk_at dksX2_asks_2 19 rfl rfl)
theorem dX2_asks_68 : decode cX2_asks 68 = .ok (.bipush 7, 2) := dk_16 7 (dk_at dksX2_asks_2 22 rfl rfl)
theorem dX2_asks_70 : decode cX2_asks 70 = .ok (.aload_n 0, 1) := dk_42 (dk_at dksX2_asks_3 0 rfl rfl)
theorem dX2_asks_71 : decode cX2_asks 71 = .ok (.getfield 7, 3) := dk_180 0 7 (dk_at dksX2_asks_3 1 rfl rfl)
theorem dX2_asks_74 : decode cX2_asks 74 = .ok (.iconst 3, 1) := dk_6 (dk_at dksX2_asks_3 4 rfl rfl)
theorem dX2_asks_75 : decode cX2_asks 75 = .ok (.iaload, 1) := dk_46 (dk_at dksX2_asks_3 5 rfl rfl)
theorem dX2_asks_76 : decode cX2_asks 76 = .ok (.iastore, 1) := dk_79 (dk_at dksX2_asks_3 6 rfl rfl)
theorem dX2_asks_77 : decode cX2_asks 77 = .ok (.aload_n 0, 1) := dk_42 (dk_at dksX2_asks_3 7 rfl rfl)
theorem dX2_asks_78 : decode cX2_asks 78 = .ok (.getfield 68, 3) := dk_180 0 68 (dk_at dksX2_asks_3 8 rfl rfl)
theorem dX2_asks_81 : decode cX2_asks 81 = .ok (.bipush 8, 2) := dk_16 8 (dk_at dksX2_asks_3 11 rfl rfl)
theorem dX2_asks_83 : decode cX2_asks 83 = .ok (.aload_n 0, 1) := dk_42 (dk_at dksX2_asks_3 13 rfl rfl)
theorem dX2_asks_84 : decode cX2_asks 84 = .ok (.aload_n 0, 1) := dk_42 (dk_at dksX2_asks_3 14 rfl rfl)
theorem dX2_asks_85 : decode cX2_asks 85 = .ok (.iload_n 2, 1) := dk_28 (dk_at dksX2_asks_3 15 rfl rfl)
theorem dX2_asks_86 : decode cX2_asks 86 = .ok (.iconst 0, 1) := dk_3 (dk_at dksX2_asks_3 16 rfl rfl)
theorem dX2_asks_87 : decode cX2_asks 87 = .ok (.invokevirtual 294, 3) := dk_182 1 38 (dk_at dksX2_asks_3 17 rfl rfl)
theorem dX2_asks_90 : decode cX2_asks 90 = .ok (.invokevirtual 297, 3) := dk_182 1 41 (dk_at dksX2_asks_3 20 rfl rfl)
theorem dX2_asks_93 : decode cX2_asks 93 = .ok (.iastore, 1) := dk_79 (dk_at dksX2_asks_3 23 rfl rfl)
theorem dX2_asks_94 : decode cX2_asks 94 = .ok (.return_, 1) := dk_177 (dk_at dksX2_asks_4 0 rfl rfl)
abbrev cX2_allAt : ByteArray := prog_21_method_67_code
def yX2_allAt : MethodName := ⟨RX2, "allAt", "(I)I"⟩
def dkwX2_allAt_1 : List UInt8 := [28, 172]
abbrev dktX2_allAt_1 : List UInt8 := dkwX2_allAt_1 ++ []
def dkwX2_allAt_0 : List UInt8 := [3, 61, 3, 62, 29, 8, 162, 0, 18, 28, 42, 27, 29, 182, 1, 32, 96, 61, 132, 3, 1, 167, 255, 239]
abbrev dktX2_allAt_0 : List UInt8 := dkwX2_allAt_0 ++ dktX2_allAt_1
theorem dksX2_allAt_0 : cX2_allAt.data.toList.drop 0 = dktX2_allAt_0 := by decide +kernel
theorem dksX2_allAt_1 : cX2_allAt.data.toList.drop 24 = dktX2_allAt_1 := dk_seg dksX2_allAt_0 24 rfl rfl
theorem dX2_allAt_0 : decode cX2_allAt 0 = .ok (.iconst 0, 1) := dk_3 (dk_at dksX2_allAt_0 0 rfl rfl)
theorem dX2_allAt_1 : decode cX2_allAt 1 = .ok (.istore_n 2, 1) := dk_61 (dk_at dksX2_allAt_0 1 rfl rfl)
theorem dX2_allAt_2 : decode cX2_allAt 2 = .ok (.iconst 0, 1) := dk_3 (dk_at dksX2_allAt_0 2 rfl rfl)
theorem dX2_allAt_3 : decode cX2_allAt 3 = .ok (.istore_n 3, 1) := dk_62 (dk_at dksX2_allAt_0 3 rfl rfl)
theorem dX2_allAt_4 : decode cX2_allAt 4 = .ok (.iload_n 3, 1) := dk_29 (dk_at dksX2_allAt_0 4 rfl rfl)
theorem dX2_allAt_5 : decode cX2_allAt 5 = .ok (.iconst 5, 1) := dk_8 (dk_at dksX2_allAt_0 5 rfl rfl)
theorem dX2_allAt_6 : decode cX2_allAt 6 = .ok (.if_icmp .ge 18, 3) := dk_162 0 18 (dk_at dksX2_allAt_0 6 rfl rfl)
theorem dX2_allAt_9 : decode cX2_allAt 9 = .ok (.iload_n 2, 1) := dk_28 (dk_at dksX2_allAt_0 9 rfl rfl)
theorem dX2_allAt_10 : decode cX2_allAt 10 = .ok (.aload_n 0, 1) := dk_42 (dk_at dksX2_allAt_0 10 rfl rfl)
theorem dX2_allAt_11 : decode cX2_allAt 11 = .ok (.iload_n 1, 1) := dk_27 (dk_at dksX2_allAt_0 11 rfl rfl)
theorem dX2_allAt_12 : decode cX2_allAt 12 = .ok (.iload_n 3, 1) := dk_29 (dk_at dksX2_allAt_0 12 rfl rfl)
theorem dX2_allAt_13 : decode cX2_allAt 13 = .ok (.invokevirtual 288, 3) := dk_182 1 32 (dk_at dksX2_allAt_0 13 rfl rfl)
theorem dX2_allAt_16 : decode cX2_allAt 16 = .ok (.iadd, 1) := dk_96 (dk_at dksX2_allAt_0 16 rfl rfl)
theorem dX2_allAt_17 : decode cX2_allAt 17 = .ok (.istore_n 2, 1) := dk_61 (dk_at dksX2_allAt_0 17 rfl rfl)
theorem dX2_allAt_18 : decode cX2_allAt 18 = .ok (.iinc 3 1, 3) := dk_132 3 1 (dk_at dksX2_allAt_0 18 rfl rfl)
theorem dX2_allAt_21 : decode cX2_allAt 21 = .ok (.goto (-17), 3) := dk_167 255 239 (dk_at dksX2_allAt_0 21 rfl rfl)
theorem dX2_allAt_24 : decode cX2_allAt 24 = .ok (.iload_n 2, 1) := dk_28 (dk_at dksX2_allAt_1 0 rfl rfl)
theorem dX2_allAt_25 : decode cX2_allAt 25 = .ok (.ireturn, 1) := dk_172 (dk_at dksX2_allAt_1 1 rfl rfl)
abbrev cX2_thereAt : ByteArray := prog_21_method_68_code
def yX2_thereAt : MethodName := ⟨RX2, "thereAt", "(II)I"⟩
def dkwX2_thereAt_2 : List UInt8 := [120, 128, 62, 132, 4, 1, 167, 255, 207, 29, 172]
abbrev dktX2_thereAt_2 : List UInt8 := dkwX2_thereAt_2 ++ []
def dkwX2_thereAt_1 : List UInt8 := [96, 46, 27, 160, 0, 24, 42, 180, 0, 7, 16, 81, 21, 4, 96, 46, 28, 160, 0, 10, 29, 4, 21, 4]
abbrev dktX2_thereAt_1 : List UInt8 := dkwX2_thereAt_1 ++ dktX2_thereAt_2
def dkwX2_thereAt_0 : List UInt8 := [3, 62, 3, 54, 4, 21, 4, 42, 180, 0, 7, 7, 46, 162, 0, 44, 42, 180, 0, 7, 16, 69, 21, 4]
abbrev dktX2_thereAt_0 : List UInt8 := dkwX2_thereAt_0 ++ dktX2_thereAt_1
theorem dksX2_thereAt_0 : cX2_thereAt.data.toList.drop 0 = dktX2_thereAt_0 := by decide +kernel
theorem dksX2_thereAt_1 : cX2_thereAt.data.toList.drop 24 = dktX2_thereAt_1 := dk_seg dksX2_thereAt_0 24 rfl rfl
theorem dksX2_thereAt_2 : cX2_thereAt.data.toList.drop 48 = dktX2_thereAt_2 := dk_seg dksX2_thereAt_1 24 rfl rfl
theorem dX2_thereAt_0 : decode cX2_thereAt 0 = .ok (.iconst 0, 1) := dk_3 (dk_at dksX2_thereAt_0 0 rfl rfl)
theorem dX2_thereAt_1 : decode cX2_thereAt 1 = .ok (.istore_n 3, 1) := dk_62 (dk_at dksX2_thereAt_0 1 rfl rfl)
theorem dX2_thereAt_2 : decode cX2_thereAt 2 = .ok (.iconst 0, 1) := dk_3 (dk_at dksX2_thereAt_0 2 rfl rfl)
theorem dX2_thereAt_3 : decode cX2_thereAt 3 = .ok (.istore 4, 2) := dk_54 4 (dk_at dksX2_thereAt_0 3 rfl rfl)
theorem dX2_thereAt_5 : decode cX2_thereAt 5 = .ok (.iload 4, 2) := dk_21 4 (dk_at dksX2_thereAt_0 5 rfl rfl)
theorem dX2_thereAt_7 : decode cX2_thereAt 7 = .ok (.aload_n 0, 1) := dk_42 (dk_at dksX2_thereAt_0 7 rfl rfl)
theorem dX2_thereAt_8 : decode cX2_thereAt 8 = .ok (.getfield 7, 3) := dk_180 0 7 (dk_at dksX2_thereAt_0 8 rfl rfl)
theorem dX2_thereAt_11 : decode cX2_thereAt 11 = .ok (.iconst 4, 1) := dk_7 (dk_at dksX2_thereAt_0 11 rfl rfl)
theorem dX2_thereAt_12 : decode cX2_thereAt 12 = .ok (.iaload, 1) := dk_46 (dk_at dksX2_thereAt_0 12 rfl rfl)
theorem dX2_thereAt_13 : decode cX2_thereAt 13 = .ok (.if_icmp .ge 44, 3) := dk_162 0 44 (dk_at dksX2_thereAt_0 13 rfl rfl)
theorem dX2_thereAt_16 : decode cX2_thereAt 16 = .ok (.aload_n 0, 1) := dk_42 (dk_at dksX2_thereAt_0 16 rfl rfl)
theorem dX2_thereAt_17 : decode cX2_thereAt 17 = .ok (.getfield 7, 3) := dk_180 0 7 (dk_at dksX2_thereAt_0 17 rfl rfl)
theorem dX2_thereAt_20 : decode cX2_thereAt 20 = .ok (.bipush 69, 2) := dk_16 69 (dk_at dksX2_thereAt_0 20 rfl rfl)
theorem dX2_thereAt_22 : decode cX2_thereAt 22 = .ok (.iload 4, 2) := dk_21 4 (dk_at dksX2_thereAt_0 22 rfl rfl)
theorem dX2_thereAt_24 : decode cX2_thereAt 24 = .ok (.iadd, 1) := dk_96 (dk_at dksX2_thereAt_1 0 rfl rfl)
theorem dX2_thereAt_25 : decode cX2_thereAt 25 = .ok (.iaload, 1) := dk_46 (dk_at dksX2_thereAt_1 1 rfl rfl)
theorem dX2_thereAt_26 : decode cX2_thereAt 26 = .ok (.iload_n 1, 1) := dk_27 (dk_at dksX2_thereAt_1 2 rfl rfl)
theorem dX2_thereAt_27 : decode cX2_thereAt 27 = .ok (.if_icmp .ne 24, 3) := dk_160 0 24 (dk_at dksX2_thereAt_1 3 rfl rfl)
theorem dX2_thereAt_30 : decode cX2_thereAt 30 = .ok (.aload_n 0, 1) := dk_42 (dk_at dksX2_thereAt_1 6 rfl rfl)
theorem dX2_thereAt_31 : decode cX2_thereAt 31 = .ok (.getfield 7, 3) := dk_180 0 7 (dk_at dksX2_thereAt_1 7 rfl rfl)
theorem dX2_thereAt_34 : decode cX2_thereAt 34 = .ok (.bipush 81, 2) := dk_16 81 (dk_at dksX2_thereAt_1 10 rfl rfl)
theorem dX2_thereAt_36 : decode cX2_thereAt 36 = .ok (.iload 4, 2) := dk_21 4 (dk_at dksX2_thereAt_1 12 rfl rfl)
theorem dX2_thereAt_38 : decode cX2_thereAt 38 = .ok (.iadd, 1) := dk_96 (dk_at dksX2_thereAt_1 14 rfl rfl)
theorem dX2_thereAt_39 : decode cX2_thereAt 39 = .ok (.iaload, 1) := dk_46 (dk_at dksX2_thereAt_1 15 rfl rfl)
theorem dX2_thereAt_40 : decode cX2_thereAt 40 = .ok (.iload_n 2, 1) := dk_28 (dk_at dksX2_thereAt_1 16 rfl rfl)
theorem dX2_thereAt_41 : decode cX2_thereAt 41 = .ok (.if_icmp .ne 10, 3) := dk_160 0 10 (dk_at dksX2_thereAt_1 17 rfl rfl)
theorem dX2_thereAt_44 : decode cX2_thereAt 44 = .ok (.iload_n 3, 1) := dk_29 (dk_at dksX2_thereAt_1 20 rfl rfl)
theorem dX2_thereAt_45 : decode cX2_thereAt 45 = .ok (.iconst 1, 1) := dk_4 (dk_at dksX2_thereAt_1 21 rfl rfl)
theorem dX2_thereAt_46 : decode cX2_thereAt 46 = .ok (.iload 4, 2) := dk_21 4 (dk_at dksX2_thereAt_1 22 rfl rfl)
theorem dX2_thereAt_48 : decode cX2_thereAt 48 = .ok (.ishl, 1) := dk_120 (dk_at dksX2_thereAt_2 0 rfl rfl)
theorem dX2_thereAt_49 : decode cX2_thereAt 49 = .ok (.ior, 1) := dk_128 (dk_at dksX2_thereAt_2 1 rfl rfl)
theorem dX2_thereAt_50 : decode cX2_thereAt 50 = .ok (.istore_n 3, 1) := dk_62 (dk_at dksX2_thereAt_2 2 rfl rfl)
theorem dX2_thereAt_51 : decode cX2_thereAt 51 = .ok (.iinc 4 1, 3) := dk_132 4 1 (dk_at dksX2_thereAt_2 3 rfl rfl)
theorem dX2_thereAt_54 : decode cX2_thereAt 54 = .ok (.goto (-49), 3) := dk_167 255 207 (dk_at dksX2_thereAt_2 6 rfl rfl)
theorem dX2_thereAt_57 : decode cX2_thereAt 57 = .ok (.iload_n 3, 1) := dk_29 (dk_at dksX2_thereAt_2 9 rfl rfl)
theorem dX2_thereAt_58 : decode cX2_thereAt 58 = .ok (.ireturn, 1) := dk_172 (dk_at dksX2_thereAt_2 10 rfl rfl)
abbrev cX2_onesOf : ByteArray := prog_21_method_6_code
def yX2_onesOf : MethodName := ⟨RX2, "onesOf", "(I)I"⟩
def dkwX2_onesOf_0 : List UInt8 := [3, 61, 27, 62, 29, 153, 0, 16, 28, 4, 96, 61, 29, 29, 4, 100, 126, 62, 167, 255, 242, 28, 172]
abbrev dktX2_onesOf_0 : List UInt8 := dkwX2_onesOf_0 ++ []
theorem dksX2_onesOf_0 : cX2_onesOf.data.toList.drop 0 = dktX2_onesOf_0 := by decide +kernel
theorem dX2_onesOf_0 : decode cX2_onesOf 0 = .ok (.iconst 0, 1) := dk_3 (dk_at dksX2_onesOf_0 0 rfl rfl)
theorem dX2_onesOf_1 : decode cX2_onesOf 1 = .ok (.istore_n 2, 1) := dk_61 (dk_at dksX2_onesOf_0 1 rfl rfl)
theorem dX2_onesOf_2 : decode cX2_onesOf 2 = .ok (.iload_n 1, 1) := dk_27 (dk_at dksX2_onesOf_0 2 rfl rfl)
theorem dX2_onesOf_3 : decode cX2_onesOf 3 = .ok (.istore_n 3, 1) := dk_62 (dk_at dksX2_onesOf_0 3 rfl rfl)
theorem dX2_onesOf_4 : decode cX2_onesOf 4 = .ok (.iload_n 3, 1) := dk_29 (dk_at dksX2_onesOf_0 4 rfl rfl)
theorem dX2_onesOf_5 : decode cX2_onesOf 5 = .ok (.ifCond .eq 16, 3) := dk_153 0 16 (dk_at dksX2_onesOf_0 5 rfl rfl)
theorem dX2_onesOf_8 : decode cX2_onesOf 8 = .ok (.iload_n 2, 1) := dk_28 (dk_at dksX2_onesOf_0 8 rfl rfl)
theorem dX2_onesOf_9 : decode cX2_onesOf 9 = .ok (.iconst 1, 1) := dk_4 (dk_at dksX2_onesOf_0 9 rfl rfl)
theorem dX2_onesOf_10 : decode cX2_onesOf 10 = .ok (.iadd, 1) := dk_96 (dk_at dksX2_onesOf_0 10 rfl rfl)
theorem dX2_onesOf_11 : decode cX2_onesOf 11 = .ok (.istore_n 2, 1) := dk_61 (dk_at dksX2_onesOf_0 11 rfl rfl)
theorem dX2_onesOf_12 : decode cX2_onesOf 12 = .ok (.iload_n 3, 1) := dk_29 (dk_at dksX2_onesOf_0 12 rfl rfl)
theorem dX2_onesOf_13 : decode cX2_onesOf 13 = .ok (.iload_n 3, 1) := dk_29 (dk_at dksX2_onesOf_0 13 rfl rfl)
theorem dX2_onesOf_14 : decode cX2_onesOf 14 = .ok (.iconst 1, 1) := dk_4 (dk_at dksX2_onesOf_0 14 rfl rfl)
theorem dX2_onesOf_15 : decode cX2_onesOf 15 = .ok (.isub, 1) := dk_100 (dk_at dksX2_onesOf_0 15 rfl rfl)
theorem dX2_onesOf_16 : decode cX2_onesOf 16 = .ok (.iand, 1) := dk_126 (dk_at dksX2_onesOf_0 16 rfl rfl)
theorem dX2_onesOf_17 : decode cX2_onesOf 17 = .ok (.istore_n 3, 1) := dk_62 (dk_at dksX2_onesOf_0 17 rfl rfl)
theorem dX2_onesOf_18 : decode cX2_onesOf 18 = .ok (.goto (-14), 3) := dk_167 255 242 (dk_at dksX2_onesOf_0 18 rfl rfl)
theorem dX2_onesOf_21 : decode cX2_onesOf 21 = .ok (.iload_n 2, 1) := dk_28 (dk_at dksX2_onesOf_0 21 rfl rfl)
theorem dX2_onesOf_22 : decode cX2_onesOf 22 = .ok (.ireturn, 1) := dk_172 (dk_at dksX2_onesOf_0 22 rfl rfl)
abbrev cX2_lawTells : ByteArray := prog_21_method_71_code
def yX2_lawTells : MethodName := ⟨RX2, "lawTells", "(III)I"⟩
def dkwX2_lawTells_1 : List UInt8 := [21, 4, 46, 42, 180, 0, 40, 21, 4, 46, 182, 1, 29, 3, 29, 182, 0, 98, 172]
abbrev dktX2_lawTells_1 : List UInt8 := dkwX2_lawTells_1 ++ []
def dkwX2_lawTells_0 : List UInt8 := [42, 27, 182, 1, 47, 54, 4, 42, 21, 4, 2, 160, 0, 7, 28, 167, 0, 22, 42, 3, 42, 180, 0, 37]
abbrev dktX2_lawTells_0 : List UInt8 := dkwX2_lawTells_0 ++ dktX2_lawTells_1
theorem dksX2_lawTells_0 : cX2_lawTells.data.toList.drop 0 = dktX2_lawTells_0 := by decide +kernel
theorem dksX2_lawTells_1 : cX2_lawTells.data.toList.drop 24 = dktX2_lawTells_1 := dk_seg dksX2_lawTells_0 24 rfl rfl
theorem dX2_lawTells_0 : decode cX2_lawTells 0 = .ok (.aload_n 0, 1) := dk_42 (dk_at dksX2_lawTells_0 0 rfl rfl)
theorem dX2_lawTells_1 : decode cX2_lawTells 1 = .ok (.iload_n 1, 1) := dk_27 (dk_at dksX2_lawTells_0 1 rfl rfl)
theorem dX2_lawTells_2 : decode cX2_lawTells 2 = .ok (.invokevirtual 303, 3) := dk_182 1 47 (dk_at dksX2_lawTells_0 2 rfl rfl)
theorem dX2_lawTells_5 : decode cX2_lawTells 5 = .ok (.istore 4, 2) := dk_54 4 (dk_at dksX2_lawTells_0 5 rfl rfl)
theorem dX2_lawTells_7 : decode cX2_lawTells 7 = .ok (.aload_n 0, 1) := dk_42 (dk_at dksX2_lawTells_0 7 rfl rfl)
theorem dX2_lawTells_8 : decode cX2_lawTells 8 = .ok (.iload 4, 2) := dk_21 4 (dk_at dksX2_lawTells_0 8 rfl rfl)
theorem dX2_lawTells_10 : decode cX2_lawTells 10 = .ok (.iconst (-1), 1) := dk_2 (dk_at dksX2_lawTells_0 10 rfl rfl)
theorem dX2_lawTells_11 : decode cX2_lawTells 11 = .ok (.if_icmp .ne 7, 3) := dk_160 0 7 (dk_at dksX2_lawTells_0 11 rfl rfl)
theorem dX2_lawTells_14 : decode cX2_lawTells 14 = .ok (.iload_n 2, 1) := dk_28 (dk_at dksX2_lawTells_0 14 rfl rfl)
theorem dX2_lawTells_15 : decode cX2_lawTells 15 = .ok (.goto 22, 3) := dk_167 0 22 (dk_at dksX2_lawTells_0 15 rfl rfl)
theorem dX2_lawTells_18 : decode cX2_lawTells 18 = .ok (.aload_n 0, 1) := dk_42 (dk_at dksX2_lawTells_0 18 rfl rfl)
theorem dX2_lawTells_19 : decode cX2_lawTells 19 = .ok (.iconst 0, 1) := dk_3 (dk_at dksX2_lawTells_0 19 rfl rfl)
theorem dX2_lawTells_20 : decode cX2_lawTells 20 = .ok (.aload_n 0, 1) := dk_42 (dk_at dksX2_lawTells_0 20 rfl rfl)
theorem dX2_lawTells_21 : decode cX2_lawTells 21 = .ok (.getfield 37, 3) := dk_180 0 37 (dk_at dksX2_lawTells_0 21 rfl rfl)
theorem dX2_lawTells_24 : decode cX2_lawTells 24 = .ok (.iload 4, 2) := dk_21 4 (dk_at dksX2_lawTells_1 0 rfl rfl)
theorem dX2_lawTells_26 : decode cX2_lawTells 26 = .ok (.iaload, 1) := dk_46 (dk_at dksX2_lawTells_1 2 rfl rfl)
theorem dX2_lawTells_27 : decode cX2_lawTells 27 = .ok (.aload_n 0, 1) := dk_42 (dk_at dksX2_lawTells_1 3 rfl rfl)
theorem dX2_lawTells_28 : decode cX2_lawTells 28 = .ok (.getfield 40, 3) := dk_180 0 40 (dk_at dksX2_lawTells_1 4 rfl rfl)
theorem dX2_lawTells_31 : decode cX2_lawTells 31 = .ok (.iload 4, 2) := dk_21 4 (dk_at dksX2_lawTells_1 7 rfl rfl)
theorem dX2_lawTells_33 : decode cX2_lawTells 33 = .ok (.iaload, 1) := dk_46 (dk_at dksX2_lawTells_1 9 rfl rfl)
theorem dX2_lawTells_34 : decode cX2_lawTells 34 = .ok (.invokevirtual 285, 3) := dk_182 1 29 (dk_at dksX2_lawTells_1 10 rfl rfl)
theorem dX2_lawTells_37 : decode cX2_lawTells 37 = .ok (.iconst 0, 1) := dk_3 (dk_at dksX2_lawTells_1 13 rfl rfl)
theorem dX2_lawTells_38 : decode cX2_lawTells 38 = .ok (.iload_n 3, 1) := dk_29 (dk_at dksX2_lawTells_1 14 rfl rfl)
theorem dX2_lawTells_39 : decode cX2_lawTells 39 = .ok (.invokevirtual 98, 3) := dk_182 0 98 (dk_at dksX2_lawTells_1 15 rfl rfl)
theorem dX2_lawTells_42 : decode cX2_lawTells 42 = .ok (.ireturn, 1) := dk_172 (dk_at dksX2_lawTells_1 18 rfl rfl)
abbrev cX2_lineOf : ByteArray := prog_21_method_66_code
def yX2_lineOf : MethodName := ⟨RX2, "lineOf", "(I)I"⟩
def dkwX2_lineOf_2 : List UInt8 := [180, 0, 43, 28, 46, 182, 1, 29, 153, 0, 5, 28, 172, 132, 2, 1, 167, 255, 196, 2, 172]
abbrev dktX2_lineOf_2 : List UInt8 := dkwX2_lineOf_2 ++ []
def dkwX2_lineOf_1 : List UInt8 := [180, 0, 40, 28, 46, 42, 180, 0, 43, 28, 46, 159, 0, 23, 42, 3, 42, 180, 0, 40, 28, 46, 42]
abbrev dktX2_lineOf_1 : List UInt8 := dkwX2_lineOf_1 ++ dktX2_lineOf_2
def dkwX2_lineOf_0 : List UInt8 := [3, 61, 28, 42, 180, 0, 31, 3, 46, 162, 0, 56, 42, 180, 0, 34, 28, 46, 27, 160, 0, 40, 42]
abbrev dktX2_lineOf_0 : List UInt8 := dkwX2_lineOf_0 ++ dktX2_lineOf_1
theorem dksX2_lineOf_0 : cX2_lineOf.data.toList.drop 0 = dktX2_lineOf_0 := by decide +kernel
theorem dksX2_lineOf_1 : cX2_lineOf.data.toList.drop 23 = dktX2_lineOf_1 := dk_seg dksX2_lineOf_0 23 rfl rfl
theorem dksX2_lineOf_2 : cX2_lineOf.data.toList.drop 46 = dktX2_lineOf_2 := dk_seg dksX2_lineOf_1 23 rfl rfl
theorem dX2_lineOf_0 : decode cX2_lineOf 0 = .ok (.iconst 0, 1) := dk_3 (dk_at dksX2_lineOf_0 0 rfl rfl)
theorem dX2_lineOf_1 : decode cX2_lineOf 1 = .ok (.istore_n 2, 1) := dk_61 (dk_at dksX2_lineOf_0 1 rfl rfl)
theorem dX2_lineOf_2 : decode cX2_lineOf 2 = .ok (.iload_n 2, 1) := dk_28 (dk_at dksX2_lineOf_0 2 rfl rfl)
theorem dX2_lineOf_3 : decode cX2_lineOf 3 = .ok (.aload_n 0, 1) := dk_42 (dk_at dksX2_lineOf_0 3 rfl rfl)
theorem dX2_lineOf_4 : decode cX2_lineOf 4 = .ok (.getfield 31, 3) := dk_180 0 31 (dk_at dksX2_lineOf_0 4 rfl rfl)
theorem dX2_lineOf_7 : decode cX2_lineOf 7 = .ok (.iconst 0, 1) := dk_3 (dk_at dksX2_lineOf_0 7 rfl rfl)
theorem dX2_lineOf_8 : decode cX2_lineOf 8 = .ok (.iaload, 1) := dk_46 (dk_at dksX2_lineOf_0 8 rfl rfl)
theorem dX2_lineOf_9 : decode cX2_lineOf 9 = .ok (.if_icmp .ge 56, 3) := dk_162 0 56 (dk_at dksX2_lineOf_0 9 rfl rfl)
theorem dX2_lineOf_12 : decode cX2_lineOf 12 = .ok (.aload_n 0, 1) := dk_42 (dk_at dksX2_lineOf_0 12 rfl rfl)
theorem dX2_lineOf_13 : decode cX2_lineOf 13 = .ok (.getfield 34, 3) := dk_180 0 34 (dk_at dksX2_lineOf_0 13 rfl rfl)
theorem dX2_lineOf_16 : decode cX2_lineOf 16 = .ok (.iload_n 2, 1) := dk_28 (dk_at dksX2_lineOf_0 16 rfl rfl)
theorem dX2_lineOf_17 : decode cX2_lineOf 17 = .ok (.iaload, 1) := dk_46 (dk_at dksX2_lineOf_0 17 rfl rfl)
theorem dX2_lineOf_18 : decode cX2_lineOf 18 = .ok (.iload_n 1, 1) := dk_27 (dk_at dksX2_lineOf_0 18 rfl rfl)
theorem dX2_lineOf_19 : decode cX2_lineOf 19 = .ok (.if_icmp .ne 40, 3) := dk_160 0 40 (dk_at dksX2_lineOf_0 19 rfl rfl)
theorem dX2_lineOf_22 : decode cX2_lineOf 22 = .ok (.aload_n 0, 1) := dk_42 (dk_at dksX2_lineOf_0 22 rfl rfl)
theorem dX2_lineOf_23 : decode cX2_lineOf 23 = .ok (.getfield 40, 3) := dk_180 0 40 (dk_at dksX2_lineOf_1 0 rfl rfl)
theorem dX2_lineOf_26 : decode cX2_lineOf 26 = .ok (.iload_n 2, 1) := dk_28 (dk_at dksX2_lineOf_1 3 rfl rfl)
theorem dX2_lineOf_27 : decode cX2_lineOf 27 = .ok (.iaload, 1) := dk_46 (dk_at dksX2_lineOf_1 4 rfl rfl)
theorem dX2_lineOf_28 : decode cX2_lineOf 28 = .ok (.aload_n 0, 1) := dk_42 (dk_at dksX2_lineOf_1 5 rfl rfl)
theorem dX2_lineOf_29 : decode cX2_lineOf 29 = .ok (.getfield 43, 3) := dk_180 0 43 (dk_at dksX2_lineOf_1 6 rfl rfl)
theorem dX2_lineOf_32 : decode cX2_lineOf 32 = .ok (.iload_n 2, 1) := dk_28 (dk_at dksX2_lineOf_1 9 rfl rfl)
theorem dX2_lineOf_33 : decode cX2_lineOf 33 = .ok (.iaload, 1) := dk_46 (dk_at dksX2_lineOf_1 10 rfl rfl)
theorem dX2_lineOf_34 : decode cX2_lineOf 34 = .ok (.if_icmp .eq 23, 3) := dk_159 0 23 (dk_at dksX2_lineOf_1 11 rfl rfl)
theorem dX2_lineOf_37 : decode cX2_lineOf 37 = .ok (.aload_n 0, 1) := dk_42 (dk_at dksX2_lineOf_1 14 rfl rfl)
theorem dX2_lineOf_38 : decode cX2_lineOf 38 = .ok (.iconst 0, 1) := dk_3 (dk_at dksX2_lineOf_1 15 rfl rfl)
theorem dX2_lineOf_39 : decode cX2_lineOf 39 = .ok (.aload_n 0, 1) := dk_42 (dk_at dksX2_lineOf_1 16 rfl rfl)
theorem dX2_lineOf_40 : decode cX2_lineOf 40 = .ok (.getfield 40, 3) := dk_180 0 40 (dk_at dksX2_lineOf_1 17 rfl rfl)
theorem dX2_lineOf_43 : decode cX2_lineOf 43 = .ok (.iload_n 2, 1) := dk_28 (dk_at dksX2_lineOf_1 20 rfl rfl)
theorem dX2_lineOf_44 : decode cX2_lineOf 44 = .ok (.iaload, 1) := dk_46 (dk_at dksX2_lineOf_1 21 rfl rfl)
theorem dX2_lineOf_45 : decode cX2_lineOf 45 = .ok (.aload_n 0, 1) := dk_42 (dk_at dksX2_lineOf_1 22 rfl rfl)
theorem dX2_lineOf_46 : decode cX2_lineOf 46 = .ok (.getfield 43, 3) := dk_180 0 43 (dk_at dksX2_lineOf_2 0 rfl rfl)
theorem dX2_lineOf_49 : decode cX2_lineOf 49 = .ok (.iload_n 2, 1) := dk_28 (dk_at dksX2_lineOf_2 3 rfl rfl)
theorem dX2_lineOf_50 : decode cX2_lineOf 50 = .ok (.iaload, 1) := dk_46 (dk_at dksX2_lineOf_2 4 rfl rfl)
theorem dX2_lineOf_51 : decode cX2_lineOf 51 = .ok (.invokevirtual 285, 3) := dk_182 1 29 (dk_at dksX2_lineOf_2 5 rfl rfl)
theorem dX2_lineOf_54 : decode cX2_lineOf 54 = .ok (.ifCond .eq 5, 3) := dk_153 0 5 (dk_at dksX2_lineOf_2 8 rfl rfl)
theorem dX2_lineOf_57 : decode cX2_lineOf 57 = .ok (.iload_n 2, 1) := dk_28 (dk_at dksX2_lineOf_2 11 rfl rfl)
theorem dX2_lineOf_58 : decode cX2_lineOf 58 = .ok (.ireturn, 1) := dk_172 (dk_at dksX2_lineOf_2 12 rfl rfl)
theorem dX2_lineOf_59 : decode cX2_lineOf 59 = .ok (.iinc 2 1, 3) := dk_132 2 1 (dk_at dksX2_lineOf_2 13 rfl rfl)
theorem dX2_lineOf_62 : decode cX2_lineOf 62 = .ok (.goto (-60), 3) := dk_167 255 196 (dk_at dksX2_lineOf_2 16 rfl rfl)
theorem dX2_lineOf_65 : decode cX2_lineOf 65 = .ok (.iconst (-1), 1) := dk_2 (dk_at dksX2_lineOf_2 19 rfl rfl)
theorem dX2_lineOf_66 : decode cX2_lineOf 66 = .ok (.ireturn, 1) := dk_172 (dk_at dksX2_lineOf_2 20 rfl rfl)
abbrev cX2_runs : ByteArray := prog_21_method_65_code
def yX2_runs : MethodName := ⟨RX2, "runs", "(III)I"⟩
def dkwX2_runs_7 : List UInt8 := [180, 0, 71, 21, 4, 46, 182, 1, 26, 79, 132, 5, 1, 167, 255, 95, 42, 180, 0, 71, 3, 46, 172]
abbrev dktX2_runs_7 : List UInt8 := dkwX2_runs_7 ++ []
def dkwX2_runs_6 : List UInt8 := [21, 4, 4, 100, 42, 42, 180, 0, 46, 21, 5, 46, 42, 180, 0, 71, 21, 4, 4, 100, 46, 42]
abbrev dktX2_runs_6 : List UInt8 := dkwX2_runs_6 ++ dktX2_runs_7
def dkwX2_runs_5 : List UInt8 := [42, 180, 0, 71, 21, 4, 4, 100, 46, 100, 79, 167, 0, 45, 21, 4, 4, 100, 54, 4, 42, 180, 0, 71]
abbrev dktX2_runs_5 : List UInt8 := dkwX2_runs_5 ++ dktX2_runs_6
def dkwX2_runs_4 : List UInt8 := [167, 0, 80, 42, 180, 0, 46, 21, 5, 46, 16, 9, 160, 0, 26, 42, 180, 0, 71, 21, 4, 4, 100, 4]
abbrev dktX2_runs_4 : List UInt8 := dkwX2_runs_4 ++ dktX2_runs_5
def dkwX2_runs_3 : List UInt8 := [167, 0, 15, 42, 180, 0, 68, 42, 180, 0, 49, 21, 5, 46, 46, 79, 21, 4, 4, 96, 54, 4]
abbrev dktX2_runs_3 : List UInt8 := dkwX2_runs_3 ++ dktX2_runs_4
def dkwX2_runs_2 : List UInt8 := [180, 0, 71, 21, 4, 42, 180, 0, 46, 21, 5, 46, 154, 0, 13, 42, 180, 0, 49, 21, 5, 46]
abbrev dktX2_runs_2 : List UInt8 := dkwX2_runs_2 ++ dktX2_runs_3
def dkwX2_runs_1 : List UInt8 := [42, 180, 0, 46, 21, 5, 46, 153, 0, 14, 42, 180, 0, 46, 21, 5, 46, 4, 160, 0, 51, 42]
abbrev dktX2_runs_1 : List UInt8 := dkwX2_runs_1 ++ dktX2_runs_2
def dkwX2_runs_0 : List UInt8 := [3, 54, 4, 17, 1, 144, 27, 104, 28, 96, 54, 5, 21, 5, 17, 1, 144, 27, 104, 29, 96, 162, 0, 155]
abbrev dktX2_runs_0 : List UInt8 := dkwX2_runs_0 ++ dktX2_runs_1
theorem dksX2_runs_0 : cX2_runs.data.toList.drop 0 = dktX2_runs_0 := by decide +kernel
theorem dksX2_runs_1 : cX2_runs.data.toList.drop 24 = dktX2_runs_1 := dk_seg dksX2_runs_0 24 rfl rfl
theorem dksX2_runs_2 : cX2_runs.data.toList.drop 46 = dktX2_runs_2 := dk_seg dksX2_runs_1 22 rfl rfl
theorem dksX2_runs_3 : cX2_runs.data.toList.drop 68 = dktX2_runs_3 := dk_seg dksX2_runs_2 22 rfl rfl
theorem dksX2_runs_4 : cX2_runs.data.toList.drop 90 = dktX2_runs_4 := dk_seg dksX2_runs_3 22 rfl rfl
theorem dksX2_runs_5 : cX2_runs.data.toList.drop 114 = dktX2_runs_5 := dk_seg dksX2_runs_4 24 rfl rfl
theorem dksX2_runs_6 : cX2_runs.data.toList.drop 138 = dktX2_runs_6 := dk_seg dksX2_runs_5 24 rfl rfl
theorem dksX2_runs_7 : cX2_runs.data.toList.drop 160 = dktX2_runs_7 := dk_seg dksX2_runs_6 22 rfl rfl
theorem dX2_runs_0 : decode cX2_runs 0 = .ok (.iconst 0, 1) := dk_3 (dk_at dksX2_runs_0 0 rfl rfl)
theorem dX2_runs_1 : decode cX2_runs 1 = .ok (.istore 4, 2) := dk_54 4 (dk_at dksX2_runs_0 1 rfl rfl)
theorem dX2_runs_3 : decode cX2_runs 3 = .ok (.sipush 400, 3) := dk_17 1 144 (dk_at dksX2_runs_0 3 rfl rfl)
theorem dX2_runs_6 : decode cX2_runs 6 = .ok (.iload_n 1, 1) := dk_27 (dk_at dksX2_runs_0 6 rfl rfl)
theorem dX2_runs_7 : decode cX2_runs 7 = .ok (.imul, 1) := dk_104 (dk_at dksX2_runs_0 7 rfl rfl)
theorem dX2_runs_8 : decode cX2_runs 8 = .ok (.iload_n 2, 1) := dk_28 (dk_at dksX2_runs_0 8 rfl rfl)
theorem dX2_runs_9 : decode cX2_runs 9 = .ok (.iadd, 1) := dk_96 (dk_at dksX2_runs_0 9 rfl rfl)
theorem dX2_runs_10 : decode cX2_runs 10 = .ok (.istore 5, 2) := dk_54 5 (dk_at dksX2_runs_0 10 rfl rfl)
theorem dX2_runs_12 : decode cX2_runs 12 = .ok (.iload 5, 2) := dk_21 5 (dk_at dksX2_runs_0 12 rfl rfl)
theorem dX2_runs_14 : decode cX2_runs 14 = .ok (.sipush 400, 3) := dk_17 1 144 (dk_at dksX2_runs_0 14 rfl rfl)
theorem dX2_runs_17 : decode cX2_runs 17 = .ok (.iload_n 1, 1) := dk_27 (dk_at dksX2_runs_0 17 rfl rfl)
theorem dX2_runs_18 : decode cX2_runs 18 = .ok (.imul, 1) := dk_104 (dk_at dksX2_runs_0 18 rfl rfl)
theorem dX2_runs_19 : decode cX2_runs 19 = .ok (.iload_n 3, 1) := dk_29 (dk_at dksX2_runs_0 19 rfl rfl)
theorem dX2_runs_20 : decode cX2_runs 20 = .ok (.iadd, 1) := dk_96 (dk_at dksX2_runs_0 20 rfl rfl)
theorem dX2_runs_21 : decode cX2_runs 21 = .ok (.if_icmp .ge 155, 3) := dk_162 0 155 (dk_at dksX2_runs_0 21 rfl rfl)
theorem dX2_runs_24 : decode cX2_runs 24 = .ok (.aload_n 0, 1) := dk_42 (dk_at dksX2_runs_1 0 rfl rfl)
theorem dX2_runs_25 : decode cX2_runs 25 = .ok (.getfield 46, 3) := dk_180 0 46 (dk_at dksX2_runs_1 1 rfl rfl)
theorem dX2_runs_28 : decode cX2_runs 28 = .ok (.iload 5, 2) := dk_21 5 (dk_at dksX2_runs_1 4 rfl rfl)
theorem dX2_runs_30 : decode cX2_runs 30 = .ok (.iaload, 1) := dk_46 (dk_at dksX2_runs_1 6 rfl rfl)
theorem dX2_runs_31 : decode cX2_runs 31 = .ok (.ifCond .eq 14, 3) := dk_153 0 14 (dk_at dksX2_runs_1 7 rfl rfl)
theorem dX2_runs_34 : decode cX2_runs 34 = .ok (.aload_n 0, 1) := dk_42 (dk_at dksX2_runs_1 10 rfl rfl)
theorem dX2_runs_35 : decode cX2_runs 35 = .ok (.getfield 46, 3) := dk_180 0 46 (dk_at dksX2_runs_1 11 rfl rfl)
theorem dX2_runs_38 : decode cX2_runs 38 = .ok (.iload 5, 2) := dk_21 5 (dk_at dksX2_runs_1 14 rfl rfl)
theorem dX2_runs_40 : decode cX2_runs 40 = .ok (.iaload, 1) := dk_46 (dk_at dksX2_runs_1 16 rfl rfl)
theorem dX2_runs_41 : decode cX2_runs 41 = .ok (.iconst 1, 1) := dk_4 (dk_at dksX2_runs_1 17 rfl rfl)
theorem dX2_runs_42 : decode cX2_runs 42 = .ok (.if_icmp .ne 51, 3) := dk_160 0 51 (dk_at dksX2_runs_1 18 rfl rfl)
theorem dX2_runs_45 : decode cX2_runs 45 = .ok (.aload_n 0, 1) := dk_42 (dk_at dksX2_runs_1 21 rfl rfl)
theorem dX2_runs_46 : decode cX2_runs 46 = .ok (.getfield 71, 3) := dk_180 0 71 (dk_at dksX2_runs_2 0 rfl rfl)
theorem dX2_runs_49 : decode cX2_runs 49 = .ok (.iload 4, 2) := dk_21 4 (dk_at dksX2_runs_2 3 rfl rfl)
theorem dX2_runs_51 : decode cX2_runs 51 = .ok (.aload_n 0, 1) := dk_42 (dk_at dksX2_runs_2 5 rfl rfl)
theorem dX2_runs_52 : decode cX2_runs 52 = .ok (.getfield 46, 3) := dk_180 0 46 (dk_at dksX2_runs_2 6 rfl rfl)
theorem dX2_runs_55 : decode cX2_runs 55 = .ok (.iload 5, 2) := dk_21 5 (dk_at dksX2_runs_2 9 rfl rfl)
theorem dX2_runs_57 : decode cX2_runs 57 = .ok (.iaload, 1) := dk_46 (dk_at dksX2_runs_2 11 rfl rfl)
theorem dX2_runs_58 : decode cX2_runs 58 = .ok (.ifCond .ne 13, 3) := dk_154 0 13 (dk_at dksX2_runs_2 12 rfl rfl)
theorem dX2_runs_61 : decode cX2_runs 61 = .ok (.aload_n 0, 1) := dk_42 (dk_at dksX2_runs_2 15 rfl rfl)
theorem dX2_runs_62 : decode cX2_runs 62 = .ok (.getfield 49, 3) := dk_180 0 49 (dk_at dksX2_runs_2 16 rfl rfl)
theorem dX2_runs_65 : decode cX2_runs 65 = .ok (.iload 5, 2) := dk_21 5 (dk_at dksX2_runs_2 19 rfl rfl)
theorem dX2_runs_67 : decode cX2_runs 67 = .ok (.iaload, 1) := dk_46 (dk_at dksX2_runs_2 21 rfl rfl)
theorem dX2_runs_68 : decode cX2_runs 68 = .ok (.goto 15, 3) := dk_167 0 15 (dk_at dksX2_runs_3 0 rfl rfl)
theorem dX2_runs_71 : decode cX2_runs 71 = .ok (.aload_n 0, 1) := dk_42 (dk_at dksX2_runs_3 3 rfl rfl)
theorem dX2_runs_72 : decode cX2_runs 72 = .ok (.getfield 68, 3) := dk_180 0 68 (dk_at dksX2_runs_3 4 rfl rfl)
theorem dX2_runs_75 : decode cX2_runs 75 = .ok (.aload_n 0, 1) := dk_42 (dk_at dksX2_runs_3 7 rfl rfl)
theorem dX2_runs_76 : decode cX2_runs 76 = .ok (.getfield 49, 3) := dk_180 0 49 (dk_at dksX2_runs_3 8 rfl rfl)
theorem dX2_runs_79 : decode cX2_runs 79 = .ok (.iload 5, 2) := dk_21 5 (dk_at dksX2_runs_3 11 rfl rfl)
theorem dX2_runs_81 : decode cX2_runs 81 = .ok (.iaload, 1) := dk_46 (dk_at dksX2_runs_3 13 rfl rfl)
theorem dX2_runs_82 : decode cX2_runs 82 = .ok (.iaload, 1) := dk_46 (dk_at dksX2_runs_3 14 rfl rfl)
theorem dX2_runs_83 : decode cX2_runs 83 = .ok (.iastore, 1) := dk_79 (dk_at dksX2_runs_3 15 rfl rfl)
theorem dX2_runs_84 : decode cX2_runs 84 = .ok (.iload 4, 2) := dk_21 4 (dk_at dksX2_runs_3 16 rfl rfl)
theorem dX2_runs_86 : decode cX2_runs 86 = .ok (.iconst 1, 1) := dk_4 (dk_at dksX2_runs_3 18 rfl rfl)
theorem dX2_runs_87 : decode cX2_runs 87 = .ok (.iadd, 1) := dk_96 (dk_at dksX2_runs_3 19 rfl rfl)
theorem dX2_runs_88 : decode cX2_runs 88 = .ok (.istore 4, 2) := dk_54 4 (dk_at dksX2_runs_3 20 rfl rfl)
theorem dX2_runs_90 : decode cX2_runs 90 = .ok (.goto 80, 3) := dk_167 0 80 (dk_at dksX2_runs_4 0 rfl rfl)
theorem dX2_runs_93 : decode cX2_runs 93 = .ok (.aload_n 0, 1) := dk_42 (dk_at dksX2_runs_4 3 rfl rfl)
theorem dX2_runs_94 : decode cX2_runs 94 = .ok (.getfield 46, 3) := dk_180 0 46 (dk_at dksX2_runs_4 4 rfl rfl)
theorem dX2_runs_97 : decode cX2_runs 97 = .ok (.iload 5, 2) := dk_21 5 (dk_at dksX2_runs_4 7 rfl rfl)
theorem dX2_runs_99 : decode cX2_runs 99 = .ok (.iaload, 1) := dk_46 (dk_at dksX2_runs_4 9 rfl rfl)
theorem dX2_runs_100 : decode cX2_runs 100 = .ok (.bipush 9, 2) := dk_16 9 (dk_at dksX2_runs_4 10 rfl rfl)
theorem dX2_runs_102 : decode cX2_runs 102 = .ok (.if_icmp .ne 26, 3) := dk_160 0 26 (dk_at dksX2_runs_4 12 rfl rfl)
theorem dX2_runs_105 : decode cX2_runs 105 = .ok (.aload_n 0, 1) := dk_42 (dk_at dksX2_runs_4 15 rfl rfl)
theorem dX2_runs_106 : decode cX2_runs 106 = .ok (.getfield 71, 3) := dk_180 0 71 (dk_at dksX2_runs_4 16 rfl rfl)
theorem dX2_runs_109 : decode cX2_runs 109 = .ok (.iload 4, 2) := dk_21 4 (dk_at dksX2_runs_4 19 rfl rfl)
theorem dX2_runs_111 : decode cX2_runs 111 = .ok (.iconst 1, 1) := dk_4 (dk_at dksX2_runs_4 21 rfl rfl)
theorem dX2_runs_112 : decode cX2_runs 112 = .ok (.isub, 1) := dk_100 (dk_at dksX2_runs_4 22 rfl rfl)
theorem dX2_runs_113 : decode cX2_runs 113 = .ok (.iconst 1, 1) := dk_4 (dk_at dksX2_runs_4 23 rfl rfl)
theorem dX2_runs_114 : decode cX2_runs 114 = .ok (.aload_n 0, 1) := dk_42 (dk_at dksX2_runs_5 0 rfl rfl)
theorem dX2_runs_115 : decode cX2_runs 115 = .ok (.getfield 71, 3) := dk_180 0 71 (dk_at dksX2_runs_5 1 rfl rfl)
theorem dX2_runs_118 : decode cX2_runs 118 = .ok (.iload 4, 2) := dk_21 4 (dk_at dksX2_runs_5 4 rfl rfl)
theorem dX2_runs_120 : decode cX2_runs 120 = .ok (.iconst 1, 1) := dk_4 (dk_at dksX2_runs_5 6 rfl rfl)
theorem dX2_runs_121 : decode cX2_runs 121 = .ok (.isub, 1) := dk_100 (dk_at dksX2_runs_5 7 rfl rfl)
theorem dX2_runs_122 : decode cX2_runs 122 = .ok (.iaload, 1) := dk_46 (dk_at dksX2_runs_5 8 rfl rfl)
theorem dX2_runs_123 : decode cX2_runs 123 = .ok (.isub, 1) := dk_100 (dk_at dksX2_runs_5 9 rfl rfl)
theorem dX2_runs_124 : decode cX2_runs 124 = .ok (.iastore, 1) := dk_79 (dk_at dksX2_runs_5 10 rfl rfl)
theorem dX2_runs_125 : decode cX2_runs 125 = .ok (.goto 45, 3) := dk_167 0 45 (dk_at dksX2_runs_5 11 rfl rfl)
theorem dX2_runs_128 : decode cX2_runs 128 = .ok (.iload 4, 2) := dk_21 4 (dk_at dksX2_runs_5 14 rfl rfl)
theorem dX2_runs_130 : decode cX2_runs 130 = .ok (.iconst 1, 1) := dk_4 (dk_at dksX2_runs_5 16 rfl rfl)
theorem dX2_runs_131 : decode cX2_runs 131 = .ok (.isub, 1) := dk_100 (dk_at dksX2_runs_5 17 rfl rfl)
theorem dX2_runs_132 : decode cX2_runs 132 = .ok (.istore 4, 2) := dk_54 4 (dk_at dksX2_runs_5 18 rfl rfl)
theorem dX2_runs_134 : decode cX2_runs 134 = .ok (.aload_n 0, 1) := dk_42 (dk_at dksX2_runs_5 20 rfl rfl)
theorem dX2_runs_135 : decode cX2_runs 135 = .ok (.getfield 71, 3) := dk_180 0 71 (dk_at dksX2_runs_5 21 rfl rfl)
theorem dX2_runs_138 : decode cX2_runs 138 = .ok (.iload 4, 2) := dk_21 4 (dk_at dksX2_runs_6 0 rfl rfl)
theorem dX2_runs_140 : decode cX2_runs 140 = .ok (.iconst 1, 1) := dk_4 (dk_at dksX2_runs_6 2 rfl rfl)
theorem dX2_runs_141 : decode cX2_runs 141 = .ok (.isub, 1) := dk_100 (dk_at dksX2_runs_6 3 rfl rfl)
theorem dX2_runs_142 : decode cX2_runs 142 = .ok (.aload_n 0, 1) := dk_42 (dk_at dksX2_runs_6 4 rfl rfl)
theorem dX2_runs_143 : decode cX2_runs 143 = .ok (.aload_n 0, 1) := dk_42 (dk_at dksX2_runs_6 5 rfl rfl)
theorem dX2_runs_144 : decode cX2_runs 144 = .ok (.getfield 46, 3) := dk_180 0 46 (dk_at dksX2_runs_6 6 rfl rfl)
theorem dX2_runs_147 : decode cX2_runs 147 = .ok (.iload 5, 2) := dk_21 5 (dk_at dksX2_runs_6 9 rfl rfl)
theorem dX2_runs_149 : decode cX2_runs 149 = .ok (.iaload, 1) := dk_46 (dk_at dksX2_runs_6 11 rfl rfl)
theorem dX2_runs_150 : decode cX2_runs 150 = .ok (.aload_n 0, 1) := dk_42 (dk_at dksX2_runs_6 12 rfl rfl)
theorem dX2_runs_151 : decode cX2_runs 151 = .ok (.getfield 71, 3) := dk_180 0 71 (dk_at dksX2_runs_6 13 rfl rfl)
theorem dX2_runs_154 : decode cX2_runs 154 = .ok (.iload 4, 2) := dk_21 4 (dk_at dksX2_runs_6 16 rfl rfl)
theorem dX2_runs_156 : decode cX2_runs 156 = .ok (.iconst 1, 1) := dk_4 (dk_at dksX2_runs_6 18 rfl rfl)
theorem dX2_runs_157 : decode cX2_runs 157 = .ok (.isub, 1) := dk_100 (dk_at dksX2_runs_6 19 rfl rfl)
theorem dX2_runs_158 : decode cX2_runs 158 = .ok (.iaload, 1) := dk_46 (dk_at dksX2_runs_6 20 rfl rfl)
theorem dX2_runs_159 : decode cX2_runs 159 = .ok (.aload_n 0, 1) := dk_42 (dk_at dksX2_runs_6 21 rfl rfl)
theorem dX2_runs_160 : decode cX2_runs 160 = .ok (.getfield 71, 3) := dk_180 0 71 (dk_at dksX2_runs_7 0 rfl rfl)
theorem dX2_runs_163 : decode cX2_runs 163 = .ok (.iload 4, 2) := dk_21 4 (dk_at dksX2_runs_7 3 rfl rfl)
theorem dX2_runs_165 : decode cX2_runs 165 = .ok (.iaload, 1) := dk_46 (dk_at dksX2_runs_7 5 rfl rfl)
theorem dX2_runs_166 : decode cX2_runs 166 = .ok (.invokevirtual 282, 3) := dk_182 1 26 (dk_at dksX2_runs_7 6 rfl rfl)
theorem dX2_runs_169 : decode cX2_runs 169 = .ok (.iastore, 1) := dk_79 (dk_at dksX2_runs_7 9 rfl rfl)
theorem dX2_runs_170 : decode cX2_runs 170 = .ok (.iinc 5 1, 3) := dk_132 5 1 (dk_at dksX2_runs_7 10 rfl rfl)
theorem dX2_runs_173 : decode cX2_runs 173 = .ok (.goto (-161), 3) := dk_167 255 95 (dk_at dksX2_runs_7 13 rfl rfl)
theorem dX2_runs_176 : decode cX2_runs 176 = .ok (.aload_n 0, 1) := dk_42 (dk_at dksX2_runs_7 16 rfl rfl)
theorem dX2_runs_177 : decode cX2_runs 177 = .ok (.getfield 71, 3) := dk_180 0 71 (dk_at dksX2_runs_7 17 rfl rfl)
theorem dX2_runs_180 : decode cX2_runs 180 = .ok (.iconst 0, 1) := dk_3 (dk_at dksX2_runs_7 20 rfl rfl)
theorem dX2_runs_181 : decode cX2_runs 181 = .ok (.iaload, 1) := dk_46 (dk_at dksX2_runs_7 21 rfl rfl)
theorem dX2_runs_182 : decode cX2_runs 182 = .ok (.ireturn, 1) := dk_172 (dk_at dksX2_runs_7 22 rfl rfl)
abbrev cX2_twoOf : ByteArray := prog_21_method_64_code
def yX2_twoOf : MethodName := ⟨RX2, "twoOf", "(III)I"⟩
def dkwX2_twoOf_4 : List UInt8 := [104, 167, 0, 14, 28, 29, 96, 158, 0, 7, 4, 167, 0, 4, 3, 172]
abbrev dktX2_twoOf_4 : List UInt8 := dkwX2_twoOf_4 ++ []
def dkwX2_twoOf_3 : List UInt8 := [16, 8, 160, 0, 14, 28, 29, 164, 0, 7, 4, 167, 0, 4, 3, 172, 27, 16, 10, 160, 0, 9, 28, 29]
abbrev dktX2_twoOf_3 : List UInt8 := dkwX2_twoOf_3 ++ dktX2_twoOf_4
def dkwX2_twoOf_2 : List UInt8 := [167, 0, 4, 3, 172, 27, 16, 7, 160, 0, 14, 28, 29, 160, 0, 7, 4, 167, 0, 4, 3, 172, 27]
abbrev dktX2_twoOf_2 : List UInt8 := dkwX2_twoOf_2 ++ dktX2_twoOf_3
def dkwX2_twoOf_1 : List UInt8 := [29, 104, 172, 27, 8, 160, 0, 7, 28, 29, 108, 172, 27, 16, 6, 160, 0, 14, 28, 29, 162, 0, 7, 4]
abbrev dktX2_twoOf_1 : List UInt8 := dkwX2_twoOf_1 ++ dktX2_twoOf_2
def dkwX2_twoOf_0 : List UInt8 := [27, 5, 160, 0, 7, 28, 29, 96, 172, 27, 6, 160, 0, 7, 28, 29, 100, 172, 27, 7, 160, 0, 7, 28]
abbrev dktX2_twoOf_0 : List UInt8 := dkwX2_twoOf_0 ++ dktX2_twoOf_1
theorem dksX2_twoOf_0 : cX2_twoOf.data.toList.drop 0 = dktX2_twoOf_0 := by decide +kernel
theorem dksX2_twoOf_1 : cX2_twoOf.data.toList.drop 24 = dktX2_twoOf_1 := dk_seg dksX2_twoOf_0 24 rfl rfl
theorem dksX2_twoOf_2 : cX2_twoOf.data.toList.drop 48 = dktX2_twoOf_2 := dk_seg dksX2_twoOf_1 24 rfl rfl
theorem dksX2_twoOf_3 : cX2_twoOf.data.toList.drop 71 = dktX2_twoOf_3 := dk_seg dksX2_twoOf_2 23 rfl rfl
theorem dksX2_twoOf_4 : cX2_twoOf.data.toList.drop 95 = dktX2_twoOf_4 := dk_seg dksX2_twoOf_3 24 rfl rfl
theorem dX2_twoOf_0 : decode cX2_twoOf 0 = .ok (.iload_n 1, 1) := dk_27 (dk_at dksX2_twoOf_0 0 rfl rfl)
theorem dX2_twoOf_1 : decode cX2_twoOf 1 = .ok (.iconst 2, 1) := dk_5 (dk_at dksX2_twoOf_0 1 rfl rfl)
theorem dX2_twoOf_2 : decode cX2_twoOf 2 = .ok (.if_icmp .ne 7, 3) := dk_160 0 7 (dk_at dksX2_twoOf_0 2 rfl rfl)
theorem dX2_twoOf_5 : decode cX2_twoOf 5 = .ok (.iload_n 2, 1) := dk_28 (dk_at dksX2_twoOf_0 5 rfl rfl)
theorem dX2_twoOf_6 : decode cX2_twoOf 6 = .ok (.iload_n 3, 1) := dk_29 (dk_at dksX2_twoOf_0 6 rfl rfl)
theorem dX2_twoOf_7 : decode cX2_twoOf 7 = .ok (.iadd, 1) := dk_96 (dk_at dksX2_twoOf_0 7 rfl rfl)
theorem dX2_twoOf_8 : decode cX2_twoOf 8 = .ok (.ireturn, 1) := dk_172 (dk_at dksX2_twoOf_0 8 rfl rfl)
theorem dX2_twoOf_9 : decode cX2_twoOf 9 = .ok (.iload_n 1, 1) := dk_27 (dk_at dksX2_twoOf_0 9 rfl rfl)
theorem dX2_twoOf_10 : decode cX2_twoOf 10 = .ok (.iconst 3, 1) := dk_6 (dk_at dksX2_twoOf_0 10 rfl rfl)
theorem dX2_twoOf_11 : decode cX2_twoOf 11 = .ok (.if_icmp .ne 7, 3) := dk_160 0 7 (dk_at dksX2_twoOf_0 11 rfl rfl)
theorem dX2_twoOf_14 : decode cX2_twoOf 14 = .ok (.iload_n 2, 1) := dk_28 (dk_at dksX2_twoOf_0 14 rfl rfl)
theorem dX2_twoOf_15 : decode cX2_twoOf 15 = .ok (.iload_n 3, 1) := dk_29 (dk_at dksX2_twoOf_0 15 rfl rfl)
theorem dX2_twoOf_16 : decode cX2_twoOf 16 = .ok (.isub, 1) := dk_100 (dk_at dksX2_twoOf_0 16 rfl rfl)
theorem dX2_twoOf_17 : decode cX2_twoOf 17 = .ok (.ireturn, 1) := dk_172 (dk_at dksX2_twoOf_0 17 rfl rfl)
theorem dX2_twoOf_18 : decode cX2_twoOf 18 = .ok (.iload_n 1, 1) := dk_27 (dk_at dksX2_twoOf_0 18 rfl rfl)
theorem dX2_twoOf_19 : decode cX2_twoOf 19 = .ok (.iconst 4, 1) := dk_7 (dk_at dksX2_twoOf_0 19 rfl rfl)
theorem dX2_twoOf_20 : decode cX2_twoOf 20 = .ok (.if_icmp .ne 7, 3) := dk_160 0 7 (dk_at dksX2_twoOf_0 20 rfl rfl)
theorem dX2_twoOf_23 : decode cX2_twoOf 23 = .ok (.iload_n 2, 1) := dk_28 (dk_at dksX2_twoOf_0 23 rfl rfl)
theorem dX2_twoOf_24 : decode cX2_twoOf 24 = .ok (.iload_n 3, 1) := dk_29 (dk_at dksX2_twoOf_1 0 rfl rfl)
theorem dX2_twoOf_25 : decode cX2_twoOf 25 = .ok (.imul, 1) := dk_104 (dk_at dksX2_twoOf_1 1 rfl rfl)
theorem dX2_twoOf_26 : decode cX2_twoOf 26 = .ok (.ireturn, 1) := dk_172 (dk_at dksX2_twoOf_1 2 rfl rfl)
theorem dX2_twoOf_27 : decode cX2_twoOf 27 = .ok (.iload_n 1, 1) := dk_27 (dk_at dksX2_twoOf_1 3 rfl rfl)
theorem dX2_twoOf_28 : decode cX2_twoOf 28 = .ok (.iconst 5, 1) := dk_8 (dk_at dksX2_twoOf_1 4 rfl rfl)
theorem dX2_twoOf_29 : decode cX2_twoOf 29 = .ok (.if_icmp .ne 7, 3) := dk_160 0 7 (dk_at dksX2_twoOf_1 5 rfl rfl)
theorem dX2_twoOf_32 : decode cX2_twoOf 32 = .ok (.iload_n 2, 1) := dk_28 (dk_at dksX2_twoOf_1 8 rfl rfl)
theorem dX2_twoOf_33 : decode cX2_twoOf 33 = .ok (.iload_n 3, 1) := dk_29 (dk_at dksX2_twoOf_1 9 rfl rfl)
theorem dX2_twoOf_34 : decode cX2_twoOf 34 = .ok (.idiv, 1) := dk_108 (dk_at dksX2_twoOf_1 10 rfl rfl)
theorem dX2_twoOf_35 : decode cX2_twoOf 35 = .ok (.ireturn, 1) := dk_172 (dk_at dksX2_twoOf_1 11 rfl rfl)
theorem dX2_twoOf_36 : decode cX2_twoOf 36 = .ok (.iload_n 1, 1) := dk_27 (dk_at dksX2_twoOf_1 12 rfl rfl)
theorem dX2_twoOf_37 : decode cX2_twoOf 37 = .ok (.bipush 6, 2) := dk_16 6 (dk_at dksX2_twoOf_1 13 rfl rfl)
theorem dX2_twoOf_39 : decode cX2_twoOf 39 = .ok (.if_icmp .ne 14, 3) := dk_160 0 14 (dk_at dksX2_twoOf_1 15 rfl rfl)
theorem dX2_twoOf_42 : decode cX2_twoOf 42 = .ok (.iload_n 2, 1) := dk_28 (dk_at dksX2_twoOf_1 18 rfl rfl)
theorem dX2_twoOf_43 : decode cX2_twoOf 43 = .ok (.iload_n 3, 1) := dk_29 (dk_at dksX2_twoOf_1 19 rfl rfl)
theorem dX2_twoOf_44 : decode cX2_twoOf 44 = .ok (.if_icmp .ge 7, 3) := dk_162 0 7 (dk_at dksX2_twoOf_1 20 rfl rfl)
theorem dX2_twoOf_47 : decode cX2_twoOf 47 = .ok (.iconst 1, 1) := dk_4 (dk_at dksX2_twoOf_1 23 rfl rfl)
theorem dX2_twoOf_48 : decode cX2_twoOf 48 = .ok (.goto 4, 3) := dk_167 0 4 (dk_at dksX2_twoOf_2 0 rfl rfl)
theorem dX2_twoOf_51 : decode cX2_twoOf 51 = .ok (.iconst 0, 1) := dk_3 (dk_at dksX2_twoOf_2 3 rfl rfl)
theorem dX2_twoOf_52 : decode cX2_twoOf 52 = .ok (.ireturn, 1) := dk_172 (dk_at dksX2_twoOf_2 4 rfl rfl)
theorem dX2_twoOf_53 : decode cX2_twoOf 53 = .ok (.iload_n 1, 1) := dk_27 (dk_at dksX2_twoOf_2 5 rfl rfl)
theorem dX2_twoOf_54 : decode cX2_twoOf 54 = .ok (.bipush 7, 2) := dk_16 7 (dk_at dksX2_twoOf_2 6 rfl rfl)
theorem dX2_twoOf_56 : decode cX2_twoOf 56 = .ok (.if_icmp .ne 14, 3) := dk_160 0 14 (dk_at dksX2_twoOf_2 8 rfl rfl)
theorem dX2_twoOf_59 : decode cX2_twoOf 59 = .ok (.iload_n 2, 1) := dk_28 (dk_at dksX2_twoOf_2 11 rfl rfl)
theorem dX2_twoOf_60 : decode cX2_twoOf 60 = .ok (.iload_n 3, 1) := dk_29 (dk_at dksX2_twoOf_2 12 rfl rfl)
theorem dX2_twoOf_61 : decode cX2_twoOf 61 = .ok (.if_icmp .ne 7, 3) := dk_160 0 7 (dk_at dksX2_twoOf_2 13 rfl rfl)
theorem dX2_twoOf_64 : decode cX2_twoOf 64 = .ok (.iconst 1, 1) := dk_4 (dk_at dksX2_twoOf_2 16 rfl rfl)
theorem dX2_twoOf_65 : decode cX2_twoOf 65 = .ok (.goto 4, 3) := dk_167 0 4 (dk_at dksX2_twoOf_2 17 rfl rfl)
theorem dX2_twoOf_68 : decode cX2_twoOf 68 = .ok (.iconst 0, 1) := dk_3 (dk_at dksX2_twoOf_2 20 rfl rfl)
theorem dX2_twoOf_69 : decode cX2_twoOf 69 = .ok (.ireturn, 1) := dk_172 (dk_at dksX2_twoOf_2 21 rfl rfl)
theorem dX2_twoOf_70 : decode cX2_twoOf 70 = .ok (.iload_n 1, 1) := dk_27 (dk_at dksX2_twoOf_2 22 rfl rfl)
theorem dX2_twoOf_71 : decode cX2_twoOf 71 = .ok (.bipush 8, 2) := dk_16 8 (dk_at dksX2_twoOf_3 0 rfl rfl)
theorem dX2_twoOf_73 : decode cX2_twoOf 73 = .ok (.if_icmp .ne 14, 3) := dk_160 0 14 (dk_at dksX2_twoOf_3 2 rfl rfl)
theorem dX2_twoOf_76 : decode cX2_twoOf 76 = .ok (.iload_n 2, 1) := dk_28 (dk_at dksX2_twoOf_3 5 rfl rfl)
theorem dX2_twoOf_77 : decode cX2_twoOf 77 = .ok (.iload_n 3, 1) := dk_29 (dk_at dksX2_twoOf_3 6 rfl rfl)
theorem dX2_twoOf_78 : decode cX2_twoOf 78 = .ok (.if_icmp .le 7, 3) := dk_164 0 7 (dk_at dksX2_twoOf_3 7 rfl rfl)
theorem dX2_twoOf_81 : decode cX2_twoOf 81 = .ok (.iconst 1, 1) := dk_4 (dk_at dksX2_twoOf_3 10 rfl rfl)
theorem dX2_twoOf_82 : decode cX2_twoOf 82 = .ok (.goto 4, 3) := dk_167 0 4 (dk_at dksX2_twoOf_3 11 rfl rfl)
theorem dX2_twoOf_85 : decode cX2_twoOf 85 = .ok (.iconst 0, 1) := dk_3 (dk_at dksX2_twoOf_3 14 rfl rfl)
theorem dX2_twoOf_86 : decode cX2_twoOf 86 = .ok (.ireturn, 1) := dk_172 (dk_at dksX2_twoOf_3 15 rfl rfl)
theorem dX2_twoOf_87 : decode cX2_twoOf 87 = .ok (.iload_n 1, 1) := dk_27 (dk_at dksX2_twoOf_3 16 rfl rfl)
theorem dX2_twoOf_88 : decode cX2_twoOf 88 = .ok (.bipush 10, 2) := dk_16 10 (dk_at dksX2_twoOf_3 17 rfl rfl)
theorem dX2_twoOf_90 : decode cX2_twoOf 90 = .ok (.if_icmp .ne 9, 3) := dk_160 0 9 (dk_at dksX2_twoOf_3 19 rfl rfl)
theorem dX2_twoOf_93 : decode cX2_twoOf 93 = .ok (.iload_n 2, 1) := dk_28 (dk_at dksX2_twoOf_3 22 rfl rfl)
theorem dX2_twoOf_94 : decode cX2_twoOf 94 = .ok (.iload_n 3, 1) := dk_29 (dk_at dksX2_twoOf_3 23 rfl rfl)
theorem dX2_twoOf_95 : decode cX2_twoOf 95 = .ok (.imul, 1) := dk_104 (dk_at dksX2_twoOf_4 0 rfl rfl)
theorem dX2_twoOf_96 : decode cX2_twoOf 96 = .ok (.goto 14, 3) := dk_167 0 14 (dk_at dksX2_twoOf_4 1 rfl rfl)
theorem dX2_twoOf_99 : decode cX2_twoOf 99 = .ok (.iload_n 2, 1) := dk_28 (dk_at dksX2_twoOf_4 4 rfl rfl)
theorem dX2_twoOf_100 : decode cX2_twoOf 100 = .ok (.iload_n 3, 1) := dk_29 (dk_at dksX2_twoOf_4 5 rfl rfl)
theorem dX2_twoOf_101 : decode cX2_twoOf 101 = .ok (.iadd, 1) := dk_96 (dk_at dksX2_twoOf_4 6 rfl rfl)
theorem dX2_twoOf_102 : decode cX2_twoOf 102 = .ok (.ifCond .le 7, 3) := dk_158 0 7 (dk_at dksX2_twoOf_4 7 rfl rfl)
theorem dX2_twoOf_105 : decode cX2_twoOf 105 = .ok (.iconst 1, 1) := dk_4 (dk_at dksX2_twoOf_4 10 rfl rfl)
theorem dX2_twoOf_106 : decode cX2_twoOf 106 = .ok (.goto 4, 3) := dk_167 0 4 (dk_at dksX2_twoOf_4 11 rfl rfl)
theorem dX2_twoOf_109 : decode cX2_twoOf 109 = .ok (.iconst 0, 1) := dk_3 (dk_at dksX2_twoOf_4 14 rfl rfl)
theorem dX2_twoOf_110 : decode cX2_twoOf 110 = .ok (.ireturn, 1) := dk_172 (dk_at dksX2_twoOf_4 15 rfl rfl)
abbrev cX2_notes : ByteArray := prog_21_method_75_code
def yX2_notes : MethodName := ⟨RX2, "notes", "(IIII)V"⟩
def dkwX2_notes_4 : List UInt8 := [180, 0, 7, 5, 46, 4, 96, 79, 177]
abbrev dktX2_notes_4 : List UInt8 := dkwX2_notes_4 ++ []
def dkwX2_notes_3 : List UInt8 := [21, 5, 6, 96, 29, 79, 42, 180, 0, 22, 21, 5, 7, 96, 21, 4, 79, 42, 180, 0, 7, 5, 42]
abbrev dktX2_notes_3 : List UInt8 := dkwX2_notes_3 ++ dktX2_notes_4
def dkwX2_notes_2 : List UInt8 := [180, 0, 22, 21, 5, 4, 96, 27, 79, 42, 180, 0, 22, 21, 5, 5, 96, 28, 79, 42, 180, 0, 22]
abbrev dktX2_notes_2 : List UInt8 := dkwX2_notes_2 ++ dktX2_notes_3
def dkwX2_notes_1 : List UInt8 := [180, 0, 7, 5, 46, 104, 54, 5, 42, 180, 0, 22, 21, 5, 42, 180, 0, 7, 3, 46, 79, 42]
abbrev dktX2_notes_1 : List UInt8 := dkwX2_notes_1 ++ dktX2_notes_2
def dkwX2_notes_0 : List UInt8 := [42, 180, 0, 92, 154, 0, 15, 42, 180, 0, 7, 5, 46, 17, 0, 150, 160, 0, 4, 177, 8, 42]
abbrev dktX2_notes_0 : List UInt8 := dkwX2_notes_0 ++ dktX2_notes_1
theorem dksX2_notes_0 : cX2_notes.data.toList.drop 0 = dktX2_notes_0 := by decide +kernel
theorem dksX2_notes_1 : cX2_notes.data.toList.drop 22 = dktX2_notes_1 := dk_seg dksX2_notes_0 22 rfl rfl
theorem dksX2_notes_2 : cX2_notes.data.toList.drop 44 = dktX2_notes_2 := dk_seg dksX2_notes_1 22 rfl rfl
theorem dksX2_notes_3 : cX2_notes.data.toList.drop 67 = dktX2_notes_3 := dk_seg dksX2_notes_2 23 rfl rfl
theorem dksX2_notes_4 : cX2_notes.data.toList.drop 90 = dktX2_notes_4 := dk_seg dksX2_notes_3 23 rfl rfl
theorem dX2_notes_0 : decode cX2_notes 0 = .ok (.aload_n 0, 1) := dk_42 (dk_at dksX2_notes_0 0 rfl rfl)
theorem dX2_notes_1 : decode cX2_notes 1 = .ok (.getfield 92, 3) := dk_180 0 92 (dk_at dksX2_notes_0 1 rfl rfl)
theorem dX2_notes_4 : decode cX2_notes 4 = .ok (.ifCond .ne 15, 3) := dk_154 0 15 (dk_at dksX2_notes_0 4 rfl rfl)
theorem dX2_notes_7 : decode cX2_notes 7 = .ok (.aload_n 0, 1) := dk_42 (dk_at dksX2_notes_0 7 rfl rfl)
theorem dX2_notes_8 : decode cX2_notes 8 = .ok (.getfield 7, 3) := dk_180 0 7 (dk_at dksX2_notes_0 8 rfl rfl)
theorem dX2_notes_11 : decode cX2_notes 11 = .ok (.iconst 2, 1) := dk_5 (dk_at dksX2_notes_0 11 rfl rfl)
theorem dX2_notes_12 : decode cX2_notes 12 = .ok (.iaload, 1) := dk_46 (dk_at dksX2_notes_0 12 rfl rfl)
theorem dX2_notes_13 : decode cX2_notes 13 = .ok (.sipush 150, 3) := dk_17 0 150 (dk_at dksX2_notes_0 13 rfl rfl)
theorem dX2_notes_16 : decode cX2_notes 16 = .ok (.if_icmp .ne 4, 3) := dk_160 0 4 (dk_at dksX2_notes_0 16 rfl rfl)
theorem dX2_notes_19 : decode cX2_notes 19 = .ok (.return_, 1) := dk_177 (dk_at dksX2_notes_0 19 rfl rfl)
theorem dX2_notes_20 : decode cX2_notes 20 = .ok (.iconst 5, 1) := dk_8 (dk_at dksX2_notes_0 20 rfl rfl)
theorem dX2_notes_21 : decode cX2_notes 21 = .ok (.aload_n 0, 1) := dk_42 (dk_at dksX2_notes_0 21 rfl rfl)
theorem dX2_notes_22 : decode cX2_notes 22 = .ok (.getfield 7, 3) := dk_180 0 7 (dk_at dksX2_notes_1 0 rfl rfl)
theorem dX2_notes_25 : decode cX2_notes 25 = .ok (.iconst 2, 1) := dk_5 (dk_at dksX2_notes_1 3 rfl rfl)
theorem dX2_notes_26 : decode cX2_notes 26 = .ok (.iaload, 1) := dk_46 (dk_at dksX2_notes_1 4 rfl rfl)
theorem dX2_notes_27 : decode cX2_notes 27 = .ok (.imul, 1) := dk_104 (dk_at dksX2_notes_1 5 rfl rfl)
theorem dX2_notes_28 : decode cX2_notes 28 = .ok (.istore 5, 2) := dk_54 5 (dk_at dksX2_notes_1 6 rfl rfl)
theorem dX2_notes_30 : decode cX2_notes 30 = .ok (.aload_n 0, 1) := dk_42 (dk_at dksX2_notes_1 8 rfl rfl)
theorem dX2_notes_31 : decode cX2_notes 31 = .ok (.getfield 22, 3) := dk_180 0 22 (dk_at dksX2_notes_1 9 rfl rfl)
theorem dX2_notes_34 : decode cX2_notes 34 = .ok (.iload 5, 2) := dk_21 5 (dk_at dksX2_notes_1 12 rfl rfl)
theorem dX2_notes_36 : decode cX2_notes 36 = .ok (.aload_n 0, 1) := dk_42 (dk_at dksX2_notes_1 14 rfl rfl)
theorem dX2_notes_37 : decode cX2_notes 37 = .ok (.getfield 7, 3) := dk_180 0 7 (dk_at dksX2_notes_1 15 rfl rfl)
theorem dX2_notes_40 : decode cX2_notes 40 = .ok (.iconst 0, 1) := dk_3 (dk_at dksX2_notes_1 18 rfl rfl)
theorem dX2_notes_41 : decode cX2_notes 41 = .ok (.iaload, 1) := dk_46 (dk_at dksX2_notes_1 19 rfl rfl)
theorem dX2_notes_42 : decode cX2_notes 42 = .ok (.iastore, 1) := dk_79 (dk_at dksX2_notes_1 20 rfl rfl)
theorem dX2_notes_43 : decode cX2_notes 43 = .ok (.aload_n 0, 1) := dk_42 (dk_at dksX2_notes_1 21 rfl rfl)
theorem dX2_notes_44 : decode cX2_notes 44 = .ok (.getfield 22, 3) := dk_180 0 22 (dk_at dksX2_notes_2 0 rfl rfl)
theorem dX2_notes_47 : decode cX2_notes 47 = .ok (.iload 5, 2) := dk_21 5 (dk_at dksX2_notes_2 3 rfl rfl)
theorem dX2_notes_49 : decode cX2_notes 49 = .ok (.iconst 1, 1) := dk_4 (dk_at dksX2_notes_2 5 rfl rfl)
theorem dX2_notes_50 : decode cX2_notes 50 = .ok (.iadd, 1) := dk_96 (dk_at dksX2_notes_2 6 rfl rfl)
theorem dX2_notes_51 : decode cX2_notes 51 = .ok (.iload_n 1, 1) := dk_27 (dk_at dksX2_notes_2 7 rfl rfl)
theorem dX2_notes_52 : decode cX2_notes 52 = .ok (.iastore, 1) := dk_79 (dk_at dksX2_notes_2 8 rfl rfl)
theorem dX2_notes_53 : decode cX2_notes 53 = .ok (.aload_n 0, 1) := dk_42 (dk_at dksX2_notes_2 9 rfl rfl)
theorem dX2_notes_54 : decode cX2_notes 54 = .ok (.getfield 22, 3) := dk_180 0 22 (dk_at dksX2_notes_2 10 rfl rfl)
theorem dX2_notes_57 : decode cX2_notes 57 = .ok (.iload 5, 2) := dk_21 5 (dk_at dksX2_notes_2 13 rfl rfl)
theorem dX2_notes_59 : decode cX2_notes 59 = .ok (.iconst 2, 1) := dk_5 (dk_at dksX2_notes_2 15 rfl rfl)
theorem dX2_notes_60 : decode cX2_notes 60 = .ok (.iadd, 1) := dk_96 (dk_at dksX2_notes_2 16 rfl rfl)
theorem dX2_notes_61 : decode cX2_notes 61 = .ok (.iload_n 2, 1) := dk_28 (dk_at dksX2_notes_2 17 rfl rfl)
theorem dX2_notes_62 : decode cX2_notes 62 = .ok (.iastore, 1) := dk_79 (dk_at dksX2_notes_2 18 rfl rfl)
theorem dX2_notes_63 : decode cX2_notes 63 = .ok (.aload_n 0, 1) := dk_42 (dk_at dksX2_notes_2 19 rfl rfl)
theorem dX2_notes_64 : decode cX2_notes 64 = .ok (.getfield 22, 3) := dk_180 0 22 (dk_at dksX2_notes_2 20 rfl rfl)
theorem dX2_notes_67 : decode cX2_notes 67 = .ok (.iload 5, 2) := dk_21 5 (dk_at dksX2_notes_3 0 rfl rfl)
theorem dX2_notes_69 : decode cX2_notes 69 = .ok (.iconst 3, 1) := dk_6 (dk_at dksX2_notes_3 2 rfl rfl)
theorem dX2_notes_70 : decode cX2_notes 70 = .ok (.iadd, 1) := dk_96 (dk_at dksX2_notes_3 3 rfl rfl)
theorem dX2_notes_71 : decode cX2_notes 71 = .ok (.iload_n 3, 1) := dk_29 (dk_at dksX2_notes_3 4 rfl rfl)
theorem dX2_notes_72 : decode cX2_notes 72 = .ok (.iastore, 1) := dk_79 (dk_at dksX2_notes_3 5 rfl rfl)
theorem dX2_notes_73 : decode cX2_notes 73 = .ok (.aload_n 0, 1) := dk_42 (dk_at dksX2_notes_3 6 rfl rfl)
theorem dX2_notes_74 : decode cX2_notes 74 = .ok (.getfield 22, 3) := dk_180 0 22 (dk_at dksX2_notes_3 7 rfl rfl)
theorem dX2_notes_77 : decode cX2_notes 77 = .ok (.iload 5, 2) := dk_21 5 (dk_at dksX2_notes_3 10 rfl rfl)
theorem dX2_notes_79 : decode cX2_notes 79 = .ok (.iconst 4, 1) := dk_7 (dk_at dksX2_notes_3 12 rfl rfl)
theorem dX2_notes_80 : decode cX2_notes 80 = .ok (.iadd, 1) := dk_96 (dk_at dksX2_notes_3 13 rfl rfl)
theorem dX2_notes_81 : decode cX2_notes 81 = .ok (.iload 4, 2) := dk_21 4 (dk_at dksX2_notes_3 14 rfl rfl)
theorem dX2_notes_83 : decode cX2_notes 83 = .ok (.iastore, 1) := dk_79 (dk_at dksX2_notes_3 16 rfl rfl)
theorem dX2_notes_84 : decode cX2_notes 84 = .ok (.aload_n 0, 1) := dk_42 (dk_at dksX2_notes_3 17 rfl rfl)
theorem dX2_notes_85 : decode cX2_notes 85 = .ok (.getfield 7, 3) := dk_180 0 7 (dk_at dksX2_notes_3 18 rfl rfl)
theorem dX2_notes_88 : decode cX2_notes 88 = .ok (.iconst 2, 1) := dk_5 (dk_at dksX2_notes_3 21 rfl rfl)
theorem dX2_notes_89 : decode cX2_notes 89 = .ok (.aload_n 0, 1) := dk_42 (dk_at dksX2_notes_3 22 rfl rfl)
theorem dX2_notes_90 : decode cX2_notes 90 = .ok (.getfield 7, 3) := dk_180 0 7 (dk_at dksX2_notes_4 0 rfl rfl)
theorem dX2_notes_93 : decode cX2_notes 93 = .ok (.iconst 2, 1) := dk_5 (dk_at dksX2_notes_4 3 rfl rfl)
theorem dX2_notes_94 : decode cX2_notes 94 = .ok (.iaload, 1) := dk_46 (dk_at dksX2_notes_4 4 rfl rfl)
theorem dX2_notes_95 : decode cX2_notes 95 = .ok (.iconst 1, 1) := dk_4 (dk_at dksX2_notes_4 5 rfl rfl)
theorem dX2_notes_96 : decode cX2_notes 96 = .ok (.iadd, 1) := dk_96 (dk_at dksX2_notes_4 6 rfl rfl)
theorem dX2_notes_97 : decode cX2_notes 97 = .ok (.iastore, 1) := dk_79 (dk_at dksX2_notes_4 7 rfl rfl)
theorem dX2_notes_98 : decode cX2_notes 98 = .ok (.return_, 1) := dk_177 (dk_at dksX2_notes_4 8 rfl rfl)
abbrev cX2_move : ByteArray := prog_21_method_82_code
def yX2_move : MethodName := ⟨RX2, "move", "(II)Z"⟩
def dkwX2_move_1 : List UInt8 := [182, 1, 82, 4, 172]
abbrev dktX2_move_1 : List UInt8 := dkwX2_move_1 ++ []
def dkwX2_move_0 : List UInt8 := [42, 3, 181, 0, 86, 42, 27, 28, 182, 1, 79, 154, 0, 5, 3, 172, 42, 182, 1, 73, 42, 27, 28]
abbrev dktX2_move_0 : List UInt8 := dkwX2_move_0 ++ dktX2_move_1
theorem dksX2_move_0 : cX2_move.data.toList.drop 0 = dktX2_move_0 := by decide +kernel
theorem dksX2_move_1 : cX2_move.data.toList.drop 23 = dktX2_move_1 := dk_seg dksX2_move_0 23 rfl rfl
theorem dX2_move_0 : decode cX2_move 0 = .ok (.aload_n 0, 1) := dk_42 (dk_at dksX2_move_0 0 rfl rfl)
theorem dX2_move_1 : decode cX2_move 1 = .ok (.iconst 0, 1) := dk_3 (dk_at dksX2_move_0 1 rfl rfl)
theorem dX2_move_2 : decode cX2_move 2 = .ok (.putfield 86, 3) := dk_181 0 86 (dk_at dksX2_move_0 2 rfl rfl)
theorem dX2_move_5 : decode cX2_move 5 = .ok (.aload_n 0, 1) := dk_42 (dk_at dksX2_move_0 5 rfl rfl)
theorem dX2_move_6 : decode cX2_move 6 = .ok (.iload_n 1, 1) := dk_27 (dk_at dksX2_move_0 6 rfl rfl)
theorem dX2_move_7 : decode cX2_move 7 = .ok (.iload_n 2, 1) := dk_28 (dk_at dksX2_move_0 7 rfl rfl)
theorem dX2_move_8 : decode cX2_move 8 = .ok (.invokevirtual 335, 3) := dk_182 1 79 (dk_at dksX2_move_0 8 rfl rfl)
theorem dX2_move_11 : decode cX2_move 11 = .ok (.ifCond .ne 5, 3) := dk_154 0 5 (dk_at dksX2_move_0 11 rfl rfl)
theorem dX2_move_14 : decode cX2_move 14 = .ok (.iconst 0, 1) := dk_3 (dk_at dksX2_move_0 14 rfl rfl)
theorem dX2_move_15 : decode cX2_move 15 = .ok (.ireturn, 1) := dk_172 (dk_at dksX2_move_0 15 rfl rfl)
theorem dX2_move_16 : decode cX2_move 16 = .ok (.aload_n 0, 1) := dk_42 (dk_at dksX2_move_0 16 rfl rfl)
theorem dX2_move_17 : decode cX2_move 17 = .ok (.invokevirtual 329, 3) := dk_182 1 73 (dk_at dksX2_move_0 17 rfl rfl)
theorem dX2_move_20 : decode cX2_move 20 = .ok (.aload_n 0, 1) := dk_42 (dk_at dksX2_move_0 20 rfl rfl)
theorem dX2_move_21 : decode cX2_move 21 = .ok (.iload_n 1, 1) := dk_27 (dk_at dksX2_move_0 21 rfl rfl)
theorem dX2_move_22 : decode cX2_move 22 = .ok (.iload_n 2, 1) := dk_28 (dk_at dksX2_move_0 22 rfl rfl)
theorem dX2_move_23 : decode cX2_move 23 = .ok (.invokevirtual 338, 3) := dk_182 1 82 (dk_at dksX2_move_1 0 rfl rfl)
theorem dX2_move_26 : decode cX2_move 26 = .ok (.iconst 1, 1) := dk_4 (dk_at dksX2_move_1 3 rfl rfl)
theorem dX2_move_27 : decode cX2_move 27 = .ok (.ireturn, 1) := dk_172 (dk_at dksX2_move_1 4 rfl rfl)
abbrev cX2_canMove : ByteArray := prog_21_method_78_code
def yX2_canMove : MethodName := ⟨RX2, "canMove", "(II)Z"⟩
def dkwX2_canMove_1 : List UInt8 := [42, 180, 0, 7, 16, 69, 27, 96, 46, 28, 159, 0, 7, 4, 167, 0, 4, 3, 172]
abbrev dktX2_canMove_1 : List UInt8 := dkwX2_canMove_1 ++ []
def dkwX2_canMove_0 : List UInt8 := [42, 27, 182, 1, 56, 153, 0, 36, 42, 28, 182, 0, 106, 153, 0, 28, 42, 27, 182, 1, 59, 154, 0, 20]
abbrev dktX2_canMove_0 : List UInt8 := dkwX2_canMove_0 ++ dktX2_canMove_1
theorem dksX2_canMove_0 : cX2_canMove.data.toList.drop 0 = dktX2_canMove_0 := by decide +kernel
theorem dksX2_canMove_1 : cX2_canMove.data.toList.drop 24 = dktX2_canMove_1 := dk_seg dksX2_canMove_0 24 rfl rfl
theorem dX2_canMove_0 : decode cX2_canMove 0 = .ok (.aload_n 0, 1) := dk_42 (dk_at dksX2_canMove_0 0 rfl rfl)
theorem dX2_canMove_1 : decode cX2_canMove 1 = .ok (.iload_n 1, 1) := dk_27 (dk_at dksX2_canMove_0 1 rfl rfl)
theorem dX2_canMove_2 : decode cX2_canMove 2 = .ok (.invokevirtual 312, 3) := dk_182 1 56 (dk_at dksX2_canMove_0 2 rfl rfl)
theorem dX2_canMove_5 : decode cX2_canMove 5 = .ok (.ifCond .eq 36, 3) := dk_153 0 36 (dk_at dksX2_canMove_0 5 rfl rfl)
theorem dX2_canMove_8 : decode cX2_canMove 8 = .ok (.aload_n 0, 1) := dk_42 (dk_at dksX2_canMove_0 8 rfl rfl)
theorem dX2_canMove_9 : decode cX2_canMove 9 = .ok (.iload_n 2, 1) := dk_28 (dk_at dksX2_canMove_0 9 rfl rfl)
theorem dX2_canMove_10 : decode cX2_canMove 10 = .ok (.invokevirtual 106, 3) := dk_182 0 106 (dk_at dksX2_canMove_0 10 rfl rfl)
theorem dX2_canMove_13 : decode cX2_canMove 13 = .ok (.ifCond .eq 28, 3) := dk_153 0 28 (dk_at dksX2_canMove_0 13 rfl rfl)
theorem dX2_canMove_16 : decode cX2_canMove 16 = .ok (.aload_n 0, 1) := dk_42 (dk_at dksX2_canMove_0 16 rfl rfl)
theorem dX2_canMove_17 : decode cX2_canMove 17 = .ok (.iload_n 1, 1) := dk_27 (dk_at dksX2_canMove_0 17 rfl rfl)
theorem dX2_canMove_18 : decode cX2_canMove 18 = .ok (.invokevirtual 315, 3) := dk_182 1 59 (dk_at dksX2_canMove_0 18 rfl rfl)
theorem dX2_canMove_21 : decode cX2_canMove 21 = .ok (.ifCond .ne 20, 3) := dk_154 0 20 (dk_at dksX2_canMove_0 21 rfl rfl)
theorem dX2_canMove_24 : decode cX2_canMove 24 = .ok (.aload_n 0, 1) := dk_42 (dk_at dksX2_canMove_1 0 rfl rfl)
theorem dX2_canMove_25 : decode cX2_canMove 25 = .ok (.getfield 7, 3) := dk_180 0 7 (dk_at dksX2_canMove_1 1 rfl rfl)
theorem dX2_canMove_28 : decode cX2_canMove 28 = .ok (.bipush 69, 2) := dk_16 69 (dk_at dksX2_canMove_1 4 rfl rfl)
theorem dX2_canMove_30 : decode cX2_canMove 30 = .ok (.iload_n 1, 1) := dk_27 (dk_at dksX2_canMove_1 6 rfl rfl)
theorem dX2_canMove_31 : decode cX2_canMove 31 = .ok (.iadd, 1) := dk_96 (dk_at dksX2_canMove_1 7 rfl rfl)
theorem dX2_canMove_32 : decode cX2_canMove 32 = .ok (.iaload, 1) := dk_46 (dk_at dksX2_canMove_1 8 rfl rfl)
theorem dX2_canMove_33 : decode cX2_canMove 33 = .ok (.iload_n 2, 1) := dk_28 (dk_at dksX2_canMove_1 9 rfl rfl)
theorem dX2_canMove_34 : decode cX2_canMove 34 = .ok (.if_icmp .eq 7, 3) := dk_159 0 7 (dk_at dksX2_canMove_1 10 rfl rfl)
theorem dX2_canMove_37 : decode cX2_canMove 37 = .ok (.iconst 1, 1) := dk_4 (dk_at dksX2_canMove_1 13 rfl rfl)
theorem dX2_canMove_38 : decode cX2_canMove 38 = .ok (.goto 4, 3) := dk_167 0 4 (dk_at dksX2_canMove_1 14 rfl rfl)
theorem dX2_canMove_41 : decode cX2_canMove 41 = .ok (.iconst 0, 1) := dk_3 (dk_at dksX2_canMove_1 17 rfl rfl)
theorem dX2_canMove_42 : decode cX2_canMove 42 = .ok (.ireturn, 1) := dk_172 (dk_at dksX2_canMove_1 18 rfl rfl)
abbrev cX2_moves : ByteArray := prog_21_method_79_code
def yX2_moves : MethodName := ⟨RX2, "moves", "(II)V"⟩
def dkwX2_moves_0 : List UInt8 := [42, 180, 0, 7, 16, 69, 27, 96, 28, 79, 42, 4, 27, 28, 3, 182, 1, 65, 177]
abbrev dktX2_moves_0 : List UInt8 := dkwX2_moves_0 ++ []
theorem dksX2_moves_0 : cX2_moves.data.toList.drop 0 = dktX2_moves_0 := by decide +kernel
theorem dX2_moves_0 : decode cX2_moves 0 = .ok (.aload_n 0, 1) := dk_42 (dk_at dksX2_moves_0 0 rfl rfl)
theorem dX2_moves_1 : decode cX2_moves 1 = .ok (.getfield 7, 3) := dk_180 0 7 (dk_at dksX2_moves_0 1 rfl rfl)
theorem dX2_moves_4 : decode cX2_moves 4 = .ok (.bipush 69, 2) := dk_16 69 (dk_at dksX2_moves_0 4 rfl rfl)
theorem dX2_moves_6 : decode cX2_moves 6 = .ok (.iload_n 1, 1) := dk_27 (dk_at dksX2_moves_0 6 rfl rfl)
theorem dX2_moves_7 : decode cX2_moves 7 = .ok (.iadd, 1) := dk_96 (dk_at dksX2_moves_0 7 rfl rfl)
theorem dX2_moves_8 : decode cX2_moves 8 = .ok (.iload_n 2, 1) := dk_28 (dk_at dksX2_moves_0 8 rfl rfl)
theorem dX2_moves_9 : decode cX2_moves 9 = .ok (.iastore, 1) := dk_79 (dk_at dksX2_moves_0 9 rfl rfl)
theorem dX2_moves_10 : decode cX2_moves 10 = .ok (.aload_n 0, 1) := dk_42 (dk_at dksX2_moves_0 10 rfl rfl)
theorem dX2_moves_11 : decode cX2_moves 11 = .ok (.iconst 1, 1) := dk_4 (dk_at dksX2_moves_0 11 rfl rfl)
theorem dX2_moves_12 : decode cX2_moves 12 = .ok (.iload_n 1, 1) := dk_27 (dk_at dksX2_moves_0 12 rfl rfl)
theorem dX2_moves_13 : decode cX2_moves 13 = .ok (.iload_n 2, 1) := dk_28 (dk_at dksX2_moves_0 13 rfl rfl)
theorem dX2_moves_14 : decode cX2_moves 14 = .ok (.iconst 0, 1) := dk_3 (dk_at dksX2_moves_0 14 rfl rfl)
theorem dX2_moves_15 : decode cX2_moves 15 = .ok (.invokevirtual 321, 3) := dk_182 1 65 (dk_at dksX2_moves_0 15 rfl rfl)
theorem dX2_moves_18 : decode cX2_moves 18 = .ok (.return_, 1) := dk_177 (dk_at dksX2_moves_0 18 rfl rfl)
abbrev cX2_bury : ByteArray := prog_21_method_83_code
def yX2_bury : MethodName := ⟨RX2, "bury", "(I)Z"⟩
def dkwX2_bury_1 : List UInt8 := [182, 1, 73, 42, 27, 182, 1, 85, 4, 172]
abbrev dktX2_bury_1 : List UInt8 := dkwX2_bury_1 ++ []
def dkwX2_bury_0 : List UInt8 := [42, 3, 181, 0, 86, 42, 27, 182, 1, 56, 153, 0, 11, 42, 27, 182, 1, 59, 153, 0, 5, 3, 172, 42]
abbrev dktX2_bury_0 : List UInt8 := dkwX2_bury_0 ++ dktX2_bury_1
theorem dksX2_bury_0 : cX2_bury.data.toList.drop 0 = dktX2_bury_0 := by decide +kernel
theorem dksX2_bury_1 : cX2_bury.data.toList.drop 24 = dktX2_bury_1 := dk_seg dksX2_bury_0 24 rfl rfl
theorem dX2_bury_0 : decode cX2_bury 0 = .ok (.aload_n 0, 1) := dk_42 (dk_at dksX2_bury_0 0 rfl rfl)
theorem dX2_bury_1 : decode cX2_bury 1 = .ok (.iconst 0, 1) := dk_3 (dk_at dksX2_bury_0 1 rfl rfl)
theorem dX2_bury_2 : decode cX2_bury 2 = .ok (.putfield 86, 3) := dk_181 0 86 (dk_at dksX2_bury_0 2 rfl rfl)
theorem dX2_bury_5 : decode cX2_bury 5 = .ok (.aload_n 0, 1) := dk_42 (dk_at dksX2_bury_0 5 rfl rfl)
theorem dX2_bury_6 : decode cX2_bury 6 = .ok (.iload_n 1, 1) := dk_27 (dk_at dksX2_bury_0 6 rfl rfl)
theorem dX2_bury_7 : decode cX2_bury 7 = .ok (.invokevirtual 312, 3) := dk_182 1 56 (dk_at dksX2_bury_0 7 rfl rfl)
theorem dX2_bury_10 : decode cX2_bury 10 = .ok (.ifCond .eq 11, 3) := dk_153 0 11 (dk_at dksX2_bury_0 10 rfl rfl)
theorem dX2_bury_13 : decode cX2_bury 13 = .ok (.aload_n 0, 1) := dk_42 (dk_at dksX2_bury_0 13 rfl rfl)
theorem dX2_bury_14 : decode cX2_bury 14 = .ok (.iload_n 1, 1) := dk_27 (dk_at dksX2_bury_0 14 rfl rfl)
theorem dX2_bury_15 : decode cX2_bury 15 = .ok (.invokevirtual 315, 3) := dk_182 1 59 (dk_at dksX2_bury_0 15 rfl rfl)
theorem dX2_bury_18 : decode cX2_bury 18 = .ok (.ifCond .eq 5, 3) := dk_153 0 5 (dk_at dksX2_bury_0 18 rfl rfl)
theorem dX2_bury_21 : decode cX2_bury 21 = .ok (.iconst 0, 1) := dk_3 (dk_at dksX2_bury_0 21 rfl rfl)
theorem dX2_bury_22 : decode cX2_bury 22 = .ok (.ireturn, 1) := dk_172 (dk_at dksX2_bury_0 22 rfl rfl)
theorem dX2_bury_23 : decode cX2_bury 23 = .ok (.aload_n 0, 1) := dk_42 (dk_at dksX2_bury_0 23 rfl rfl)
theorem dX2_bury_24 : decode cX2_bury 24 = .ok (.invokevirtual 329, 3) := dk_182 1 73 (dk_at dksX2_bury_1 0 rfl rfl)
theorem dX2_bury_27 : decode cX2_bury 27 = .ok (.aload_n 0, 1) := dk_42 (dk_at dksX2_bury_1 3 rfl rfl)
theorem dX2_bury_28 : decode cX2_bury 28 = .ok (.iload_n 1, 1) := dk_27 (dk_at dksX2_bury_1 4 rfl rfl)
theorem dX2_bury_29 : decode cX2_bury 29 = .ok (.invokevirtual 341, 3) := dk_182 1 85 (dk_at dksX2_bury_1 5 rfl rfl)
theorem dX2_bury_32 : decode cX2_bury 32 = .ok (.iconst 1, 1) := dk_4 (dk_at dksX2_bury_1 8 rfl rfl)
theorem dX2_bury_33 : decode cX2_bury 33 = .ok (.ireturn, 1) := dk_172 (dk_at dksX2_bury_1 9 rfl rfl)
abbrev cX2_buries : ByteArray := prog_21_method_80_code
def yX2_buries : MethodName := ⟨RX2, "buries", "(I)V"⟩
def dkwX2_buries_1 : List UInt8 := [182, 1, 65, 177]
abbrev dktX2_buries_1 : List UInt8 := dkwX2_buries_1 ++ []
def dkwX2_buries_0 : List UInt8 := [42, 180, 0, 7, 16, 81, 27, 96, 4, 79, 42, 5, 27, 42, 180, 0, 7, 16, 69, 27, 96, 46, 3]
abbrev dktX2_buries_0 : List UInt8 := dkwX2_buries_0 ++ dktX2_buries_1
theorem dksX2_buries_0 : cX2_buries.data.toList.drop 0 = dktX2_buries_0 := by decide +kernel
theorem dksX2_buries_1 : cX2_buries.data.toList.drop 23 = dktX2_buries_1 := dk_seg dksX2_buries_0 23 rfl rfl
theorem dX2_buries_0 : decode cX2_buries 0 = .ok (.aload_n 0, 1) := dk_42 (dk_at dksX2_buries_0 0 rfl rfl)
theorem dX2_buries_1 : decode cX2_buries 1 = .ok (.getfield 7, 3) := dk_180 0 7 (dk_at dksX2_buries_0 1 rfl rfl)
theorem dX2_buries_4 : decode cX2_buries 4 = .ok (.bipush 81, 2) := dk_16 81 (dk_at dksX2_buries_0 4 rfl rfl)
theorem dX2_buries_6 : decode cX2_buries 6 = .ok (.iload_n 1, 1) := dk_27 (dk_at dksX2_buries_0 6 rfl rfl)
theorem dX2_buries_7 : decode cX2_buries 7 = .ok (.iadd, 1) := dk_96 (dk_at dksX2_buries_0 7 rfl rfl)
theorem dX2_buries_8 : decode cX2_buries 8 = .ok (.iconst 1, 1) := dk_4 (dk_at dksX2_buries_0 8 rfl rfl)
theorem dX2_buries_9 : decode cX2_buries 9 = .ok (.iastore, 1) := dk_79 (dk_at dksX2_buries_0 9 rfl rfl)
theorem dX2_buries_10 : decode cX2_buries 10 = .ok (.aload_n 0, 1) := dk_42 (dk_at dksX2_buries_0 10 rfl rfl)
theorem dX2_buries_11 : decode cX2_buries 11 = .ok (.iconst 2, 1) := dk_5 (dk_at dksX2_buries_0 11 rfl rfl)
theorem dX2_buries_12 : decode cX2_buries 12 = .ok (.iload_n 1, 1) := dk_27 (dk_at dksX2_buries_0 12 rfl rfl)
theorem dX2_buries_13 : decode cX2_buries 13 = .ok (.aload_n 0, 1) := dk_42 (dk_at dksX2_buries_0 13 rfl rfl)
theorem dX2_buries_14 : decode cX2_buries 14 = .ok (.getfield 7, 3) := dk_180 0 7 (dk_at dksX2_buries_0 14 rfl rfl)
theorem dX2_buries_17 : decode cX2_buries 17 = .ok (.bipush 69, 2) := dk_16 69 (dk_at dksX2_buries_0 17 rfl rfl)
theorem dX2_buries_19 : decode cX2_buries 19 = .ok (.iload_n 1, 1) := dk_27 (dk_at dksX2_buries_0 19 rfl rfl)
theorem dX2_buries_20 : decode cX2_buries 20 = .ok (.iadd, 1) := dk_96 (dk_at dksX2_buries_0 20 rfl rfl)
theorem dX2_buries_21 : decode cX2_buries 21 = .ok (.iaload, 1) := dk_46 (dk_at dksX2_buries_0 21 rfl rfl)
theorem dX2_buries_22 : decode cX2_buries 22 = .ok (.iconst 0, 1) := dk_3 (dk_at dksX2_buries_0 22 rfl rfl)
theorem dX2_buries_23 : decode cX2_buries 23 = .ok (.invokevirtual 321, 3) := dk_182 1 65 (dk_at dksX2_buries_1 0 rfl rfl)
theorem dX2_buries_26 : decode cX2_buries 26 = .ok (.return_, 1) := dk_177 (dk_at dksX2_buries_1 3 rfl rfl)
abbrev cX2_birth : ByteArray := prog_21_method_86_code
def yX2_birth : MethodName := ⟨RX2, "birth", "(I)I"⟩
def dkwX2_birth_2 : List UInt8 := [182, 1, 91, 27, 182, 0, 110, 61, 42, 6, 28, 27, 3, 182, 1, 65, 28, 172]
abbrev dktX2_birth_2 : List UInt8 := dkwX2_birth_2 ++ []
def dkwX2_birth_1 : List UInt8 := [180, 0, 7, 7, 46, 16, 12, 160, 0, 5, 2, 172, 42, 182, 1, 73, 42, 42, 27, 182, 1, 88, 42, 27]
abbrev dktX2_birth_1 : List UInt8 := dkwX2_birth_1 ++ dktX2_birth_2
def dkwX2_birth_0 : List UInt8 := [42, 3, 181, 0, 86, 42, 27, 182, 0, 106, 153, 0, 22, 42, 27, 182, 1, 35, 153, 0, 14, 42]
abbrev dktX2_birth_0 : List UInt8 := dkwX2_birth_0 ++ dktX2_birth_1
theorem dksX2_birth_0 : cX2_birth.data.toList.drop 0 = dktX2_birth_0 := by decide +kernel
theorem dksX2_birth_1 : cX2_birth.data.toList.drop 22 = dktX2_birth_1 := dk_seg dksX2_birth_0 22 rfl rfl
theorem dksX2_birth_2 : cX2_birth.data.toList.drop 46 = dktX2_birth_2 := dk_seg dksX2_birth_1 24 rfl rfl
theorem dX2_birth_0 : decode cX2_birth 0 = .ok (.aload_n 0, 1) := dk_42 (dk_at dksX2_birth_0 0 rfl rfl)
theorem dX2_birth_1 : decode cX2_birth 1 = .ok (.iconst 0, 1) := dk_3 (dk_at dksX2_birth_0 1 rfl rfl)
theorem dX2_birth_2 : decode cX2_birth 2 = .ok (.putfield 86, 3) := dk_181 0 86 (dk_at dksX2_birth_0 2 rfl rfl)
theorem dX2_birth_5 : decode cX2_birth 5 = .ok (.aload_n 0, 1) := dk_42 (dk_at dksX2_birth_0 5 rfl rfl)
theorem dX2_birth_6 : decode cX2_birth 6 = .ok (.iload_n 1, 1) := dk_27 (dk_at dksX2_birth_0 6 rfl rfl)
theorem dX2_birth_7 : decode cX2_birth 7 = .ok (.invokevirtual 106, 3) := dk_182 0 106 (dk_at dksX2_birth_0 7 rfl rfl)
theorem dX2_birth_10 : decode cX2_birth 10 = .ok (.ifCond .eq 22, 3) := dk_153 0 22 (dk_at dksX2_birth_0 10 rfl rfl)
theorem dX2_birth_13 : decode cX2_birth 13 = .ok (.aload_n 0, 1) := dk_42 (dk_at dksX2_birth_0 13 rfl rfl)
theorem dX2_birth_14 : decode cX2_birth 14 = .ok (.iload_n 1, 1) := dk_27 (dk_at dksX2_birth_0 14 rfl rfl)
theorem dX2_birth_15 : decode cX2_birth 15 = .ok (.invokevirtual 291, 3) := dk_182 1 35 (dk_at dksX2_birth_0 15 rfl rfl)
theorem dX2_birth_18 : decode cX2_birth 18 = .ok (.ifCond .eq 14, 3) := dk_153 0 14 (dk_at dksX2_birth_0 18 rfl rfl)
theorem dX2_birth_21 : decode cX2_birth 21 = .ok (.aload_n 0, 1) := dk_42 (dk_at dksX2_birth_0 21 rfl rfl)
theorem dX2_birth_22 : decode cX2_birth 22 = .ok (.getfield 7, 3) := dk_180 0 7 (dk_at dksX2_birth_1 0 rfl rfl)
theorem dX2_birth_25 : decode cX2_birth 25 = .ok (.iconst 4, 1) := dk_7 (dk_at dksX2_birth_1 3 rfl rfl)
theorem dX2_birth_26 : decode cX2_birth 26 = .ok (.iaload, 1) := dk_46 (dk_at dksX2_birth_1 4 rfl rfl)
theorem dX2_birth_27 : decode cX2_birth 27 = .ok (.bipush 12, 2) := dk_16 12 (dk_at dksX2_birth_1 5 rfl rfl)
theorem dX2_birth_29 : decode cX2_birth 29 = .ok (.if_icmp .ne 5, 3) := dk_160 0 5 (dk_at dksX2_birth_1 7 rfl rfl)
theorem dX2_birth_32 : decode cX2_birth 32 = .ok (.iconst (-1), 1) := dk_2 (dk_at dksX2_birth_1 10 rfl rfl)
theorem dX2_birth_33 : decode cX2_birth 33 = .ok (.ireturn, 1) := dk_172 (dk_at dksX2_birth_1 11 rfl rfl)
theorem dX2_birth_34 : decode cX2_birth 34 = .ok (.aload_n 0, 1) := dk_42 (dk_at dksX2_birth_1 12 rfl rfl)
theorem dX2_birth_35 : decode cX2_birth 35 = .ok (.invokevirtual 329, 3) := dk_182 1 73 (dk_at dksX2_birth_1 13 rfl rfl)
theorem dX2_birth_38 : decode cX2_birth 38 = .ok (.aload_n 0, 1) := dk_42 (dk_at dksX2_birth_1 16 rfl rfl)
theorem dX2_birth_39 : decode cX2_birth 39 = .ok (.aload_n 0, 1) := dk_42 (dk_at dksX2_birth_1 17 rfl rfl)
theorem dX2_birth_40 : decode cX2_birth 40 = .ok (.iload_n 1, 1) := dk_27 (dk_at dksX2_birth_1 18 rfl rfl)
theorem dX2_birth_41 : decode cX2_birth 41 = .ok (.invokevirtual 344, 3) := dk_182 1 88 (dk_at dksX2_birth_1 19 rfl rfl)
theorem dX2_birth_44 : decode cX2_birth 44 = .ok (.aload_n 0, 1) := dk_42 (dk_at dksX2_birth_1 22 rfl rfl)
theorem dX2_birth_45 : decode cX2_birth 45 = .ok (.iload_n 1, 1) := dk_27 (dk_at dksX2_birth_1 23 rfl rfl)
theorem dX2_birth_46 : decode cX2_birth 46 = .ok (.invokevirtual 347, 3) := dk_182 1 91 (dk_at dksX2_birth_2 0 rfl rfl)
theorem dX2_birth_49 : decode cX2_birth 49 = .ok (.iload_n 1, 1) := dk_27 (dk_at dksX2_birth_2 3 rfl rfl)
theorem dX2_birth_50 : decode cX2_birth 50 = .ok (.invokevirtual 110, 3) := dk_182 0 110 (dk_at dksX2_birth_2 4 rfl rfl)
theorem dX2_birth_53 : decode cX2_birth 53 = .ok (.istore_n 2, 1) := dk_61 (dk_at dksX2_birth_2 7 rfl rfl)
theorem dX2_birth_54 : decode cX2_birth 54 = .ok (.aload_n 0, 1) := dk_42 (dk_at dksX2_birth_2 8 rfl rfl)
theorem dX2_birth_55 : decode cX2_birth 55 = .ok (.iconst 3, 1) := dk_6 (dk_at dksX2_birth_2 9 rfl rfl)
theorem dX2_birth_56 : decode cX2_birth 56 = .ok (.iload_n 2, 1) := dk_28 (dk_at dksX2_birth_2 10 rfl rfl)
theorem dX2_birth_57 : decode cX2_birth 57 = .ok (.iload_n 1, 1) := dk_27 (dk_at dksX2_birth_2 11 rfl rfl)
theorem dX2_birth_58 : decode cX2_birth 58 = .ok (.iconst 0, 1) := dk_3 (dk_at dksX2_birth_2 12 rfl rfl)
theorem dX2_birth_59 : decode cX2_birth 59 = .ok (.invokevirtual 321, 3) := dk_182 1 65 (dk_at dksX2_birth_2 13 rfl rfl)
theorem dX2_birth_62 : decode cX2_birth 62 = .ok (.iload_n 2, 1) := dk_28 (dk_at dksX2_birth_2 16 rfl rfl)
theorem dX2_birth_63 : decode cX2_birth 63 = .ok (.ireturn, 1) := dk_172 (dk_at dksX2_birth_2 17 rfl rfl)
abbrev cX2_mostAt : ByteArray := prog_21_method_84_code
def yX2_mostAt : MethodName := ⟨RX2, "mostAt", "(I)I"⟩
def dkwX2_mostAt_1 : List UInt8 := [29, 61, 132, 3, 1, 167, 255, 231, 28, 172]
abbrev dktX2_mostAt_1 : List UInt8 := dkwX2_mostAt_1 ++ []
def dkwX2_mostAt_0 : List UInt8 := [3, 61, 4, 62, 29, 8, 162, 0, 26, 42, 27, 29, 182, 1, 32, 42, 27, 28, 182, 1, 32, 164, 0, 5]
abbrev dktX2_mostAt_0 : List UInt8 := dkwX2_mostAt_0 ++ dktX2_mostAt_1
theorem dksX2_mostAt_0 : cX2_mostAt.data.toList.drop 0 = dktX2_mostAt_0 := by decide +kernel
theorem dksX2_mostAt_1 : cX2_mostAt.data.toList.drop 24 = dktX2_mostAt_1 := dk_seg dksX2_mostAt_0 24 rfl rfl
theorem dX2_mostAt_0 : decode cX2_mostAt 0 = .ok (.iconst 0, 1) := dk_3 (dk_at dksX2_mostAt_0 0 rfl rfl)
theorem dX2_mostAt_1 : decode cX2_mostAt 1 = .ok (.istore_n 2, 1) := dk_61 (dk_at dksX2_mostAt_0 1 rfl rfl)
theorem dX2_mostAt_2 : decode cX2_mostAt 2 = .ok (.iconst 1, 1) := dk_4 (dk_at dksX2_mostAt_0 2 rfl rfl)
theorem dX2_mostAt_3 : decode cX2_mostAt 3 = .ok (.istore_n 3, 1) := dk_62 (dk_at dksX2_mostAt_0 3 rfl rfl)
theorem dX2_mostAt_4 : decode cX2_mostAt 4 = .ok (.iload_n 3, 1) := dk_29 (dk_at dksX2_mostAt_0 4 rfl rfl)
theorem dX2_mostAt_5 : decode cX2_mostAt 5 = .ok (.iconst 5, 1) := dk_8 (dk_at dksX2_mostAt_0 5 rfl rfl)
theorem dX2_mostAt_6 : decode cX2_mostAt 6 = .ok (.if_icmp .ge 26, 3) := dk_162 0 26 (dk_at dksX2_mostAt_0 6 rfl rfl)
theorem dX2_mostAt_9 : decode cX2_mostAt 9 = .ok (.aload_n 0, 1) := dk_42 (dk_at dksX2_mostAt_0 9 rfl rfl)
theorem dX2_mostAt_10 : decode cX2_mostAt 10 = .ok (.iload_n 1, 1) := dk_27 (dk_at dksX2_mostAt_0 10 rfl rfl)
theorem dX2_mostAt_11 : decode cX2_mostAt 11 = .ok (.iload_n 3, 1) := dk_29 (dk_at dksX2_mostAt_0 11 rfl rfl)
theorem dX2_mostAt_12 : decode cX2_mostAt 12 = .ok (.invokevirtual 288, 3) := dk_182 1 32 (dk_at dksX2_mostAt_0 12 rfl rfl)
theorem dX2_mostAt_15 : decode cX2_mostAt 15 = .ok (.aload_n 0, 1) := dk_42 (dk_at dksX2_mostAt_0 15 rfl rfl)
theorem dX2_mostAt_16 : decode cX2_mostAt 16 = .ok (.iload_n 1, 1) := dk_27 (dk_at dksX2_mostAt_0 16 rfl rfl)
theorem dX2_mostAt_17 : decode cX2_mostAt 17 = .ok (.iload_n 2, 1) := dk_28 (dk_at dksX2_mostAt_0 17 rfl rfl)
theorem dX2_mostAt_18 : decode cX2_mostAt 18 = .ok (.invokevirtual 288, 3) := dk_182 1 32 (dk_at dksX2_mostAt_0 18 rfl rfl)
theorem dX2_mostAt_21 : decode cX2_mostAt 21 = .ok (.if_icmp .le 5, 3) := dk_164 0 5 (dk_at dksX2_mostAt_0 21 rfl rfl)
theorem dX2_mostAt_24 : decode cX2_mostAt 24 = .ok (.iload_n 3, 1) := dk_29 (dk_at dksX2_mostAt_1 0 rfl rfl)
theorem dX2_mostAt_25 : decode cX2_mostAt 25 = .ok (.istore_n 2, 1) := dk_61 (dk_at dksX2_mostAt_1 1 rfl rfl)
theorem dX2_mostAt_26 : decode cX2_mostAt 26 = .ok (.iinc 3 1, 3) := dk_132 3 1 (dk_at dksX2_mostAt_1 2 rfl rfl)
theorem dX2_mostAt_29 : decode cX2_mostAt 29 = .ok (.goto (-25), 3) := dk_167 255 231 (dk_at dksX2_mostAt_1 5 rfl rfl)
theorem dX2_mostAt_32 : decode cX2_mostAt 32 = .ok (.iload_n 2, 1) := dk_28 (dk_at dksX2_mostAt_1 8 rfl rfl)
theorem dX2_mostAt_33 : decode cX2_mostAt 33 = .ok (.ireturn, 1) := dk_172 (dk_at dksX2_mostAt_1 9 rfl rfl)
abbrev cX2_strengthAt : ByteArray := prog_21_method_85_code
def yX2_strengthAt : MethodName := ⟨RX2, "strengthAt", "(I)I"⟩
def dkwX2_strengthAt_0 : List UInt8 := [42, 42, 27, 42, 27, 182, 1, 88, 182, 1, 32, 16, 10, 108, 4, 16, 9, 182, 0, 98, 172]
abbrev dktX2_strengthAt_0 : List UInt8 := dkwX2_strengthAt_0 ++ []
theorem dksX2_strengthAt_0 : cX2_strengthAt.data.toList.drop 0 = dktX2_strengthAt_0 := by decide +kernel
theorem dX2_strengthAt_0 : decode cX2_strengthAt 0 = .ok (.aload_n 0, 1) := dk_42 (dk_at dksX2_strengthAt_0 0 rfl rfl)
theorem dX2_strengthAt_1 : decode cX2_strengthAt 1 = .ok (.aload_n 0, 1) := dk_42 (dk_at dksX2_strengthAt_0 1 rfl rfl)
theorem dX2_strengthAt_2 : decode cX2_strengthAt 2 = .ok (.iload_n 1, 1) := dk_27 (dk_at dksX2_strengthAt_0 2 rfl rfl)
theorem dX2_strengthAt_3 : decode cX2_strengthAt 3 = .ok (.aload_n 0, 1) := dk_42 (dk_at dksX2_strengthAt_0 3 rfl rfl)
theorem dX2_strengthAt_4 : decode cX2_strengthAt 4 = .ok (.iload_n 1, 1) := dk_27 (dk_at dksX2_strengthAt_0 4 rfl rfl)
theorem dX2_strengthAt_5 : decode cX2_strengthAt 5 = .ok (.invokevirtual 344, 3) := dk_182 1 88 (dk_at dksX2_strengthAt_0 5 rfl rfl)
theorem dX2_strengthAt_8 : decode cX2_strengthAt 8 = .ok (.invokevirtual 288, 3) := dk_182 1 32 (dk_at dksX2_strengthAt_0 8 rfl rfl)
theorem dX2_strengthAt_11 : decode cX2_strengthAt 11 = .ok (.bipush 10, 2) := dk_16 10 (dk_at dksX2_strengthAt_0 11 rfl rfl)
theorem dX2_strengthAt_13 : decode cX2_strengthAt 13 = .ok (.idiv, 1) := dk_108 (dk_at dksX2_strengthAt_0 13 rfl rfl)
theorem dX2_strengthAt_14 : decode cX2_strengthAt 14 = .ok (.iconst 1, 1) := dk_4 (dk_at dksX2_strengthAt_0 14 rfl rfl)
theorem dX2_strengthAt_15 : decode cX2_strengthAt 15 = .ok (.bipush 9, 2) := dk_16 9 (dk_at dksX2_strengthAt_0 15 rfl rfl)
theorem dX2_strengthAt_17 : decode cX2_strengthAt 17 = .ok (.invokevirtual 98, 3) := dk_182 0 98 (dk_at dksX2_strengthAt_0 17 rfl rfl)
theorem dX2_strengthAt_20 : decode cX2_strengthAt 20 = .ok (.ireturn, 1) := dk_172 (dk_at dksX2_strengthAt_0 20 rfl rfl)
abbrev cX2_days : ByteArray := prog_21_method_95_code
def yX2_days : MethodName := ⟨RX2, "days", "(I)I"⟩
def dkwX2_days_2 : List UInt8 := [182, 1, 118, 28, 42, 182, 1, 121, 96, 61, 132, 3, 1, 167, 255, 233, 28, 172]
abbrev dktX2_days_2 : List UInt8 := dkwX2_days_2 ++ []
def dkwX2_days_1 : List UInt8 := [17, 3, 231, 164, 0, 5, 2, 172, 3, 61, 3, 62, 29, 27, 162, 0, 24, 42, 182, 1, 73, 42]
abbrev dktX2_days_1 : List UInt8 := dkwX2_days_1 ++ dktX2_days_2
def dkwX2_days_0 : List UInt8 := [42, 3, 181, 0, 86, 42, 27, 4, 16, 60, 182, 0, 102, 153, 0, 17, 42, 180, 0, 7, 3, 46, 27, 96]
abbrev dktX2_days_0 : List UInt8 := dkwX2_days_0 ++ dktX2_days_1
theorem dksX2_days_0 : cX2_days.data.toList.drop 0 = dktX2_days_0 := by decide +kernel
theorem dksX2_days_1 : cX2_days.data.toList.drop 24 = dktX2_days_1 := dk_seg dksX2_days_0 24 rfl rfl
theorem dksX2_days_2 : cX2_days.data.toList.drop 46 = dktX2_days_2 := dk_seg dksX2_days_1 22 rfl rfl
theorem dX2_days_0 : decode cX2_days 0 = .ok (.aload_n 0, 1) := dk_42 (dk_at dksX2_days_0 0 rfl rfl)
theorem dX2_days_1 : decode cX2_days 1 = .ok (.iconst 0, 1) := dk_3 (dk_at dksX2_days_0 1 rfl rfl)
theorem dX2_days_2 : decode cX2_days 2 = .ok (.putfield 86, 3) := dk_181 0 86 (dk_at dksX2_days_0 2 rfl rfl)
theorem dX2_days_5 : decode cX2_days 5 = .ok (.aload_n 0, 1) := dk_42 (dk_at dksX2_days_0 5 rfl rfl)
theorem dX2_days_6 : decode cX2_days 6 = .ok (.iload_n 1, 1) := dk_27 (dk_at dksX2_days_0 6 rfl rfl)
theorem dX2_days_7 : decode cX2_days 7 = .ok (.iconst 1, 1) := dk_4 (dk_at dksX2_days_0 7 rfl rfl)
theorem dX2_days_8 : decode cX2_days 8 = .ok (.bipush 60, 2) := dk_16 60 (dk_at dksX2_days_0 8 rfl rfl)
theorem dX2_days_10 : decode cX2_days 10 = .ok (.invokevirtual 102, 3) := dk_182 0 102 (dk_at dksX2_days_0 10 rfl rfl)
theorem dX2_days_13 : decode cX2_days 13 = .ok (.ifCond .eq 17, 3) := dk_153 0 17 (dk_at dksX2_days_0 13 rfl rfl)
theorem dX2_days_16 : decode cX2_days 16 = .ok (.aload_n 0, 1) := dk_42 (dk_at dksX2_days_0 16 rfl rfl)
theorem dX2_days_17 : decode cX2_days 17 = .ok (.getfield 7, 3) := dk_180 0 7 (dk_at dksX2_days_0 17 rfl rfl)
theorem dX2_days_20 : decode cX2_days 20 = .ok (.iconst 0, 1) := dk_3 (dk_at dksX2_days_0 20 rfl rfl)
theorem dX2_days_21 : decode cX2_days 21 = .ok (.iaload, 1) := dk_46 (dk_at dksX2_days_0 21 rfl rfl)
theorem dX2_days_22 : decode cX2_days 22 = .ok (.iload_n 1, 1) := dk_27 (dk_at dksX2_days_0 22 rfl rfl)
theorem dX2_days_23 : decode cX2_days 23 = .ok (.iadd, 1) := dk_96 (dk_at dksX2_days_0 23 rfl rfl)
theorem dX2_days_24 : decode cX2_days 24 = .ok (.sipush 999, 3) := dk_17 3 231 (dk_at dksX2_days_1 0 rfl rfl)
theorem dX2_days_27 : decode cX2_days 27 = .ok (.if_icmp .le 5, 3) := dk_164 0 5 (dk_at dksX2_days_1 3 rfl rfl)
theorem dX2_days_30 : decode cX2_days 30 = .ok (.iconst (-1), 1) := dk_2 (dk_at dksX2_days_1 6 rfl rfl)
theorem dX2_days_31 : decode cX2_days 31 = .ok (.ireturn, 1) := dk_172 (dk_at dksX2_days_1 7 rfl rfl)
theorem dX2_days_32 : decode cX2_days 32 = .ok (.iconst 0, 1) := dk_3 (dk_at dksX2_days_1 8 rfl rfl)
theorem dX2_days_33 : decode cX2_days 33 = .ok (.istore_n 2, 1) := dk_61 (dk_at dksX2_days_1 9 rfl rfl)
theorem dX2_days_34 : decode cX2_days 34 = .ok (.iconst 0, 1) := dk_3 (dk_at dksX2_days_1 10 rfl rfl)
theorem dX2_days_35 : decode cX2_days 35 = .ok (.istore_n 3, 1) := dk_62 (dk_at dksX2_days_1 11 rfl rfl)
theorem dX2_days_36 : decode cX2_days 36 = .ok (.iload_n 3, 1) := dk_29 (dk_at dksX2_days_1 12 rfl rfl)
theorem dX2_days_37 : decode cX2_days 37 = .ok (.iload_n 1, 1) := dk_27 (dk_at dksX2_days_1 13 rfl rfl)
theorem dX2_days_38 : decode cX2_days 38 = .ok (.if_icmp .ge 24, 3) := dk_162 0 24 (dk_at dksX2_days_1 14 rfl rfl)
theorem dX2_days_41 : decode cX2_days 41 = .ok (.aload_n 0, 1) := dk_42 (dk_at dksX2_days_1 17 rfl rfl)
theorem dX2_days_42 : decode cX2_days 42 = .ok (.invokevirtual 329, 3) := dk_182 1 73 (dk_at dksX2_days_1 18 rfl rfl)
theorem dX2_days_45 : decode cX2_days 45 = .ok (.aload_n 0, 1) := dk_42 (dk_at dksX2_days_1 21 rfl rfl)
theorem dX2_days_46 : decode cX2_days 46 = .ok (.invokevirtual 374, 3) := dk_182 1 118 (dk_at dksX2_days_2 0 rfl rfl)
theorem dX2_days_49 : decode cX2_days 49 = .ok (.iload_n 2, 1) := dk_28 (dk_at dksX2_days_2 3 rfl rfl)
theorem dX2_days_50 : decode cX2_days 50 = .ok (.aload_n 0, 1) := dk_42 (dk_at dksX2_days_2 4 rfl rfl)
theorem dX2_days_51 : decode cX2_days 51 = .ok (.invokevirtual 377, 3) := dk_182 1 121 (dk_at dksX2_days_2 5 rfl rfl)
theorem dX2_days_54 : decode cX2_days 54 = .ok (.iadd, 1) := dk_96 (dk_at dksX2_days_2 8 rfl rfl)
theorem dX2_days_55 : decode cX2_days 55 = .ok (.istore_n 2, 1) := dk_61 (dk_at dksX2_days_2 9 rfl rfl)
theorem dX2_days_56 : decode cX2_days 56 = .ok (.iinc 3 1, 3) := dk_132 3 1 (dk_at dksX2_days_2 10 rfl rfl)
theorem dX2_days_59 : decode cX2_days 59 = .ok (.goto (-23), 3) := dk_167 255 233 (dk_at dksX2_days_2 13 rfl rfl)
theorem dX2_days_62 : decode cX2_days 62 = .ok (.iload_n 2, 1) := dk_28 (dk_at dksX2_days_2 16 rfl rfl)
theorem dX2_days_63 : decode cX2_days 63 = .ok (.ireturn, 1) := dk_172 (dk_at dksX2_days_2 17 rfl rfl)
abbrev cX2_goesIn : ByteArray := prog_21_method_93_code
def yX2_goesIn : MethodName := ⟨RX2, "goesIn", "()V"⟩
def dkwX2_goesIn_1 : List UInt8 := [160, 0, 10, 42, 7, 27, 104, 182, 1, 100, 132, 1, 1, 167, 255, 221, 42, 182, 1, 103, 177]
abbrev dktX2_goesIn_1 : List UInt8 := dkwX2_goesIn_1 ++ []
def dkwX2_goesIn_0 : List UInt8 := [3, 60, 27, 42, 180, 1, 11, 162, 0, 33, 42, 180, 0, 65, 7, 27, 104, 46, 42, 180, 0, 7, 3, 46]
abbrev dktX2_goesIn_0 : List UInt8 := dkwX2_goesIn_0 ++ dktX2_goesIn_1
theorem dksX2_goesIn_0 : cX2_goesIn.data.toList.drop 0 = dktX2_goesIn_0 := by decide +kernel
theorem dksX2_goesIn_1 : cX2_goesIn.data.toList.drop 24 = dktX2_goesIn_1 := dk_seg dksX2_goesIn_0 24 rfl rfl
theorem dX2_goesIn_0 : decode cX2_goesIn 0 = .ok (.iconst 0, 1) := dk_3 (dk_at dksX2_goesIn_0 0 rfl rfl)
theorem dX2_goesIn_1 : decode cX2_goesIn 1 = .ok (.istore_n 1, 1) := dk_60 (dk_at dksX2_goesIn_0 1 rfl rfl)
theorem dX2_goesIn_2 : decode cX2_goesIn 2 = .ok (.iload_n 1, 1) := dk_27 (dk_at dksX2_goesIn_0 2 rfl rfl)
theorem dX2_goesIn_3 : decode cX2_goesIn 3 = .ok (.aload_n 0, 1) := dk_42 (dk_at dksX2_goesIn_0 3 rfl rfl)
theorem dX2_goesIn_4 : decode cX2_goesIn 4 = .ok (.getfield 267, 3) := dk_180 1 11 (dk_at dksX2_goesIn_0 4 rfl rfl)
theorem dX2_goesIn_7 : decode cX2_goesIn 7 = .ok (.if_icmp .ge 33, 3) := dk_162 0 33 (dk_at dksX2_goesIn_0 7 rfl rfl)
theorem dX2_goesIn_10 : decode cX2_goesIn 10 = .ok (.aload_n 0, 1) := dk_42 (dk_at dksX2_goesIn_0 10 rfl rfl)
theorem dX2_goesIn_11 : decode cX2_goesIn 11 = .ok (.getfield 65, 3) := dk_180 0 65 (dk_at dksX2_goesIn_0 11 rfl rfl)
theorem dX2_goesIn_14 : decode cX2_goesIn 14 = .ok (.iconst 4, 1) := dk_7 (dk_at dksX2_goesIn_0 14 rfl rfl)
theorem dX2_goesIn_15 : decode cX2_goesIn 15 = .ok (.iload_n 1, 1) := dk_27 (dk_at dksX2_goesIn_0 15 rfl rfl)
theorem dX2_goesIn_16 : decode cX2_goesIn 16 = .ok (.imul, 1) := dk_104 (dk_at dksX2_goesIn_0 16 rfl rfl)
theorem dX2_goesIn_17 : decode cX2_goesIn 17 = .ok (.iaload, 1) := dk_46 (dk_at dksX2_goesIn_0 17 rfl rfl)
theorem dX2_goesIn_18 : decode cX2_goesIn 18 = .ok (.aload_n 0, 1) := dk_42 (dk_at dksX2_goesIn_0 18 rfl rfl)
theorem dX2_goesIn_19 : decode cX2_goesIn 19 = .ok (.getfield 7, 3) := dk_180 0 7 (dk_at dksX2_goesIn_0 19 rfl rfl)
theorem dX2_goesIn_22 : decode cX2_goesIn 22 = .ok (.iconst 0, 1) := dk_3 (dk_at dksX2_goesIn_0 22 rfl rfl)
theorem dX2_goesIn_23 : decode cX2_goesIn 23 = .ok (.iaload, 1) := dk_46 (dk_at dksX2_goesIn_0 23 rfl rfl)
theorem dX2_goesIn_24 : decode cX2_goesIn 24 = .ok (.if_icmp .ne 10, 3) := dk_160 0 10 (dk_at dksX2_goesIn_1 0 rfl rfl)
theorem dX2_goesIn_27 : decode cX2_goesIn 27 = .ok (.aload_n 0, 1) := dk_42 (dk_at dksX2_goesIn_1 3 rfl rfl)
theorem dX2_goesIn_28 : decode cX2_goesIn 28 = .ok (.iconst 4, 1) := dk_7 (dk_at dksX2_goesIn_1 4 rfl rfl)
theorem dX2_goesIn_29 : decode cX2_goesIn 29 = .ok (.iload_n 1, 1) := dk_27 (dk_at dksX2_goesIn_1 5 rfl rfl)
theorem dX2_goesIn_30 : decode cX2_goesIn 30 = .ok (.imul, 1) := dk_104 (dk_at dksX2_goesIn_1 6 rfl rfl)
theorem dX2_goesIn_31 : decode cX2_goesIn 31 = .ok (.invokevirtual 356, 3) := dk_182 1 100 (dk_at dksX2_goesIn_1 7 rfl rfl)
theorem dX2_goesIn_34 : decode cX2_goesIn 34 = .ok (.iinc 1 1, 3) := dk_132 1 1 (dk_at dksX2_goesIn_1 10 rfl rfl)
theorem dX2_goesIn_37 : decode cX2_goesIn 37 = .ok (.goto (-35), 3) := dk_167 255 221 (dk_at dksX2_goesIn_1 13 rfl rfl)
theorem dX2_goesIn_40 : decode cX2_goesIn 40 = .ok (.aload_n 0, 1) := dk_42 (dk_at dksX2_goesIn_1 16 rfl rfl)
theorem dX2_goesIn_41 : decode cX2_goesIn 41 = .ok (.invokevirtual 359, 3) := dk_182 1 103 (dk_at dksX2_goesIn_1 17 rfl rfl)
theorem dX2_goesIn_44 : decode cX2_goesIn 44 = .ok (.return_, 1) := dk_177 (dk_at dksX2_goesIn_1 20 rfl rfl)
abbrev cX2_does : ByteArray := prog_21_method_87_code
def yX2_does : MethodName := ⟨RX2, "does", "(I)V"⟩
def dkwX2_does_4 : List UInt8 := [28, 182, 1, 59, 154, 0, 8, 42, 28, 182, 1, 85, 177]
abbrev dktX2_does_4 : List UInt8 := dkwX2_does_4 ++ []
def dkwX2_does_3 : List UInt8 := [182, 1, 82, 42, 180, 0, 65, 27, 4, 96, 46, 5, 160, 0, 24, 42, 28, 182, 1, 56, 153, 0, 16, 42]
abbrev dktX2_does_3 : List UInt8 := dkwX2_does_3 ++ dktX2_does_4
def dkwX2_does_2 : List UInt8 := [180, 0, 65, 27, 4, 96, 46, 4, 160, 0, 18, 42, 28, 29, 182, 1, 79, 153, 0, 9, 42, 28, 29]
abbrev dktX2_does_2 : List UInt8 := dkwX2_does_2 ++ dktX2_does_3
def dkwX2_does_1 : List UInt8 := [96, 46, 154, 0, 20, 42, 28, 29, 182, 1, 69, 153, 0, 11, 42, 28, 29, 3, 182, 1, 76, 87, 42]
abbrev dktX2_does_1 : List UInt8 := dkwX2_does_1 ++ dktX2_does_2
def dkwX2_does_0 : List UInt8 := [42, 180, 0, 65, 27, 5, 96, 46, 61, 42, 180, 0, 65, 27, 6, 96, 46, 62, 42, 180, 0, 65, 27, 4]
abbrev dktX2_does_0 : List UInt8 := dkwX2_does_0 ++ dktX2_does_1
theorem dksX2_does_0 : cX2_does.data.toList.drop 0 = dktX2_does_0 := by decide +kernel
theorem dksX2_does_1 : cX2_does.data.toList.drop 24 = dktX2_does_1 := dk_seg dksX2_does_0 24 rfl rfl
theorem dksX2_does_2 : cX2_does.data.toList.drop 47 = dktX2_does_2 := dk_seg dksX2_does_1 23 rfl rfl
theorem dksX2_does_3 : cX2_does.data.toList.drop 70 = dktX2_does_3 := dk_seg dksX2_does_2 23 rfl rfl
theorem dksX2_does_4 : cX2_does.data.toList.drop 94 = dktX2_does_4 := dk_seg dksX2_does_3 24 rfl rfl
theorem dX2_does_0 : decode cX2_does 0 = .ok (.aload_n 0, 1) := dk_42 (dk_at dksX2_does_0 0 rfl rfl)
theorem dX2_does_1 : decode cX2_does 1 = .ok (.getfield 65, 3) := dk_180 0 65 (dk_at dksX2_does_0 1 rfl rfl)
theorem dX2_does_4 : decode cX2_does 4 = .ok (.iload_n 1, 1) := dk_27 (dk_at dksX2_does_0 4 rfl rfl)
theorem dX2_does_5 : decode cX2_does 5 = .ok (.iconst 2, 1) := dk_5 (dk_at dksX2_does_0 5 rfl rfl)
theorem dX2_does_6 : decode cX2_does 6 = .ok (.iadd, 1) := dk_96 (dk_at dksX2_does_0 6 rfl rfl)
theorem dX2_does_7 : decode cX2_does 7 = .ok (.iaload, 1) := dk_46 (dk_at dksX2_does_0 7 rfl rfl)
theorem dX2_does_8 : decode cX2_does 8 = .ok (.istore_n 2, 1) := dk_61 (dk_at dksX2_does_0 8 rfl rfl)
theorem dX2_does_9 : decode cX2_does 9 = .ok (.aload_n 0, 1) := dk_42 (dk_at dksX2_does_0 9 rfl rfl)
theorem dX2_does_10 : decode cX2_does 10 = .ok (.getfield 65, 3) := dk_180 0 65 (dk_at dksX2_does_0 10 rfl rfl)
theorem dX2_does_13 : decode cX2_does 13 = .ok (.iload_n 1, 1) := dk_27 (dk_at dksX2_does_0 13 rfl rfl)
theorem dX2_does_14 : decode cX2_does 14 = .ok (.iconst 3, 1) := dk_6 (dk_at dksX2_does_0 14 rfl rfl)
theorem dX2_does_15 : decode cX2_does 15 = .ok (.iadd, 1) := dk_96 (dk_at dksX2_does_0 15 rfl rfl)
theorem dX2_does_16 : decode cX2_does 16 = .ok (.iaload, 1) := dk_46 (dk_at dksX2_does_0 16 rfl rfl)
theorem dX2_does_17 : decode cX2_does 17 = .ok (.istore_n 3, 1) := dk_62 (dk_at dksX2_does_0 17 rfl rfl)
theorem dX2_does_18 : decode cX2_does 18 = .ok (.aload_n 0, 1) := dk_42 (dk_at dksX2_does_0 18 rfl rfl)
theorem dX2_does_19 : decode cX2_does 19 = .ok (.getfield 65, 3) := dk_180 0 65 (dk_at dksX2_does_0 19 rfl rfl)
theorem dX2_does_22 : decode cX2_does 22 = .ok (.iload_n 1, 1) := dk_27 (dk_at dksX2_does_0 22 rfl rfl)
theorem dX2_does_23 : decode cX2_does 23 = .ok (.iconst 1, 1) := dk_4 (dk_at dksX2_does_0 23 rfl rfl)
theorem dX2_does_24 : decode cX2_does 24 = .ok (.iadd, 1) := dk_96 (dk_at dksX2_does_1 0 rfl rfl)
theorem dX2_does_25 : decode cX2_does 25 = .ok (.iaload, 1) := dk_46 (dk_at dksX2_does_1 1 rfl rfl)
theorem dX2_does_26 : decode cX2_does 26 = .ok (.ifCond .ne 20, 3) := dk_154 0 20 (dk_at dksX2_does_1 2 rfl rfl)
theorem dX2_does_29 : decode cX2_does 29 = .ok (.aload_n 0, 1) := dk_42 (dk_at dksX2_does_1 5 rfl rfl)
theorem dX2_does_30 : decode cX2_does 30 = .ok (.iload_n 2, 1) := dk_28 (dk_at dksX2_does_1 6 rfl rfl)
theorem dX2_does_31 : decode cX2_does 31 = .ok (.iload_n 3, 1) := dk_29 (dk_at dksX2_does_1 7 rfl rfl)
theorem dX2_does_32 : decode cX2_does 32 = .ok (.invokevirtual 325, 3) := dk_182 1 69 (dk_at dksX2_does_1 8 rfl rfl)
theorem dX2_does_35 : decode cX2_does 35 = .ok (.ifCond .eq 11, 3) := dk_153 0 11 (dk_at dksX2_does_1 11 rfl rfl)
theorem dX2_does_38 : decode cX2_does 38 = .ok (.aload_n 0, 1) := dk_42 (dk_at dksX2_does_1 14 rfl rfl)
theorem dX2_does_39 : decode cX2_does 39 = .ok (.iload_n 2, 1) := dk_28 (dk_at dksX2_does_1 15 rfl rfl)
theorem dX2_does_40 : decode cX2_does 40 = .ok (.iload_n 3, 1) := dk_29 (dk_at dksX2_does_1 16 rfl rfl)
theorem dX2_does_41 : decode cX2_does 41 = .ok (.iconst 0, 1) := dk_3 (dk_at dksX2_does_1 17 rfl rfl)
theorem dX2_does_42 : decode cX2_does 42 = .ok (.invokevirtual 332, 3) := dk_182 1 76 (dk_at dksX2_does_1 18 rfl rfl)
theorem dX2_does_45 : decode cX2_does 45 = .ok (.pop, 1) := dk_87 (dk_at dksX2_does_1 21 rfl rfl)
theorem dX2_does_46 : decode cX2_does 46 = .ok (.aload_n 0, 1) := dk_42 (dk_at dksX2_does_1 22 rfl rfl)
theorem dX2_does_47 : decode cX2_does 47 = .ok (.getfield 65, 3) := dk_180 0 65 (dk_at dksX2_does_2 0 rfl rfl)
theorem dX2_does_50 : decode cX2_does 50 = .ok (.iload_n 1, 1) := dk_27 (dk_at dksX2_does_2 3 rfl rfl)
theorem dX2_does_51 : decode cX2_does 51 = .ok (.iconst 1, 1) := dk_4 (dk_at dksX2_does_2 4 rfl rfl)
theorem dX2_does_52 : decode cX2_does 52 = .ok (.iadd, 1) := dk_96 (dk_at dksX2_does_2 5 rfl rfl)
theorem dX2_does_53 : decode cX2_does 53 = .ok (.iaload, 1) := dk_46 (dk_at dksX2_does_2 6 rfl rfl)
theorem dX2_does_54 : decode cX2_does 54 = .ok (.iconst 1, 1) := dk_4 (dk_at dksX2_does_2 7 rfl rfl)
theorem dX2_does_55 : decode cX2_does 55 = .ok (.if_icmp .ne 18, 3) := dk_160 0 18 (dk_at dksX2_does_2 8 rfl rfl)
theorem dX2_does_58 : decode cX2_does 58 = .ok (.aload_n 0, 1) := dk_42 (dk_at dksX2_does_2 11 rfl rfl)
theorem dX2_does_59 : decode cX2_does 59 = .ok (.iload_n 2, 1) := dk_28 (dk_at dksX2_does_2 12 rfl rfl)
theorem dX2_does_60 : decode cX2_does 60 = .ok (.iload_n 3, 1) := dk_29 (dk_at dksX2_does_2 13 rfl rfl)
theorem dX2_does_61 : decode cX2_does 61 = .ok (.invokevirtual 335, 3) := dk_182 1 79 (dk_at dksX2_does_2 14 rfl rfl)
theorem dX2_does_64 : decode cX2_does 64 = .ok (.ifCond .eq 9, 3) := dk_153 0 9 (dk_at dksX2_does_2 17 rfl rfl)
theorem dX2_does_67 : decode cX2_does 67 = .ok (.aload_n 0, 1) := dk_42 (dk_at dksX2_does_2 20 rfl rfl)
theorem dX2_does_68 : decode cX2_does 68 = .ok (.iload_n 2, 1) := dk_28 (dk_at dksX2_does_2 21 rfl rfl)
theorem dX2_does_69 : decode cX2_does 69 = .ok (.iload_n 3, 1) := dk_29 (dk_at dksX2_does_2 22 rfl rfl)
theorem dX2_does_70 : decode cX2_does 70 = .ok (.invokevirtual 338, 3) := dk_182 1 82 (dk_at dksX2_does_3 0 rfl rfl)
theorem dX2_does_73 : decode cX2_does 73 = .ok (.aload_n 0, 1) := dk_42 (dk_at dksX2_does_3 3 rfl rfl)
theorem dX2_does_74 : decode cX2_does 74 = .ok (.getfield 65, 3) := dk_180 0 65 (dk_at dksX2_does_3 4 rfl rfl)
theorem dX2_does_77 : decode cX2_does 77 = .ok (.iload_n 1, 1) := dk_27 (dk_at dksX2_does_3 7 rfl rfl)
theorem dX2_does_78 : decode cX2_does 78 = .ok (.iconst 1, 1) := dk_4 (dk_at dksX2_does_3 8 rfl rfl)
theorem dX2_does_79 : decode cX2_does 79 = .ok (.iadd, 1) := dk_96 (dk_at dksX2_does_3 9 rfl rfl)
theorem dX2_does_80 : decode cX2_does 80 = .ok (.iaload, 1) := dk_46 (dk_at dksX2_does_3 10 rfl rfl)
theorem dX2_does_81 : decode cX2_does 81 = .ok (.iconst 2, 1) := dk_5 (dk_at dksX2_does_3 11 rfl rfl)
theorem dX2_does_82 : decode cX2_does 82 = .ok (.if_icmp .ne 24, 3) := dk_160 0 24 (dk_at dksX2_does_3 12 rfl rfl)
theorem dX2_does_85 : decode cX2_does 85 = .ok (.aload_n 0, 1) := dk_42 (dk_at dksX2_does_3 15 rfl rfl)
theorem dX2_does_86 : decode cX2_does 86 = .ok (.iload_n 2, 1) := dk_28 (dk_at dksX2_does_3 16 rfl rfl)
theorem dX2_does_87 : decode cX2_does 87 = .ok (.invokevirtual 312, 3) := dk_182 1 56 (dk_at dksX2_does_3 17 rfl rfl)
theorem dX2_does_90 : decode cX2_does 90 = .ok (.ifCond .eq 16, 3) := dk_153 0 16 (dk_at dksX2_does_3 20 rfl rfl)
theorem dX2_does_93 : decode cX2_does 93 = .ok (.aload_n 0, 1) := dk_42 (dk_at dksX2_does_3 23 rfl rfl)
theorem dX2_does_94 : decode cX2_does 94 = .ok (.iload_n 2, 1) := dk_28 (dk_at dksX2_does_4 0 rfl rfl)
theorem dX2_does_95 : decode cX2_does 95 = .ok (.invokevirtual 315, 3) := dk_182 1 59 (dk_at dksX2_does_4 1 rfl rfl)
theorem dX2_does_98 : decode cX2_does 98 = .ok (.ifCond .ne 8, 3) := dk_154 0 8 (dk_at dksX2_does_4 4 rfl rfl)
theorem dX2_does_101 : decode cX2_does 101 = .ok (.aload_n 0, 1) := dk_42 (dk_at dksX2_does_4 7 rfl rfl)
theorem dX2_does_102 : decode cX2_does 102 = .ok (.iload_n 2, 1) := dk_28 (dk_at dksX2_does_4 8 rfl rfl)
theorem dX2_does_103 : decode cX2_does 103 = .ok (.invokevirtual 341, 3) := dk_182 1 85 (dk_at dksX2_does_4 9 rfl rfl)
theorem dX2_does_106 : decode cX2_does 106 = .ok (.return_, 1) := dk_177 (dk_at dksX2_does_4 12 rfl rfl)
abbrev cX2_quenches : ByteArray := prog_21_method_88_code
def yX2_quenches : MethodName := ⟨RX2, "quenches", "()V"⟩
def dkwX2_quenches_3 : List UInt8 := [16, 10, 108, 100, 182, 0, 113, 132, 2, 1, 167, 255, 187, 132, 1, 1, 167, 255, 173, 177]
abbrev dktX2_quenches_3 : List UInt8 := dkwX2_quenches_3 ++ []
def dkwX2_quenches_2 : List UInt8 := [180, 0, 59, 6, 28, 104, 5, 96, 46, 42, 27, 42, 180, 0, 59, 6, 28, 104, 46, 182, 1, 32, 104]
abbrev dktX2_quenches_2 : List UInt8 := dkwX2_quenches_2 ++ dktX2_quenches_3
def dkwX2_quenches_1 : List UInt8 := [6, 28, 104, 4, 96, 46, 42, 27, 42, 180, 0, 59, 6, 28, 104, 4, 96, 46, 182, 1, 32, 42]
abbrev dktX2_quenches_1 : List UInt8 := dkwX2_quenches_1 ++ dktX2_quenches_2
def dkwX2_quenches_0 : List UInt8 := [3, 60, 27, 16, 8, 162, 0, 83, 3, 61, 28, 42, 180, 1, 5, 162, 0, 67, 42, 27, 42, 180, 0, 59]
abbrev dktX2_quenches_0 : List UInt8 := dkwX2_quenches_0 ++ dktX2_quenches_1
theorem dksX2_quenches_0 : cX2_quenches.data.toList.drop 0 = dktX2_quenches_0 := by decide +kernel
theorem dksX2_quenches_1 : cX2_quenches.data.toList.drop 24 = dktX2_quenches_1 := dk_seg dksX2_quenches_0 24 rfl rfl
theorem dksX2_quenches_2 : cX2_quenches.data.toList.drop 46 = dktX2_quenches_2 := dk_seg dksX2_quenches_1 22 rfl rfl
theorem dksX2_quenches_3 : cX2_quenches.data.toList.drop 69 = dktX2_quenches_3 := dk_seg dksX2_quenches_2 23 rfl rfl
theorem dX2_quenches_0 : decode cX2_quenches 0 = .ok (.iconst 0, 1) := dk_3 (dk_at dksX2_quenches_0 0 rfl rfl)
theorem dX2_quenches_1 : decode cX2_quenches 1 = .ok (.istore_n 1, 1) := dk_60 (dk_at dksX2_quenches_0 1 rfl rfl)
theorem dX2_quenches_2 : decode cX2_quenches 2 = .ok (.iload_n 1, 1) := dk_27 (dk_at dksX2_quenches_0 2 rfl rfl)
theorem dX2_quenches_3 : decode cX2_quenches 3 = .ok (.bipush 8, 2) := dk_16 8 (dk_at dksX2_quenches_0 3 rfl rfl)
theorem dX2_quenches_5 : decode cX2_quenches 5 = .ok (.if_icmp .ge 83, 3) := dk_162 0 83 (dk_at dksX2_quenches_0 5 rfl rfl)
theorem dX2_quenches_8 : decode cX2_quenches 8 = .ok (.iconst 0, 1) := dk_3 (dk_at dksX2_quenches_0 8 rfl rfl)
theorem dX2_quenches_9 : decode cX2_quenches 9 = .ok (.istore_n 2, 1) := dk_61 (dk_at dksX2_quenches_0 9 rfl rfl)
theorem dX2_quenches_10 : decode cX2_quenches 10 = .ok (.iload_n 2, 1) := dk_28 (dk_at dksX2_quenches_0 10 rfl rfl)
theorem dX2_quenches_11 : decode cX2_quenches 11 = .ok (.aload_n 0, 1) := dk_42 (dk_at dksX2_quenches_0 11 rfl rfl)
theorem dX2_quenches_12 : decode cX2_quenches 12 = .ok (.getfield 261, 3) := dk_180 1 5 (dk_at dksX2_quenches_0 12 rfl rfl)
theorem dX2_quenches_15 : decode cX2_quenches 15 = .ok (.if_icmp .ge 67, 3) := dk_162 0 67 (dk_at dksX2_quenches_0 15 rfl rfl)
theorem dX2_quenches_18 : decode cX2_quenches 18 = .ok (.aload_n 0, 1) := dk_42 (dk_at dksX2_quenches_0 18 rfl rfl)
theorem dX2_quenches_19 : decode cX2_quenches 19 = .ok (.iload_n 1, 1) := dk_27 (dk_at dksX2_quenches_0 19 rfl rfl)
theorem dX2_quenches_20 : decode cX2_quenches 20 = .ok (.aload_n 0, 1) := dk_42 (dk_at dksX2_quenches_0 20 rfl rfl)
theorem dX2_quenches_21 : decode cX2_quenches 21 = .ok (.getfield 59, 3) := dk_180 0 59 (dk_at dksX2_quenches_0 21 rfl rfl)
theorem dX2_quenches_24 : decode cX2_quenches 24 = .ok (.iconst 3, 1) := dk_6 (dk_at dksX2_quenches_1 0 rfl rfl)
theorem dX2_quenches_25 : decode cX2_quenches 25 = .ok (.iload_n 2, 1) := dk_28 (dk_at dksX2_quenches_1 1 rfl rfl)
theorem dX2_quenches_26 : decode cX2_quenches 26 = .ok (.imul, 1) := dk_104 (dk_at dksX2_quenches_1 2 rfl rfl)
theorem dX2_quenches_27 : decode cX2_quenches 27 = .ok (.iconst 1, 1) := dk_4 (dk_at dksX2_quenches_1 3 rfl rfl)
theorem dX2_quenches_28 : decode cX2_quenches 28 = .ok (.iadd, 1) := dk_96 (dk_at dksX2_quenches_1 4 rfl rfl)
theorem dX2_quenches_29 : decode cX2_quenches 29 = .ok (.iaload, 1) := dk_46 (dk_at dksX2_quenches_1 5 rfl rfl)
theorem dX2_quenches_30 : decode cX2_quenches 30 = .ok (.aload_n 0, 1) := dk_42 (dk_at dksX2_quenches_1 6 rfl rfl)
theorem dX2_quenches_31 : decode cX2_quenches 31 = .ok (.iload_n 1, 1) := dk_27 (dk_at dksX2_quenches_1 7 rfl rfl)
theorem dX2_quenches_32 : decode cX2_quenches 32 = .ok (.aload_n 0, 1) := dk_42 (dk_at dksX2_quenches_1 8 rfl rfl)
theorem dX2_quenches_33 : decode cX2_quenches 33 = .ok (.getfield 59, 3) := dk_180 0 59 (dk_at dksX2_quenches_1 9 rfl rfl)
theorem dX2_quenches_36 : decode cX2_quenches 36 = .ok (.iconst 3, 1) := dk_6 (dk_at dksX2_quenches_1 12 rfl rfl)
theorem dX2_quenches_37 : decode cX2_quenches 37 = .ok (.iload_n 2, 1) := dk_28 (dk_at dksX2_quenches_1 13 rfl rfl)
theorem dX2_quenches_38 : decode cX2_quenches 38 = .ok (.imul, 1) := dk_104 (dk_at dksX2_quenches_1 14 rfl rfl)
theorem dX2_quenches_39 : decode cX2_quenches 39 = .ok (.iconst 1, 1) := dk_4 (dk_at dksX2_quenches_1 15 rfl rfl)
theorem dX2_quenches_40 : decode cX2_quenches 40 = .ok (.iadd, 1) := dk_96 (dk_at dksX2_quenches_1 16 rfl rfl)
theorem dX2_quenches_41 : decode cX2_quenches 41 = .ok (.iaload, 1) := dk_46 (dk_at dksX2_quenches_1 17 rfl rfl)
theorem dX2_quenches_42 : decode cX2_quenches 42 = .ok (.invokevirtual 288, 3) := dk_182 1 32 (dk_at dksX2_quenches_1 18 rfl rfl)
theorem dX2_quenches_45 : decode cX2_quenches 45 = .ok (.aload_n 0, 1) := dk_42 (dk_at dksX2_quenches_1 21 rfl rfl)
theorem dX2_quenches_46 : decode cX2_quenches 46 = .ok (.getfield 59, 3) := dk_180 0 59 (dk_at dksX2_quenches_2 0 rfl rfl)
theorem dX2_quenches_49 : decode cX2_quenches 49 = .ok (.iconst 3, 1) := dk_6 (dk_at dksX2_quenches_2 3 rfl rfl)
theorem dX2_quenches_50 : decode cX2_quenches 50 = .ok (.iload_n 2, 1) := dk_28 (dk_at dksX2_quenches_2 4 rfl rfl)
theorem dX2_quenches_51 : decode cX2_quenches 51 = .ok (.imul, 1) := dk_104 (dk_at dksX2_quenches_2 5 rfl rfl)
theorem dX2_quenches_52 : decode cX2_quenches 52 = .ok (.iconst 2, 1) := dk_5 (dk_at dksX2_quenches_2 6 rfl rfl)
theorem dX2_quenches_53 : decode cX2_quenches 53 = .ok (.iadd, 1) := dk_96 (dk_at dksX2_quenches_2 7 rfl rfl)
theorem dX2_quenches_54 : decode cX2_quenches 54 = .ok (.iaload, 1) := dk_46 (dk_at dksX2_quenches_2 8 rfl rfl)
theorem dX2_quenches_55 : decode cX2_quenches 55 = .ok (.aload_n 0, 1) := dk_42 (dk_at dksX2_quenches_2 9 rfl rfl)
theorem dX2_quenches_56 : decode cX2_quenches 56 = .ok (.iload_n 1, 1) := dk_27 (dk_at dksX2_quenches_2 10 rfl rfl)
theorem dX2_quenches_57 : decode cX2_quenches 57 = .ok (.aload_n 0, 1) := dk_42 (dk_at dksX2_quenches_2 11 rfl rfl)
theorem dX2_quenches_58 : decode cX2_quenches 58 = .ok (.getfield 59, 3) := dk_180 0 59 (dk_at dksX2_quenches_2 12 rfl rfl)
theorem dX2_quenches_61 : decode cX2_quenches 61 = .ok (.iconst 3, 1) := dk_6 (dk_at dksX2_quenches_2 15 rfl rfl)
theorem dX2_quenches_62 : decode cX2_quenches 62 = .ok (.iload_n 2, 1) := dk_28 (dk_at dksX2_quenches_2 16 rfl rfl)
theorem dX2_quenches_63 : decode cX2_quenches 63 = .ok (.imul, 1) := dk_104 (dk_at dksX2_quenches_2 17 rfl rfl)
theorem dX2_quenches_64 : decode cX2_quenches 64 = .ok (.iaload, 1) := dk_46 (dk_at dksX2_quenches_2 18 rfl rfl)
theorem dX2_quenches_65 : decode cX2_quenches 65 = .ok (.invokevirtual 288, 3) := dk_182 1 32 (dk_at dksX2_quenches_2 19 rfl rfl)
theorem dX2_quenches_68 : decode cX2_quenches 68 = .ok (.imul, 1) := dk_104 (dk_at dksX2_quenches_2 22 rfl rfl)
theorem dX2_quenches_69 : decode cX2_quenches 69 = .ok (.bipush 10, 2) := dk_16 10 (dk_at dksX2_quenches_3 0 rfl rfl)
theorem dX2_quenches_71 : decode cX2_quenches 71 = .ok (.idiv, 1) := dk_108 (dk_at dksX2_quenches_3 2 rfl rfl)
theorem dX2_quenches_72 : decode cX2_quenches 72 = .ok (.isub, 1) := dk_100 (dk_at dksX2_quenches_3 3 rfl rfl)
theorem dX2_quenches_73 : decode cX2_quenches 73 = .ok (.invokevirtual 113, 3) := dk_182 0 113 (dk_at dksX2_quenches_3 4 rfl rfl)
theorem dX2_quenches_76 : decode cX2_quenches 76 = .ok (.iinc 2 1, 3) := dk_132 2 1 (dk_at dksX2_quenches_3 7 rfl rfl)
theorem dX2_quenches_79 : decode cX2_quenches 79 = .ok (.goto (-69), 3) := dk_167 255 187 (dk_at dksX2_quenches_3 10 rfl rfl)
theorem dX2_quenches_82 : decode cX2_quenches 82 = .ok (.iinc 1 1, 3) := dk_132 1 1 (dk_at dksX2_quenches_3 13 rfl rfl)
theorem dX2_quenches_85 : decode cX2_quenches 85 = .ok (.goto (-83), 3) := dk_167 255 173 (dk_at dksX2_quenches_3 16 rfl rfl)
theorem dX2_quenches_88 : decode cX2_quenches 88 = .ok (.return_, 1) := dk_177 (dk_at dksX2_quenches_3 19 rfl rfl)
abbrev cX2_goesOut : ByteArray := prog_21_method_94_code
def yX2_goesOut : MethodName := ⟨RX2, "goesOut", "()I"⟩
def dkwX2_goesOut_1 : List UInt8 := [180, 0, 7, 3, 46, 4, 96, 79, 42, 180, 0, 7, 6, 3, 79, 27, 172]
abbrev dktX2_goesOut_1 : List UInt8 := dkwX2_goesOut_1 ++ []
def dkwX2_goesOut_0 : List UInt8 := [42, 182, 1, 106, 42, 182, 1, 109, 42, 182, 1, 112, 42, 182, 1, 115, 60, 42, 180, 0, 7, 3, 42]
abbrev dktX2_goesOut_0 : List UInt8 := dkwX2_goesOut_0 ++ dktX2_goesOut_1
theorem dksX2_goesOut_0 : cX2_goesOut.data.toList.drop 0 = dktX2_goesOut_0 := by decide +kernel
theorem dksX2_goesOut_1 : cX2_goesOut.data.toList.drop 23 = dktX2_goesOut_1 := dk_seg dksX2_goesOut_0 23 rfl rfl
theorem dX2_goesOut_0 : decode cX2_goesOut 0 = .ok (.aload_n 0, 1) := dk_42 (dk_at dksX2_goesOut_0 0 rfl rfl)
theorem dX2_goesOut_1 : decode cX2_goesOut 1 = .ok (.invokevirtual 362, 3) := dk_182 1 106 (dk_at dksX2_goesOut_0 1 rfl rfl)
theorem dX2_goesOut_4 : decode cX2_goesOut 4 = .ok (.aload_n 0, 1) := dk_42 (dk_at dksX2_goesOut_0 4 rfl rfl)
theorem dX2_goesOut_5 : decode cX2_goesOut 5 = .ok (.invokevirtual 365, 3) := dk_182 1 109 (dk_at dksX2_goesOut_0 5 rfl rfl)
theorem dX2_goesOut_8 : decode cX2_goesOut 8 = .ok (.aload_n 0, 1) := dk_42 (dk_at dksX2_goesOut_0 8 rfl rfl)
theorem dX2_goesOut_9 : decode cX2_goesOut 9 = .ok (.invokevirtual 368, 3) := dk_182 1 112 (dk_at dksX2_goesOut_0 9 rfl rfl)
theorem dX2_goesOut_12 : decode cX2_goesOut 12 = .ok (.aload_n 0, 1) := dk_42 (dk_at dksX2_goesOut_0 12 rfl rfl)
theorem dX2_goesOut_13 : decode cX2_goesOut 13 = .ok (.invokevirtual 371, 3) := dk_182 1 115 (dk_at dksX2_goesOut_0 13 rfl rfl)
theorem dX2_goesOut_16 : decode cX2_goesOut 16 = .ok (.istore_n 1, 1) := dk_60 (dk_at dksX2_goesOut_0 16 rfl rfl)
theorem dX2_goesOut_17 : decode cX2_goesOut 17 = .ok (.aload_n 0, 1) := dk_42 (dk_at dksX2_goesOut_0 17 rfl rfl)
theorem dX2_goesOut_18 : decode cX2_goesOut 18 = .ok (.getfield 7, 3) := dk_180 0 7 (dk_at dksX2_goesOut_0 18 rfl rfl)
theorem dX2_goesOut_21 : decode cX2_goesOut 21 = .ok (.iconst 0, 1) := dk_3 (dk_at dksX2_goesOut_0 21 rfl rfl)
theorem dX2_goesOut_22 : decode cX2_goesOut 22 = .ok (.aload_n 0, 1) := dk_42 (dk_at dksX2_goesOut_0 22 rfl rfl)
theorem dX2_goesOut_23 : decode cX2_goesOut 23 = .ok (.getfield 7, 3) := dk_180 0 7 (dk_at dksX2_goesOut_1 0 rfl rfl)
theorem dX2_goesOut_26 : decode cX2_goesOut 26 = .ok (.iconst 0, 1) := dk_3 (dk_at dksX2_goesOut_1 3 rfl rfl)
theorem dX2_goesOut_27 : decode cX2_goesOut 27 = .ok (.iaload, 1) := dk_46 (dk_at dksX2_goesOut_1 4 rfl rfl)
theorem dX2_goesOut_28 : decode cX2_goesOut 28 = .ok (.iconst 1, 1) := dk_4 (dk_at dksX2_goesOut_1 5 rfl rfl)
theorem dX2_goesOut_29 : decode cX2_goesOut 29 = .ok (.iadd, 1) := dk_96 (dk_at dksX2_goesOut_1 6 rfl rfl)
theorem dX2_goesOut_30 : decode cX2_goesOut 30 = .ok (.iastore, 1) := dk_79 (dk_at dksX2_goesOut_1 7 rfl rfl)
theorem dX2_goesOut_31 : decode cX2_goesOut 31 = .ok (.aload_n 0, 1) := dk_42 (dk_at dksX2_goesOut_1 8 rfl rfl)
theorem dX2_goesOut_32 : decode cX2_goesOut 32 = .ok (.getfield 7, 3) := dk_180 0 7 (dk_at dksX2_goesOut_1 9 rfl rfl)
theorem dX2_goesOut_35 : decode cX2_goesOut 35 = .ok (.iconst 3, 1) := dk_6 (dk_at dksX2_goesOut_1 12 rfl rfl)
theorem dX2_goesOut_36 : decode cX2_goesOut 36 = .ok (.iconst 0, 1) := dk_3 (dk_at dksX2_goesOut_1 13 rfl rfl)
theorem dX2_goesOut_37 : decode cX2_goesOut 37 = .ok (.iastore, 1) := dk_79 (dk_at dksX2_goesOut_1 14 rfl rfl)
theorem dX2_goesOut_38 : decode cX2_goesOut 38 = .ok (.iload_n 1, 1) := dk_27 (dk_at dksX2_goesOut_1 15 rfl rfl)
theorem dX2_goesOut_39 : decode cX2_goesOut 39 = .ok (.ireturn, 1) := dk_172 (dk_at dksX2_goesOut_1 16 rfl rfl)
abbrev cX2_blows : ByteArray := prog_21_method_89_code
def yX2_blows : MethodName := ⟨RX2, "blows", "()V"⟩
def dkwX2_blows_8 : List UInt8 := [167, 255, 218, 177]
abbrev dktX2_blows_8 : List UInt8 := dkwX2_blows_8 ++ []
def dkwX2_blows_7 : List UInt8 := [42, 180, 0, 74, 8, 27, 104, 28, 96, 46, 182, 0, 113, 132, 2, 1, 167, 255, 232, 132, 1, 1]
abbrev dktX2_blows_7 : List UInt8 := dkwX2_blows_7 ++ dktX2_blows_8
def dkwX2_blows_6 : List UInt8 := [132, 1, 1, 167, 255, 144, 3, 60, 27, 16, 8, 162, 0, 38, 3, 61, 28, 8, 162, 0, 25, 42, 27, 28]
abbrev dktX2_blows_6 : List UInt8 := dkwX2_blows_6 ++ dktX2_blows_7
def dkwX2_blows_5 : List UInt8 := [8, 42, 180, 0, 19, 27, 46, 4, 100, 104, 28, 96, 46, 29, 96, 79, 132, 2, 1, 167, 255, 181]
abbrev dktX2_blows_5 : List UInt8 := dkwX2_blows_5 ++ dktX2_blows_6
def dkwX2_blows_4 : List UInt8 := [46, 29, 100, 79, 42, 180, 0, 74, 8, 42, 180, 0, 19, 27, 46, 4, 100, 104, 28, 96, 42, 180, 0, 74]
abbrev dktX2_blows_4 : List UInt8 := dkwX2_blows_4 ++ dktX2_blows_5
def dkwX2_blows_3 : List UInt8 := [182, 1, 32, 5, 108, 62, 42, 180, 0, 74, 8, 27, 104, 28, 96, 42, 180, 0, 74, 8, 27, 104, 28, 96]
abbrev dktX2_blows_3 : List UInt8 := dkwX2_blows_3 ++ dktX2_blows_4
def dkwX2_blows_2 : List UInt8 := [27, 5, 182, 1, 32, 16, 10, 162, 0, 6, 167, 0, 83, 3, 61, 28, 8, 162, 0, 76, 42, 27, 28]
abbrev dktX2_blows_2 : List UInt8 := dkwX2_blows_2 ++ dktX2_blows_3
def dkwX2_blows_1 : List UInt8 := [132, 1, 1, 167, 255, 233, 3, 60, 27, 16, 8, 162, 0, 112, 42, 180, 0, 19, 27, 46, 153, 0, 97, 42]
abbrev dktX2_blows_1 : List UInt8 := dkwX2_blows_1 ++ dktX2_blows_2
def dkwX2_blows_0 : List UInt8 := [3, 60, 27, 16, 40, 162, 0, 23, 42, 180, 0, 74, 27, 42, 180, 0, 7, 8, 27, 96, 46, 79]
abbrev dktX2_blows_0 : List UInt8 := dkwX2_blows_0 ++ dktX2_blows_1
theorem dksX2_blows_0 : cX2_blows.data.toList.drop 0 = dktX2_blows_0 := by decide +kernel
theorem dksX2_blows_1 : cX2_blows.data.toList.drop 22 = dktX2_blows_1 := dk_seg dksX2_blows_0 22 rfl rfl
theorem dksX2_blows_2 : cX2_blows.data.toList.drop 46 = dktX2_blows_2 := dk_seg dksX2_blows_1 24 rfl rfl
theorem dksX2_blows_3 : cX2_blows.data.toList.drop 69 = dktX2_blows_3 := dk_seg dksX2_blows_2 23 rfl rfl
theorem dksX2_blows_4 : cX2_blows.data.toList.drop 93 = dktX2_blows_4 := dk_seg dksX2_blows_3 24 rfl rfl
theorem dksX2_blows_5 : cX2_blows.data.toList.drop 117 = dktX2_blows_5 := dk_seg dksX2_blows_4 24 rfl rfl
theorem dksX2_blows_6 : cX2_blows.data.toList.drop 139 = dktX2_blows_6 := dk_seg dksX2_blows_5 22 rfl rfl
theorem dksX2_blows_7 : cX2_blows.data.toList.drop 163 = dktX2_blows_7 := dk_seg dksX2_blows_6 24 rfl rfl
theorem dksX2_blows_8 : cX2_blows.data.toList.drop 185 = dktX2_blows_8 := dk_seg dksX2_blows_7 22 rfl rfl
theorem dX2_blows_0 : decode cX2_blows 0 = .ok (.iconst 0, 1) := dk_3 (dk_at dksX2_blows_0 0 rfl rfl)
theorem dX2_blows_1 : decode cX2_blows 1 = .ok (.istore_n 1, 1) := dk_60 (dk_at dksX2_blows_0 1 rfl rfl)
theorem dX2_blows_2 : decode cX2_blows 2 = .ok (.iload_n 1, 1) := dk_27 (dk_at dksX2_blows_0 2 rfl rfl)
theorem dX2_blows_3 : decode cX2_blows 3 = .ok (.bipush 40, 2) := dk_16 40 (dk_at dksX2_blows_0 3 rfl rfl)
theorem dX2_blows_5 : decode cX2_blows 5 = .ok (.if_icmp .ge 23, 3) := dk_162 0 23 (dk_at dksX2_blows_0 5 rfl rfl)
theorem dX2_blows_8 : decode cX2_blows 8 = .ok (.aload_n 0, 1) := dk_42 (dk_at dksX2_blows_0 8 rfl rfl)
theorem dX2_blows_9 : decode cX2_blows 9 = .ok (.getfield 74, 3) := dk_180 0 74 (dk_at dksX2_blows_0 9 rfl rfl)
theorem dX2_blows_12 : decode cX2_blows 12 = .ok (.iload_n 1, 1) := dk_27 (dk_at dksX2_blows_0 12 rfl rfl)
theorem dX2_blows_13 : decode cX2_blows 13 = .ok (.aload_n 0, 1) := dk_42 (dk_at dksX2_blows_0 13 rfl rfl)
theorem dX2_blows_14 : decode cX2_blows 14 = .ok (.getfield 7, 3) := dk_180 0 7 (dk_at dksX2_blows_0 14 rfl rfl)
theorem dX2_blows_17 : decode cX2_blows 17 = .ok (.iconst 5, 1) := dk_8 (dk_at dksX2_blows_0 17 rfl rfl)
theorem dX2_blows_18 : decode cX2_blows 18 = .ok (.iload_n 1, 1) := dk_27 (dk_at dksX2_blows_0 18 rfl rfl)
theorem dX2_blows_19 : decode cX2_blows 19 = .ok (.iadd, 1) := dk_96 (dk_at dksX2_blows_0 19 rfl rfl)
theorem dX2_blows_20 : decode cX2_blows 20 = .ok (.iaload, 1) := dk_46 (dk_at dksX2_blows_0 20 rfl rfl)
theorem dX2_blows_21 : decode cX2_blows 21 = .ok (.iastore, 1) := dk_79 (dk_at dksX2_blows_0 21 rfl rfl)
theorem dX2_blows_22 : decode cX2_blows 22 = .ok (.iinc 1 1, 3) := dk_132 1 1 (dk_at dksX2_blows_1 0 rfl rfl)
theorem dX2_blows_25 : decode cX2_blows 25 = .ok (.goto (-23), 3) := dk_167 255 233 (dk_at dksX2_blows_1 3 rfl rfl)
theorem dX2_blows_28 : decode cX2_blows 28 = .ok (.iconst 0, 1) := dk_3 (dk_at dksX2_blows_1 6 rfl rfl)
theorem dX2_blows_29 : decode cX2_blows 29 = .ok (.istore_n 1, 1) := dk_60 (dk_at dksX2_blows_1 7 rfl rfl)
theorem dX2_blows_30 : decode cX2_blows 30 = .ok (.iload_n 1, 1) := dk_27 (dk_at dksX2_blows_1 8 rfl rfl)
theorem dX2_blows_31 : decode cX2_blows 31 = .ok (.bipush 8, 2) := dk_16 8 (dk_at dksX2_blows_1 9 rfl rfl)
theorem dX2_blows_33 : decode cX2_blows 33 = .ok (.if_icmp .ge 112, 3) := dk_162 0 112 (dk_at dksX2_blows_1 11 rfl rfl)
theorem dX2_blows_36 : decode cX2_blows 36 = .ok (.aload_n 0, 1) := dk_42 (dk_at dksX2_blows_1 14 rfl rfl)
theorem dX2_blows_37 : decode cX2_blows 37 = .ok (.getfield 19, 3) := dk_180 0 19 (dk_at dksX2_blows_1 15 rfl rfl)
theorem dX2_blows_40 : decode cX2_blows 40 = .ok (.iload_n 1, 1) := dk_27 (dk_at dksX2_blows_1 18 rfl rfl)
theorem dX2_blows_41 : decode cX2_blows 41 = .ok (.iaload, 1) := dk_46 (dk_at dksX2_blows_1 19 rfl rfl)
theorem dX2_blows_42 : decode cX2_blows 42 = .ok (.ifCond .eq 97, 3) := dk_153 0 97 (dk_at dksX2_blows_1 20 rfl rfl)
theorem dX2_blows_45 : decode cX2_blows 45 = .ok (.aload_n 0, 1) := dk_42 (dk_at dksX2_blows_1 23 rfl rfl)
theorem dX2_blows_46 : decode cX2_blows 46 = .ok (.iload_n 1, 1) := dk_27 (dk_at dksX2_blows_2 0 rfl rfl)
theorem dX2_blows_47 : decode cX2_blows 47 = .ok (.iconst 2, 1) := dk_5 (dk_at dksX2_blows_2 1 rfl rfl)
theorem dX2_blows_48 : decode cX2_blows 48 = .ok (.invokevirtual 288, 3) := dk_182 1 32 (dk_at dksX2_blows_2 2 rfl rfl)
theorem dX2_blows_51 : decode cX2_blows 51 = .ok (.bipush 10, 2) := dk_16 10 (dk_at dksX2_blows_2 5 rfl rfl)
theorem dX2_blows_53 : decode cX2_blows 53 = .ok (.if_icmp .ge 6, 3) := dk_162 0 6 (dk_at dksX2_blows_2 7 rfl rfl)
theorem dX2_blows_56 : decode cX2_blows 56 = .ok (.goto 83, 3) := dk_167 0 83 (dk_at dksX2_blows_2 10 rfl rfl)
theorem dX2_blows_59 : decode cX2_blows 59 = .ok (.iconst 0, 1) := dk_3 (dk_at dksX2_blows_2 13 rfl rfl)
theorem dX2_blows_60 : decode cX2_blows 60 = .ok (.istore_n 2, 1) := dk_61 (dk_at dksX2_blows_2 14 rfl rfl)
theorem dX2_blows_61 : decode cX2_blows 61 = .ok (.iload_n 2, 1) := dk_28 (dk_at dksX2_blows_2 15 rfl rfl)
theorem dX2_blows_62 : decode cX2_blows 62 = .ok (.iconst 5, 1) := dk_8 (dk_at dksX2_blows_2 16 rfl rfl)
theorem dX2_blows_63 : decode cX2_blows 63 = .ok (.if_icmp .ge 76, 3) := dk_162 0 76 (dk_at dksX2_blows_2 17 rfl rfl)
theorem dX2_blows_66 : decode cX2_blows 66 = .ok (.aload_n 0, 1) := dk_42 (dk_at dksX2_blows_2 20 rfl rfl)
theorem dX2_blows_67 : decode cX2_blows 67 = .ok (.iload_n 1, 1) := dk_27 (dk_at dksX2_blows_2 21 rfl rfl)
theorem dX2_blows_68 : decode cX2_blows 68 = .ok (.iload_n 2, 1) := dk_28 (dk_at dksX2_blows_2 22 rfl rfl)
theorem dX2_blows_69 : decode cX2_blows 69 = .ok (.invokevirtual 288, 3) := dk_182 1 32 (dk_at dksX2_blows_3 0 rfl rfl)
theorem dX2_blows_72 : decode cX2_blows 72 = .ok (.iconst 2, 1) := dk_5 (dk_at dksX2_blows_3 3 rfl rfl)
theorem dX2_blows_73 : decode cX2_blows 73 = .ok (.idiv, 1) := dk_108 (dk_at dksX2_blows_3 4 rfl rfl)
theorem dX2_blows_74 : decode cX2_blows 74 = .ok (.istore_n 3, 1) := dk_62 (dk_at dksX2_blows_3 5 rfl rfl)
theorem dX2_blows_75 : decode cX2_blows 75 = .ok (.aload_n 0, 1) := dk_42 (dk_at dksX2_blows_3 6 rfl rfl)
theorem dX2_blows_76 : decode cX2_blows 76 = .ok (.getfield 74, 3) := dk_180 0 74 (dk_at dksX2_blows_3 7 rfl rfl)
theorem dX2_blows_79 : decode cX2_blows 79 = .ok (.iconst 5, 1) := dk_8 (dk_at dksX2_blows_3 10 rfl rfl)
theorem dX2_blows_80 : decode cX2_blows 80 = .ok (.iload_n 1, 1) := dk_27 (dk_at dksX2_blows_3 11 rfl rfl)
theorem dX2_blows_81 : decode cX2_blows 81 = .ok (.imul, 1) := dk_104 (dk_at dksX2_blows_3 12 rfl rfl)
theorem dX2_blows_82 : decode cX2_blows 82 = .ok (.iload_n 2, 1) := dk_28 (dk_at dksX2_blows_3 13 rfl rfl)
theorem dX2_blows_83 : decode cX2_blows 83 = .ok (.iadd, 1) := dk_96 (dk_at dksX2_blows_3 14 rfl rfl)
theorem dX2_blows_84 : decode cX2_blows 84 = .ok (.aload_n 0, 1) := dk_42 (dk_at dksX2_blows_3 15 rfl rfl)
theorem dX2_blows_85 : decode cX2_blows 85 = .ok (.getfield 74, 3) := dk_180 0 74 (dk_at dksX2_blows_3 16 rfl rfl)
theorem dX2_blows_88 : decode cX2_blows 88 = .ok (.iconst 5, 1) := dk_8 (dk_at dksX2_blows_3 19 rfl rfl)
theorem dX2_blows_89 : decode cX2_blows 89 = .ok (.iload_n 1, 1) := dk_27 (dk_at dksX2_blows_3 20 rfl rfl)
theorem dX2_blows_90 : decode cX2_blows 90 = .ok (.imul, 1) := dk_104 (dk_at dksX2_blows_3 21 rfl rfl)
theorem dX2_blows_91 : decode cX2_blows 91 = .ok (.iload_n 2, 1) := dk_28 (dk_at dksX2_blows_3 22 rfl rfl)
theorem dX2_blows_92 : decode cX2_blows 92 = .ok (.iadd, 1) := dk_96 (dk_at dksX2_blows_3 23 rfl rfl)
theorem dX2_blows_93 : decode cX2_blows 93 = .ok (.iaload, 1) := dk_46 (dk_at dksX2_blows_4 0 rfl rfl)
theorem dX2_blows_94 : decode cX2_blows 94 = .ok (.iload_n 3, 1) := dk_29 (dk_at dksX2_blows_4 1 rfl rfl)
theorem dX2_blows_95 : decode cX2_blows 95 = .ok (.isub, 1) := dk_100 (dk_at dksX2_blows_4 2 rfl rfl)
theorem dX2_blows_96 : decode cX2_blows 96 = .ok (.iastore, 1) := dk_79 (dk_at dksX2_blows_4 3 rfl rfl)
theorem dX2_blows_97 : decode cX2_blows 97 = .ok (.aload_n 0, 1) := dk_42 (dk_at dksX2_blows_4 4 rfl rfl)
theorem dX2_blows_98 : decode cX2_blows 98 = .ok (.getfield 74, 3) := dk_180 0 74 (dk_at dksX2_blows_4 5 rfl rfl)
theorem dX2_blows_101 : decode cX2_blows 101 = .ok (.iconst 5, 1) := dk_8 (dk_at dksX2_blows_4 8 rfl rfl)
theorem dX2_blows_102 : decode cX2_blows 102 = .ok (.aload_n 0, 1) := dk_42 (dk_at dksX2_blows_4 9 rfl rfl)
theorem dX2_blows_103 : decode cX2_blows 103 = .ok (.getfield 19, 3) := dk_180 0 19 (dk_at dksX2_blows_4 10 rfl rfl)
theorem dX2_blows_106 : decode cX2_blows 106 = .ok (.iload_n 1, 1) := dk_27 (dk_at dksX2_blows_4 13 rfl rfl)
theorem dX2_blows_107 : decode cX2_blows 107 = .ok (.iaload, 1) := dk_46 (dk_at dksX2_blows_4 14 rfl rfl)
theorem dX2_blows_108 : decode cX2_blows 108 = .ok (.iconst 1, 1) := dk_4 (dk_at dksX2_blows_4 15 rfl rfl)
theorem dX2_blows_109 : decode cX2_blows 109 = .ok (.isub, 1) := dk_100 (dk_at dksX2_blows_4 16 rfl rfl)
theorem dX2_blows_110 : decode cX2_blows 110 = .ok (.imul, 1) := dk_104 (dk_at dksX2_blows_4 17 rfl rfl)
theorem dX2_blows_111 : decode cX2_blows 111 = .ok (.iload_n 2, 1) := dk_28 (dk_at dksX2_blows_4 18 rfl rfl)
theorem dX2_blows_112 : decode cX2_blows 112 = .ok (.iadd, 1) := dk_96 (dk_at dksX2_blows_4 19 rfl rfl)
theorem dX2_blows_113 : decode cX2_blows 113 = .ok (.aload_n 0, 1) := dk_42 (dk_at dksX2_blows_4 20 rfl rfl)
theorem dX2_blows_114 : decode cX2_blows 114 = .ok (.getfield 74, 3) := dk_180 0 74 (dk_at dksX2_blows_4 21 rfl rfl)
theorem dX2_blows_117 : decode cX2_blows 117 = .ok (.iconst 5, 1) := dk_8 (dk_at dksX2_blows_5 0 rfl rfl)
theorem dX2_blows_118 : decode cX2_blows 118 = .ok (.aload_n 0, 1) := dk_42 (dk_at dksX2_blows_5 1 rfl rfl)
theorem dX2_blows_119 : decode cX2_blows 119 = .ok (.getfield 19, 3) := dk_180 0 19 (dk_at dksX2_blows_5 2 rfl rfl)
theorem dX2_blows_122 : decode cX2_blows 122 = .ok (.iload_n 1, 1) := dk_27 (dk_at dksX2_blows_5 5 rfl rfl)
theorem dX2_blows_123 : decode cX2_blows 123 = .ok (.iaload, 1) := dk_46 (dk_at dksX2_blows_5 6 rfl rfl)
theorem dX2_blows_124 : decode cX2_blows 124 = .ok (.iconst 1, 1) := dk_4 (dk_at dksX2_blows_5 7 rfl rfl)
theorem dX2_blows_125 : decode cX2_blows 125 = .ok (.isub, 1) := dk_100 (dk_at dksX2_blows_5 8 rfl rfl)
theorem dX2_blows_126 : decode cX2_blows 126 = .ok (.imul, 1) := dk_104 (dk_at dksX2_blows_5 9 rfl rfl)
theorem dX2_blows_127 : decode cX2_blows 127 = .ok (.iload_n 2, 1) := dk_28 (dk_at dksX2_blows_5 10 rfl rfl)
theorem dX2_blows_128 : decode cX2_blows 128 = .ok (.iadd, 1) := dk_96 (dk_at dksX2_blows_5 11 rfl rfl)
theorem dX2_blows_129 : decode cX2_blows 129 = .ok (.iaload, 1) := dk_46 (dk_at dksX2_blows_5 12 rfl rfl)
theorem dX2_blows_130 : decode cX2_blows 130 = .ok (.iload_n 3, 1) := dk_29 (dk_at dksX2_blows_5 13 rfl rfl)
theorem dX2_blows_131 : decode cX2_blows 131 = .ok (.iadd, 1) := dk_96 (dk_at dksX2_blows_5 14 rfl rfl)
theorem dX2_blows_132 : decode cX2_blows 132 = .ok (.iastore, 1) := dk_79 (dk_at dksX2_blows_5 15 rfl rfl)
theorem dX2_blows_133 : decode cX2_blows 133 = .ok (.iinc 2 1, 3) := dk_132 2 1 (dk_at dksX2_blows_5 16 rfl rfl)
theorem dX2_blows_136 : decode cX2_blows 136 = .ok (.goto (-75), 3) := dk_167 255 181 (dk_at dksX2_blows_5 19 rfl rfl)
theorem dX2_blows_139 : decode cX2_blows 139 = .ok (.iinc 1 1, 3) := dk_132 1 1 (dk_at dksX2_blows_6 0 rfl rfl)
theorem dX2_blows_142 : decode cX2_blows 142 = .ok (.goto (-112), 3) := dk_167 255 144 (dk_at dksX2_blows_6 3 rfl rfl)
theorem dX2_blows_145 : decode cX2_blows 145 = .ok (.iconst 0, 1) := dk_3 (dk_at dksX2_blows_6 6 rfl rfl)
theorem dX2_blows_146 : decode cX2_blows 146 = .ok (.istore_n 1, 1) := dk_60 (dk_at dksX2_blows_6 7 rfl rfl)
theorem dX2_blows_147 : decode cX2_blows 147 = .ok (.iload_n 1, 1) := dk_27 (dk_at dksX2_blows_6 8 rfl rfl)
theorem dX2_blows_148 : decode cX2_blows 148 = .ok (.bipush 8, 2) := dk_16 8 (dk_at dksX2_blows_6 9 rfl rfl)
theorem dX2_blows_150 : decode cX2_blows 150 = .ok (.if_icmp .ge 38, 3) := dk_162 0 38 (dk_at dksX2_blows_6 11 rfl rfl)
theorem dX2_blows_153 : decode cX2_blows 153 = .ok (.iconst 0, 1) := dk_3 (dk_at dksX2_blows_6 14 rfl rfl)
theorem dX2_blows_154 : decode cX2_blows 154 = .ok (.istore_n 2, 1) := dk_61 (dk_at dksX2_blows_6 15 rfl rfl)
theorem dX2_blows_155 : decode cX2_blows 155 = .ok (.iload_n 2, 1) := dk_28 (dk_at dksX2_blows_6 16 rfl rfl)
theorem dX2_blows_156 : decode cX2_blows 156 = .ok (.iconst 5, 1) := dk_8 (dk_at dksX2_blows_6 17 rfl rfl)
theorem dX2_blows_157 : decode cX2_blows 157 = .ok (.if_icmp .ge 25, 3) := dk_162 0 25 (dk_at dksX2_blows_6 18 rfl rfl)
theorem dX2_blows_160 : decode cX2_blows 160 = .ok (.aload_n 0, 1) := dk_42 (dk_at dksX2_blows_6 21 rfl rfl)
theorem dX2_blows_161 : decode cX2_blows 161 = .ok (.iload_n 1, 1) := dk_27 (dk_at dksX2_blows_6 22 rfl rfl)
theorem dX2_blows_162 : decode cX2_blows 162 = .ok (.iload_n 2, 1) := dk_28 (dk_at dksX2_blows_6 23 rfl rfl)
theorem dX2_blows_163 : decode cX2_blows 163 = .ok (.aload_n 0, 1) := dk_42 (dk_at dksX2_blows_7 0 rfl rfl)
theorem dX2_blows_164 : decode cX2_blows 164 = .ok (.getfield 74, 3) := dk_180 0 74 (dk_at dksX2_blows_7 1 rfl rfl)
theorem dX2_blows_167 : decode cX2_blows 167 = .ok (.iconst 5, 1) := dk_8 (dk_at dksX2_blows_7 4 rfl rfl)
theorem dX2_blows_168 : decode cX2_blows 168 = .ok (.iload_n 1, 1) := dk_27 (dk_at dksX2_blows_7 5 rfl rfl)
theorem dX2_blows_169 : decode cX2_blows 169 = .ok (.imul, 1) := dk_104 (dk_at dksX2_blows_7 6 rfl rfl)
theorem dX2_blows_170 : decode cX2_blows 170 = .ok (.iload_n 2, 1) := dk_28 (dk_at dksX2_blows_7 7 rfl rfl)
theorem dX2_blows_171 : decode cX2_blows 171 = .ok (.iadd, 1) := dk_96 (dk_at dksX2_blows_7 8 rfl rfl)
theorem dX2_blows_172 : decode cX2_blows 172 = .ok (.iaload, 1) := dk_46 (dk_at dksX2_blows_7 9 rfl rfl)
theorem dX2_blows_173 : decode cX2_blows 173 = .ok (.invokevirtual 113, 3) := dk_182 0 113 (dk_at dksX2_blows_7 10 rfl rfl)
theorem dX2_blows_176 : decode cX2_blows 176 = .ok (.iinc 2 1, 3) := dk_132 2 1 (dk_at dksX2_blows_7 13 rfl rfl)
theorem dX2_blows_179 : decode cX2_blows 179 = .ok (.goto (-24), 3) := dk_167 255 232 (dk_at dksX2_blows_7 16 rfl rfl)
theorem dX2_blows_182 : decode cX2_blows 182 = .ok (.iinc 1 1, 3) := dk_132 1 1 (dk_at dksX2_blows_7 19 rfl rfl)
theorem dX2_blows_185 : decode cX2_blows 185 = .ok (.goto (-38), 3) := dk_167 255 218 (dk_at dksX2_blows_8 0 rfl rfl)
theorem dX2_blows_188 : decode cX2_blows 188 = .ok (.return_, 1) := dk_177 (dk_at dksX2_blows_8 3 rfl rfl)
abbrev cX2_fades : ByteArray := prog_21_method_90_code
def yX2_fades : MethodName := ⟨RX2, "fades", "()V"⟩
def dkwX2_fades_1 : List UInt8 := [42, 27, 28, 182, 1, 94, 100, 182, 0, 113, 132, 2, 1, 167, 255, 229, 132, 1, 1, 167, 255, 215, 177]
abbrev dktX2_fades_1 : List UInt8 := dkwX2_fades_1 ++ []
def dkwX2_fades_0 : List UInt8 := [3, 60, 27, 16, 8, 162, 0, 41, 3, 61, 28, 8, 162, 0, 28, 42, 27, 28, 42, 27, 28, 182, 1, 32]
abbrev dktX2_fades_0 : List UInt8 := dkwX2_fades_0 ++ dktX2_fades_1
theorem dksX2_fades_0 : cX2_fades.data.toList.drop 0 = dktX2_fades_0 := by decide +kernel
theorem dksX2_fades_1 : cX2_fades.data.toList.drop 24 = dktX2_fades_1 := dk_seg dksX2_fades_0 24 rfl rfl
theorem dX2_fades_0 : decode cX2_fades 0 = .ok (.iconst 0, 1) := dk_3 (dk_at dksX2_fades_0 0 rfl rfl)
theorem dX2_fades_1 : decode cX2_fades 1 = .ok (.istore_n 1, 1) := dk_60 (dk_at dksX2_fades_0 1 rfl rfl)
theorem dX2_fades_2 : decode cX2_fades 2 = .ok (.iload_n 1, 1) := dk_27 (dk_at dksX2_fades_0 2 rfl rfl)
theorem dX2_fades_3 : decode cX2_fades 3 = .ok (.bipush 8, 2) := dk_16 8 (dk_at dksX2_fades_0 3 rfl rfl)
theorem dX2_fades_5 : decode cX2_fades 5 = .ok (.if_icmp .ge 41, 3) := dk_162 0 41 (dk_at dksX2_fades_0 5 rfl rfl)
theorem dX2_fades_8 : decode cX2_fades 8 = .ok (.iconst 0, 1) := dk_3 (dk_at dksX2_fades_0 8 rfl rfl)
theorem dX2_fades_9 : decode cX2_fades 9 = .ok (.istore_n 2, 1) := dk_61 (dk_at dksX2_fades_0 9 rfl rfl)
theorem dX2_fades_10 : decode cX2_fades 10 = .ok (.iload_n 2, 1) := dk_28 (dk_at dksX2_fades_0 10 rfl rfl)
theorem dX2_fades_11 : decode cX2_fades 11 = .ok (.iconst 5, 1) := dk_8 (dk_at dksX2_fades_0 11 rfl rfl)
theorem dX2_fades_12 : decode cX2_fades 12 = .ok (.if_icmp .ge 28, 3) := dk_162 0 28 (dk_at dksX2_fades_0 12 rfl rfl)
theorem dX2_fades_15 : decode cX2_fades 15 = .ok (.aload_n 0, 1) := dk_42 (dk_at dksX2_fades_0 15 rfl rfl)
theorem dX2_fades_16 : decode cX2_fades 16 = .ok (.iload_n 1, 1) := dk_27 (dk_at dksX2_fades_0 16 rfl rfl)
theorem dX2_fades_17 : decode cX2_fades 17 = .ok (.iload_n 2, 1) := dk_28 (dk_at dksX2_fades_0 17 rfl rfl)
theorem dX2_fades_18 : decode cX2_fades 18 = .ok (.aload_n 0, 1) := dk_42 (dk_at dksX2_fades_0 18 rfl rfl)
theorem dX2_fades_19 : decode cX2_fades 19 = .ok (.iload_n 1, 1) := dk_27 (dk_at dksX2_fades_0 19 rfl rfl)
theorem dX2_fades_20 : decode cX2_fades 20 = .ok (.iload_n 2, 1) := dk_28 (dk_at dksX2_fades_0 20 rfl rfl)
theorem dX2_fades_21 : decode cX2_fades 21 = .ok (.invokevirtual 288, 3) := dk_182 1 32 (dk_at dksX2_fades_0 21 rfl rfl)
theorem dX2_fades_24 : decode cX2_fades 24 = .ok (.aload_n 0, 1) := dk_42 (dk_at dksX2_fades_1 0 rfl rfl)
theorem dX2_fades_25 : decode cX2_fades 25 = .ok (.iload_n 1, 1) := dk_27 (dk_at dksX2_fades_1 1 rfl rfl)
theorem dX2_fades_26 : decode cX2_fades 26 = .ok (.iload_n 2, 1) := dk_28 (dk_at dksX2_fades_1 2 rfl rfl)
theorem dX2_fades_27 : decode cX2_fades 27 = .ok (.invokevirtual 350, 3) := dk_182 1 94 (dk_at dksX2_fades_1 3 rfl rfl)
theorem dX2_fades_30 : decode cX2_fades 30 = .ok (.isub, 1) := dk_100 (dk_at dksX2_fades_1 6 rfl rfl)
theorem dX2_fades_31 : decode cX2_fades 31 = .ok (.invokevirtual 113, 3) := dk_182 0 113 (dk_at dksX2_fades_1 7 rfl rfl)
theorem dX2_fades_34 : decode cX2_fades 34 = .ok (.iinc 2 1, 3) := dk_132 2 1 (dk_at dksX2_fades_1 10 rfl rfl)
theorem dX2_fades_37 : decode cX2_fades 37 = .ok (.goto (-27), 3) := dk_167 255 229 (dk_at dksX2_fades_1 13 rfl rfl)
theorem dX2_fades_40 : decode cX2_fades 40 = .ok (.iinc 1 1, 3) := dk_132 1 1 (dk_at dksX2_fades_1 16 rfl rfl)
theorem dX2_fades_43 : decode cX2_fades 43 = .ok (.goto (-41), 3) := dk_167 255 215 (dk_at dksX2_fades_1 19 rfl rfl)
theorem dX2_fades_46 : decode cX2_fades 46 = .ok (.return_, 1) := dk_177 (dk_at dksX2_fades_1 22 rfl rfl)
abbrev cX2_fadeOf : ByteArray := prog_21_method_74_code
def yX2_fadeOf : MethodName := ⟨RX2, "fadeOf", "(II)I"⟩
def dkwX2_fadeOf_0 : List UInt8 := [42, 28, 27, 182, 1, 44, 42, 16, 6, 4, 16, 99, 182, 1, 53, 172]
abbrev dktX2_fadeOf_0 : List UInt8 := dkwX2_fadeOf_0 ++ []
theorem dksX2_fadeOf_0 : cX2_fadeOf.data.toList.drop 0 = dktX2_fadeOf_0 := by decide +kernel
theorem dX2_fadeOf_0 : decode cX2_fadeOf 0 = .ok (.aload_n 0, 1) := dk_42 (dk_at dksX2_fadeOf_0 0 rfl rfl)
theorem dX2_fadeOf_1 : decode cX2_fadeOf 1 = .ok (.iload_n 2, 1) := dk_28 (dk_at dksX2_fadeOf_0 1 rfl rfl)
theorem dX2_fadeOf_2 : decode cX2_fadeOf 2 = .ok (.iload_n 1, 1) := dk_27 (dk_at dksX2_fadeOf_0 2 rfl rfl)
theorem dX2_fadeOf_3 : decode cX2_fadeOf 3 = .ok (.invokevirtual 300, 3) := dk_182 1 44 (dk_at dksX2_fadeOf_0 3 rfl rfl)
theorem dX2_fadeOf_6 : decode cX2_fadeOf 6 = .ok (.aload_n 0, 1) := dk_42 (dk_at dksX2_fadeOf_0 6 rfl rfl)
theorem dX2_fadeOf_7 : decode cX2_fadeOf 7 = .ok (.bipush 6, 2) := dk_16 6 (dk_at dksX2_fadeOf_0 7 rfl rfl)
theorem dX2_fadeOf_9 : decode cX2_fadeOf 9 = .ok (.iconst 1, 1) := dk_4 (dk_at dksX2_fadeOf_0 9 rfl rfl)
theorem dX2_fadeOf_10 : decode cX2_fadeOf 10 = .ok (.bipush 99, 2) := dk_16 99 (dk_at dksX2_fadeOf_0 10 rfl rfl)
theorem dX2_fadeOf_12 : decode cX2_fadeOf 12 = .ok (.invokevirtual 309, 3) := dk_182 1 53 (dk_at dksX2_fadeOf_0 12 rfl rfl)
theorem dX2_fadeOf_15 : decode cX2_fadeOf 15 = .ok (.ireturn, 1) := dk_172 (dk_at dksX2_fadeOf_0 15 rfl rfl)
abbrev cX2_keepsGraves : ByteArray := prog_21_method_91_code
def yX2_keepsGraves : MethodName := ⟨RX2, "keepsGraves", "()V"⟩
def dkwX2_keepsGraves_3 : List UInt8 := [167, 255, 186, 177]
abbrev dktX2_keepsGraves_3 : List UInt8 := dkwX2_keepsGraves_3 ++ []
def dkwX2_keepsGraves_2 : List UInt8 := [29, 182, 1, 32, 42, 180, 0, 7, 16, 57, 27, 96, 46, 4, 96, 5, 108, 96, 182, 0, 113, 132, 1, 1]
abbrev dktX2_keepsGraves_2 : List UInt8 := dkwX2_keepsGraves_2 ++ dktX2_keepsGraves_3
def dkwX2_keepsGraves_1 : List UInt8 := [180, 0, 7, 16, 69, 27, 96, 46, 61, 42, 180, 0, 7, 16, 45, 27, 96, 46, 62, 42, 28, 29, 42, 28]
abbrev dktX2_keepsGraves_1 : List UInt8 := dkwX2_keepsGraves_1 ++ dktX2_keepsGraves_2
def dkwX2_keepsGraves_0 : List UInt8 := [3, 60, 27, 42, 180, 0, 7, 7, 46, 162, 0, 66, 42, 27, 182, 1, 59, 154, 0, 6, 167, 0, 49, 42]
abbrev dktX2_keepsGraves_0 : List UInt8 := dkwX2_keepsGraves_0 ++ dktX2_keepsGraves_1
theorem dksX2_keepsGraves_0 : cX2_keepsGraves.data.toList.drop 0 = dktX2_keepsGraves_0 := by decide +kernel
theorem dksX2_keepsGraves_1 : cX2_keepsGraves.data.toList.drop 24 = dktX2_keepsGraves_1 := dk_seg dksX2_keepsGraves_0 24 rfl rfl
theorem dksX2_keepsGraves_2 : cX2_keepsGraves.data.toList.drop 48 = dktX2_keepsGraves_2 := dk_seg dksX2_keepsGraves_1 24 rfl rfl
theorem dksX2_keepsGraves_3 : cX2_keepsGraves.data.toList.drop 72 = dktX2_keepsGraves_3 := dk_seg dksX2_keepsGraves_2 24 rfl rfl
theorem dX2_keepsGraves_0 : decode cX2_keepsGraves 0 = .ok (.iconst 0, 1) := dk_3 (dk_at dksX2_keepsGraves_0 0 rfl rfl)
theorem dX2_keepsGraves_1 : decode cX2_keepsGraves 1 = .ok (.istore_n 1, 1) := dk_60 (dk_at dksX2_keepsGraves_0 1 rfl rfl)
theorem dX2_keepsGraves_2 : decode cX2_keepsGraves 2 = .ok (.iload_n 1, 1) := dk_27 (dk_at dksX2_keepsGraves_0 2 rfl rfl)
theorem dX2_keepsGraves_3 : decode cX2_keepsGraves 3 = .ok (.aload_n 0, 1) := dk_42 (dk_at dksX2_keepsGraves_0 3 rfl rfl)
theorem dX2_keepsGraves_4 : decode cX2_keepsGraves 4 = .ok (.getfield 7, 3) := dk_180 0 7 (dk_at dksX2_keepsGraves_0 4 rfl rfl)
theorem dX2_keepsGraves_7 : decode cX2_keepsGraves 7 = .ok (.iconst 4, 1) := dk_7 (dk_at dksX2_keepsGraves_0 7 rfl rfl)
theorem dX2_keepsGraves_8 : decode cX2_keepsGraves 8 = .ok (.iaload, 1) := dk_46 (dk_at dksX2_keepsGraves_0 8 rfl rfl)
theorem dX2_keepsGraves_9 : decode cX2_keepsGraves 9 = .ok (.if_icmp .ge 66, 3) := dk_162 0 66 (dk_at dksX2_keepsGraves_0 9 rfl rfl)
theorem dX2_keepsGraves_12 : decode cX2_keepsGraves 12 = .ok (.aload_n 0, 1) := dk_42 (dk_at dksX2_keepsGraves_0 12 rfl rfl)
theorem dX2_keepsGraves_13 : decode cX2_keepsGraves 13 = .ok (.iload_n 1, 1) := dk_27 (dk_at dksX2_keepsGraves_0 13 rfl rfl)
theorem dX2_keepsGraves_14 : decode cX2_keepsGraves 14 = .ok (.invokevirtual 315, 3) := dk_182 1 59 (dk_at dksX2_keepsGraves_0 14 rfl rfl)
theorem dX2_keepsGraves_17 : decode cX2_keepsGraves 17 = .ok (.ifCond .ne 6, 3) := dk_154 0 6 (dk_at dksX2_keepsGraves_0 17 rfl rfl)
theorem dX2_keepsGraves_20 : decode cX2_keepsGraves 20 = .ok (.goto 49, 3) := dk_167 0 49 (dk_at dksX2_keepsGraves_0 20 rfl rfl)
theorem dX2_keepsGraves_23 : decode cX2_keepsGraves 23 = .ok (.aload_n 0, 1) := dk_42 (dk_at dksX2_keepsGraves_0 23 rfl rfl)
theorem dX2_keepsGraves_24 : decode cX2_keepsGraves 24 = .ok (.getfield 7, 3) := dk_180 0 7 (dk_at dksX2_keepsGraves_1 0 rfl rfl)
theorem dX2_keepsGraves_27 : decode cX2_keepsGraves 27 = .ok (.bipush 69, 2) := dk_16 69 (dk_at dksX2_keepsGraves_1 3 rfl rfl)
theorem dX2_keepsGraves_29 : decode cX2_keepsGraves 29 = .ok (.iload_n 1, 1) := dk_27 (dk_at dksX2_keepsGraves_1 5 rfl rfl)
theorem dX2_keepsGraves_30 : decode cX2_keepsGraves 30 = .ok (.iadd, 1) := dk_96 (dk_at dksX2_keepsGraves_1 6 rfl rfl)
theorem dX2_keepsGraves_31 : decode cX2_keepsGraves 31 = .ok (.iaload, 1) := dk_46 (dk_at dksX2_keepsGraves_1 7 rfl rfl)
theorem dX2_keepsGraves_32 : decode cX2_keepsGraves 32 = .ok (.istore_n 2, 1) := dk_61 (dk_at dksX2_keepsGraves_1 8 rfl rfl)
theorem dX2_keepsGraves_33 : decode cX2_keepsGraves 33 = .ok (.aload_n 0, 1) := dk_42 (dk_at dksX2_keepsGraves_1 9 rfl rfl)
theorem dX2_keepsGraves_34 : decode cX2_keepsGraves 34 = .ok (.getfield 7, 3) := dk_180 0 7 (dk_at dksX2_keepsGraves_1 10 rfl rfl)
theorem dX2_keepsGraves_37 : decode cX2_keepsGraves 37 = .ok (.bipush 45, 2) := dk_16 45 (dk_at dksX2_keepsGraves_1 13 rfl rfl)
theorem dX2_keepsGraves_39 : decode cX2_keepsGraves 39 = .ok (.iload_n 1, 1) := dk_27 (dk_at dksX2_keepsGraves_1 15 rfl rfl)
theorem dX2_keepsGraves_40 : decode cX2_keepsGraves 40 = .ok (.iadd, 1) := dk_96 (dk_at dksX2_keepsGraves_1 16 rfl rfl)
theorem dX2_keepsGraves_41 : decode cX2_keepsGraves 41 = .ok (.iaload, 1) := dk_46 (dk_at dksX2_keepsGraves_1 17 rfl rfl)
theorem dX2_keepsGraves_42 : decode cX2_keepsGraves 42 = .ok (.istore_n 3, 1) := dk_62 (dk_at dksX2_keepsGraves_1 18 rfl rfl)
theorem dX2_keepsGraves_43 : decode cX2_keepsGraves 43 = .ok (.aload_n 0, 1) := dk_42 (dk_at dksX2_keepsGraves_1 19 rfl rfl)
theorem dX2_keepsGraves_44 : decode cX2_keepsGraves 44 = .ok (.iload_n 2, 1) := dk_28 (dk_at dksX2_keepsGraves_1 20 rfl rfl)
theorem dX2_keepsGraves_45 : decode cX2_keepsGraves 45 = .ok (.iload_n 3, 1) := dk_29 (dk_at dksX2_keepsGraves_1 21 rfl rfl)
theorem dX2_keepsGraves_46 : decode cX2_keepsGraves 46 = .ok (.aload_n 0, 1) := dk_42 (dk_at dksX2_keepsGraves_1 22 rfl rfl)
theorem dX2_keepsGraves_47 : decode cX2_keepsGraves 47 = .ok (.iload_n 2, 1) := dk_28 (dk_at dksX2_keepsGraves_1 23 rfl rfl)
theorem dX2_keepsGraves_48 : decode cX2_keepsGraves 48 = .ok (.iload_n 3, 1) := dk_29 (dk_at dksX2_keepsGraves_2 0 rfl rfl)
theorem dX2_keepsGraves_49 : decode cX2_keepsGraves 49 = .ok (.invokevirtual 288, 3) := dk_182 1 32 (dk_at dksX2_keepsGraves_2 1 rfl rfl)
theorem dX2_keepsGraves_52 : decode cX2_keepsGraves 52 = .ok (.aload_n 0, 1) := dk_42 (dk_at dksX2_keepsGraves_2 4 rfl rfl)
theorem dX2_keepsGraves_53 : decode cX2_keepsGraves 53 = .ok (.getfield 7, 3) := dk_180 0 7 (dk_at dksX2_keepsGraves_2 5 rfl rfl)
theorem dX2_keepsGraves_56 : decode cX2_keepsGraves 56 = .ok (.bipush 57, 2) := dk_16 57 (dk_at dksX2_keepsGraves_2 8 rfl rfl)
theorem dX2_keepsGraves_58 : decode cX2_keepsGraves 58 = .ok (.iload_n 1, 1) := dk_27 (dk_at dksX2_keepsGraves_2 10 rfl rfl)
theorem dX2_keepsGraves_59 : decode cX2_keepsGraves 59 = .ok (.iadd, 1) := dk_96 (dk_at dksX2_keepsGraves_2 11 rfl rfl)
theorem dX2_keepsGraves_60 : decode cX2_keepsGraves 60 = .ok (.iaload, 1) := dk_46 (dk_at dksX2_keepsGraves_2 12 rfl rfl)
theorem dX2_keepsGraves_61 : decode cX2_keepsGraves 61 = .ok (.iconst 1, 1) := dk_4 (dk_at dksX2_keepsGraves_2 13 rfl rfl)
theorem dX2_keepsGraves_62 : decode cX2_keepsGraves 62 = .ok (.iadd, 1) := dk_96 (dk_at dksX2_keepsGraves_2 14 rfl rfl)
theorem dX2_keepsGraves_63 : decode cX2_keepsGraves 63 = .ok (.iconst 2, 1) := dk_5 (dk_at dksX2_keepsGraves_2 15 rfl rfl)
theorem dX2_keepsGraves_64 : decode cX2_keepsGraves 64 = .ok (.idiv, 1) := dk_108 (dk_at dksX2_keepsGraves_2 16 rfl rfl)
theorem dX2_keepsGraves_65 : decode cX2_keepsGraves 65 = .ok (.iadd, 1) := dk_96 (dk_at dksX2_keepsGraves_2 17 rfl rfl)
theorem dX2_keepsGraves_66 : decode cX2_keepsGraves 66 = .ok (.invokevirtual 113, 3) := dk_182 0 113 (dk_at dksX2_keepsGraves_2 18 rfl rfl)
theorem dX2_keepsGraves_69 : decode cX2_keepsGraves 69 = .ok (.iinc 1 1, 3) := dk_132 1 1 (dk_at dksX2_keepsGraves_2 21 rfl rfl)
theorem dX2_keepsGraves_72 : decode cX2_keepsGraves 72 = .ok (.goto (-70), 3) := dk_167 255 186 (dk_at dksX2_keepsGraves_3 0 rfl rfl)
theorem dX2_keepsGraves_75 : decode cX2_keepsGraves 75 = .ok (.return_, 1) := dk_177 (dk_at dksX2_keepsGraves_3 3 rfl rfl)
abbrev cX2_cries : ByteArray := prog_21_method_92_code
def yX2_cries : MethodName := ⟨RX2, "cries", "()I"⟩
def dkwX2_cries_3 : List UInt8 := [28, 7, 182, 1, 76, 87, 4, 172]
abbrev dktX2_cries_3 : List UInt8 := dkwX2_cries_3 ++ []
def dkwX2_cries_2 : List UInt8 := [182, 1, 97, 60, 42, 16, 8, 182, 1, 97, 61, 42, 27, 28, 182, 1, 69, 154, 0, 5, 3, 172, 42, 27]
abbrev dktX2_cries_2 : List UInt8 := dkwX2_cries_2 ++ dktX2_cries_3
def dkwX2_cries_1 : List UInt8 := [17, 3, 232, 182, 1, 97, 42, 180, 0, 117, 161, 0, 5, 3, 172, 42, 42, 180, 0, 7, 7, 46]
abbrev dktX2_cries_1 : List UInt8 := dkwX2_cries_1 ++ dktX2_cries_2
def dkwX2_cries_0 : List UInt8 := [42, 180, 0, 92, 154, 0, 33, 42, 180, 0, 117, 153, 0, 26, 42, 180, 0, 7, 7, 46, 153, 0, 17, 42]
abbrev dktX2_cries_0 : List UInt8 := dkwX2_cries_0 ++ dktX2_cries_1
theorem dksX2_cries_0 : cX2_cries.data.toList.drop 0 = dktX2_cries_0 := by decide +kernel
theorem dksX2_cries_1 : cX2_cries.data.toList.drop 24 = dktX2_cries_1 := dk_seg dksX2_cries_0 24 rfl rfl
theorem dksX2_cries_2 : cX2_cries.data.toList.drop 46 = dktX2_cries_2 := dk_seg dksX2_cries_1 22 rfl rfl
theorem dksX2_cries_3 : cX2_cries.data.toList.drop 70 = dktX2_cries_3 := dk_seg dksX2_cries_2 24 rfl rfl
theorem dX2_cries_0 : decode cX2_cries 0 = .ok (.aload_n 0, 1) := dk_42 (dk_at dksX2_cries_0 0 rfl rfl)
theorem dX2_cries_1 : decode cX2_cries 1 = .ok (.getfield 92, 3) := dk_180 0 92 (dk_at dksX2_cries_0 1 rfl rfl)
theorem dX2_cries_4 : decode cX2_cries 4 = .ok (.ifCond .ne 33, 3) := dk_154 0 33 (dk_at dksX2_cries_0 4 rfl rfl)
theorem dX2_cries_7 : decode cX2_cries 7 = .ok (.aload_n 0, 1) := dk_42 (dk_at dksX2_cries_0 7 rfl rfl)
theorem dX2_cries_8 : decode cX2_cries 8 = .ok (.getfield 117, 3) := dk_180 0 117 (dk_at dksX2_cries_0 8 rfl rfl)
theorem dX2_cries_11 : decode cX2_cries 11 = .ok (.ifCond .eq 26, 3) := dk_153 0 26 (dk_at dksX2_cries_0 11 rfl rfl)
theorem dX2_cries_14 : decode cX2_cries 14 = .ok (.aload_n 0, 1) := dk_42 (dk_at dksX2_cries_0 14 rfl rfl)
theorem dX2_cries_15 : decode cX2_cries 15 = .ok (.getfield 7, 3) := dk_180 0 7 (dk_at dksX2_cries_0 15 rfl rfl)
theorem dX2_cries_18 : decode cX2_cries 18 = .ok (.iconst 4, 1) := dk_7 (dk_at dksX2_cries_0 18 rfl rfl)
theorem dX2_cries_19 : decode cX2_cries 19 = .ok (.iaload, 1) := dk_46 (dk_at dksX2_cries_0 19 rfl rfl)
theorem dX2_cries_20 : decode cX2_cries 20 = .ok (.ifCond .eq 17, 3) := dk_153 0 17 (dk_at dksX2_cries_0 20 rfl rfl)
theorem dX2_cries_23 : decode cX2_cries 23 = .ok (.aload_n 0, 1) := dk_42 (dk_at dksX2_cries_0 23 rfl rfl)
theorem dX2_cries_24 : decode cX2_cries 24 = .ok (.sipush 1000, 3) := dk_17 3 232 (dk_at dksX2_cries_1 0 rfl rfl)
theorem dX2_cries_27 : decode cX2_cries 27 = .ok (.invokevirtual 353, 3) := dk_182 1 97 (dk_at dksX2_cries_1 3 rfl rfl)
theorem dX2_cries_30 : decode cX2_cries 30 = .ok (.aload_n 0, 1) := dk_42 (dk_at dksX2_cries_1 6 rfl rfl)
theorem dX2_cries_31 : decode cX2_cries 31 = .ok (.getfield 117, 3) := dk_180 0 117 (dk_at dksX2_cries_1 7 rfl rfl)
theorem dX2_cries_34 : decode cX2_cries 34 = .ok (.if_icmp .lt 5, 3) := dk_161 0 5 (dk_at dksX2_cries_1 10 rfl rfl)
theorem dX2_cries_37 : decode cX2_cries 37 = .ok (.iconst 0, 1) := dk_3 (dk_at dksX2_cries_1 13 rfl rfl)
theorem dX2_cries_38 : decode cX2_cries 38 = .ok (.ireturn, 1) := dk_172 (dk_at dksX2_cries_1 14 rfl rfl)
theorem dX2_cries_39 : decode cX2_cries 39 = .ok (.aload_n 0, 1) := dk_42 (dk_at dksX2_cries_1 15 rfl rfl)
theorem dX2_cries_40 : decode cX2_cries 40 = .ok (.aload_n 0, 1) := dk_42 (dk_at dksX2_cries_1 16 rfl rfl)
theorem dX2_cries_41 : decode cX2_cries 41 = .ok (.getfield 7, 3) := dk_180 0 7 (dk_at dksX2_cries_1 17 rfl rfl)
theorem dX2_cries_44 : decode cX2_cries 44 = .ok (.iconst 4, 1) := dk_7 (dk_at dksX2_cries_1 20 rfl rfl)
theorem dX2_cries_45 : decode cX2_cries 45 = .ok (.iaload, 1) := dk_46 (dk_at dksX2_cries_1 21 rfl rfl)
theorem dX2_cries_46 : decode cX2_cries 46 = .ok (.invokevirtual 353, 3) := dk_182 1 97 (dk_at dksX2_cries_2 0 rfl rfl)
theorem dX2_cries_49 : decode cX2_cries 49 = .ok (.istore_n 1, 1) := dk_60 (dk_at dksX2_cries_2 3 rfl rfl)
theorem dX2_cries_50 : decode cX2_cries 50 = .ok (.aload_n 0, 1) := dk_42 (dk_at dksX2_cries_2 4 rfl rfl)
theorem dX2_cries_51 : decode cX2_cries 51 = .ok (.bipush 8, 2) := dk_16 8 (dk_at dksX2_cries_2 5 rfl rfl)
theorem dX2_cries_53 : decode cX2_cries 53 = .ok (.invokevirtual 353, 3) := dk_182 1 97 (dk_at dksX2_cries_2 7 rfl rfl)
theorem dX2_cries_56 : decode cX2_cries 56 = .ok (.istore_n 2, 1) := dk_61 (dk_at dksX2_cries_2 10 rfl rfl)
theorem dX2_cries_57 : decode cX2_cries 57 = .ok (.aload_n 0, 1) := dk_42 (dk_at dksX2_cries_2 11 rfl rfl)
theorem dX2_cries_58 : decode cX2_cries 58 = .ok (.iload_n 1, 1) := dk_27 (dk_at dksX2_cries_2 12 rfl rfl)
theorem dX2_cries_59 : decode cX2_cries 59 = .ok (.iload_n 2, 1) := dk_28 (dk_at dksX2_cries_2 13 rfl rfl)
theorem dX2_cries_60 : decode cX2_cries 60 = .ok (.invokevirtual 325, 3) := dk_182 1 69 (dk_at dksX2_cries_2 14 rfl rfl)
theorem dX2_cries_63 : decode cX2_cries 63 = .ok (.ifCond .ne 5, 3) := dk_154 0 5 (dk_at dksX2_cries_2 17 rfl rfl)
theorem dX2_cries_66 : decode cX2_cries 66 = .ok (.iconst 0, 1) := dk_3 (dk_at dksX2_cries_2 20 rfl rfl)
theorem dX2_cries_67 : decode cX2_cries 67 = .ok (.ireturn, 1) := dk_172 (dk_at dksX2_cries_2 21 rfl rfl)
theorem dX2_cries_68 : decode cX2_cries 68 = .ok (.aload_n 0, 1) := dk_42 (dk_at dksX2_cries_2 22 rfl rfl)
theorem dX2_cries_69 : decode cX2_cries 69 = .ok (.iload_n 1, 1) := dk_27 (dk_at dksX2_cries_2 23 rfl rfl)
theorem dX2_cries_70 : decode cX2_cries 70 = .ok (.iload_n 2, 1) := dk_28 (dk_at dksX2_cries_3 0 rfl rfl)
theorem dX2_cries_71 : decode cX2_cries 71 = .ok (.iconst 4, 1) := dk_7 (dk_at dksX2_cries_3 1 rfl rfl)
theorem dX2_cries_72 : decode cX2_cries 72 = .ok (.invokevirtual 332, 3) := dk_182 1 76 (dk_at dksX2_cries_3 2 rfl rfl)
theorem dX2_cries_75 : decode cX2_cries 75 = .ok (.pop, 1) := dk_87 (dk_at dksX2_cries_3 5 rfl rfl)
theorem dX2_cries_76 : decode cX2_cries 76 = .ok (.iconst 1, 1) := dk_4 (dk_at dksX2_cries_3 6 rfl rfl)
theorem dX2_cries_77 : decode cX2_cries 77 = .ok (.ireturn, 1) := dk_172 (dk_at dksX2_cries_3 7 rfl rfl)
abbrev cX2_draw : ByteArray := prog_21_method_12_code
def yX2_draw : MethodName := ⟨RX2, "draw", "(I)I"⟩
def dkwX2_draw_1 : List UInt8 := [16, 8, 124, 27, 112, 172]
abbrev dktX2_draw_1 : List UInt8 := dkwX2_draw_1 ++ []
def dkwX2_draw_0 : List UInt8 := [42, 180, 0, 7, 4, 18, 96, 42, 180, 0, 7, 4, 46, 104, 18, 97, 96, 79, 42, 180, 0, 7, 4, 46]
abbrev dktX2_draw_0 : List UInt8 := dkwX2_draw_0 ++ dktX2_draw_1
theorem dksX2_draw_0 : cX2_draw.data.toList.drop 0 = dktX2_draw_0 := by decide +kernel
theorem dksX2_draw_1 : cX2_draw.data.toList.drop 24 = dktX2_draw_1 := dk_seg dksX2_draw_0 24 rfl rfl
theorem dX2_draw_0 : decode cX2_draw 0 = .ok (.aload_n 0, 1) := dk_42 (dk_at dksX2_draw_0 0 rfl rfl)
theorem dX2_draw_1 : decode cX2_draw 1 = .ok (.getfield 7, 3) := dk_180 0 7 (dk_at dksX2_draw_0 1 rfl rfl)
theorem dX2_draw_4 : decode cX2_draw 4 = .ok (.iconst 1, 1) := dk_4 (dk_at dksX2_draw_0 4 rfl rfl)
theorem dX2_draw_5 : decode cX2_draw 5 = .ok (.ldc 96, 2) := dk_18 96 (dk_at dksX2_draw_0 5 rfl rfl)
theorem dX2_draw_7 : decode cX2_draw 7 = .ok (.aload_n 0, 1) := dk_42 (dk_at dksX2_draw_0 7 rfl rfl)
theorem dX2_draw_8 : decode cX2_draw 8 = .ok (.getfield 7, 3) := dk_180 0 7 (dk_at dksX2_draw_0 8 rfl rfl)
theorem dX2_draw_11 : decode cX2_draw 11 = .ok (.iconst 1, 1) := dk_4 (dk_at dksX2_draw_0 11 rfl rfl)
theorem dX2_draw_12 : decode cX2_draw 12 = .ok (.iaload, 1) := dk_46 (dk_at dksX2_draw_0 12 rfl rfl)
theorem dX2_draw_13 : decode cX2_draw 13 = .ok (.imul, 1) := dk_104 (dk_at dksX2_draw_0 13 rfl rfl)
theorem dX2_draw_14 : decode cX2_draw 14 = .ok (.ldc 97, 2) := dk_18 97 (dk_at dksX2_draw_0 14 rfl rfl)
theorem dX2_draw_16 : decode cX2_draw 16 = .ok (.iadd, 1) := dk_96 (dk_at dksX2_draw_0 16 rfl rfl)
theorem dX2_draw_17 : decode cX2_draw 17 = .ok (.iastore, 1) := dk_79 (dk_at dksX2_draw_0 17 rfl rfl)
theorem dX2_draw_18 : decode cX2_draw 18 = .ok (.aload_n 0, 1) := dk_42 (dk_at dksX2_draw_0 18 rfl rfl)
theorem dX2_draw_19 : decode cX2_draw 19 = .ok (.getfield 7, 3) := dk_180 0 7 (dk_at dksX2_draw_0 19 rfl rfl)
theorem dX2_draw_22 : decode cX2_draw 22 = .ok (.iconst 1, 1) := dk_4 (dk_at dksX2_draw_0 22 rfl rfl)
theorem dX2_draw_23 : decode cX2_draw 23 = .ok (.iaload, 1) := dk_46 (dk_at dksX2_draw_0 23 rfl rfl)
theorem dX2_draw_24 : decode cX2_draw 24 = .ok (.bipush 8, 2) := dk_16 8 (dk_at dksX2_draw_1 0 rfl rfl)
theorem dX2_draw_26 : decode cX2_draw 26 = .ok (.iushr, 1) := dk_124 (dk_at dksX2_draw_1 2 rfl rfl)
theorem dX2_draw_27 : decode cX2_draw 27 = .ok (.iload_n 1, 1) := dk_27 (dk_at dksX2_draw_1 3 rfl rfl)
theorem dX2_draw_28 : decode cX2_draw 28 = .ok (.irem, 1) := dk_112 (dk_at dksX2_draw_1 4 rfl rfl)
theorem dX2_draw_29 : decode cX2_draw 29 = .ok (.ireturn, 1) := dk_172 (dk_at dksX2_draw_1 5 rfl rfl)
abbrev cX2_of : ByteArray := prog_21_method_96_code
def yX2_of : MethodName := ⟨RX2, "of", "(II)I"⟩
def dkwX2_of_5 : List UInt8 := [16, 10, 100, 182, 1, 69, 153, 0, 15, 42, 27, 28, 16, 10, 100, 182, 1, 62, 167, 0, 4, 2, 172]
abbrev dktX2_of_5 : List UInt8 := dkwX2_of_5 ++ []
def dkwX2_of_4 : List UInt8 := [42, 27, 182, 1, 124, 172, 42, 28, 16, 10, 16, 17, 182, 0, 102, 154, 0, 6, 16, 254, 172, 42, 27, 28]
abbrev dktX2_of_4 : List UInt8 := dkwX2_of_4 ++ dktX2_of_5
def dkwX2_of_3 : List UInt8 := [27, 96, 46, 172, 28, 7, 160, 0, 13, 42, 180, 0, 7, 16, 93, 27, 96, 46, 172, 28, 8, 160, 0, 9]
abbrev dktX2_of_3 : List UInt8 := dkwX2_of_3 ++ dktX2_of_4
def dkwX2_of_2 : List UInt8 := [160, 0, 13, 42, 180, 0, 7, 16, 69, 27, 96, 46, 172, 28, 6, 160, 0, 13, 42, 180, 0, 7, 16, 81]
abbrev dktX2_of_2 : List UInt8 := dkwX2_of_2 ++ dktX2_of_3
def dkwX2_of_1 : List UInt8 := [16, 45, 27, 96, 46, 172, 28, 4, 160, 0, 13, 42, 180, 0, 7, 16, 57, 27, 96, 46, 172, 28, 5]
abbrev dktX2_of_1 : List UInt8 := dkwX2_of_1 ++ dktX2_of_2
def dkwX2_of_0 : List UInt8 := [42, 3, 181, 0, 86, 42, 27, 182, 1, 56, 154, 0, 6, 16, 254, 172, 28, 154, 0, 13, 42, 180, 0, 7]
abbrev dktX2_of_0 : List UInt8 := dkwX2_of_0 ++ dktX2_of_1
theorem dksX2_of_0 : cX2_of.data.toList.drop 0 = dktX2_of_0 := by decide +kernel
theorem dksX2_of_1 : cX2_of.data.toList.drop 24 = dktX2_of_1 := dk_seg dksX2_of_0 24 rfl rfl
theorem dksX2_of_2 : cX2_of.data.toList.drop 47 = dktX2_of_2 := dk_seg dksX2_of_1 23 rfl rfl
theorem dksX2_of_3 : cX2_of.data.toList.drop 71 = dktX2_of_3 := dk_seg dksX2_of_2 24 rfl rfl
theorem dksX2_of_4 : cX2_of.data.toList.drop 95 = dktX2_of_4 := dk_seg dksX2_of_3 24 rfl rfl
theorem dksX2_of_5 : cX2_of.data.toList.drop 119 = dktX2_of_5 := dk_seg dksX2_of_4 24 rfl rfl
theorem dX2_of_0 : decode cX2_of 0 = .ok (.aload_n 0, 1) := dk_42 (dk_at dksX2_of_0 0 rfl rfl)
theorem dX2_of_1 : decode cX2_of 1 = .ok (.iconst 0, 1) := dk_3 (dk_at dksX2_of_0 1 rfl rfl)
theorem dX2_of_2 : decode cX2_of 2 = .ok (.putfield 86, 3) := dk_181 0 86 (dk_at dksX2_of_0 2 rfl rfl)
theorem dX2_of_5 : decode cX2_of 5 = .ok (.aload_n 0, 1) := dk_42 (dk_at dksX2_of_0 5 rfl rfl)
theorem dX2_of_6 : decode cX2_of 6 = .ok (.iload_n 1, 1) := dk_27 (dk_at dksX2_of_0 6 rfl rfl)
theorem dX2_of_7 : decode cX2_of 7 = .ok (.invokevirtual 312, 3) := dk_182 1 56 (dk_at dksX2_of_0 7 rfl rfl)
theorem dX2_of_10 : decode cX2_of 10 = .ok (.ifCond .ne 6, 3) := dk_154 0 6 (dk_at dksX2_of_0 10 rfl rfl)
theorem dX2_of_13 : decode cX2_of 13 = .ok (.bipush (-2), 2) := dk_16 254 (dk_at dksX2_of_0 13 rfl rfl)
theorem dX2_of_15 : decode cX2_of 15 = .ok (.ireturn, 1) := dk_172 (dk_at dksX2_of_0 15 rfl rfl)
theorem dX2_of_16 : decode cX2_of 16 = .ok (.iload_n 2, 1) := dk_28 (dk_at dksX2_of_0 16 rfl rfl)
theorem dX2_of_17 : decode cX2_of 17 = .ok (.ifCond .ne 13, 3) := dk_154 0 13 (dk_at dksX2_of_0 17 rfl rfl)
theorem dX2_of_20 : decode cX2_of 20 = .ok (.aload_n 0, 1) := dk_42 (dk_at dksX2_of_0 20 rfl rfl)
theorem dX2_of_21 : decode cX2_of 21 = .ok (.getfield 7, 3) := dk_180 0 7 (dk_at dksX2_of_0 21 rfl rfl)
theorem dX2_of_24 : decode cX2_of 24 = .ok (.bipush 45, 2) := dk_16 45 (dk_at dksX2_of_1 0 rfl rfl)
theorem dX2_of_26 : decode cX2_of 26 = .ok (.iload_n 1, 1) := dk_27 (dk_at dksX2_of_1 2 rfl rfl)
theorem dX2_of_27 : decode cX2_of 27 = .ok (.iadd, 1) := dk_96 (dk_at dksX2_of_1 3 rfl rfl)
theorem dX2_of_28 : decode cX2_of 28 = .ok (.iaload, 1) := dk_46 (dk_at dksX2_of_1 4 rfl rfl)
theorem dX2_of_29 : decode cX2_of 29 = .ok (.ireturn, 1) := dk_172 (dk_at dksX2_of_1 5 rfl rfl)
theorem dX2_of_30 : decode cX2_of 30 = .ok (.iload_n 2, 1) := dk_28 (dk_at dksX2_of_1 6 rfl rfl)
theorem dX2_of_31 : decode cX2_of 31 = .ok (.iconst 1, 1) := dk_4 (dk_at dksX2_of_1 7 rfl rfl)
theorem dX2_of_32 : decode cX2_of 32 = .ok (.if_icmp .ne 13, 3) := dk_160 0 13 (dk_at dksX2_of_1 8 rfl rfl)
theorem dX2_of_35 : decode cX2_of 35 = .ok (.aload_n 0, 1) := dk_42 (dk_at dksX2_of_1 11 rfl rfl)
theorem dX2_of_36 : decode cX2_of 36 = .ok (.getfield 7, 3) := dk_180 0 7 (dk_at dksX2_of_1 12 rfl rfl)
theorem dX2_of_39 : decode cX2_of 39 = .ok (.bipush 57, 2) := dk_16 57 (dk_at dksX2_of_1 15 rfl rfl)
theorem dX2_of_41 : decode cX2_of 41 = .ok (.iload_n 1, 1) := dk_27 (dk_at dksX2_of_1 17 rfl rfl)
theorem dX2_of_42 : decode cX2_of 42 = .ok (.iadd, 1) := dk_96 (dk_at dksX2_of_1 18 rfl rfl)
theorem dX2_of_43 : decode cX2_of 43 = .ok (.iaload, 1) := dk_46 (dk_at dksX2_of_1 19 rfl rfl)
theorem dX2_of_44 : decode cX2_of 44 = .ok (.ireturn, 1) := dk_172 (dk_at dksX2_of_1 20 rfl rfl)
theorem dX2_of_45 : decode cX2_of 45 = .ok (.iload_n 2, 1) := dk_28 (dk_at dksX2_of_1 21 rfl rfl)
theorem dX2_of_46 : decode cX2_of 46 = .ok (.iconst 2, 1) := dk_5 (dk_at dksX2_of_1 22 rfl rfl)
theorem dX2_of_47 : decode cX2_of 47 = .ok (.if_icmp .ne 13, 3) := dk_160 0 13 (dk_at dksX2_of_2 0 rfl rfl)
theorem dX2_of_50 : decode cX2_of 50 = .ok (.aload_n 0, 1) := dk_42 (dk_at dksX2_of_2 3 rfl rfl)
theorem dX2_of_51 : decode cX2_of 51 = .ok (.getfield 7, 3) := dk_180 0 7 (dk_at dksX2_of_2 4 rfl rfl)
theorem dX2_of_54 : decode cX2_of 54 = .ok (.bipush 69, 2) := dk_16 69 (dk_at dksX2_of_2 7 rfl rfl)
theorem dX2_of_56 : decode cX2_of 56 = .ok (.iload_n 1, 1) := dk_27 (dk_at dksX2_of_2 9 rfl rfl)
theorem dX2_of_57 : decode cX2_of 57 = .ok (.iadd, 1) := dk_96 (dk_at dksX2_of_2 10 rfl rfl)
theorem dX2_of_58 : decode cX2_of 58 = .ok (.iaload, 1) := dk_46 (dk_at dksX2_of_2 11 rfl rfl)
theorem dX2_of_59 : decode cX2_of 59 = .ok (.ireturn, 1) := dk_172 (dk_at dksX2_of_2 12 rfl rfl)
theorem dX2_of_60 : decode cX2_of 60 = .ok (.iload_n 2, 1) := dk_28 (dk_at dksX2_of_2 13 rfl rfl)
theorem dX2_of_61 : decode cX2_of 61 = .ok (.iconst 3, 1) := dk_6 (dk_at dksX2_of_2 14 rfl rfl)
theorem dX2_of_62 : decode cX2_of 62 = .ok (.if_icmp .ne 13, 3) := dk_160 0 13 (dk_at dksX2_of_2 15 rfl rfl)
theorem dX2_of_65 : decode cX2_of 65 = .ok (.aload_n 0, 1) := dk_42 (dk_at dksX2_of_2 18 rfl rfl)
theorem dX2_of_66 : decode cX2_of 66 = .ok (.getfield 7, 3) := dk_180 0 7 (dk_at dksX2_of_2 19 rfl rfl)
theorem dX2_of_69 : decode cX2_of 69 = .ok (.bipush 81, 2) := dk_16 81 (dk_at dksX2_of_2 22 rfl rfl)
theorem dX2_of_71 : decode cX2_of 71 = .ok (.iload_n 1, 1) := dk_27 (dk_at dksX2_of_3 0 rfl rfl)
theorem dX2_of_72 : decode cX2_of 72 = .ok (.iadd, 1) := dk_96 (dk_at dksX2_of_3 1 rfl rfl)
theorem dX2_of_73 : decode cX2_of 73 = .ok (.iaload, 1) := dk_46 (dk_at dksX2_of_3 2 rfl rfl)
theorem dX2_of_74 : decode cX2_of 74 = .ok (.ireturn, 1) := dk_172 (dk_at dksX2_of_3 3 rfl rfl)
theorem dX2_of_75 : decode cX2_of 75 = .ok (.iload_n 2, 1) := dk_28 (dk_at dksX2_of_3 4 rfl rfl)
theorem dX2_of_76 : decode cX2_of 76 = .ok (.iconst 4, 1) := dk_7 (dk_at dksX2_of_3 5 rfl rfl)
theorem dX2_of_77 : decode cX2_of 77 = .ok (.if_icmp .ne 13, 3) := dk_160 0 13 (dk_at dksX2_of_3 6 rfl rfl)
theorem dX2_of_80 : decode cX2_of 80 = .ok (.aload_n 0, 1) := dk_42 (dk_at dksX2_of_3 9 rfl rfl)
theorem dX2_of_81 : decode cX2_of 81 = .ok (.getfield 7, 3) := dk_180 0 7 (dk_at dksX2_of_3 10 rfl rfl)
theorem dX2_of_84 : decode cX2_of 84 = .ok (.bipush 93, 2) := dk_16 93 (dk_at dksX2_of_3 13 rfl rfl)
theorem dX2_of_86 : decode cX2_of 86 = .ok (.iload_n 1, 1) := dk_27 (dk_at dksX2_of_3 15 rfl rfl)
theorem dX2_of_87 : decode cX2_of 87 = .ok (.iadd, 1) := dk_96 (dk_at dksX2_of_3 16 rfl rfl)
theorem dX2_of_88 : decode cX2_of 88 = .ok (.iaload, 1) := dk_46 (dk_at dksX2_of_3 17 rfl rfl)
theorem dX2_of_89 : decode cX2_of 89 = .ok (.ireturn, 1) := dk_172 (dk_at dksX2_of_3 18 rfl rfl)
theorem dX2_of_90 : decode cX2_of 90 = .ok (.iload_n 2, 1) := dk_28 (dk_at dksX2_of_3 19 rfl rfl)
theorem dX2_of_91 : decode cX2_of 91 = .ok (.iconst 5, 1) := dk_8 (dk_at dksX2_of_3 20 rfl rfl)
theorem dX2_of_92 : decode cX2_of 92 = .ok (.if_icmp .ne 9, 3) := dk_160 0 9 (dk_at dksX2_of_3 21 rfl rfl)
theorem dX2_of_95 : decode cX2_of 95 = .ok (.aload_n 0, 1) := dk_42 (dk_at dksX2_of_4 0 rfl rfl)
theorem dX2_of_96 : decode cX2_of 96 = .ok (.iload_n 1, 1) := dk_27 (dk_at dksX2_of_4 1 rfl rfl)
theorem dX2_of_97 : decode cX2_of 97 = .ok (.invokevirtual 380, 3) := dk_182 1 124 (dk_at dksX2_of_4 2 rfl rfl)
theorem dX2_of_100 : decode cX2_of 100 = .ok (.ireturn, 1) := dk_172 (dk_at dksX2_of_4 5 rfl rfl)
theorem dX2_of_101 : decode cX2_of 101 = .ok (.aload_n 0, 1) := dk_42 (dk_at dksX2_of_4 6 rfl rfl)
theorem dX2_of_102 : decode cX2_of 102 = .ok (.iload_n 2, 1) := dk_28 (dk_at dksX2_of_4 7 rfl rfl)
theorem dX2_of_103 : decode cX2_of 103 = .ok (.bipush 10, 2) := dk_16 10 (dk_at dksX2_of_4 8 rfl rfl)
theorem dX2_of_105 : decode cX2_of 105 = .ok (.bipush 17, 2) := dk_16 17 (dk_at dksX2_of_4 10 rfl rfl)
theorem dX2_of_107 : decode cX2_of 107 = .ok (.invokevirtual 102, 3) := dk_182 0 102 (dk_at dksX2_of_4 12 rfl rfl)
theorem dX2_of_110 : decode cX2_of 110 = .ok (.ifCond .ne 6, 3) := dk_154 0 6 (dk_at dksX2_of_4 15 rfl rfl)
theorem dX2_of_113 : decode cX2_of 113 = .ok (.bipush (-2), 2) := dk_16 254 (dk_at dksX2_of_4 18 rfl rfl)
theorem dX2_of_115 : decode cX2_of 115 = .ok (.ireturn, 1) := dk_172 (dk_at dksX2_of_4 20 rfl rfl)
theorem dX2_of_116 : decode cX2_of 116 = .ok (.aload_n 0, 1) := dk_42 (dk_at dksX2_of_4 21 rfl rfl)
theorem dX2_of_117 : decode cX2_of 117 = .ok (.iload_n 1, 1) := dk_27 (dk_at dksX2_of_4 22 rfl rfl)
theorem dX2_of_118 : decode cX2_of 118 = .ok (.iload_n 2, 1) := dk_28 (dk_at dksX2_of_4 23 rfl rfl)
theorem dX2_of_119 : decode cX2_of 119 = .ok (.bipush 10, 2) := dk_16 10 (dk_at dksX2_of_5 0 rfl rfl)
theorem dX2_of_121 : decode cX2_of 121 = .ok (.isub, 1) := dk_100 (dk_at dksX2_of_5 2 rfl rfl)
theorem dX2_of_122 : decode cX2_of 122 = .ok (.invokevirtual 325, 3) := dk_182 1 69 (dk_at dksX2_of_5 3 rfl rfl)
theorem dX2_of_125 : decode cX2_of 125 = .ok (.ifCond .eq 15, 3) := dk_153 0 15 (dk_at dksX2_of_5 6 rfl rfl)
theorem dX2_of_128 : decode cX2_of 128 = .ok (.aload_n 0, 1) := dk_42 (dk_at dksX2_of_5 9 rfl rfl)
theorem dX2_of_129 : decode cX2_of 129 = .ok (.iload_n 1, 1) := dk_27 (dk_at dksX2_of_5 10 rfl rfl)
theorem dX2_of_130 : decode cX2_of 130 = .ok (.iload_n 2, 1) := dk_28 (dk_at dksX2_of_5 11 rfl rfl)
theorem dX2_of_131 : decode cX2_of 131 = .ok (.bipush 10, 2) := dk_16 10 (dk_at dksX2_of_5 12 rfl rfl)
theorem dX2_of_133 : decode cX2_of 133 = .ok (.isub, 1) := dk_100 (dk_at dksX2_of_5 14 rfl rfl)
theorem dX2_of_134 : decode cX2_of 134 = .ok (.invokevirtual 318, 3) := dk_182 1 62 (dk_at dksX2_of_5 15 rfl rfl)
theorem dX2_of_137 : decode cX2_of 137 = .ok (.goto 4, 3) := dk_167 0 4 (dk_at dksX2_of_5 18 rfl rfl)
theorem dX2_of_140 : decode cX2_of 140 = .ok (.iconst (-1), 1) := dk_2 (dk_at dksX2_of_5 21 rfl rfl)
theorem dX2_of_141 : decode cX2_of 141 = .ok (.ireturn, 1) := dk_172 (dk_at dksX2_of_5 22 rfl rfl)
abbrev cX2_costOf : ByteArray := prog_21_method_73_code
def yX2_costOf : MethodName := ⟨RX2, "costOf", "(I)I"⟩
def dkwX2_costOf_1 : List UInt8 := [17, 3, 231, 182, 1, 53, 172]
abbrev dktX2_costOf_1 : List UInt8 := dkwX2_costOf_1 ++ []
def dkwX2_costOf_0 : List UInt8 := [42, 27, 42, 180, 0, 7, 16, 69, 27, 96, 46, 182, 1, 50, 42, 16, 7, 42, 180, 0, 68, 4, 46]
abbrev dktX2_costOf_0 : List UInt8 := dkwX2_costOf_0 ++ dktX2_costOf_1
theorem dksX2_costOf_0 : cX2_costOf.data.toList.drop 0 = dktX2_costOf_0 := by decide +kernel
theorem dksX2_costOf_1 : cX2_costOf.data.toList.drop 23 = dktX2_costOf_1 := dk_seg dksX2_costOf_0 23 rfl rfl
theorem dX2_costOf_0 : decode cX2_costOf 0 = .ok (.aload_n 0, 1) := dk_42 (dk_at dksX2_costOf_0 0 rfl rfl)
theorem dX2_costOf_1 : decode cX2_costOf 1 = .ok (.iload_n 1, 1) := dk_27 (dk_at dksX2_costOf_0 1 rfl rfl)
theorem dX2_costOf_2 : decode cX2_costOf 2 = .ok (.aload_n 0, 1) := dk_42 (dk_at dksX2_costOf_0 2 rfl rfl)
theorem dX2_costOf_3 : decode cX2_costOf 3 = .ok (.getfield 7, 3) := dk_180 0 7 (dk_at dksX2_costOf_0 3 rfl rfl)
theorem dX2_costOf_6 : decode cX2_costOf 6 = .ok (.bipush 69, 2) := dk_16 69 (dk_at dksX2_costOf_0 6 rfl rfl)
theorem dX2_costOf_8 : decode cX2_costOf 8 = .ok (.iload_n 1, 1) := dk_27 (dk_at dksX2_costOf_0 8 rfl rfl)
theorem dX2_costOf_9 : decode cX2_costOf 9 = .ok (.iadd, 1) := dk_96 (dk_at dksX2_costOf_0 9 rfl rfl)
theorem dX2_costOf_10 : decode cX2_costOf 10 = .ok (.iaload, 1) := dk_46 (dk_at dksX2_costOf_0 10 rfl rfl)
theorem dX2_costOf_11 : decode cX2_costOf 11 = .ok (.invokevirtual 306, 3) := dk_182 1 50 (dk_at dksX2_costOf_0 11 rfl rfl)
theorem dX2_costOf_14 : decode cX2_costOf 14 = .ok (.aload_n 0, 1) := dk_42 (dk_at dksX2_costOf_0 14 rfl rfl)
theorem dX2_costOf_15 : decode cX2_costOf 15 = .ok (.bipush 7, 2) := dk_16 7 (dk_at dksX2_costOf_0 15 rfl rfl)
theorem dX2_costOf_17 : decode cX2_costOf 17 = .ok (.aload_n 0, 1) := dk_42 (dk_at dksX2_costOf_0 17 rfl rfl)
theorem dX2_costOf_18 : decode cX2_costOf 18 = .ok (.getfield 68, 3) := dk_180 0 68 (dk_at dksX2_costOf_0 18 rfl rfl)
theorem dX2_costOf_21 : decode cX2_costOf 21 = .ok (.iconst 1, 1) := dk_4 (dk_at dksX2_costOf_0 21 rfl rfl)
theorem dX2_costOf_22 : decode cX2_costOf 22 = .ok (.iaload, 1) := dk_46 (dk_at dksX2_costOf_0 22 rfl rfl)
theorem dX2_costOf_23 : decode cX2_costOf 23 = .ok (.sipush 999, 3) := dk_17 3 231 (dk_at dksX2_costOf_1 0 rfl rfl)
theorem dX2_costOf_26 : decode cX2_costOf 26 = .ok (.invokevirtual 309, 3) := dk_182 1 53 (dk_at dksX2_costOf_1 3 rfl rfl)
theorem dX2_costOf_29 : decode cX2_costOf 29 = .ok (.ireturn, 1) := dk_172 (dk_at dksX2_costOf_1 6 rfl rfl)
abbrev cX2_skyOf : ByteArray := prog_21_method_99_code
def yX2_skyOf : MethodName := ⟨RX2, "skyOf", "(III)I"⟩
def dkwX2_skyOf_2 : List UInt8 := [182, 1, 136, 21, 4, 172]
abbrev dktX2_skyOf_2 : List UInt8 := dkwX2_skyOf_2 ++ []
def dkwX2_skyOf_1 : List UInt8 := [154, 0, 5, 2, 172, 42, 182, 1, 130, 42, 29, 182, 1, 133, 42, 27, 28, 182, 1, 32, 54, 4, 42]
abbrev dktX2_skyOf_1 : List UInt8 := dkwX2_skyOf_1 ++ dktX2_skyOf_2
def dkwX2_skyOf_0 : List UInt8 := [42, 3, 181, 0, 86, 42, 27, 28, 182, 1, 127, 153, 0, 14, 42, 29, 3, 16, 60, 182, 0, 102]
abbrev dktX2_skyOf_0 : List UInt8 := dkwX2_skyOf_0 ++ dktX2_skyOf_1
theorem dksX2_skyOf_0 : cX2_skyOf.data.toList.drop 0 = dktX2_skyOf_0 := by decide +kernel
theorem dksX2_skyOf_1 : cX2_skyOf.data.toList.drop 22 = dktX2_skyOf_1 := dk_seg dksX2_skyOf_0 22 rfl rfl
theorem dksX2_skyOf_2 : cX2_skyOf.data.toList.drop 45 = dktX2_skyOf_2 := dk_seg dksX2_skyOf_1 23 rfl rfl
theorem dX2_skyOf_0 : decode cX2_skyOf 0 = .ok (.aload_n 0, 1) := dk_42 (dk_at dksX2_skyOf_0 0 rfl rfl)
theorem dX2_skyOf_1 : decode cX2_skyOf 1 = .ok (.iconst 0, 1) := dk_3 (dk_at dksX2_skyOf_0 1 rfl rfl)
theorem dX2_skyOf_2 : decode cX2_skyOf 2 = .ok (.putfield 86, 3) := dk_181 0 86 (dk_at dksX2_skyOf_0 2 rfl rfl)
theorem dX2_skyOf_5 : decode cX2_skyOf 5 = .ok (.aload_n 0, 1) := dk_42 (dk_at dksX2_skyOf_0 5 rfl rfl)
theorem dX2_skyOf_6 : decode cX2_skyOf 6 = .ok (.iload_n 1, 1) := dk_27 (dk_at dksX2_skyOf_0 6 rfl rfl)
theorem dX2_skyOf_7 : decode cX2_skyOf 7 = .ok (.iload_n 2, 1) := dk_28 (dk_at dksX2_skyOf_0 7 rfl rfl)
theorem dX2_skyOf_8 : decode cX2_skyOf 8 = .ok (.invokevirtual 383, 3) := dk_182 1 127 (dk_at dksX2_skyOf_0 8 rfl rfl)
theorem dX2_skyOf_11 : decode cX2_skyOf 11 = .ok (.ifCond .eq 14, 3) := dk_153 0 14 (dk_at dksX2_skyOf_0 11 rfl rfl)
theorem dX2_skyOf_14 : decode cX2_skyOf 14 = .ok (.aload_n 0, 1) := dk_42 (dk_at dksX2_skyOf_0 14 rfl rfl)
theorem dX2_skyOf_15 : decode cX2_skyOf 15 = .ok (.iload_n 3, 1) := dk_29 (dk_at dksX2_skyOf_0 15 rfl rfl)
theorem dX2_skyOf_16 : decode cX2_skyOf 16 = .ok (.iconst 0, 1) := dk_3 (dk_at dksX2_skyOf_0 16 rfl rfl)
theorem dX2_skyOf_17 : decode cX2_skyOf 17 = .ok (.bipush 60, 2) := dk_16 60 (dk_at dksX2_skyOf_0 17 rfl rfl)
theorem dX2_skyOf_19 : decode cX2_skyOf 19 = .ok (.invokevirtual 102, 3) := dk_182 0 102 (dk_at dksX2_skyOf_0 19 rfl rfl)
theorem dX2_skyOf_22 : decode cX2_skyOf 22 = .ok (.ifCond .ne 5, 3) := dk_154 0 5 (dk_at dksX2_skyOf_1 0 rfl rfl)
theorem dX2_skyOf_25 : decode cX2_skyOf 25 = .ok (.iconst (-1), 1) := dk_2 (dk_at dksX2_skyOf_1 3 rfl rfl)
theorem dX2_skyOf_26 : decode cX2_skyOf 26 = .ok (.ireturn, 1) := dk_172 (dk_at dksX2_skyOf_1 4 rfl rfl)
theorem dX2_skyOf_27 : decode cX2_skyOf 27 = .ok (.aload_n 0, 1) := dk_42 (dk_at dksX2_skyOf_1 5 rfl rfl)
theorem dX2_skyOf_28 : decode cX2_skyOf 28 = .ok (.invokevirtual 386, 3) := dk_182 1 130 (dk_at dksX2_skyOf_1 6 rfl rfl)
theorem dX2_skyOf_31 : decode cX2_skyOf 31 = .ok (.aload_n 0, 1) := dk_42 (dk_at dksX2_skyOf_1 9 rfl rfl)
theorem dX2_skyOf_32 : decode cX2_skyOf 32 = .ok (.iload_n 3, 1) := dk_29 (dk_at dksX2_skyOf_1 10 rfl rfl)
theorem dX2_skyOf_33 : decode cX2_skyOf 33 = .ok (.invokevirtual 389, 3) := dk_182 1 133 (dk_at dksX2_skyOf_1 11 rfl rfl)
theorem dX2_skyOf_36 : decode cX2_skyOf 36 = .ok (.aload_n 0, 1) := dk_42 (dk_at dksX2_skyOf_1 14 rfl rfl)
theorem dX2_skyOf_37 : decode cX2_skyOf 37 = .ok (.iload_n 1, 1) := dk_27 (dk_at dksX2_skyOf_1 15 rfl rfl)
theorem dX2_skyOf_38 : decode cX2_skyOf 38 = .ok (.iload_n 2, 1) := dk_28 (dk_at dksX2_skyOf_1 16 rfl rfl)
theorem dX2_skyOf_39 : decode cX2_skyOf 39 = .ok (.invokevirtual 288, 3) := dk_182 1 32 (dk_at dksX2_skyOf_1 17 rfl rfl)
theorem dX2_skyOf_42 : decode cX2_skyOf 42 = .ok (.istore 4, 2) := dk_54 4 (dk_at dksX2_skyOf_1 20 rfl rfl)
theorem dX2_skyOf_44 : decode cX2_skyOf 44 = .ok (.aload_n 0, 1) := dk_42 (dk_at dksX2_skyOf_1 22 rfl rfl)
theorem dX2_skyOf_45 : decode cX2_skyOf 45 = .ok (.invokevirtual 392, 3) := dk_182 1 136 (dk_at dksX2_skyOf_2 0 rfl rfl)
theorem dX2_skyOf_48 : decode cX2_skyOf 48 = .ok (.iload 4, 2) := dk_21 4 (dk_at dksX2_skyOf_2 3 rfl rfl)
theorem dX2_skyOf_50 : decode cX2_skyOf 50 = .ok (.ireturn, 1) := dk_172 (dk_at dksX2_skyOf_2 5 rfl rfl)
abbrev cX2_isSky : ByteArray := prog_21_method_97_code
def yX2_isSky : MethodName := ⟨RX2, "isSky", "(II)Z"⟩
def dkwX2_isSky_0 : List UInt8 := [42, 27, 182, 0, 106, 153, 0, 17, 42, 28, 3, 7, 182, 0, 102, 153, 0, 7, 4, 167, 0, 4, 3, 172]
abbrev dktX2_isSky_0 : List UInt8 := dkwX2_isSky_0 ++ []
theorem dksX2_isSky_0 : cX2_isSky.data.toList.drop 0 = dktX2_isSky_0 := by decide +kernel
theorem dX2_isSky_0 : decode cX2_isSky 0 = .ok (.aload_n 0, 1) := dk_42 (dk_at dksX2_isSky_0 0 rfl rfl)
theorem dX2_isSky_1 : decode cX2_isSky 1 = .ok (.iload_n 1, 1) := dk_27 (dk_at dksX2_isSky_0 1 rfl rfl)
theorem dX2_isSky_2 : decode cX2_isSky 2 = .ok (.invokevirtual 106, 3) := dk_182 0 106 (dk_at dksX2_isSky_0 2 rfl rfl)
theorem dX2_isSky_5 : decode cX2_isSky 5 = .ok (.ifCond .eq 17, 3) := dk_153 0 17 (dk_at dksX2_isSky_0 5 rfl rfl)
theorem dX2_isSky_8 : decode cX2_isSky 8 = .ok (.aload_n 0, 1) := dk_42 (dk_at dksX2_isSky_0 8 rfl rfl)
theorem dX2_isSky_9 : decode cX2_isSky 9 = .ok (.iload_n 2, 1) := dk_28 (dk_at dksX2_isSky_0 9 rfl rfl)
theorem dX2_isSky_10 : decode cX2_isSky 10 = .ok (.iconst 0, 1) := dk_3 (dk_at dksX2_isSky_0 10 rfl rfl)
theorem dX2_isSky_11 : decode cX2_isSky 11 = .ok (.iconst 4, 1) := dk_7 (dk_at dksX2_isSky_0 11 rfl rfl)
theorem dX2_isSky_12 : decode cX2_isSky 12 = .ok (.invokevirtual 102, 3) := dk_182 0 102 (dk_at dksX2_isSky_0 12 rfl rfl)
theorem dX2_isSky_15 : decode cX2_isSky 15 = .ok (.ifCond .eq 7, 3) := dk_153 0 7 (dk_at dksX2_isSky_0 15 rfl rfl)
theorem dX2_isSky_18 : decode cX2_isSky 18 = .ok (.iconst 1, 1) := dk_4 (dk_at dksX2_isSky_0 18 rfl rfl)
theorem dX2_isSky_19 : decode cX2_isSky 19 = .ok (.goto 4, 3) := dk_167 0 4 (dk_at dksX2_isSky_0 19 rfl rfl)
theorem dX2_isSky_22 : decode cX2_isSky 22 = .ok (.iconst 0, 1) := dk_3 (dk_at dksX2_isSky_0 22 rfl rfl)
theorem dX2_isSky_23 : decode cX2_isSky 23 = .ok (.ireturn, 1) := dk_172 (dk_at dksX2_isSky_0 23 rfl rfl)
abbrev cX2_thinks : ByteArray := prog_21_method_9_code
def yX2_thinks : MethodName := ⟨RX2, "thinks", "()V"⟩
def dkwX2_thinks_1 : List UInt8 := [167, 255, 235, 42, 4, 181, 0, 92, 177]
abbrev dktX2_thinks_1 : List UInt8 := dkwX2_thinks_1 ++ []
def dkwX2_thinks_0 : List UInt8 := [3, 60, 27, 16, 105, 162, 0, 21, 42, 180, 0, 16, 27, 42, 180, 0, 7, 27, 46, 79, 132, 1, 1]
abbrev dktX2_thinks_0 : List UInt8 := dkwX2_thinks_0 ++ dktX2_thinks_1
theorem dksX2_thinks_0 : cX2_thinks.data.toList.drop 0 = dktX2_thinks_0 := by decide +kernel
theorem dksX2_thinks_1 : cX2_thinks.data.toList.drop 23 = dktX2_thinks_1 := dk_seg dksX2_thinks_0 23 rfl rfl
theorem dX2_thinks_0 : decode cX2_thinks 0 = .ok (.iconst 0, 1) := dk_3 (dk_at dksX2_thinks_0 0 rfl rfl)
theorem dX2_thinks_1 : decode cX2_thinks 1 = .ok (.istore_n 1, 1) := dk_60 (dk_at dksX2_thinks_0 1 rfl rfl)
theorem dX2_thinks_2 : decode cX2_thinks 2 = .ok (.iload_n 1, 1) := dk_27 (dk_at dksX2_thinks_0 2 rfl rfl)
theorem dX2_thinks_3 : decode cX2_thinks 3 = .ok (.bipush 105, 2) := dk_16 105 (dk_at dksX2_thinks_0 3 rfl rfl)
theorem dX2_thinks_5 : decode cX2_thinks 5 = .ok (.if_icmp .ge 21, 3) := dk_162 0 21 (dk_at dksX2_thinks_0 5 rfl rfl)
theorem dX2_thinks_8 : decode cX2_thinks 8 = .ok (.aload_n 0, 1) := dk_42 (dk_at dksX2_thinks_0 8 rfl rfl)
theorem dX2_thinks_9 : decode cX2_thinks 9 = .ok (.getfield 16, 3) := dk_180 0 16 (dk_at dksX2_thinks_0 9 rfl rfl)
theorem dX2_thinks_12 : decode cX2_thinks 12 = .ok (.iload_n 1, 1) := dk_27 (dk_at dksX2_thinks_0 12 rfl rfl)
theorem dX2_thinks_13 : decode cX2_thinks 13 = .ok (.aload_n 0, 1) := dk_42 (dk_at dksX2_thinks_0 13 rfl rfl)
theorem dX2_thinks_14 : decode cX2_thinks 14 = .ok (.getfield 7, 3) := dk_180 0 7 (dk_at dksX2_thinks_0 14 rfl rfl)
theorem dX2_thinks_17 : decode cX2_thinks 17 = .ok (.iload_n 1, 1) := dk_27 (dk_at dksX2_thinks_0 17 rfl rfl)
theorem dX2_thinks_18 : decode cX2_thinks 18 = .ok (.iaload, 1) := dk_46 (dk_at dksX2_thinks_0 18 rfl rfl)
theorem dX2_thinks_19 : decode cX2_thinks 19 = .ok (.iastore, 1) := dk_79 (dk_at dksX2_thinks_0 19 rfl rfl)
theorem dX2_thinks_20 : decode cX2_thinks 20 = .ok (.iinc 1 1, 3) := dk_132 1 1 (dk_at dksX2_thinks_0 20 rfl rfl)
theorem dX2_thinks_23 : decode cX2_thinks 23 = .ok (.goto (-21), 3) := dk_167 255 235 (dk_at dksX2_thinks_1 0 rfl rfl)
theorem dX2_thinks_26 : decode cX2_thinks 26 = .ok (.aload_n 0, 1) := dk_42 (dk_at dksX2_thinks_1 3 rfl rfl)
theorem dX2_thinks_27 : decode cX2_thinks 27 = .ok (.iconst 1, 1) := dk_4 (dk_at dksX2_thinks_1 4 rfl rfl)
theorem dX2_thinks_28 : decode cX2_thinks 28 = .ok (.putfield 92, 3) := dk_181 0 92 (dk_at dksX2_thinks_1 5 rfl rfl)
theorem dX2_thinks_31 : decode cX2_thinks 31 = .ok (.return_, 1) := dk_177 (dk_at dksX2_thinks_1 8 rfl rfl)
abbrev cX2_goesFor : ByteArray := prog_21_method_98_code
def yX2_goesFor : MethodName := ⟨RX2, "goesFor", "(I)V"⟩
def dkwX2_goesFor_0 : List UInt8 := [3, 61, 28, 27, 162, 0, 18, 42, 182, 1, 118, 42, 182, 1, 121, 87, 132, 2, 1, 167, 255, 239, 177]
abbrev dktX2_goesFor_0 : List UInt8 := dkwX2_goesFor_0 ++ []
theorem dksX2_goesFor_0 : cX2_goesFor.data.toList.drop 0 = dktX2_goesFor_0 := by decide +kernel
theorem dX2_goesFor_0 : decode cX2_goesFor 0 = .ok (.iconst 0, 1) := dk_3 (dk_at dksX2_goesFor_0 0 rfl rfl)
theorem dX2_goesFor_1 : decode cX2_goesFor 1 = .ok (.istore_n 2, 1) := dk_61 (dk_at dksX2_goesFor_0 1 rfl rfl)
theorem dX2_goesFor_2 : decode cX2_goesFor 2 = .ok (.iload_n 2, 1) := dk_28 (dk_at dksX2_goesFor_0 2 rfl rfl)
theorem dX2_goesFor_3 : decode cX2_goesFor 3 = .ok (.iload_n 1, 1) := dk_27 (dk_at dksX2_goesFor_0 3 rfl rfl)
theorem dX2_goesFor_4 : decode cX2_goesFor 4 = .ok (.if_icmp .ge 18, 3) := dk_162 0 18 (dk_at dksX2_goesFor_0 4 rfl rfl)
theorem dX2_goesFor_7 : decode cX2_goesFor 7 = .ok (.aload_n 0, 1) := dk_42 (dk_at dksX2_goesFor_0 7 rfl rfl)
theorem dX2_goesFor_8 : decode cX2_goesFor 8 = .ok (.invokevirtual 374, 3) := dk_182 1 118 (dk_at dksX2_goesFor_0 8 rfl rfl)
theorem dX2_goesFor_11 : decode cX2_goesFor 11 = .ok (.aload_n 0, 1) := dk_42 (dk_at dksX2_goesFor_0 11 rfl rfl)
theorem dX2_goesFor_12 : decode cX2_goesFor 12 = .ok (.invokevirtual 377, 3) := dk_182 1 121 (dk_at dksX2_goesFor_0 12 rfl rfl)
theorem dX2_goesFor_15 : decode cX2_goesFor 15 = .ok (.pop, 1) := dk_87 (dk_at dksX2_goesFor_0 15 rfl rfl)
theorem dX2_goesFor_16 : decode cX2_goesFor 16 = .ok (.iinc 2 1, 3) := dk_132 2 1 (dk_at dksX2_goesFor_0 16 rfl rfl)
theorem dX2_goesFor_19 : decode cX2_goesFor 19 = .ok (.goto (-17), 3) := dk_167 255 239 (dk_at dksX2_goesFor_0 19 rfl rfl)
theorem dX2_goesFor_22 : decode cX2_goesFor 22 = .ok (.return_, 1) := dk_177 (dk_at dksX2_goesFor_0 22 rfl rfl)
abbrev cX2_endsThought : ByteArray := prog_21_method_10_code
def yX2_endsThought : MethodName := ⟨RX2, "endsThought", "()V"⟩
def dkwX2_endsThought_1 : List UInt8 := [167, 255, 235, 42, 3, 181, 0, 92, 177]
abbrev dktX2_endsThought_1 : List UInt8 := dkwX2_endsThought_1 ++ []
def dkwX2_endsThought_0 : List UInt8 := [3, 60, 27, 16, 105, 162, 0, 21, 42, 180, 0, 7, 27, 42, 180, 0, 16, 27, 46, 79, 132, 1, 1]
abbrev dktX2_endsThought_0 : List UInt8 := dkwX2_endsThought_0 ++ dktX2_endsThought_1
theorem dksX2_endsThought_0 : cX2_endsThought.data.toList.drop 0 = dktX2_endsThought_0 := by decide +kernel
theorem dksX2_endsThought_1 : cX2_endsThought.data.toList.drop 23 = dktX2_endsThought_1 := dk_seg dksX2_endsThought_0 23 rfl rfl
theorem dX2_endsThought_0 : decode cX2_endsThought 0 = .ok (.iconst 0, 1) := dk_3 (dk_at dksX2_endsThought_0 0 rfl rfl)
theorem dX2_endsThought_1 : decode cX2_endsThought 1 = .ok (.istore_n 1, 1) := dk_60 (dk_at dksX2_endsThought_0 1 rfl rfl)
theorem dX2_endsThought_2 : decode cX2_endsThought 2 = .ok (.iload_n 1, 1) := dk_27 (dk_at dksX2_endsThought_0 2 rfl rfl)
theorem dX2_endsThought_3 : decode cX2_endsThought 3 = .ok (.bipush 105, 2) := dk_16 105 (dk_at dksX2_endsThought_0 3 rfl rfl)
theorem dX2_endsThought_5 : decode cX2_endsThought 5 = .ok (.if_icmp .ge 21, 3) := dk_162 0 21 (dk_at dksX2_endsThought_0 5 rfl rfl)
theorem dX2_endsThought_8 : decode cX2_endsThought 8 = .ok (.aload_n 0, 1) := dk_42 (dk_at dksX2_endsThought_0 8 rfl rfl)
theorem dX2_endsThought_9 : decode cX2_endsThought 9 = .ok (.getfield 7, 3) := dk_180 0 7 (dk_at dksX2_endsThought_0 9 rfl rfl)
theorem dX2_endsThought_12 : decode cX2_endsThought 12 = .ok (.iload_n 1, 1) := dk_27 (dk_at dksX2_endsThought_0 12 rfl rfl)
theorem dX2_endsThought_13 : decode cX2_endsThought 13 = .ok (.aload_n 0, 1) := dk_42 (dk_at dksX2_endsThought_0 13 rfl rfl)
theorem dX2_endsThought_14 : decode cX2_endsThought 14 = .ok (.getfield 16, 3) := dk_180 0 16 (dk_at dksX2_endsThought_0 14 rfl rfl)
theorem dX2_endsThought_17 : decode cX2_endsThought 17 = .ok (.iload_n 1, 1) := dk_27 (dk_at dksX2_endsThought_0 17 rfl rfl)
theorem dX2_endsThought_18 : decode cX2_endsThought 18 = .ok (.iaload, 1) := dk_46 (dk_at dksX2_endsThought_0 18 rfl rfl)
theorem dX2_endsThought_19 : decode cX2_endsThought 19 = .ok (.iastore, 1) := dk_79 (dk_at dksX2_endsThought_0 19 rfl rfl)
theorem dX2_endsThought_20 : decode cX2_endsThought 20 = .ok (.iinc 1 1, 3) := dk_132 1 1 (dk_at dksX2_endsThought_0 20 rfl rfl)
theorem dX2_endsThought_23 : decode cX2_endsThought 23 = .ok (.goto (-21), 3) := dk_167 255 235 (dk_at dksX2_endsThought_1 0 rfl rfl)
theorem dX2_endsThought_26 : decode cX2_endsThought 26 = .ok (.aload_n 0, 1) := dk_42 (dk_at dksX2_endsThought_1 3 rfl rfl)
theorem dX2_endsThought_27 : decode cX2_endsThought 27 = .ok (.iconst 0, 1) := dk_3 (dk_at dksX2_endsThought_1 4 rfl rfl)
theorem dX2_endsThought_28 : decode cX2_endsThought 28 = .ok (.putfield 92, 3) := dk_181 0 92 (dk_at dksX2_endsThought_1 5 rfl rfl)
theorem dX2_endsThought_31 : decode cX2_endsThought 31 = .ok (.return_, 1) := dk_177 (dk_at dksX2_endsThought_1 8 rfl rfl)
abbrev cX2_at : ByteArray := prog_21_method_100_code
def yX2_at : MethodName := ⟨RX2, "at", "(II)I"⟩
def dkwX2_at_3 : List UInt8 := [182, 0, 102, 153, 0, 15, 42, 27, 28, 16, 10, 100, 182, 1, 94, 167, 0, 5, 16, 254, 172]
abbrev dktX2_at_3 : List UInt8 := dkwX2_at_3 ++ []
def dkwX2_at_2 : List UInt8 := [182, 1, 38, 172, 28, 6, 160, 0, 10, 42, 27, 4, 182, 1, 38, 172, 42, 28, 16, 10, 16, 14]
abbrev dktX2_at_2 : List UInt8 := dkwX2_at_2 ++ dktX2_at_3
def dkwX2_at_1 : List UInt8 := [27, 46, 4, 100, 172, 28, 4, 160, 0, 9, 42, 27, 182, 1, 35, 172, 28, 5, 160, 0, 10, 42, 27, 3]
abbrev dktX2_at_1 : List UInt8 := dkwX2_at_1 ++ dktX2_at_2
def dkwX2_at_0 : List UInt8 := [42, 3, 181, 0, 86, 42, 27, 182, 0, 106, 154, 0, 6, 16, 254, 172, 28, 154, 0, 12, 42, 180, 0, 19]
abbrev dktX2_at_0 : List UInt8 := dkwX2_at_0 ++ dktX2_at_1
theorem dksX2_at_0 : cX2_at.data.toList.drop 0 = dktX2_at_0 := by decide +kernel
theorem dksX2_at_1 : cX2_at.data.toList.drop 24 = dktX2_at_1 := dk_seg dksX2_at_0 24 rfl rfl
theorem dksX2_at_2 : cX2_at.data.toList.drop 48 = dktX2_at_2 := dk_seg dksX2_at_1 24 rfl rfl
theorem dksX2_at_3 : cX2_at.data.toList.drop 70 = dktX2_at_3 := dk_seg dksX2_at_2 22 rfl rfl
theorem dX2_at_0 : decode cX2_at 0 = .ok (.aload_n 0, 1) := dk_42 (dk_at dksX2_at_0 0 rfl rfl)
theorem dX2_at_1 : decode cX2_at 1 = .ok (.iconst 0, 1) := dk_3 (dk_at dksX2_at_0 1 rfl rfl)
theorem dX2_at_2 : decode cX2_at 2 = .ok (.putfield 86, 3) := dk_181 0 86 (dk_at dksX2_at_0 2 rfl rfl)
theorem dX2_at_5 : decode cX2_at 5 = .ok (.aload_n 0, 1) := dk_42 (dk_at dksX2_at_0 5 rfl rfl)
theorem dX2_at_6 : decode cX2_at 6 = .ok (.iload_n 1, 1) := dk_27 (dk_at dksX2_at_0 6 rfl rfl)
theorem dX2_at_7 : decode cX2_at 7 = .ok (.invokevirtual 106, 3) := dk_182 0 106 (dk_at dksX2_at_0 7 rfl rfl)
theorem dX2_at_10 : decode cX2_at 10 = .ok (.ifCond .ne 6, 3) := dk_154 0 6 (dk_at dksX2_at_0 10 rfl rfl)
theorem dX2_at_13 : decode cX2_at 13 = .ok (.bipush (-2), 2) := dk_16 254 (dk_at dksX2_at_0 13 rfl rfl)
theorem dX2_at_15 : decode cX2_at 15 = .ok (.ireturn, 1) := dk_172 (dk_at dksX2_at_0 15 rfl rfl)
theorem dX2_at_16 : decode cX2_at 16 = .ok (.iload_n 2, 1) := dk_28 (dk_at dksX2_at_0 16 rfl rfl)
theorem dX2_at_17 : decode cX2_at 17 = .ok (.ifCond .ne 12, 3) := dk_154 0 12 (dk_at dksX2_at_0 17 rfl rfl)
theorem dX2_at_20 : decode cX2_at 20 = .ok (.aload_n 0, 1) := dk_42 (dk_at dksX2_at_0 20 rfl rfl)
theorem dX2_at_21 : decode cX2_at 21 = .ok (.getfield 19, 3) := dk_180 0 19 (dk_at dksX2_at_0 21 rfl rfl)
theorem dX2_at_24 : decode cX2_at 24 = .ok (.iload_n 1, 1) := dk_27 (dk_at dksX2_at_1 0 rfl rfl)
theorem dX2_at_25 : decode cX2_at 25 = .ok (.iaload, 1) := dk_46 (dk_at dksX2_at_1 1 rfl rfl)
theorem dX2_at_26 : decode cX2_at 26 = .ok (.iconst 1, 1) := dk_4 (dk_at dksX2_at_1 2 rfl rfl)
theorem dX2_at_27 : decode cX2_at 27 = .ok (.isub, 1) := dk_100 (dk_at dksX2_at_1 3 rfl rfl)
theorem dX2_at_28 : decode cX2_at 28 = .ok (.ireturn, 1) := dk_172 (dk_at dksX2_at_1 4 rfl rfl)
theorem dX2_at_29 : decode cX2_at 29 = .ok (.iload_n 2, 1) := dk_28 (dk_at dksX2_at_1 5 rfl rfl)
theorem dX2_at_30 : decode cX2_at 30 = .ok (.iconst 1, 1) := dk_4 (dk_at dksX2_at_1 6 rfl rfl)
theorem dX2_at_31 : decode cX2_at 31 = .ok (.if_icmp .ne 9, 3) := dk_160 0 9 (dk_at dksX2_at_1 7 rfl rfl)
theorem dX2_at_34 : decode cX2_at 34 = .ok (.aload_n 0, 1) := dk_42 (dk_at dksX2_at_1 10 rfl rfl)
theorem dX2_at_35 : decode cX2_at 35 = .ok (.iload_n 1, 1) := dk_27 (dk_at dksX2_at_1 11 rfl rfl)
theorem dX2_at_36 : decode cX2_at 36 = .ok (.invokevirtual 291, 3) := dk_182 1 35 (dk_at dksX2_at_1 12 rfl rfl)
theorem dX2_at_39 : decode cX2_at 39 = .ok (.ireturn, 1) := dk_172 (dk_at dksX2_at_1 15 rfl rfl)
theorem dX2_at_40 : decode cX2_at 40 = .ok (.iload_n 2, 1) := dk_28 (dk_at dksX2_at_1 16 rfl rfl)
theorem dX2_at_41 : decode cX2_at 41 = .ok (.iconst 2, 1) := dk_5 (dk_at dksX2_at_1 17 rfl rfl)
theorem dX2_at_42 : decode cX2_at 42 = .ok (.if_icmp .ne 10, 3) := dk_160 0 10 (dk_at dksX2_at_1 18 rfl rfl)
theorem dX2_at_45 : decode cX2_at 45 = .ok (.aload_n 0, 1) := dk_42 (dk_at dksX2_at_1 21 rfl rfl)
theorem dX2_at_46 : decode cX2_at 46 = .ok (.iload_n 1, 1) := dk_27 (dk_at dksX2_at_1 22 rfl rfl)
theorem dX2_at_47 : decode cX2_at 47 = .ok (.iconst 0, 1) := dk_3 (dk_at dksX2_at_1 23 rfl rfl)
theorem dX2_at_48 : decode cX2_at 48 = .ok (.invokevirtual 294, 3) := dk_182 1 38 (dk_at dksX2_at_2 0 rfl rfl)
theorem dX2_at_51 : decode cX2_at 51 = .ok (.ireturn, 1) := dk_172 (dk_at dksX2_at_2 3 rfl rfl)
theorem dX2_at_52 : decode cX2_at 52 = .ok (.iload_n 2, 1) := dk_28 (dk_at dksX2_at_2 4 rfl rfl)
theorem dX2_at_53 : decode cX2_at 53 = .ok (.iconst 3, 1) := dk_6 (dk_at dksX2_at_2 5 rfl rfl)
theorem dX2_at_54 : decode cX2_at 54 = .ok (.if_icmp .ne 10, 3) := dk_160 0 10 (dk_at dksX2_at_2 6 rfl rfl)
theorem dX2_at_57 : decode cX2_at 57 = .ok (.aload_n 0, 1) := dk_42 (dk_at dksX2_at_2 9 rfl rfl)
theorem dX2_at_58 : decode cX2_at 58 = .ok (.iload_n 1, 1) := dk_27 (dk_at dksX2_at_2 10 rfl rfl)
theorem dX2_at_59 : decode cX2_at 59 = .ok (.iconst 1, 1) := dk_4 (dk_at dksX2_at_2 11 rfl rfl)
theorem dX2_at_60 : decode cX2_at 60 = .ok (.invokevirtual 294, 3) := dk_182 1 38 (dk_at dksX2_at_2 12 rfl rfl)
theorem dX2_at_63 : decode cX2_at 63 = .ok (.ireturn, 1) := dk_172 (dk_at dksX2_at_2 15 rfl rfl)
theorem dX2_at_64 : decode cX2_at 64 = .ok (.aload_n 0, 1) := dk_42 (dk_at dksX2_at_2 16 rfl rfl)
theorem dX2_at_65 : decode cX2_at 65 = .ok (.iload_n 2, 1) := dk_28 (dk_at dksX2_at_2 17 rfl rfl)
theorem dX2_at_66 : decode cX2_at 66 = .ok (.bipush 10, 2) := dk_16 10 (dk_at dksX2_at_2 18 rfl rfl)
theorem dX2_at_68 : decode cX2_at 68 = .ok (.bipush 14, 2) := dk_16 14 (dk_at dksX2_at_2 20 rfl rfl)
theorem dX2_at_70 : decode cX2_at 70 = .ok (.invokevirtual 102, 3) := dk_182 0 102 (dk_at dksX2_at_3 0 rfl rfl)
theorem dX2_at_73 : decode cX2_at 73 = .ok (.ifCond .eq 15, 3) := dk_153 0 15 (dk_at dksX2_at_3 3 rfl rfl)
theorem dX2_at_76 : decode cX2_at 76 = .ok (.aload_n 0, 1) := dk_42 (dk_at dksX2_at_3 6 rfl rfl)
theorem dX2_at_77 : decode cX2_at 77 = .ok (.iload_n 1, 1) := dk_27 (dk_at dksX2_at_3 7 rfl rfl)
theorem dX2_at_78 : decode cX2_at 78 = .ok (.iload_n 2, 1) := dk_28 (dk_at dksX2_at_3 8 rfl rfl)
theorem dX2_at_79 : decode cX2_at 79 = .ok (.bipush 10, 2) := dk_16 10 (dk_at dksX2_at_3 9 rfl rfl)
theorem dX2_at_81 : decode cX2_at 81 = .ok (.isub, 1) := dk_100 (dk_at dksX2_at_3 11 rfl rfl)
theorem dX2_at_82 : decode cX2_at 82 = .ok (.invokevirtual 350, 3) := dk_182 1 94 (dk_at dksX2_at_3 12 rfl rfl)
theorem dX2_at_85 : decode cX2_at 85 = .ok (.goto 5, 3) := dk_167 0 5 (dk_at dksX2_at_3 15 rfl rfl)
theorem dX2_at_88 : decode cX2_at 88 = .ok (.bipush (-2), 2) := dk_16 254 (dk_at dksX2_at_3 18 rfl rfl)
theorem dX2_at_90 : decode cX2_at 90 = .ok (.ireturn, 1) := dk_172 (dk_at dksX2_at_3 20 rfl rfl)
abbrev cX2_clash : ByteArray := prog_21_method_102_code
def yX2_clash : MethodName := ⟨RX2, "clash", "(II)I"⟩
def dkwX2_clash_1 : List UInt8 := [27, 28, 182, 1, 139, 153, 0, 7, 4, 167, 0, 8, 3, 167, 0, 4, 2, 172]
abbrev dktX2_clash_1 : List UInt8 := dkwX2_clash_1 ++ []
def dkwX2_clash_0 : List UInt8 := [42, 3, 181, 0, 86, 42, 3, 27, 182, 1, 127, 153, 0, 29, 42, 3, 28, 182, 1, 127, 153, 0, 20, 42]
abbrev dktX2_clash_0 : List UInt8 := dkwX2_clash_0 ++ dktX2_clash_1
theorem dksX2_clash_0 : cX2_clash.data.toList.drop 0 = dktX2_clash_0 := by decide +kernel
theorem dksX2_clash_1 : cX2_clash.data.toList.drop 24 = dktX2_clash_1 := dk_seg dksX2_clash_0 24 rfl rfl
theorem dX2_clash_0 : decode cX2_clash 0 = .ok (.aload_n 0, 1) := dk_42 (dk_at dksX2_clash_0 0 rfl rfl)
theorem dX2_clash_1 : decode cX2_clash 1 = .ok (.iconst 0, 1) := dk_3 (dk_at dksX2_clash_0 1 rfl rfl)
theorem dX2_clash_2 : decode cX2_clash 2 = .ok (.putfield 86, 3) := dk_181 0 86 (dk_at dksX2_clash_0 2 rfl rfl)
theorem dX2_clash_5 : decode cX2_clash 5 = .ok (.aload_n 0, 1) := dk_42 (dk_at dksX2_clash_0 5 rfl rfl)
theorem dX2_clash_6 : decode cX2_clash 6 = .ok (.iconst 0, 1) := dk_3 (dk_at dksX2_clash_0 6 rfl rfl)
theorem dX2_clash_7 : decode cX2_clash 7 = .ok (.iload_n 1, 1) := dk_27 (dk_at dksX2_clash_0 7 rfl rfl)
theorem dX2_clash_8 : decode cX2_clash 8 = .ok (.invokevirtual 383, 3) := dk_182 1 127 (dk_at dksX2_clash_0 8 rfl rfl)
theorem dX2_clash_11 : decode cX2_clash 11 = .ok (.ifCond .eq 29, 3) := dk_153 0 29 (dk_at dksX2_clash_0 11 rfl rfl)
theorem dX2_clash_14 : decode cX2_clash 14 = .ok (.aload_n 0, 1) := dk_42 (dk_at dksX2_clash_0 14 rfl rfl)
theorem dX2_clash_15 : decode cX2_clash 15 = .ok (.iconst 0, 1) := dk_3 (dk_at dksX2_clash_0 15 rfl rfl)
theorem dX2_clash_16 : decode cX2_clash 16 = .ok (.iload_n 2, 1) := dk_28 (dk_at dksX2_clash_0 16 rfl rfl)
theorem dX2_clash_17 : decode cX2_clash 17 = .ok (.invokevirtual 383, 3) := dk_182 1 127 (dk_at dksX2_clash_0 17 rfl rfl)
theorem dX2_clash_20 : decode cX2_clash 20 = .ok (.ifCond .eq 20, 3) := dk_153 0 20 (dk_at dksX2_clash_0 20 rfl rfl)
theorem dX2_clash_23 : decode cX2_clash 23 = .ok (.aload_n 0, 1) := dk_42 (dk_at dksX2_clash_0 23 rfl rfl)
theorem dX2_clash_24 : decode cX2_clash 24 = .ok (.iload_n 1, 1) := dk_27 (dk_at dksX2_clash_1 0 rfl rfl)
theorem dX2_clash_25 : decode cX2_clash 25 = .ok (.iload_n 2, 1) := dk_28 (dk_at dksX2_clash_1 1 rfl rfl)
theorem dX2_clash_26 : decode cX2_clash 26 = .ok (.invokevirtual 395, 3) := dk_182 1 139 (dk_at dksX2_clash_1 2 rfl rfl)
theorem dX2_clash_29 : decode cX2_clash 29 = .ok (.ifCond .eq 7, 3) := dk_153 0 7 (dk_at dksX2_clash_1 5 rfl rfl)
theorem dX2_clash_32 : decode cX2_clash 32 = .ok (.iconst 1, 1) := dk_4 (dk_at dksX2_clash_1 8 rfl rfl)
theorem dX2_clash_33 : decode cX2_clash 33 = .ok (.goto 8, 3) := dk_167 0 8 (dk_at dksX2_clash_1 9 rfl rfl)
theorem dX2_clash_36 : decode cX2_clash 36 = .ok (.iconst 0, 1) := dk_3 (dk_at dksX2_clash_1 12 rfl rfl)
theorem dX2_clash_37 : decode cX2_clash 37 = .ok (.goto 4, 3) := dk_167 0 4 (dk_at dksX2_clash_1 13 rfl rfl)
theorem dX2_clash_40 : decode cX2_clash 40 = .ok (.iconst (-1), 1) := dk_2 (dk_at dksX2_clash_1 16 rfl rfl)
theorem dX2_clash_41 : decode cX2_clash 41 = .ok (.ireturn, 1) := dk_172 (dk_at dksX2_clash_1 17 rfl rfl)
abbrev cX2_doClash : ByteArray := prog_21_method_101_code
def yX2_doClash : MethodName := ⟨RX2, "doClash", "(II)Z"⟩
def dkwX2_doClash_3 : List UInt8 := [167, 255, 191, 3, 172]
abbrev dktX2_doClash_3 : List UInt8 := dkwX2_doClash_3 ++ []
def dkwX2_doClash_2 : List UInt8 := [160, 0, 19, 42, 180, 0, 59, 6, 29, 104, 4, 96, 46, 27, 160, 0, 5, 4, 172, 132, 3, 1]
abbrev dktX2_doClash_2 : List UInt8 := dkwX2_doClash_2 ++ dktX2_doClash_3
def dkwX2_doClash_1 : List UInt8 := [180, 0, 59, 6, 29, 104, 4, 96, 46, 28, 159, 0, 29, 42, 180, 0, 59, 6, 29, 104, 46, 28]
abbrev dktX2_doClash_1 : List UInt8 := dkwX2_doClash_1 ++ dktX2_doClash_2
def dkwX2_doClash_0 : List UInt8 := [3, 62, 29, 42, 180, 1, 5, 162, 0, 63, 42, 180, 0, 59, 6, 29, 104, 46, 27, 160, 0, 17, 42]
abbrev dktX2_doClash_0 : List UInt8 := dkwX2_doClash_0 ++ dktX2_doClash_1
theorem dksX2_doClash_0 : cX2_doClash.data.toList.drop 0 = dktX2_doClash_0 := by decide +kernel
theorem dksX2_doClash_1 : cX2_doClash.data.toList.drop 23 = dktX2_doClash_1 := dk_seg dksX2_doClash_0 23 rfl rfl
theorem dksX2_doClash_2 : cX2_doClash.data.toList.drop 45 = dktX2_doClash_2 := dk_seg dksX2_doClash_1 22 rfl rfl
theorem dksX2_doClash_3 : cX2_doClash.data.toList.drop 67 = dktX2_doClash_3 := dk_seg dksX2_doClash_2 22 rfl rfl
theorem dX2_doClash_0 : decode cX2_doClash 0 = .ok (.iconst 0, 1) := dk_3 (dk_at dksX2_doClash_0 0 rfl rfl)
theorem dX2_doClash_1 : decode cX2_doClash 1 = .ok (.istore_n 3, 1) := dk_62 (dk_at dksX2_doClash_0 1 rfl rfl)
theorem dX2_doClash_2 : decode cX2_doClash 2 = .ok (.iload_n 3, 1) := dk_29 (dk_at dksX2_doClash_0 2 rfl rfl)
theorem dX2_doClash_3 : decode cX2_doClash 3 = .ok (.aload_n 0, 1) := dk_42 (dk_at dksX2_doClash_0 3 rfl rfl)
theorem dX2_doClash_4 : decode cX2_doClash 4 = .ok (.getfield 261, 3) := dk_180 1 5 (dk_at dksX2_doClash_0 4 rfl rfl)
theorem dX2_doClash_7 : decode cX2_doClash 7 = .ok (.if_icmp .ge 63, 3) := dk_162 0 63 (dk_at dksX2_doClash_0 7 rfl rfl)
theorem dX2_doClash_10 : decode cX2_doClash 10 = .ok (.aload_n 0, 1) := dk_42 (dk_at dksX2_doClash_0 10 rfl rfl)
theorem dX2_doClash_11 : decode cX2_doClash 11 = .ok (.getfield 59, 3) := dk_180 0 59 (dk_at dksX2_doClash_0 11 rfl rfl)
theorem dX2_doClash_14 : decode cX2_doClash 14 = .ok (.iconst 3, 1) := dk_6 (dk_at dksX2_doClash_0 14 rfl rfl)
theorem dX2_doClash_15 : decode cX2_doClash 15 = .ok (.iload_n 3, 1) := dk_29 (dk_at dksX2_doClash_0 15 rfl rfl)
theorem dX2_doClash_16 : decode cX2_doClash 16 = .ok (.imul, 1) := dk_104 (dk_at dksX2_doClash_0 16 rfl rfl)
theorem dX2_doClash_17 : decode cX2_doClash 17 = .ok (.iaload, 1) := dk_46 (dk_at dksX2_doClash_0 17 rfl rfl)
theorem dX2_doClash_18 : decode cX2_doClash 18 = .ok (.iload_n 1, 1) := dk_27 (dk_at dksX2_doClash_0 18 rfl rfl)
theorem dX2_doClash_19 : decode cX2_doClash 19 = .ok (.if_icmp .ne 17, 3) := dk_160 0 17 (dk_at dksX2_doClash_0 19 rfl rfl)
theorem dX2_doClash_22 : decode cX2_doClash 22 = .ok (.aload_n 0, 1) := dk_42 (dk_at dksX2_doClash_0 22 rfl rfl)
theorem dX2_doClash_23 : decode cX2_doClash 23 = .ok (.getfield 59, 3) := dk_180 0 59 (dk_at dksX2_doClash_1 0 rfl rfl)
theorem dX2_doClash_26 : decode cX2_doClash 26 = .ok (.iconst 3, 1) := dk_6 (dk_at dksX2_doClash_1 3 rfl rfl)
theorem dX2_doClash_27 : decode cX2_doClash 27 = .ok (.iload_n 3, 1) := dk_29 (dk_at dksX2_doClash_1 4 rfl rfl)
theorem dX2_doClash_28 : decode cX2_doClash 28 = .ok (.imul, 1) := dk_104 (dk_at dksX2_doClash_1 5 rfl rfl)
theorem dX2_doClash_29 : decode cX2_doClash 29 = .ok (.iconst 1, 1) := dk_4 (dk_at dksX2_doClash_1 6 rfl rfl)
theorem dX2_doClash_30 : decode cX2_doClash 30 = .ok (.iadd, 1) := dk_96 (dk_at dksX2_doClash_1 7 rfl rfl)
theorem dX2_doClash_31 : decode cX2_doClash 31 = .ok (.iaload, 1) := dk_46 (dk_at dksX2_doClash_1 8 rfl rfl)
theorem dX2_doClash_32 : decode cX2_doClash 32 = .ok (.iload_n 2, 1) := dk_28 (dk_at dksX2_doClash_1 9 rfl rfl)
theorem dX2_doClash_33 : decode cX2_doClash 33 = .ok (.if_icmp .eq 29, 3) := dk_159 0 29 (dk_at dksX2_doClash_1 10 rfl rfl)
theorem dX2_doClash_36 : decode cX2_doClash 36 = .ok (.aload_n 0, 1) := dk_42 (dk_at dksX2_doClash_1 13 rfl rfl)
theorem dX2_doClash_37 : decode cX2_doClash 37 = .ok (.getfield 59, 3) := dk_180 0 59 (dk_at dksX2_doClash_1 14 rfl rfl)
theorem dX2_doClash_40 : decode cX2_doClash 40 = .ok (.iconst 3, 1) := dk_6 (dk_at dksX2_doClash_1 17 rfl rfl)
theorem dX2_doClash_41 : decode cX2_doClash 41 = .ok (.iload_n 3, 1) := dk_29 (dk_at dksX2_doClash_1 18 rfl rfl)
theorem dX2_doClash_42 : decode cX2_doClash 42 = .ok (.imul, 1) := dk_104 (dk_at dksX2_doClash_1 19 rfl rfl)
theorem dX2_doClash_43 : decode cX2_doClash 43 = .ok (.iaload, 1) := dk_46 (dk_at dksX2_doClash_1 20 rfl rfl)
theorem dX2_doClash_44 : decode cX2_doClash 44 = .ok (.iload_n 2, 1) := dk_28 (dk_at dksX2_doClash_1 21 rfl rfl)
theorem dX2_doClash_45 : decode cX2_doClash 45 = .ok (.if_icmp .ne 19, 3) := dk_160 0 19 (dk_at dksX2_doClash_2 0 rfl rfl)
theorem dX2_doClash_48 : decode cX2_doClash 48 = .ok (.aload_n 0, 1) := dk_42 (dk_at dksX2_doClash_2 3 rfl rfl)
theorem dX2_doClash_49 : decode cX2_doClash 49 = .ok (.getfield 59, 3) := dk_180 0 59 (dk_at dksX2_doClash_2 4 rfl rfl)
theorem dX2_doClash_52 : decode cX2_doClash 52 = .ok (.iconst 3, 1) := dk_6 (dk_at dksX2_doClash_2 7 rfl rfl)
theorem dX2_doClash_53 : decode cX2_doClash 53 = .ok (.iload_n 3, 1) := dk_29 (dk_at dksX2_doClash_2 8 rfl rfl)
theorem dX2_doClash_54 : decode cX2_doClash 54 = .ok (.imul, 1) := dk_104 (dk_at dksX2_doClash_2 9 rfl rfl)
theorem dX2_doClash_55 : decode cX2_doClash 55 = .ok (.iconst 1, 1) := dk_4 (dk_at dksX2_doClash_2 10 rfl rfl)
theorem dX2_doClash_56 : decode cX2_doClash 56 = .ok (.iadd, 1) := dk_96 (dk_at dksX2_doClash_2 11 rfl rfl)
theorem dX2_doClash_57 : decode cX2_doClash 57 = .ok (.iaload, 1) := dk_46 (dk_at dksX2_doClash_2 12 rfl rfl)
theorem dX2_doClash_58 : decode cX2_doClash 58 = .ok (.iload_n 1, 1) := dk_27 (dk_at dksX2_doClash_2 13 rfl rfl)
theorem dX2_doClash_59 : decode cX2_doClash 59 = .ok (.if_icmp .ne 5, 3) := dk_160 0 5 (dk_at dksX2_doClash_2 14 rfl rfl)
theorem dX2_doClash_62 : decode cX2_doClash 62 = .ok (.iconst 1, 1) := dk_4 (dk_at dksX2_doClash_2 17 rfl rfl)
theorem dX2_doClash_63 : decode cX2_doClash 63 = .ok (.ireturn, 1) := dk_172 (dk_at dksX2_doClash_2 18 rfl rfl)
theorem dX2_doClash_64 : decode cX2_doClash 64 = .ok (.iinc 3 1, 3) := dk_132 3 1 (dk_at dksX2_doClash_2 19 rfl rfl)
theorem dX2_doClash_67 : decode cX2_doClash 67 = .ok (.goto (-65), 3) := dk_167 255 191 (dk_at dksX2_doClash_3 0 rfl rfl)
theorem dX2_doClash_70 : decode cX2_doClash 70 = .ok (.iconst 0, 1) := dk_3 (dk_at dksX2_doClash_3 3 rfl rfl)
theorem dX2_doClash_71 : decode cX2_doClash 71 = .ok (.ireturn, 1) := dk_172 (dk_at dksX2_doClash_3 4 rfl rfl)
abbrev cX2_book : ByteArray := prog_21_method_103_code
def yX2_book : MethodName := ⟨RX2, "book", "(II)I"⟩
def dkwX2_book_1 : List UInt8 := [3, 7, 182, 0, 102, 153, 0, 16, 42, 180, 0, 22, 8, 27, 104, 28, 96, 46, 167, 0, 4, 2, 172]
abbrev dktX2_book_1 : List UInt8 := dkwX2_book_1 ++ []
def dkwX2_book_0 : List UInt8 := [42, 3, 181, 0, 86, 42, 27, 3, 42, 180, 0, 7, 5, 46, 4, 100, 182, 0, 102, 153, 0, 26, 42, 28]
abbrev dktX2_book_0 : List UInt8 := dkwX2_book_0 ++ dktX2_book_1
theorem dksX2_book_0 : cX2_book.data.toList.drop 0 = dktX2_book_0 := by decide +kernel
theorem dksX2_book_1 : cX2_book.data.toList.drop 24 = dktX2_book_1 := dk_seg dksX2_book_0 24 rfl rfl
theorem dX2_book_0 : decode cX2_book 0 = .ok (.aload_n 0, 1) := dk_42 (dk_at dksX2_book_0 0 rfl rfl)
theorem dX2_book_1 : decode cX2_book 1 = .ok (.iconst 0, 1) := dk_3 (dk_at dksX2_book_0 1 rfl rfl)
theorem dX2_book_2 : decode cX2_book 2 = .ok (.putfield 86, 3) := dk_181 0 86 (dk_at dksX2_book_0 2 rfl rfl)
theorem dX2_book_5 : decode cX2_book 5 = .ok (.aload_n 0, 1) := dk_42 (dk_at dksX2_book_0 5 rfl rfl)
theorem dX2_book_6 : decode cX2_book 6 = .ok (.iload_n 1, 1) := dk_27 (dk_at dksX2_book_0 6 rfl rfl)
theorem dX2_book_7 : decode cX2_book 7 = .ok (.iconst 0, 1) := dk_3 (dk_at dksX2_book_0 7 rfl rfl)
theorem dX2_book_8 : decode cX2_book 8 = .ok (.aload_n 0, 1) := dk_42 (dk_at dksX2_book_0 8 rfl rfl)
theorem dX2_book_9 : decode cX2_book 9 = .ok (.getfield 7, 3) := dk_180 0 7 (dk_at dksX2_book_0 9 rfl rfl)
theorem dX2_book_12 : decode cX2_book 12 = .ok (.iconst 2, 1) := dk_5 (dk_at dksX2_book_0 12 rfl rfl)
theorem dX2_book_13 : decode cX2_book 13 = .ok (.iaload, 1) := dk_46 (dk_at dksX2_book_0 13 rfl rfl)
theorem dX2_book_14 : decode cX2_book 14 = .ok (.iconst 1, 1) := dk_4 (dk_at dksX2_book_0 14 rfl rfl)
theorem dX2_book_15 : decode cX2_book 15 = .ok (.isub, 1) := dk_100 (dk_at dksX2_book_0 15 rfl rfl)
theorem dX2_book_16 : decode cX2_book 16 = .ok (.invokevirtual 102, 3) := dk_182 0 102 (dk_at dksX2_book_0 16 rfl rfl)
theorem dX2_book_19 : decode cX2_book 19 = .ok (.ifCond .eq 26, 3) := dk_153 0 26 (dk_at dksX2_book_0 19 rfl rfl)
theorem dX2_book_22 : decode cX2_book 22 = .ok (.aload_n 0, 1) := dk_42 (dk_at dksX2_book_0 22 rfl rfl)
theorem dX2_book_23 : decode cX2_book 23 = .ok (.iload_n 2, 1) := dk_28 (dk_at dksX2_book_0 23 rfl rfl)
theorem dX2_book_24 : decode cX2_book 24 = .ok (.iconst 0, 1) := dk_3 (dk_at dksX2_book_1 0 rfl rfl)
theorem dX2_book_25 : decode cX2_book 25 = .ok (.iconst 4, 1) := dk_7 (dk_at dksX2_book_1 1 rfl rfl)
theorem dX2_book_26 : decode cX2_book 26 = .ok (.invokevirtual 102, 3) := dk_182 0 102 (dk_at dksX2_book_1 2 rfl rfl)
theorem dX2_book_29 : decode cX2_book 29 = .ok (.ifCond .eq 16, 3) := dk_153 0 16 (dk_at dksX2_book_1 5 rfl rfl)
theorem dX2_book_32 : decode cX2_book 32 = .ok (.aload_n 0, 1) := dk_42 (dk_at dksX2_book_1 8 rfl rfl)
theorem dX2_book_33 : decode cX2_book 33 = .ok (.getfield 22, 3) := dk_180 0 22 (dk_at dksX2_book_1 9 rfl rfl)
theorem dX2_book_36 : decode cX2_book 36 = .ok (.iconst 5, 1) := dk_8 (dk_at dksX2_book_1 12 rfl rfl)
theorem dX2_book_37 : decode cX2_book 37 = .ok (.iload_n 1, 1) := dk_27 (dk_at dksX2_book_1 13 rfl rfl)
theorem dX2_book_38 : decode cX2_book 38 = .ok (.imul, 1) := dk_104 (dk_at dksX2_book_1 14 rfl rfl)
theorem dX2_book_39 : decode cX2_book 39 = .ok (.iload_n 2, 1) := dk_28 (dk_at dksX2_book_1 15 rfl rfl)
theorem dX2_book_40 : decode cX2_book 40 = .ok (.iadd, 1) := dk_96 (dk_at dksX2_book_1 16 rfl rfl)
theorem dX2_book_41 : decode cX2_book 41 = .ok (.iaload, 1) := dk_46 (dk_at dksX2_book_1 17 rfl rfl)
theorem dX2_book_42 : decode cX2_book 42 = .ok (.goto 4, 3) := dk_167 0 4 (dk_at dksX2_book_1 18 rfl rfl)
theorem dX2_book_45 : decode cX2_book 45 = .ok (.iconst (-1), 1) := dk_2 (dk_at dksX2_book_1 21 rfl rfl)
theorem dX2_book_46 : decode cX2_book 46 = .ok (.ireturn, 1) := dk_172 (dk_at dksX2_book_1 22 rfl rfl)
abbrev cX2_meets : ByteArray := prog_21_method_107_code
def yX2_meets : MethodName := ⟨RX2, "meets", "(I)I"⟩
def dkwX2_meets_6 : List UInt8 := [167, 255, 169, 42, 182, 1, 136, 27, 154, 0, 7, 28, 167, 0, 4, 29, 172]
abbrev dktX2_meets_6 : List UInt8 := dkwX2_meets_6 ++ []
def dkwX2_meets_5 : List UInt8 := [61, 167, 0, 11, 29, 2, 160, 0, 6, 21, 5, 62, 132, 5, 1, 167, 255, 195, 42, 182, 1, 121, 87]
abbrev dktX2_meets_5 : List UInt8 := dkwX2_meets_5 ++ dktX2_meets_6
def dkwX2_meets_4 : List UInt8 := [159, 0, 6, 167, 0, 33, 42, 21, 5, 182, 1, 151, 153, 0, 16, 28, 42, 21, 5, 7, 182, 1, 142, 96]
abbrev dktX2_meets_4 : List UInt8 := dkwX2_meets_4 ++ dktX2_meets_5
def dkwX2_meets_3 : List UInt8 := [21, 5, 42, 180, 1, 8, 162, 0, 58, 42, 21, 5, 6, 182, 1, 142, 42, 180, 0, 7, 3, 46]
abbrev dktX2_meets_3 : List UInt8 := dkwX2_meets_3 ++ dktX2_meets_4
def dkwX2_meets_2 : List UInt8 := [54, 4, 42, 182, 1, 130, 42, 180, 0, 7, 3, 46, 21, 4, 163, 0, 82, 42, 182, 1, 118, 3, 54, 5]
abbrev dktX2_meets_2 : List UInt8 := dkwX2_meets_2 ++ dktX2_meets_3
def dkwX2_meets_1 : List UInt8 := [180, 0, 7, 3, 46, 16, 99, 96, 54, 4, 42, 182, 1, 148, 21, 4, 162, 0, 9, 42, 182, 1, 148]
abbrev dktX2_meets_1 : List UInt8 := dkwX2_meets_1 ++ dktX2_meets_2
def dkwX2_meets_0 : List UInt8 := [42, 3, 181, 0, 86, 42, 27, 3, 4, 182, 0, 102, 154, 0, 5, 2, 172, 3, 61, 2, 62, 42]
abbrev dktX2_meets_0 : List UInt8 := dkwX2_meets_0 ++ dktX2_meets_1
theorem dksX2_meets_0 : cX2_meets.data.toList.drop 0 = dktX2_meets_0 := by decide +kernel
theorem dksX2_meets_1 : cX2_meets.data.toList.drop 22 = dktX2_meets_1 := dk_seg dksX2_meets_0 22 rfl rfl
theorem dksX2_meets_2 : cX2_meets.data.toList.drop 45 = dktX2_meets_2 := dk_seg dksX2_meets_1 23 rfl rfl
theorem dksX2_meets_3 : cX2_meets.data.toList.drop 69 = dktX2_meets_3 := dk_seg dksX2_meets_2 24 rfl rfl
theorem dksX2_meets_4 : cX2_meets.data.toList.drop 91 = dktX2_meets_4 := dk_seg dksX2_meets_3 22 rfl rfl
theorem dksX2_meets_5 : cX2_meets.data.toList.drop 115 = dktX2_meets_5 := dk_seg dksX2_meets_4 24 rfl rfl
theorem dksX2_meets_6 : cX2_meets.data.toList.drop 138 = dktX2_meets_6 := dk_seg dksX2_meets_5 23 rfl rfl
theorem dX2_meets_0 : decode cX2_meets 0 = .ok (.aload_n 0, 1) := dk_42 (dk_at dksX2_meets_0 0 rfl rfl)
theorem dX2_meets_1 : decode cX2_meets 1 = .ok (.iconst 0, 1) := dk_3 (dk_at dksX2_meets_0 1 rfl rfl)
theorem dX2_meets_2 : decode cX2_meets 2 = .ok (.putfield 86, 3) := dk_181 0 86 (dk_at dksX2_meets_0 2 rfl rfl)
theorem dX2_meets_5 : decode cX2_meets 5 = .ok (.aload_n 0, 1) := dk_42 (dk_at dksX2_meets_0 5 rfl rfl)
theorem dX2_meets_6 : decode cX2_meets 6 = .ok (.iload_n 1, 1) := dk_27 (dk_at dksX2_meets_0 6 rfl rfl)
theorem dX2_meets_7 : decode cX2_meets 7 = .ok (.iconst 0, 1) := dk_3 (dk_at dksX2_meets_0 7 rfl rfl)
theorem dX2_meets_8 : decode cX2_meets 8 = .ok (.iconst 1, 1) := dk_4 (dk_at dksX2_meets_0 8 rfl rfl)
theorem dX2_meets_9 : decode cX2_meets 9 = .ok (.invokevirtual 102, 3) := dk_182 0 102 (dk_at dksX2_meets_0 9 rfl rfl)
theorem dX2_meets_12 : decode cX2_meets 12 = .ok (.ifCond .ne 5, 3) := dk_154 0 5 (dk_at dksX2_meets_0 12 rfl rfl)
theorem dX2_meets_15 : decode cX2_meets 15 = .ok (.iconst (-1), 1) := dk_2 (dk_at dksX2_meets_0 15 rfl rfl)
theorem dX2_meets_16 : decode cX2_meets 16 = .ok (.ireturn, 1) := dk_172 (dk_at dksX2_meets_0 16 rfl rfl)
theorem dX2_meets_17 : decode cX2_meets 17 = .ok (.iconst 0, 1) := dk_3 (dk_at dksX2_meets_0 17 rfl rfl)
theorem dX2_meets_18 : decode cX2_meets 18 = .ok (.istore_n 2, 1) := dk_61 (dk_at dksX2_meets_0 18 rfl rfl)
theorem dX2_meets_19 : decode cX2_meets 19 = .ok (.iconst (-1), 1) := dk_2 (dk_at dksX2_meets_0 19 rfl rfl)
theorem dX2_meets_20 : decode cX2_meets 20 = .ok (.istore_n 3, 1) := dk_62 (dk_at dksX2_meets_0 20 rfl rfl)
theorem dX2_meets_21 : decode cX2_meets 21 = .ok (.aload_n 0, 1) := dk_42 (dk_at dksX2_meets_0 21 rfl rfl)
theorem dX2_meets_22 : decode cX2_meets 22 = .ok (.getfield 7, 3) := dk_180 0 7 (dk_at dksX2_meets_1 0 rfl rfl)
theorem dX2_meets_25 : decode cX2_meets 25 = .ok (.iconst 0, 1) := dk_3 (dk_at dksX2_meets_1 3 rfl rfl)
theorem dX2_meets_26 : decode cX2_meets 26 = .ok (.iaload, 1) := dk_46 (dk_at dksX2_meets_1 4 rfl rfl)
theorem dX2_meets_27 : decode cX2_meets 27 = .ok (.bipush 99, 2) := dk_16 99 (dk_at dksX2_meets_1 5 rfl rfl)
theorem dX2_meets_29 : decode cX2_meets 29 = .ok (.iadd, 1) := dk_96 (dk_at dksX2_meets_1 7 rfl rfl)
theorem dX2_meets_30 : decode cX2_meets 30 = .ok (.istore 4, 2) := dk_54 4 (dk_at dksX2_meets_1 8 rfl rfl)
theorem dX2_meets_32 : decode cX2_meets 32 = .ok (.aload_n 0, 1) := dk_42 (dk_at dksX2_meets_1 10 rfl rfl)
theorem dX2_meets_33 : decode cX2_meets 33 = .ok (.invokevirtual 404, 3) := dk_182 1 148 (dk_at dksX2_meets_1 11 rfl rfl)
theorem dX2_meets_36 : decode cX2_meets 36 = .ok (.iload 4, 2) := dk_21 4 (dk_at dksX2_meets_1 14 rfl rfl)
theorem dX2_meets_38 : decode cX2_meets 38 = .ok (.if_icmp .ge 9, 3) := dk_162 0 9 (dk_at dksX2_meets_1 16 rfl rfl)
theorem dX2_meets_41 : decode cX2_meets 41 = .ok (.aload_n 0, 1) := dk_42 (dk_at dksX2_meets_1 19 rfl rfl)
theorem dX2_meets_42 : decode cX2_meets 42 = .ok (.invokevirtual 404, 3) := dk_182 1 148 (dk_at dksX2_meets_1 20 rfl rfl)
theorem dX2_meets_45 : decode cX2_meets 45 = .ok (.istore 4, 2) := dk_54 4 (dk_at dksX2_meets_2 0 rfl rfl)
theorem dX2_meets_47 : decode cX2_meets 47 = .ok (.aload_n 0, 1) := dk_42 (dk_at dksX2_meets_2 2 rfl rfl)
theorem dX2_meets_48 : decode cX2_meets 48 = .ok (.invokevirtual 386, 3) := dk_182 1 130 (dk_at dksX2_meets_2 3 rfl rfl)
theorem dX2_meets_51 : decode cX2_meets 51 = .ok (.aload_n 0, 1) := dk_42 (dk_at dksX2_meets_2 6 rfl rfl)
theorem dX2_meets_52 : decode cX2_meets 52 = .ok (.getfield 7, 3) := dk_180 0 7 (dk_at dksX2_meets_2 7 rfl rfl)
theorem dX2_meets_55 : decode cX2_meets 55 = .ok (.iconst 0, 1) := dk_3 (dk_at dksX2_meets_2 10 rfl rfl)
theorem dX2_meets_56 : decode cX2_meets 56 = .ok (.iaload, 1) := dk_46 (dk_at dksX2_meets_2 11 rfl rfl)
theorem dX2_meets_57 : decode cX2_meets 57 = .ok (.iload 4, 2) := dk_21 4 (dk_at dksX2_meets_2 12 rfl rfl)
theorem dX2_meets_59 : decode cX2_meets 59 = .ok (.if_icmp .gt 82, 3) := dk_163 0 82 (dk_at dksX2_meets_2 14 rfl rfl)
theorem dX2_meets_62 : decode cX2_meets 62 = .ok (.aload_n 0, 1) := dk_42 (dk_at dksX2_meets_2 17 rfl rfl)
theorem dX2_meets_63 : decode cX2_meets 63 = .ok (.invokevirtual 374, 3) := dk_182 1 118 (dk_at dksX2_meets_2 18 rfl rfl)
theorem dX2_meets_66 : decode cX2_meets 66 = .ok (.iconst 0, 1) := dk_3 (dk_at dksX2_meets_2 21 rfl rfl)
theorem dX2_meets_67 : decode cX2_meets 67 = .ok (.istore 5, 2) := dk_54 5 (dk_at dksX2_meets_2 22 rfl rfl)
theorem dX2_meets_69 : decode cX2_meets 69 = .ok (.iload 5, 2) := dk_21 5 (dk_at dksX2_meets_3 0 rfl rfl)
theorem dX2_meets_71 : decode cX2_meets 71 = .ok (.aload_n 0, 1) := dk_42 (dk_at dksX2_meets_3 2 rfl rfl)
theorem dX2_meets_72 : decode cX2_meets 72 = .ok (.getfield 264, 3) := dk_180 1 8 (dk_at dksX2_meets_3 3 rfl rfl)
theorem dX2_meets_75 : decode cX2_meets 75 = .ok (.if_icmp .ge 58, 3) := dk_162 0 58 (dk_at dksX2_meets_3 6 rfl rfl)
theorem dX2_meets_78 : decode cX2_meets 78 = .ok (.aload_n 0, 1) := dk_42 (dk_at dksX2_meets_3 9 rfl rfl)
theorem dX2_meets_79 : decode cX2_meets 79 = .ok (.iload 5, 2) := dk_21 5 (dk_at dksX2_meets_3 10 rfl rfl)
theorem dX2_meets_81 : decode cX2_meets 81 = .ok (.iconst 3, 1) := dk_6 (dk_at dksX2_meets_3 12 rfl rfl)
theorem dX2_meets_82 : decode cX2_meets 82 = .ok (.invokevirtual 398, 3) := dk_182 1 142 (dk_at dksX2_meets_3 13 rfl rfl)
theorem dX2_meets_85 : decode cX2_meets 85 = .ok (.aload_n 0, 1) := dk_42 (dk_at dksX2_meets_3 16 rfl rfl)
theorem dX2_meets_86 : decode cX2_meets 86 = .ok (.getfield 7, 3) := dk_180 0 7 (dk_at dksX2_meets_3 17 rfl rfl)
theorem dX2_meets_89 : decode cX2_meets 89 = .ok (.iconst 0, 1) := dk_3 (dk_at dksX2_meets_3 20 rfl rfl)
theorem dX2_meets_90 : decode cX2_meets 90 = .ok (.iaload, 1) := dk_46 (dk_at dksX2_meets_3 21 rfl rfl)
theorem dX2_meets_91 : decode cX2_meets 91 = .ok (.if_icmp .eq 6, 3) := dk_159 0 6 (dk_at dksX2_meets_4 0 rfl rfl)
theorem dX2_meets_94 : decode cX2_meets 94 = .ok (.goto 33, 3) := dk_167 0 33 (dk_at dksX2_meets_4 3 rfl rfl)
theorem dX2_meets_97 : decode cX2_meets 97 = .ok (.aload_n 0, 1) := dk_42 (dk_at dksX2_meets_4 6 rfl rfl)
theorem dX2_meets_98 : decode cX2_meets 98 = .ok (.iload 5, 2) := dk_21 5 (dk_at dksX2_meets_4 7 rfl rfl)
theorem dX2_meets_100 : decode cX2_meets 100 = .ok (.invokevirtual 407, 3) := dk_182 1 151 (dk_at dksX2_meets_4 9 rfl rfl)
theorem dX2_meets_103 : decode cX2_meets 103 = .ok (.ifCond .eq 16, 3) := dk_153 0 16 (dk_at dksX2_meets_4 12 rfl rfl)
theorem dX2_meets_106 : decode cX2_meets 106 = .ok (.iload_n 2, 1) := dk_28 (dk_at dksX2_meets_4 15 rfl rfl)
theorem dX2_meets_107 : decode cX2_meets 107 = .ok (.aload_n 0, 1) := dk_42 (dk_at dksX2_meets_4 16 rfl rfl)
theorem dX2_meets_108 : decode cX2_meets 108 = .ok (.iload 5, 2) := dk_21 5 (dk_at dksX2_meets_4 17 rfl rfl)
theorem dX2_meets_110 : decode cX2_meets 110 = .ok (.iconst 4, 1) := dk_7 (dk_at dksX2_meets_4 19 rfl rfl)
theorem dX2_meets_111 : decode cX2_meets 111 = .ok (.invokevirtual 398, 3) := dk_182 1 142 (dk_at dksX2_meets_4 20 rfl rfl)
theorem dX2_meets_114 : decode cX2_meets 114 = .ok (.iadd, 1) := dk_96 (dk_at dksX2_meets_4 23 rfl rfl)
theorem dX2_meets_115 : decode cX2_meets 115 = .ok (.istore_n 2, 1) := dk_61 (dk_at dksX2_meets_5 0 rfl rfl)
theorem dX2_meets_116 : decode cX2_meets 116 = .ok (.goto 11, 3) := dk_167 0 11 (dk_at dksX2_meets_5 1 rfl rfl)
theorem dX2_meets_119 : decode cX2_meets 119 = .ok (.iload_n 3, 1) := dk_29 (dk_at dksX2_meets_5 4 rfl rfl)
theorem dX2_meets_120 : decode cX2_meets 120 = .ok (.iconst (-1), 1) := dk_2 (dk_at dksX2_meets_5 5 rfl rfl)
theorem dX2_meets_121 : decode cX2_meets 121 = .ok (.if_icmp .ne 6, 3) := dk_160 0 6 (dk_at dksX2_meets_5 6 rfl rfl)
theorem dX2_meets_124 : decode cX2_meets 124 = .ok (.iload 5, 2) := dk_21 5 (dk_at dksX2_meets_5 9 rfl rfl)
theorem dX2_meets_126 : decode cX2_meets 126 = .ok (.istore_n 3, 1) := dk_62 (dk_at dksX2_meets_5 11 rfl rfl)
theorem dX2_meets_127 : decode cX2_meets 127 = .ok (.iinc 5 1, 3) := dk_132 5 1 (dk_at dksX2_meets_5 12 rfl rfl)
theorem dX2_meets_130 : decode cX2_meets 130 = .ok (.goto (-61), 3) := dk_167 255 195 (dk_at dksX2_meets_5 15 rfl rfl)
theorem dX2_meets_133 : decode cX2_meets 133 = .ok (.aload_n 0, 1) := dk_42 (dk_at dksX2_meets_5 18 rfl rfl)
theorem dX2_meets_134 : decode cX2_meets 134 = .ok (.invokevirtual 377, 3) := dk_182 1 121 (dk_at dksX2_meets_5 19 rfl rfl)
theorem dX2_meets_137 : decode cX2_meets 137 = .ok (.pop, 1) := dk_87 (dk_at dksX2_meets_5 22 rfl rfl)
theorem dX2_meets_138 : decode cX2_meets 138 = .ok (.goto (-87), 3) := dk_167 255 169 (dk_at dksX2_meets_6 0 rfl rfl)
theorem dX2_meets_141 : decode cX2_meets 141 = .ok (.aload_n 0, 1) := dk_42 (dk_at dksX2_meets_6 3 rfl rfl)
theorem dX2_meets_142 : decode cX2_meets 142 = .ok (.invokevirtual 392, 3) := dk_182 1 136 (dk_at dksX2_meets_6 4 rfl rfl)
theorem dX2_meets_145 : decode cX2_meets 145 = .ok (.iload_n 1, 1) := dk_27 (dk_at dksX2_meets_6 7 rfl rfl)
theorem dX2_meets_146 : decode cX2_meets 146 = .ok (.ifCond .ne 7, 3) := dk_154 0 7 (dk_at dksX2_meets_6 8 rfl rfl)
theorem dX2_meets_149 : decode cX2_meets 149 = .ok (.iload_n 2, 1) := dk_28 (dk_at dksX2_meets_6 11 rfl rfl)
theorem dX2_meets_150 : decode cX2_meets 150 = .ok (.goto 4, 3) := dk_167 0 4 (dk_at dksX2_meets_6 12 rfl rfl)
theorem dX2_meets_153 : decode cX2_meets 153 = .ok (.iload_n 3, 1) := dk_29 (dk_at dksX2_meets_6 15 rfl rfl)
theorem dX2_meets_154 : decode cX2_meets 154 = .ok (.ireturn, 1) := dk_172 (dk_at dksX2_meets_6 16 rfl rfl)
abbrev cX2_lastWanted : ByteArray := prog_21_method_106_code
def yX2_lastWanted : MethodName := ⟨RX2, "lastWanted", "()I"⟩
def dkwX2_lastWanted_1 : List UInt8 := [132, 2, 1, 167, 255, 233, 27, 172]
abbrev dktX2_lastWanted_1 : List UInt8 := dkwX2_lastWanted_1 ++ []
def dkwX2_lastWanted_0 : List UInt8 := [2, 60, 3, 61, 28, 42, 180, 1, 8, 162, 0, 21, 42, 27, 42, 28, 6, 182, 1, 142, 182, 1, 145, 60]
abbrev dktX2_lastWanted_0 : List UInt8 := dkwX2_lastWanted_0 ++ dktX2_lastWanted_1
theorem dksX2_lastWanted_0 : cX2_lastWanted.data.toList.drop 0 = dktX2_lastWanted_0 := by decide +kernel
theorem dksX2_lastWanted_1 : cX2_lastWanted.data.toList.drop 24 = dktX2_lastWanted_1 := dk_seg dksX2_lastWanted_0 24 rfl rfl
theorem dX2_lastWanted_0 : decode cX2_lastWanted 0 = .ok (.iconst (-1), 1) := dk_2 (dk_at dksX2_lastWanted_0 0 rfl rfl)
theorem dX2_lastWanted_1 : decode cX2_lastWanted 1 = .ok (.istore_n 1, 1) := dk_60 (dk_at dksX2_lastWanted_0 1 rfl rfl)
theorem dX2_lastWanted_2 : decode cX2_lastWanted 2 = .ok (.iconst 0, 1) := dk_3 (dk_at dksX2_lastWanted_0 2 rfl rfl)
theorem dX2_lastWanted_3 : decode cX2_lastWanted 3 = .ok (.istore_n 2, 1) := dk_61 (dk_at dksX2_lastWanted_0 3 rfl rfl)
theorem dX2_lastWanted_4 : decode cX2_lastWanted 4 = .ok (.iload_n 2, 1) := dk_28 (dk_at dksX2_lastWanted_0 4 rfl rfl)
theorem dX2_lastWanted_5 : decode cX2_lastWanted 5 = .ok (.aload_n 0, 1) := dk_42 (dk_at dksX2_lastWanted_0 5 rfl rfl)
theorem dX2_lastWanted_6 : decode cX2_lastWanted 6 = .ok (.getfield 264, 3) := dk_180 1 8 (dk_at dksX2_lastWanted_0 6 rfl rfl)
theorem dX2_lastWanted_9 : decode cX2_lastWanted 9 = .ok (.if_icmp .ge 21, 3) := dk_162 0 21 (dk_at dksX2_lastWanted_0 9 rfl rfl)
theorem dX2_lastWanted_12 : decode cX2_lastWanted 12 = .ok (.aload_n 0, 1) := dk_42 (dk_at dksX2_lastWanted_0 12 rfl rfl)
theorem dX2_lastWanted_13 : decode cX2_lastWanted 13 = .ok (.iload_n 1, 1) := dk_27 (dk_at dksX2_lastWanted_0 13 rfl rfl)
theorem dX2_lastWanted_14 : decode cX2_lastWanted 14 = .ok (.aload_n 0, 1) := dk_42 (dk_at dksX2_lastWanted_0 14 rfl rfl)
theorem dX2_lastWanted_15 : decode cX2_lastWanted 15 = .ok (.iload_n 2, 1) := dk_28 (dk_at dksX2_lastWanted_0 15 rfl rfl)
theorem dX2_lastWanted_16 : decode cX2_lastWanted 16 = .ok (.iconst 3, 1) := dk_6 (dk_at dksX2_lastWanted_0 16 rfl rfl)
theorem dX2_lastWanted_17 : decode cX2_lastWanted 17 = .ok (.invokevirtual 398, 3) := dk_182 1 142 (dk_at dksX2_lastWanted_0 17 rfl rfl)
theorem dX2_lastWanted_20 : decode cX2_lastWanted 20 = .ok (.invokevirtual 401, 3) := dk_182 1 145 (dk_at dksX2_lastWanted_0 20 rfl rfl)
theorem dX2_lastWanted_23 : decode cX2_lastWanted 23 = .ok (.istore_n 1, 1) := dk_60 (dk_at dksX2_lastWanted_0 23 rfl rfl)
theorem dX2_lastWanted_24 : decode cX2_lastWanted 24 = .ok (.iinc 2 1, 3) := dk_132 2 1 (dk_at dksX2_lastWanted_1 0 rfl rfl)
theorem dX2_lastWanted_27 : decode cX2_lastWanted 27 = .ok (.goto (-23), 3) := dk_167 255 233 (dk_at dksX2_lastWanted_1 3 rfl rfl)
theorem dX2_lastWanted_30 : decode cX2_lastWanted 30 = .ok (.iload_n 1, 1) := dk_27 (dk_at dksX2_lastWanted_1 6 rfl rfl)
theorem dX2_lastWanted_31 : decode cX2_lastWanted 31 = .ok (.ireturn, 1) := dk_172 (dk_at dksX2_lastWanted_1 7 rfl rfl)
abbrev cX2_ofWant : ByteArray := prog_21_method_104_code
def yX2_ofWant : MethodName := ⟨RX2, "ofWant", "(II)I"⟩
def dkwX2_ofWant_0 : List UInt8 := [42, 180, 0, 62, 8, 27, 104, 28, 96, 46, 172]
abbrev dktX2_ofWant_0 : List UInt8 := dkwX2_ofWant_0 ++ []
theorem dksX2_ofWant_0 : cX2_ofWant.data.toList.drop 0 = dktX2_ofWant_0 := by decide +kernel
theorem dX2_ofWant_0 : decode cX2_ofWant 0 = .ok (.aload_n 0, 1) := dk_42 (dk_at dksX2_ofWant_0 0 rfl rfl)
theorem dX2_ofWant_1 : decode cX2_ofWant 1 = .ok (.getfield 62, 3) := dk_180 0 62 (dk_at dksX2_ofWant_0 1 rfl rfl)
theorem dX2_ofWant_4 : decode cX2_ofWant 4 = .ok (.iconst 5, 1) := dk_8 (dk_at dksX2_ofWant_0 4 rfl rfl)
theorem dX2_ofWant_5 : decode cX2_ofWant 5 = .ok (.iload_n 1, 1) := dk_27 (dk_at dksX2_ofWant_0 5 rfl rfl)
theorem dX2_ofWant_6 : decode cX2_ofWant 6 = .ok (.imul, 1) := dk_104 (dk_at dksX2_ofWant_0 6 rfl rfl)
theorem dX2_ofWant_7 : decode cX2_ofWant 7 = .ok (.iload_n 2, 1) := dk_28 (dk_at dksX2_ofWant_0 7 rfl rfl)
theorem dX2_ofWant_8 : decode cX2_ofWant 8 = .ok (.iadd, 1) := dk_96 (dk_at dksX2_ofWant_0 8 rfl rfl)
theorem dX2_ofWant_9 : decode cX2_ofWant 9 = .ok (.iaload, 1) := dk_46 (dk_at dksX2_ofWant_0 9 rfl rfl)
theorem dX2_ofWant_10 : decode cX2_ofWant 10 = .ok (.ireturn, 1) := dk_172 (dk_at dksX2_ofWant_0 10 rfl rfl)
abbrev cX2_greater : ByteArray := prog_21_method_5_code
def yX2_greater : MethodName := ⟨RX2, "greater", "(II)I"⟩
def dkwX2_greater_0 : List UInt8 := [27, 28, 164, 0, 7, 27, 167, 0, 4, 28, 172]
abbrev dktX2_greater_0 : List UInt8 := dkwX2_greater_0 ++ []
theorem dksX2_greater_0 : cX2_greater.data.toList.drop 0 = dktX2_greater_0 := by decide +kernel
theorem dX2_greater_0 : decode cX2_greater 0 = .ok (.iload_n 1, 1) := dk_27 (dk_at dksX2_greater_0 0 rfl rfl)
theorem dX2_greater_1 : decode cX2_greater 1 = .ok (.iload_n 2, 1) := dk_28 (dk_at dksX2_greater_0 1 rfl rfl)
theorem dX2_greater_2 : decode cX2_greater 2 = .ok (.if_icmp .le 7, 3) := dk_164 0 7 (dk_at dksX2_greater_0 2 rfl rfl)
theorem dX2_greater_5 : decode cX2_greater 5 = .ok (.iload_n 1, 1) := dk_27 (dk_at dksX2_greater_0 5 rfl rfl)
theorem dX2_greater_6 : decode cX2_greater 6 = .ok (.goto 4, 3) := dk_167 0 4 (dk_at dksX2_greater_0 6 rfl rfl)
theorem dX2_greater_9 : decode cX2_greater 9 = .ok (.iload_n 2, 1) := dk_28 (dk_at dksX2_greater_0 9 rfl rfl)
theorem dX2_greater_10 : decode cX2_greater 10 = .ok (.ireturn, 1) := dk_172 (dk_at dksX2_greater_0 10 rfl rfl)
abbrev cX2_isMet : ByteArray := prog_21_method_105_code
def yX2_isMet : MethodName := ⟨RX2, "isMet", "(I)Z"⟩
def dkwX2_isMet_2 : List UInt8 := [27, 4, 182, 1, 142, 161, 0, 7, 4, 167, 0, 4, 3, 172]
abbrev dktX2_isMet_2 : List UInt8 := dkwX2_isMet_2 ++ []
def dkwX2_isMet_1 : List UInt8 := [167, 0, 37, 3, 167, 0, 33, 42, 42, 27, 5, 182, 1, 142, 42, 27, 3, 182, 1, 142, 182, 1, 32, 42]
abbrev dktX2_isMet_1 : List UInt8 := dkwX2_isMet_1 ++ dktX2_isMet_2
def dkwX2_isMet_0 : List UInt8 := [42, 27, 3, 182, 1, 142, 8, 160, 0, 24, 42, 42, 27, 5, 182, 1, 142, 182, 1, 35, 154, 0, 7, 4]
abbrev dktX2_isMet_0 : List UInt8 := dkwX2_isMet_0 ++ dktX2_isMet_1
theorem dksX2_isMet_0 : cX2_isMet.data.toList.drop 0 = dktX2_isMet_0 := by decide +kernel
theorem dksX2_isMet_1 : cX2_isMet.data.toList.drop 24 = dktX2_isMet_1 := dk_seg dksX2_isMet_0 24 rfl rfl
theorem dksX2_isMet_2 : cX2_isMet.data.toList.drop 48 = dktX2_isMet_2 := dk_seg dksX2_isMet_1 24 rfl rfl
theorem dX2_isMet_0 : decode cX2_isMet 0 = .ok (.aload_n 0, 1) := dk_42 (dk_at dksX2_isMet_0 0 rfl rfl)
theorem dX2_isMet_1 : decode cX2_isMet 1 = .ok (.iload_n 1, 1) := dk_27 (dk_at dksX2_isMet_0 1 rfl rfl)
theorem dX2_isMet_2 : decode cX2_isMet 2 = .ok (.iconst 0, 1) := dk_3 (dk_at dksX2_isMet_0 2 rfl rfl)
theorem dX2_isMet_3 : decode cX2_isMet 3 = .ok (.invokevirtual 398, 3) := dk_182 1 142 (dk_at dksX2_isMet_0 3 rfl rfl)
theorem dX2_isMet_6 : decode cX2_isMet 6 = .ok (.iconst 5, 1) := dk_8 (dk_at dksX2_isMet_0 6 rfl rfl)
theorem dX2_isMet_7 : decode cX2_isMet 7 = .ok (.if_icmp .ne 24, 3) := dk_160 0 24 (dk_at dksX2_isMet_0 7 rfl rfl)
theorem dX2_isMet_10 : decode cX2_isMet 10 = .ok (.aload_n 0, 1) := dk_42 (dk_at dksX2_isMet_0 10 rfl rfl)
theorem dX2_isMet_11 : decode cX2_isMet 11 = .ok (.aload_n 0, 1) := dk_42 (dk_at dksX2_isMet_0 11 rfl rfl)
theorem dX2_isMet_12 : decode cX2_isMet 12 = .ok (.iload_n 1, 1) := dk_27 (dk_at dksX2_isMet_0 12 rfl rfl)
theorem dX2_isMet_13 : decode cX2_isMet 13 = .ok (.iconst 2, 1) := dk_5 (dk_at dksX2_isMet_0 13 rfl rfl)
theorem dX2_isMet_14 : decode cX2_isMet 14 = .ok (.invokevirtual 398, 3) := dk_182 1 142 (dk_at dksX2_isMet_0 14 rfl rfl)
theorem dX2_isMet_17 : decode cX2_isMet 17 = .ok (.invokevirtual 291, 3) := dk_182 1 35 (dk_at dksX2_isMet_0 17 rfl rfl)
theorem dX2_isMet_20 : decode cX2_isMet 20 = .ok (.ifCond .ne 7, 3) := dk_154 0 7 (dk_at dksX2_isMet_0 20 rfl rfl)
theorem dX2_isMet_23 : decode cX2_isMet 23 = .ok (.iconst 1, 1) := dk_4 (dk_at dksX2_isMet_0 23 rfl rfl)
theorem dX2_isMet_24 : decode cX2_isMet 24 = .ok (.goto 37, 3) := dk_167 0 37 (dk_at dksX2_isMet_1 0 rfl rfl)
theorem dX2_isMet_27 : decode cX2_isMet 27 = .ok (.iconst 0, 1) := dk_3 (dk_at dksX2_isMet_1 3 rfl rfl)
theorem dX2_isMet_28 : decode cX2_isMet 28 = .ok (.goto 33, 3) := dk_167 0 33 (dk_at dksX2_isMet_1 4 rfl rfl)
theorem dX2_isMet_31 : decode cX2_isMet 31 = .ok (.aload_n 0, 1) := dk_42 (dk_at dksX2_isMet_1 7 rfl rfl)
theorem dX2_isMet_32 : decode cX2_isMet 32 = .ok (.aload_n 0, 1) := dk_42 (dk_at dksX2_isMet_1 8 rfl rfl)
theorem dX2_isMet_33 : decode cX2_isMet 33 = .ok (.iload_n 1, 1) := dk_27 (dk_at dksX2_isMet_1 9 rfl rfl)
theorem dX2_isMet_34 : decode cX2_isMet 34 = .ok (.iconst 2, 1) := dk_5 (dk_at dksX2_isMet_1 10 rfl rfl)
theorem dX2_isMet_35 : decode cX2_isMet 35 = .ok (.invokevirtual 398, 3) := dk_182 1 142 (dk_at dksX2_isMet_1 11 rfl rfl)
theorem dX2_isMet_38 : decode cX2_isMet 38 = .ok (.aload_n 0, 1) := dk_42 (dk_at dksX2_isMet_1 14 rfl rfl)
theorem dX2_isMet_39 : decode cX2_isMet 39 = .ok (.iload_n 1, 1) := dk_27 (dk_at dksX2_isMet_1 15 rfl rfl)
theorem dX2_isMet_40 : decode cX2_isMet 40 = .ok (.iconst 0, 1) := dk_3 (dk_at dksX2_isMet_1 16 rfl rfl)
theorem dX2_isMet_41 : decode cX2_isMet 41 = .ok (.invokevirtual 398, 3) := dk_182 1 142 (dk_at dksX2_isMet_1 17 rfl rfl)
theorem dX2_isMet_44 : decode cX2_isMet 44 = .ok (.invokevirtual 288, 3) := dk_182 1 32 (dk_at dksX2_isMet_1 20 rfl rfl)
theorem dX2_isMet_47 : decode cX2_isMet 47 = .ok (.aload_n 0, 1) := dk_42 (dk_at dksX2_isMet_1 23 rfl rfl)
theorem dX2_isMet_48 : decode cX2_isMet 48 = .ok (.iload_n 1, 1) := dk_27 (dk_at dksX2_isMet_2 0 rfl rfl)
theorem dX2_isMet_49 : decode cX2_isMet 49 = .ok (.iconst 1, 1) := dk_4 (dk_at dksX2_isMet_2 1 rfl rfl)
theorem dX2_isMet_50 : decode cX2_isMet 50 = .ok (.invokevirtual 398, 3) := dk_182 1 142 (dk_at dksX2_isMet_2 2 rfl rfl)
theorem dX2_isMet_53 : decode cX2_isMet 53 = .ok (.if_icmp .lt 7, 3) := dk_161 0 7 (dk_at dksX2_isMet_2 5 rfl rfl)
theorem dX2_isMet_56 : decode cX2_isMet 56 = .ok (.iconst 1, 1) := dk_4 (dk_at dksX2_isMet_2 8 rfl rfl)
theorem dX2_isMet_57 : decode cX2_isMet 57 = .ok (.goto 4, 3) := dk_167 0 4 (dk_at dksX2_isMet_2 9 rfl rfl)
theorem dX2_isMet_60 : decode cX2_isMet 60 = .ok (.iconst 0, 1) := dk_3 (dk_at dksX2_isMet_2 12 rfl rfl)
theorem dX2_isMet_61 : decode cX2_isMet 61 = .ok (.ireturn, 1) := dk_172 (dk_at dksX2_isMet_2 13 rfl rfl)
abbrev cX2_calls : ByteArray := prog_21_method_110_code
def yX2_calls : MethodName := ⟨RX2, "calls", "(II)I"⟩
def dkwX2_calls_7 : List UInt8 := [160, 0, 8, 21, 6, 167, 0, 9, 42, 21, 6, 182, 1, 41, 172]
abbrev dktX2_calls_7 : List UInt8 := dkwX2_calls_7 ++ []
def dkwX2_calls_6 : List UInt8 := [21, 5, 161, 0, 7, 21, 7, 54, 6, 132, 7, 1, 167, 255, 194, 21, 6, 2, 159, 0, 8, 28, 4]
abbrev dktX2_calls_6 : List UInt8 := dkwX2_calls_6 ++ dktX2_calls_7
def dkwX2_calls_5 : List UInt8 := [159, 0, 18, 42, 21, 7, 182, 1, 41, 42, 21, 6, 182, 1, 41, 162, 0, 18, 42, 21, 7, 182, 1, 157]
abbrev dktX2_calls_5 : List UInt8 := dkwX2_calls_5 ++ dktX2_calls_6
def dkwX2_calls_4 : List UInt8 := [180, 0, 7, 7, 46, 120, 162, 0, 55, 21, 7, 21, 4, 2, 130, 126, 154, 0, 39, 21, 6, 2]
abbrev dktX2_calls_4 : List UInt8 := dkwX2_calls_4 ++ dktX2_calls_5
def dkwX2_calls_3 : List UInt8 := [29, 42, 27, 3, 182, 1, 142, 182, 1, 32, 100, 54, 5, 2, 54, 6, 3, 54, 7, 21, 7, 4, 42]
abbrev dktX2_calls_3 : List UInt8 := dkwX2_calls_3 ++ dktX2_calls_4
def dkwX2_calls_2 : List UInt8 := [182, 1, 142, 62, 42, 29, 42, 27, 3, 182, 1, 142, 182, 1, 154, 54, 4, 42, 27, 4, 182, 1, 142, 42]
abbrev dktX2_calls_2 : List UInt8 := dkwX2_calls_2 ++ dktX2_calls_3
def dkwX2_calls_1 : List UInt8 := [182, 1, 142, 8, 159, 0, 13, 42, 28, 3, 4, 182, 0, 102, 154, 0, 5, 2, 172, 42, 27, 5]
abbrev dktX2_calls_1 : List UInt8 := dkwX2_calls_1 ++ dktX2_calls_2
def dkwX2_calls_0 : List UInt8 := [42, 3, 181, 0, 86, 42, 27, 3, 42, 180, 1, 8, 4, 100, 182, 0, 102, 153, 0, 23, 42, 27, 3]
abbrev dktX2_calls_0 : List UInt8 := dkwX2_calls_0 ++ dktX2_calls_1
theorem dksX2_calls_0 : cX2_calls.data.toList.drop 0 = dktX2_calls_0 := by decide +kernel
theorem dksX2_calls_1 : cX2_calls.data.toList.drop 23 = dktX2_calls_1 := dk_seg dksX2_calls_0 23 rfl rfl
theorem dksX2_calls_2 : cX2_calls.data.toList.drop 45 = dktX2_calls_2 := dk_seg dksX2_calls_1 22 rfl rfl
theorem dksX2_calls_3 : cX2_calls.data.toList.drop 69 = dktX2_calls_3 := dk_seg dksX2_calls_2 24 rfl rfl
theorem dksX2_calls_4 : cX2_calls.data.toList.drop 92 = dktX2_calls_4 := dk_seg dksX2_calls_3 23 rfl rfl
theorem dksX2_calls_5 : cX2_calls.data.toList.drop 114 = dktX2_calls_5 := dk_seg dksX2_calls_4 22 rfl rfl
theorem dksX2_calls_6 : cX2_calls.data.toList.drop 138 = dktX2_calls_6 := dk_seg dksX2_calls_5 24 rfl rfl
theorem dksX2_calls_7 : cX2_calls.data.toList.drop 161 = dktX2_calls_7 := dk_seg dksX2_calls_6 23 rfl rfl
theorem dX2_calls_0 : decode cX2_calls 0 = .ok (.aload_n 0, 1) := dk_42 (dk_at dksX2_calls_0 0 rfl rfl)
theorem dX2_calls_1 : decode cX2_calls 1 = .ok (.iconst 0, 1) := dk_3 (dk_at dksX2_calls_0 1 rfl rfl)
theorem dX2_calls_2 : decode cX2_calls 2 = .ok (.putfield 86, 3) := dk_181 0 86 (dk_at dksX2_calls_0 2 rfl rfl)
theorem dX2_calls_5 : decode cX2_calls 5 = .ok (.aload_n 0, 1) := dk_42 (dk_at dksX2_calls_0 5 rfl rfl)
theorem dX2_calls_6 : decode cX2_calls 6 = .ok (.iload_n 1, 1) := dk_27 (dk_at dksX2_calls_0 6 rfl rfl)
theorem dX2_calls_7 : decode cX2_calls 7 = .ok (.iconst 0, 1) := dk_3 (dk_at dksX2_calls_0 7 rfl rfl)
theorem dX2_calls_8 : decode cX2_calls 8 = .ok (.aload_n 0, 1) := dk_42 (dk_at dksX2_calls_0 8 rfl rfl)
theorem dX2_calls_9 : decode cX2_calls 9 = .ok (.getfield 264, 3) := dk_180 1 8 (dk_at dksX2_calls_0 9 rfl rfl)
theorem dX2_calls_12 : decode cX2_calls 12 = .ok (.iconst 1, 1) := dk_4 (dk_at dksX2_calls_0 12 rfl rfl)
theorem dX2_calls_13 : decode cX2_calls 13 = .ok (.isub, 1) := dk_100 (dk_at dksX2_calls_0 13 rfl rfl)
theorem dX2_calls_14 : decode cX2_calls 14 = .ok (.invokevirtual 102, 3) := dk_182 0 102 (dk_at dksX2_calls_0 14 rfl rfl)
theorem dX2_calls_17 : decode cX2_calls 17 = .ok (.ifCond .eq 23, 3) := dk_153 0 23 (dk_at dksX2_calls_0 17 rfl rfl)
theorem dX2_calls_20 : decode cX2_calls 20 = .ok (.aload_n 0, 1) := dk_42 (dk_at dksX2_calls_0 20 rfl rfl)
theorem dX2_calls_21 : decode cX2_calls 21 = .ok (.iload_n 1, 1) := dk_27 (dk_at dksX2_calls_0 21 rfl rfl)
theorem dX2_calls_22 : decode cX2_calls 22 = .ok (.iconst 0, 1) := dk_3 (dk_at dksX2_calls_0 22 rfl rfl)
theorem dX2_calls_23 : decode cX2_calls 23 = .ok (.invokevirtual 398, 3) := dk_182 1 142 (dk_at dksX2_calls_1 0 rfl rfl)
theorem dX2_calls_26 : decode cX2_calls 26 = .ok (.iconst 5, 1) := dk_8 (dk_at dksX2_calls_1 3 rfl rfl)
theorem dX2_calls_27 : decode cX2_calls 27 = .ok (.if_icmp .eq 13, 3) := dk_159 0 13 (dk_at dksX2_calls_1 4 rfl rfl)
theorem dX2_calls_30 : decode cX2_calls 30 = .ok (.aload_n 0, 1) := dk_42 (dk_at dksX2_calls_1 7 rfl rfl)
theorem dX2_calls_31 : decode cX2_calls 31 = .ok (.iload_n 2, 1) := dk_28 (dk_at dksX2_calls_1 8 rfl rfl)
theorem dX2_calls_32 : decode cX2_calls 32 = .ok (.iconst 0, 1) := dk_3 (dk_at dksX2_calls_1 9 rfl rfl)
theorem dX2_calls_33 : decode cX2_calls 33 = .ok (.iconst 1, 1) := dk_4 (dk_at dksX2_calls_1 10 rfl rfl)
theorem dX2_calls_34 : decode cX2_calls 34 = .ok (.invokevirtual 102, 3) := dk_182 0 102 (dk_at dksX2_calls_1 11 rfl rfl)
theorem dX2_calls_37 : decode cX2_calls 37 = .ok (.ifCond .ne 5, 3) := dk_154 0 5 (dk_at dksX2_calls_1 14 rfl rfl)
theorem dX2_calls_40 : decode cX2_calls 40 = .ok (.iconst (-1), 1) := dk_2 (dk_at dksX2_calls_1 17 rfl rfl)
theorem dX2_calls_41 : decode cX2_calls 41 = .ok (.ireturn, 1) := dk_172 (dk_at dksX2_calls_1 18 rfl rfl)
theorem dX2_calls_42 : decode cX2_calls 42 = .ok (.aload_n 0, 1) := dk_42 (dk_at dksX2_calls_1 19 rfl rfl)
theorem dX2_calls_43 : decode cX2_calls 43 = .ok (.iload_n 1, 1) := dk_27 (dk_at dksX2_calls_1 20 rfl rfl)
theorem dX2_calls_44 : decode cX2_calls 44 = .ok (.iconst 2, 1) := dk_5 (dk_at dksX2_calls_1 21 rfl rfl)
theorem dX2_calls_45 : decode cX2_calls 45 = .ok (.invokevirtual 398, 3) := dk_182 1 142 (dk_at dksX2_calls_2 0 rfl rfl)
theorem dX2_calls_48 : decode cX2_calls 48 = .ok (.istore_n 3, 1) := dk_62 (dk_at dksX2_calls_2 3 rfl rfl)
theorem dX2_calls_49 : decode cX2_calls 49 = .ok (.aload_n 0, 1) := dk_42 (dk_at dksX2_calls_2 4 rfl rfl)
theorem dX2_calls_50 : decode cX2_calls 50 = .ok (.iload_n 3, 1) := dk_29 (dk_at dksX2_calls_2 5 rfl rfl)
theorem dX2_calls_51 : decode cX2_calls 51 = .ok (.aload_n 0, 1) := dk_42 (dk_at dksX2_calls_2 6 rfl rfl)
theorem dX2_calls_52 : decode cX2_calls 52 = .ok (.iload_n 1, 1) := dk_27 (dk_at dksX2_calls_2 7 rfl rfl)
theorem dX2_calls_53 : decode cX2_calls 53 = .ok (.iconst 0, 1) := dk_3 (dk_at dksX2_calls_2 8 rfl rfl)
theorem dX2_calls_54 : decode cX2_calls 54 = .ok (.invokevirtual 398, 3) := dk_182 1 142 (dk_at dksX2_calls_2 9 rfl rfl)
theorem dX2_calls_57 : decode cX2_calls 57 = .ok (.invokevirtual 410, 3) := dk_182 1 154 (dk_at dksX2_calls_2 12 rfl rfl)
theorem dX2_calls_60 : decode cX2_calls 60 = .ok (.istore 4, 2) := dk_54 4 (dk_at dksX2_calls_2 15 rfl rfl)
theorem dX2_calls_62 : decode cX2_calls 62 = .ok (.aload_n 0, 1) := dk_42 (dk_at dksX2_calls_2 17 rfl rfl)
theorem dX2_calls_63 : decode cX2_calls 63 = .ok (.iload_n 1, 1) := dk_27 (dk_at dksX2_calls_2 18 rfl rfl)
theorem dX2_calls_64 : decode cX2_calls 64 = .ok (.iconst 1, 1) := dk_4 (dk_at dksX2_calls_2 19 rfl rfl)
theorem dX2_calls_65 : decode cX2_calls 65 = .ok (.invokevirtual 398, 3) := dk_182 1 142 (dk_at dksX2_calls_2 20 rfl rfl)
theorem dX2_calls_68 : decode cX2_calls 68 = .ok (.aload_n 0, 1) := dk_42 (dk_at dksX2_calls_2 23 rfl rfl)
theorem dX2_calls_69 : decode cX2_calls 69 = .ok (.iload_n 3, 1) := dk_29 (dk_at dksX2_calls_3 0 rfl rfl)
theorem dX2_calls_70 : decode cX2_calls 70 = .ok (.aload_n 0, 1) := dk_42 (dk_at dksX2_calls_3 1 rfl rfl)
theorem dX2_calls_71 : decode cX2_calls 71 = .ok (.iload_n 1, 1) := dk_27 (dk_at dksX2_calls_3 2 rfl rfl)
theorem dX2_calls_72 : decode cX2_calls 72 = .ok (.iconst 0, 1) := dk_3 (dk_at dksX2_calls_3 3 rfl rfl)
theorem dX2_calls_73 : decode cX2_calls 73 = .ok (.invokevirtual 398, 3) := dk_182 1 142 (dk_at dksX2_calls_3 4 rfl rfl)
theorem dX2_calls_76 : decode cX2_calls 76 = .ok (.invokevirtual 288, 3) := dk_182 1 32 (dk_at dksX2_calls_3 7 rfl rfl)
theorem dX2_calls_79 : decode cX2_calls 79 = .ok (.isub, 1) := dk_100 (dk_at dksX2_calls_3 10 rfl rfl)
theorem dX2_calls_80 : decode cX2_calls 80 = .ok (.istore 5, 2) := dk_54 5 (dk_at dksX2_calls_3 11 rfl rfl)
theorem dX2_calls_82 : decode cX2_calls 82 = .ok (.iconst (-1), 1) := dk_2 (dk_at dksX2_calls_3 13 rfl rfl)
theorem dX2_calls_83 : decode cX2_calls 83 = .ok (.istore 6, 2) := dk_54 6 (dk_at dksX2_calls_3 14 rfl rfl)
theorem dX2_calls_85 : decode cX2_calls 85 = .ok (.iconst 0, 1) := dk_3 (dk_at dksX2_calls_3 16 rfl rfl)
theorem dX2_calls_86 : decode cX2_calls 86 = .ok (.istore 7, 2) := dk_54 7 (dk_at dksX2_calls_3 17 rfl rfl)
theorem dX2_calls_88 : decode cX2_calls 88 = .ok (.iload 7, 2) := dk_21 7 (dk_at dksX2_calls_3 19 rfl rfl)
theorem dX2_calls_90 : decode cX2_calls 90 = .ok (.iconst 1, 1) := dk_4 (dk_at dksX2_calls_3 21 rfl rfl)
theorem dX2_calls_91 : decode cX2_calls 91 = .ok (.aload_n 0, 1) := dk_42 (dk_at dksX2_calls_3 22 rfl rfl)
theorem dX2_calls_92 : decode cX2_calls 92 = .ok (.getfield 7, 3) := dk_180 0 7 (dk_at dksX2_calls_4 0 rfl rfl)
theorem dX2_calls_95 : decode cX2_calls 95 = .ok (.iconst 4, 1) := dk_7 (dk_at dksX2_calls_4 3 rfl rfl)
theorem dX2_calls_96 : decode cX2_calls 96 = .ok (.iaload, 1) := dk_46 (dk_at dksX2_calls_4 4 rfl rfl)
theorem dX2_calls_97 : decode cX2_calls 97 = .ok (.ishl, 1) := dk_120 (dk_at dksX2_calls_4 5 rfl rfl)
theorem dX2_calls_98 : decode cX2_calls 98 = .ok (.if_icmp .ge 55, 3) := dk_162 0 55 (dk_at dksX2_calls_4 6 rfl rfl)
theorem dX2_calls_101 : decode cX2_calls 101 = .ok (.iload 7, 2) := dk_21 7 (dk_at dksX2_calls_4 9 rfl rfl)
theorem dX2_calls_103 : decode cX2_calls 103 = .ok (.iload 4, 2) := dk_21 4 (dk_at dksX2_calls_4 11 rfl rfl)
theorem dX2_calls_105 : decode cX2_calls 105 = .ok (.iconst (-1), 1) := dk_2 (dk_at dksX2_calls_4 13 rfl rfl)
theorem dX2_calls_106 : decode cX2_calls 106 = .ok (.ixor, 1) := dk_130 (dk_at dksX2_calls_4 14 rfl rfl)
theorem dX2_calls_107 : decode cX2_calls 107 = .ok (.iand, 1) := dk_126 (dk_at dksX2_calls_4 15 rfl rfl)
theorem dX2_calls_108 : decode cX2_calls 108 = .ok (.ifCond .ne 39, 3) := dk_154 0 39 (dk_at dksX2_calls_4 16 rfl rfl)
theorem dX2_calls_111 : decode cX2_calls 111 = .ok (.iload 6, 2) := dk_21 6 (dk_at dksX2_calls_4 19 rfl rfl)
theorem dX2_calls_113 : decode cX2_calls 113 = .ok (.iconst (-1), 1) := dk_2 (dk_at dksX2_calls_4 21 rfl rfl)
theorem dX2_calls_114 : decode cX2_calls 114 = .ok (.if_icmp .eq 18, 3) := dk_159 0 18 (dk_at dksX2_calls_5 0 rfl rfl)
theorem dX2_calls_117 : decode cX2_calls 117 = .ok (.aload_n 0, 1) := dk_42 (dk_at dksX2_calls_5 3 rfl rfl)
theorem dX2_calls_118 : decode cX2_calls 118 = .ok (.iload 7, 2) := dk_21 7 (dk_at dksX2_calls_5 4 rfl rfl)
theorem dX2_calls_120 : decode cX2_calls 120 = .ok (.invokevirtual 297, 3) := dk_182 1 41 (dk_at dksX2_calls_5 6 rfl rfl)
theorem dX2_calls_123 : decode cX2_calls 123 = .ok (.aload_n 0, 1) := dk_42 (dk_at dksX2_calls_5 9 rfl rfl)
theorem dX2_calls_124 : decode cX2_calls 124 = .ok (.iload 6, 2) := dk_21 6 (dk_at dksX2_calls_5 10 rfl rfl)
theorem dX2_calls_126 : decode cX2_calls 126 = .ok (.invokevirtual 297, 3) := dk_182 1 41 (dk_at dksX2_calls_5 12 rfl rfl)
theorem dX2_calls_129 : decode cX2_calls 129 = .ok (.if_icmp .ge 18, 3) := dk_162 0 18 (dk_at dksX2_calls_5 15 rfl rfl)
theorem dX2_calls_132 : decode cX2_calls 132 = .ok (.aload_n 0, 1) := dk_42 (dk_at dksX2_calls_5 18 rfl rfl)
theorem dX2_calls_133 : decode cX2_calls 133 = .ok (.iload 7, 2) := dk_21 7 (dk_at dksX2_calls_5 19 rfl rfl)
theorem dX2_calls_135 : decode cX2_calls 135 = .ok (.invokevirtual 413, 3) := dk_182 1 157 (dk_at dksX2_calls_5 21 rfl rfl)
theorem dX2_calls_138 : decode cX2_calls 138 = .ok (.iload 5, 2) := dk_21 5 (dk_at dksX2_calls_6 0 rfl rfl)
theorem dX2_calls_140 : decode cX2_calls 140 = .ok (.if_icmp .lt 7, 3) := dk_161 0 7 (dk_at dksX2_calls_6 2 rfl rfl)
theorem dX2_calls_143 : decode cX2_calls 143 = .ok (.iload 7, 2) := dk_21 7 (dk_at dksX2_calls_6 5 rfl rfl)
theorem dX2_calls_145 : decode cX2_calls 145 = .ok (.istore 6, 2) := dk_54 6 (dk_at dksX2_calls_6 7 rfl rfl)
theorem dX2_calls_147 : decode cX2_calls 147 = .ok (.iinc 7 1, 3) := dk_132 7 1 (dk_at dksX2_calls_6 9 rfl rfl)
theorem dX2_calls_150 : decode cX2_calls 150 = .ok (.goto (-62), 3) := dk_167 255 194 (dk_at dksX2_calls_6 12 rfl rfl)
theorem dX2_calls_153 : decode cX2_calls 153 = .ok (.iload 6, 2) := dk_21 6 (dk_at dksX2_calls_6 15 rfl rfl)
theorem dX2_calls_155 : decode cX2_calls 155 = .ok (.iconst (-1), 1) := dk_2 (dk_at dksX2_calls_6 17 rfl rfl)
theorem dX2_calls_156 : decode cX2_calls 156 = .ok (.if_icmp .eq 8, 3) := dk_159 0 8 (dk_at dksX2_calls_6 18 rfl rfl)
theorem dX2_calls_159 : decode cX2_calls 159 = .ok (.iload_n 2, 1) := dk_28 (dk_at dksX2_calls_6 21 rfl rfl)
theorem dX2_calls_160 : decode cX2_calls 160 = .ok (.iconst 1, 1) := dk_4 (dk_at dksX2_calls_6 22 rfl rfl)
theorem dX2_calls_161 : decode cX2_calls 161 = .ok (.if_icmp .ne 8, 3) := dk_160 0 8 (dk_at dksX2_calls_7 0 rfl rfl)
theorem dX2_calls_164 : decode cX2_calls 164 = .ok (.iload 6, 2) := dk_21 6 (dk_at dksX2_calls_7 3 rfl rfl)
theorem dX2_calls_166 : decode cX2_calls 166 = .ok (.goto 9, 3) := dk_167 0 9 (dk_at dksX2_calls_7 5 rfl rfl)
theorem dX2_calls_169 : decode cX2_calls 169 = .ok (.aload_n 0, 1) := dk_42 (dk_at dksX2_calls_7 8 rfl rfl)
theorem dX2_calls_170 : decode cX2_calls 170 = .ok (.iload 6, 2) := dk_21 6 (dk_at dksX2_calls_7 9 rfl rfl)
theorem dX2_calls_172 : decode cX2_calls 172 = .ok (.invokevirtual 297, 3) := dk_182 1 41 (dk_at dksX2_calls_7 11 rfl rfl)
theorem dX2_calls_175 : decode cX2_calls 175 = .ok (.ireturn, 1) := dk_172 (dk_at dksX2_calls_7 14 rfl rfl)
abbrev cX2_callersAt : ByteArray := prog_21_method_109_code
def yX2_callersAt : MethodName := ⟨RX2, "callersAt", "(II)I"⟩
def dkwX2_callersAt_3 : List UInt8 := [172]
abbrev dktX2_callersAt_3 : List UInt8 := dkwX2_callersAt_3 ++ []
def dkwX2_callersAt_2 : List UInt8 := [21, 4, 42, 21, 4, 27, 182, 1, 62, 79, 29, 4, 21, 4, 120, 128, 62, 132, 4, 1, 167, 255, 194, 29]
abbrev dktX2_callersAt_2 : List UInt8 := dkwX2_callersAt_2 ++ dktX2_callersAt_3
def dkwX2_callersAt_1 : List UInt8 := [96, 46, 28, 160, 0, 37, 42, 21, 4, 27, 182, 1, 69, 154, 0, 6, 167, 0, 24, 42, 180, 0, 77]
abbrev dktX2_callersAt_1 : List UInt8 := dkwX2_callersAt_1 ++ dktX2_callersAt_2
def dkwX2_callersAt_0 : List UInt8 := [3, 62, 3, 54, 4, 21, 4, 42, 180, 0, 7, 7, 46, 162, 0, 57, 42, 180, 0, 7, 16, 45, 21, 4]
abbrev dktX2_callersAt_0 : List UInt8 := dkwX2_callersAt_0 ++ dktX2_callersAt_1
theorem dksX2_callersAt_0 : cX2_callersAt.data.toList.drop 0 = dktX2_callersAt_0 := by decide +kernel
theorem dksX2_callersAt_1 : cX2_callersAt.data.toList.drop 24 = dktX2_callersAt_1 := dk_seg dksX2_callersAt_0 24 rfl rfl
theorem dksX2_callersAt_2 : cX2_callersAt.data.toList.drop 47 = dktX2_callersAt_2 := dk_seg dksX2_callersAt_1 23 rfl rfl
theorem dksX2_callersAt_3 : cX2_callersAt.data.toList.drop 71 = dktX2_callersAt_3 := dk_seg dksX2_callersAt_2 24 rfl rfl
theorem dX2_callersAt_0 : decode cX2_callersAt 0 = .ok (.iconst 0, 1) := dk_3 (dk_at dksX2_callersAt_0 0 rfl rfl)
theorem dX2_callersAt_1 : decode cX2_callersAt 1 = .ok (.istore_n 3, 1) := dk_62 (dk_at dksX2_callersAt_0 1 rfl rfl)
theorem dX2_callersAt_2 : decode cX2_callersAt 2 = .ok (.iconst 0, 1) := dk_3 (dk_at dksX2_callersAt_0 2 rfl rfl)
theorem dX2_callersAt_3 : decode cX2_callersAt 3 = .ok (.istore 4, 2) := dk_54 4 (dk_at dksX2_callersAt_0 3 rfl rfl)
theorem dX2_callersAt_5 : decode cX2_callersAt 5 = .ok (.iload 4, 2) := dk_21 4 (dk_at dksX2_callersAt_0 5 rfl rfl)
theorem dX2_callersAt_7 : decode cX2_callersAt 7 = .ok (.aload_n 0, 1) := dk_42 (dk_at dksX2_callersAt_0 7 rfl rfl)
theorem dX2_callersAt_8 : decode cX2_callersAt 8 = .ok (.getfield 7, 3) := dk_180 0 7 (dk_at dksX2_callersAt_0 8 rfl rfl)
theorem dX2_callersAt_11 : decode cX2_callersAt 11 = .ok (.iconst 4, 1) := dk_7 (dk_at dksX2_callersAt_0 11 rfl rfl)
theorem dX2_callersAt_12 : decode cX2_callersAt 12 = .ok (.iaload, 1) := dk_46 (dk_at dksX2_callersAt_0 12 rfl rfl)
theorem dX2_callersAt_13 : decode cX2_callersAt 13 = .ok (.if_icmp .ge 57, 3) := dk_162 0 57 (dk_at dksX2_callersAt_0 13 rfl rfl)
theorem dX2_callersAt_16 : decode cX2_callersAt 16 = .ok (.aload_n 0, 1) := dk_42 (dk_at dksX2_callersAt_0 16 rfl rfl)
theorem dX2_callersAt_17 : decode cX2_callersAt 17 = .ok (.getfield 7, 3) := dk_180 0 7 (dk_at dksX2_callersAt_0 17 rfl rfl)
theorem dX2_callersAt_20 : decode cX2_callersAt 20 = .ok (.bipush 45, 2) := dk_16 45 (dk_at dksX2_callersAt_0 20 rfl rfl)
theorem dX2_callersAt_22 : decode cX2_callersAt 22 = .ok (.iload 4, 2) := dk_21 4 (dk_at dksX2_callersAt_0 22 rfl rfl)
theorem dX2_callersAt_24 : decode cX2_callersAt 24 = .ok (.iadd, 1) := dk_96 (dk_at dksX2_callersAt_1 0 rfl rfl)
theorem dX2_callersAt_25 : decode cX2_callersAt 25 = .ok (.iaload, 1) := dk_46 (dk_at dksX2_callersAt_1 1 rfl rfl)
theorem dX2_callersAt_26 : decode cX2_callersAt 26 = .ok (.iload_n 2, 1) := dk_28 (dk_at dksX2_callersAt_1 2 rfl rfl)
theorem dX2_callersAt_27 : decode cX2_callersAt 27 = .ok (.if_icmp .ne 37, 3) := dk_160 0 37 (dk_at dksX2_callersAt_1 3 rfl rfl)
theorem dX2_callersAt_30 : decode cX2_callersAt 30 = .ok (.aload_n 0, 1) := dk_42 (dk_at dksX2_callersAt_1 6 rfl rfl)
theorem dX2_callersAt_31 : decode cX2_callersAt 31 = .ok (.iload 4, 2) := dk_21 4 (dk_at dksX2_callersAt_1 7 rfl rfl)
theorem dX2_callersAt_33 : decode cX2_callersAt 33 = .ok (.iload_n 1, 1) := dk_27 (dk_at dksX2_callersAt_1 9 rfl rfl)
theorem dX2_callersAt_34 : decode cX2_callersAt 34 = .ok (.invokevirtual 325, 3) := dk_182 1 69 (dk_at dksX2_callersAt_1 10 rfl rfl)
theorem dX2_callersAt_37 : decode cX2_callersAt 37 = .ok (.ifCond .ne 6, 3) := dk_154 0 6 (dk_at dksX2_callersAt_1 13 rfl rfl)
theorem dX2_callersAt_40 : decode cX2_callersAt 40 = .ok (.goto 24, 3) := dk_167 0 24 (dk_at dksX2_callersAt_1 16 rfl rfl)
theorem dX2_callersAt_43 : decode cX2_callersAt 43 = .ok (.aload_n 0, 1) := dk_42 (dk_at dksX2_callersAt_1 19 rfl rfl)
theorem dX2_callersAt_44 : decode cX2_callersAt 44 = .ok (.getfield 77, 3) := dk_180 0 77 (dk_at dksX2_callersAt_1 20 rfl rfl)
theorem dX2_callersAt_47 : decode cX2_callersAt 47 = .ok (.iload 4, 2) := dk_21 4 (dk_at dksX2_callersAt_2 0 rfl rfl)
theorem dX2_callersAt_49 : decode cX2_callersAt 49 = .ok (.aload_n 0, 1) := dk_42 (dk_at dksX2_callersAt_2 2 rfl rfl)
theorem dX2_callersAt_50 : decode cX2_callersAt 50 = .ok (.iload 4, 2) := dk_21 4 (dk_at dksX2_callersAt_2 3 rfl rfl)
theorem dX2_callersAt_52 : decode cX2_callersAt 52 = .ok (.iload_n 1, 1) := dk_27 (dk_at dksX2_callersAt_2 5 rfl rfl)
theorem dX2_callersAt_53 : decode cX2_callersAt 53 = .ok (.invokevirtual 318, 3) := dk_182 1 62 (dk_at dksX2_callersAt_2 6 rfl rfl)
theorem dX2_callersAt_56 : decode cX2_callersAt 56 = .ok (.iastore, 1) := dk_79 (dk_at dksX2_callersAt_2 9 rfl rfl)
theorem dX2_callersAt_57 : decode cX2_callersAt 57 = .ok (.iload_n 3, 1) := dk_29 (dk_at dksX2_callersAt_2 10 rfl rfl)
theorem dX2_callersAt_58 : decode cX2_callersAt 58 = .ok (.iconst 1, 1) := dk_4 (dk_at dksX2_callersAt_2 11 rfl rfl)
theorem dX2_callersAt_59 : decode cX2_callersAt 59 = .ok (.iload 4, 2) := dk_21 4 (dk_at dksX2_callersAt_2 12 rfl rfl)
theorem dX2_callersAt_61 : decode cX2_callersAt 61 = .ok (.ishl, 1) := dk_120 (dk_at dksX2_callersAt_2 14 rfl rfl)
theorem dX2_callersAt_62 : decode cX2_callersAt 62 = .ok (.ior, 1) := dk_128 (dk_at dksX2_callersAt_2 15 rfl rfl)
theorem dX2_callersAt_63 : decode cX2_callersAt 63 = .ok (.istore_n 3, 1) := dk_62 (dk_at dksX2_callersAt_2 16 rfl rfl)
theorem dX2_callersAt_64 : decode cX2_callersAt 64 = .ok (.iinc 4 1, 3) := dk_132 4 1 (dk_at dksX2_callersAt_2 17 rfl rfl)
theorem dX2_callersAt_67 : decode cX2_callersAt 67 = .ok (.goto (-62), 3) := dk_167 255 194 (dk_at dksX2_callersAt_2 20 rfl rfl)
theorem dX2_callersAt_70 : decode cX2_callersAt 70 = .ok (.iload_n 3, 1) := dk_29 (dk_at dksX2_callersAt_2 23 rfl rfl)
theorem dX2_callersAt_71 : decode cX2_callersAt 71 = .ok (.ireturn, 1) := dk_172 (dk_at dksX2_callersAt_3 0 rfl rfl)
abbrev cX2_sumOf : ByteArray := prog_21_method_108_code
def yX2_sumOf : MethodName := ⟨RX2, "sumOf", "(I)I"⟩
def dkwX2_sumOf_1 : List UInt8 := [42, 180, 0, 77, 29, 46, 96, 61, 132, 3, 1, 167, 255, 225, 28, 172]
abbrev dktX2_sumOf_1 : List UInt8 := dkwX2_sumOf_1 ++ []
def dkwX2_sumOf_0 : List UInt8 := [3, 61, 3, 62, 29, 42, 180, 0, 7, 7, 46, 162, 0, 27, 27, 29, 122, 4, 126, 4, 160, 0, 12, 28]
abbrev dktX2_sumOf_0 : List UInt8 := dkwX2_sumOf_0 ++ dktX2_sumOf_1
theorem dksX2_sumOf_0 : cX2_sumOf.data.toList.drop 0 = dktX2_sumOf_0 := by decide +kernel
theorem dksX2_sumOf_1 : cX2_sumOf.data.toList.drop 24 = dktX2_sumOf_1 := dk_seg dksX2_sumOf_0 24 rfl rfl
theorem dX2_sumOf_0 : decode cX2_sumOf 0 = .ok (.iconst 0, 1) := dk_3 (dk_at dksX2_sumOf_0 0 rfl rfl)
theorem dX2_sumOf_1 : decode cX2_sumOf 1 = .ok (.istore_n 2, 1) := dk_61 (dk_at dksX2_sumOf_0 1 rfl rfl)
theorem dX2_sumOf_2 : decode cX2_sumOf 2 = .ok (.iconst 0, 1) := dk_3 (dk_at dksX2_sumOf_0 2 rfl rfl)
theorem dX2_sumOf_3 : decode cX2_sumOf 3 = .ok (.istore_n 3, 1) := dk_62 (dk_at dksX2_sumOf_0 3 rfl rfl)
theorem dX2_sumOf_4 : decode cX2_sumOf 4 = .ok (.iload_n 3, 1) := dk_29 (dk_at dksX2_sumOf_0 4 rfl rfl)
theorem dX2_sumOf_5 : decode cX2_sumOf 5 = .ok (.aload_n 0, 1) := dk_42 (dk_at dksX2_sumOf_0 5 rfl rfl)
theorem dX2_sumOf_6 : decode cX2_sumOf 6 = .ok (.getfield 7, 3) := dk_180 0 7 (dk_at dksX2_sumOf_0 6 rfl rfl)
theorem dX2_sumOf_9 : decode cX2_sumOf 9 = .ok (.iconst 4, 1) := dk_7 (dk_at dksX2_sumOf_0 9 rfl rfl)
theorem dX2_sumOf_10 : decode cX2_sumOf 10 = .ok (.iaload, 1) := dk_46 (dk_at dksX2_sumOf_0 10 rfl rfl)
theorem dX2_sumOf_11 : decode cX2_sumOf 11 = .ok (.if_icmp .ge 27, 3) := dk_162 0 27 (dk_at dksX2_sumOf_0 11 rfl rfl)
theorem dX2_sumOf_14 : decode cX2_sumOf 14 = .ok (.iload_n 1, 1) := dk_27 (dk_at dksX2_sumOf_0 14 rfl rfl)
theorem dX2_sumOf_15 : decode cX2_sumOf 15 = .ok (.iload_n 3, 1) := dk_29 (dk_at dksX2_sumOf_0 15 rfl rfl)
theorem dX2_sumOf_16 : decode cX2_sumOf 16 = .ok (.ishr, 1) := dk_122 (dk_at dksX2_sumOf_0 16 rfl rfl)
theorem dX2_sumOf_17 : decode cX2_sumOf 17 = .ok (.iconst 1, 1) := dk_4 (dk_at dksX2_sumOf_0 17 rfl rfl)
theorem dX2_sumOf_18 : decode cX2_sumOf 18 = .ok (.iand, 1) := dk_126 (dk_at dksX2_sumOf_0 18 rfl rfl)
theorem dX2_sumOf_19 : decode cX2_sumOf 19 = .ok (.iconst 1, 1) := dk_4 (dk_at dksX2_sumOf_0 19 rfl rfl)
theorem dX2_sumOf_20 : decode cX2_sumOf 20 = .ok (.if_icmp .ne 12, 3) := dk_160 0 12 (dk_at dksX2_sumOf_0 20 rfl rfl)
theorem dX2_sumOf_23 : decode cX2_sumOf 23 = .ok (.iload_n 2, 1) := dk_28 (dk_at dksX2_sumOf_0 23 rfl rfl)
theorem dX2_sumOf_24 : decode cX2_sumOf 24 = .ok (.aload_n 0, 1) := dk_42 (dk_at dksX2_sumOf_1 0 rfl rfl)
theorem dX2_sumOf_25 : decode cX2_sumOf 25 = .ok (.getfield 77, 3) := dk_180 0 77 (dk_at dksX2_sumOf_1 1 rfl rfl)
theorem dX2_sumOf_28 : decode cX2_sumOf 28 = .ok (.iload_n 3, 1) := dk_29 (dk_at dksX2_sumOf_1 4 rfl rfl)
theorem dX2_sumOf_29 : decode cX2_sumOf 29 = .ok (.iaload, 1) := dk_46 (dk_at dksX2_sumOf_1 5 rfl rfl)
theorem dX2_sumOf_30 : decode cX2_sumOf 30 = .ok (.iadd, 1) := dk_96 (dk_at dksX2_sumOf_1 6 rfl rfl)
theorem dX2_sumOf_31 : decode cX2_sumOf 31 = .ok (.istore_n 2, 1) := dk_61 (dk_at dksX2_sumOf_1 7 rfl rfl)
theorem dX2_sumOf_32 : decode cX2_sumOf 32 = .ok (.iinc 3 1, 3) := dk_132 3 1 (dk_at dksX2_sumOf_1 8 rfl rfl)
theorem dX2_sumOf_35 : decode cX2_sumOf 35 = .ok (.goto (-31), 3) := dk_167 255 225 (dk_at dksX2_sumOf_1 11 rfl rfl)
theorem dX2_sumOf_38 : decode cX2_sumOf 38 = .ok (.iload_n 2, 1) := dk_28 (dk_at dksX2_sumOf_1 14 rfl rfl)
theorem dX2_sumOf_39 : decode cX2_sumOf 39 = .ok (.ireturn, 1) := dk_172 (dk_at dksX2_sumOf_1 15 rfl rfl)
abbrev cX2_boats : ByteArray := prog_21_method_117_code
def yX2_boats : MethodName := ⟨RX2, "boats", "(II)I"⟩
def dkwX2_boats_4 : List UInt8 := [42, 180, 0, 80, 28, 16, 10, 100, 46, 172]
abbrev dktX2_boats_4 : List UInt8 := dkwX2_boats_4 ++ []
def dkwX2_boats_3 : List UInt8 := [167, 255, 243, 28, 154, 0, 5, 29, 172, 42, 28, 16, 10, 100, 182, 1, 59, 153, 0, 7, 2, 167, 0, 12]
abbrev dktX2_boats_3 : List UInt8 := dkwX2_boats_3 ++ dktX2_boats_4
def dkwX2_boats_2 : List UInt8 := [182, 1, 41, 27, 96, 4, 100, 27, 108, 62, 42, 29, 27, 182, 1, 175, 154, 0, 10, 29, 4, 96, 62]
abbrev dktX2_boats_2 : List UInt8 := dkwX2_boats_2 ++ dktX2_boats_3
def dkwX2_boats_1 : List UInt8 := [16, 9, 42, 180, 0, 7, 7, 46, 96, 182, 0, 102, 154, 0, 5, 2, 172, 42, 42, 182, 1, 172]
abbrev dktX2_boats_1 : List UInt8 := dkwX2_boats_1 ++ dktX2_boats_2
def dkwX2_boats_0 : List UInt8 := [42, 3, 181, 0, 86, 42, 27, 4, 16, 6, 182, 0, 102, 153, 0, 26, 28, 153, 0, 24, 42, 28, 16, 10]
abbrev dktX2_boats_0 : List UInt8 := dkwX2_boats_0 ++ dktX2_boats_1
theorem dksX2_boats_0 : cX2_boats.data.toList.drop 0 = dktX2_boats_0 := by decide +kernel
theorem dksX2_boats_1 : cX2_boats.data.toList.drop 24 = dktX2_boats_1 := dk_seg dksX2_boats_0 24 rfl rfl
theorem dksX2_boats_2 : cX2_boats.data.toList.drop 46 = dktX2_boats_2 := dk_seg dksX2_boats_1 22 rfl rfl
theorem dksX2_boats_3 : cX2_boats.data.toList.drop 69 = dktX2_boats_3 := dk_seg dksX2_boats_2 23 rfl rfl
theorem dksX2_boats_4 : cX2_boats.data.toList.drop 93 = dktX2_boats_4 := dk_seg dksX2_boats_3 24 rfl rfl
theorem dX2_boats_0 : decode cX2_boats 0 = .ok (.aload_n 0, 1) := dk_42 (dk_at dksX2_boats_0 0 rfl rfl)
theorem dX2_boats_1 : decode cX2_boats 1 = .ok (.iconst 0, 1) := dk_3 (dk_at dksX2_boats_0 1 rfl rfl)
theorem dX2_boats_2 : decode cX2_boats 2 = .ok (.putfield 86, 3) := dk_181 0 86 (dk_at dksX2_boats_0 2 rfl rfl)
theorem dX2_boats_5 : decode cX2_boats 5 = .ok (.aload_n 0, 1) := dk_42 (dk_at dksX2_boats_0 5 rfl rfl)
theorem dX2_boats_6 : decode cX2_boats 6 = .ok (.iload_n 1, 1) := dk_27 (dk_at dksX2_boats_0 6 rfl rfl)
theorem dX2_boats_7 : decode cX2_boats 7 = .ok (.iconst 1, 1) := dk_4 (dk_at dksX2_boats_0 7 rfl rfl)
theorem dX2_boats_8 : decode cX2_boats 8 = .ok (.bipush 6, 2) := dk_16 6 (dk_at dksX2_boats_0 8 rfl rfl)
theorem dX2_boats_10 : decode cX2_boats 10 = .ok (.invokevirtual 102, 3) := dk_182 0 102 (dk_at dksX2_boats_0 10 rfl rfl)
theorem dX2_boats_13 : decode cX2_boats 13 = .ok (.ifCond .eq 26, 3) := dk_153 0 26 (dk_at dksX2_boats_0 13 rfl rfl)
theorem dX2_boats_16 : decode cX2_boats 16 = .ok (.iload_n 2, 1) := dk_28 (dk_at dksX2_boats_0 16 rfl rfl)
theorem dX2_boats_17 : decode cX2_boats 17 = .ok (.ifCond .eq 24, 3) := dk_153 0 24 (dk_at dksX2_boats_0 17 rfl rfl)
theorem dX2_boats_20 : decode cX2_boats 20 = .ok (.aload_n 0, 1) := dk_42 (dk_at dksX2_boats_0 20 rfl rfl)
theorem dX2_boats_21 : decode cX2_boats 21 = .ok (.iload_n 2, 1) := dk_28 (dk_at dksX2_boats_0 21 rfl rfl)
theorem dX2_boats_22 : decode cX2_boats 22 = .ok (.bipush 10, 2) := dk_16 10 (dk_at dksX2_boats_0 22 rfl rfl)
theorem dX2_boats_24 : decode cX2_boats 24 = .ok (.bipush 9, 2) := dk_16 9 (dk_at dksX2_boats_1 0 rfl rfl)
theorem dX2_boats_26 : decode cX2_boats 26 = .ok (.aload_n 0, 1) := dk_42 (dk_at dksX2_boats_1 2 rfl rfl)
theorem dX2_boats_27 : decode cX2_boats 27 = .ok (.getfield 7, 3) := dk_180 0 7 (dk_at dksX2_boats_1 3 rfl rfl)
theorem dX2_boats_30 : decode cX2_boats 30 = .ok (.iconst 4, 1) := dk_7 (dk_at dksX2_boats_1 6 rfl rfl)
theorem dX2_boats_31 : decode cX2_boats 31 = .ok (.iaload, 1) := dk_46 (dk_at dksX2_boats_1 7 rfl rfl)
theorem dX2_boats_32 : decode cX2_boats 32 = .ok (.iadd, 1) := dk_96 (dk_at dksX2_boats_1 8 rfl rfl)
theorem dX2_boats_33 : decode cX2_boats 33 = .ok (.invokevirtual 102, 3) := dk_182 0 102 (dk_at dksX2_boats_1 9 rfl rfl)
theorem dX2_boats_36 : decode cX2_boats 36 = .ok (.ifCond .ne 5, 3) := dk_154 0 5 (dk_at dksX2_boats_1 12 rfl rfl)
theorem dX2_boats_39 : decode cX2_boats 39 = .ok (.iconst (-1), 1) := dk_2 (dk_at dksX2_boats_1 15 rfl rfl)
theorem dX2_boats_40 : decode cX2_boats 40 = .ok (.ireturn, 1) := dk_172 (dk_at dksX2_boats_1 16 rfl rfl)
theorem dX2_boats_41 : decode cX2_boats 41 = .ok (.aload_n 0, 1) := dk_42 (dk_at dksX2_boats_1 17 rfl rfl)
theorem dX2_boats_42 : decode cX2_boats 42 = .ok (.aload_n 0, 1) := dk_42 (dk_at dksX2_boats_1 18 rfl rfl)
theorem dX2_boats_43 : decode cX2_boats 43 = .ok (.invokevirtual 428, 3) := dk_182 1 172 (dk_at dksX2_boats_1 19 rfl rfl)
theorem dX2_boats_46 : decode cX2_boats 46 = .ok (.invokevirtual 297, 3) := dk_182 1 41 (dk_at dksX2_boats_2 0 rfl rfl)
theorem dX2_boats_49 : decode cX2_boats 49 = .ok (.iload_n 1, 1) := dk_27 (dk_at dksX2_boats_2 3 rfl rfl)
theorem dX2_boats_50 : decode cX2_boats 50 = .ok (.iadd, 1) := dk_96 (dk_at dksX2_boats_2 4 rfl rfl)
theorem dX2_boats_51 : decode cX2_boats 51 = .ok (.iconst 1, 1) := dk_4 (dk_at dksX2_boats_2 5 rfl rfl)
theorem dX2_boats_52 : decode cX2_boats 52 = .ok (.isub, 1) := dk_100 (dk_at dksX2_boats_2 6 rfl rfl)
theorem dX2_boats_53 : decode cX2_boats 53 = .ok (.iload_n 1, 1) := dk_27 (dk_at dksX2_boats_2 7 rfl rfl)
theorem dX2_boats_54 : decode cX2_boats 54 = .ok (.idiv, 1) := dk_108 (dk_at dksX2_boats_2 8 rfl rfl)
theorem dX2_boats_55 : decode cX2_boats 55 = .ok (.istore_n 3, 1) := dk_62 (dk_at dksX2_boats_2 9 rfl rfl)
theorem dX2_boats_56 : decode cX2_boats 56 = .ok (.aload_n 0, 1) := dk_42 (dk_at dksX2_boats_2 10 rfl rfl)
theorem dX2_boats_57 : decode cX2_boats 57 = .ok (.iload_n 3, 1) := dk_29 (dk_at dksX2_boats_2 11 rfl rfl)
theorem dX2_boats_58 : decode cX2_boats 58 = .ok (.iload_n 1, 1) := dk_27 (dk_at dksX2_boats_2 12 rfl rfl)
theorem dX2_boats_59 : decode cX2_boats 59 = .ok (.invokevirtual 431, 3) := dk_182 1 175 (dk_at dksX2_boats_2 13 rfl rfl)
theorem dX2_boats_62 : decode cX2_boats 62 = .ok (.ifCond .ne 10, 3) := dk_154 0 10 (dk_at dksX2_boats_2 16 rfl rfl)
theorem dX2_boats_65 : decode cX2_boats 65 = .ok (.iload_n 3, 1) := dk_29 (dk_at dksX2_boats_2 19 rfl rfl)
theorem dX2_boats_66 : decode cX2_boats 66 = .ok (.iconst 1, 1) := dk_4 (dk_at dksX2_boats_2 20 rfl rfl)
theorem dX2_boats_67 : decode cX2_boats 67 = .ok (.iadd, 1) := dk_96 (dk_at dksX2_boats_2 21 rfl rfl)
theorem dX2_boats_68 : decode cX2_boats 68 = .ok (.istore_n 3, 1) := dk_62 (dk_at dksX2_boats_2 22 rfl rfl)
theorem dX2_boats_69 : decode cX2_boats 69 = .ok (.goto (-13), 3) := dk_167 255 243 (dk_at dksX2_boats_3 0 rfl rfl)
theorem dX2_boats_72 : decode cX2_boats 72 = .ok (.iload_n 2, 1) := dk_28 (dk_at dksX2_boats_3 3 rfl rfl)
theorem dX2_boats_73 : decode cX2_boats 73 = .ok (.ifCond .ne 5, 3) := dk_154 0 5 (dk_at dksX2_boats_3 4 rfl rfl)
theorem dX2_boats_76 : decode cX2_boats 76 = .ok (.iload_n 3, 1) := dk_29 (dk_at dksX2_boats_3 7 rfl rfl)
theorem dX2_boats_77 : decode cX2_boats 77 = .ok (.ireturn, 1) := dk_172 (dk_at dksX2_boats_3 8 rfl rfl)
theorem dX2_boats_78 : decode cX2_boats 78 = .ok (.aload_n 0, 1) := dk_42 (dk_at dksX2_boats_3 9 rfl rfl)
theorem dX2_boats_79 : decode cX2_boats 79 = .ok (.iload_n 2, 1) := dk_28 (dk_at dksX2_boats_3 10 rfl rfl)
theorem dX2_boats_80 : decode cX2_boats 80 = .ok (.bipush 10, 2) := dk_16 10 (dk_at dksX2_boats_3 11 rfl rfl)
theorem dX2_boats_82 : decode cX2_boats 82 = .ok (.isub, 1) := dk_100 (dk_at dksX2_boats_3 13 rfl rfl)
theorem dX2_boats_83 : decode cX2_boats 83 = .ok (.invokevirtual 315, 3) := dk_182 1 59 (dk_at dksX2_boats_3 14 rfl rfl)
theorem dX2_boats_86 : decode cX2_boats 86 = .ok (.ifCond .eq 7, 3) := dk_153 0 7 (dk_at dksX2_boats_3 17 rfl rfl)
theorem dX2_boats_89 : decode cX2_boats 89 = .ok (.iconst (-1), 1) := dk_2 (dk_at dksX2_boats_3 20 rfl rfl)
theorem dX2_boats_90 : decode cX2_boats 90 = .ok (.goto 12, 3) := dk_167 0 12 (dk_at dksX2_boats_3 21 rfl rfl)
theorem dX2_boats_93 : decode cX2_boats 93 = .ok (.aload_n 0, 1) := dk_42 (dk_at dksX2_boats_4 0 rfl rfl)
theorem dX2_boats_94 : decode cX2_boats 94 = .ok (.getfield 80, 3) := dk_180 0 80 (dk_at dksX2_boats_4 1 rfl rfl)
theorem dX2_boats_97 : decode cX2_boats 97 = .ok (.iload_n 2, 1) := dk_28 (dk_at dksX2_boats_4 4 rfl rfl)
theorem dX2_boats_98 : decode cX2_boats 98 = .ok (.bipush 10, 2) := dk_16 10 (dk_at dksX2_boats_4 5 rfl rfl)
theorem dX2_boats_100 : decode cX2_boats 100 = .ok (.isub, 1) := dk_100 (dk_at dksX2_boats_4 7 rfl rfl)
theorem dX2_boats_101 : decode cX2_boats 101 = .ok (.iaload, 1) := dk_46 (dk_at dksX2_boats_4 8 rfl rfl)
theorem dX2_boats_102 : decode cX2_boats 102 = .ok (.ireturn, 1) := dk_172 (dk_at dksX2_boats_4 9 rfl rfl)
abbrev cX2_living : ByteArray := prog_21_method_111_code
def yX2_living : MethodName := ⟨RX2, "living", "()I"⟩
def dkwX2_living_1 : List UInt8 := [28, 120, 128, 60, 132, 2, 1, 167, 255, 229, 27, 172]
abbrev dktX2_living_1 : List UInt8 := dkwX2_living_1 ++ []
def dkwX2_living_0 : List UInt8 := [3, 60, 3, 61, 28, 42, 180, 0, 7, 7, 46, 162, 0, 23, 42, 28, 182, 1, 59, 154, 0, 9, 27, 4]
abbrev dktX2_living_0 : List UInt8 := dkwX2_living_0 ++ dktX2_living_1
theorem dksX2_living_0 : cX2_living.data.toList.drop 0 = dktX2_living_0 := by decide +kernel
theorem dksX2_living_1 : cX2_living.data.toList.drop 24 = dktX2_living_1 := dk_seg dksX2_living_0 24 rfl rfl
theorem dX2_living_0 : decode cX2_living 0 = .ok (.iconst 0, 1) := dk_3 (dk_at dksX2_living_0 0 rfl rfl)
theorem dX2_living_1 : decode cX2_living 1 = .ok (.istore_n 1, 1) := dk_60 (dk_at dksX2_living_0 1 rfl rfl)
theorem dX2_living_2 : decode cX2_living 2 = .ok (.iconst 0, 1) := dk_3 (dk_at dksX2_living_0 2 rfl rfl)
theorem dX2_living_3 : decode cX2_living 3 = .ok (.istore_n 2, 1) := dk_61 (dk_at dksX2_living_0 3 rfl rfl)
theorem dX2_living_4 : decode cX2_living 4 = .ok (.iload_n 2, 1) := dk_28 (dk_at dksX2_living_0 4 rfl rfl)
theorem dX2_living_5 : decode cX2_living 5 = .ok (.aload_n 0, 1) := dk_42 (dk_at dksX2_living_0 5 rfl rfl)
theorem dX2_living_6 : decode cX2_living 6 = .ok (.getfield 7, 3) := dk_180 0 7 (dk_at dksX2_living_0 6 rfl rfl)
theorem dX2_living_9 : decode cX2_living 9 = .ok (.iconst 4, 1) := dk_7 (dk_at dksX2_living_0 9 rfl rfl)
theorem dX2_living_10 : decode cX2_living 10 = .ok (.iaload, 1) := dk_46 (dk_at dksX2_living_0 10 rfl rfl)
theorem dX2_living_11 : decode cX2_living 11 = .ok (.if_icmp .ge 23, 3) := dk_162 0 23 (dk_at dksX2_living_0 11 rfl rfl)
theorem dX2_living_14 : decode cX2_living 14 = .ok (.aload_n 0, 1) := dk_42 (dk_at dksX2_living_0 14 rfl rfl)
theorem dX2_living_15 : decode cX2_living 15 = .ok (.iload_n 2, 1) := dk_28 (dk_at dksX2_living_0 15 rfl rfl)
theorem dX2_living_16 : decode cX2_living 16 = .ok (.invokevirtual 315, 3) := dk_182 1 59 (dk_at dksX2_living_0 16 rfl rfl)
theorem dX2_living_19 : decode cX2_living 19 = .ok (.ifCond .ne 9, 3) := dk_154 0 9 (dk_at dksX2_living_0 19 rfl rfl)
theorem dX2_living_22 : decode cX2_living 22 = .ok (.iload_n 1, 1) := dk_27 (dk_at dksX2_living_0 22 rfl rfl)
theorem dX2_living_23 : decode cX2_living 23 = .ok (.iconst 1, 1) := dk_4 (dk_at dksX2_living_0 23 rfl rfl)
theorem dX2_living_24 : decode cX2_living 24 = .ok (.iload_n 2, 1) := dk_28 (dk_at dksX2_living_1 0 rfl rfl)
theorem dX2_living_25 : decode cX2_living 25 = .ok (.ishl, 1) := dk_120 (dk_at dksX2_living_1 1 rfl rfl)
theorem dX2_living_26 : decode cX2_living 26 = .ok (.ior, 1) := dk_128 (dk_at dksX2_living_1 2 rfl rfl)
theorem dX2_living_27 : decode cX2_living 27 = .ok (.istore_n 1, 1) := dk_60 (dk_at dksX2_living_1 3 rfl rfl)
theorem dX2_living_28 : decode cX2_living 28 = .ok (.iinc 2 1, 3) := dk_132 2 1 (dk_at dksX2_living_1 4 rfl rfl)
theorem dX2_living_31 : decode cX2_living 31 = .ok (.goto (-27), 3) := dk_167 255 229 (dk_at dksX2_living_1 7 rfl rfl)
theorem dX2_living_34 : decode cX2_living 34 = .ok (.iload_n 1, 1) := dk_27 (dk_at dksX2_living_1 10 rfl rfl)
theorem dX2_living_35 : decode cX2_living 35 = .ok (.ireturn, 1) := dk_172 (dk_at dksX2_living_1 11 rfl rfl)
abbrev cX2_sailIn : ByteArray := prog_21_method_116_code
def yX2_sailIn : MethodName := ⟨RX2, "sailIn", "(II)Z"⟩
def dkwX2_sailIn_6 : List UInt8 := [180, 0, 80, 29, 2, 79, 167, 255, 132, 29, 155, 0, 7, 4, 167, 0, 4, 3, 172]
abbrev dktX2_sailIn_6 : List UInt8 := dkwX2_sailIn_6 ++ []
def dkwX2_sailIn_5 : List UInt8 := [21, 5, 79, 42, 29, 4, 96, 182, 1, 160, 62, 29, 42, 180, 0, 7, 7, 46, 162, 0, 10, 42]
abbrev dktX2_sailIn_5 : List UInt8 := dkwX2_sailIn_5 ++ dktX2_sailIn_6
def dkwX2_sailIn_4 : List UInt8 := [167, 255, 232, 21, 5, 21, 4, 164, 0, 12, 42, 29, 182, 1, 169, 62, 167, 0, 36, 42, 180, 0, 80, 29]
abbrev dktX2_sailIn_4 : List UInt8 := dkwX2_sailIn_4 ++ dktX2_sailIn_5
def dkwX2_sailIn_3 : List UInt8 := [21, 5, 21, 4, 163, 0, 23, 42, 29, 21, 5, 28, 182, 1, 166, 154, 0, 12, 21, 5, 4, 96, 54, 5]
abbrev dktX2_sailIn_3 : List UInt8 := dkwX2_sailIn_3 ++ dktX2_sailIn_4
def dkwX2_sailIn_2 : List UInt8 := [42, 29, 182, 1, 163, 167, 0, 6, 27, 4, 100, 54, 4, 42, 180, 0, 80, 29, 46, 4, 96, 54, 5]
abbrev dktX2_sailIn_2 : List UInt8 := dkwX2_sailIn_2 ++ dktX2_sailIn_3
def dkwX2_sailIn_1 : List UInt8 := [155, 0, 126, 29, 42, 180, 0, 7, 7, 46, 162, 0, 116, 42, 29, 182, 1, 163, 27, 4, 100, 162, 0, 11]
abbrev dktX2_sailIn_1 : List UInt8 := dkwX2_sailIn_1 ++ dktX2_sailIn_2
def dkwX2_sailIn_0 : List UInt8 := [42, 3, 182, 1, 160, 62, 29, 42, 180, 0, 7, 7, 46, 162, 0, 10, 42, 180, 0, 80, 29, 2, 79, 29]
abbrev dktX2_sailIn_0 : List UInt8 := dkwX2_sailIn_0 ++ dktX2_sailIn_1
theorem dksX2_sailIn_0 : cX2_sailIn.data.toList.drop 0 = dktX2_sailIn_0 := by decide +kernel
theorem dksX2_sailIn_1 : cX2_sailIn.data.toList.drop 24 = dktX2_sailIn_1 := dk_seg dksX2_sailIn_0 24 rfl rfl
theorem dksX2_sailIn_2 : cX2_sailIn.data.toList.drop 48 = dktX2_sailIn_2 := dk_seg dksX2_sailIn_1 24 rfl rfl
theorem dksX2_sailIn_3 : cX2_sailIn.data.toList.drop 71 = dktX2_sailIn_3 := dk_seg dksX2_sailIn_2 23 rfl rfl
theorem dksX2_sailIn_4 : cX2_sailIn.data.toList.drop 95 = dktX2_sailIn_4 := dk_seg dksX2_sailIn_3 24 rfl rfl
theorem dksX2_sailIn_5 : cX2_sailIn.data.toList.drop 119 = dktX2_sailIn_5 := dk_seg dksX2_sailIn_4 24 rfl rfl
theorem dksX2_sailIn_6 : cX2_sailIn.data.toList.drop 141 = dktX2_sailIn_6 := dk_seg dksX2_sailIn_5 22 rfl rfl
theorem dX2_sailIn_0 : decode cX2_sailIn 0 = .ok (.aload_n 0, 1) := dk_42 (dk_at dksX2_sailIn_0 0 rfl rfl)
theorem dX2_sailIn_1 : decode cX2_sailIn 1 = .ok (.iconst 0, 1) := dk_3 (dk_at dksX2_sailIn_0 1 rfl rfl)
theorem dX2_sailIn_2 : decode cX2_sailIn 2 = .ok (.invokevirtual 416, 3) := dk_182 1 160 (dk_at dksX2_sailIn_0 2 rfl rfl)
theorem dX2_sailIn_5 : decode cX2_sailIn 5 = .ok (.istore_n 3, 1) := dk_62 (dk_at dksX2_sailIn_0 5 rfl rfl)
theorem dX2_sailIn_6 : decode cX2_sailIn 6 = .ok (.iload_n 3, 1) := dk_29 (dk_at dksX2_sailIn_0 6 rfl rfl)
theorem dX2_sailIn_7 : decode cX2_sailIn 7 = .ok (.aload_n 0, 1) := dk_42 (dk_at dksX2_sailIn_0 7 rfl rfl)
theorem dX2_sailIn_8 : decode cX2_sailIn 8 = .ok (.getfield 7, 3) := dk_180 0 7 (dk_at dksX2_sailIn_0 8 rfl rfl)
theorem dX2_sailIn_11 : decode cX2_sailIn 11 = .ok (.iconst 4, 1) := dk_7 (dk_at dksX2_sailIn_0 11 rfl rfl)
theorem dX2_sailIn_12 : decode cX2_sailIn 12 = .ok (.iaload, 1) := dk_46 (dk_at dksX2_sailIn_0 12 rfl rfl)
theorem dX2_sailIn_13 : decode cX2_sailIn 13 = .ok (.if_icmp .ge 10, 3) := dk_162 0 10 (dk_at dksX2_sailIn_0 13 rfl rfl)
theorem dX2_sailIn_16 : decode cX2_sailIn 16 = .ok (.aload_n 0, 1) := dk_42 (dk_at dksX2_sailIn_0 16 rfl rfl)
theorem dX2_sailIn_17 : decode cX2_sailIn 17 = .ok (.getfield 80, 3) := dk_180 0 80 (dk_at dksX2_sailIn_0 17 rfl rfl)
theorem dX2_sailIn_20 : decode cX2_sailIn 20 = .ok (.iload_n 3, 1) := dk_29 (dk_at dksX2_sailIn_0 20 rfl rfl)
theorem dX2_sailIn_21 : decode cX2_sailIn 21 = .ok (.iconst (-1), 1) := dk_2 (dk_at dksX2_sailIn_0 21 rfl rfl)
theorem dX2_sailIn_22 : decode cX2_sailIn 22 = .ok (.iastore, 1) := dk_79 (dk_at dksX2_sailIn_0 22 rfl rfl)
theorem dX2_sailIn_23 : decode cX2_sailIn 23 = .ok (.iload_n 3, 1) := dk_29 (dk_at dksX2_sailIn_0 23 rfl rfl)
theorem dX2_sailIn_24 : decode cX2_sailIn 24 = .ok (.ifCond .lt 126, 3) := dk_155 0 126 (dk_at dksX2_sailIn_1 0 rfl rfl)
theorem dX2_sailIn_27 : decode cX2_sailIn 27 = .ok (.iload_n 3, 1) := dk_29 (dk_at dksX2_sailIn_1 3 rfl rfl)
theorem dX2_sailIn_28 : decode cX2_sailIn 28 = .ok (.aload_n 0, 1) := dk_42 (dk_at dksX2_sailIn_1 4 rfl rfl)
theorem dX2_sailIn_29 : decode cX2_sailIn 29 = .ok (.getfield 7, 3) := dk_180 0 7 (dk_at dksX2_sailIn_1 5 rfl rfl)
theorem dX2_sailIn_32 : decode cX2_sailIn 32 = .ok (.iconst 4, 1) := dk_7 (dk_at dksX2_sailIn_1 8 rfl rfl)
theorem dX2_sailIn_33 : decode cX2_sailIn 33 = .ok (.iaload, 1) := dk_46 (dk_at dksX2_sailIn_1 9 rfl rfl)
theorem dX2_sailIn_34 : decode cX2_sailIn 34 = .ok (.if_icmp .ge 116, 3) := dk_162 0 116 (dk_at dksX2_sailIn_1 10 rfl rfl)
theorem dX2_sailIn_37 : decode cX2_sailIn 37 = .ok (.aload_n 0, 1) := dk_42 (dk_at dksX2_sailIn_1 13 rfl rfl)
theorem dX2_sailIn_38 : decode cX2_sailIn 38 = .ok (.iload_n 3, 1) := dk_29 (dk_at dksX2_sailIn_1 14 rfl rfl)
theorem dX2_sailIn_39 : decode cX2_sailIn 39 = .ok (.invokevirtual 419, 3) := dk_182 1 163 (dk_at dksX2_sailIn_1 15 rfl rfl)
theorem dX2_sailIn_42 : decode cX2_sailIn 42 = .ok (.iload_n 1, 1) := dk_27 (dk_at dksX2_sailIn_1 18 rfl rfl)
theorem dX2_sailIn_43 : decode cX2_sailIn 43 = .ok (.iconst 1, 1) := dk_4 (dk_at dksX2_sailIn_1 19 rfl rfl)
theorem dX2_sailIn_44 : decode cX2_sailIn 44 = .ok (.isub, 1) := dk_100 (dk_at dksX2_sailIn_1 20 rfl rfl)
theorem dX2_sailIn_45 : decode cX2_sailIn 45 = .ok (.if_icmp .ge 11, 3) := dk_162 0 11 (dk_at dksX2_sailIn_1 21 rfl rfl)
theorem dX2_sailIn_48 : decode cX2_sailIn 48 = .ok (.aload_n 0, 1) := dk_42 (dk_at dksX2_sailIn_2 0 rfl rfl)
theorem dX2_sailIn_49 : decode cX2_sailIn 49 = .ok (.iload_n 3, 1) := dk_29 (dk_at dksX2_sailIn_2 1 rfl rfl)
theorem dX2_sailIn_50 : decode cX2_sailIn 50 = .ok (.invokevirtual 419, 3) := dk_182 1 163 (dk_at dksX2_sailIn_2 2 rfl rfl)
theorem dX2_sailIn_53 : decode cX2_sailIn 53 = .ok (.goto 6, 3) := dk_167 0 6 (dk_at dksX2_sailIn_2 5 rfl rfl)
theorem dX2_sailIn_56 : decode cX2_sailIn 56 = .ok (.iload_n 1, 1) := dk_27 (dk_at dksX2_sailIn_2 8 rfl rfl)
theorem dX2_sailIn_57 : decode cX2_sailIn 57 = .ok (.iconst 1, 1) := dk_4 (dk_at dksX2_sailIn_2 9 rfl rfl)
theorem dX2_sailIn_58 : decode cX2_sailIn 58 = .ok (.isub, 1) := dk_100 (dk_at dksX2_sailIn_2 10 rfl rfl)
theorem dX2_sailIn_59 : decode cX2_sailIn 59 = .ok (.istore 4, 2) := dk_54 4 (dk_at dksX2_sailIn_2 11 rfl rfl)
theorem dX2_sailIn_61 : decode cX2_sailIn 61 = .ok (.aload_n 0, 1) := dk_42 (dk_at dksX2_sailIn_2 13 rfl rfl)
theorem dX2_sailIn_62 : decode cX2_sailIn 62 = .ok (.getfield 80, 3) := dk_180 0 80 (dk_at dksX2_sailIn_2 14 rfl rfl)
theorem dX2_sailIn_65 : decode cX2_sailIn 65 = .ok (.iload_n 3, 1) := dk_29 (dk_at dksX2_sailIn_2 17 rfl rfl)
theorem dX2_sailIn_66 : decode cX2_sailIn 66 = .ok (.iaload, 1) := dk_46 (dk_at dksX2_sailIn_2 18 rfl rfl)
theorem dX2_sailIn_67 : decode cX2_sailIn 67 = .ok (.iconst 1, 1) := dk_4 (dk_at dksX2_sailIn_2 19 rfl rfl)
theorem dX2_sailIn_68 : decode cX2_sailIn 68 = .ok (.iadd, 1) := dk_96 (dk_at dksX2_sailIn_2 20 rfl rfl)
theorem dX2_sailIn_69 : decode cX2_sailIn 69 = .ok (.istore 5, 2) := dk_54 5 (dk_at dksX2_sailIn_2 21 rfl rfl)
theorem dX2_sailIn_71 : decode cX2_sailIn 71 = .ok (.iload 5, 2) := dk_21 5 (dk_at dksX2_sailIn_3 0 rfl rfl)
theorem dX2_sailIn_73 : decode cX2_sailIn 73 = .ok (.iload 4, 2) := dk_21 4 (dk_at dksX2_sailIn_3 2 rfl rfl)
theorem dX2_sailIn_75 : decode cX2_sailIn 75 = .ok (.if_icmp .gt 23, 3) := dk_163 0 23 (dk_at dksX2_sailIn_3 4 rfl rfl)
theorem dX2_sailIn_78 : decode cX2_sailIn 78 = .ok (.aload_n 0, 1) := dk_42 (dk_at dksX2_sailIn_3 7 rfl rfl)
theorem dX2_sailIn_79 : decode cX2_sailIn 79 = .ok (.iload_n 3, 1) := dk_29 (dk_at dksX2_sailIn_3 8 rfl rfl)
theorem dX2_sailIn_80 : decode cX2_sailIn 80 = .ok (.iload 5, 2) := dk_21 5 (dk_at dksX2_sailIn_3 9 rfl rfl)
theorem dX2_sailIn_82 : decode cX2_sailIn 82 = .ok (.iload_n 2, 1) := dk_28 (dk_at dksX2_sailIn_3 11 rfl rfl)
theorem dX2_sailIn_83 : decode cX2_sailIn 83 = .ok (.invokevirtual 422, 3) := dk_182 1 166 (dk_at dksX2_sailIn_3 12 rfl rfl)
theorem dX2_sailIn_86 : decode cX2_sailIn 86 = .ok (.ifCond .ne 12, 3) := dk_154 0 12 (dk_at dksX2_sailIn_3 15 rfl rfl)
theorem dX2_sailIn_89 : decode cX2_sailIn 89 = .ok (.iload 5, 2) := dk_21 5 (dk_at dksX2_sailIn_3 18 rfl rfl)
theorem dX2_sailIn_91 : decode cX2_sailIn 91 = .ok (.iconst 1, 1) := dk_4 (dk_at dksX2_sailIn_3 20 rfl rfl)
theorem dX2_sailIn_92 : decode cX2_sailIn 92 = .ok (.iadd, 1) := dk_96 (dk_at dksX2_sailIn_3 21 rfl rfl)
theorem dX2_sailIn_93 : decode cX2_sailIn 93 = .ok (.istore 5, 2) := dk_54 5 (dk_at dksX2_sailIn_3 22 rfl rfl)
theorem dX2_sailIn_95 : decode cX2_sailIn 95 = .ok (.goto (-24), 3) := dk_167 255 232 (dk_at dksX2_sailIn_4 0 rfl rfl)
theorem dX2_sailIn_98 : decode cX2_sailIn 98 = .ok (.iload 5, 2) := dk_21 5 (dk_at dksX2_sailIn_4 3 rfl rfl)
theorem dX2_sailIn_100 : decode cX2_sailIn 100 = .ok (.iload 4, 2) := dk_21 4 (dk_at dksX2_sailIn_4 5 rfl rfl)
theorem dX2_sailIn_102 : decode cX2_sailIn 102 = .ok (.if_icmp .le 12, 3) := dk_164 0 12 (dk_at dksX2_sailIn_4 7 rfl rfl)
theorem dX2_sailIn_105 : decode cX2_sailIn 105 = .ok (.aload_n 0, 1) := dk_42 (dk_at dksX2_sailIn_4 10 rfl rfl)
theorem dX2_sailIn_106 : decode cX2_sailIn 106 = .ok (.iload_n 3, 1) := dk_29 (dk_at dksX2_sailIn_4 11 rfl rfl)
theorem dX2_sailIn_107 : decode cX2_sailIn 107 = .ok (.invokevirtual 425, 3) := dk_182 1 169 (dk_at dksX2_sailIn_4 12 rfl rfl)
theorem dX2_sailIn_110 : decode cX2_sailIn 110 = .ok (.istore_n 3, 1) := dk_62 (dk_at dksX2_sailIn_4 15 rfl rfl)
theorem dX2_sailIn_111 : decode cX2_sailIn 111 = .ok (.goto 36, 3) := dk_167 0 36 (dk_at dksX2_sailIn_4 16 rfl rfl)
theorem dX2_sailIn_114 : decode cX2_sailIn 114 = .ok (.aload_n 0, 1) := dk_42 (dk_at dksX2_sailIn_4 19 rfl rfl)
theorem dX2_sailIn_115 : decode cX2_sailIn 115 = .ok (.getfield 80, 3) := dk_180 0 80 (dk_at dksX2_sailIn_4 20 rfl rfl)
theorem dX2_sailIn_118 : decode cX2_sailIn 118 = .ok (.iload_n 3, 1) := dk_29 (dk_at dksX2_sailIn_4 23 rfl rfl)
theorem dX2_sailIn_119 : decode cX2_sailIn 119 = .ok (.iload 5, 2) := dk_21 5 (dk_at dksX2_sailIn_5 0 rfl rfl)
theorem dX2_sailIn_121 : decode cX2_sailIn 121 = .ok (.iastore, 1) := dk_79 (dk_at dksX2_sailIn_5 2 rfl rfl)
theorem dX2_sailIn_122 : decode cX2_sailIn 122 = .ok (.aload_n 0, 1) := dk_42 (dk_at dksX2_sailIn_5 3 rfl rfl)
theorem dX2_sailIn_123 : decode cX2_sailIn 123 = .ok (.iload_n 3, 1) := dk_29 (dk_at dksX2_sailIn_5 4 rfl rfl)
theorem dX2_sailIn_124 : decode cX2_sailIn 124 = .ok (.iconst 1, 1) := dk_4 (dk_at dksX2_sailIn_5 5 rfl rfl)
theorem dX2_sailIn_125 : decode cX2_sailIn 125 = .ok (.iadd, 1) := dk_96 (dk_at dksX2_sailIn_5 6 rfl rfl)
theorem dX2_sailIn_126 : decode cX2_sailIn 126 = .ok (.invokevirtual 416, 3) := dk_182 1 160 (dk_at dksX2_sailIn_5 7 rfl rfl)
theorem dX2_sailIn_129 : decode cX2_sailIn 129 = .ok (.istore_n 3, 1) := dk_62 (dk_at dksX2_sailIn_5 10 rfl rfl)
theorem dX2_sailIn_130 : decode cX2_sailIn 130 = .ok (.iload_n 3, 1) := dk_29 (dk_at dksX2_sailIn_5 11 rfl rfl)
theorem dX2_sailIn_131 : decode cX2_sailIn 131 = .ok (.aload_n 0, 1) := dk_42 (dk_at dksX2_sailIn_5 12 rfl rfl)
theorem dX2_sailIn_132 : decode cX2_sailIn 132 = .ok (.getfield 7, 3) := dk_180 0 7 (dk_at dksX2_sailIn_5 13 rfl rfl)
theorem dX2_sailIn_135 : decode cX2_sailIn 135 = .ok (.iconst 4, 1) := dk_7 (dk_at dksX2_sailIn_5 16 rfl rfl)
theorem dX2_sailIn_136 : decode cX2_sailIn 136 = .ok (.iaload, 1) := dk_46 (dk_at dksX2_sailIn_5 17 rfl rfl)
theorem dX2_sailIn_137 : decode cX2_sailIn 137 = .ok (.if_icmp .ge 10, 3) := dk_162 0 10 (dk_at dksX2_sailIn_5 18 rfl rfl)
theorem dX2_sailIn_140 : decode cX2_sailIn 140 = .ok (.aload_n 0, 1) := dk_42 (dk_at dksX2_sailIn_5 21 rfl rfl)
theorem dX2_sailIn_141 : decode cX2_sailIn 141 = .ok (.getfield 80, 3) := dk_180 0 80 (dk_at dksX2_sailIn_6 0 rfl rfl)
theorem dX2_sailIn_144 : decode cX2_sailIn 144 = .ok (.iload_n 3, 1) := dk_29 (dk_at dksX2_sailIn_6 3 rfl rfl)
theorem dX2_sailIn_145 : decode cX2_sailIn 145 = .ok (.iconst (-1), 1) := dk_2 (dk_at dksX2_sailIn_6 4 rfl rfl)
theorem dX2_sailIn_146 : decode cX2_sailIn 146 = .ok (.iastore, 1) := dk_79 (dk_at dksX2_sailIn_6 5 rfl rfl)
theorem dX2_sailIn_147 : decode cX2_sailIn 147 = .ok (.goto (-124), 3) := dk_167 255 132 (dk_at dksX2_sailIn_6 6 rfl rfl)
theorem dX2_sailIn_150 : decode cX2_sailIn 150 = .ok (.iload_n 3, 1) := dk_29 (dk_at dksX2_sailIn_6 9 rfl rfl)
theorem dX2_sailIn_151 : decode cX2_sailIn 151 = .ok (.ifCond .lt 7, 3) := dk_155 0 7 (dk_at dksX2_sailIn_6 10 rfl rfl)
theorem dX2_sailIn_154 : decode cX2_sailIn 154 = .ok (.iconst 1, 1) := dk_4 (dk_at dksX2_sailIn_6 13 rfl rfl)
theorem dX2_sailIn_155 : decode cX2_sailIn 155 = .ok (.goto 4, 3) := dk_167 0 4 (dk_at dksX2_sailIn_6 14 rfl rfl)
theorem dX2_sailIn_158 : decode cX2_sailIn 158 = .ok (.iconst 0, 1) := dk_3 (dk_at dksX2_sailIn_6 17 rfl rfl)
theorem dX2_sailIn_159 : decode cX2_sailIn 159 = .ok (.ireturn, 1) := dk_172 (dk_at dksX2_sailIn_6 18 rfl rfl)
abbrev cX2_livingFrom : ByteArray := prog_21_method_112_code
def yX2_livingFrom : MethodName := ⟨RX2, "livingFrom", "(I)I"⟩
def dkwX2_livingFrom_1 : List UInt8 := [167, 255, 234, 28, 172]
abbrev dktX2_livingFrom_1 : List UInt8 := dkwX2_livingFrom_1 ++ []
def dkwX2_livingFrom_0 : List UInt8 := [27, 61, 28, 42, 180, 0, 7, 7, 46, 162, 0, 18, 42, 28, 182, 1, 59, 153, 0, 10, 28, 4, 96, 61]
abbrev dktX2_livingFrom_0 : List UInt8 := dkwX2_livingFrom_0 ++ dktX2_livingFrom_1
theorem dksX2_livingFrom_0 : cX2_livingFrom.data.toList.drop 0 = dktX2_livingFrom_0 := by decide +kernel
theorem dksX2_livingFrom_1 : cX2_livingFrom.data.toList.drop 24 = dktX2_livingFrom_1 := dk_seg dksX2_livingFrom_0 24 rfl rfl
theorem dX2_livingFrom_0 : decode cX2_livingFrom 0 = .ok (.iload_n 1, 1) := dk_27 (dk_at dksX2_livingFrom_0 0 rfl rfl)
theorem dX2_livingFrom_1 : decode cX2_livingFrom 1 = .ok (.istore_n 2, 1) := dk_61 (dk_at dksX2_livingFrom_0 1 rfl rfl)
theorem dX2_livingFrom_2 : decode cX2_livingFrom 2 = .ok (.iload_n 2, 1) := dk_28 (dk_at dksX2_livingFrom_0 2 rfl rfl)
theorem dX2_livingFrom_3 : decode cX2_livingFrom 3 = .ok (.aload_n 0, 1) := dk_42 (dk_at dksX2_livingFrom_0 3 rfl rfl)
theorem dX2_livingFrom_4 : decode cX2_livingFrom 4 = .ok (.getfield 7, 3) := dk_180 0 7 (dk_at dksX2_livingFrom_0 4 rfl rfl)
theorem dX2_livingFrom_7 : decode cX2_livingFrom 7 = .ok (.iconst 4, 1) := dk_7 (dk_at dksX2_livingFrom_0 7 rfl rfl)
theorem dX2_livingFrom_8 : decode cX2_livingFrom 8 = .ok (.iaload, 1) := dk_46 (dk_at dksX2_livingFrom_0 8 rfl rfl)
theorem dX2_livingFrom_9 : decode cX2_livingFrom 9 = .ok (.if_icmp .ge 18, 3) := dk_162 0 18 (dk_at dksX2_livingFrom_0 9 rfl rfl)
theorem dX2_livingFrom_12 : decode cX2_livingFrom 12 = .ok (.aload_n 0, 1) := dk_42 (dk_at dksX2_livingFrom_0 12 rfl rfl)
theorem dX2_livingFrom_13 : decode cX2_livingFrom 13 = .ok (.iload_n 2, 1) := dk_28 (dk_at dksX2_livingFrom_0 13 rfl rfl)
theorem dX2_livingFrom_14 : decode cX2_livingFrom 14 = .ok (.invokevirtual 315, 3) := dk_182 1 59 (dk_at dksX2_livingFrom_0 14 rfl rfl)
theorem dX2_livingFrom_17 : decode cX2_livingFrom 17 = .ok (.ifCond .eq 10, 3) := dk_153 0 10 (dk_at dksX2_livingFrom_0 17 rfl rfl)
theorem dX2_livingFrom_20 : decode cX2_livingFrom 20 = .ok (.iload_n 2, 1) := dk_28 (dk_at dksX2_livingFrom_0 20 rfl rfl)
theorem dX2_livingFrom_21 : decode cX2_livingFrom 21 = .ok (.iconst 1, 1) := dk_4 (dk_at dksX2_livingFrom_0 21 rfl rfl)
theorem dX2_livingFrom_22 : decode cX2_livingFrom 22 = .ok (.iadd, 1) := dk_96 (dk_at dksX2_livingFrom_0 22 rfl rfl)
theorem dX2_livingFrom_23 : decode cX2_livingFrom 23 = .ok (.istore_n 2, 1) := dk_61 (dk_at dksX2_livingFrom_0 23 rfl rfl)
theorem dX2_livingFrom_24 : decode cX2_livingFrom 24 = .ok (.goto (-22), 3) := dk_167 255 234 (dk_at dksX2_livingFrom_1 0 rfl rfl)
theorem dX2_livingFrom_27 : decode cX2_livingFrom 27 = .ok (.iload_n 2, 1) := dk_28 (dk_at dksX2_livingFrom_1 3 rfl rfl)
theorem dX2_livingFrom_28 : decode cX2_livingFrom 28 = .ok (.ireturn, 1) := dk_172 (dk_at dksX2_livingFrom_1 4 rfl rfl)
abbrev cX2_boatsAhead : ByteArray := prog_21_method_114_code
def yX2_boatsAhead : MethodName := ⟨RX2, "boatsAhead", "(I)I"⟩
def dkwX2_boatsAhead_1 : List UInt8 := [46, 4, 96, 182, 1, 145, 61, 132, 3, 1, 167, 255, 226, 28, 172]
abbrev dktX2_boatsAhead_1 : List UInt8 := dkwX2_boatsAhead_1 ++ []
def dkwX2_boatsAhead_0 : List UInt8 := [3, 61, 3, 62, 29, 27, 162, 0, 31, 42, 29, 182, 1, 59, 154, 0, 17, 42, 28, 42, 180, 0, 80, 29]
abbrev dktX2_boatsAhead_0 : List UInt8 := dkwX2_boatsAhead_0 ++ dktX2_boatsAhead_1
theorem dksX2_boatsAhead_0 : cX2_boatsAhead.data.toList.drop 0 = dktX2_boatsAhead_0 := by decide +kernel
theorem dksX2_boatsAhead_1 : cX2_boatsAhead.data.toList.drop 24 = dktX2_boatsAhead_1 := dk_seg dksX2_boatsAhead_0 24 rfl rfl
theorem dX2_boatsAhead_0 : decode cX2_boatsAhead 0 = .ok (.iconst 0, 1) := dk_3 (dk_at dksX2_boatsAhead_0 0 rfl rfl)
theorem dX2_boatsAhead_1 : decode cX2_boatsAhead 1 = .ok (.istore_n 2, 1) := dk_61 (dk_at dksX2_boatsAhead_0 1 rfl rfl)
theorem dX2_boatsAhead_2 : decode cX2_boatsAhead 2 = .ok (.iconst 0, 1) := dk_3 (dk_at dksX2_boatsAhead_0 2 rfl rfl)
theorem dX2_boatsAhead_3 : decode cX2_boatsAhead 3 = .ok (.istore_n 3, 1) := dk_62 (dk_at dksX2_boatsAhead_0 3 rfl rfl)
theorem dX2_boatsAhead_4 : decode cX2_boatsAhead 4 = .ok (.iload_n 3, 1) := dk_29 (dk_at dksX2_boatsAhead_0 4 rfl rfl)
theorem dX2_boatsAhead_5 : decode cX2_boatsAhead 5 = .ok (.iload_n 1, 1) := dk_27 (dk_at dksX2_boatsAhead_0 5 rfl rfl)
theorem dX2_boatsAhead_6 : decode cX2_boatsAhead 6 = .ok (.if_icmp .ge 31, 3) := dk_162 0 31 (dk_at dksX2_boatsAhead_0 6 rfl rfl)
theorem dX2_boatsAhead_9 : decode cX2_boatsAhead 9 = .ok (.aload_n 0, 1) := dk_42 (dk_at dksX2_boatsAhead_0 9 rfl rfl)
theorem dX2_boatsAhead_10 : decode cX2_boatsAhead 10 = .ok (.iload_n 3, 1) := dk_29 (dk_at dksX2_boatsAhead_0 10 rfl rfl)
theorem dX2_boatsAhead_11 : decode cX2_boatsAhead 11 = .ok (.invokevirtual 315, 3) := dk_182 1 59 (dk_at dksX2_boatsAhead_0 11 rfl rfl)
theorem dX2_boatsAhead_14 : decode cX2_boatsAhead 14 = .ok (.ifCond .ne 17, 3) := dk_154 0 17 (dk_at dksX2_boatsAhead_0 14 rfl rfl)
theorem dX2_boatsAhead_17 : decode cX2_boatsAhead 17 = .ok (.aload_n 0, 1) := dk_42 (dk_at dksX2_boatsAhead_0 17 rfl rfl)
theorem dX2_boatsAhead_18 : decode cX2_boatsAhead 18 = .ok (.iload_n 2, 1) := dk_28 (dk_at dksX2_boatsAhead_0 18 rfl rfl)
theorem dX2_boatsAhead_19 : decode cX2_boatsAhead 19 = .ok (.aload_n 0, 1) := dk_42 (dk_at dksX2_boatsAhead_0 19 rfl rfl)
theorem dX2_boatsAhead_20 : decode cX2_boatsAhead 20 = .ok (.getfield 80, 3) := dk_180 0 80 (dk_at dksX2_boatsAhead_0 20 rfl rfl)
theorem dX2_boatsAhead_23 : decode cX2_boatsAhead 23 = .ok (.iload_n 3, 1) := dk_29 (dk_at dksX2_boatsAhead_0 23 rfl rfl)
theorem dX2_boatsAhead_24 : decode cX2_boatsAhead 24 = .ok (.iaload, 1) := dk_46 (dk_at dksX2_boatsAhead_1 0 rfl rfl)
theorem dX2_boatsAhead_25 : decode cX2_boatsAhead 25 = .ok (.iconst 1, 1) := dk_4 (dk_at dksX2_boatsAhead_1 1 rfl rfl)
theorem dX2_boatsAhead_26 : decode cX2_boatsAhead 26 = .ok (.iadd, 1) := dk_96 (dk_at dksX2_boatsAhead_1 2 rfl rfl)
theorem dX2_boatsAhead_27 : decode cX2_boatsAhead 27 = .ok (.invokevirtual 401, 3) := dk_182 1 145 (dk_at dksX2_boatsAhead_1 3 rfl rfl)
theorem dX2_boatsAhead_30 : decode cX2_boatsAhead 30 = .ok (.istore_n 2, 1) := dk_61 (dk_at dksX2_boatsAhead_1 6 rfl rfl)
theorem dX2_boatsAhead_31 : decode cX2_boatsAhead 31 = .ok (.iinc 3 1, 3) := dk_132 3 1 (dk_at dksX2_boatsAhead_1 7 rfl rfl)
theorem dX2_boatsAhead_34 : decode cX2_boatsAhead 34 = .ok (.goto (-30), 3) := dk_167 255 226 (dk_at dksX2_boatsAhead_1 10 rfl rfl)
theorem dX2_boatsAhead_37 : decode cX2_boatsAhead 37 = .ok (.iload_n 2, 1) := dk_28 (dk_at dksX2_boatsAhead_1 13 rfl rfl)
theorem dX2_boatsAhead_38 : decode cX2_boatsAhead 38 = .ok (.ireturn, 1) := dk_172 (dk_at dksX2_boatsAhead_1 14 rfl rfl)
abbrev cX2_canSail : ByteArray := prog_21_method_115_code
def yX2_canSail : MethodName := ⟨RX2, "canSail", "(III)Z"⟩
def dkwX2_canSail_3 : List UInt8 := [132, 5, 1, 167, 255, 190, 21, 4, 29, 162, 0, 7, 4, 167, 0, 4, 3, 172]
abbrev dktX2_canSail_3 : List UInt8 := dkwX2_canSail_3 ++ []
def dkwX2_canSail_2 : List UInt8 := [42, 180, 0, 7, 16, 45, 27, 96, 46, 182, 1, 139, 153, 0, 5, 3, 172, 21, 4, 4, 96, 54, 4]
abbrev dktX2_canSail_2 : List UInt8 := dkwX2_canSail_2 ++ dktX2_canSail_3
def dkwX2_canSail_1 : List UInt8 := [180, 0, 80, 21, 5, 46, 28, 159, 0, 6, 167, 0, 37, 42, 42, 180, 0, 7, 16, 45, 21, 5, 96, 46]
abbrev dktX2_canSail_1 : List UInt8 := dkwX2_canSail_1 ++ dktX2_canSail_2
def dkwX2_canSail_0 : List UInt8 := [3, 54, 4, 3, 54, 5, 21, 5, 27, 162, 0, 66, 42, 21, 5, 182, 1, 59, 154, 0, 51, 42]
abbrev dktX2_canSail_0 : List UInt8 := dkwX2_canSail_0 ++ dktX2_canSail_1
theorem dksX2_canSail_0 : cX2_canSail.data.toList.drop 0 = dktX2_canSail_0 := by decide +kernel
theorem dksX2_canSail_1 : cX2_canSail.data.toList.drop 22 = dktX2_canSail_1 := dk_seg dksX2_canSail_0 22 rfl rfl
theorem dksX2_canSail_2 : cX2_canSail.data.toList.drop 46 = dktX2_canSail_2 := dk_seg dksX2_canSail_1 24 rfl rfl
theorem dksX2_canSail_3 : cX2_canSail.data.toList.drop 69 = dktX2_canSail_3 := dk_seg dksX2_canSail_2 23 rfl rfl
theorem dX2_canSail_0 : decode cX2_canSail 0 = .ok (.iconst 0, 1) := dk_3 (dk_at dksX2_canSail_0 0 rfl rfl)
theorem dX2_canSail_1 : decode cX2_canSail 1 = .ok (.istore 4, 2) := dk_54 4 (dk_at dksX2_canSail_0 1 rfl rfl)
theorem dX2_canSail_3 : decode cX2_canSail 3 = .ok (.iconst 0, 1) := dk_3 (dk_at dksX2_canSail_0 3 rfl rfl)
theorem dX2_canSail_4 : decode cX2_canSail 4 = .ok (.istore 5, 2) := dk_54 5 (dk_at dksX2_canSail_0 4 rfl rfl)
theorem dX2_canSail_6 : decode cX2_canSail 6 = .ok (.iload 5, 2) := dk_21 5 (dk_at dksX2_canSail_0 6 rfl rfl)
theorem dX2_canSail_8 : decode cX2_canSail 8 = .ok (.iload_n 1, 1) := dk_27 (dk_at dksX2_canSail_0 8 rfl rfl)
theorem dX2_canSail_9 : decode cX2_canSail 9 = .ok (.if_icmp .ge 66, 3) := dk_162 0 66 (dk_at dksX2_canSail_0 9 rfl rfl)
theorem dX2_canSail_12 : decode cX2_canSail 12 = .ok (.aload_n 0, 1) := dk_42 (dk_at dksX2_canSail_0 12 rfl rfl)
theorem dX2_canSail_13 : decode cX2_canSail 13 = .ok (.iload 5, 2) := dk_21 5 (dk_at dksX2_canSail_0 13 rfl rfl)
theorem dX2_canSail_15 : decode cX2_canSail 15 = .ok (.invokevirtual 315, 3) := dk_182 1 59 (dk_at dksX2_canSail_0 15 rfl rfl)
theorem dX2_canSail_18 : decode cX2_canSail 18 = .ok (.ifCond .ne 51, 3) := dk_154 0 51 (dk_at dksX2_canSail_0 18 rfl rfl)
theorem dX2_canSail_21 : decode cX2_canSail 21 = .ok (.aload_n 0, 1) := dk_42 (dk_at dksX2_canSail_0 21 rfl rfl)
theorem dX2_canSail_22 : decode cX2_canSail 22 = .ok (.getfield 80, 3) := dk_180 0 80 (dk_at dksX2_canSail_1 0 rfl rfl)
theorem dX2_canSail_25 : decode cX2_canSail 25 = .ok (.iload 5, 2) := dk_21 5 (dk_at dksX2_canSail_1 3 rfl rfl)
theorem dX2_canSail_27 : decode cX2_canSail 27 = .ok (.iaload, 1) := dk_46 (dk_at dksX2_canSail_1 5 rfl rfl)
theorem dX2_canSail_28 : decode cX2_canSail 28 = .ok (.iload_n 2, 1) := dk_28 (dk_at dksX2_canSail_1 6 rfl rfl)
theorem dX2_canSail_29 : decode cX2_canSail 29 = .ok (.if_icmp .eq 6, 3) := dk_159 0 6 (dk_at dksX2_canSail_1 7 rfl rfl)
theorem dX2_canSail_32 : decode cX2_canSail 32 = .ok (.goto 37, 3) := dk_167 0 37 (dk_at dksX2_canSail_1 10 rfl rfl)
theorem dX2_canSail_35 : decode cX2_canSail 35 = .ok (.aload_n 0, 1) := dk_42 (dk_at dksX2_canSail_1 13 rfl rfl)
theorem dX2_canSail_36 : decode cX2_canSail 36 = .ok (.aload_n 0, 1) := dk_42 (dk_at dksX2_canSail_1 14 rfl rfl)
theorem dX2_canSail_37 : decode cX2_canSail 37 = .ok (.getfield 7, 3) := dk_180 0 7 (dk_at dksX2_canSail_1 15 rfl rfl)
theorem dX2_canSail_40 : decode cX2_canSail 40 = .ok (.bipush 45, 2) := dk_16 45 (dk_at dksX2_canSail_1 18 rfl rfl)
theorem dX2_canSail_42 : decode cX2_canSail 42 = .ok (.iload 5, 2) := dk_21 5 (dk_at dksX2_canSail_1 20 rfl rfl)
theorem dX2_canSail_44 : decode cX2_canSail 44 = .ok (.iadd, 1) := dk_96 (dk_at dksX2_canSail_1 22 rfl rfl)
theorem dX2_canSail_45 : decode cX2_canSail 45 = .ok (.iaload, 1) := dk_46 (dk_at dksX2_canSail_1 23 rfl rfl)
theorem dX2_canSail_46 : decode cX2_canSail 46 = .ok (.aload_n 0, 1) := dk_42 (dk_at dksX2_canSail_2 0 rfl rfl)
theorem dX2_canSail_47 : decode cX2_canSail 47 = .ok (.getfield 7, 3) := dk_180 0 7 (dk_at dksX2_canSail_2 1 rfl rfl)
theorem dX2_canSail_50 : decode cX2_canSail 50 = .ok (.bipush 45, 2) := dk_16 45 (dk_at dksX2_canSail_2 4 rfl rfl)
theorem dX2_canSail_52 : decode cX2_canSail 52 = .ok (.iload_n 1, 1) := dk_27 (dk_at dksX2_canSail_2 6 rfl rfl)
theorem dX2_canSail_53 : decode cX2_canSail 53 = .ok (.iadd, 1) := dk_96 (dk_at dksX2_canSail_2 7 rfl rfl)
theorem dX2_canSail_54 : decode cX2_canSail 54 = .ok (.iaload, 1) := dk_46 (dk_at dksX2_canSail_2 8 rfl rfl)
theorem dX2_canSail_55 : decode cX2_canSail 55 = .ok (.invokevirtual 395, 3) := dk_182 1 139 (dk_at dksX2_canSail_2 9 rfl rfl)
theorem dX2_canSail_58 : decode cX2_canSail 58 = .ok (.ifCond .eq 5, 3) := dk_153 0 5 (dk_at dksX2_canSail_2 12 rfl rfl)
theorem dX2_canSail_61 : decode cX2_canSail 61 = .ok (.iconst 0, 1) := dk_3 (dk_at dksX2_canSail_2 15 rfl rfl)
theorem dX2_canSail_62 : decode cX2_canSail 62 = .ok (.ireturn, 1) := dk_172 (dk_at dksX2_canSail_2 16 rfl rfl)
theorem dX2_canSail_63 : decode cX2_canSail 63 = .ok (.iload 4, 2) := dk_21 4 (dk_at dksX2_canSail_2 17 rfl rfl)
theorem dX2_canSail_65 : decode cX2_canSail 65 = .ok (.iconst 1, 1) := dk_4 (dk_at dksX2_canSail_2 19 rfl rfl)
theorem dX2_canSail_66 : decode cX2_canSail 66 = .ok (.iadd, 1) := dk_96 (dk_at dksX2_canSail_2 20 rfl rfl)
theorem dX2_canSail_67 : decode cX2_canSail 67 = .ok (.istore 4, 2) := dk_54 4 (dk_at dksX2_canSail_2 21 rfl rfl)
theorem dX2_canSail_69 : decode cX2_canSail 69 = .ok (.iinc 5 1, 3) := dk_132 5 1 (dk_at dksX2_canSail_3 0 rfl rfl)
theorem dX2_canSail_72 : decode cX2_canSail 72 = .ok (.goto (-66), 3) := dk_167 255 190 (dk_at dksX2_canSail_3 3 rfl rfl)
theorem dX2_canSail_75 : decode cX2_canSail 75 = .ok (.iload 4, 2) := dk_21 4 (dk_at dksX2_canSail_3 6 rfl rfl)
theorem dX2_canSail_77 : decode cX2_canSail 77 = .ok (.iload_n 3, 1) := dk_29 (dk_at dksX2_canSail_3 8 rfl rfl)
theorem dX2_canSail_78 : decode cX2_canSail 78 = .ok (.if_icmp .ge 7, 3) := dk_162 0 7 (dk_at dksX2_canSail_3 9 rfl rfl)
theorem dX2_canSail_81 : decode cX2_canSail 81 = .ok (.iconst 1, 1) := dk_4 (dk_at dksX2_canSail_3 12 rfl rfl)
theorem dX2_canSail_82 : decode cX2_canSail 82 = .ok (.goto 4, 3) := dk_167 0 4 (dk_at dksX2_canSail_3 13 rfl rfl)
theorem dX2_canSail_85 : decode cX2_canSail 85 = .ok (.iconst 0, 1) := dk_3 (dk_at dksX2_canSail_3 16 rfl rfl)
theorem dX2_canSail_86 : decode cX2_canSail 86 = .ok (.ireturn, 1) := dk_172 (dk_at dksX2_canSail_3 17 rfl rfl)
abbrev cX2_livingAhead : ByteArray := prog_21_method_113_code
def yX2_livingAhead : MethodName := ⟨RX2, "livingAhead", "(I)I"⟩
def dkwX2_livingAhead_1 : List UInt8 := [172]
abbrev dktX2_livingAhead_1 : List UInt8 := dkwX2_livingAhead_1 ++ []
def dkwX2_livingAhead_0 : List UInt8 := [27, 4, 100, 61, 28, 155, 0, 18, 42, 28, 182, 1, 59, 153, 0, 10, 28, 4, 100, 61, 167, 255, 240, 28]
abbrev dktX2_livingAhead_0 : List UInt8 := dkwX2_livingAhead_0 ++ dktX2_livingAhead_1
theorem dksX2_livingAhead_0 : cX2_livingAhead.data.toList.drop 0 = dktX2_livingAhead_0 := by decide +kernel
theorem dksX2_livingAhead_1 : cX2_livingAhead.data.toList.drop 24 = dktX2_livingAhead_1 := dk_seg dksX2_livingAhead_0 24 rfl rfl
theorem dX2_livingAhead_0 : decode cX2_livingAhead 0 = .ok (.iload_n 1, 1) := dk_27 (dk_at dksX2_livingAhead_0 0 rfl rfl)
theorem dX2_livingAhead_1 : decode cX2_livingAhead 1 = .ok (.iconst 1, 1) := dk_4 (dk_at dksX2_livingAhead_0 1 rfl rfl)
theorem dX2_livingAhead_2 : decode cX2_livingAhead 2 = .ok (.isub, 1) := dk_100 (dk_at dksX2_livingAhead_0 2 rfl rfl)
theorem dX2_livingAhead_3 : decode cX2_livingAhead 3 = .ok (.istore_n 2, 1) := dk_61 (dk_at dksX2_livingAhead_0 3 rfl rfl)
theorem dX2_livingAhead_4 : decode cX2_livingAhead 4 = .ok (.iload_n 2, 1) := dk_28 (dk_at dksX2_livingAhead_0 4 rfl rfl)
theorem dX2_livingAhead_5 : decode cX2_livingAhead 5 = .ok (.ifCond .lt 18, 3) := dk_155 0 18 (dk_at dksX2_livingAhead_0 5 rfl rfl)
theorem dX2_livingAhead_8 : decode cX2_livingAhead 8 = .ok (.aload_n 0, 1) := dk_42 (dk_at dksX2_livingAhead_0 8 rfl rfl)
theorem dX2_livingAhead_9 : decode cX2_livingAhead 9 = .ok (.iload_n 2, 1) := dk_28 (dk_at dksX2_livingAhead_0 9 rfl rfl)
theorem dX2_livingAhead_10 : decode cX2_livingAhead 10 = .ok (.invokevirtual 315, 3) := dk_182 1 59 (dk_at dksX2_livingAhead_0 10 rfl rfl)
theorem dX2_livingAhead_13 : decode cX2_livingAhead 13 = .ok (.ifCond .eq 10, 3) := dk_153 0 10 (dk_at dksX2_livingAhead_0 13 rfl rfl)
theorem dX2_livingAhead_16 : decode cX2_livingAhead 16 = .ok (.iload_n 2, 1) := dk_28 (dk_at dksX2_livingAhead_0 16 rfl rfl)
theorem dX2_livingAhead_17 : decode cX2_livingAhead 17 = .ok (.iconst 1, 1) := dk_4 (dk_at dksX2_livingAhead_0 17 rfl rfl)
theorem dX2_livingAhead_18 : decode cX2_livingAhead 18 = .ok (.isub, 1) := dk_100 (dk_at dksX2_livingAhead_0 18 rfl rfl)
theorem dX2_livingAhead_19 : decode cX2_livingAhead 19 = .ok (.istore_n 2, 1) := dk_61 (dk_at dksX2_livingAhead_0 19 rfl rfl)
theorem dX2_livingAhead_20 : decode cX2_livingAhead 20 = .ok (.goto (-16), 3) := dk_167 255 240 (dk_at dksX2_livingAhead_0 20 rfl rfl)
theorem dX2_livingAhead_23 : decode cX2_livingAhead 23 = .ok (.iload_n 2, 1) := dk_28 (dk_at dksX2_livingAhead_0 23 rfl rfl)
theorem dX2_livingAhead_24 : decode cX2_livingAhead 24 = .ok (.ireturn, 1) := dk_172 (dk_at dksX2_livingAhead_1 0 rfl rfl)
abbrev cX2_called : ByteArray := prog_21_method_119_code
def yX2_called : MethodName := ⟨RX2, "called", "(IIII)I"⟩
def dkwX2_called_2 : List UInt8 := [3, 182, 1, 184, 21, 4, 154, 0, 10, 42, 180, 1, 178, 167, 0, 7, 42, 180, 1, 181, 172]
abbrev dktX2_called_2 : List UInt8 := dkwX2_called_2 ++ []
def dkwX2_called_1 : List UInt8 := [153, 0, 14, 42, 21, 4, 3, 4, 182, 0, 102, 154, 0, 5, 2, 172, 42, 42, 27, 28, 182, 1, 154, 29]
abbrev dktX2_called_1 : List UInt8 := dkwX2_called_1 ++ dktX2_called_2
def dkwX2_called_0 : List UInt8 := [42, 3, 181, 0, 86, 42, 27, 28, 182, 1, 127, 153, 0, 26, 42, 29, 4, 17, 3, 231, 182, 0, 102]
abbrev dktX2_called_0 : List UInt8 := dkwX2_called_0 ++ dktX2_called_1
theorem dksX2_called_0 : cX2_called.data.toList.drop 0 = dktX2_called_0 := by decide +kernel
theorem dksX2_called_1 : cX2_called.data.toList.drop 23 = dktX2_called_1 := dk_seg dksX2_called_0 23 rfl rfl
theorem dksX2_called_2 : cX2_called.data.toList.drop 47 = dktX2_called_2 := dk_seg dksX2_called_1 24 rfl rfl
theorem dX2_called_0 : decode cX2_called 0 = .ok (.aload_n 0, 1) := dk_42 (dk_at dksX2_called_0 0 rfl rfl)
theorem dX2_called_1 : decode cX2_called 1 = .ok (.iconst 0, 1) := dk_3 (dk_at dksX2_called_0 1 rfl rfl)
theorem dX2_called_2 : decode cX2_called 2 = .ok (.putfield 86, 3) := dk_181 0 86 (dk_at dksX2_called_0 2 rfl rfl)
theorem dX2_called_5 : decode cX2_called 5 = .ok (.aload_n 0, 1) := dk_42 (dk_at dksX2_called_0 5 rfl rfl)
theorem dX2_called_6 : decode cX2_called 6 = .ok (.iload_n 1, 1) := dk_27 (dk_at dksX2_called_0 6 rfl rfl)
theorem dX2_called_7 : decode cX2_called 7 = .ok (.iload_n 2, 1) := dk_28 (dk_at dksX2_called_0 7 rfl rfl)
theorem dX2_called_8 : decode cX2_called 8 = .ok (.invokevirtual 383, 3) := dk_182 1 127 (dk_at dksX2_called_0 8 rfl rfl)
theorem dX2_called_11 : decode cX2_called 11 = .ok (.ifCond .eq 26, 3) := dk_153 0 26 (dk_at dksX2_called_0 11 rfl rfl)
theorem dX2_called_14 : decode cX2_called 14 = .ok (.aload_n 0, 1) := dk_42 (dk_at dksX2_called_0 14 rfl rfl)
theorem dX2_called_15 : decode cX2_called 15 = .ok (.iload_n 3, 1) := dk_29 (dk_at dksX2_called_0 15 rfl rfl)
theorem dX2_called_16 : decode cX2_called 16 = .ok (.iconst 1, 1) := dk_4 (dk_at dksX2_called_0 16 rfl rfl)
theorem dX2_called_17 : decode cX2_called 17 = .ok (.sipush 999, 3) := dk_17 3 231 (dk_at dksX2_called_0 17 rfl rfl)
theorem dX2_called_20 : decode cX2_called 20 = .ok (.invokevirtual 102, 3) := dk_182 0 102 (dk_at dksX2_called_0 20 rfl rfl)
theorem dX2_called_23 : decode cX2_called 23 = .ok (.ifCond .eq 14, 3) := dk_153 0 14 (dk_at dksX2_called_1 0 rfl rfl)
theorem dX2_called_26 : decode cX2_called 26 = .ok (.aload_n 0, 1) := dk_42 (dk_at dksX2_called_1 3 rfl rfl)
theorem dX2_called_27 : decode cX2_called 27 = .ok (.iload 4, 2) := dk_21 4 (dk_at dksX2_called_1 4 rfl rfl)
theorem dX2_called_29 : decode cX2_called 29 = .ok (.iconst 0, 1) := dk_3 (dk_at dksX2_called_1 6 rfl rfl)
theorem dX2_called_30 : decode cX2_called 30 = .ok (.iconst 1, 1) := dk_4 (dk_at dksX2_called_1 7 rfl rfl)
theorem dX2_called_31 : decode cX2_called 31 = .ok (.invokevirtual 102, 3) := dk_182 0 102 (dk_at dksX2_called_1 8 rfl rfl)
theorem dX2_called_34 : decode cX2_called 34 = .ok (.ifCond .ne 5, 3) := dk_154 0 5 (dk_at dksX2_called_1 11 rfl rfl)
theorem dX2_called_37 : decode cX2_called 37 = .ok (.iconst (-1), 1) := dk_2 (dk_at dksX2_called_1 14 rfl rfl)
theorem dX2_called_38 : decode cX2_called 38 = .ok (.ireturn, 1) := dk_172 (dk_at dksX2_called_1 15 rfl rfl)
theorem dX2_called_39 : decode cX2_called 39 = .ok (.aload_n 0, 1) := dk_42 (dk_at dksX2_called_1 16 rfl rfl)
theorem dX2_called_40 : decode cX2_called 40 = .ok (.aload_n 0, 1) := dk_42 (dk_at dksX2_called_1 17 rfl rfl)
theorem dX2_called_41 : decode cX2_called 41 = .ok (.iload_n 1, 1) := dk_27 (dk_at dksX2_called_1 18 rfl rfl)
theorem dX2_called_42 : decode cX2_called 42 = .ok (.iload_n 2, 1) := dk_28 (dk_at dksX2_called_1 19 rfl rfl)
theorem dX2_called_43 : decode cX2_called 43 = .ok (.invokevirtual 410, 3) := dk_182 1 154 (dk_at dksX2_called_1 20 rfl rfl)
theorem dX2_called_46 : decode cX2_called 46 = .ok (.iload_n 3, 1) := dk_29 (dk_at dksX2_called_1 23 rfl rfl)
theorem dX2_called_47 : decode cX2_called 47 = .ok (.iconst 0, 1) := dk_3 (dk_at dksX2_called_2 0 rfl rfl)
theorem dX2_called_48 : decode cX2_called 48 = .ok (.invokevirtual 440, 3) := dk_182 1 184 (dk_at dksX2_called_2 1 rfl rfl)
theorem dX2_called_51 : decode cX2_called 51 = .ok (.iload 4, 2) := dk_21 4 (dk_at dksX2_called_2 4 rfl rfl)
theorem dX2_called_53 : decode cX2_called 53 = .ok (.ifCond .ne 10, 3) := dk_154 0 10 (dk_at dksX2_called_2 6 rfl rfl)
theorem dX2_called_56 : decode cX2_called 56 = .ok (.aload_n 0, 1) := dk_42 (dk_at dksX2_called_2 9 rfl rfl)
theorem dX2_called_57 : decode cX2_called 57 = .ok (.getfield 434, 3) := dk_180 1 178 (dk_at dksX2_called_2 10 rfl rfl)
theorem dX2_called_60 : decode cX2_called 60 = .ok (.goto 7, 3) := dk_167 0 7 (dk_at dksX2_called_2 13 rfl rfl)
theorem dX2_called_63 : decode cX2_called 63 = .ok (.aload_n 0, 1) := dk_42 (dk_at dksX2_called_2 16 rfl rfl)
theorem dX2_called_64 : decode cX2_called 64 = .ok (.getfield 437, 3) := dk_180 1 181 (dk_at dksX2_called_2 17 rfl rfl)
theorem dX2_called_67 : decode cX2_called 67 = .ok (.ireturn, 1) := dk_172 (dk_at dksX2_called_2 20 rfl rfl)
abbrev cX2_findsSets : ByteArray := prog_21_method_118_code
def yX2_findsSets : MethodName := ⟨RX2, "findsSets", "(III)V"⟩
def dkwX2_findsSets_3 : List UInt8 := [42, 180, 1, 178, 4, 96, 181, 1, 178, 132, 4, 1, 167, 255, 187, 177]
abbrev dktX2_findsSets_3 : List UInt8 := dkwX2_findsSets_3 ++ []
def dkwX2_findsSets_2 : List UInt8 := [182, 1, 157, 28, 159, 0, 6, 167, 0, 26, 42, 180, 1, 178, 154, 0, 9, 42, 21, 4, 181, 1, 181, 42]
abbrev dktX2_findsSets_2 : List UInt8 := dkwX2_findsSets_2 ++ dktX2_findsSets_3
def dkwX2_findsSets_1 : List UInt8 := [162, 0, 62, 21, 4, 27, 2, 130, 126, 154, 0, 47, 21, 4, 29, 126, 29, 160, 0, 39, 42, 21, 4]
abbrev dktX2_findsSets_1 : List UInt8 := dkwX2_findsSets_1 ++ dktX2_findsSets_2
def dkwX2_findsSets_0 : List UInt8 := [42, 3, 181, 1, 178, 42, 2, 181, 1, 181, 3, 54, 4, 21, 4, 4, 42, 180, 0, 7, 7, 46, 120]
abbrev dktX2_findsSets_0 : List UInt8 := dkwX2_findsSets_0 ++ dktX2_findsSets_1
theorem dksX2_findsSets_0 : cX2_findsSets.data.toList.drop 0 = dktX2_findsSets_0 := by decide +kernel
theorem dksX2_findsSets_1 : cX2_findsSets.data.toList.drop 23 = dktX2_findsSets_1 := dk_seg dksX2_findsSets_0 23 rfl rfl
theorem dksX2_findsSets_2 : cX2_findsSets.data.toList.drop 46 = dktX2_findsSets_2 := dk_seg dksX2_findsSets_1 23 rfl rfl
theorem dksX2_findsSets_3 : cX2_findsSets.data.toList.drop 70 = dktX2_findsSets_3 := dk_seg dksX2_findsSets_2 24 rfl rfl
theorem dX2_findsSets_0 : decode cX2_findsSets 0 = .ok (.aload_n 0, 1) := dk_42 (dk_at dksX2_findsSets_0 0 rfl rfl)
theorem dX2_findsSets_1 : decode cX2_findsSets 1 = .ok (.iconst 0, 1) := dk_3 (dk_at dksX2_findsSets_0 1 rfl rfl)
theorem dX2_findsSets_2 : decode cX2_findsSets 2 = .ok (.putfield 434, 3) := dk_181 1 178 (dk_at dksX2_findsSets_0 2 rfl rfl)
theorem dX2_findsSets_5 : decode cX2_findsSets 5 = .ok (.aload_n 0, 1) := dk_42 (dk_at dksX2_findsSets_0 5 rfl rfl)
theorem dX2_findsSets_6 : decode cX2_findsSets 6 = .ok (.iconst (-1), 1) := dk_2 (dk_at dksX2_findsSets_0 6 rfl rfl)
theorem dX2_findsSets_7 : decode cX2_findsSets 7 = .ok (.putfield 437, 3) := dk_181 1 181 (dk_at dksX2_findsSets_0 7 rfl rfl)
theorem dX2_findsSets_10 : decode cX2_findsSets 10 = .ok (.iconst 0, 1) := dk_3 (dk_at dksX2_findsSets_0 10 rfl rfl)
theorem dX2_findsSets_11 : decode cX2_findsSets 11 = .ok (.istore 4, 2) := dk_54 4 (dk_at dksX2_findsSets_0 11 rfl rfl)
theorem dX2_findsSets_13 : decode cX2_findsSets 13 = .ok (.iload 4, 2) := dk_21 4 (dk_at dksX2_findsSets_0 13 rfl rfl)
theorem dX2_findsSets_15 : decode cX2_findsSets 15 = .ok (.iconst 1, 1) := dk_4 (dk_at dksX2_findsSets_0 15 rfl rfl)
theorem dX2_findsSets_16 : decode cX2_findsSets 16 = .ok (.aload_n 0, 1) := dk_42 (dk_at dksX2_findsSets_0 16 rfl rfl)
theorem dX2_findsSets_17 : decode cX2_findsSets 17 = .ok (.getfield 7, 3) := dk_180 0 7 (dk_at dksX2_findsSets_0 17 rfl rfl)
theorem dX2_findsSets_20 : decode cX2_findsSets 20 = .ok (.iconst 4, 1) := dk_7 (dk_at dksX2_findsSets_0 20 rfl rfl)
theorem dX2_findsSets_21 : decode cX2_findsSets 21 = .ok (.iaload, 1) := dk_46 (dk_at dksX2_findsSets_0 21 rfl rfl)
theorem dX2_findsSets_22 : decode cX2_findsSets 22 = .ok (.ishl, 1) := dk_120 (dk_at dksX2_findsSets_0 22 rfl rfl)
theorem dX2_findsSets_23 : decode cX2_findsSets 23 = .ok (.if_icmp .ge 62, 3) := dk_162 0 62 (dk_at dksX2_findsSets_1 0 rfl rfl)
theorem dX2_findsSets_26 : decode cX2_findsSets 26 = .ok (.iload 4, 2) := dk_21 4 (dk_at dksX2_findsSets_1 3 rfl rfl)
theorem dX2_findsSets_28 : decode cX2_findsSets 28 = .ok (.iload_n 1, 1) := dk_27 (dk_at dksX2_findsSets_1 5 rfl rfl)
theorem dX2_findsSets_29 : decode cX2_findsSets 29 = .ok (.iconst (-1), 1) := dk_2 (dk_at dksX2_findsSets_1 6 rfl rfl)
theorem dX2_findsSets_30 : decode cX2_findsSets 30 = .ok (.ixor, 1) := dk_130 (dk_at dksX2_findsSets_1 7 rfl rfl)
theorem dX2_findsSets_31 : decode cX2_findsSets 31 = .ok (.iand, 1) := dk_126 (dk_at dksX2_findsSets_1 8 rfl rfl)
theorem dX2_findsSets_32 : decode cX2_findsSets 32 = .ok (.ifCond .ne 47, 3) := dk_154 0 47 (dk_at dksX2_findsSets_1 9 rfl rfl)
theorem dX2_findsSets_35 : decode cX2_findsSets 35 = .ok (.iload 4, 2) := dk_21 4 (dk_at dksX2_findsSets_1 12 rfl rfl)
theorem dX2_findsSets_37 : decode cX2_findsSets 37 = .ok (.iload_n 3, 1) := dk_29 (dk_at dksX2_findsSets_1 14 rfl rfl)
theorem dX2_findsSets_38 : decode cX2_findsSets 38 = .ok (.iand, 1) := dk_126 (dk_at dksX2_findsSets_1 15 rfl rfl)
theorem dX2_findsSets_39 : decode cX2_findsSets 39 = .ok (.iload_n 3, 1) := dk_29 (dk_at dksX2_findsSets_1 16 rfl rfl)
theorem dX2_findsSets_40 : decode cX2_findsSets 40 = .ok (.if_icmp .ne 39, 3) := dk_160 0 39 (dk_at dksX2_findsSets_1 17 rfl rfl)
theorem dX2_findsSets_43 : decode cX2_findsSets 43 = .ok (.aload_n 0, 1) := dk_42 (dk_at dksX2_findsSets_1 20 rfl rfl)
theorem dX2_findsSets_44 : decode cX2_findsSets 44 = .ok (.iload 4, 2) := dk_21 4 (dk_at dksX2_findsSets_1 21 rfl rfl)
theorem dX2_findsSets_46 : decode cX2_findsSets 46 = .ok (.invokevirtual 413, 3) := dk_182 1 157 (dk_at dksX2_findsSets_2 0 rfl rfl)
theorem dX2_findsSets_49 : decode cX2_findsSets 49 = .ok (.iload_n 2, 1) := dk_28 (dk_at dksX2_findsSets_2 3 rfl rfl)
theorem dX2_findsSets_50 : decode cX2_findsSets 50 = .ok (.if_icmp .eq 6, 3) := dk_159 0 6 (dk_at dksX2_findsSets_2 4 rfl rfl)
theorem dX2_findsSets_53 : decode cX2_findsSets 53 = .ok (.goto 26, 3) := dk_167 0 26 (dk_at dksX2_findsSets_2 7 rfl rfl)
theorem dX2_findsSets_56 : decode cX2_findsSets 56 = .ok (.aload_n 0, 1) := dk_42 (dk_at dksX2_findsSets_2 10 rfl rfl)
theorem dX2_findsSets_57 : decode cX2_findsSets 57 = .ok (.getfield 434, 3) := dk_180 1 178 (dk_at dksX2_findsSets_2 11 rfl rfl)
theorem dX2_findsSets_60 : decode cX2_findsSets 60 = .ok (.ifCond .ne 9, 3) := dk_154 0 9 (dk_at dksX2_findsSets_2 14 rfl rfl)
theorem dX2_findsSets_63 : decode cX2_findsSets 63 = .ok (.aload_n 0, 1) := dk_42 (dk_at dksX2_findsSets_2 17 rfl rfl)
theorem dX2_findsSets_64 : decode cX2_findsSets 64 = .ok (.iload 4, 2) := dk_21 4 (dk_at dksX2_findsSets_2 18 rfl rfl)
theorem dX2_findsSets_66 : decode cX2_findsSets 66 = .ok (.putfield 437, 3) := dk_181 1 181 (dk_at dksX2_findsSets_2 20 rfl rfl)
theorem dX2_findsSets_69 : decode cX2_findsSets 69 = .ok (.aload_n 0, 1) := dk_42 (dk_at dksX2_findsSets_2 23 rfl rfl)
theorem dX2_findsSets_70 : decode cX2_findsSets 70 = .ok (.aload_n 0, 1) := dk_42 (dk_at dksX2_findsSets_3 0 rfl rfl)
theorem dX2_findsSets_71 : decode cX2_findsSets 71 = .ok (.getfield 434, 3) := dk_180 1 178 (dk_at dksX2_findsSets_3 1 rfl rfl)
theorem dX2_findsSets_74 : decode cX2_findsSets 74 = .ok (.iconst 1, 1) := dk_4 (dk_at dksX2_findsSets_3 4 rfl rfl)
theorem dX2_findsSets_75 : decode cX2_findsSets 75 = .ok (.iadd, 1) := dk_96 (dk_at dksX2_findsSets_3 5 rfl rfl)
theorem dX2_findsSets_76 : decode cX2_findsSets 76 = .ok (.putfield 434, 3) := dk_181 1 178 (dk_at dksX2_findsSets_3 6 rfl rfl)
theorem dX2_findsSets_79 : decode cX2_findsSets 79 = .ok (.iinc 4 1, 3) := dk_132 4 1 (dk_at dksX2_findsSets_3 9 rfl rfl)
theorem dX2_findsSets_82 : decode cX2_findsSets 82 = .ok (.goto (-69), 3) := dk_167 255 187 (dk_at dksX2_findsSets_3 12 rfl rfl)
theorem dX2_findsSets_85 : decode cX2_findsSets 85 = .ok (.return_, 1) := dk_177 (dk_at dksX2_findsSets_3 15 rfl rfl)
abbrev cX2_ask : ByteArray := prog_21_method_120_code
def yX2_ask : MethodName := ⟨RX2, "ask", "(III)I"⟩
def dkwX2_ask_6 : List UInt8 := [132, 8, 1, 167, 255, 182, 21, 6, 172]
abbrev dktX2_ask_6 : List UInt8 := dkwX2_ask_6 ++ []
def dkwX2_ask_5 : List UInt8 := [167, 0, 5, 21, 6, 54, 6, 21, 9, 21, 7, 162, 0, 8, 21, 9, 167, 0, 5, 21, 7, 54, 7]
abbrev dktX2_ask_5 : List UInt8 := dkwX2_ask_5 ++ dktX2_ask_6
def dkwX2_ask_4 : List UInt8 := [180, 1, 178, 21, 5, 42, 180, 1, 178, 100, 182, 1, 145, 54, 9, 21, 9, 21, 7, 162, 0, 8, 21, 8]
abbrev dktX2_ask_4 : List UInt8 := dkwX2_ask_4 ++ dktX2_ask_5
def dkwX2_ask_3 : List UInt8 := [21, 8, 42, 180, 0, 7, 7, 46, 162, 0, 69, 42, 21, 4, 29, 4, 21, 8, 120, 182, 1, 184, 42, 42]
abbrev dktX2_ask_3 : List UInt8 := dkwX2_ask_3 ++ dktX2_ask_4
def dkwX2_ask_2 : List UInt8 := [180, 1, 178, 54, 5, 21, 5, 5, 162, 0, 5, 2, 172, 2, 54, 6, 19, 1, 187, 54, 7, 3, 54, 8]
abbrev dktX2_ask_2 : List UInt8 := dkwX2_ask_2 ++ dktX2_ask_3
def dkwX2_ask_1 : List UInt8 := [154, 0, 5, 2, 172, 42, 27, 28, 182, 1, 154, 54, 4, 42, 21, 4, 29, 3, 182, 1, 184, 42]
abbrev dktX2_ask_1 : List UInt8 := dkwX2_ask_1 ++ dktX2_ask_2
def dkwX2_ask_0 : List UInt8 := [42, 3, 181, 0, 86, 42, 27, 28, 182, 1, 127, 153, 0, 15, 42, 29, 4, 17, 3, 231, 182, 0, 102]
abbrev dktX2_ask_0 : List UInt8 := dkwX2_ask_0 ++ dktX2_ask_1
theorem dksX2_ask_0 : cX2_ask.data.toList.drop 0 = dktX2_ask_0 := by decide +kernel
theorem dksX2_ask_1 : cX2_ask.data.toList.drop 23 = dktX2_ask_1 := dk_seg dksX2_ask_0 23 rfl rfl
theorem dksX2_ask_2 : cX2_ask.data.toList.drop 45 = dktX2_ask_2 := dk_seg dksX2_ask_1 22 rfl rfl
theorem dksX2_ask_3 : cX2_ask.data.toList.drop 69 = dktX2_ask_3 := dk_seg dksX2_ask_2 24 rfl rfl
theorem dksX2_ask_4 : cX2_ask.data.toList.drop 93 = dktX2_ask_4 := dk_seg dksX2_ask_3 24 rfl rfl
theorem dksX2_ask_5 : cX2_ask.data.toList.drop 117 = dktX2_ask_5 := dk_seg dksX2_ask_4 24 rfl rfl
theorem dksX2_ask_6 : cX2_ask.data.toList.drop 140 = dktX2_ask_6 := dk_seg dksX2_ask_5 23 rfl rfl
theorem dX2_ask_0 : decode cX2_ask 0 = .ok (.aload_n 0, 1) := dk_42 (dk_at dksX2_ask_0 0 rfl rfl)
theorem dX2_ask_1 : decode cX2_ask 1 = .ok (.iconst 0, 1) := dk_3 (dk_at dksX2_ask_0 1 rfl rfl)
theorem dX2_ask_2 : decode cX2_ask 2 = .ok (.putfield 86, 3) := dk_181 0 86 (dk_at dksX2_ask_0 2 rfl rfl)
theorem dX2_ask_5 : decode cX2_ask 5 = .ok (.aload_n 0, 1) := dk_42 (dk_at dksX2_ask_0 5 rfl rfl)
theorem dX2_ask_6 : decode cX2_ask 6 = .ok (.iload_n 1, 1) := dk_27 (dk_at dksX2_ask_0 6 rfl rfl)
theorem dX2_ask_7 : decode cX2_ask 7 = .ok (.iload_n 2, 1) := dk_28 (dk_at dksX2_ask_0 7 rfl rfl)
theorem dX2_ask_8 : decode cX2_ask 8 = .ok (.invokevirtual 383, 3) := dk_182 1 127 (dk_at dksX2_ask_0 8 rfl rfl)
theorem dX2_ask_11 : decode cX2_ask 11 = .ok (.ifCond .eq 15, 3) := dk_153 0 15 (dk_at dksX2_ask_0 11 rfl rfl)
theorem dX2_ask_14 : decode cX2_ask 14 = .ok (.aload_n 0, 1) := dk_42 (dk_at dksX2_ask_0 14 rfl rfl)
theorem dX2_ask_15 : decode cX2_ask 15 = .ok (.iload_n 3, 1) := dk_29 (dk_at dksX2_ask_0 15 rfl rfl)
theorem dX2_ask_16 : decode cX2_ask 16 = .ok (.iconst 1, 1) := dk_4 (dk_at dksX2_ask_0 16 rfl rfl)
theorem dX2_ask_17 : decode cX2_ask 17 = .ok (.sipush 999, 3) := dk_17 3 231 (dk_at dksX2_ask_0 17 rfl rfl)
theorem dX2_ask_20 : decode cX2_ask 20 = .ok (.invokevirtual 102, 3) := dk_182 0 102 (dk_at dksX2_ask_0 20 rfl rfl)
theorem dX2_ask_23 : decode cX2_ask 23 = .ok (.ifCond .ne 5, 3) := dk_154 0 5 (dk_at dksX2_ask_1 0 rfl rfl)
theorem dX2_ask_26 : decode cX2_ask 26 = .ok (.iconst (-1), 1) := dk_2 (dk_at dksX2_ask_1 3 rfl rfl)
theorem dX2_ask_27 : decode cX2_ask 27 = .ok (.ireturn, 1) := dk_172 (dk_at dksX2_ask_1 4 rfl rfl)
theorem dX2_ask_28 : decode cX2_ask 28 = .ok (.aload_n 0, 1) := dk_42 (dk_at dksX2_ask_1 5 rfl rfl)
theorem dX2_ask_29 : decode cX2_ask 29 = .ok (.iload_n 1, 1) := dk_27 (dk_at dksX2_ask_1 6 rfl rfl)
theorem dX2_ask_30 : decode cX2_ask 30 = .ok (.iload_n 2, 1) := dk_28 (dk_at dksX2_ask_1 7 rfl rfl)
theorem dX2_ask_31 : decode cX2_ask 31 = .ok (.invokevirtual 410, 3) := dk_182 1 154 (dk_at dksX2_ask_1 8 rfl rfl)
theorem dX2_ask_34 : decode cX2_ask 34 = .ok (.istore 4, 2) := dk_54 4 (dk_at dksX2_ask_1 11 rfl rfl)
theorem dX2_ask_36 : decode cX2_ask 36 = .ok (.aload_n 0, 1) := dk_42 (dk_at dksX2_ask_1 13 rfl rfl)
theorem dX2_ask_37 : decode cX2_ask 37 = .ok (.iload 4, 2) := dk_21 4 (dk_at dksX2_ask_1 14 rfl rfl)
theorem dX2_ask_39 : decode cX2_ask 39 = .ok (.iload_n 3, 1) := dk_29 (dk_at dksX2_ask_1 16 rfl rfl)
theorem dX2_ask_40 : decode cX2_ask 40 = .ok (.iconst 0, 1) := dk_3 (dk_at dksX2_ask_1 17 rfl rfl)
theorem dX2_ask_41 : decode cX2_ask 41 = .ok (.invokevirtual 440, 3) := dk_182 1 184 (dk_at dksX2_ask_1 18 rfl rfl)
theorem dX2_ask_44 : decode cX2_ask 44 = .ok (.aload_n 0, 1) := dk_42 (dk_at dksX2_ask_1 21 rfl rfl)
theorem dX2_ask_45 : decode cX2_ask 45 = .ok (.getfield 434, 3) := dk_180 1 178 (dk_at dksX2_ask_2 0 rfl rfl)
theorem dX2_ask_48 : decode cX2_ask 48 = .ok (.istore 5, 2) := dk_54 5 (dk_at dksX2_ask_2 3 rfl rfl)
theorem dX2_ask_50 : decode cX2_ask 50 = .ok (.iload 5, 2) := dk_21 5 (dk_at dksX2_ask_2 5 rfl rfl)
theorem dX2_ask_52 : decode cX2_ask 52 = .ok (.iconst 2, 1) := dk_5 (dk_at dksX2_ask_2 7 rfl rfl)
theorem dX2_ask_53 : decode cX2_ask 53 = .ok (.if_icmp .ge 5, 3) := dk_162 0 5 (dk_at dksX2_ask_2 8 rfl rfl)
theorem dX2_ask_56 : decode cX2_ask 56 = .ok (.iconst (-1), 1) := dk_2 (dk_at dksX2_ask_2 11 rfl rfl)
theorem dX2_ask_57 : decode cX2_ask 57 = .ok (.ireturn, 1) := dk_172 (dk_at dksX2_ask_2 12 rfl rfl)
theorem dX2_ask_58 : decode cX2_ask 58 = .ok (.iconst (-1), 1) := dk_2 (dk_at dksX2_ask_2 13 rfl rfl)
theorem dX2_ask_59 : decode cX2_ask 59 = .ok (.istore 6, 2) := dk_54 6 (dk_at dksX2_ask_2 14 rfl rfl)
theorem dX2_ask_61 : decode cX2_ask 61 = .ok (.ldc_w 443, 3) := dk_19 1 187 (dk_at dksX2_ask_2 16 rfl rfl)
theorem dX2_ask_64 : decode cX2_ask 64 = .ok (.istore 7, 2) := dk_54 7 (dk_at dksX2_ask_2 19 rfl rfl)
theorem dX2_ask_66 : decode cX2_ask 66 = .ok (.iconst 0, 1) := dk_3 (dk_at dksX2_ask_2 21 rfl rfl)
theorem dX2_ask_67 : decode cX2_ask 67 = .ok (.istore 8, 2) := dk_54 8 (dk_at dksX2_ask_2 22 rfl rfl)
theorem dX2_ask_69 : decode cX2_ask 69 = .ok (.iload 8, 2) := dk_21 8 (dk_at dksX2_ask_3 0 rfl rfl)
theorem dX2_ask_71 : decode cX2_ask 71 = .ok (.aload_n 0, 1) := dk_42 (dk_at dksX2_ask_3 2 rfl rfl)
theorem dX2_ask_72 : decode cX2_ask 72 = .ok (.getfield 7, 3) := dk_180 0 7 (dk_at dksX2_ask_3 3 rfl rfl)
theorem dX2_ask_75 : decode cX2_ask 75 = .ok (.iconst 4, 1) := dk_7 (dk_at dksX2_ask_3 6 rfl rfl)
theorem dX2_ask_76 : decode cX2_ask 76 = .ok (.iaload, 1) := dk_46 (dk_at dksX2_ask_3 7 rfl rfl)
theorem dX2_ask_77 : decode cX2_ask 77 = .ok (.if_icmp .ge 69, 3) := dk_162 0 69 (dk_at dksX2_ask_3 8 rfl rfl)
theorem dX2_ask_80 : decode cX2_ask 80 = .ok (.aload_n 0, 1) := dk_42 (dk_at dksX2_ask_3 11 rfl rfl)
theorem dX2_ask_81 : decode cX2_ask 81 = .ok (.iload 4, 2) := dk_21 4 (dk_at dksX2_ask_3 12 rfl rfl)
theorem dX2_ask_83 : decode cX2_ask 83 = .ok (.iload_n 3, 1) := dk_29 (dk_at dksX2_ask_3 14 rfl rfl)
theorem dX2_ask_84 : decode cX2_ask 84 = .ok (.iconst 1, 1) := dk_4 (dk_at dksX2_ask_3 15 rfl rfl)
theorem dX2_ask_85 : decode cX2_ask 85 = .ok (.iload 8, 2) := dk_21 8 (dk_at dksX2_ask_3 16 rfl rfl)
theorem dX2_ask_87 : decode cX2_ask 87 = .ok (.ishl, 1) := dk_120 (dk_at dksX2_ask_3 18 rfl rfl)
theorem dX2_ask_88 : decode cX2_ask 88 = .ok (.invokevirtual 440, 3) := dk_182 1 184 (dk_at dksX2_ask_3 19 rfl rfl)
theorem dX2_ask_91 : decode cX2_ask 91 = .ok (.aload_n 0, 1) := dk_42 (dk_at dksX2_ask_3 22 rfl rfl)
theorem dX2_ask_92 : decode cX2_ask 92 = .ok (.aload_n 0, 1) := dk_42 (dk_at dksX2_ask_3 23 rfl rfl)
theorem dX2_ask_93 : decode cX2_ask 93 = .ok (.getfield 434, 3) := dk_180 1 178 (dk_at dksX2_ask_4 0 rfl rfl)
theorem dX2_ask_96 : decode cX2_ask 96 = .ok (.iload 5, 2) := dk_21 5 (dk_at dksX2_ask_4 3 rfl rfl)
theorem dX2_ask_98 : decode cX2_ask 98 = .ok (.aload_n 0, 1) := dk_42 (dk_at dksX2_ask_4 5 rfl rfl)
theorem dX2_ask_99 : decode cX2_ask 99 = .ok (.getfield 434, 3) := dk_180 1 178 (dk_at dksX2_ask_4 6 rfl rfl)
theorem dX2_ask_102 : decode cX2_ask 102 = .ok (.isub, 1) := dk_100 (dk_at dksX2_ask_4 9 rfl rfl)
theorem dX2_ask_103 : decode cX2_ask 103 = .ok (.invokevirtual 401, 3) := dk_182 1 145 (dk_at dksX2_ask_4 10 rfl rfl)
theorem dX2_ask_106 : decode cX2_ask 106 = .ok (.istore 9, 2) := dk_54 9 (dk_at dksX2_ask_4 13 rfl rfl)
theorem dX2_ask_108 : decode cX2_ask 108 = .ok (.iload 9, 2) := dk_21 9 (dk_at dksX2_ask_4 15 rfl rfl)
theorem dX2_ask_110 : decode cX2_ask 110 = .ok (.iload 7, 2) := dk_21 7 (dk_at dksX2_ask_4 17 rfl rfl)
theorem dX2_ask_112 : decode cX2_ask 112 = .ok (.if_icmp .ge 8, 3) := dk_162 0 8 (dk_at dksX2_ask_4 19 rfl rfl)
theorem dX2_ask_115 : decode cX2_ask 115 = .ok (.iload 8, 2) := dk_21 8 (dk_at dksX2_ask_4 22 rfl rfl)
theorem dX2_ask_117 : decode cX2_ask 117 = .ok (.goto 5, 3) := dk_167 0 5 (dk_at dksX2_ask_5 0 rfl rfl)
theorem dX2_ask_120 : decode cX2_ask 120 = .ok (.iload 6, 2) := dk_21 6 (dk_at dksX2_ask_5 3 rfl rfl)
theorem dX2_ask_122 : decode cX2_ask 122 = .ok (.istore 6, 2) := dk_54 6 (dk_at dksX2_ask_5 5 rfl rfl)
theorem dX2_ask_124 : decode cX2_ask 124 = .ok (.iload 9, 2) := dk_21 9 (dk_at dksX2_ask_5 7 rfl rfl)
theorem dX2_ask_126 : decode cX2_ask 126 = .ok (.iload 7, 2) := dk_21 7 (dk_at dksX2_ask_5 9 rfl rfl)
theorem dX2_ask_128 : decode cX2_ask 128 = .ok (.if_icmp .ge 8, 3) := dk_162 0 8 (dk_at dksX2_ask_5 11 rfl rfl)
theorem dX2_ask_131 : decode cX2_ask 131 = .ok (.iload 9, 2) := dk_21 9 (dk_at dksX2_ask_5 14 rfl rfl)
theorem dX2_ask_133 : decode cX2_ask 133 = .ok (.goto 5, 3) := dk_167 0 5 (dk_at dksX2_ask_5 16 rfl rfl)
theorem dX2_ask_136 : decode cX2_ask 136 = .ok (.iload 7, 2) := dk_21 7 (dk_at dksX2_ask_5 19 rfl rfl)
theorem dX2_ask_138 : decode cX2_ask 138 = .ok (.istore 7, 2) := dk_54 7 (dk_at dksX2_ask_5 21 rfl rfl)
theorem dX2_ask_140 : decode cX2_ask 140 = .ok (.iinc 8 1, 3) := dk_132 8 1 (dk_at dksX2_ask_6 0 rfl rfl)
theorem dX2_ask_143 : decode cX2_ask 143 = .ok (.goto (-74), 3) := dk_167 255 182 (dk_at dksX2_ask_6 3 rfl rfl)
theorem dX2_ask_146 : decode cX2_ask 146 = .ok (.iload 6, 2) := dk_21 6 (dk_at dksX2_ask_6 6 rfl rfl)
theorem dX2_ask_148 : decode cX2_ask 148 = .ok (.ireturn, 1) := dk_172 (dk_at dksX2_ask_6 8 rfl rfl)
abbrev cX2_child : ByteArray := prog_21_method_121_code
def yX2_child : MethodName := ⟨RX2, "child", "(III)I"⟩
def dkwX2_child_3 : List UInt8 := [182, 1, 91, 54, 4, 42, 182, 1, 136, 21, 4, 172]
abbrev dktX2_child_3 : List UInt8 := dkwX2_child_3 ++ []
def dkwX2_child_2 : List UInt8 := [182, 1, 35, 154, 0, 7, 2, 167, 0, 20, 29, 154, 0, 11, 42, 27, 182, 1, 88, 167, 0, 8, 42, 27]
abbrev dktX2_child_2 : List UInt8 := dkwX2_child_2 ++ dktX2_child_3
def dkwX2_child_1 : List UInt8 := [42, 29, 3, 4, 182, 0, 102, 154, 0, 5, 2, 172, 42, 182, 1, 130, 42, 28, 182, 1, 133, 42, 27]
abbrev dktX2_child_1 : List UInt8 := dkwX2_child_1 ++ dktX2_child_2
def dkwX2_child_0 : List UInt8 := [42, 3, 181, 0, 86, 42, 27, 182, 0, 106, 153, 0, 24, 42, 28, 3, 16, 60, 182, 0, 102, 153, 0, 13]
abbrev dktX2_child_0 : List UInt8 := dkwX2_child_0 ++ dktX2_child_1
theorem dksX2_child_0 : cX2_child.data.toList.drop 0 = dktX2_child_0 := by decide +kernel
theorem dksX2_child_1 : cX2_child.data.toList.drop 24 = dktX2_child_1 := dk_seg dksX2_child_0 24 rfl rfl
theorem dksX2_child_2 : cX2_child.data.toList.drop 47 = dktX2_child_2 := dk_seg dksX2_child_1 23 rfl rfl
theorem dksX2_child_3 : cX2_child.data.toList.drop 71 = dktX2_child_3 := dk_seg dksX2_child_2 24 rfl rfl
theorem dX2_child_0 : decode cX2_child 0 = .ok (.aload_n 0, 1) := dk_42 (dk_at dksX2_child_0 0 rfl rfl)
theorem dX2_child_1 : decode cX2_child 1 = .ok (.iconst 0, 1) := dk_3 (dk_at dksX2_child_0 1 rfl rfl)
theorem dX2_child_2 : decode cX2_child 2 = .ok (.putfield 86, 3) := dk_181 0 86 (dk_at dksX2_child_0 2 rfl rfl)
theorem dX2_child_5 : decode cX2_child 5 = .ok (.aload_n 0, 1) := dk_42 (dk_at dksX2_child_0 5 rfl rfl)
theorem dX2_child_6 : decode cX2_child 6 = .ok (.iload_n 1, 1) := dk_27 (dk_at dksX2_child_0 6 rfl rfl)
theorem dX2_child_7 : decode cX2_child 7 = .ok (.invokevirtual 106, 3) := dk_182 0 106 (dk_at dksX2_child_0 7 rfl rfl)
theorem dX2_child_10 : decode cX2_child 10 = .ok (.ifCond .eq 24, 3) := dk_153 0 24 (dk_at dksX2_child_0 10 rfl rfl)
theorem dX2_child_13 : decode cX2_child 13 = .ok (.aload_n 0, 1) := dk_42 (dk_at dksX2_child_0 13 rfl rfl)
theorem dX2_child_14 : decode cX2_child 14 = .ok (.iload_n 2, 1) := dk_28 (dk_at dksX2_child_0 14 rfl rfl)
theorem dX2_child_15 : decode cX2_child 15 = .ok (.iconst 0, 1) := dk_3 (dk_at dksX2_child_0 15 rfl rfl)
theorem dX2_child_16 : decode cX2_child 16 = .ok (.bipush 60, 2) := dk_16 60 (dk_at dksX2_child_0 16 rfl rfl)
theorem dX2_child_18 : decode cX2_child 18 = .ok (.invokevirtual 102, 3) := dk_182 0 102 (dk_at dksX2_child_0 18 rfl rfl)
theorem dX2_child_21 : decode cX2_child 21 = .ok (.ifCond .eq 13, 3) := dk_153 0 13 (dk_at dksX2_child_0 21 rfl rfl)
theorem dX2_child_24 : decode cX2_child 24 = .ok (.aload_n 0, 1) := dk_42 (dk_at dksX2_child_1 0 rfl rfl)
theorem dX2_child_25 : decode cX2_child 25 = .ok (.iload_n 3, 1) := dk_29 (dk_at dksX2_child_1 1 rfl rfl)
theorem dX2_child_26 : decode cX2_child 26 = .ok (.iconst 0, 1) := dk_3 (dk_at dksX2_child_1 2 rfl rfl)
theorem dX2_child_27 : decode cX2_child 27 = .ok (.iconst 1, 1) := dk_4 (dk_at dksX2_child_1 3 rfl rfl)
theorem dX2_child_28 : decode cX2_child 28 = .ok (.invokevirtual 102, 3) := dk_182 0 102 (dk_at dksX2_child_1 4 rfl rfl)
theorem dX2_child_31 : decode cX2_child 31 = .ok (.ifCond .ne 5, 3) := dk_154 0 5 (dk_at dksX2_child_1 7 rfl rfl)
theorem dX2_child_34 : decode cX2_child 34 = .ok (.iconst (-1), 1) := dk_2 (dk_at dksX2_child_1 10 rfl rfl)
theorem dX2_child_35 : decode cX2_child 35 = .ok (.ireturn, 1) := dk_172 (dk_at dksX2_child_1 11 rfl rfl)
theorem dX2_child_36 : decode cX2_child 36 = .ok (.aload_n 0, 1) := dk_42 (dk_at dksX2_child_1 12 rfl rfl)
theorem dX2_child_37 : decode cX2_child 37 = .ok (.invokevirtual 386, 3) := dk_182 1 130 (dk_at dksX2_child_1 13 rfl rfl)
theorem dX2_child_40 : decode cX2_child 40 = .ok (.aload_n 0, 1) := dk_42 (dk_at dksX2_child_1 16 rfl rfl)
theorem dX2_child_41 : decode cX2_child 41 = .ok (.iload_n 2, 1) := dk_28 (dk_at dksX2_child_1 17 rfl rfl)
theorem dX2_child_42 : decode cX2_child 42 = .ok (.invokevirtual 389, 3) := dk_182 1 133 (dk_at dksX2_child_1 18 rfl rfl)
theorem dX2_child_45 : decode cX2_child 45 = .ok (.aload_n 0, 1) := dk_42 (dk_at dksX2_child_1 21 rfl rfl)
theorem dX2_child_46 : decode cX2_child 46 = .ok (.iload_n 1, 1) := dk_27 (dk_at dksX2_child_1 22 rfl rfl)
theorem dX2_child_47 : decode cX2_child 47 = .ok (.invokevirtual 291, 3) := dk_182 1 35 (dk_at dksX2_child_2 0 rfl rfl)
theorem dX2_child_50 : decode cX2_child 50 = .ok (.ifCond .ne 7, 3) := dk_154 0 7 (dk_at dksX2_child_2 3 rfl rfl)
theorem dX2_child_53 : decode cX2_child 53 = .ok (.iconst (-1), 1) := dk_2 (dk_at dksX2_child_2 6 rfl rfl)
theorem dX2_child_54 : decode cX2_child 54 = .ok (.goto 20, 3) := dk_167 0 20 (dk_at dksX2_child_2 7 rfl rfl)
theorem dX2_child_57 : decode cX2_child 57 = .ok (.iload_n 3, 1) := dk_29 (dk_at dksX2_child_2 10 rfl rfl)
theorem dX2_child_58 : decode cX2_child 58 = .ok (.ifCond .ne 11, 3) := dk_154 0 11 (dk_at dksX2_child_2 11 rfl rfl)
theorem dX2_child_61 : decode cX2_child 61 = .ok (.aload_n 0, 1) := dk_42 (dk_at dksX2_child_2 14 rfl rfl)
theorem dX2_child_62 : decode cX2_child 62 = .ok (.iload_n 1, 1) := dk_27 (dk_at dksX2_child_2 15 rfl rfl)
theorem dX2_child_63 : decode cX2_child 63 = .ok (.invokevirtual 344, 3) := dk_182 1 88 (dk_at dksX2_child_2 16 rfl rfl)
theorem dX2_child_66 : decode cX2_child 66 = .ok (.goto 8, 3) := dk_167 0 8 (dk_at dksX2_child_2 19 rfl rfl)
theorem dX2_child_69 : decode cX2_child 69 = .ok (.aload_n 0, 1) := dk_42 (dk_at dksX2_child_2 22 rfl rfl)
theorem dX2_child_70 : decode cX2_child 70 = .ok (.iload_n 1, 1) := dk_27 (dk_at dksX2_child_2 23 rfl rfl)
theorem dX2_child_71 : decode cX2_child 71 = .ok (.invokevirtual 347, 3) := dk_182 1 91 (dk_at dksX2_child_3 0 rfl rfl)
theorem dX2_child_74 : decode cX2_child 74 = .ok (.istore 4, 2) := dk_54 4 (dk_at dksX2_child_3 3 rfl rfl)
theorem dX2_child_76 : decode cX2_child 76 = .ok (.aload_n 0, 1) := dk_42 (dk_at dksX2_child_3 5 rfl rfl)
theorem dX2_child_77 : decode cX2_child 77 = .ok (.invokevirtual 392, 3) := dk_182 1 136 (dk_at dksX2_child_3 6 rfl rfl)
theorem dX2_child_80 : decode cX2_child 80 = .ok (.iload 4, 2) := dk_21 4 (dk_at dksX2_child_3 9 rfl rfl)
theorem dX2_child_82 : decode cX2_child 82 = .ok (.ireturn, 1) := dk_172 (dk_at dksX2_child_3 11 rfl rfl)
abbrev cX2_anew : ByteArray := prog_21_method_123_code
def yX2_anew : MethodName := ⟨RX2, "anew", "(I)I"⟩
def dkwX2_anew_4 : List UInt8 := [42, 29, 182, 1, 41, 167, 0, 4, 29, 172]
abbrev dktX2_anew_4 : List UInt8 := dkwX2_anew_4 ++ []
def dkwX2_anew_3 : List UInt8 := [21, 4, 2, 130, 126, 182, 1, 188, 153, 0, 6, 21, 4, 62, 132, 4, 1, 167, 255, 196, 27, 154, 0, 11]
abbrev dktX2_anew_3 : List UInt8 := dkwX2_anew_3 ++ dktX2_anew_4
def dkwX2_anew_2 : List UInt8 := [154, 0, 38, 29, 2, 159, 0, 17, 42, 21, 4, 182, 1, 41, 42, 29, 182, 1, 41, 162, 0, 19, 42, 28]
abbrev dktX2_anew_2 : List UInt8 := dkwX2_anew_2 ++ dktX2_anew_3
def dkwX2_anew_1 : List UInt8 := [3, 54, 4, 21, 4, 4, 42, 180, 0, 7, 7, 46, 120, 162, 0, 53, 21, 4, 28, 2, 130, 126]
abbrev dktX2_anew_1 : List UInt8 := dkwX2_anew_1 ++ dktX2_anew_2
def dkwX2_anew_0 : List UInt8 := [42, 3, 181, 0, 86, 42, 27, 3, 4, 182, 0, 102, 154, 0, 5, 2, 172, 42, 182, 1, 172, 61, 2, 62]
abbrev dktX2_anew_0 : List UInt8 := dkwX2_anew_0 ++ dktX2_anew_1
theorem dksX2_anew_0 : cX2_anew.data.toList.drop 0 = dktX2_anew_0 := by decide +kernel
theorem dksX2_anew_1 : cX2_anew.data.toList.drop 24 = dktX2_anew_1 := dk_seg dksX2_anew_0 24 rfl rfl
theorem dksX2_anew_2 : cX2_anew.data.toList.drop 46 = dktX2_anew_2 := dk_seg dksX2_anew_1 22 rfl rfl
theorem dksX2_anew_3 : cX2_anew.data.toList.drop 70 = dktX2_anew_3 := dk_seg dksX2_anew_2 24 rfl rfl
theorem dksX2_anew_4 : cX2_anew.data.toList.drop 94 = dktX2_anew_4 := dk_seg dksX2_anew_3 24 rfl rfl
theorem dX2_anew_0 : decode cX2_anew 0 = .ok (.aload_n 0, 1) := dk_42 (dk_at dksX2_anew_0 0 rfl rfl)
theorem dX2_anew_1 : decode cX2_anew 1 = .ok (.iconst 0, 1) := dk_3 (dk_at dksX2_anew_0 1 rfl rfl)
theorem dX2_anew_2 : decode cX2_anew 2 = .ok (.putfield 86, 3) := dk_181 0 86 (dk_at dksX2_anew_0 2 rfl rfl)
theorem dX2_anew_5 : decode cX2_anew 5 = .ok (.aload_n 0, 1) := dk_42 (dk_at dksX2_anew_0 5 rfl rfl)
theorem dX2_anew_6 : decode cX2_anew 6 = .ok (.iload_n 1, 1) := dk_27 (dk_at dksX2_anew_0 6 rfl rfl)
theorem dX2_anew_7 : decode cX2_anew 7 = .ok (.iconst 0, 1) := dk_3 (dk_at dksX2_anew_0 7 rfl rfl)
theorem dX2_anew_8 : decode cX2_anew 8 = .ok (.iconst 1, 1) := dk_4 (dk_at dksX2_anew_0 8 rfl rfl)
theorem dX2_anew_9 : decode cX2_anew 9 = .ok (.invokevirtual 102, 3) := dk_182 0 102 (dk_at dksX2_anew_0 9 rfl rfl)
theorem dX2_anew_12 : decode cX2_anew 12 = .ok (.ifCond .ne 5, 3) := dk_154 0 5 (dk_at dksX2_anew_0 12 rfl rfl)
theorem dX2_anew_15 : decode cX2_anew 15 = .ok (.iconst (-1), 1) := dk_2 (dk_at dksX2_anew_0 15 rfl rfl)
theorem dX2_anew_16 : decode cX2_anew 16 = .ok (.ireturn, 1) := dk_172 (dk_at dksX2_anew_0 16 rfl rfl)
theorem dX2_anew_17 : decode cX2_anew 17 = .ok (.aload_n 0, 1) := dk_42 (dk_at dksX2_anew_0 17 rfl rfl)
theorem dX2_anew_18 : decode cX2_anew 18 = .ok (.invokevirtual 428, 3) := dk_182 1 172 (dk_at dksX2_anew_0 18 rfl rfl)
theorem dX2_anew_21 : decode cX2_anew 21 = .ok (.istore_n 2, 1) := dk_61 (dk_at dksX2_anew_0 21 rfl rfl)
theorem dX2_anew_22 : decode cX2_anew 22 = .ok (.iconst (-1), 1) := dk_2 (dk_at dksX2_anew_0 22 rfl rfl)
theorem dX2_anew_23 : decode cX2_anew 23 = .ok (.istore_n 3, 1) := dk_62 (dk_at dksX2_anew_0 23 rfl rfl)
theorem dX2_anew_24 : decode cX2_anew 24 = .ok (.iconst 0, 1) := dk_3 (dk_at dksX2_anew_1 0 rfl rfl)
theorem dX2_anew_25 : decode cX2_anew 25 = .ok (.istore 4, 2) := dk_54 4 (dk_at dksX2_anew_1 1 rfl rfl)
theorem dX2_anew_27 : decode cX2_anew 27 = .ok (.iload 4, 2) := dk_21 4 (dk_at dksX2_anew_1 3 rfl rfl)
theorem dX2_anew_29 : decode cX2_anew 29 = .ok (.iconst 1, 1) := dk_4 (dk_at dksX2_anew_1 5 rfl rfl)
theorem dX2_anew_30 : decode cX2_anew 30 = .ok (.aload_n 0, 1) := dk_42 (dk_at dksX2_anew_1 6 rfl rfl)
theorem dX2_anew_31 : decode cX2_anew 31 = .ok (.getfield 7, 3) := dk_180 0 7 (dk_at dksX2_anew_1 7 rfl rfl)
theorem dX2_anew_34 : decode cX2_anew 34 = .ok (.iconst 4, 1) := dk_7 (dk_at dksX2_anew_1 10 rfl rfl)
theorem dX2_anew_35 : decode cX2_anew 35 = .ok (.iaload, 1) := dk_46 (dk_at dksX2_anew_1 11 rfl rfl)
theorem dX2_anew_36 : decode cX2_anew 36 = .ok (.ishl, 1) := dk_120 (dk_at dksX2_anew_1 12 rfl rfl)
theorem dX2_anew_37 : decode cX2_anew 37 = .ok (.if_icmp .ge 53, 3) := dk_162 0 53 (dk_at dksX2_anew_1 13 rfl rfl)
theorem dX2_anew_40 : decode cX2_anew 40 = .ok (.iload 4, 2) := dk_21 4 (dk_at dksX2_anew_1 16 rfl rfl)
theorem dX2_anew_42 : decode cX2_anew 42 = .ok (.iload_n 2, 1) := dk_28 (dk_at dksX2_anew_1 18 rfl rfl)
theorem dX2_anew_43 : decode cX2_anew 43 = .ok (.iconst (-1), 1) := dk_2 (dk_at dksX2_anew_1 19 rfl rfl)
theorem dX2_anew_44 : decode cX2_anew 44 = .ok (.ixor, 1) := dk_130 (dk_at dksX2_anew_1 20 rfl rfl)
theorem dX2_anew_45 : decode cX2_anew 45 = .ok (.iand, 1) := dk_126 (dk_at dksX2_anew_1 21 rfl rfl)
theorem dX2_anew_46 : decode cX2_anew 46 = .ok (.ifCond .ne 38, 3) := dk_154 0 38 (dk_at dksX2_anew_2 0 rfl rfl)
theorem dX2_anew_49 : decode cX2_anew 49 = .ok (.iload_n 3, 1) := dk_29 (dk_at dksX2_anew_2 3 rfl rfl)
theorem dX2_anew_50 : decode cX2_anew 50 = .ok (.iconst (-1), 1) := dk_2 (dk_at dksX2_anew_2 4 rfl rfl)
theorem dX2_anew_51 : decode cX2_anew 51 = .ok (.if_icmp .eq 17, 3) := dk_159 0 17 (dk_at dksX2_anew_2 5 rfl rfl)
theorem dX2_anew_54 : decode cX2_anew 54 = .ok (.aload_n 0, 1) := dk_42 (dk_at dksX2_anew_2 8 rfl rfl)
theorem dX2_anew_55 : decode cX2_anew 55 = .ok (.iload 4, 2) := dk_21 4 (dk_at dksX2_anew_2 9 rfl rfl)
theorem dX2_anew_57 : decode cX2_anew 57 = .ok (.invokevirtual 297, 3) := dk_182 1 41 (dk_at dksX2_anew_2 11 rfl rfl)
theorem dX2_anew_60 : decode cX2_anew 60 = .ok (.aload_n 0, 1) := dk_42 (dk_at dksX2_anew_2 14 rfl rfl)
theorem dX2_anew_61 : decode cX2_anew 61 = .ok (.iload_n 3, 1) := dk_29 (dk_at dksX2_anew_2 15 rfl rfl)
theorem dX2_anew_62 : decode cX2_anew 62 = .ok (.invokevirtual 297, 3) := dk_182 1 41 (dk_at dksX2_anew_2 16 rfl rfl)
theorem dX2_anew_65 : decode cX2_anew 65 = .ok (.if_icmp .ge 19, 3) := dk_162 0 19 (dk_at dksX2_anew_2 19 rfl rfl)
theorem dX2_anew_68 : decode cX2_anew 68 = .ok (.aload_n 0, 1) := dk_42 (dk_at dksX2_anew_2 22 rfl rfl)
theorem dX2_anew_69 : decode cX2_anew 69 = .ok (.iload_n 2, 1) := dk_28 (dk_at dksX2_anew_2 23 rfl rfl)
theorem dX2_anew_70 : decode cX2_anew 70 = .ok (.iload 4, 2) := dk_21 4 (dk_at dksX2_anew_3 0 rfl rfl)
theorem dX2_anew_72 : decode cX2_anew 72 = .ok (.iconst (-1), 1) := dk_2 (dk_at dksX2_anew_3 2 rfl rfl)
theorem dX2_anew_73 : decode cX2_anew 73 = .ok (.ixor, 1) := dk_130 (dk_at dksX2_anew_3 3 rfl rfl)
theorem dX2_anew_74 : decode cX2_anew 74 = .ok (.iand, 1) := dk_126 (dk_at dksX2_anew_3 4 rfl rfl)
theorem dX2_anew_75 : decode cX2_anew 75 = .ok (.invokevirtual 444, 3) := dk_182 1 188 (dk_at dksX2_anew_3 5 rfl rfl)
theorem dX2_anew_78 : decode cX2_anew 78 = .ok (.ifCond .eq 6, 3) := dk_153 0 6 (dk_at dksX2_anew_3 8 rfl rfl)
theorem dX2_anew_81 : decode cX2_anew 81 = .ok (.iload 4, 2) := dk_21 4 (dk_at dksX2_anew_3 11 rfl rfl)
theorem dX2_anew_83 : decode cX2_anew 83 = .ok (.istore_n 3, 1) := dk_62 (dk_at dksX2_anew_3 13 rfl rfl)
theorem dX2_anew_84 : decode cX2_anew 84 = .ok (.iinc 4 1, 3) := dk_132 4 1 (dk_at dksX2_anew_3 14 rfl rfl)
theorem dX2_anew_87 : decode cX2_anew 87 = .ok (.goto (-60), 3) := dk_167 255 196 (dk_at dksX2_anew_3 17 rfl rfl)
theorem dX2_anew_90 : decode cX2_anew 90 = .ok (.iload_n 1, 1) := dk_27 (dk_at dksX2_anew_3 20 rfl rfl)
theorem dX2_anew_91 : decode cX2_anew 91 = .ok (.ifCond .ne 11, 3) := dk_154 0 11 (dk_at dksX2_anew_3 21 rfl rfl)
theorem dX2_anew_94 : decode cX2_anew 94 = .ok (.aload_n 0, 1) := dk_42 (dk_at dksX2_anew_4 0 rfl rfl)
theorem dX2_anew_95 : decode cX2_anew 95 = .ok (.iload_n 3, 1) := dk_29 (dk_at dksX2_anew_4 1 rfl rfl)
theorem dX2_anew_96 : decode cX2_anew 96 = .ok (.invokevirtual 297, 3) := dk_182 1 41 (dk_at dksX2_anew_4 2 rfl rfl)
theorem dX2_anew_99 : decode cX2_anew 99 = .ok (.goto 4, 3) := dk_167 0 4 (dk_at dksX2_anew_4 5 rfl rfl)
theorem dX2_anew_102 : decode cX2_anew 102 = .ok (.iload_n 3, 1) := dk_29 (dk_at dksX2_anew_4 8 rfl rfl)
theorem dX2_anew_103 : decode cX2_anew 103 = .ok (.ireturn, 1) := dk_172 (dk_at dksX2_anew_4 9 rfl rfl)
abbrev cX2_areAtPeace : ByteArray := prog_21_method_122_code
def yX2_areAtPeace : MethodName := ⟨RX2, "areAtPeace", "(I)Z"⟩
def dkwX2_areAtPeace_4 : List UInt8 := [132, 2, 1, 167, 255, 164, 4, 172]
abbrev dktX2_areAtPeace_4 : List UInt8 := dkwX2_areAtPeace_4 ++ []
def dkwX2_areAtPeace_3 : List UInt8 := [180, 0, 7, 16, 45, 29, 96, 46, 182, 1, 139, 153, 0, 5, 3, 172, 132, 3, 1, 167, 255, 182]
abbrev dktX2_areAtPeace_3 : List UInt8 := dkwX2_areAtPeace_3 ++ dktX2_areAtPeace_4
def dkwX2_areAtPeace_2 : List UInt8 := [180, 0, 7, 16, 69, 29, 96, 46, 160, 0, 30, 42, 42, 180, 0, 7, 16, 45, 28, 96, 46, 42]
abbrev dktX2_areAtPeace_2 : List UInt8 := dkwX2_areAtPeace_2 ++ dktX2_areAtPeace_3
def dkwX2_areAtPeace_1 : List UInt8 := [4, 160, 0, 60, 27, 29, 122, 4, 126, 4, 160, 0, 51, 42, 180, 0, 7, 16, 69, 28, 96, 46, 42]
abbrev dktX2_areAtPeace_1 : List UInt8 := dkwX2_areAtPeace_1 ++ dktX2_areAtPeace_2
def dkwX2_areAtPeace_0 : List UInt8 := [3, 61, 28, 42, 180, 0, 7, 7, 46, 162, 0, 88, 3, 62, 29, 28, 162, 0, 75, 27, 28, 122, 4, 126]
abbrev dktX2_areAtPeace_0 : List UInt8 := dkwX2_areAtPeace_0 ++ dktX2_areAtPeace_1
theorem dksX2_areAtPeace_0 : cX2_areAtPeace.data.toList.drop 0 = dktX2_areAtPeace_0 := by decide +kernel
theorem dksX2_areAtPeace_1 : cX2_areAtPeace.data.toList.drop 24 = dktX2_areAtPeace_1 := dk_seg dksX2_areAtPeace_0 24 rfl rfl
theorem dksX2_areAtPeace_2 : cX2_areAtPeace.data.toList.drop 47 = dktX2_areAtPeace_2 := dk_seg dksX2_areAtPeace_1 23 rfl rfl
theorem dksX2_areAtPeace_3 : cX2_areAtPeace.data.toList.drop 69 = dktX2_areAtPeace_3 := dk_seg dksX2_areAtPeace_2 22 rfl rfl
theorem dksX2_areAtPeace_4 : cX2_areAtPeace.data.toList.drop 91 = dktX2_areAtPeace_4 := dk_seg dksX2_areAtPeace_3 22 rfl rfl
theorem dX2_areAtPeace_0 : decode cX2_areAtPeace 0 = .ok (.iconst 0, 1) := dk_3 (dk_at dksX2_areAtPeace_0 0 rfl rfl)
theorem dX2_areAtPeace_1 : decode cX2_areAtPeace 1 = .ok (.istore_n 2, 1) := dk_61 (dk_at dksX2_areAtPeace_0 1 rfl rfl)
theorem dX2_areAtPeace_2 : decode cX2_areAtPeace 2 = .ok (.iload_n 2, 1) := dk_28 (dk_at dksX2_areAtPeace_0 2 rfl rfl)
theorem dX2_areAtPeace_3 : decode cX2_areAtPeace 3 = .ok (.aload_n 0, 1) := dk_42 (dk_at dksX2_areAtPeace_0 3 rfl rfl)
theorem dX2_areAtPeace_4 : decode cX2_areAtPeace 4 = .ok (.getfield 7, 3) := dk_180 0 7 (dk_at dksX2_areAtPeace_0 4 rfl rfl)
theorem dX2_areAtPeace_7 : decode cX2_areAtPeace 7 = .ok (.iconst 4, 1) := dk_7 (dk_at dksX2_areAtPeace_0 7 rfl rfl)
theorem dX2_areAtPeace_8 : decode cX2_areAtPeace 8 = .ok (.iaload, 1) := dk_46 (dk_at dksX2_areAtPeace_0 8 rfl rfl)
theorem dX2_areAtPeace_9 : decode cX2_areAtPeace 9 = .ok (.if_icmp .ge 88, 3) := dk_162 0 88 (dk_at dksX2_areAtPeace_0 9 rfl rfl)
theorem dX2_areAtPeace_12 : decode cX2_areAtPeace 12 = .ok (.iconst 0, 1) := dk_3 (dk_at dksX2_areAtPeace_0 12 rfl rfl)
theorem dX2_areAtPeace_13 : decode cX2_areAtPeace 13 = .ok (.istore_n 3, 1) := dk_62 (dk_at dksX2_areAtPeace_0 13 rfl rfl)
theorem dX2_areAtPeace_14 : decode cX2_areAtPeace 14 = .ok (.iload_n 3, 1) := dk_29 (dk_at dksX2_areAtPeace_0 14 rfl rfl)
theorem dX2_areAtPeace_15 : decode cX2_areAtPeace 15 = .ok (.iload_n 2, 1) := dk_28 (dk_at dksX2_areAtPeace_0 15 rfl rfl)
theorem dX2_areAtPeace_16 : decode cX2_areAtPeace 16 = .ok (.if_icmp .ge 75, 3) := dk_162 0 75 (dk_at dksX2_areAtPeace_0 16 rfl rfl)
theorem dX2_areAtPeace_19 : decode cX2_areAtPeace 19 = .ok (.iload_n 1, 1) := dk_27 (dk_at dksX2_areAtPeace_0 19 rfl rfl)
theorem dX2_areAtPeace_20 : decode cX2_areAtPeace 20 = .ok (.iload_n 2, 1) := dk_28 (dk_at dksX2_areAtPeace_0 20 rfl rfl)
theorem dX2_areAtPeace_21 : decode cX2_areAtPeace 21 = .ok (.ishr, 1) := dk_122 (dk_at dksX2_areAtPeace_0 21 rfl rfl)
theorem dX2_areAtPeace_22 : decode cX2_areAtPeace 22 = .ok (.iconst 1, 1) := dk_4 (dk_at dksX2_areAtPeace_0 22 rfl rfl)
theorem dX2_areAtPeace_23 : decode cX2_areAtPeace 23 = .ok (.iand, 1) := dk_126 (dk_at dksX2_areAtPeace_0 23 rfl rfl)
theorem dX2_areAtPeace_24 : decode cX2_areAtPeace 24 = .ok (.iconst 1, 1) := dk_4 (dk_at dksX2_areAtPeace_1 0 rfl rfl)
theorem dX2_areAtPeace_25 : decode cX2_areAtPeace 25 = .ok (.if_icmp .ne 60, 3) := dk_160 0 60 (dk_at dksX2_areAtPeace_1 1 rfl rfl)
theorem dX2_areAtPeace_28 : decode cX2_areAtPeace 28 = .ok (.iload_n 1, 1) := dk_27 (dk_at dksX2_areAtPeace_1 4 rfl rfl)
theorem dX2_areAtPeace_29 : decode cX2_areAtPeace 29 = .ok (.iload_n 3, 1) := dk_29 (dk_at dksX2_areAtPeace_1 5 rfl rfl)
theorem dX2_areAtPeace_30 : decode cX2_areAtPeace 30 = .ok (.ishr, 1) := dk_122 (dk_at dksX2_areAtPeace_1 6 rfl rfl)
theorem dX2_areAtPeace_31 : decode cX2_areAtPeace 31 = .ok (.iconst 1, 1) := dk_4 (dk_at dksX2_areAtPeace_1 7 rfl rfl)
theorem dX2_areAtPeace_32 : decode cX2_areAtPeace 32 = .ok (.iand, 1) := dk_126 (dk_at dksX2_areAtPeace_1 8 rfl rfl)
theorem dX2_areAtPeace_33 : decode cX2_areAtPeace 33 = .ok (.iconst 1, 1) := dk_4 (dk_at dksX2_areAtPeace_1 9 rfl rfl)
theorem dX2_areAtPeace_34 : decode cX2_areAtPeace 34 = .ok (.if_icmp .ne 51, 3) := dk_160 0 51 (dk_at dksX2_areAtPeace_1 10 rfl rfl)
theorem dX2_areAtPeace_37 : decode cX2_areAtPeace 37 = .ok (.aload_n 0, 1) := dk_42 (dk_at dksX2_areAtPeace_1 13 rfl rfl)
theorem dX2_areAtPeace_38 : decode cX2_areAtPeace 38 = .ok (.getfield 7, 3) := dk_180 0 7 (dk_at dksX2_areAtPeace_1 14 rfl rfl)
theorem dX2_areAtPeace_41 : decode cX2_areAtPeace 41 = .ok (.bipush 69, 2) := dk_16 69 (dk_at dksX2_areAtPeace_1 17 rfl rfl)
theorem dX2_areAtPeace_43 : decode cX2_areAtPeace 43 = .ok (.iload_n 2, 1) := dk_28 (dk_at dksX2_areAtPeace_1 19 rfl rfl)
theorem dX2_areAtPeace_44 : decode cX2_areAtPeace 44 = .ok (.iadd, 1) := dk_96 (dk_at dksX2_areAtPeace_1 20 rfl rfl)
theorem dX2_areAtPeace_45 : decode cX2_areAtPeace 45 = .ok (.iaload, 1) := dk_46 (dk_at dksX2_areAtPeace_1 21 rfl rfl)
theorem dX2_areAtPeace_46 : decode cX2_areAtPeace 46 = .ok (.aload_n 0, 1) := dk_42 (dk_at dksX2_areAtPeace_1 22 rfl rfl)
theorem dX2_areAtPeace_47 : decode cX2_areAtPeace 47 = .ok (.getfield 7, 3) := dk_180 0 7 (dk_at dksX2_areAtPeace_2 0 rfl rfl)
theorem dX2_areAtPeace_50 : decode cX2_areAtPeace 50 = .ok (.bipush 69, 2) := dk_16 69 (dk_at dksX2_areAtPeace_2 3 rfl rfl)
theorem dX2_areAtPeace_52 : decode cX2_areAtPeace 52 = .ok (.iload_n 3, 1) := dk_29 (dk_at dksX2_areAtPeace_2 5 rfl rfl)
theorem dX2_areAtPeace_53 : decode cX2_areAtPeace 53 = .ok (.iadd, 1) := dk_96 (dk_at dksX2_areAtPeace_2 6 rfl rfl)
theorem dX2_areAtPeace_54 : decode cX2_areAtPeace 54 = .ok (.iaload, 1) := dk_46 (dk_at dksX2_areAtPeace_2 7 rfl rfl)
theorem dX2_areAtPeace_55 : decode cX2_areAtPeace 55 = .ok (.if_icmp .ne 30, 3) := dk_160 0 30 (dk_at dksX2_areAtPeace_2 8 rfl rfl)
theorem dX2_areAtPeace_58 : decode cX2_areAtPeace 58 = .ok (.aload_n 0, 1) := dk_42 (dk_at dksX2_areAtPeace_2 11 rfl rfl)
theorem dX2_areAtPeace_59 : decode cX2_areAtPeace 59 = .ok (.aload_n 0, 1) := dk_42 (dk_at dksX2_areAtPeace_2 12 rfl rfl)
theorem dX2_areAtPeace_60 : decode cX2_areAtPeace 60 = .ok (.getfield 7, 3) := dk_180 0 7 (dk_at dksX2_areAtPeace_2 13 rfl rfl)
theorem dX2_areAtPeace_63 : decode cX2_areAtPeace 63 = .ok (.bipush 45, 2) := dk_16 45 (dk_at dksX2_areAtPeace_2 16 rfl rfl)
theorem dX2_areAtPeace_65 : decode cX2_areAtPeace 65 = .ok (.iload_n 2, 1) := dk_28 (dk_at dksX2_areAtPeace_2 18 rfl rfl)
theorem dX2_areAtPeace_66 : decode cX2_areAtPeace 66 = .ok (.iadd, 1) := dk_96 (dk_at dksX2_areAtPeace_2 19 rfl rfl)
theorem dX2_areAtPeace_67 : decode cX2_areAtPeace 67 = .ok (.iaload, 1) := dk_46 (dk_at dksX2_areAtPeace_2 20 rfl rfl)
theorem dX2_areAtPeace_68 : decode cX2_areAtPeace 68 = .ok (.aload_n 0, 1) := dk_42 (dk_at dksX2_areAtPeace_2 21 rfl rfl)
theorem dX2_areAtPeace_69 : decode cX2_areAtPeace 69 = .ok (.getfield 7, 3) := dk_180 0 7 (dk_at dksX2_areAtPeace_3 0 rfl rfl)
theorem dX2_areAtPeace_72 : decode cX2_areAtPeace 72 = .ok (.bipush 45, 2) := dk_16 45 (dk_at dksX2_areAtPeace_3 3 rfl rfl)
theorem dX2_areAtPeace_74 : decode cX2_areAtPeace 74 = .ok (.iload_n 3, 1) := dk_29 (dk_at dksX2_areAtPeace_3 5 rfl rfl)
theorem dX2_areAtPeace_75 : decode cX2_areAtPeace 75 = .ok (.iadd, 1) := dk_96 (dk_at dksX2_areAtPeace_3 6 rfl rfl)
theorem dX2_areAtPeace_76 : decode cX2_areAtPeace 76 = .ok (.iaload, 1) := dk_46 (dk_at dksX2_areAtPeace_3 7 rfl rfl)
theorem dX2_areAtPeace_77 : decode cX2_areAtPeace 77 = .ok (.invokevirtual 395, 3) := dk_182 1 139 (dk_at dksX2_areAtPeace_3 8 rfl rfl)
theorem dX2_areAtPeace_80 : decode cX2_areAtPeace 80 = .ok (.ifCond .eq 5, 3) := dk_153 0 5 (dk_at dksX2_areAtPeace_3 11 rfl rfl)
theorem dX2_areAtPeace_83 : decode cX2_areAtPeace 83 = .ok (.iconst 0, 1) := dk_3 (dk_at dksX2_areAtPeace_3 14 rfl rfl)
theorem dX2_areAtPeace_84 : decode cX2_areAtPeace 84 = .ok (.ireturn, 1) := dk_172 (dk_at dksX2_areAtPeace_3 15 rfl rfl)
theorem dX2_areAtPeace_85 : decode cX2_areAtPeace 85 = .ok (.iinc 3 1, 3) := dk_132 3 1 (dk_at dksX2_areAtPeace_3 16 rfl rfl)
theorem dX2_areAtPeace_88 : decode cX2_areAtPeace 88 = .ok (.goto (-74), 3) := dk_167 255 182 (dk_at dksX2_areAtPeace_3 19 rfl rfl)
theorem dX2_areAtPeace_91 : decode cX2_areAtPeace 91 = .ok (.iinc 2 1, 3) := dk_132 2 1 (dk_at dksX2_areAtPeace_4 0 rfl rfl)
theorem dX2_areAtPeace_94 : decode cX2_areAtPeace 94 = .ok (.goto (-92), 3) := dk_167 255 164 (dk_at dksX2_areAtPeace_4 3 rfl rfl)
theorem dX2_areAtPeace_97 : decode cX2_areAtPeace 97 = .ok (.iconst 1, 1) := dk_4 (dk_at dksX2_areAtPeace_4 6 rfl rfl)
theorem dX2_areAtPeace_98 : decode cX2_areAtPeace 98 = .ok (.ireturn, 1) := dk_172 (dk_at dksX2_areAtPeace_4 7 rfl rfl)
abbrev cX2_dry : ByteArray := prog_21_method_124_code
def yX2_dry : MethodName := ⟨RX2, "dry", "(IIII)I"⟩
def dkwX2_dry_5 : List UInt8 := [182, 1, 136, 21, 4, 154, 0, 8, 21, 5, 167, 0, 5, 21, 6, 172]
abbrev dktX2_dry_5 : List UInt8 := dkwX2_dry_5 ++ []
def dkwX2_dry_4 : List UInt8 := [21, 7, 54, 5, 42, 180, 0, 7, 3, 46, 21, 7, 100, 54, 6, 132, 8, 1, 167, 255, 201, 42]
abbrev dktX2_dry_4 : List UInt8 := dkwX2_dry_4 ++ dktX2_dry_5
def dkwX2_dry_3 : List UInt8 := [182, 1, 32, 154, 0, 10, 21, 7, 4, 96, 167, 0, 4, 3, 54, 7, 21, 7, 21, 5, 164, 0, 18]
abbrev dktX2_dry_3 : List UInt8 := dkwX2_dry_3 ++ dktX2_dry_4
def dkwX2_dry_2 : List UInt8 := [54, 7, 42, 182, 1, 130, 3, 54, 8, 21, 8, 29, 162, 0, 55, 42, 4, 182, 1, 133, 42, 27, 28]
abbrev dktX2_dry_2 : List UInt8 := dkwX2_dry_2 ++ dktX2_dry_3
def dkwX2_dry_1 : List UInt8 := [153, 0, 14, 42, 21, 4, 3, 4, 182, 0, 102, 154, 0, 5, 2, 172, 3, 54, 5, 2, 54, 6, 3]
abbrev dktX2_dry_1 : List UInt8 := dkwX2_dry_1 ++ dktX2_dry_2
def dkwX2_dry_0 : List UInt8 := [42, 3, 181, 0, 86, 42, 27, 28, 182, 1, 127, 153, 0, 25, 42, 29, 4, 16, 60, 182, 0, 102]
abbrev dktX2_dry_0 : List UInt8 := dkwX2_dry_0 ++ dktX2_dry_1
theorem dksX2_dry_0 : cX2_dry.data.toList.drop 0 = dktX2_dry_0 := by decide +kernel
theorem dksX2_dry_1 : cX2_dry.data.toList.drop 22 = dktX2_dry_1 := dk_seg dksX2_dry_0 22 rfl rfl
theorem dksX2_dry_2 : cX2_dry.data.toList.drop 45 = dktX2_dry_2 := dk_seg dksX2_dry_1 23 rfl rfl
theorem dksX2_dry_3 : cX2_dry.data.toList.drop 68 = dktX2_dry_3 := dk_seg dksX2_dry_2 23 rfl rfl
theorem dksX2_dry_4 : cX2_dry.data.toList.drop 91 = dktX2_dry_4 := dk_seg dksX2_dry_3 23 rfl rfl
theorem dksX2_dry_5 : cX2_dry.data.toList.drop 113 = dktX2_dry_5 := dk_seg dksX2_dry_4 22 rfl rfl
theorem dX2_dry_0 : decode cX2_dry 0 = .ok (.aload_n 0, 1) := dk_42 (dk_at dksX2_dry_0 0 rfl rfl)
theorem dX2_dry_1 : decode cX2_dry 1 = .ok (.iconst 0, 1) := dk_3 (dk_at dksX2_dry_0 1 rfl rfl)
theorem dX2_dry_2 : decode cX2_dry 2 = .ok (.putfield 86, 3) := dk_181 0 86 (dk_at dksX2_dry_0 2 rfl rfl)
theorem dX2_dry_5 : decode cX2_dry 5 = .ok (.aload_n 0, 1) := dk_42 (dk_at dksX2_dry_0 5 rfl rfl)
theorem dX2_dry_6 : decode cX2_dry 6 = .ok (.iload_n 1, 1) := dk_27 (dk_at dksX2_dry_0 6 rfl rfl)
theorem dX2_dry_7 : decode cX2_dry 7 = .ok (.iload_n 2, 1) := dk_28 (dk_at dksX2_dry_0 7 rfl rfl)
theorem dX2_dry_8 : decode cX2_dry 8 = .ok (.invokevirtual 383, 3) := dk_182 1 127 (dk_at dksX2_dry_0 8 rfl rfl)
theorem dX2_dry_11 : decode cX2_dry 11 = .ok (.ifCond .eq 25, 3) := dk_153 0 25 (dk_at dksX2_dry_0 11 rfl rfl)
theorem dX2_dry_14 : decode cX2_dry 14 = .ok (.aload_n 0, 1) := dk_42 (dk_at dksX2_dry_0 14 rfl rfl)
theorem dX2_dry_15 : decode cX2_dry 15 = .ok (.iload_n 3, 1) := dk_29 (dk_at dksX2_dry_0 15 rfl rfl)
theorem dX2_dry_16 : decode cX2_dry 16 = .ok (.iconst 1, 1) := dk_4 (dk_at dksX2_dry_0 16 rfl rfl)
theorem dX2_dry_17 : decode cX2_dry 17 = .ok (.bipush 60, 2) := dk_16 60 (dk_at dksX2_dry_0 17 rfl rfl)
theorem dX2_dry_19 : decode cX2_dry 19 = .ok (.invokevirtual 102, 3) := dk_182 0 102 (dk_at dksX2_dry_0 19 rfl rfl)
theorem dX2_dry_22 : decode cX2_dry 22 = .ok (.ifCond .eq 14, 3) := dk_153 0 14 (dk_at dksX2_dry_1 0 rfl rfl)
theorem dX2_dry_25 : decode cX2_dry 25 = .ok (.aload_n 0, 1) := dk_42 (dk_at dksX2_dry_1 3 rfl rfl)
theorem dX2_dry_26 : decode cX2_dry 26 = .ok (.iload 4, 2) := dk_21 4 (dk_at dksX2_dry_1 4 rfl rfl)
theorem dX2_dry_28 : decode cX2_dry 28 = .ok (.iconst 0, 1) := dk_3 (dk_at dksX2_dry_1 6 rfl rfl)
theorem dX2_dry_29 : decode cX2_dry 29 = .ok (.iconst 1, 1) := dk_4 (dk_at dksX2_dry_1 7 rfl rfl)
theorem dX2_dry_30 : decode cX2_dry 30 = .ok (.invokevirtual 102, 3) := dk_182 0 102 (dk_at dksX2_dry_1 8 rfl rfl)
theorem dX2_dry_33 : decode cX2_dry 33 = .ok (.ifCond .ne 5, 3) := dk_154 0 5 (dk_at dksX2_dry_1 11 rfl rfl)
theorem dX2_dry_36 : decode cX2_dry 36 = .ok (.iconst (-1), 1) := dk_2 (dk_at dksX2_dry_1 14 rfl rfl)
theorem dX2_dry_37 : decode cX2_dry 37 = .ok (.ireturn, 1) := dk_172 (dk_at dksX2_dry_1 15 rfl rfl)
theorem dX2_dry_38 : decode cX2_dry 38 = .ok (.iconst 0, 1) := dk_3 (dk_at dksX2_dry_1 16 rfl rfl)
theorem dX2_dry_39 : decode cX2_dry 39 = .ok (.istore 5, 2) := dk_54 5 (dk_at dksX2_dry_1 17 rfl rfl)
theorem dX2_dry_41 : decode cX2_dry 41 = .ok (.iconst (-1), 1) := dk_2 (dk_at dksX2_dry_1 19 rfl rfl)
theorem dX2_dry_42 : decode cX2_dry 42 = .ok (.istore 6, 2) := dk_54 6 (dk_at dksX2_dry_1 20 rfl rfl)
theorem dX2_dry_44 : decode cX2_dry 44 = .ok (.iconst 0, 1) := dk_3 (dk_at dksX2_dry_1 22 rfl rfl)
theorem dX2_dry_45 : decode cX2_dry 45 = .ok (.istore 7, 2) := dk_54 7 (dk_at dksX2_dry_2 0 rfl rfl)
theorem dX2_dry_47 : decode cX2_dry 47 = .ok (.aload_n 0, 1) := dk_42 (dk_at dksX2_dry_2 2 rfl rfl)
theorem dX2_dry_48 : decode cX2_dry 48 = .ok (.invokevirtual 386, 3) := dk_182 1 130 (dk_at dksX2_dry_2 3 rfl rfl)
theorem dX2_dry_51 : decode cX2_dry 51 = .ok (.iconst 0, 1) := dk_3 (dk_at dksX2_dry_2 6 rfl rfl)
theorem dX2_dry_52 : decode cX2_dry 52 = .ok (.istore 8, 2) := dk_54 8 (dk_at dksX2_dry_2 7 rfl rfl)
theorem dX2_dry_54 : decode cX2_dry 54 = .ok (.iload 8, 2) := dk_21 8 (dk_at dksX2_dry_2 9 rfl rfl)
theorem dX2_dry_56 : decode cX2_dry 56 = .ok (.iload_n 3, 1) := dk_29 (dk_at dksX2_dry_2 11 rfl rfl)
theorem dX2_dry_57 : decode cX2_dry 57 = .ok (.if_icmp .ge 55, 3) := dk_162 0 55 (dk_at dksX2_dry_2 12 rfl rfl)
theorem dX2_dry_60 : decode cX2_dry 60 = .ok (.aload_n 0, 1) := dk_42 (dk_at dksX2_dry_2 15 rfl rfl)
theorem dX2_dry_61 : decode cX2_dry 61 = .ok (.iconst 1, 1) := dk_4 (dk_at dksX2_dry_2 16 rfl rfl)
theorem dX2_dry_62 : decode cX2_dry 62 = .ok (.invokevirtual 389, 3) := dk_182 1 133 (dk_at dksX2_dry_2 17 rfl rfl)
theorem dX2_dry_65 : decode cX2_dry 65 = .ok (.aload_n 0, 1) := dk_42 (dk_at dksX2_dry_2 20 rfl rfl)
theorem dX2_dry_66 : decode cX2_dry 66 = .ok (.iload_n 1, 1) := dk_27 (dk_at dksX2_dry_2 21 rfl rfl)
theorem dX2_dry_67 : decode cX2_dry 67 = .ok (.iload_n 2, 1) := dk_28 (dk_at dksX2_dry_2 22 rfl rfl)
theorem dX2_dry_68 : decode cX2_dry 68 = .ok (.invokevirtual 288, 3) := dk_182 1 32 (dk_at dksX2_dry_3 0 rfl rfl)
theorem dX2_dry_71 : decode cX2_dry 71 = .ok (.ifCond .ne 10, 3) := dk_154 0 10 (dk_at dksX2_dry_3 3 rfl rfl)
theorem dX2_dry_74 : decode cX2_dry 74 = .ok (.iload 7, 2) := dk_21 7 (dk_at dksX2_dry_3 6 rfl rfl)
theorem dX2_dry_76 : decode cX2_dry 76 = .ok (.iconst 1, 1) := dk_4 (dk_at dksX2_dry_3 8 rfl rfl)
theorem dX2_dry_77 : decode cX2_dry 77 = .ok (.iadd, 1) := dk_96 (dk_at dksX2_dry_3 9 rfl rfl)
theorem dX2_dry_78 : decode cX2_dry 78 = .ok (.goto 4, 3) := dk_167 0 4 (dk_at dksX2_dry_3 10 rfl rfl)
theorem dX2_dry_81 : decode cX2_dry 81 = .ok (.iconst 0, 1) := dk_3 (dk_at dksX2_dry_3 13 rfl rfl)
theorem dX2_dry_82 : decode cX2_dry 82 = .ok (.istore 7, 2) := dk_54 7 (dk_at dksX2_dry_3 14 rfl rfl)
theorem dX2_dry_84 : decode cX2_dry 84 = .ok (.iload 7, 2) := dk_21 7 (dk_at dksX2_dry_3 16 rfl rfl)
theorem dX2_dry_86 : decode cX2_dry 86 = .ok (.iload 5, 2) := dk_21 5 (dk_at dksX2_dry_3 18 rfl rfl)
theorem dX2_dry_88 : decode cX2_dry 88 = .ok (.if_icmp .le 18, 3) := dk_164 0 18 (dk_at dksX2_dry_3 20 rfl rfl)
theorem dX2_dry_91 : decode cX2_dry 91 = .ok (.iload 7, 2) := dk_21 7 (dk_at dksX2_dry_4 0 rfl rfl)
theorem dX2_dry_93 : decode cX2_dry 93 = .ok (.istore 5, 2) := dk_54 5 (dk_at dksX2_dry_4 2 rfl rfl)
theorem dX2_dry_95 : decode cX2_dry 95 = .ok (.aload_n 0, 1) := dk_42 (dk_at dksX2_dry_4 4 rfl rfl)
theorem dX2_dry_96 : decode cX2_dry 96 = .ok (.getfield 7, 3) := dk_180 0 7 (dk_at dksX2_dry_4 5 rfl rfl)
theorem dX2_dry_99 : decode cX2_dry 99 = .ok (.iconst 0, 1) := dk_3 (dk_at dksX2_dry_4 8 rfl rfl)
theorem dX2_dry_100 : decode cX2_dry 100 = .ok (.iaload, 1) := dk_46 (dk_at dksX2_dry_4 9 rfl rfl)
theorem dX2_dry_101 : decode cX2_dry 101 = .ok (.iload 7, 2) := dk_21 7 (dk_at dksX2_dry_4 10 rfl rfl)
theorem dX2_dry_103 : decode cX2_dry 103 = .ok (.isub, 1) := dk_100 (dk_at dksX2_dry_4 12 rfl rfl)
theorem dX2_dry_104 : decode cX2_dry 104 = .ok (.istore 6, 2) := dk_54 6 (dk_at dksX2_dry_4 13 rfl rfl)
theorem dX2_dry_106 : decode cX2_dry 106 = .ok (.iinc 8 1, 3) := dk_132 8 1 (dk_at dksX2_dry_4 15 rfl rfl)
theorem dX2_dry_109 : decode cX2_dry 109 = .ok (.goto (-55), 3) := dk_167 255 201 (dk_at dksX2_dry_4 18 rfl rfl)
theorem dX2_dry_112 : decode cX2_dry 112 = .ok (.aload_n 0, 1) := dk_42 (dk_at dksX2_dry_4 21 rfl rfl)
theorem dX2_dry_113 : decode cX2_dry 113 = .ok (.invokevirtual 392, 3) := dk_182 1 136 (dk_at dksX2_dry_5 0 rfl rfl)
theorem dX2_dry_116 : decode cX2_dry 116 = .ok (.iload 4, 2) := dk_21 4 (dk_at dksX2_dry_5 3 rfl rfl)
theorem dX2_dry_118 : decode cX2_dry 118 = .ok (.ifCond .ne 8, 3) := dk_154 0 8 (dk_at dksX2_dry_5 5 rfl rfl)
theorem dX2_dry_121 : decode cX2_dry 121 = .ok (.iload 5, 2) := dk_21 5 (dk_at dksX2_dry_5 8 rfl rfl)
theorem dX2_dry_123 : decode cX2_dry 123 = .ok (.goto 5, 3) := dk_167 0 5 (dk_at dksX2_dry_5 10 rfl rfl)
theorem dX2_dry_126 : decode cX2_dry 126 = .ok (.iload 6, 2) := dk_21 6 (dk_at dksX2_dry_5 13 rfl rfl)
theorem dX2_dry_128 : decode cX2_dry 128 = .ok (.ireturn, 1) := dk_172 (dk_at dksX2_dry_5 15 rfl rfl)
abbrev cX2_buys : ByteArray := prog_21_method_126_code
def yX2_buys : MethodName := ⟨RX2, "buys", "(II)I"⟩
def dkwX2_buys_7 : List UInt8 := [167, 0, 5, 21, 4, 172]
abbrev dktX2_buys_7 : List UInt8 := dkwX2_buys_7 ++ []
def dkwX2_buys_6 : List UInt8 := [162, 0, 7, 21, 5, 54, 4, 132, 5, 1, 167, 255, 174, 28, 154, 0, 12, 42, 21, 4, 182, 1, 191]
abbrev dktX2_buys_6 : List UInt8 := dkwX2_buys_6 ++ dktX2_buys_7
def dkwX2_buys_5 : List UInt8 := [54, 6, 21, 6, 157, 0, 23, 21, 6, 154, 0, 22, 42, 21, 5, 182, 1, 157, 42, 21, 4, 182, 1, 157]
abbrev dktX2_buys_5 : List UInt8 := dkwX2_buys_5 ++ dktX2_buys_6
def dkwX2_buys_4 : List UInt8 := [182, 1, 157, 27, 164, 0, 6, 167, 0, 47, 42, 21, 5, 182, 1, 191, 42, 21, 4, 182, 1, 191, 100]
abbrev dktX2_buys_4 : List UInt8 := dkwX2_buys_4 ++ dktX2_buys_5
def dkwX2_buys_3 : List UInt8 := [42, 180, 0, 7, 7, 46, 120, 162, 0, 75, 21, 5, 29, 2, 130, 126, 154, 0, 60, 42, 21, 5]
abbrev dktX2_buys_3 : List UInt8 := dkwX2_buys_3 ++ dktX2_buys_4
def dkwX2_buys_2 : List UInt8 := [182, 1, 124, 79, 132, 3, 1, 167, 255, 232, 42, 182, 1, 172, 62, 3, 54, 4, 4, 54, 5, 21, 5, 4]
abbrev dktX2_buys_2 : List UInt8 := dkwX2_buys_2 ++ dktX2_buys_3
def dkwX2_buys_1 : List UInt8 := [154, 0, 5, 2, 172, 3, 62, 29, 42, 180, 0, 7, 7, 46, 162, 0, 20, 42, 180, 0, 77, 29, 42, 29]
abbrev dktX2_buys_1 : List UInt8 := dkwX2_buys_1 ++ dktX2_buys_2
def dkwX2_buys_0 : List UInt8 := [42, 3, 181, 0, 86, 42, 27, 3, 17, 39, 15, 182, 0, 102, 153, 0, 13, 42, 28, 3, 4, 182, 0, 102]
abbrev dktX2_buys_0 : List UInt8 := dkwX2_buys_0 ++ dktX2_buys_1
theorem dksX2_buys_0 : cX2_buys.data.toList.drop 0 = dktX2_buys_0 := by decide +kernel
theorem dksX2_buys_1 : cX2_buys.data.toList.drop 24 = dktX2_buys_1 := dk_seg dksX2_buys_0 24 rfl rfl
theorem dksX2_buys_2 : cX2_buys.data.toList.drop 48 = dktX2_buys_2 := dk_seg dksX2_buys_1 24 rfl rfl
theorem dksX2_buys_3 : cX2_buys.data.toList.drop 72 = dktX2_buys_3 := dk_seg dksX2_buys_2 24 rfl rfl
theorem dksX2_buys_4 : cX2_buys.data.toList.drop 94 = dktX2_buys_4 := dk_seg dksX2_buys_3 22 rfl rfl
theorem dksX2_buys_5 : cX2_buys.data.toList.drop 117 = dktX2_buys_5 := dk_seg dksX2_buys_4 23 rfl rfl
theorem dksX2_buys_6 : cX2_buys.data.toList.drop 141 = dktX2_buys_6 := dk_seg dksX2_buys_5 24 rfl rfl
theorem dksX2_buys_7 : cX2_buys.data.toList.drop 164 = dktX2_buys_7 := dk_seg dksX2_buys_6 23 rfl rfl
theorem dX2_buys_0 : decode cX2_buys 0 = .ok (.aload_n 0, 1) := dk_42 (dk_at dksX2_buys_0 0 rfl rfl)
theorem dX2_buys_1 : decode cX2_buys 1 = .ok (.iconst 0, 1) := dk_3 (dk_at dksX2_buys_0 1 rfl rfl)
theorem dX2_buys_2 : decode cX2_buys 2 = .ok (.putfield 86, 3) := dk_181 0 86 (dk_at dksX2_buys_0 2 rfl rfl)
theorem dX2_buys_5 : decode cX2_buys 5 = .ok (.aload_n 0, 1) := dk_42 (dk_at dksX2_buys_0 5 rfl rfl)
theorem dX2_buys_6 : decode cX2_buys 6 = .ok (.iload_n 1, 1) := dk_27 (dk_at dksX2_buys_0 6 rfl rfl)
theorem dX2_buys_7 : decode cX2_buys 7 = .ok (.iconst 0, 1) := dk_3 (dk_at dksX2_buys_0 7 rfl rfl)
theorem dX2_buys_8 : decode cX2_buys 8 = .ok (.sipush 9999, 3) := dk_17 39 15 (dk_at dksX2_buys_0 8 rfl rfl)
theorem dX2_buys_11 : decode cX2_buys 11 = .ok (.invokevirtual 102, 3) := dk_182 0 102 (dk_at dksX2_buys_0 11 rfl rfl)
theorem dX2_buys_14 : decode cX2_buys 14 = .ok (.ifCond .eq 13, 3) := dk_153 0 13 (dk_at dksX2_buys_0 14 rfl rfl)
theorem dX2_buys_17 : decode cX2_buys 17 = .ok (.aload_n 0, 1) := dk_42 (dk_at dksX2_buys_0 17 rfl rfl)
theorem dX2_buys_18 : decode cX2_buys 18 = .ok (.iload_n 2, 1) := dk_28 (dk_at dksX2_buys_0 18 rfl rfl)
theorem dX2_buys_19 : decode cX2_buys 19 = .ok (.iconst 0, 1) := dk_3 (dk_at dksX2_buys_0 19 rfl rfl)
theorem dX2_buys_20 : decode cX2_buys 20 = .ok (.iconst 1, 1) := dk_4 (dk_at dksX2_buys_0 20 rfl rfl)
theorem dX2_buys_21 : decode cX2_buys 21 = .ok (.invokevirtual 102, 3) := dk_182 0 102 (dk_at dksX2_buys_0 21 rfl rfl)
theorem dX2_buys_24 : decode cX2_buys 24 = .ok (.ifCond .ne 5, 3) := dk_154 0 5 (dk_at dksX2_buys_1 0 rfl rfl)
theorem dX2_buys_27 : decode cX2_buys 27 = .ok (.iconst (-1), 1) := dk_2 (dk_at dksX2_buys_1 3 rfl rfl)
theorem dX2_buys_28 : decode cX2_buys 28 = .ok (.ireturn, 1) := dk_172 (dk_at dksX2_buys_1 4 rfl rfl)
theorem dX2_buys_29 : decode cX2_buys 29 = .ok (.iconst 0, 1) := dk_3 (dk_at dksX2_buys_1 5 rfl rfl)
theorem dX2_buys_30 : decode cX2_buys 30 = .ok (.istore_n 3, 1) := dk_62 (dk_at dksX2_buys_1 6 rfl rfl)
theorem dX2_buys_31 : decode cX2_buys 31 = .ok (.iload_n 3, 1) := dk_29 (dk_at dksX2_buys_1 7 rfl rfl)
theorem dX2_buys_32 : decode cX2_buys 32 = .ok (.aload_n 0, 1) := dk_42 (dk_at dksX2_buys_1 8 rfl rfl)
theorem dX2_buys_33 : decode cX2_buys 33 = .ok (.getfield 7, 3) := dk_180 0 7 (dk_at dksX2_buys_1 9 rfl rfl)
theorem dX2_buys_36 : decode cX2_buys 36 = .ok (.iconst 4, 1) := dk_7 (dk_at dksX2_buys_1 12 rfl rfl)
theorem dX2_buys_37 : decode cX2_buys 37 = .ok (.iaload, 1) := dk_46 (dk_at dksX2_buys_1 13 rfl rfl)
theorem dX2_buys_38 : decode cX2_buys 38 = .ok (.if_icmp .ge 20, 3) := dk_162 0 20 (dk_at dksX2_buys_1 14 rfl rfl)
theorem dX2_buys_41 : decode cX2_buys 41 = .ok (.aload_n 0, 1) := dk_42 (dk_at dksX2_buys_1 17 rfl rfl)
theorem dX2_buys_42 : decode cX2_buys 42 = .ok (.getfield 77, 3) := dk_180 0 77 (dk_at dksX2_buys_1 18 rfl rfl)
theorem dX2_buys_45 : decode cX2_buys 45 = .ok (.iload_n 3, 1) := dk_29 (dk_at dksX2_buys_1 21 rfl rfl)
theorem dX2_buys_46 : decode cX2_buys 46 = .ok (.aload_n 0, 1) := dk_42 (dk_at dksX2_buys_1 22 rfl rfl)
theorem dX2_buys_47 : decode cX2_buys 47 = .ok (.iload_n 3, 1) := dk_29 (dk_at dksX2_buys_1 23 rfl rfl)
theorem dX2_buys_48 : decode cX2_buys 48 = .ok (.invokevirtual 380, 3) := dk_182 1 124 (dk_at dksX2_buys_2 0 rfl rfl)
theorem dX2_buys_51 : decode cX2_buys 51 = .ok (.iastore, 1) := dk_79 (dk_at dksX2_buys_2 3 rfl rfl)
theorem dX2_buys_52 : decode cX2_buys 52 = .ok (.iinc 3 1, 3) := dk_132 3 1 (dk_at dksX2_buys_2 4 rfl rfl)
theorem dX2_buys_55 : decode cX2_buys 55 = .ok (.goto (-24), 3) := dk_167 255 232 (dk_at dksX2_buys_2 7 rfl rfl)
theorem dX2_buys_58 : decode cX2_buys 58 = .ok (.aload_n 0, 1) := dk_42 (dk_at dksX2_buys_2 10 rfl rfl)
theorem dX2_buys_59 : decode cX2_buys 59 = .ok (.invokevirtual 428, 3) := dk_182 1 172 (dk_at dksX2_buys_2 11 rfl rfl)
theorem dX2_buys_62 : decode cX2_buys 62 = .ok (.istore_n 3, 1) := dk_62 (dk_at dksX2_buys_2 14 rfl rfl)
theorem dX2_buys_63 : decode cX2_buys 63 = .ok (.iconst 0, 1) := dk_3 (dk_at dksX2_buys_2 15 rfl rfl)
theorem dX2_buys_64 : decode cX2_buys 64 = .ok (.istore 4, 2) := dk_54 4 (dk_at dksX2_buys_2 16 rfl rfl)
theorem dX2_buys_66 : decode cX2_buys 66 = .ok (.iconst 1, 1) := dk_4 (dk_at dksX2_buys_2 18 rfl rfl)
theorem dX2_buys_67 : decode cX2_buys 67 = .ok (.istore 5, 2) := dk_54 5 (dk_at dksX2_buys_2 19 rfl rfl)
theorem dX2_buys_69 : decode cX2_buys 69 = .ok (.iload 5, 2) := dk_21 5 (dk_at dksX2_buys_2 21 rfl rfl)
theorem dX2_buys_71 : decode cX2_buys 71 = .ok (.iconst 1, 1) := dk_4 (dk_at dksX2_buys_2 23 rfl rfl)
theorem dX2_buys_72 : decode cX2_buys 72 = .ok (.aload_n 0, 1) := dk_42 (dk_at dksX2_buys_3 0 rfl rfl)
theorem dX2_buys_73 : decode cX2_buys 73 = .ok (.getfield 7, 3) := dk_180 0 7 (dk_at dksX2_buys_3 1 rfl rfl)
theorem dX2_buys_76 : decode cX2_buys 76 = .ok (.iconst 4, 1) := dk_7 (dk_at dksX2_buys_3 4 rfl rfl)
theorem dX2_buys_77 : decode cX2_buys 77 = .ok (.iaload, 1) := dk_46 (dk_at dksX2_buys_3 5 rfl rfl)
theorem dX2_buys_78 : decode cX2_buys 78 = .ok (.ishl, 1) := dk_120 (dk_at dksX2_buys_3 6 rfl rfl)
theorem dX2_buys_79 : decode cX2_buys 79 = .ok (.if_icmp .ge 75, 3) := dk_162 0 75 (dk_at dksX2_buys_3 7 rfl rfl)
theorem dX2_buys_82 : decode cX2_buys 82 = .ok (.iload 5, 2) := dk_21 5 (dk_at dksX2_buys_3 10 rfl rfl)
theorem dX2_buys_84 : decode cX2_buys 84 = .ok (.iload_n 3, 1) := dk_29 (dk_at dksX2_buys_3 12 rfl rfl)
theorem dX2_buys_85 : decode cX2_buys 85 = .ok (.iconst (-1), 1) := dk_2 (dk_at dksX2_buys_3 13 rfl rfl)
theorem dX2_buys_86 : decode cX2_buys 86 = .ok (.ixor, 1) := dk_130 (dk_at dksX2_buys_3 14 rfl rfl)
theorem dX2_buys_87 : decode cX2_buys 87 = .ok (.iand, 1) := dk_126 (dk_at dksX2_buys_3 15 rfl rfl)
theorem dX2_buys_88 : decode cX2_buys 88 = .ok (.ifCond .ne 60, 3) := dk_154 0 60 (dk_at dksX2_buys_3 16 rfl rfl)
theorem dX2_buys_91 : decode cX2_buys 91 = .ok (.aload_n 0, 1) := dk_42 (dk_at dksX2_buys_3 19 rfl rfl)
theorem dX2_buys_92 : decode cX2_buys 92 = .ok (.iload 5, 2) := dk_21 5 (dk_at dksX2_buys_3 20 rfl rfl)
theorem dX2_buys_94 : decode cX2_buys 94 = .ok (.invokevirtual 413, 3) := dk_182 1 157 (dk_at dksX2_buys_4 0 rfl rfl)
theorem dX2_buys_97 : decode cX2_buys 97 = .ok (.iload_n 1, 1) := dk_27 (dk_at dksX2_buys_4 3 rfl rfl)
theorem dX2_buys_98 : decode cX2_buys 98 = .ok (.if_icmp .le 6, 3) := dk_164 0 6 (dk_at dksX2_buys_4 4 rfl rfl)
theorem dX2_buys_101 : decode cX2_buys 101 = .ok (.goto 47, 3) := dk_167 0 47 (dk_at dksX2_buys_4 7 rfl rfl)
theorem dX2_buys_104 : decode cX2_buys 104 = .ok (.aload_n 0, 1) := dk_42 (dk_at dksX2_buys_4 10 rfl rfl)
theorem dX2_buys_105 : decode cX2_buys 105 = .ok (.iload 5, 2) := dk_21 5 (dk_at dksX2_buys_4 11 rfl rfl)
theorem dX2_buys_107 : decode cX2_buys 107 = .ok (.invokevirtual 447, 3) := dk_182 1 191 (dk_at dksX2_buys_4 13 rfl rfl)
theorem dX2_buys_110 : decode cX2_buys 110 = .ok (.aload_n 0, 1) := dk_42 (dk_at dksX2_buys_4 16 rfl rfl)
theorem dX2_buys_111 : decode cX2_buys 111 = .ok (.iload 4, 2) := dk_21 4 (dk_at dksX2_buys_4 17 rfl rfl)
theorem dX2_buys_113 : decode cX2_buys 113 = .ok (.invokevirtual 447, 3) := dk_182 1 191 (dk_at dksX2_buys_4 19 rfl rfl)
theorem dX2_buys_116 : decode cX2_buys 116 = .ok (.isub, 1) := dk_100 (dk_at dksX2_buys_4 22 rfl rfl)
theorem dX2_buys_117 : decode cX2_buys 117 = .ok (.istore 6, 2) := dk_54 6 (dk_at dksX2_buys_5 0 rfl rfl)
theorem dX2_buys_119 : decode cX2_buys 119 = .ok (.iload 6, 2) := dk_21 6 (dk_at dksX2_buys_5 2 rfl rfl)
theorem dX2_buys_121 : decode cX2_buys 121 = .ok (.ifCond .gt 23, 3) := dk_157 0 23 (dk_at dksX2_buys_5 4 rfl rfl)
theorem dX2_buys_124 : decode cX2_buys 124 = .ok (.iload 6, 2) := dk_21 6 (dk_at dksX2_buys_5 7 rfl rfl)
theorem dX2_buys_126 : decode cX2_buys 126 = .ok (.ifCond .ne 22, 3) := dk_154 0 22 (dk_at dksX2_buys_5 9 rfl rfl)
theorem dX2_buys_129 : decode cX2_buys 129 = .ok (.aload_n 0, 1) := dk_42 (dk_at dksX2_buys_5 12 rfl rfl)
theorem dX2_buys_130 : decode cX2_buys 130 = .ok (.iload 5, 2) := dk_21 5 (dk_at dksX2_buys_5 13 rfl rfl)
theorem dX2_buys_132 : decode cX2_buys 132 = .ok (.invokevirtual 413, 3) := dk_182 1 157 (dk_at dksX2_buys_5 15 rfl rfl)
theorem dX2_buys_135 : decode cX2_buys 135 = .ok (.aload_n 0, 1) := dk_42 (dk_at dksX2_buys_5 18 rfl rfl)
theorem dX2_buys_136 : decode cX2_buys 136 = .ok (.iload 4, 2) := dk_21 4 (dk_at dksX2_buys_5 19 rfl rfl)
theorem dX2_buys_138 : decode cX2_buys 138 = .ok (.invokevirtual 413, 3) := dk_182 1 157 (dk_at dksX2_buys_5 21 rfl rfl)
theorem dX2_buys_141 : decode cX2_buys 141 = .ok (.if_icmp .ge 7, 3) := dk_162 0 7 (dk_at dksX2_buys_6 0 rfl rfl)
theorem dX2_buys_144 : decode cX2_buys 144 = .ok (.iload 5, 2) := dk_21 5 (dk_at dksX2_buys_6 3 rfl rfl)
theorem dX2_buys_146 : decode cX2_buys 146 = .ok (.istore 4, 2) := dk_54 4 (dk_at dksX2_buys_6 5 rfl rfl)
theorem dX2_buys_148 : decode cX2_buys 148 = .ok (.iinc 5 1, 3) := dk_132 5 1 (dk_at dksX2_buys_6 7 rfl rfl)
theorem dX2_buys_151 : decode cX2_buys 151 = .ok (.goto (-82), 3) := dk_167 255 174 (dk_at dksX2_buys_6 10 rfl rfl)
theorem dX2_buys_154 : decode cX2_buys 154 = .ok (.iload_n 2, 1) := dk_28 (dk_at dksX2_buys_6 13 rfl rfl)
theorem dX2_buys_155 : decode cX2_buys 155 = .ok (.ifCond .ne 12, 3) := dk_154 0 12 (dk_at dksX2_buys_6 14 rfl rfl)
theorem dX2_buys_158 : decode cX2_buys 158 = .ok (.aload_n 0, 1) := dk_42 (dk_at dksX2_buys_6 17 rfl rfl)
theorem dX2_buys_159 : decode cX2_buys 159 = .ok (.iload 4, 2) := dk_21 4 (dk_at dksX2_buys_6 18 rfl rfl)
theorem dX2_buys_161 : decode cX2_buys 161 = .ok (.invokevirtual 447, 3) := dk_182 1 191 (dk_at dksX2_buys_6 20 rfl rfl)
theorem dX2_buys_164 : decode cX2_buys 164 = .ok (.goto 5, 3) := dk_167 0 5 (dk_at dksX2_buys_7 0 rfl rfl)
theorem dX2_buys_167 : decode cX2_buys 167 = .ok (.iload 4, 2) := dk_21 4 (dk_at dksX2_buys_7 3 rfl rfl)
theorem dX2_buys_169 : decode cX2_buys 169 = .ok (.ireturn, 1) := dk_172 (dk_at dksX2_buys_7 5 rfl rfl)
abbrev cX2_strengthOf : ByteArray := prog_21_method_125_code
def yX2_strengthOf : MethodName := ⟨RX2, "strengthOf", "(I)I"⟩
def dkwX2_strengthOf_1 : List UInt8 := [42, 180, 0, 7, 16, 57, 29, 96, 46, 96, 61, 132, 3, 1, 167, 255, 222, 28, 172]
abbrev dktX2_strengthOf_1 : List UInt8 := dkwX2_strengthOf_1 ++ []
def dkwX2_strengthOf_0 : List UInt8 := [3, 61, 3, 62, 29, 42, 180, 0, 7, 7, 46, 162, 0, 30, 27, 29, 122, 4, 126, 4, 160, 0, 15, 28]
abbrev dktX2_strengthOf_0 : List UInt8 := dkwX2_strengthOf_0 ++ dktX2_strengthOf_1
theorem dksX2_strengthOf_0 : cX2_strengthOf.data.toList.drop 0 = dktX2_strengthOf_0 := by decide +kernel
theorem dksX2_strengthOf_1 : cX2_strengthOf.data.toList.drop 24 = dktX2_strengthOf_1 := dk_seg dksX2_strengthOf_0 24 rfl rfl
theorem dX2_strengthOf_0 : decode cX2_strengthOf 0 = .ok (.iconst 0, 1) := dk_3 (dk_at dksX2_strengthOf_0 0 rfl rfl)
theorem dX2_strengthOf_1 : decode cX2_strengthOf 1 = .ok (.istore_n 2, 1) := dk_61 (dk_at dksX2_strengthOf_0 1 rfl rfl)
theorem dX2_strengthOf_2 : decode cX2_strengthOf 2 = .ok (.iconst 0, 1) := dk_3 (dk_at dksX2_strengthOf_0 2 rfl rfl)
theorem dX2_strengthOf_3 : decode cX2_strengthOf 3 = .ok (.istore_n 3, 1) := dk_62 (dk_at dksX2_strengthOf_0 3 rfl rfl)
theorem dX2_strengthOf_4 : decode cX2_strengthOf 4 = .ok (.iload_n 3, 1) := dk_29 (dk_at dksX2_strengthOf_0 4 rfl rfl)
theorem dX2_strengthOf_5 : decode cX2_strengthOf 5 = .ok (.aload_n 0, 1) := dk_42 (dk_at dksX2_strengthOf_0 5 rfl rfl)
theorem dX2_strengthOf_6 : decode cX2_strengthOf 6 = .ok (.getfield 7, 3) := dk_180 0 7 (dk_at dksX2_strengthOf_0 6 rfl rfl)
theorem dX2_strengthOf_9 : decode cX2_strengthOf 9 = .ok (.iconst 4, 1) := dk_7 (dk_at dksX2_strengthOf_0 9 rfl rfl)
theorem dX2_strengthOf_10 : decode cX2_strengthOf 10 = .ok (.iaload, 1) := dk_46 (dk_at dksX2_strengthOf_0 10 rfl rfl)
theorem dX2_strengthOf_11 : decode cX2_strengthOf 11 = .ok (.if_icmp .ge 30, 3) := dk_162 0 30 (dk_at dksX2_strengthOf_0 11 rfl rfl)
theorem dX2_strengthOf_14 : decode cX2_strengthOf 14 = .ok (.iload_n 1, 1) := dk_27 (dk_at dksX2_strengthOf_0 14 rfl rfl)
theorem dX2_strengthOf_15 : decode cX2_strengthOf 15 = .ok (.iload_n 3, 1) := dk_29 (dk_at dksX2_strengthOf_0 15 rfl rfl)
theorem dX2_strengthOf_16 : decode cX2_strengthOf 16 = .ok (.ishr, 1) := dk_122 (dk_at dksX2_strengthOf_0 16 rfl rfl)
theorem dX2_strengthOf_17 : decode cX2_strengthOf 17 = .ok (.iconst 1, 1) := dk_4 (dk_at dksX2_strengthOf_0 17 rfl rfl)
theorem dX2_strengthOf_18 : decode cX2_strengthOf 18 = .ok (.iand, 1) := dk_126 (dk_at dksX2_strengthOf_0 18 rfl rfl)
theorem dX2_strengthOf_19 : decode cX2_strengthOf 19 = .ok (.iconst 1, 1) := dk_4 (dk_at dksX2_strengthOf_0 19 rfl rfl)
theorem dX2_strengthOf_20 : decode cX2_strengthOf 20 = .ok (.if_icmp .ne 15, 3) := dk_160 0 15 (dk_at dksX2_strengthOf_0 20 rfl rfl)
theorem dX2_strengthOf_23 : decode cX2_strengthOf 23 = .ok (.iload_n 2, 1) := dk_28 (dk_at dksX2_strengthOf_0 23 rfl rfl)
theorem dX2_strengthOf_24 : decode cX2_strengthOf 24 = .ok (.aload_n 0, 1) := dk_42 (dk_at dksX2_strengthOf_1 0 rfl rfl)
theorem dX2_strengthOf_25 : decode cX2_strengthOf 25 = .ok (.getfield 7, 3) := dk_180 0 7 (dk_at dksX2_strengthOf_1 1 rfl rfl)
theorem dX2_strengthOf_28 : decode cX2_strengthOf 28 = .ok (.bipush 57, 2) := dk_16 57 (dk_at dksX2_strengthOf_1 4 rfl rfl)
theorem dX2_strengthOf_30 : decode cX2_strengthOf 30 = .ok (.iload_n 3, 1) := dk_29 (dk_at dksX2_strengthOf_1 6 rfl rfl)
theorem dX2_strengthOf_31 : decode cX2_strengthOf 31 = .ok (.iadd, 1) := dk_96 (dk_at dksX2_strengthOf_1 7 rfl rfl)
theorem dX2_strengthOf_32 : decode cX2_strengthOf 32 = .ok (.iaload, 1) := dk_46 (dk_at dksX2_strengthOf_1 8 rfl rfl)
theorem dX2_strengthOf_33 : decode cX2_strengthOf 33 = .ok (.iadd, 1) := dk_96 (dk_at dksX2_strengthOf_1 9 rfl rfl)
theorem dX2_strengthOf_34 : decode cX2_strengthOf 34 = .ok (.istore_n 2, 1) := dk_61 (dk_at dksX2_strengthOf_1 10 rfl rfl)
theorem dX2_strengthOf_35 : decode cX2_strengthOf 35 = .ok (.iinc 3 1, 3) := dk_132 3 1 (dk_at dksX2_strengthOf_1 11 rfl rfl)
theorem dX2_strengthOf_38 : decode cX2_strengthOf 38 = .ok (.goto (-34), 3) := dk_167 255 222 (dk_at dksX2_strengthOf_1 14 rfl rfl)
theorem dX2_strengthOf_41 : decode cX2_strengthOf 41 = .ok (.iload_n 2, 1) := dk_28 (dk_at dksX2_strengthOf_1 17 rfl rfl)
theorem dX2_strengthOf_42 : decode cX2_strengthOf 42 = .ok (.ireturn, 1) := dk_172 (dk_at dksX2_strengthOf_1 18 rfl rfl)
abbrev cX2_carried : ByteArray := prog_21_method_128_code
def yX2_carried : MethodName := ⟨RX2, "carried", "(II)I"⟩
def dkwX2_carried_1 : List UInt8 := [182, 1, 194, 167, 0, 4, 2, 172]
abbrev dktX2_carried_1 : List UInt8 := dkwX2_carried_1 ++ []
def dkwX2_carried_0 : List UInt8 := [42, 3, 181, 0, 86, 42, 27, 182, 0, 106, 153, 0, 20, 42, 28, 182, 0, 106, 153, 0, 12, 42, 27, 28]
abbrev dktX2_carried_0 : List UInt8 := dkwX2_carried_0 ++ dktX2_carried_1
theorem dksX2_carried_0 : cX2_carried.data.toList.drop 0 = dktX2_carried_0 := by decide +kernel
theorem dksX2_carried_1 : cX2_carried.data.toList.drop 24 = dktX2_carried_1 := dk_seg dksX2_carried_0 24 rfl rfl
theorem dX2_carried_0 : decode cX2_carried 0 = .ok (.aload_n 0, 1) := dk_42 (dk_at dksX2_carried_0 0 rfl rfl)
theorem dX2_carried_1 : decode cX2_carried 1 = .ok (.iconst 0, 1) := dk_3 (dk_at dksX2_carried_0 1 rfl rfl)
theorem dX2_carried_2 : decode cX2_carried 2 = .ok (.putfield 86, 3) := dk_181 0 86 (dk_at dksX2_carried_0 2 rfl rfl)
theorem dX2_carried_5 : decode cX2_carried 5 = .ok (.aload_n 0, 1) := dk_42 (dk_at dksX2_carried_0 5 rfl rfl)
theorem dX2_carried_6 : decode cX2_carried 6 = .ok (.iload_n 1, 1) := dk_27 (dk_at dksX2_carried_0 6 rfl rfl)
theorem dX2_carried_7 : decode cX2_carried 7 = .ok (.invokevirtual 106, 3) := dk_182 0 106 (dk_at dksX2_carried_0 7 rfl rfl)
theorem dX2_carried_10 : decode cX2_carried 10 = .ok (.ifCond .eq 20, 3) := dk_153 0 20 (dk_at dksX2_carried_0 10 rfl rfl)
theorem dX2_carried_13 : decode cX2_carried 13 = .ok (.aload_n 0, 1) := dk_42 (dk_at dksX2_carried_0 13 rfl rfl)
theorem dX2_carried_14 : decode cX2_carried 14 = .ok (.iload_n 2, 1) := dk_28 (dk_at dksX2_carried_0 14 rfl rfl)
theorem dX2_carried_15 : decode cX2_carried 15 = .ok (.invokevirtual 106, 3) := dk_182 0 106 (dk_at dksX2_carried_0 15 rfl rfl)
theorem dX2_carried_18 : decode cX2_carried 18 = .ok (.ifCond .eq 12, 3) := dk_153 0 12 (dk_at dksX2_carried_0 18 rfl rfl)
theorem dX2_carried_21 : decode cX2_carried 21 = .ok (.aload_n 0, 1) := dk_42 (dk_at dksX2_carried_0 21 rfl rfl)
theorem dX2_carried_22 : decode cX2_carried 22 = .ok (.iload_n 1, 1) := dk_27 (dk_at dksX2_carried_0 22 rfl rfl)
theorem dX2_carried_23 : decode cX2_carried 23 = .ok (.iload_n 2, 1) := dk_28 (dk_at dksX2_carried_0 23 rfl rfl)
theorem dX2_carried_24 : decode cX2_carried 24 = .ok (.invokevirtual 450, 3) := dk_182 1 194 (dk_at dksX2_carried_1 0 rfl rfl)
theorem dX2_carried_27 : decode cX2_carried 27 = .ok (.goto 4, 3) := dk_167 0 4 (dk_at dksX2_carried_1 3 rfl rfl)
theorem dX2_carried_30 : decode cX2_carried 30 = .ok (.iconst (-1), 1) := dk_2 (dk_at dksX2_carried_1 6 rfl rfl)
theorem dX2_carried_31 : decode cX2_carried 31 = .ok (.ireturn, 1) := dk_172 (dk_at dksX2_carried_1 7 rfl rfl)
abbrev cX2_leads : ByteArray := prog_21_method_127_code
def yX2_leads : MethodName := ⟨RX2, "leads", "(II)I"⟩
def dkwX2_leads_1 : List UInt8 := [29, 46, 154, 0, 5, 2, 172, 42, 180, 0, 19, 29, 46, 4, 100, 62, 132, 4, 1, 167, 255, 218, 2, 172]
abbrev dktX2_leads_1 : List UInt8 := dkwX2_leads_1 ++ []
def dkwX2_leads_0 : List UInt8 := [27, 62, 3, 54, 4, 21, 4, 16, 8, 163, 0, 37, 29, 28, 160, 0, 6, 21, 4, 172, 42, 180, 0, 19]
abbrev dktX2_leads_0 : List UInt8 := dkwX2_leads_0 ++ dktX2_leads_1
theorem dksX2_leads_0 : cX2_leads.data.toList.drop 0 = dktX2_leads_0 := by decide +kernel
theorem dksX2_leads_1 : cX2_leads.data.toList.drop 24 = dktX2_leads_1 := dk_seg dksX2_leads_0 24 rfl rfl
theorem dX2_leads_0 : decode cX2_leads 0 = .ok (.iload_n 1, 1) := dk_27 (dk_at dksX2_leads_0 0 rfl rfl)
theorem dX2_leads_1 : decode cX2_leads 1 = .ok (.istore_n 3, 1) := dk_62 (dk_at dksX2_leads_0 1 rfl rfl)
theorem dX2_leads_2 : decode cX2_leads 2 = .ok (.iconst 0, 1) := dk_3 (dk_at dksX2_leads_0 2 rfl rfl)
theorem dX2_leads_3 : decode cX2_leads 3 = .ok (.istore 4, 2) := dk_54 4 (dk_at dksX2_leads_0 3 rfl rfl)
theorem dX2_leads_5 : decode cX2_leads 5 = .ok (.iload 4, 2) := dk_21 4 (dk_at dksX2_leads_0 5 rfl rfl)
theorem dX2_leads_7 : decode cX2_leads 7 = .ok (.bipush 8, 2) := dk_16 8 (dk_at dksX2_leads_0 7 rfl rfl)
theorem dX2_leads_9 : decode cX2_leads 9 = .ok (.if_icmp .gt 37, 3) := dk_163 0 37 (dk_at dksX2_leads_0 9 rfl rfl)
theorem dX2_leads_12 : decode cX2_leads 12 = .ok (.iload_n 3, 1) := dk_29 (dk_at dksX2_leads_0 12 rfl rfl)
theorem dX2_leads_13 : decode cX2_leads 13 = .ok (.iload_n 2, 1) := dk_28 (dk_at dksX2_leads_0 13 rfl rfl)
theorem dX2_leads_14 : decode cX2_leads 14 = .ok (.if_icmp .ne 6, 3) := dk_160 0 6 (dk_at dksX2_leads_0 14 rfl rfl)
theorem dX2_leads_17 : decode cX2_leads 17 = .ok (.iload 4, 2) := dk_21 4 (dk_at dksX2_leads_0 17 rfl rfl)
theorem dX2_leads_19 : decode cX2_leads 19 = .ok (.ireturn, 1) := dk_172 (dk_at dksX2_leads_0 19 rfl rfl)
theorem dX2_leads_20 : decode cX2_leads 20 = .ok (.aload_n 0, 1) := dk_42 (dk_at dksX2_leads_0 20 rfl rfl)
theorem dX2_leads_21 : decode cX2_leads 21 = .ok (.getfield 19, 3) := dk_180 0 19 (dk_at dksX2_leads_0 21 rfl rfl)
theorem dX2_leads_24 : decode cX2_leads 24 = .ok (.iload_n 3, 1) := dk_29 (dk_at dksX2_leads_1 0 rfl rfl)
theorem dX2_leads_25 : decode cX2_leads 25 = .ok (.iaload, 1) := dk_46 (dk_at dksX2_leads_1 1 rfl rfl)
theorem dX2_leads_26 : decode cX2_leads 26 = .ok (.ifCond .ne 5, 3) := dk_154 0 5 (dk_at dksX2_leads_1 2 rfl rfl)
theorem dX2_leads_29 : decode cX2_leads 29 = .ok (.iconst (-1), 1) := dk_2 (dk_at dksX2_leads_1 5 rfl rfl)
theorem dX2_leads_30 : decode cX2_leads 30 = .ok (.ireturn, 1) := dk_172 (dk_at dksX2_leads_1 6 rfl rfl)
theorem dX2_leads_31 : decode cX2_leads 31 = .ok (.aload_n 0, 1) := dk_42 (dk_at dksX2_leads_1 7 rfl rfl)
theorem dX2_leads_32 : decode cX2_leads 32 = .ok (.getfield 19, 3) := dk_180 0 19 (dk_at dksX2_leads_1 8 rfl rfl)
theorem dX2_leads_35 : decode cX2_leads 35 = .ok (.iload_n 3, 1) := dk_29 (dk_at dksX2_leads_1 11 rfl rfl)
theorem dX2_leads_36 : decode cX2_leads 36 = .ok (.iaload, 1) := dk_46 (dk_at dksX2_leads_1 12 rfl rfl)
theorem dX2_leads_37 : decode cX2_leads 37 = .ok (.iconst 1, 1) := dk_4 (dk_at dksX2_leads_1 13 rfl rfl)
theorem dX2_leads_38 : decode cX2_leads 38 = .ok (.isub, 1) := dk_100 (dk_at dksX2_leads_1 14 rfl rfl)
theorem dX2_leads_39 : decode cX2_leads 39 = .ok (.istore_n 3, 1) := dk_62 (dk_at dksX2_leads_1 15 rfl rfl)
theorem dX2_leads_40 : decode cX2_leads 40 = .ok (.iinc 4 1, 3) := dk_132 4 1 (dk_at dksX2_leads_1 16 rfl rfl)
theorem dX2_leads_43 : decode cX2_leads 43 = .ok (.goto (-38), 3) := dk_167 255 218 (dk_at dksX2_leads_1 19 rfl rfl)
theorem dX2_leads_46 : decode cX2_leads 46 = .ok (.iconst (-1), 1) := dk_2 (dk_at dksX2_leads_1 22 rfl rfl)
theorem dX2_leads_47 : decode cX2_leads 47 = .ok (.ireturn, 1) := dk_172 (dk_at dksX2_leads_1 23 rfl rfl)
abbrev cX2_ring : ByteArray := prog_21_method_129_code
def yX2_ring : MethodName := ⟨RX2, "ring", "()I"⟩
def dkwX2_ring_2 : List UInt8 := [132, 2, 1, 167, 255, 215, 27, 172]
abbrev dktX2_ring_2 : List UInt8 := dkwX2_ring_2 ++ []
def dkwX2_ring_1 : List UInt8 := [42, 42, 180, 0, 19, 28, 46, 4, 100, 28, 182, 1, 194, 2, 159, 0, 9, 27, 4, 28, 120, 128, 60]
abbrev dktX2_ring_1 : List UInt8 := dkwX2_ring_1 ++ dktX2_ring_2
def dkwX2_ring_0 : List UInt8 := [42, 3, 181, 0, 86, 3, 60, 3, 61, 28, 16, 8, 162, 0, 41, 42, 180, 0, 19, 28, 46, 153, 0, 26]
abbrev dktX2_ring_0 : List UInt8 := dkwX2_ring_0 ++ dktX2_ring_1
theorem dksX2_ring_0 : cX2_ring.data.toList.drop 0 = dktX2_ring_0 := by decide +kernel
theorem dksX2_ring_1 : cX2_ring.data.toList.drop 24 = dktX2_ring_1 := dk_seg dksX2_ring_0 24 rfl rfl
theorem dksX2_ring_2 : cX2_ring.data.toList.drop 47 = dktX2_ring_2 := dk_seg dksX2_ring_1 23 rfl rfl
theorem dX2_ring_0 : decode cX2_ring 0 = .ok (.aload_n 0, 1) := dk_42 (dk_at dksX2_ring_0 0 rfl rfl)
theorem dX2_ring_1 : decode cX2_ring 1 = .ok (.iconst 0, 1) := dk_3 (dk_at dksX2_ring_0 1 rfl rfl)
theorem dX2_ring_2 : decode cX2_ring 2 = .ok (.putfield 86, 3) := dk_181 0 86 (dk_at dksX2_ring_0 2 rfl rfl)
theorem dX2_ring_5 : decode cX2_ring 5 = .ok (.iconst 0, 1) := dk_3 (dk_at dksX2_ring_0 5 rfl rfl)
theorem dX2_ring_6 : decode cX2_ring 6 = .ok (.istore_n 1, 1) := dk_60 (dk_at dksX2_ring_0 6 rfl rfl)
theorem dX2_ring_7 : decode cX2_ring 7 = .ok (.iconst 0, 1) := dk_3 (dk_at dksX2_ring_0 7 rfl rfl)
theorem dX2_ring_8 : decode cX2_ring 8 = .ok (.istore_n 2, 1) := dk_61 (dk_at dksX2_ring_0 8 rfl rfl)
theorem dX2_ring_9 : decode cX2_ring 9 = .ok (.iload_n 2, 1) := dk_28 (dk_at dksX2_ring_0 9 rfl rfl)
theorem dX2_ring_10 : decode cX2_ring 10 = .ok (.bipush 8, 2) := dk_16 8 (dk_at dksX2_ring_0 10 rfl rfl)
theorem dX2_ring_12 : decode cX2_ring 12 = .ok (.if_icmp .ge 41, 3) := dk_162 0 41 (dk_at dksX2_ring_0 12 rfl rfl)
theorem dX2_ring_15 : decode cX2_ring 15 = .ok (.aload_n 0, 1) := dk_42 (dk_at dksX2_ring_0 15 rfl rfl)
theorem dX2_ring_16 : decode cX2_ring 16 = .ok (.getfield 19, 3) := dk_180 0 19 (dk_at dksX2_ring_0 16 rfl rfl)
theorem dX2_ring_19 : decode cX2_ring 19 = .ok (.iload_n 2, 1) := dk_28 (dk_at dksX2_ring_0 19 rfl rfl)
theorem dX2_ring_20 : decode cX2_ring 20 = .ok (.iaload, 1) := dk_46 (dk_at dksX2_ring_0 20 rfl rfl)
theorem dX2_ring_21 : decode cX2_ring 21 = .ok (.ifCond .eq 26, 3) := dk_153 0 26 (dk_at dksX2_ring_0 21 rfl rfl)
theorem dX2_ring_24 : decode cX2_ring 24 = .ok (.aload_n 0, 1) := dk_42 (dk_at dksX2_ring_1 0 rfl rfl)
theorem dX2_ring_25 : decode cX2_ring 25 = .ok (.aload_n 0, 1) := dk_42 (dk_at dksX2_ring_1 1 rfl rfl)
theorem dX2_ring_26 : decode cX2_ring 26 = .ok (.getfield 19, 3) := dk_180 0 19 (dk_at dksX2_ring_1 2 rfl rfl)
theorem dX2_ring_29 : decode cX2_ring 29 = .ok (.iload_n 2, 1) := dk_28 (dk_at dksX2_ring_1 5 rfl rfl)
theorem dX2_ring_30 : decode cX2_ring 30 = .ok (.iaload, 1) := dk_46 (dk_at dksX2_ring_1 6 rfl rfl)
theorem dX2_ring_31 : decode cX2_ring 31 = .ok (.iconst 1, 1) := dk_4 (dk_at dksX2_ring_1 7 rfl rfl)
theorem dX2_ring_32 : decode cX2_ring 32 = .ok (.isub, 1) := dk_100 (dk_at dksX2_ring_1 8 rfl rfl)
theorem dX2_ring_33 : decode cX2_ring 33 = .ok (.iload_n 2, 1) := dk_28 (dk_at dksX2_ring_1 9 rfl rfl)
theorem dX2_ring_34 : decode cX2_ring 34 = .ok (.invokevirtual 450, 3) := dk_182 1 194 (dk_at dksX2_ring_1 10 rfl rfl)
theorem dX2_ring_37 : decode cX2_ring 37 = .ok (.iconst (-1), 1) := dk_2 (dk_at dksX2_ring_1 13 rfl rfl)
theorem dX2_ring_38 : decode cX2_ring 38 = .ok (.if_icmp .eq 9, 3) := dk_159 0 9 (dk_at dksX2_ring_1 14 rfl rfl)
theorem dX2_ring_41 : decode cX2_ring 41 = .ok (.iload_n 1, 1) := dk_27 (dk_at dksX2_ring_1 17 rfl rfl)
theorem dX2_ring_42 : decode cX2_ring 42 = .ok (.iconst 1, 1) := dk_4 (dk_at dksX2_ring_1 18 rfl rfl)
theorem dX2_ring_43 : decode cX2_ring 43 = .ok (.iload_n 2, 1) := dk_28 (dk_at dksX2_ring_1 19 rfl rfl)
theorem dX2_ring_44 : decode cX2_ring 44 = .ok (.ishl, 1) := dk_120 (dk_at dksX2_ring_1 20 rfl rfl)
theorem dX2_ring_45 : decode cX2_ring 45 = .ok (.ior, 1) := dk_128 (dk_at dksX2_ring_1 21 rfl rfl)
theorem dX2_ring_46 : decode cX2_ring 46 = .ok (.istore_n 1, 1) := dk_60 (dk_at dksX2_ring_1 22 rfl rfl)
theorem dX2_ring_47 : decode cX2_ring 47 = .ok (.iinc 2 1, 3) := dk_132 2 1 (dk_at dksX2_ring_2 0 rfl rfl)
theorem dX2_ring_50 : decode cX2_ring 50 = .ok (.goto (-41), 3) := dk_167 255 215 (dk_at dksX2_ring_2 3 rfl rfl)
theorem dX2_ring_53 : decode cX2_ring 53 = .ok (.iload_n 1, 1) := dk_27 (dk_at dksX2_ring_2 6 rfl rfl)
theorem dX2_ring_54 : decode cX2_ring 54 = .ok (.ireturn, 1) := dk_172 (dk_at dksX2_ring_2 7 rfl rfl)
abbrev cX2_game : ByteArray := prog_21_method_131_code
def yX2_game : MethodName := ⟨RX2, "game", "(I)I"⟩
def dkwX2_game_3 : List UInt8 := [167, 0, 10, 42, 29, 182, 1, 197, 28, 130, 172, 132, 3, 1, 167, 255, 216, 2, 172]
abbrev dktX2_game_3 : List UInt8 := dkwX2_game_3 ++ []
def dkwX2_game_2 : List UInt8 := [162, 0, 40, 42, 29, 182, 1, 197, 28, 130, 42, 29, 182, 1, 197, 162, 0, 19, 27, 154, 0, 7, 29]
abbrev dktX2_game_2 : List UInt8 := dkwX2_game_2 ++ dktX2_game_3
def dkwX2_game_1 : List UInt8 := [162, 0, 17, 28, 42, 29, 182, 1, 197, 130, 61, 132, 3, 1, 167, 255, 239, 3, 62, 29, 16, 8]
abbrev dktX2_game_1 : List UInt8 := dkwX2_game_1 ++ dktX2_game_2
def dkwX2_game_0 : List UInt8 := [42, 3, 181, 0, 86, 42, 27, 3, 4, 182, 0, 102, 154, 0, 5, 2, 172, 3, 61, 3, 62, 29, 16, 8]
abbrev dktX2_game_0 : List UInt8 := dkwX2_game_0 ++ dktX2_game_1
theorem dksX2_game_0 : cX2_game.data.toList.drop 0 = dktX2_game_0 := by decide +kernel
theorem dksX2_game_1 : cX2_game.data.toList.drop 24 = dktX2_game_1 := dk_seg dksX2_game_0 24 rfl rfl
theorem dksX2_game_2 : cX2_game.data.toList.drop 46 = dktX2_game_2 := dk_seg dksX2_game_1 22 rfl rfl
theorem dksX2_game_3 : cX2_game.data.toList.drop 69 = dktX2_game_3 := dk_seg dksX2_game_2 23 rfl rfl
theorem dX2_game_0 : decode cX2_game 0 = .ok (.aload_n 0, 1) := dk_42 (dk_at dksX2_game_0 0 rfl rfl)
theorem dX2_game_1 : decode cX2_game 1 = .ok (.iconst 0, 1) := dk_3 (dk_at dksX2_game_0 1 rfl rfl)
theorem dX2_game_2 : decode cX2_game 2 = .ok (.putfield 86, 3) := dk_181 0 86 (dk_at dksX2_game_0 2 rfl rfl)
theorem dX2_game_5 : decode cX2_game 5 = .ok (.aload_n 0, 1) := dk_42 (dk_at dksX2_game_0 5 rfl rfl)
theorem dX2_game_6 : decode cX2_game 6 = .ok (.iload_n 1, 1) := dk_27 (dk_at dksX2_game_0 6 rfl rfl)
theorem dX2_game_7 : decode cX2_game 7 = .ok (.iconst 0, 1) := dk_3 (dk_at dksX2_game_0 7 rfl rfl)
theorem dX2_game_8 : decode cX2_game 8 = .ok (.iconst 1, 1) := dk_4 (dk_at dksX2_game_0 8 rfl rfl)
theorem dX2_game_9 : decode cX2_game 9 = .ok (.invokevirtual 102, 3) := dk_182 0 102 (dk_at dksX2_game_0 9 rfl rfl)
theorem dX2_game_12 : decode cX2_game 12 = .ok (.ifCond .ne 5, 3) := dk_154 0 5 (dk_at dksX2_game_0 12 rfl rfl)
theorem dX2_game_15 : decode cX2_game 15 = .ok (.iconst (-1), 1) := dk_2 (dk_at dksX2_game_0 15 rfl rfl)
theorem dX2_game_16 : decode cX2_game 16 = .ok (.ireturn, 1) := dk_172 (dk_at dksX2_game_0 16 rfl rfl)
theorem dX2_game_17 : decode cX2_game 17 = .ok (.iconst 0, 1) := dk_3 (dk_at dksX2_game_0 17 rfl rfl)
theorem dX2_game_18 : decode cX2_game 18 = .ok (.istore_n 2, 1) := dk_61 (dk_at dksX2_game_0 18 rfl rfl)
theorem dX2_game_19 : decode cX2_game 19 = .ok (.iconst 0, 1) := dk_3 (dk_at dksX2_game_0 19 rfl rfl)
theorem dX2_game_20 : decode cX2_game 20 = .ok (.istore_n 3, 1) := dk_62 (dk_at dksX2_game_0 20 rfl rfl)
theorem dX2_game_21 : decode cX2_game 21 = .ok (.iload_n 3, 1) := dk_29 (dk_at dksX2_game_0 21 rfl rfl)
theorem dX2_game_22 : decode cX2_game 22 = .ok (.bipush 8, 2) := dk_16 8 (dk_at dksX2_game_0 22 rfl rfl)
theorem dX2_game_24 : decode cX2_game 24 = .ok (.if_icmp .ge 17, 3) := dk_162 0 17 (dk_at dksX2_game_1 0 rfl rfl)
theorem dX2_game_27 : decode cX2_game 27 = .ok (.iload_n 2, 1) := dk_28 (dk_at dksX2_game_1 3 rfl rfl)
theorem dX2_game_28 : decode cX2_game 28 = .ok (.aload_n 0, 1) := dk_42 (dk_at dksX2_game_1 4 rfl rfl)
theorem dX2_game_29 : decode cX2_game 29 = .ok (.iload_n 3, 1) := dk_29 (dk_at dksX2_game_1 5 rfl rfl)
theorem dX2_game_30 : decode cX2_game 30 = .ok (.invokevirtual 453, 3) := dk_182 1 197 (dk_at dksX2_game_1 6 rfl rfl)
theorem dX2_game_33 : decode cX2_game 33 = .ok (.ixor, 1) := dk_130 (dk_at dksX2_game_1 9 rfl rfl)
theorem dX2_game_34 : decode cX2_game 34 = .ok (.istore_n 2, 1) := dk_61 (dk_at dksX2_game_1 10 rfl rfl)
theorem dX2_game_35 : decode cX2_game 35 = .ok (.iinc 3 1, 3) := dk_132 3 1 (dk_at dksX2_game_1 11 rfl rfl)
theorem dX2_game_38 : decode cX2_game 38 = .ok (.goto (-17), 3) := dk_167 255 239 (dk_at dksX2_game_1 14 rfl rfl)
theorem dX2_game_41 : decode cX2_game 41 = .ok (.iconst 0, 1) := dk_3 (dk_at dksX2_game_1 17 rfl rfl)
theorem dX2_game_42 : decode cX2_game 42 = .ok (.istore_n 3, 1) := dk_62 (dk_at dksX2_game_1 18 rfl rfl)
theorem dX2_game_43 : decode cX2_game 43 = .ok (.iload_n 3, 1) := dk_29 (dk_at dksX2_game_1 19 rfl rfl)
theorem dX2_game_44 : decode cX2_game 44 = .ok (.bipush 8, 2) := dk_16 8 (dk_at dksX2_game_1 20 rfl rfl)
theorem dX2_game_46 : decode cX2_game 46 = .ok (.if_icmp .ge 40, 3) := dk_162 0 40 (dk_at dksX2_game_2 0 rfl rfl)
theorem dX2_game_49 : decode cX2_game 49 = .ok (.aload_n 0, 1) := dk_42 (dk_at dksX2_game_2 3 rfl rfl)
theorem dX2_game_50 : decode cX2_game 50 = .ok (.iload_n 3, 1) := dk_29 (dk_at dksX2_game_2 4 rfl rfl)
theorem dX2_game_51 : decode cX2_game 51 = .ok (.invokevirtual 453, 3) := dk_182 1 197 (dk_at dksX2_game_2 5 rfl rfl)
theorem dX2_game_54 : decode cX2_game 54 = .ok (.iload_n 2, 1) := dk_28 (dk_at dksX2_game_2 8 rfl rfl)
theorem dX2_game_55 : decode cX2_game 55 = .ok (.ixor, 1) := dk_130 (dk_at dksX2_game_2 9 rfl rfl)
theorem dX2_game_56 : decode cX2_game 56 = .ok (.aload_n 0, 1) := dk_42 (dk_at dksX2_game_2 10 rfl rfl)
theorem dX2_game_57 : decode cX2_game 57 = .ok (.iload_n 3, 1) := dk_29 (dk_at dksX2_game_2 11 rfl rfl)
theorem dX2_game_58 : decode cX2_game 58 = .ok (.invokevirtual 453, 3) := dk_182 1 197 (dk_at dksX2_game_2 12 rfl rfl)
theorem dX2_game_61 : decode cX2_game 61 = .ok (.if_icmp .ge 19, 3) := dk_162 0 19 (dk_at dksX2_game_2 15 rfl rfl)
theorem dX2_game_64 : decode cX2_game 64 = .ok (.iload_n 1, 1) := dk_27 (dk_at dksX2_game_2 18 rfl rfl)
theorem dX2_game_65 : decode cX2_game 65 = .ok (.ifCond .ne 7, 3) := dk_154 0 7 (dk_at dksX2_game_2 19 rfl rfl)
theorem dX2_game_68 : decode cX2_game 68 = .ok (.iload_n 3, 1) := dk_29 (dk_at dksX2_game_2 22 rfl rfl)
theorem dX2_game_69 : decode cX2_game 69 = .ok (.goto 10, 3) := dk_167 0 10 (dk_at dksX2_game_3 0 rfl rfl)
theorem dX2_game_72 : decode cX2_game 72 = .ok (.aload_n 0, 1) := dk_42 (dk_at dksX2_game_3 3 rfl rfl)
theorem dX2_game_73 : decode cX2_game 73 = .ok (.iload_n 3, 1) := dk_29 (dk_at dksX2_game_3 4 rfl rfl)
theorem dX2_game_74 : decode cX2_game 74 = .ok (.invokevirtual 453, 3) := dk_182 1 197 (dk_at dksX2_game_3 5 rfl rfl)
theorem dX2_game_77 : decode cX2_game 77 = .ok (.iload_n 2, 1) := dk_28 (dk_at dksX2_game_3 8 rfl rfl)
theorem dX2_game_78 : decode cX2_game 78 = .ok (.ixor, 1) := dk_130 (dk_at dksX2_game_3 9 rfl rfl)
theorem dX2_game_79 : decode cX2_game 79 = .ok (.ireturn, 1) := dk_172 (dk_at dksX2_game_3 10 rfl rfl)
theorem dX2_game_80 : decode cX2_game 80 = .ok (.iinc 3 1, 3) := dk_132 3 1 (dk_at dksX2_game_3 11 rfl rfl)
theorem dX2_game_83 : decode cX2_game 83 = .ok (.goto (-40), 3) := dk_167 255 216 (dk_at dksX2_game_3 14 rfl rfl)
theorem dX2_game_86 : decode cX2_game 86 = .ok (.iconst (-1), 1) := dk_2 (dk_at dksX2_game_3 17 rfl rfl)
theorem dX2_game_87 : decode cX2_game 87 = .ok (.ireturn, 1) := dk_172 (dk_at dksX2_game_3 18 rfl rfl)
abbrev cX2_heapOf : ByteArray := prog_21_method_130_code
def yX2_heapOf : MethodName := ⟨RX2, "heapOf", "(I)I"⟩
def dkwX2_heapOf_0 : List UInt8 := [42, 42, 27, 3, 182, 1, 38, 182, 1, 41, 172]
abbrev dktX2_heapOf_0 : List UInt8 := dkwX2_heapOf_0 ++ []
theorem dksX2_heapOf_0 : cX2_heapOf.data.toList.drop 0 = dktX2_heapOf_0 := by decide +kernel
theorem dX2_heapOf_0 : decode cX2_heapOf 0 = .ok (.aload_n 0, 1) := dk_42 (dk_at dksX2_heapOf_0 0 rfl rfl)
theorem dX2_heapOf_1 : decode cX2_heapOf 1 = .ok (.aload_n 0, 1) := dk_42 (dk_at dksX2_heapOf_0 1 rfl rfl)
theorem dX2_heapOf_2 : decode cX2_heapOf 2 = .ok (.iload_n 1, 1) := dk_27 (dk_at dksX2_heapOf_0 2 rfl rfl)
theorem dX2_heapOf_3 : decode cX2_heapOf 3 = .ok (.iconst 0, 1) := dk_3 (dk_at dksX2_heapOf_0 3 rfl rfl)
theorem dX2_heapOf_4 : decode cX2_heapOf 4 = .ok (.invokevirtual 294, 3) := dk_182 1 38 (dk_at dksX2_heapOf_0 4 rfl rfl)
theorem dX2_heapOf_7 : decode cX2_heapOf 7 = .ok (.invokevirtual 297, 3) := dk_182 1 41 (dk_at dksX2_heapOf_0 7 rfl rfl)
theorem dX2_heapOf_10 : decode cX2_heapOf 10 = .ok (.ireturn, 1) := dk_172 (dk_at dksX2_heapOf_0 10 rfl rfl)
abbrev cX2_image : ByteArray := prog_21_method_135_code
def yX2_image : MethodName := ⟨RX2, "image", "(Z)Z"⟩
def dkwX2_image_4 : List UInt8 := [132, 2, 1, 167, 255, 230, 42, 182, 1, 215, 27, 154, 0, 8, 42, 3, 181, 0, 89, 4, 172]
abbrev dktX2_image_4 : List UInt8 := dkwX2_image_4 ++ []
def dkwX2_image_3 : List UInt8 := [17, 2, 238, 162, 0, 25, 42, 180, 0, 22, 28, 42, 42, 180, 0, 22, 28, 46, 182, 1, 206, 79]
abbrev dktX2_image_3 : List UInt8 := dkwX2_image_3 ++ dktX2_image_4
def dkwX2_image_2 : List UInt8 := [180, 0, 7, 28, 46, 182, 1, 206, 79, 132, 2, 1, 167, 255, 231, 42, 182, 1, 212, 3, 61, 28]
abbrev dktX2_image_2 : List UInt8 := dkwX2_image_2 ++ dktX2_image_3
def dkwX2_image_1 : List UInt8 := [4, 181, 1, 209, 42, 3, 181, 1, 200, 3, 61, 28, 16, 105, 162, 0, 25, 42, 180, 0, 7, 28, 42, 42]
abbrev dktX2_image_1 : List UInt8 := dkwX2_image_1 ++ dktX2_image_2
def dkwX2_image_0 : List UInt8 := [42, 3, 181, 0, 86, 27, 154, 0, 12, 42, 180, 1, 209, 154, 0, 5, 3, 172, 42, 27, 181, 1, 203, 42]
abbrev dktX2_image_0 : List UInt8 := dkwX2_image_0 ++ dktX2_image_1
theorem dksX2_image_0 : cX2_image.data.toList.drop 0 = dktX2_image_0 := by decide +kernel
theorem dksX2_image_1 : cX2_image.data.toList.drop 24 = dktX2_image_1 := dk_seg dksX2_image_0 24 rfl rfl
theorem dksX2_image_2 : cX2_image.data.toList.drop 48 = dktX2_image_2 := dk_seg dksX2_image_1 24 rfl rfl
theorem dksX2_image_3 : cX2_image.data.toList.drop 70 = dktX2_image_3 := dk_seg dksX2_image_2 22 rfl rfl
theorem dksX2_image_4 : cX2_image.data.toList.drop 92 = dktX2_image_4 := dk_seg dksX2_image_3 22 rfl rfl
theorem dX2_image_0 : decode cX2_image 0 = .ok (.aload_n 0, 1) := dk_42 (dk_at dksX2_image_0 0 rfl rfl)
theorem dX2_image_1 : decode cX2_image 1 = .ok (.iconst 0, 1) := dk_3 (dk_at dksX2_image_0 1 rfl rfl)
theorem dX2_image_2 : decode cX2_image 2 = .ok (.putfield 86, 3) := dk_181 0 86 (dk_at dksX2_image_0 2 rfl rfl)
theorem dX2_image_5 : decode cX2_image 5 = .ok (.iload_n 1, 1) := dk_27 (dk_at dksX2_image_0 5 rfl rfl)
theorem dX2_image_6 : decode cX2_image 6 = .ok (.ifCond .ne 12, 3) := dk_154 0 12 (dk_at dksX2_image_0 6 rfl rfl)
theorem dX2_image_9 : decode cX2_image 9 = .ok (.aload_n 0, 1) := dk_42 (dk_at dksX2_image_0 9 rfl rfl)
theorem dX2_image_10 : decode cX2_image 10 = .ok (.getfield 465, 3) := dk_180 1 209 (dk_at dksX2_image_0 10 rfl rfl)
theorem dX2_image_13 : decode cX2_image 13 = .ok (.ifCond .ne 5, 3) := dk_154 0 5 (dk_at dksX2_image_0 13 rfl rfl)
theorem dX2_image_16 : decode cX2_image 16 = .ok (.iconst 0, 1) := dk_3 (dk_at dksX2_image_0 16 rfl rfl)
theorem dX2_image_17 : decode cX2_image 17 = .ok (.ireturn, 1) := dk_172 (dk_at dksX2_image_0 17 rfl rfl)
theorem dX2_image_18 : decode cX2_image 18 = .ok (.aload_n 0, 1) := dk_42 (dk_at dksX2_image_0 18 rfl rfl)
theorem dX2_image_19 : decode cX2_image 19 = .ok (.iload_n 1, 1) := dk_27 (dk_at dksX2_image_0 19 rfl rfl)
theorem dX2_image_20 : decode cX2_image 20 = .ok (.putfield 459, 3) := dk_181 1 203 (dk_at dksX2_image_0 20 rfl rfl)
theorem dX2_image_23 : decode cX2_image 23 = .ok (.aload_n 0, 1) := dk_42 (dk_at dksX2_image_0 23 rfl rfl)
theorem dX2_image_24 : decode cX2_image 24 = .ok (.iconst 1, 1) := dk_4 (dk_at dksX2_image_1 0 rfl rfl)
theorem dX2_image_25 : decode cX2_image 25 = .ok (.putfield 465, 3) := dk_181 1 209 (dk_at dksX2_image_1 1 rfl rfl)
theorem dX2_image_28 : decode cX2_image 28 = .ok (.aload_n 0, 1) := dk_42 (dk_at dksX2_image_1 4 rfl rfl)
theorem dX2_image_29 : decode cX2_image 29 = .ok (.iconst 0, 1) := dk_3 (dk_at dksX2_image_1 5 rfl rfl)
theorem dX2_image_30 : decode cX2_image 30 = .ok (.putfield 456, 3) := dk_181 1 200 (dk_at dksX2_image_1 6 rfl rfl)
theorem dX2_image_33 : decode cX2_image 33 = .ok (.iconst 0, 1) := dk_3 (dk_at dksX2_image_1 9 rfl rfl)
theorem dX2_image_34 : decode cX2_image 34 = .ok (.istore_n 2, 1) := dk_61 (dk_at dksX2_image_1 10 rfl rfl)
theorem dX2_image_35 : decode cX2_image 35 = .ok (.iload_n 2, 1) := dk_28 (dk_at dksX2_image_1 11 rfl rfl)
theorem dX2_image_36 : decode cX2_image 36 = .ok (.bipush 105, 2) := dk_16 105 (dk_at dksX2_image_1 12 rfl rfl)
theorem dX2_image_38 : decode cX2_image 38 = .ok (.if_icmp .ge 25, 3) := dk_162 0 25 (dk_at dksX2_image_1 14 rfl rfl)
theorem dX2_image_41 : decode cX2_image 41 = .ok (.aload_n 0, 1) := dk_42 (dk_at dksX2_image_1 17 rfl rfl)
theorem dX2_image_42 : decode cX2_image 42 = .ok (.getfield 7, 3) := dk_180 0 7 (dk_at dksX2_image_1 18 rfl rfl)
theorem dX2_image_45 : decode cX2_image 45 = .ok (.iload_n 2, 1) := dk_28 (dk_at dksX2_image_1 21 rfl rfl)
theorem dX2_image_46 : decode cX2_image 46 = .ok (.aload_n 0, 1) := dk_42 (dk_at dksX2_image_1 22 rfl rfl)
theorem dX2_image_47 : decode cX2_image 47 = .ok (.aload_n 0, 1) := dk_42 (dk_at dksX2_image_1 23 rfl rfl)
theorem dX2_image_48 : decode cX2_image 48 = .ok (.getfield 7, 3) := dk_180 0 7 (dk_at dksX2_image_2 0 rfl rfl)
theorem dX2_image_51 : decode cX2_image 51 = .ok (.iload_n 2, 1) := dk_28 (dk_at dksX2_image_2 3 rfl rfl)
theorem dX2_image_52 : decode cX2_image 52 = .ok (.iaload, 1) := dk_46 (dk_at dksX2_image_2 4 rfl rfl)
theorem dX2_image_53 : decode cX2_image 53 = .ok (.invokevirtual 462, 3) := dk_182 1 206 (dk_at dksX2_image_2 5 rfl rfl)
theorem dX2_image_56 : decode cX2_image 56 = .ok (.iastore, 1) := dk_79 (dk_at dksX2_image_2 8 rfl rfl)
theorem dX2_image_57 : decode cX2_image 57 = .ok (.iinc 2 1, 3) := dk_132 2 1 (dk_at dksX2_image_2 9 rfl rfl)
theorem dX2_image_60 : decode cX2_image 60 = .ok (.goto (-25), 3) := dk_167 255 231 (dk_at dksX2_image_2 12 rfl rfl)
theorem dX2_image_63 : decode cX2_image 63 = .ok (.aload_n 0, 1) := dk_42 (dk_at dksX2_image_2 15 rfl rfl)
theorem dX2_image_64 : decode cX2_image 64 = .ok (.invokevirtual 468, 3) := dk_182 1 212 (dk_at dksX2_image_2 16 rfl rfl)
theorem dX2_image_67 : decode cX2_image 67 = .ok (.iconst 0, 1) := dk_3 (dk_at dksX2_image_2 19 rfl rfl)
theorem dX2_image_68 : decode cX2_image 68 = .ok (.istore_n 2, 1) := dk_61 (dk_at dksX2_image_2 20 rfl rfl)
theorem dX2_image_69 : decode cX2_image 69 = .ok (.iload_n 2, 1) := dk_28 (dk_at dksX2_image_2 21 rfl rfl)
theorem dX2_image_70 : decode cX2_image 70 = .ok (.sipush 750, 3) := dk_17 2 238 (dk_at dksX2_image_3 0 rfl rfl)
theorem dX2_image_73 : decode cX2_image 73 = .ok (.if_icmp .ge 25, 3) := dk_162 0 25 (dk_at dksX2_image_3 3 rfl rfl)
theorem dX2_image_76 : decode cX2_image 76 = .ok (.aload_n 0, 1) := dk_42 (dk_at dksX2_image_3 6 rfl rfl)
theorem dX2_image_77 : decode cX2_image 77 = .ok (.getfield 22, 3) := dk_180 0 22 (dk_at dksX2_image_3 7 rfl rfl)
theorem dX2_image_80 : decode cX2_image 80 = .ok (.iload_n 2, 1) := dk_28 (dk_at dksX2_image_3 10 rfl rfl)
theorem dX2_image_81 : decode cX2_image 81 = .ok (.aload_n 0, 1) := dk_42 (dk_at dksX2_image_3 11 rfl rfl)
theorem dX2_image_82 : decode cX2_image 82 = .ok (.aload_n 0, 1) := dk_42 (dk_at dksX2_image_3 12 rfl rfl)
theorem dX2_image_83 : decode cX2_image 83 = .ok (.getfield 22, 3) := dk_180 0 22 (dk_at dksX2_image_3 13 rfl rfl)
theorem dX2_image_86 : decode cX2_image 86 = .ok (.iload_n 2, 1) := dk_28 (dk_at dksX2_image_3 16 rfl rfl)
theorem dX2_image_87 : decode cX2_image 87 = .ok (.iaload, 1) := dk_46 (dk_at dksX2_image_3 17 rfl rfl)
theorem dX2_image_88 : decode cX2_image 88 = .ok (.invokevirtual 462, 3) := dk_182 1 206 (dk_at dksX2_image_3 18 rfl rfl)
theorem dX2_image_91 : decode cX2_image 91 = .ok (.iastore, 1) := dk_79 (dk_at dksX2_image_3 21 rfl rfl)
theorem dX2_image_92 : decode cX2_image 92 = .ok (.iinc 2 1, 3) := dk_132 2 1 (dk_at dksX2_image_4 0 rfl rfl)
theorem dX2_image_95 : decode cX2_image 95 = .ok (.goto (-26), 3) := dk_167 255 230 (dk_at dksX2_image_4 3 rfl rfl)
theorem dX2_image_98 : decode cX2_image 98 = .ok (.aload_n 0, 1) := dk_42 (dk_at dksX2_image_4 6 rfl rfl)
theorem dX2_image_99 : decode cX2_image 99 = .ok (.invokevirtual 471, 3) := dk_182 1 215 (dk_at dksX2_image_4 7 rfl rfl)
theorem dX2_image_102 : decode cX2_image 102 = .ok (.iload_n 1, 1) := dk_27 (dk_at dksX2_image_4 10 rfl rfl)
theorem dX2_image_103 : decode cX2_image 103 = .ok (.ifCond .ne 8, 3) := dk_154 0 8 (dk_at dksX2_image_4 11 rfl rfl)
theorem dX2_image_106 : decode cX2_image 106 = .ok (.aload_n 0, 1) := dk_42 (dk_at dksX2_image_4 14 rfl rfl)
theorem dX2_image_107 : decode cX2_image 107 = .ok (.iconst 0, 1) := dk_3 (dk_at dksX2_image_4 15 rfl rfl)
theorem dX2_image_108 : decode cX2_image 108 = .ok (.putfield 89, 3) := dk_181 0 89 (dk_at dksX2_image_4 16 rfl rfl)
theorem dX2_image_111 : decode cX2_image 111 = .ok (.iconst 1, 1) := dk_4 (dk_at dksX2_image_4 19 rfl rfl)
theorem dX2_image_112 : decode cX2_image 112 = .ok (.ireturn, 1) := dk_172 (dk_at dksX2_image_4 20 rfl rfl)
abbrev cX2_keeps : ByteArray := prog_21_method_132_code
def yX2_keeps : MethodName := ⟨RX2, "keeps", "(I)I"⟩
def dkwX2_keeps_1 : List UInt8 := [180, 1, 200, 4, 100, 46, 172, 42, 180, 0, 83, 42, 180, 1, 200, 4, 100, 27, 79, 27, 172]
abbrev dktX2_keeps_1 : List UInt8 := dkwX2_keeps_1 ++ []
def dkwX2_keeps_0 : List UInt8 := [42, 42, 180, 1, 200, 4, 96, 181, 1, 200, 42, 180, 1, 203, 154, 0, 15, 42, 180, 0, 83, 42]
abbrev dktX2_keeps_0 : List UInt8 := dkwX2_keeps_0 ++ dktX2_keeps_1
theorem dksX2_keeps_0 : cX2_keeps.data.toList.drop 0 = dktX2_keeps_0 := by decide +kernel
theorem dksX2_keeps_1 : cX2_keeps.data.toList.drop 22 = dktX2_keeps_1 := dk_seg dksX2_keeps_0 22 rfl rfl
theorem dX2_keeps_0 : decode cX2_keeps 0 = .ok (.aload_n 0, 1) := dk_42 (dk_at dksX2_keeps_0 0 rfl rfl)
theorem dX2_keeps_1 : decode cX2_keeps 1 = .ok (.aload_n 0, 1) := dk_42 (dk_at dksX2_keeps_0 1 rfl rfl)
theorem dX2_keeps_2 : decode cX2_keeps 2 = .ok (.getfield 456, 3) := dk_180 1 200 (dk_at dksX2_keeps_0 2 rfl rfl)
theorem dX2_keeps_5 : decode cX2_keeps 5 = .ok (.iconst 1, 1) := dk_4 (dk_at dksX2_keeps_0 5 rfl rfl)
theorem dX2_keeps_6 : decode cX2_keeps 6 = .ok (.iadd, 1) := dk_96 (dk_at dksX2_keeps_0 6 rfl rfl)
theorem dX2_keeps_7 : decode cX2_keeps 7 = .ok (.putfield 456, 3) := dk_181 1 200 (dk_at dksX2_keeps_0 7 rfl rfl)
theorem dX2_keeps_10 : decode cX2_keeps 10 = .ok (.aload_n 0, 1) := dk_42 (dk_at dksX2_keeps_0 10 rfl rfl)
theorem dX2_keeps_11 : decode cX2_keeps 11 = .ok (.getfield 459, 3) := dk_180 1 203 (dk_at dksX2_keeps_0 11 rfl rfl)
theorem dX2_keeps_14 : decode cX2_keeps 14 = .ok (.ifCond .ne 15, 3) := dk_154 0 15 (dk_at dksX2_keeps_0 14 rfl rfl)
theorem dX2_keeps_17 : decode cX2_keeps 17 = .ok (.aload_n 0, 1) := dk_42 (dk_at dksX2_keeps_0 17 rfl rfl)
theorem dX2_keeps_18 : decode cX2_keeps 18 = .ok (.getfield 83, 3) := dk_180 0 83 (dk_at dksX2_keeps_0 18 rfl rfl)
theorem dX2_keeps_21 : decode cX2_keeps 21 = .ok (.aload_n 0, 1) := dk_42 (dk_at dksX2_keeps_0 21 rfl rfl)
theorem dX2_keeps_22 : decode cX2_keeps 22 = .ok (.getfield 456, 3) := dk_180 1 200 (dk_at dksX2_keeps_1 0 rfl rfl)
theorem dX2_keeps_25 : decode cX2_keeps 25 = .ok (.iconst 1, 1) := dk_4 (dk_at dksX2_keeps_1 3 rfl rfl)
theorem dX2_keeps_26 : decode cX2_keeps 26 = .ok (.isub, 1) := dk_100 (dk_at dksX2_keeps_1 4 rfl rfl)
theorem dX2_keeps_27 : decode cX2_keeps 27 = .ok (.iaload, 1) := dk_46 (dk_at dksX2_keeps_1 5 rfl rfl)
theorem dX2_keeps_28 : decode cX2_keeps 28 = .ok (.ireturn, 1) := dk_172 (dk_at dksX2_keeps_1 6 rfl rfl)
theorem dX2_keeps_29 : decode cX2_keeps 29 = .ok (.aload_n 0, 1) := dk_42 (dk_at dksX2_keeps_1 7 rfl rfl)
theorem dX2_keeps_30 : decode cX2_keeps 30 = .ok (.getfield 83, 3) := dk_180 0 83 (dk_at dksX2_keeps_1 8 rfl rfl)
theorem dX2_keeps_33 : decode cX2_keeps 33 = .ok (.aload_n 0, 1) := dk_42 (dk_at dksX2_keeps_1 11 rfl rfl)
theorem dX2_keeps_34 : decode cX2_keeps 34 = .ok (.getfield 456, 3) := dk_180 1 200 (dk_at dksX2_keeps_1 12 rfl rfl)
theorem dX2_keeps_37 : decode cX2_keeps 37 = .ok (.iconst 1, 1) := dk_4 (dk_at dksX2_keeps_1 15 rfl rfl)
theorem dX2_keeps_38 : decode cX2_keeps 38 = .ok (.isub, 1) := dk_100 (dk_at dksX2_keeps_1 16 rfl rfl)
theorem dX2_keeps_39 : decode cX2_keeps 39 = .ok (.iload_n 1, 1) := dk_27 (dk_at dksX2_keeps_1 17 rfl rfl)
theorem dX2_keeps_40 : decode cX2_keeps 40 = .ok (.iastore, 1) := dk_79 (dk_at dksX2_keeps_1 18 rfl rfl)
theorem dX2_keeps_41 : decode cX2_keeps 41 = .ok (.iload_n 1, 1) := dk_27 (dk_at dksX2_keeps_1 19 rfl rfl)
theorem dX2_keeps_42 : decode cX2_keeps 42 = .ok (.ireturn, 1) := dk_172 (dk_at dksX2_keeps_1 20 rfl rfl)
abbrev cX2_keepsTold : ByteArray := prog_21_method_134_code
def yX2_keepsTold : MethodName := ⟨RX2, "keepsTold", "()V"⟩
def dkwX2_keepsTold_7 : List UInt8 := [167, 255, 231, 177]
abbrev dktX2_keepsTold_7 : List UInt8 := dkwX2_keepsTold_7 ++ []
def dkwX2_keepsTold_6 : List UInt8 := [162, 0, 25, 42, 180, 0, 65, 27, 42, 42, 180, 0, 65, 27, 46, 182, 1, 206, 79, 132, 1, 1]
abbrev dktX2_keepsTold_6 : List UInt8 := dkwX2_keepsTold_6 ++ dktX2_keepsTold_7
def dkwX2_keepsTold_5 : List UInt8 := [27, 42, 42, 180, 0, 62, 27, 46, 182, 1, 206, 79, 132, 1, 1, 167, 255, 231, 3, 60, 27, 16, 64]
abbrev dktX2_keepsTold_5 : List UInt8 := dkwX2_keepsTold_5 ++ dktX2_keepsTold_6
def dkwX2_keepsTold_4 : List UInt8 := [27, 46, 182, 1, 206, 79, 132, 1, 1, 167, 255, 231, 3, 60, 27, 16, 50, 162, 0, 25, 42, 180, 0, 62]
abbrev dktX2_keepsTold_4 : List UInt8 := dkwX2_keepsTold_4 ++ dktX2_keepsTold_5
def dkwX2_keepsTold_3 : List UInt8 := [132, 1, 1, 167, 255, 231, 3, 60, 27, 16, 48, 162, 0, 25, 42, 180, 0, 59, 27, 42, 42, 180, 0, 59]
abbrev dktX2_keepsTold_3 : List UInt8 := dkwX2_keepsTold_3 ++ dktX2_keepsTold_4
def dkwX2_keepsTold_2 : List UInt8 := [3, 60, 27, 16, 8, 162, 0, 25, 42, 180, 0, 19, 27, 42, 42, 180, 0, 19, 27, 46, 182, 1, 206, 79]
abbrev dktX2_keepsTold_2 : List UInt8 := dkwX2_keepsTold_2 ++ dktX2_keepsTold_3
def dkwX2_keepsTold_1 : List UInt8 := [42, 42, 42, 180, 1, 8, 182, 1, 206, 181, 1, 8, 42, 42, 42, 180, 1, 11, 182, 1, 206, 181, 1, 11]
abbrev dktX2_keepsTold_1 : List UInt8 := dkwX2_keepsTold_1 ++ dktX2_keepsTold_2
def dkwX2_keepsTold_0 : List UInt8 := [42, 42, 42, 180, 0, 117, 182, 1, 206, 181, 0, 117, 42, 42, 42, 180, 1, 5, 182, 1, 206, 181, 1, 5]
abbrev dktX2_keepsTold_0 : List UInt8 := dkwX2_keepsTold_0 ++ dktX2_keepsTold_1
theorem dksX2_keepsTold_0 : cX2_keepsTold.data.toList.drop 0 = dktX2_keepsTold_0 := by decide +kernel
theorem dksX2_keepsTold_1 : cX2_keepsTold.data.toList.drop 24 = dktX2_keepsTold_1 := dk_seg dksX2_keepsTold_0 24 rfl rfl
theorem dksX2_keepsTold_2 : cX2_keepsTold.data.toList.drop 48 = dktX2_keepsTold_2 := dk_seg dksX2_keepsTold_1 24 rfl rfl
theorem dksX2_keepsTold_3 : cX2_keepsTold.data.toList.drop 72 = dktX2_keepsTold_3 := dk_seg dksX2_keepsTold_2 24 rfl rfl
theorem dksX2_keepsTold_4 : cX2_keepsTold.data.toList.drop 96 = dktX2_keepsTold_4 := dk_seg dksX2_keepsTold_3 24 rfl rfl
theorem dksX2_keepsTold_5 : cX2_keepsTold.data.toList.drop 120 = dktX2_keepsTold_5 := dk_seg dksX2_keepsTold_4 24 rfl rfl
theorem dksX2_keepsTold_6 : cX2_keepsTold.data.toList.drop 143 = dktX2_keepsTold_6 := dk_seg dksX2_keepsTold_5 23 rfl rfl
theorem dksX2_keepsTold_7 : cX2_keepsTold.data.toList.drop 165 = dktX2_keepsTold_7 := dk_seg dksX2_keepsTold_6 22 rfl rfl
theorem dX2_keepsTold_0 : decode cX2_keepsTold 0 = .ok (.aload_n 0, 1) := dk_42 (dk_at dksX2_keepsTold_0 0 rfl rfl)
theorem dX2_keepsTold_1 : decode cX2_keepsTold 1 = .ok (.aload_n 0, 1) := dk_42 (dk_at dksX2_keepsTold_0 1 rfl rfl)
theorem dX2_keepsTold_2 : decode cX2_keepsTold 2 = .ok (.aload_n 0, 1) := dk_42 (dk_at dksX2_keepsTold_0 2 rfl rfl)
theorem dX2_keepsTold_3 : decode cX2_keepsTold 3 = .ok (.getfield 117, 3) := dk_180 0 117 (dk_at dksX2_keepsTold_0 3 rfl rfl)
theorem dX2_keepsTold_6 : decode cX2_keepsTold 6 = .ok (.invokevirtual 462, 3) := dk_182 1 206 (dk_at dksX2_keepsTold_0 6 rfl rfl)
theorem dX2_keepsTold_9 : decode cX2_keepsTold 9 = .ok (.putfield 117, 3) := dk_181 0 117 (dk_at dksX2_keepsTold_0 9 rfl rfl)
theorem dX2_keepsTold_12 : decode cX2_keepsTold 12 = .ok (.aload_n 0, 1) := dk_42 (dk_at dksX2_keepsTold_0 12 rfl rfl)
theorem dX2_keepsTold_13 : decode cX2_keepsTold 13 = .ok (.aload_n 0, 1) := dk_42 (dk_at dksX2_keepsTold_0 13 rfl rfl)
theorem dX2_keepsTold_14 : decode cX2_keepsTold 14 = .ok (.aload_n 0, 1) := dk_42 (dk_at dksX2_keepsTold_0 14 rfl rfl)
theorem dX2_keepsTold_15 : decode cX2_keepsTold 15 = .ok (.getfield 261, 3) := dk_180 1 5 (dk_at dksX2_keepsTold_0 15 rfl rfl)
theorem dX2_keepsTold_18 : decode cX2_keepsTold 18 = .ok (.invokevirtual 462, 3) := dk_182 1 206 (dk_at dksX2_keepsTold_0 18 rfl rfl)
theorem dX2_keepsTold_21 : decode cX2_keepsTold 21 = .ok (.putfield 261, 3) := dk_181 1 5 (dk_at dksX2_keepsTold_0 21 rfl rfl)
theorem dX2_keepsTold_24 : decode cX2_keepsTold 24 = .ok (.aload_n 0, 1) := dk_42 (dk_at dksX2_keepsTold_1 0 rfl rfl)
theorem dX2_keepsTold_25 : decode cX2_keepsTold 25 = .ok (.aload_n 0, 1) := dk_42 (dk_at dksX2_keepsTold_1 1 rfl rfl)
theorem dX2_keepsTold_26 : decode cX2_keepsTold 26 = .ok (.aload_n 0, 1) := dk_42 (dk_at dksX2_keepsTold_1 2 rfl rfl)
theorem dX2_keepsTold_27 : decode cX2_keepsTold 27 = .ok (.getfield 264, 3) := dk_180 1 8 (dk_at dksX2_keepsTold_1 3 rfl rfl)
theorem dX2_keepsTold_30 : decode cX2_keepsTold 30 = .ok (.invokevirtual 462, 3) := dk_182 1 206 (dk_at dksX2_keepsTold_1 6 rfl rfl)
theorem dX2_keepsTold_33 : decode cX2_keepsTold 33 = .ok (.putfield 264, 3) := dk_181 1 8 (dk_at dksX2_keepsTold_1 9 rfl rfl)
theorem dX2_keepsTold_36 : decode cX2_keepsTold 36 = .ok (.aload_n 0, 1) := dk_42 (dk_at dksX2_keepsTold_1 12 rfl rfl)
theorem dX2_keepsTold_37 : decode cX2_keepsTold 37 = .ok (.aload_n 0, 1) := dk_42 (dk_at dksX2_keepsTold_1 13 rfl rfl)
theorem dX2_keepsTold_38 : decode cX2_keepsTold 38 = .ok (.aload_n 0, 1) := dk_42 (dk_at dksX2_keepsTold_1 14 rfl rfl)
theorem dX2_keepsTold_39 : decode cX2_keepsTold 39 = .ok (.getfield 267, 3) := dk_180 1 11 (dk_at dksX2_keepsTold_1 15 rfl rfl)
theorem dX2_keepsTold_42 : decode cX2_keepsTold 42 = .ok (.invokevirtual 462, 3) := dk_182 1 206 (dk_at dksX2_keepsTold_1 18 rfl rfl)
theorem dX2_keepsTold_45 : decode cX2_keepsTold 45 = .ok (.putfield 267, 3) := dk_181 1 11 (dk_at dksX2_keepsTold_1 21 rfl rfl)
theorem dX2_keepsTold_48 : decode cX2_keepsTold 48 = .ok (.iconst 0, 1) := dk_3 (dk_at dksX2_keepsTold_2 0 rfl rfl)
theorem dX2_keepsTold_49 : decode cX2_keepsTold 49 = .ok (.istore_n 1, 1) := dk_60 (dk_at dksX2_keepsTold_2 1 rfl rfl)
theorem dX2_keepsTold_50 : decode cX2_keepsTold 50 = .ok (.iload_n 1, 1) := dk_27 (dk_at dksX2_keepsTold_2 2 rfl rfl)
theorem dX2_keepsTold_51 : decode cX2_keepsTold 51 = .ok (.bipush 8, 2) := dk_16 8 (dk_at dksX2_keepsTold_2 3 rfl rfl)
theorem dX2_keepsTold_53 : decode cX2_keepsTold 53 = .ok (.if_icmp .ge 25, 3) := dk_162 0 25 (dk_at dksX2_keepsTold_2 5 rfl rfl)
theorem dX2_keepsTold_56 : decode cX2_keepsTold 56 = .ok (.aload_n 0, 1) := dk_42 (dk_at dksX2_keepsTold_2 8 rfl rfl)
theorem dX2_keepsTold_57 : decode cX2_keepsTold 57 = .ok (.getfield 19, 3) := dk_180 0 19 (dk_at dksX2_keepsTold_2 9 rfl rfl)
theorem dX2_keepsTold_60 : decode cX2_keepsTold 60 = .ok (.iload_n 1, 1) := dk_27 (dk_at dksX2_keepsTold_2 12 rfl rfl)
theorem dX2_keepsTold_61 : decode cX2_keepsTold 61 = .ok (.aload_n 0, 1) := dk_42 (dk_at dksX2_keepsTold_2 13 rfl rfl)
theorem dX2_keepsTold_62 : decode cX2_keepsTold 62 = .ok (.aload_n 0, 1) := dk_42 (dk_at dksX2_keepsTold_2 14 rfl rfl)
theorem dX2_keepsTold_63 : decode cX2_keepsTold 63 = .ok (.getfield 19, 3) := dk_180 0 19 (dk_at dksX2_keepsTold_2 15 rfl rfl)
theorem dX2_keepsTold_66 : decode cX2_keepsTold 66 = .ok (.iload_n 1, 1) := dk_27 (dk_at dksX2_keepsTold_2 18 rfl rfl)
theorem dX2_keepsTold_67 : decode cX2_keepsTold 67 = .ok (.iaload, 1) := dk_46 (dk_at dksX2_keepsTold_2 19 rfl rfl)
theorem dX2_keepsTold_68 : decode cX2_keepsTold 68 = .ok (.invokevirtual 462, 3) := dk_182 1 206 (dk_at dksX2_keepsTold_2 20 rfl rfl)
theorem dX2_keepsTold_71 : decode cX2_keepsTold 71 = .ok (.iastore, 1) := dk_79 (dk_at dksX2_keepsTold_2 23 rfl rfl)
theorem dX2_keepsTold_72 : decode cX2_keepsTold 72 = .ok (.iinc 1 1, 3) := dk_132 1 1 (dk_at dksX2_keepsTold_3 0 rfl rfl)
theorem dX2_keepsTold_75 : decode cX2_keepsTold 75 = .ok (.goto (-25), 3) := dk_167 255 231 (dk_at dksX2_keepsTold_3 3 rfl rfl)
theorem dX2_keepsTold_78 : decode cX2_keepsTold 78 = .ok (.iconst 0, 1) := dk_3 (dk_at dksX2_keepsTold_3 6 rfl rfl)
theorem dX2_keepsTold_79 : decode cX2_keepsTold 79 = .ok (.istore_n 1, 1) := dk_60 (dk_at dksX2_keepsTold_3 7 rfl rfl)
theorem dX2_keepsTold_80 : decode cX2_keepsTold 80 = .ok (.iload_n 1, 1) := dk_27 (dk_at dksX2_keepsTold_3 8 rfl rfl)
theorem dX2_keepsTold_81 : decode cX2_keepsTold 81 = .ok (.bipush 48, 2) := dk_16 48 (dk_at dksX2_keepsTold_3 9 rfl rfl)
theorem dX2_keepsTold_83 : decode cX2_keepsTold 83 = .ok (.if_icmp .ge 25, 3) := dk_162 0 25 (dk_at dksX2_keepsTold_3 11 rfl rfl)
theorem dX2_keepsTold_86 : decode cX2_keepsTold 86 = .ok (.aload_n 0, 1) := dk_42 (dk_at dksX2_keepsTold_3 14 rfl rfl)
theorem dX2_keepsTold_87 : decode cX2_keepsTold 87 = .ok (.getfield 59, 3) := dk_180 0 59 (dk_at dksX2_keepsTold_3 15 rfl rfl)
theorem dX2_keepsTold_90 : decode cX2_keepsTold 90 = .ok (.iload_n 1, 1) := dk_27 (dk_at dksX2_keepsTold_3 18 rfl rfl)
theorem dX2_keepsTold_91 : decode cX2_keepsTold 91 = .ok (.aload_n 0, 1) := dk_42 (dk_at dksX2_keepsTold_3 19 rfl rfl)
theorem dX2_keepsTold_92 : decode cX2_keepsTold 92 = .ok (.aload_n 0, 1) := dk_42 (dk_at dksX2_keepsTold_3 20 rfl rfl)
theorem dX2_keepsTold_93 : decode cX2_keepsTold 93 = .ok (.getfield 59, 3) := dk_180 0 59 (dk_at dksX2_keepsTold_3 21 rfl rfl)
theorem dX2_keepsTold_96 : decode cX2_keepsTold 96 = .ok (.iload_n 1, 1) := dk_27 (dk_at dksX2_keepsTold_4 0 rfl rfl)
theorem dX2_keepsTold_97 : decode cX2_keepsTold 97 = .ok (.iaload, 1) := dk_46 (dk_at dksX2_keepsTold_4 1 rfl rfl)
theorem dX2_keepsTold_98 : decode cX2_keepsTold 98 = .ok (.invokevirtual 462, 3) := dk_182 1 206 (dk_at dksX2_keepsTold_4 2 rfl rfl)
theorem dX2_keepsTold_101 : decode cX2_keepsTold 101 = .ok (.iastore, 1) := dk_79 (dk_at dksX2_keepsTold_4 5 rfl rfl)
theorem dX2_keepsTold_102 : decode cX2_keepsTold 102 = .ok (.iinc 1 1, 3) := dk_132 1 1 (dk_at dksX2_keepsTold_4 6 rfl rfl)
theorem dX2_keepsTold_105 : decode cX2_keepsTold 105 = .ok (.goto (-25), 3) := dk_167 255 231 (dk_at dksX2_keepsTold_4 9 rfl rfl)
theorem dX2_keepsTold_108 : decode cX2_keepsTold 108 = .ok (.iconst 0, 1) := dk_3 (dk_at dksX2_keepsTold_4 12 rfl rfl)
theorem dX2_keepsTold_109 : decode cX2_keepsTold 109 = .ok (.istore_n 1, 1) := dk_60 (dk_at dksX2_keepsTold_4 13 rfl rfl)
theorem dX2_keepsTold_110 : decode cX2_keepsTold 110 = .ok (.iload_n 1, 1) := dk_27 (dk_at dksX2_keepsTold_4 14 rfl rfl)
theorem dX2_keepsTold_111 : decode cX2_keepsTold 111 = .ok (.bipush 50, 2) := dk_16 50 (dk_at dksX2_keepsTold_4 15 rfl rfl)
theorem dX2_keepsTold_113 : decode cX2_keepsTold 113 = .ok (.if_icmp .ge 25, 3) := dk_162 0 25 (dk_at dksX2_keepsTold_4 17 rfl rfl)
theorem dX2_keepsTold_116 : decode cX2_keepsTold 116 = .ok (.aload_n 0, 1) := dk_42 (dk_at dksX2_keepsTold_4 20 rfl rfl)
theorem dX2_keepsTold_117 : decode cX2_keepsTold 117 = .ok (.getfield 62, 3) := dk_180 0 62 (dk_at dksX2_keepsTold_4 21 rfl rfl)
theorem dX2_keepsTold_120 : decode cX2_keepsTold 120 = .ok (.iload_n 1, 1) := dk_27 (dk_at dksX2_keepsTold_5 0 rfl rfl)
theorem dX2_keepsTold_121 : decode cX2_keepsTold 121 = .ok (.aload_n 0, 1) := dk_42 (dk_at dksX2_keepsTold_5 1 rfl rfl)
theorem dX2_keepsTold_122 : decode cX2_keepsTold 122 = .ok (.aload_n 0, 1) := dk_42 (dk_at dksX2_keepsTold_5 2 rfl rfl)
theorem dX2_keepsTold_123 : decode cX2_keepsTold 123 = .ok (.getfield 62, 3) := dk_180 0 62 (dk_at dksX2_keepsTold_5 3 rfl rfl)
theorem dX2_keepsTold_126 : decode cX2_keepsTold 126 = .ok (.iload_n 1, 1) := dk_27 (dk_at dksX2_keepsTold_5 6 rfl rfl)
theorem dX2_keepsTold_127 : decode cX2_keepsTold 127 = .ok (.iaload, 1) := dk_46 (dk_at dksX2_keepsTold_5 7 rfl rfl)
theorem dX2_keepsTold_128 : decode cX2_keepsTold 128 = .ok (.invokevirtual 462, 3) := dk_182 1 206 (dk_at dksX2_keepsTold_5 8 rfl rfl)
theorem dX2_keepsTold_131 : decode cX2_keepsTold 131 = .ok (.iastore, 1) := dk_79 (dk_at dksX2_keepsTold_5 11 rfl rfl)
theorem dX2_keepsTold_132 : decode cX2_keepsTold 132 = .ok (.iinc 1 1, 3) := dk_132 1 1 (dk_at dksX2_keepsTold_5 12 rfl rfl)
theorem dX2_keepsTold_135 : decode cX2_keepsTold 135 = .ok (.goto (-25), 3) := dk_167 255 231 (dk_at dksX2_keepsTold_5 15 rfl rfl)
theorem dX2_keepsTold_138 : decode cX2_keepsTold 138 = .ok (.iconst 0, 1) := dk_3 (dk_at dksX2_keepsTold_5 18 rfl rfl)
theorem dX2_keepsTold_139 : decode cX2_keepsTold 139 = .ok (.istore_n 1, 1) := dk_60 (dk_at dksX2_keepsTold_5 19 rfl rfl)
theorem dX2_keepsTold_140 : decode cX2_keepsTold 140 = .ok (.iload_n 1, 1) := dk_27 (dk_at dksX2_keepsTold_5 20 rfl rfl)
theorem dX2_keepsTold_141 : decode cX2_keepsTold 141 = .ok (.bipush 64, 2) := dk_16 64 (dk_at dksX2_keepsTold_5 21 rfl rfl)
theorem dX2_keepsTold_143 : decode cX2_keepsTold 143 = .ok (.if_icmp .ge 25, 3) := dk_162 0 25 (dk_at dksX2_keepsTold_6 0 rfl rfl)
theorem dX2_keepsTold_146 : decode cX2_keepsTold 146 = .ok (.aload_n 0, 1) := dk_42 (dk_at dksX2_keepsTold_6 3 rfl rfl)
theorem dX2_keepsTold_147 : decode cX2_keepsTold 147 = .ok (.getfield 65, 3) := dk_180 0 65 (dk_at dksX2_keepsTold_6 4 rfl rfl)
theorem dX2_keepsTold_150 : decode cX2_keepsTold 150 = .ok (.iload_n 1, 1) := dk_27 (dk_at dksX2_keepsTold_6 7 rfl rfl)
theorem dX2_keepsTold_151 : decode cX2_keepsTold 151 = .ok (.aload_n 0, 1) := dk_42 (dk_at dksX2_keepsTold_6 8 rfl rfl)
theorem dX2_keepsTold_152 : decode cX2_keepsTold 152 = .ok (.aload_n 0, 1) := dk_42 (dk_at dksX2_keepsTold_6 9 rfl rfl)
theorem dX2_keepsTold_153 : decode cX2_keepsTold 153 = .ok (.getfield 65, 3) := dk_180 0 65 (dk_at dksX2_keepsTold_6 10 rfl rfl)
theorem dX2_keepsTold_156 : decode cX2_keepsTold 156 = .ok (.iload_n 1, 1) := dk_27 (dk_at dksX2_keepsTold_6 13 rfl rfl)
theorem dX2_keepsTold_157 : decode cX2_keepsTold 157 = .ok (.iaload, 1) := dk_46 (dk_at dksX2_keepsTold_6 14 rfl rfl)
theorem dX2_keepsTold_158 : decode cX2_keepsTold 158 = .ok (.invokevirtual 462, 3) := dk_182 1 206 (dk_at dksX2_keepsTold_6 15 rfl rfl)
theorem dX2_keepsTold_161 : decode cX2_keepsTold 161 = .ok (.iastore, 1) := dk_79 (dk_at dksX2_keepsTold_6 18 rfl rfl)
theorem dX2_keepsTold_162 : decode cX2_keepsTold 162 = .ok (.iinc 1 1, 3) := dk_132 1 1 (dk_at dksX2_keepsTold_6 19 rfl rfl)
theorem dX2_keepsTold_165 : decode cX2_keepsTold 165 = .ok (.goto (-25), 3) := dk_167 255 231 (dk_at dksX2_keepsTold_7 0 rfl rfl)
theorem dX2_keepsTold_168 : decode cX2_keepsTold 168 = .ok (.return_, 1) := dk_177 (dk_at dksX2_keepsTold_7 3 rfl rfl)
abbrev cX2_keepsLaw : ByteArray := prog_21_method_133_code
def yX2_keepsLaw : MethodName := ⟨RX2, "keepsLaw", "()V"⟩
def dkwX2_keepsLaw_5 : List UInt8 := [42, 180, 0, 49, 27, 42, 42, 180, 0, 49, 27, 46, 182, 1, 206, 79, 132, 1, 1, 167, 255, 214, 177]
abbrev dktX2_keepsLaw_5 : List UInt8 := dkwX2_keepsLaw_5 ++ []
def dkwX2_keepsLaw_4 : List UInt8 := [60, 27, 17, 1, 144, 162, 0, 41, 42, 180, 0, 46, 27, 42, 42, 180, 0, 46, 27, 46, 182, 1, 206, 79]
abbrev dktX2_keepsLaw_4 : List UInt8 := dkwX2_keepsLaw_4 ++ dktX2_keepsLaw_5
def dkwX2_keepsLaw_3 : List UInt8 := [79, 42, 180, 0, 43, 27, 42, 42, 180, 0, 43, 27, 46, 182, 1, 206, 79, 132, 1, 1, 167, 255, 183, 3]
abbrev dktX2_keepsLaw_3 : List UInt8 := dkwX2_keepsLaw_3 ++ dktX2_keepsLaw_4
def dkwX2_keepsLaw_2 : List UInt8 := [180, 0, 37, 27, 46, 182, 1, 206, 79, 42, 180, 0, 40, 27, 42, 42, 180, 0, 40, 27, 46, 182, 1, 206]
abbrev dktX2_keepsLaw_2 : List UInt8 := dkwX2_keepsLaw_2 ++ dktX2_keepsLaw_3
def dkwX2_keepsLaw_1 : List UInt8 := [42, 180, 0, 34, 27, 42, 42, 180, 0, 34, 27, 46, 182, 1, 206, 79, 42, 180, 0, 37, 27, 42, 42]
abbrev dktX2_keepsLaw_1 : List UInt8 := dkwX2_keepsLaw_1 ++ dktX2_keepsLaw_2
def dkwX2_keepsLaw_0 : List UInt8 := [42, 180, 0, 31, 3, 42, 42, 180, 0, 31, 3, 46, 182, 1, 206, 79, 3, 60, 27, 16, 16, 162, 0, 73]
abbrev dktX2_keepsLaw_0 : List UInt8 := dkwX2_keepsLaw_0 ++ dktX2_keepsLaw_1
theorem dksX2_keepsLaw_0 : cX2_keepsLaw.data.toList.drop 0 = dktX2_keepsLaw_0 := by decide +kernel
theorem dksX2_keepsLaw_1 : cX2_keepsLaw.data.toList.drop 24 = dktX2_keepsLaw_1 := dk_seg dksX2_keepsLaw_0 24 rfl rfl
theorem dksX2_keepsLaw_2 : cX2_keepsLaw.data.toList.drop 47 = dktX2_keepsLaw_2 := dk_seg dksX2_keepsLaw_1 23 rfl rfl
theorem dksX2_keepsLaw_3 : cX2_keepsLaw.data.toList.drop 71 = dktX2_keepsLaw_3 := dk_seg dksX2_keepsLaw_2 24 rfl rfl
theorem dksX2_keepsLaw_4 : cX2_keepsLaw.data.toList.drop 95 = dktX2_keepsLaw_4 := dk_seg dksX2_keepsLaw_3 24 rfl rfl
theorem dksX2_keepsLaw_5 : cX2_keepsLaw.data.toList.drop 119 = dktX2_keepsLaw_5 := dk_seg dksX2_keepsLaw_4 24 rfl rfl
theorem dX2_keepsLaw_0 : decode cX2_keepsLaw 0 = .ok (.aload_n 0, 1) := dk_42 (dk_at dksX2_keepsLaw_0 0 rfl rfl)
theorem dX2_keepsLaw_1 : decode cX2_keepsLaw 1 = .ok (.getfield 31, 3) := dk_180 0 31 (dk_at dksX2_keepsLaw_0 1 rfl rfl)
theorem dX2_keepsLaw_4 : decode cX2_keepsLaw 4 = .ok (.iconst 0, 1) := dk_3 (dk_at dksX2_keepsLaw_0 4 rfl rfl)
theorem dX2_keepsLaw_5 : decode cX2_keepsLaw 5 = .ok (.aload_n 0, 1) := dk_42 (dk_at dksX2_keepsLaw_0 5 rfl rfl)
theorem dX2_keepsLaw_6 : decode cX2_keepsLaw 6 = .ok (.aload_n 0, 1) := dk_42 (dk_at dksX2_keepsLaw_0 6 rfl rfl)
theorem dX2_keepsLaw_7 : decode cX2_keepsLaw 7 = .ok (.getfield 31, 3) := dk_180 0 31 (dk_at dksX2_keepsLaw_0 7 rfl rfl)
theorem dX2_keepsLaw_10 : decode cX2_keepsLaw 10 = .ok (.iconst 0, 1) := dk_3 (dk_at dksX2_keepsLaw_0 10 rfl rfl)
theorem dX2_keepsLaw_11 : decode cX2_keepsLaw 11 = .ok (.iaload, 1) := dk_46 (dk_at dksX2_keepsLaw_0 11 rfl rfl)
theorem dX2_keepsLaw_12 : decode cX2_keepsLaw 12 = .ok (.invokevirtual 462, 3) := dk_182 1 206 (dk_at dksX2_keepsLaw_0 12 rfl rfl)
theorem dX2_keepsLaw_15 : decode cX2_keepsLaw 15 = .ok (.iastore, 1) := dk_79 (dk_at dksX2_keepsLaw_0 15 rfl rfl)
theorem dX2_keepsLaw_16 : decode cX2_keepsLaw 16 = .ok (.iconst 0, 1) := dk_3 (dk_at dksX2_keepsLaw_0 16 rfl rfl)
theorem dX2_keepsLaw_17 : decode cX2_keepsLaw 17 = .ok (.istore_n 1, 1) := dk_60 (dk_at dksX2_keepsLaw_0 17 rfl rfl)
theorem dX2_keepsLaw_18 : decode cX2_keepsLaw 18 = .ok (.iload_n 1, 1) := dk_27 (dk_at dksX2_keepsLaw_0 18 rfl rfl)
theorem dX2_keepsLaw_19 : decode cX2_keepsLaw 19 = .ok (.bipush 16, 2) := dk_16 16 (dk_at dksX2_keepsLaw_0 19 rfl rfl)
theorem dX2_keepsLaw_21 : decode cX2_keepsLaw 21 = .ok (.if_icmp .ge 73, 3) := dk_162 0 73 (dk_at dksX2_keepsLaw_0 21 rfl rfl)
theorem dX2_keepsLaw_24 : decode cX2_keepsLaw 24 = .ok (.aload_n 0, 1) := dk_42 (dk_at dksX2_keepsLaw_1 0 rfl rfl)
theorem dX2_keepsLaw_25 : decode cX2_keepsLaw 25 = .ok (.getfield 34, 3) := dk_180 0 34 (dk_at dksX2_keepsLaw_1 1 rfl rfl)
theorem dX2_keepsLaw_28 : decode cX2_keepsLaw 28 = .ok (.iload_n 1, 1) := dk_27 (dk_at dksX2_keepsLaw_1 4 rfl rfl)
theorem dX2_keepsLaw_29 : decode cX2_keepsLaw 29 = .ok (.aload_n 0, 1) := dk_42 (dk_at dksX2_keepsLaw_1 5 rfl rfl)
theorem dX2_keepsLaw_30 : decode cX2_keepsLaw 30 = .ok (.aload_n 0, 1) := dk_42 (dk_at dksX2_keepsLaw_1 6 rfl rfl)
theorem dX2_keepsLaw_31 : decode cX2_keepsLaw 31 = .ok (.getfield 34, 3) := dk_180 0 34 (dk_at dksX2_keepsLaw_1 7 rfl rfl)
theorem dX2_keepsLaw_34 : decode cX2_keepsLaw 34 = .ok (.iload_n 1, 1) := dk_27 (dk_at dksX2_keepsLaw_1 10 rfl rfl)
theorem dX2_keepsLaw_35 : decode cX2_keepsLaw 35 = .ok (.iaload, 1) := dk_46 (dk_at dksX2_keepsLaw_1 11 rfl rfl)
theorem dX2_keepsLaw_36 : decode cX2_keepsLaw 36 = .ok (.invokevirtual 462, 3) := dk_182 1 206 (dk_at dksX2_keepsLaw_1 12 rfl rfl)
theorem dX2_keepsLaw_39 : decode cX2_keepsLaw 39 = .ok (.iastore, 1) := dk_79 (dk_at dksX2_keepsLaw_1 15 rfl rfl)
theorem dX2_keepsLaw_40 : decode cX2_keepsLaw 40 = .ok (.aload_n 0, 1) := dk_42 (dk_at dksX2_keepsLaw_1 16 rfl rfl)
theorem dX2_keepsLaw_41 : decode cX2_keepsLaw 41 = .ok (.getfield 37, 3) := dk_180 0 37 (dk_at dksX2_keepsLaw_1 17 rfl rfl)
theorem dX2_keepsLaw_44 : decode cX2_keepsLaw 44 = .ok (.iload_n 1, 1) := dk_27 (dk_at dksX2_keepsLaw_1 20 rfl rfl)
theorem dX2_keepsLaw_45 : decode cX2_keepsLaw 45 = .ok (.aload_n 0, 1) := dk_42 (dk_at dksX2_keepsLaw_1 21 rfl rfl)
theorem dX2_keepsLaw_46 : decode cX2_keepsLaw 46 = .ok (.aload_n 0, 1) := dk_42 (dk_at dksX2_keepsLaw_1 22 rfl rfl)
theorem dX2_keepsLaw_47 : decode cX2_keepsLaw 47 = .ok (.getfield 37, 3) := dk_180 0 37 (dk_at dksX2_keepsLaw_2 0 rfl rfl)
theorem dX2_keepsLaw_50 : decode cX2_keepsLaw 50 = .ok (.iload_n 1, 1) := dk_27 (dk_at dksX2_keepsLaw_2 3 rfl rfl)
theorem dX2_keepsLaw_51 : decode cX2_keepsLaw 51 = .ok (.iaload, 1) := dk_46 (dk_at dksX2_keepsLaw_2 4 rfl rfl)
theorem dX2_keepsLaw_52 : decode cX2_keepsLaw 52 = .ok (.invokevirtual 462, 3) := dk_182 1 206 (dk_at dksX2_keepsLaw_2 5 rfl rfl)
theorem dX2_keepsLaw_55 : decode cX2_keepsLaw 55 = .ok (.iastore, 1) := dk_79 (dk_at dksX2_keepsLaw_2 8 rfl rfl)
theorem dX2_keepsLaw_56 : decode cX2_keepsLaw 56 = .ok (.aload_n 0, 1) := dk_42 (dk_at dksX2_keepsLaw_2 9 rfl rfl)
theorem dX2_keepsLaw_57 : decode cX2_keepsLaw 57 = .ok (.getfield 40, 3) := dk_180 0 40 (dk_at dksX2_keepsLaw_2 10 rfl rfl)
theorem dX2_keepsLaw_60 : decode cX2_keepsLaw 60 = .ok (.iload_n 1, 1) := dk_27 (dk_at dksX2_keepsLaw_2 13 rfl rfl)
theorem dX2_keepsLaw_61 : decode cX2_keepsLaw 61 = .ok (.aload_n 0, 1) := dk_42 (dk_at dksX2_keepsLaw_2 14 rfl rfl)
theorem dX2_keepsLaw_62 : decode cX2_keepsLaw 62 = .ok (.aload_n 0, 1) := dk_42 (dk_at dksX2_keepsLaw_2 15 rfl rfl)
theorem dX2_keepsLaw_63 : decode cX2_keepsLaw 63 = .ok (.getfield 40, 3) := dk_180 0 40 (dk_at dksX2_keepsLaw_2 16 rfl rfl)
theorem dX2_keepsLaw_66 : decode cX2_keepsLaw 66 = .ok (.iload_n 1, 1) := dk_27 (dk_at dksX2_keepsLaw_2 19 rfl rfl)
theorem dX2_keepsLaw_67 : decode cX2_keepsLaw 67 = .ok (.iaload, 1) := dk_46 (dk_at dksX2_keepsLaw_2 20 rfl rfl)
theorem dX2_keepsLaw_68 : decode cX2_keepsLaw 68 = .ok (.invokevirtual 462, 3) := dk_182 1 206 (dk_at dksX2_keepsLaw_2 21 rfl rfl)
theorem dX2_keepsLaw_71 : decode cX2_keepsLaw 71 = .ok (.iastore, 1) := dk_79 (dk_at dksX2_keepsLaw_3 0 rfl rfl)
theorem dX2_keepsLaw_72 : decode cX2_keepsLaw 72 = .ok (.aload_n 0, 1) := dk_42 (dk_at dksX2_keepsLaw_3 1 rfl rfl)
theorem dX2_keepsLaw_73 : decode cX2_keepsLaw 73 = .ok (.getfield 43, 3) := dk_180 0 43 (dk_at dksX2_keepsLaw_3 2 rfl rfl)
theorem dX2_keepsLaw_76 : decode cX2_keepsLaw 76 = .ok (.iload_n 1, 1) := dk_27 (dk_at dksX2_keepsLaw_3 5 rfl rfl)
theorem dX2_keepsLaw_77 : decode cX2_keepsLaw 77 = .ok (.aload_n 0, 1) := dk_42 (dk_at dksX2_keepsLaw_3 6 rfl rfl)
theorem dX2_keepsLaw_78 : decode cX2_keepsLaw 78 = .ok (.aload_n 0, 1) := dk_42 (dk_at dksX2_keepsLaw_3 7 rfl rfl)
theorem dX2_keepsLaw_79 : decode cX2_keepsLaw 79 = .ok (.getfield 43, 3) := dk_180 0 43 (dk_at dksX2_keepsLaw_3 8 rfl rfl)
theorem dX2_keepsLaw_82 : decode cX2_keepsLaw 82 = .ok (.iload_n 1, 1) := dk_27 (dk_at dksX2_keepsLaw_3 11 rfl rfl)
theorem dX2_keepsLaw_83 : decode cX2_keepsLaw 83 = .ok (.iaload, 1) := dk_46 (dk_at dksX2_keepsLaw_3 12 rfl rfl)
theorem dX2_keepsLaw_84 : decode cX2_keepsLaw 84 = .ok (.invokevirtual 462, 3) := dk_182 1 206 (dk_at dksX2_keepsLaw_3 13 rfl rfl)
theorem dX2_keepsLaw_87 : decode cX2_keepsLaw 87 = .ok (.iastore, 1) := dk_79 (dk_at dksX2_keepsLaw_3 16 rfl rfl)
theorem dX2_keepsLaw_88 : decode cX2_keepsLaw 88 = .ok (.iinc 1 1, 3) := dk_132 1 1 (dk_at dksX2_keepsLaw_3 17 rfl rfl)
theorem dX2_keepsLaw_91 : decode cX2_keepsLaw 91 = .ok (.goto (-73), 3) := dk_167 255 183 (dk_at dksX2_keepsLaw_3 20 rfl rfl)
theorem dX2_keepsLaw_94 : decode cX2_keepsLaw 94 = .ok (.iconst 0, 1) := dk_3 (dk_at dksX2_keepsLaw_3 23 rfl rfl)
theorem dX2_keepsLaw_95 : decode cX2_keepsLaw 95 = .ok (.istore_n 1, 1) := dk_60 (dk_at dksX2_keepsLaw_4 0 rfl rfl)
theorem dX2_keepsLaw_96 : decode cX2_keepsLaw 96 = .ok (.iload_n 1, 1) := dk_27 (dk_at dksX2_keepsLaw_4 1 rfl rfl)
theorem dX2_keepsLaw_97 : decode cX2_keepsLaw 97 = .ok (.sipush 400, 3) := dk_17 1 144 (dk_at dksX2_keepsLaw_4 2 rfl rfl)
theorem dX2_keepsLaw_100 : decode cX2_keepsLaw 100 = .ok (.if_icmp .ge 41, 3) := dk_162 0 41 (dk_at dksX2_keepsLaw_4 5 rfl rfl)
theorem dX2_keepsLaw_103 : decode cX2_keepsLaw 103 = .ok (.aload_n 0, 1) := dk_42 (dk_at dksX2_keepsLaw_4 8 rfl rfl)
theorem dX2_keepsLaw_104 : decode cX2_keepsLaw 104 = .ok (.getfield 46, 3) := dk_180 0 46 (dk_at dksX2_keepsLaw_4 9 rfl rfl)
theorem dX2_keepsLaw_107 : decode cX2_keepsLaw 107 = .ok (.iload_n 1, 1) := dk_27 (dk_at dksX2_keepsLaw_4 12 rfl rfl)
theorem dX2_keepsLaw_108 : decode cX2_keepsLaw 108 = .ok (.aload_n 0, 1) := dk_42 (dk_at dksX2_keepsLaw_4 13 rfl rfl)
theorem dX2_keepsLaw_109 : decode cX2_keepsLaw 109 = .ok (.aload_n 0, 1) := dk_42 (dk_at dksX2_keepsLaw_4 14 rfl rfl)
theorem dX2_keepsLaw_110 : decode cX2_keepsLaw 110 = .ok (.getfield 46, 3) := dk_180 0 46 (dk_at dksX2_keepsLaw_4 15 rfl rfl)
theorem dX2_keepsLaw_113 : decode cX2_keepsLaw 113 = .ok (.iload_n 1, 1) := dk_27 (dk_at dksX2_keepsLaw_4 18 rfl rfl)
theorem dX2_keepsLaw_114 : decode cX2_keepsLaw 114 = .ok (.iaload, 1) := dk_46 (dk_at dksX2_keepsLaw_4 19 rfl rfl)
theorem dX2_keepsLaw_115 : decode cX2_keepsLaw 115 = .ok (.invokevirtual 462, 3) := dk_182 1 206 (dk_at dksX2_keepsLaw_4 20 rfl rfl)
theorem dX2_keepsLaw_118 : decode cX2_keepsLaw 118 = .ok (.iastore, 1) := dk_79 (dk_at dksX2_keepsLaw_4 23 rfl rfl)
theorem dX2_keepsLaw_119 : decode cX2_keepsLaw 119 = .ok (.aload_n 0, 1) := dk_42 (dk_at dksX2_keepsLaw_5 0 rfl rfl)
theorem dX2_keepsLaw_120 : decode cX2_keepsLaw 120 = .ok (.getfield 49, 3) := dk_180 0 49 (dk_at dksX2_keepsLaw_5 1 rfl rfl)
theorem dX2_keepsLaw_123 : decode cX2_keepsLaw 123 = .ok (.iload_n 1, 1) := dk_27 (dk_at dksX2_keepsLaw_5 4 rfl rfl)
theorem dX2_keepsLaw_124 : decode cX2_keepsLaw 124 = .ok (.aload_n 0, 1) := dk_42 (dk_at dksX2_keepsLaw_5 5 rfl rfl)
theorem dX2_keepsLaw_125 : decode cX2_keepsLaw 125 = .ok (.aload_n 0, 1) := dk_42 (dk_at dksX2_keepsLaw_5 6 rfl rfl)
theorem dX2_keepsLaw_126 : decode cX2_keepsLaw 126 = .ok (.getfield 49, 3) := dk_180 0 49 (dk_at dksX2_keepsLaw_5 7 rfl rfl)
theorem dX2_keepsLaw_129 : decode cX2_keepsLaw 129 = .ok (.iload_n 1, 1) := dk_27 (dk_at dksX2_keepsLaw_5 10 rfl rfl)
theorem dX2_keepsLaw_130 : decode cX2_keepsLaw 130 = .ok (.iaload, 1) := dk_46 (dk_at dksX2_keepsLaw_5 11 rfl rfl)
theorem dX2_keepsLaw_131 : decode cX2_keepsLaw 131 = .ok (.invokevirtual 462, 3) := dk_182 1 206 (dk_at dksX2_keepsLaw_5 12 rfl rfl)
theorem dX2_keepsLaw_134 : decode cX2_keepsLaw 134 = .ok (.iastore, 1) := dk_79 (dk_at dksX2_keepsLaw_5 15 rfl rfl)
theorem dX2_keepsLaw_135 : decode cX2_keepsLaw 135 = .ok (.iinc 1 1, 3) := dk_132 1 1 (dk_at dksX2_keepsLaw_5 16 rfl rfl)
theorem dX2_keepsLaw_138 : decode cX2_keepsLaw 138 = .ok (.goto (-42), 3) := dk_167 255 214 (dk_at dksX2_keepsLaw_5 19 rfl rfl)
theorem dX2_keepsLaw_141 : decode cX2_keepsLaw 141 = .ok (.return_, 1) := dk_177 (dk_at dksX2_keepsLaw_5 22 rfl rfl)
abbrev cX2_look : ByteArray := prog_21_method_137_code
def yX2_look : MethodName := ⟨RX2, "look", "(I)I"⟩
def dkwX2_look_6 : List UInt8 := [160, 0, 10, 42, 182, 1, 218, 167, 0, 4, 2, 172]
abbrev dktX2_look_6 : List UInt8 := dkwX2_look_6 ++ []
def dkwX2_look_5 : List UInt8 := [160, 0, 8, 42, 180, 1, 11, 172, 27, 16, 10, 160, 0, 10, 42, 180, 0, 89, 167, 0, 17, 27, 16, 11]
abbrev dktX2_look_5 : List UInt8 := dkwX2_look_5 ++ dktX2_look_6
def dkwX2_look_4 : List UInt8 := [160, 0, 8, 42, 180, 1, 5, 172, 27, 16, 8, 160, 0, 8, 42, 180, 1, 8, 172, 27, 16, 9]
abbrev dktX2_look_4 : List UInt8 := dkwX2_look_4 ++ dktX2_look_5
def dkwX2_look_3 : List UInt8 := [180, 0, 7, 4, 46, 172, 27, 16, 6, 160, 0, 10, 42, 180, 0, 31, 3, 46, 172, 27, 16, 7]
abbrev dktX2_look_3 : List UInt8 := dkwX2_look_3 ++ dktX2_look_4
def dkwX2_look_2 : List UInt8 := [180, 0, 117, 172, 27, 7, 160, 0, 10, 42, 180, 0, 7, 5, 46, 172, 27, 8, 160, 0, 10, 42]
abbrev dktX2_look_2 : List UInt8 := dkwX2_look_2 ++ dktX2_look_3
def dkwX2_look_1 : List UInt8 := [180, 0, 7, 3, 46, 172, 27, 5, 160, 0, 10, 42, 180, 0, 7, 6, 46, 172, 27, 6, 160, 0, 8, 42]
abbrev dktX2_look_1 : List UInt8 := dkwX2_look_1 ++ dktX2_look_2
def dkwX2_look_0 : List UInt8 := [42, 3, 181, 0, 86, 27, 154, 0, 10, 42, 180, 0, 7, 7, 46, 172, 27, 4, 160, 0, 10, 42]
abbrev dktX2_look_0 : List UInt8 := dkwX2_look_0 ++ dktX2_look_1
theorem dksX2_look_0 : cX2_look.data.toList.drop 0 = dktX2_look_0 := by decide +kernel
theorem dksX2_look_1 : cX2_look.data.toList.drop 22 = dktX2_look_1 := dk_seg dksX2_look_0 22 rfl rfl
theorem dksX2_look_2 : cX2_look.data.toList.drop 46 = dktX2_look_2 := dk_seg dksX2_look_1 24 rfl rfl
theorem dksX2_look_3 : cX2_look.data.toList.drop 68 = dktX2_look_3 := dk_seg dksX2_look_2 22 rfl rfl
theorem dksX2_look_4 : cX2_look.data.toList.drop 90 = dktX2_look_4 := dk_seg dksX2_look_3 22 rfl rfl
theorem dksX2_look_5 : cX2_look.data.toList.drop 112 = dktX2_look_5 := dk_seg dksX2_look_4 22 rfl rfl
theorem dksX2_look_6 : cX2_look.data.toList.drop 136 = dktX2_look_6 := dk_seg dksX2_look_5 24 rfl rfl
theorem dX2_look_0 : decode cX2_look 0 = .ok (.aload_n 0, 1) := dk_42 (dk_at dksX2_look_0 0 rfl rfl)
theorem dX2_look_1 : decode cX2_look 1 = .ok (.iconst 0, 1) := dk_3 (dk_at dksX2_look_0 1 rfl rfl)
theorem dX2_look_2 : decode cX2_look 2 = .ok (.putfield 86, 3) := dk_181 0 86 (dk_at dksX2_look_0 2 rfl rfl)
theorem dX2_look_5 : decode cX2_look 5 = .ok (.iload_n 1, 1) := dk_27 (dk_at dksX2_look_0 5 rfl rfl)
theorem dX2_look_6 : decode cX2_look 6 = .ok (.ifCond .ne 10, 3) := dk_154 0 10 (dk_at dksX2_look_0 6 rfl rfl)
theorem dX2_look_9 : decode cX2_look 9 = .ok (.aload_n 0, 1) := dk_42 (dk_at dksX2_look_0 9 rfl rfl)
theorem dX2_look_10 : decode cX2_look 10 = .ok (.getfield 7, 3) := dk_180 0 7 (dk_at dksX2_look_0 10 rfl rfl)
theorem dX2_look_13 : decode cX2_look 13 = .ok (.iconst 4, 1) := dk_7 (dk_at dksX2_look_0 13 rfl rfl)
theorem dX2_look_14 : decode cX2_look 14 = .ok (.iaload, 1) := dk_46 (dk_at dksX2_look_0 14 rfl rfl)
theorem dX2_look_15 : decode cX2_look 15 = .ok (.ireturn, 1) := dk_172 (dk_at dksX2_look_0 15 rfl rfl)
theorem dX2_look_16 : decode cX2_look 16 = .ok (.iload_n 1, 1) := dk_27 (dk_at dksX2_look_0 16 rfl rfl)
theorem dX2_look_17 : decode cX2_look 17 = .ok (.iconst 1, 1) := dk_4 (dk_at dksX2_look_0 17 rfl rfl)
theorem dX2_look_18 : decode cX2_look 18 = .ok (.if_icmp .ne 10, 3) := dk_160 0 10 (dk_at dksX2_look_0 18 rfl rfl)
theorem dX2_look_21 : decode cX2_look 21 = .ok (.aload_n 0, 1) := dk_42 (dk_at dksX2_look_0 21 rfl rfl)
theorem dX2_look_22 : decode cX2_look 22 = .ok (.getfield 7, 3) := dk_180 0 7 (dk_at dksX2_look_1 0 rfl rfl)
theorem dX2_look_25 : decode cX2_look 25 = .ok (.iconst 0, 1) := dk_3 (dk_at dksX2_look_1 3 rfl rfl)
theorem dX2_look_26 : decode cX2_look 26 = .ok (.iaload, 1) := dk_46 (dk_at dksX2_look_1 4 rfl rfl)
theorem dX2_look_27 : decode cX2_look 27 = .ok (.ireturn, 1) := dk_172 (dk_at dksX2_look_1 5 rfl rfl)
theorem dX2_look_28 : decode cX2_look 28 = .ok (.iload_n 1, 1) := dk_27 (dk_at dksX2_look_1 6 rfl rfl)
theorem dX2_look_29 : decode cX2_look 29 = .ok (.iconst 2, 1) := dk_5 (dk_at dksX2_look_1 7 rfl rfl)
theorem dX2_look_30 : decode cX2_look 30 = .ok (.if_icmp .ne 10, 3) := dk_160 0 10 (dk_at dksX2_look_1 8 rfl rfl)
theorem dX2_look_33 : decode cX2_look 33 = .ok (.aload_n 0, 1) := dk_42 (dk_at dksX2_look_1 11 rfl rfl)
theorem dX2_look_34 : decode cX2_look 34 = .ok (.getfield 7, 3) := dk_180 0 7 (dk_at dksX2_look_1 12 rfl rfl)
theorem dX2_look_37 : decode cX2_look 37 = .ok (.iconst 3, 1) := dk_6 (dk_at dksX2_look_1 15 rfl rfl)
theorem dX2_look_38 : decode cX2_look 38 = .ok (.iaload, 1) := dk_46 (dk_at dksX2_look_1 16 rfl rfl)
theorem dX2_look_39 : decode cX2_look 39 = .ok (.ireturn, 1) := dk_172 (dk_at dksX2_look_1 17 rfl rfl)
theorem dX2_look_40 : decode cX2_look 40 = .ok (.iload_n 1, 1) := dk_27 (dk_at dksX2_look_1 18 rfl rfl)
theorem dX2_look_41 : decode cX2_look 41 = .ok (.iconst 3, 1) := dk_6 (dk_at dksX2_look_1 19 rfl rfl)
theorem dX2_look_42 : decode cX2_look 42 = .ok (.if_icmp .ne 8, 3) := dk_160 0 8 (dk_at dksX2_look_1 20 rfl rfl)
theorem dX2_look_45 : decode cX2_look 45 = .ok (.aload_n 0, 1) := dk_42 (dk_at dksX2_look_1 23 rfl rfl)
theorem dX2_look_46 : decode cX2_look 46 = .ok (.getfield 117, 3) := dk_180 0 117 (dk_at dksX2_look_2 0 rfl rfl)
theorem dX2_look_49 : decode cX2_look 49 = .ok (.ireturn, 1) := dk_172 (dk_at dksX2_look_2 3 rfl rfl)
theorem dX2_look_50 : decode cX2_look 50 = .ok (.iload_n 1, 1) := dk_27 (dk_at dksX2_look_2 4 rfl rfl)
theorem dX2_look_51 : decode cX2_look 51 = .ok (.iconst 4, 1) := dk_7 (dk_at dksX2_look_2 5 rfl rfl)
theorem dX2_look_52 : decode cX2_look 52 = .ok (.if_icmp .ne 10, 3) := dk_160 0 10 (dk_at dksX2_look_2 6 rfl rfl)
theorem dX2_look_55 : decode cX2_look 55 = .ok (.aload_n 0, 1) := dk_42 (dk_at dksX2_look_2 9 rfl rfl)
theorem dX2_look_56 : decode cX2_look 56 = .ok (.getfield 7, 3) := dk_180 0 7 (dk_at dksX2_look_2 10 rfl rfl)
theorem dX2_look_59 : decode cX2_look 59 = .ok (.iconst 2, 1) := dk_5 (dk_at dksX2_look_2 13 rfl rfl)
theorem dX2_look_60 : decode cX2_look 60 = .ok (.iaload, 1) := dk_46 (dk_at dksX2_look_2 14 rfl rfl)
theorem dX2_look_61 : decode cX2_look 61 = .ok (.ireturn, 1) := dk_172 (dk_at dksX2_look_2 15 rfl rfl)
theorem dX2_look_62 : decode cX2_look 62 = .ok (.iload_n 1, 1) := dk_27 (dk_at dksX2_look_2 16 rfl rfl)
theorem dX2_look_63 : decode cX2_look 63 = .ok (.iconst 5, 1) := dk_8 (dk_at dksX2_look_2 17 rfl rfl)
theorem dX2_look_64 : decode cX2_look 64 = .ok (.if_icmp .ne 10, 3) := dk_160 0 10 (dk_at dksX2_look_2 18 rfl rfl)
theorem dX2_look_67 : decode cX2_look 67 = .ok (.aload_n 0, 1) := dk_42 (dk_at dksX2_look_2 21 rfl rfl)
theorem dX2_look_68 : decode cX2_look 68 = .ok (.getfield 7, 3) := dk_180 0 7 (dk_at dksX2_look_3 0 rfl rfl)
theorem dX2_look_71 : decode cX2_look 71 = .ok (.iconst 1, 1) := dk_4 (dk_at dksX2_look_3 3 rfl rfl)
theorem dX2_look_72 : decode cX2_look 72 = .ok (.iaload, 1) := dk_46 (dk_at dksX2_look_3 4 rfl rfl)
theorem dX2_look_73 : decode cX2_look 73 = .ok (.ireturn, 1) := dk_172 (dk_at dksX2_look_3 5 rfl rfl)
theorem dX2_look_74 : decode cX2_look 74 = .ok (.iload_n 1, 1) := dk_27 (dk_at dksX2_look_3 6 rfl rfl)
theorem dX2_look_75 : decode cX2_look 75 = .ok (.bipush 6, 2) := dk_16 6 (dk_at dksX2_look_3 7 rfl rfl)
theorem dX2_look_77 : decode cX2_look 77 = .ok (.if_icmp .ne 10, 3) := dk_160 0 10 (dk_at dksX2_look_3 9 rfl rfl)
theorem dX2_look_80 : decode cX2_look 80 = .ok (.aload_n 0, 1) := dk_42 (dk_at dksX2_look_3 12 rfl rfl)
theorem dX2_look_81 : decode cX2_look 81 = .ok (.getfield 31, 3) := dk_180 0 31 (dk_at dksX2_look_3 13 rfl rfl)
theorem dX2_look_84 : decode cX2_look 84 = .ok (.iconst 0, 1) := dk_3 (dk_at dksX2_look_3 16 rfl rfl)
theorem dX2_look_85 : decode cX2_look 85 = .ok (.iaload, 1) := dk_46 (dk_at dksX2_look_3 17 rfl rfl)
theorem dX2_look_86 : decode cX2_look 86 = .ok (.ireturn, 1) := dk_172 (dk_at dksX2_look_3 18 rfl rfl)
theorem dX2_look_87 : decode cX2_look 87 = .ok (.iload_n 1, 1) := dk_27 (dk_at dksX2_look_3 19 rfl rfl)
theorem dX2_look_88 : decode cX2_look 88 = .ok (.bipush 7, 2) := dk_16 7 (dk_at dksX2_look_3 20 rfl rfl)
theorem dX2_look_90 : decode cX2_look 90 = .ok (.if_icmp .ne 8, 3) := dk_160 0 8 (dk_at dksX2_look_4 0 rfl rfl)
theorem dX2_look_93 : decode cX2_look 93 = .ok (.aload_n 0, 1) := dk_42 (dk_at dksX2_look_4 3 rfl rfl)
theorem dX2_look_94 : decode cX2_look 94 = .ok (.getfield 261, 3) := dk_180 1 5 (dk_at dksX2_look_4 4 rfl rfl)
theorem dX2_look_97 : decode cX2_look 97 = .ok (.ireturn, 1) := dk_172 (dk_at dksX2_look_4 7 rfl rfl)
theorem dX2_look_98 : decode cX2_look 98 = .ok (.iload_n 1, 1) := dk_27 (dk_at dksX2_look_4 8 rfl rfl)
theorem dX2_look_99 : decode cX2_look 99 = .ok (.bipush 8, 2) := dk_16 8 (dk_at dksX2_look_4 9 rfl rfl)
theorem dX2_look_101 : decode cX2_look 101 = .ok (.if_icmp .ne 8, 3) := dk_160 0 8 (dk_at dksX2_look_4 11 rfl rfl)
theorem dX2_look_104 : decode cX2_look 104 = .ok (.aload_n 0, 1) := dk_42 (dk_at dksX2_look_4 14 rfl rfl)
theorem dX2_look_105 : decode cX2_look 105 = .ok (.getfield 264, 3) := dk_180 1 8 (dk_at dksX2_look_4 15 rfl rfl)
theorem dX2_look_108 : decode cX2_look 108 = .ok (.ireturn, 1) := dk_172 (dk_at dksX2_look_4 18 rfl rfl)
theorem dX2_look_109 : decode cX2_look 109 = .ok (.iload_n 1, 1) := dk_27 (dk_at dksX2_look_4 19 rfl rfl)
theorem dX2_look_110 : decode cX2_look 110 = .ok (.bipush 9, 2) := dk_16 9 (dk_at dksX2_look_4 20 rfl rfl)
theorem dX2_look_112 : decode cX2_look 112 = .ok (.if_icmp .ne 8, 3) := dk_160 0 8 (dk_at dksX2_look_5 0 rfl rfl)
theorem dX2_look_115 : decode cX2_look 115 = .ok (.aload_n 0, 1) := dk_42 (dk_at dksX2_look_5 3 rfl rfl)
theorem dX2_look_116 : decode cX2_look 116 = .ok (.getfield 267, 3) := dk_180 1 11 (dk_at dksX2_look_5 4 rfl rfl)
theorem dX2_look_119 : decode cX2_look 119 = .ok (.ireturn, 1) := dk_172 (dk_at dksX2_look_5 7 rfl rfl)
theorem dX2_look_120 : decode cX2_look 120 = .ok (.iload_n 1, 1) := dk_27 (dk_at dksX2_look_5 8 rfl rfl)
theorem dX2_look_121 : decode cX2_look 121 = .ok (.bipush 10, 2) := dk_16 10 (dk_at dksX2_look_5 9 rfl rfl)
theorem dX2_look_123 : decode cX2_look 123 = .ok (.if_icmp .ne 10, 3) := dk_160 0 10 (dk_at dksX2_look_5 11 rfl rfl)
theorem dX2_look_126 : decode cX2_look 126 = .ok (.aload_n 0, 1) := dk_42 (dk_at dksX2_look_5 14 rfl rfl)
theorem dX2_look_127 : decode cX2_look 127 = .ok (.getfield 89, 3) := dk_180 0 89 (dk_at dksX2_look_5 15 rfl rfl)
theorem dX2_look_130 : decode cX2_look 130 = .ok (.goto 17, 3) := dk_167 0 17 (dk_at dksX2_look_5 18 rfl rfl)
theorem dX2_look_133 : decode cX2_look 133 = .ok (.iload_n 1, 1) := dk_27 (dk_at dksX2_look_5 21 rfl rfl)
theorem dX2_look_134 : decode cX2_look 134 = .ok (.bipush 11, 2) := dk_16 11 (dk_at dksX2_look_5 22 rfl rfl)
theorem dX2_look_136 : decode cX2_look 136 = .ok (.if_icmp .ne 10, 3) := dk_160 0 10 (dk_at dksX2_look_6 0 rfl rfl)
theorem dX2_look_139 : decode cX2_look 139 = .ok (.aload_n 0, 1) := dk_42 (dk_at dksX2_look_6 3 rfl rfl)
theorem dX2_look_140 : decode cX2_look 140 = .ok (.invokevirtual 474, 3) := dk_182 1 218 (dk_at dksX2_look_6 4 rfl rfl)
theorem dX2_look_143 : decode cX2_look 143 = .ok (.goto 4, 3) := dk_167 0 4 (dk_at dksX2_look_6 7 rfl rfl)
theorem dX2_look_146 : decode cX2_look 146 = .ok (.iconst (-1), 1) := dk_2 (dk_at dksX2_look_6 10 rfl rfl)
theorem dX2_look_147 : decode cX2_look 147 = .ok (.ireturn, 1) := dk_172 (dk_at dksX2_look_6 11 rfl rfl)
abbrev cX2_graves : ByteArray := prog_21_method_136_code
def yX2_graves : MethodName := ⟨RX2, "graves", "()I"⟩
def dkwX2_graves_1 : List UInt8 := [28, 120, 128, 60, 132, 2, 1, 167, 255, 229, 27, 172]
abbrev dktX2_graves_1 : List UInt8 := dkwX2_graves_1 ++ []
def dkwX2_graves_0 : List UInt8 := [3, 60, 3, 61, 28, 42, 180, 0, 7, 7, 46, 162, 0, 23, 42, 28, 182, 1, 59, 153, 0, 9, 27, 4]
abbrev dktX2_graves_0 : List UInt8 := dkwX2_graves_0 ++ dktX2_graves_1
theorem dksX2_graves_0 : cX2_graves.data.toList.drop 0 = dktX2_graves_0 := by decide +kernel
theorem dksX2_graves_1 : cX2_graves.data.toList.drop 24 = dktX2_graves_1 := dk_seg dksX2_graves_0 24 rfl rfl
theorem dX2_graves_0 : decode cX2_graves 0 = .ok (.iconst 0, 1) := dk_3 (dk_at dksX2_graves_0 0 rfl rfl)
theorem dX2_graves_1 : decode cX2_graves 1 = .ok (.istore_n 1, 1) := dk_60 (dk_at dksX2_graves_0 1 rfl rfl)
theorem dX2_graves_2 : decode cX2_graves 2 = .ok (.iconst 0, 1) := dk_3 (dk_at dksX2_graves_0 2 rfl rfl)
theorem dX2_graves_3 : decode cX2_graves 3 = .ok (.istore_n 2, 1) := dk_61 (dk_at dksX2_graves_0 3 rfl rfl)
theorem dX2_graves_4 : decode cX2_graves 4 = .ok (.iload_n 2, 1) := dk_28 (dk_at dksX2_graves_0 4 rfl rfl)
theorem dX2_graves_5 : decode cX2_graves 5 = .ok (.aload_n 0, 1) := dk_42 (dk_at dksX2_graves_0 5 rfl rfl)
theorem dX2_graves_6 : decode cX2_graves 6 = .ok (.getfield 7, 3) := dk_180 0 7 (dk_at dksX2_graves_0 6 rfl rfl)
theorem dX2_graves_9 : decode cX2_graves 9 = .ok (.iconst 4, 1) := dk_7 (dk_at dksX2_graves_0 9 rfl rfl)
theorem dX2_graves_10 : decode cX2_graves 10 = .ok (.iaload, 1) := dk_46 (dk_at dksX2_graves_0 10 rfl rfl)
theorem dX2_graves_11 : decode cX2_graves 11 = .ok (.if_icmp .ge 23, 3) := dk_162 0 23 (dk_at dksX2_graves_0 11 rfl rfl)
theorem dX2_graves_14 : decode cX2_graves 14 = .ok (.aload_n 0, 1) := dk_42 (dk_at dksX2_graves_0 14 rfl rfl)
theorem dX2_graves_15 : decode cX2_graves 15 = .ok (.iload_n 2, 1) := dk_28 (dk_at dksX2_graves_0 15 rfl rfl)
theorem dX2_graves_16 : decode cX2_graves 16 = .ok (.invokevirtual 315, 3) := dk_182 1 59 (dk_at dksX2_graves_0 16 rfl rfl)
theorem dX2_graves_19 : decode cX2_graves 19 = .ok (.ifCond .eq 9, 3) := dk_153 0 9 (dk_at dksX2_graves_0 19 rfl rfl)
theorem dX2_graves_22 : decode cX2_graves 22 = .ok (.iload_n 1, 1) := dk_27 (dk_at dksX2_graves_0 22 rfl rfl)
theorem dX2_graves_23 : decode cX2_graves 23 = .ok (.iconst 1, 1) := dk_4 (dk_at dksX2_graves_0 23 rfl rfl)
theorem dX2_graves_24 : decode cX2_graves 24 = .ok (.iload_n 2, 1) := dk_28 (dk_at dksX2_graves_1 0 rfl rfl)
theorem dX2_graves_25 : decode cX2_graves 25 = .ok (.ishl, 1) := dk_120 (dk_at dksX2_graves_1 1 rfl rfl)
theorem dX2_graves_26 : decode cX2_graves 26 = .ok (.ior, 1) := dk_128 (dk_at dksX2_graves_1 2 rfl rfl)
theorem dX2_graves_27 : decode cX2_graves 27 = .ok (.istore_n 1, 1) := dk_60 (dk_at dksX2_graves_1 3 rfl rfl)
theorem dX2_graves_28 : decode cX2_graves 28 = .ok (.iinc 2 1, 3) := dk_132 2 1 (dk_at dksX2_graves_1 4 rfl rfl)
theorem dX2_graves_31 : decode cX2_graves 31 = .ok (.goto (-27), 3) := dk_167 255 229 (dk_at dksX2_graves_1 7 rfl rfl)
theorem dX2_graves_34 : decode cX2_graves 34 = .ok (.iload_n 1, 1) := dk_27 (dk_at dksX2_graves_1 10 rfl rfl)
theorem dX2_graves_35 : decode cX2_graves 35 = .ok (.ireturn, 1) := dk_172 (dk_at dksX2_graves_1 11 rfl rfl)
theorem q166 : (Jvm.Cond.initialized "NamesWeatherModel") ∈ lw_all := lw_g (lw_at lw_m1 6 rfl) rfl
theorem q784 : (Jvm.Cond.selects "NamesWeatherModel" ({ cls := "java/lang/Object", name := "getClass", desc := "()Ljava/lang/Class;" } : Jvm.MethodName) ({ cls := "java/lang/Object", name := "getClass", desc := "()Ljava/lang/Class;" } : Jvm.MethodName)) ∈ lw_all := lw_g (lw_at lw_m3 144 rfl) rfl
theorem q1408 : (Jvm.Cond.instantiable "NamesWeatherModel" (49 : Nat)) ∈ lw_all := lw_g (lw_at lw_m6 48 rfl) rfl
theorem q1410 : (Jvm.Cond.instanceMethod ({ cls := "NamesWeatherModel", name := "<init>", desc := "()V" } : Jvm.MethodName)) ∈ lw_all := lw_g (lw_at lw_m6 50 rfl) rfl
theorem q1411 : (Jvm.Cond.code ({ cls := "NamesWeatherModel", name := "<init>", desc := "()V" } : Jvm.MethodName) prog_21_method_1_code (1 : Nat) (Option.none : Option Jvm.ClassFile.FieldType)) ∈ lw_all := lw_g (lw_at lw_m6 51 rfl) rfl
theorem q1412 : (Jvm.Cond.methodLink "NamesWeatherModel" (1 : Nat) ({ cls := "java/lang/Object", name := "<init>", desc := "()V" } : Jvm.MethodName)) ∈ lw_all := lw_g (lw_at lw_m6 52 rfl) rfl
theorem q1413 : (Jvm.Cond.fieldLink "NamesWeatherModel" (86 : Nat) "NamesWeatherModel" "told" "I") ∈ lw_all := lw_g (lw_at lw_m6 53 rfl) rfl
theorem q1414 : (Jvm.Cond.fieldLink "NamesWeatherModel" (7 : Nat) "NamesWeatherModel" "now" "[I") ∈ lw_all := lw_g (lw_at lw_m6 54 rfl) rfl
theorem q1415 : (Jvm.Cond.fieldLink "NamesWeatherModel" (13 : Nat) "NamesWeatherModel" "rows" "[I") ∈ lw_all := lw_g (lw_at lw_m6 55 rfl) rfl
theorem q1416 : (Jvm.Cond.fieldLink "NamesWeatherModel" (89 : Nat) "NamesWeatherModel" "undoable" "I") ∈ lw_all := lw_g (lw_at lw_m6 56 rfl) rfl
theorem q1417 : (Jvm.Cond.fieldLink "NamesWeatherModel" (16 : Nat) "NamesWeatherModel" "waiting" "[I") ∈ lw_all := lw_g (lw_at lw_m6 57 rfl) rfl
theorem q1418 : (Jvm.Cond.fieldLink "NamesWeatherModel" (92 : Nat) "NamesWeatherModel" "isThought" "Z") ∈ lw_all := lw_g (lw_at lw_m6 58 rfl) rfl
theorem q1419 : (Jvm.Cond.fieldLink "NamesWeatherModel" (117 : Nat) "NamesWeatherModel" "cryOdds" "I") ∈ lw_all := lw_g (lw_at lw_m6 59 rfl) rfl
theorem q1420 : (Jvm.Cond.fieldLink "NamesWeatherModel" (19 : Nat) "NamesWeatherModel" "routes" "[I") ∈ lw_all := lw_g (lw_at lw_m6 60 rfl) rfl
theorem q1421 : (Jvm.Cond.fieldLink "NamesWeatherModel" (22 : Nat) "NamesWeatherModel" "book" "[I") ∈ lw_all := lw_g (lw_at lw_m6 61 rfl) rfl
theorem q1422 : (Jvm.Cond.fieldLink "NamesWeatherModel" (25 : Nat) "NamesWeatherModel" "tape" "[I") ∈ lw_all := lw_g (lw_at lw_m6 62 rfl) rfl
theorem q1423 : (Jvm.Cond.fieldLink "NamesWeatherModel" (120 : Nat) "NamesWeatherModel" "taped" "I") ∈ lw_all := lw_g (lw_at lw_m6 63 rfl) rfl
theorem q1424 : (Jvm.Cond.fieldLink "NamesWeatherModel" (127 : Nat) "NamesWeatherModel" "spot" "I") ∈ lw_all := lw_g (lw_at lw_m6 64 rfl) rfl
theorem q1425 : (Jvm.Cond.fieldLink "NamesWeatherModel" (134 : Nat) "NamesWeatherModel" "from" "I") ∈ lw_all := lw_g (lw_at lw_m6 65 rfl) rfl
theorem q1426 : (Jvm.Cond.fieldLink "NamesWeatherModel" (137 : Nat) "NamesWeatherModel" "token" "I") ∈ lw_all := lw_g (lw_at lw_m6 66 rfl) rfl
theorem q1427 : (Jvm.Cond.fieldLink "NamesWeatherModel" (140 : Nat) "NamesWeatherModel" "value" "I") ∈ lw_all := lw_g (lw_at lw_m6 67 rfl) rfl
theorem q1428 : (Jvm.Cond.fieldLink "NamesWeatherModel" (28 : Nat) "NamesWeatherModel" "words" "[I") ∈ lw_all := lw_g (lw_at lw_m6 68 rfl) rfl
theorem q1429 : (Jvm.Cond.fieldLink "NamesWeatherModel" (31 : Nat) "NamesWeatherModel" "lineMany" "[I") ∈ lw_all := lw_g (lw_at lw_m6 69 rfl) rfl
theorem q1430 : (Jvm.Cond.fieldLink "NamesWeatherModel" (34 : Nat) "NamesWeatherModel" "lineWord" "[I") ∈ lw_all := lw_g (lw_at lw_m6 70 rfl) rfl
theorem q1431 : (Jvm.Cond.fieldLink "NamesWeatherModel" (37 : Nat) "NamesWeatherModel" "lineFrom" "[I") ∈ lw_all := lw_g (lw_at lw_m6 71 rfl) rfl
theorem q1432 : (Jvm.Cond.fieldLink "NamesWeatherModel" (40 : Nat) "NamesWeatherModel" "lineWhen" "[I") ∈ lw_all := lw_g (lw_at lw_m6 72 rfl) rfl
theorem q1433 : (Jvm.Cond.fieldLink "NamesWeatherModel" (43 : Nat) "NamesWeatherModel" "lineTo" "[I") ∈ lw_all := lw_g (lw_at lw_m6 73 rfl) rfl
theorem q1434 : (Jvm.Cond.fieldLink "NamesWeatherModel" (46 : Nat) "NamesWeatherModel" "op" "[I") ∈ lw_all := lw_g (lw_at lw_m6 74 rfl) rfl
theorem q1435 : (Jvm.Cond.fieldLink "NamesWeatherModel" (49 : Nat) "NamesWeatherModel" "arg" "[I") ∈ lw_all := lw_g (lw_at lw_m6 75 rfl) rfl
theorem q1436 : (Jvm.Cond.fieldLink "NamesWeatherModel" (216 : Nat) "NamesWeatherModel" "which" "I") ∈ lw_all := lw_g (lw_at lw_m6 76 rfl) rfl
theorem q1437 : (Jvm.Cond.fieldLink "NamesWeatherModel" (162 : Nat) "NamesWeatherModel" "codes" "I") ∈ lw_all := lw_g (lw_at lw_m6 77 rfl) rfl
theorem q1438 : (Jvm.Cond.fieldLink "NamesWeatherModel" (194 : Nat) "NamesWeatherModel" "open" "I") ∈ lw_all := lw_g (lw_at lw_m6 78 rfl) rfl
theorem q1439 : (Jvm.Cond.fieldLink "NamesWeatherModel" (52 : Nat) "NamesWeatherModel" "pending" "[I") ∈ lw_all := lw_g (lw_at lw_m6 79 rfl) rfl
theorem q1440 : (Jvm.Cond.fieldLink "NamesWeatherModel" (191 : Nat) "NamesWeatherModel" "pendings" "I") ∈ lw_all := lw_g (lw_at lw_m6 80 rfl) rfl
theorem q1441 : (Jvm.Cond.fieldLink "NamesWeatherModel" (156 : Nat) "NamesWeatherModel" "readFault" "I") ∈ lw_all := lw_g (lw_at lw_m6 81 rfl) rfl
theorem q1442 : (Jvm.Cond.fieldLink "NamesWeatherModel" (159 : Nat) "NamesWeatherModel" "readPlace" "I") ∈ lw_all := lw_g (lw_at lw_m6 82 rfl) rfl
theorem q1443 : (Jvm.Cond.fieldLink "NamesWeatherModel" (270 : Nat) "NamesWeatherModel" "faultKind" "I") ∈ lw_all := lw_g (lw_at lw_m6 83 rfl) rfl
theorem q1444 : (Jvm.Cond.fieldLink "NamesWeatherModel" (55 : Nat) "NamesWeatherModel" "faultPlace" "I") ∈ lw_all := lw_g (lw_at lw_m6 84 rfl) rfl
theorem q1445 : (Jvm.Cond.fieldLink "NamesWeatherModel" (261 : Nat) "NamesWeatherModel" "quenchMany" "I") ∈ lw_all := lw_g (lw_at lw_m6 85 rfl) rfl
theorem q1446 : (Jvm.Cond.fieldLink "NamesWeatherModel" (59 : Nat) "NamesWeatherModel" "quench" "[I") ∈ lw_all := lw_g (lw_at lw_m6 86 rfl) rfl
theorem q1447 : (Jvm.Cond.fieldLink "NamesWeatherModel" (264 : Nat) "NamesWeatherModel" "wantMany" "I") ∈ lw_all := lw_g (lw_at lw_m6 87 rfl) rfl
theorem q1448 : (Jvm.Cond.fieldLink "NamesWeatherModel" (62 : Nat) "NamesWeatherModel" "wants" "[I") ∈ lw_all := lw_g (lw_at lw_m6 88 rfl) rfl
theorem q1449 : (Jvm.Cond.fieldLink "NamesWeatherModel" (267 : Nat) "NamesWeatherModel" "planMany" "I") ∈ lw_all := lw_g (lw_at lw_m6 89 rfl) rfl
theorem q1450 : (Jvm.Cond.fieldLink "NamesWeatherModel" (65 : Nat) "NamesWeatherModel" "plan" "[I") ∈ lw_all := lw_g (lw_at lw_m6 90 rfl) rfl
theorem q1451 : (Jvm.Cond.fieldLink "NamesWeatherModel" (68 : Nat) "NamesWeatherModel" "asked" "[I") ∈ lw_all := lw_g (lw_at lw_m6 91 rfl) rfl
theorem q1452 : (Jvm.Cond.fieldLink "NamesWeatherModel" (71 : Nat) "NamesWeatherModel" "stack" "[I") ∈ lw_all := lw_g (lw_at lw_m6 92 rfl) rfl
theorem q1453 : (Jvm.Cond.fieldLink "NamesWeatherModel" (74 : Nat) "NamesWeatherModel" "came" "[I") ∈ lw_all := lw_g (lw_at lw_m6 93 rfl) rfl
theorem q1454 : (Jvm.Cond.fieldLink "NamesWeatherModel" (77 : Nat) "NamesWeatherModel" "weigh" "[I") ∈ lw_all := lw_g (lw_at lw_m6 94 rfl) rfl
theorem q1455 : (Jvm.Cond.fieldLink "NamesWeatherModel" (80 : Nat) "NamesWeatherModel" "boatOf" "[I") ∈ lw_all := lw_g (lw_at lw_m6 95 rfl) rfl
theorem q1456 : (Jvm.Cond.fieldLink "NamesWeatherModel" (434 : Nat) "NamesWeatherModel" "sets" "I") ∈ lw_all := lw_g (lw_at lw_m6 96 rfl) rfl
theorem q1457 : (Jvm.Cond.fieldLink "NamesWeatherModel" (437 : Nat) "NamesWeatherModel" "firstSet" "I") ∈ lw_all := lw_g (lw_at lw_m6 97 rfl) rfl
theorem q1458 : (Jvm.Cond.fieldLink "NamesWeatherModel" (459 : Nat) "NamesWeatherModel" "isTaking" "Z") ∈ lw_all := lw_g (lw_at lw_m6 98 rfl) rfl
theorem q1459 : (Jvm.Cond.fieldLink "NamesWeatherModel" (465 : Nat) "NamesWeatherModel" "hasImage" "Z") ∈ lw_all := lw_g (lw_at lw_m6 99 rfl) rfl
theorem q1460 : (Jvm.Cond.fieldLink "NamesWeatherModel" (456 : Nat) "NamesWeatherModel" "keptAt" "I") ∈ lw_all := lw_g (lw_at lw_m6 100 rfl) rfl
theorem q1461 : (Jvm.Cond.fieldLink "NamesWeatherModel" (83 : Nat) "NamesWeatherModel" "images" "[I") ∈ lw_all := lw_g (lw_at lw_m6 101 rfl) rfl
theorem q1462 : (Jvm.Cond.lays "NamesWeatherModel" "NamesWeatherModel" "told" "I") ∈ lw_all := lw_g (lw_at lw_m6 102 rfl) rfl
theorem q1463 : (Jvm.Cond.soleField "NamesWeatherModel" "told") ∈ lw_all := lw_g (lw_at lw_m6 103 rfl) rfl
theorem q1464 : (Jvm.Cond.laysFinal "NamesWeatherModel" "NamesWeatherModel" "now" "[I") ∈ lw_all := lw_g (lw_at lw_m6 104 rfl) rfl
theorem q1465 : (Jvm.Cond.soleField "NamesWeatherModel" "now") ∈ lw_all := lw_g (lw_at lw_m6 105 rfl) rfl
theorem q1466 : (Jvm.Cond.laysFinal "NamesWeatherModel" "NamesWeatherModel" "rows" "[I") ∈ lw_all := lw_g (lw_at lw_m6 106 rfl) rfl
theorem q1467 : (Jvm.Cond.soleField "NamesWeatherModel" "rows") ∈ lw_all := lw_g (lw_at lw_m6 107 rfl) rfl
theorem q1468 : (Jvm.Cond.lays "NamesWeatherModel" "NamesWeatherModel" "undoable" "I") ∈ lw_all := lw_g (lw_at lw_m6 108 rfl) rfl
theorem q1469 : (Jvm.Cond.soleField "NamesWeatherModel" "undoable") ∈ lw_all := lw_g (lw_at lw_m6 109 rfl) rfl
theorem q1470 : (Jvm.Cond.laysFinal "NamesWeatherModel" "NamesWeatherModel" "waiting" "[I") ∈ lw_all := lw_g (lw_at lw_m6 110 rfl) rfl
theorem q1471 : (Jvm.Cond.soleField "NamesWeatherModel" "waiting") ∈ lw_all := lw_g (lw_at lw_m6 111 rfl) rfl
theorem q1472 : (Jvm.Cond.lays "NamesWeatherModel" "NamesWeatherModel" "isThought" "Z") ∈ lw_all := lw_g (lw_at lw_m6 112 rfl) rfl
theorem q1473 : (Jvm.Cond.soleField "NamesWeatherModel" "isThought") ∈ lw_all := lw_g (lw_at lw_m6 113 rfl) rfl
theorem q1474 : (Jvm.Cond.lays "NamesWeatherModel" "NamesWeatherModel" "cryOdds" "I") ∈ lw_all := lw_g (lw_at lw_m6 114 rfl) rfl
theorem q1475 : (Jvm.Cond.soleField "NamesWeatherModel" "cryOdds") ∈ lw_all := lw_g (lw_at lw_m6 115 rfl) rfl
theorem q1476 : (Jvm.Cond.laysFinal "NamesWeatherModel" "NamesWeatherModel" "routes" "[I") ∈ lw_all := lw_g (lw_at lw_m6 116 rfl) rfl
theorem q1477 : (Jvm.Cond.soleField "NamesWeatherModel" "routes") ∈ lw_all := lw_g (lw_at lw_m6 117 rfl) rfl
theorem q1478 : (Jvm.Cond.laysFinal "NamesWeatherModel" "NamesWeatherModel" "book" "[I") ∈ lw_all := lw_g (lw_at lw_m6 118 rfl) rfl
theorem q1479 : (Jvm.Cond.soleField "NamesWeatherModel" "book") ∈ lw_all := lw_g (lw_at lw_m6 119 rfl) rfl
theorem q1480 : (Jvm.Cond.laysFinal "NamesWeatherModel" "NamesWeatherModel" "tape" "[I") ∈ lw_all := lw_g (lw_at lw_m6 120 rfl) rfl
theorem q1481 : (Jvm.Cond.soleField "NamesWeatherModel" "tape") ∈ lw_all := lw_g (lw_at lw_m6 121 rfl) rfl
theorem q1482 : (Jvm.Cond.lays "NamesWeatherModel" "NamesWeatherModel" "taped" "I") ∈ lw_all := lw_g (lw_at lw_m6 122 rfl) rfl
theorem q1483 : (Jvm.Cond.soleField "NamesWeatherModel" "taped") ∈ lw_all := lw_g (lw_at lw_m6 123 rfl) rfl
theorem q1484 : (Jvm.Cond.lays "NamesWeatherModel" "NamesWeatherModel" "spot" "I") ∈ lw_all := lw_g (lw_at lw_m6 124 rfl) rfl
theorem q1485 : (Jvm.Cond.soleField "NamesWeatherModel" "spot") ∈ lw_all := lw_g (lw_at lw_m6 125 rfl) rfl
theorem q1486 : (Jvm.Cond.lays "NamesWeatherModel" "NamesWeatherModel" "from" "I") ∈ lw_all := lw_g (lw_at lw_m6 126 rfl) rfl
theorem q1487 : (Jvm.Cond.soleField "NamesWeatherModel" "from") ∈ lw_all := lw_g (lw_at lw_m6 127 rfl) rfl
theorem q1488 : (Jvm.Cond.lays "NamesWeatherModel" "NamesWeatherModel" "token" "I") ∈ lw_all := lw_g (lw_at lw_m6 128 rfl) rfl
theorem q1489 : (Jvm.Cond.soleField "NamesWeatherModel" "token") ∈ lw_all := lw_g (lw_at lw_m6 129 rfl) rfl
theorem q1490 : (Jvm.Cond.lays "NamesWeatherModel" "NamesWeatherModel" "value" "I") ∈ lw_all := lw_g (lw_at lw_m6 130 rfl) rfl
theorem q1491 : (Jvm.Cond.soleField "NamesWeatherModel" "value") ∈ lw_all := lw_g (lw_at lw_m6 131 rfl) rfl
theorem q1492 : (Jvm.Cond.laysFinal "NamesWeatherModel" "NamesWeatherModel" "words" "[I") ∈ lw_all := lw_g (lw_at lw_m6 132 rfl) rfl
theorem q1493 : (Jvm.Cond.soleField "NamesWeatherModel" "words") ∈ lw_all := lw_g (lw_at lw_m6 133 rfl) rfl
theorem q1494 : (Jvm.Cond.laysFinal "NamesWeatherModel" "NamesWeatherModel" "lineMany" "[I") ∈ lw_all := lw_g (lw_at lw_m6 134 rfl) rfl
theorem q1495 : (Jvm.Cond.soleField "NamesWeatherModel" "lineMany") ∈ lw_all := lw_g (lw_at lw_m6 135 rfl) rfl
theorem q1496 : (Jvm.Cond.laysFinal "NamesWeatherModel" "NamesWeatherModel" "lineWord" "[I") ∈ lw_all := lw_g (lw_at lw_m6 136 rfl) rfl
theorem q1497 : (Jvm.Cond.soleField "NamesWeatherModel" "lineWord") ∈ lw_all := lw_g (lw_at lw_m6 137 rfl) rfl
theorem q1498 : (Jvm.Cond.laysFinal "NamesWeatherModel" "NamesWeatherModel" "lineFrom" "[I") ∈ lw_all := lw_g (lw_at lw_m6 138 rfl) rfl
theorem q1499 : (Jvm.Cond.soleField "NamesWeatherModel" "lineFrom") ∈ lw_all := lw_g (lw_at lw_m6 139 rfl) rfl
theorem q1500 : (Jvm.Cond.laysFinal "NamesWeatherModel" "NamesWeatherModel" "lineWhen" "[I") ∈ lw_all := lw_g (lw_at lw_m6 140 rfl) rfl
theorem q1501 : (Jvm.Cond.soleField "NamesWeatherModel" "lineWhen") ∈ lw_all := lw_g (lw_at lw_m6 141 rfl) rfl
theorem q1502 : (Jvm.Cond.laysFinal "NamesWeatherModel" "NamesWeatherModel" "lineTo" "[I") ∈ lw_all := lw_g (lw_at lw_m6 142 rfl) rfl
theorem q1503 : (Jvm.Cond.soleField "NamesWeatherModel" "lineTo") ∈ lw_all := lw_g (lw_at lw_m6 143 rfl) rfl
theorem q1504 : (Jvm.Cond.laysFinal "NamesWeatherModel" "NamesWeatherModel" "op" "[I") ∈ lw_all := lw_g (lw_at lw_m6 144 rfl) rfl
theorem q1505 : (Jvm.Cond.soleField "NamesWeatherModel" "op") ∈ lw_all := lw_g (lw_at lw_m6 145 rfl) rfl
theorem q1506 : (Jvm.Cond.laysFinal "NamesWeatherModel" "NamesWeatherModel" "arg" "[I") ∈ lw_all := lw_g (lw_at lw_m6 146 rfl) rfl
theorem q1507 : (Jvm.Cond.soleField "NamesWeatherModel" "arg") ∈ lw_all := lw_g (lw_at lw_m6 147 rfl) rfl
theorem q1508 : (Jvm.Cond.lays "NamesWeatherModel" "NamesWeatherModel" "which" "I") ∈ lw_all := lw_g (lw_at lw_m6 148 rfl) rfl
theorem q1509 : (Jvm.Cond.soleField "NamesWeatherModel" "which") ∈ lw_all := lw_g (lw_at lw_m6 149 rfl) rfl
theorem q1510 : (Jvm.Cond.lays "NamesWeatherModel" "NamesWeatherModel" "codes" "I") ∈ lw_all := lw_g (lw_at lw_m6 150 rfl) rfl
theorem q1511 : (Jvm.Cond.soleField "NamesWeatherModel" "codes") ∈ lw_all := lw_g (lw_at lw_m6 151 rfl) rfl
theorem q1512 : (Jvm.Cond.lays "NamesWeatherModel" "NamesWeatherModel" "open" "I") ∈ lw_all := lw_g (lw_at lw_m6 152 rfl) rfl
theorem q1513 : (Jvm.Cond.soleField "NamesWeatherModel" "open") ∈ lw_all := lw_g (lw_at lw_m6 153 rfl) rfl
theorem q1514 : (Jvm.Cond.laysFinal "NamesWeatherModel" "NamesWeatherModel" "pending" "[I") ∈ lw_all := lw_g (lw_at lw_m6 154 rfl) rfl
theorem q1515 : (Jvm.Cond.soleField "NamesWeatherModel" "pending") ∈ lw_all := lw_g (lw_at lw_m6 155 rfl) rfl
theorem q1516 : (Jvm.Cond.lays "NamesWeatherModel" "NamesWeatherModel" "pendings" "I") ∈ lw_all := lw_g (lw_at lw_m6 156 rfl) rfl
theorem q1517 : (Jvm.Cond.soleField "NamesWeatherModel" "pendings") ∈ lw_all := lw_g (lw_at lw_m6 157 rfl) rfl
theorem q1518 : (Jvm.Cond.lays "NamesWeatherModel" "NamesWeatherModel" "readFault" "I") ∈ lw_all := lw_g (lw_at lw_m6 158 rfl) rfl
theorem q1519 : (Jvm.Cond.soleField "NamesWeatherModel" "readFault") ∈ lw_all := lw_g (lw_at lw_m6 159 rfl) rfl
theorem q1520 : (Jvm.Cond.lays "NamesWeatherModel" "NamesWeatherModel" "readPlace" "I") ∈ lw_all := lw_g (lw_at lw_m6 160 rfl) rfl
theorem q1521 : (Jvm.Cond.soleField "NamesWeatherModel" "readPlace") ∈ lw_all := lw_g (lw_at lw_m6 161 rfl) rfl
theorem q1522 : (Jvm.Cond.lays "NamesWeatherModel" "NamesWeatherModel" "faultKind" "I") ∈ lw_all := lw_g (lw_at lw_m6 162 rfl) rfl
theorem q1523 : (Jvm.Cond.soleField "NamesWeatherModel" "faultKind") ∈ lw_all := lw_g (lw_at lw_m6 163 rfl) rfl
theorem q1524 : (Jvm.Cond.lays "NamesWeatherModel" "NamesWeatherModel" "faultPlace" "I") ∈ lw_all := lw_g (lw_at lw_m6 164 rfl) rfl
theorem q1525 : (Jvm.Cond.soleField "NamesWeatherModel" "faultPlace") ∈ lw_all := lw_g (lw_at lw_m6 165 rfl) rfl
theorem q1526 : (Jvm.Cond.lays "NamesWeatherModel" "NamesWeatherModel" "quenchMany" "I") ∈ lw_all := lw_g (lw_at lw_m6 166 rfl) rfl
theorem q1527 : (Jvm.Cond.soleField "NamesWeatherModel" "quenchMany") ∈ lw_all := lw_g (lw_at lw_m6 167 rfl) rfl
theorem q1528 : (Jvm.Cond.laysFinal "NamesWeatherModel" "NamesWeatherModel" "quench" "[I") ∈ lw_all := lw_g (lw_at lw_m6 168 rfl) rfl
theorem q1529 : (Jvm.Cond.soleField "NamesWeatherModel" "quench") ∈ lw_all := lw_g (lw_at lw_m6 169 rfl) rfl
theorem q1530 : (Jvm.Cond.lays "NamesWeatherModel" "NamesWeatherModel" "wantMany" "I") ∈ lw_all := lw_g (lw_at lw_m6 170 rfl) rfl
theorem q1531 : (Jvm.Cond.soleField "NamesWeatherModel" "wantMany") ∈ lw_all := lw_g (lw_at lw_m6 171 rfl) rfl
theorem q1532 : (Jvm.Cond.laysFinal "NamesWeatherModel" "NamesWeatherModel" "wants" "[I") ∈ lw_all := lw_g (lw_at lw_m6 172 rfl) rfl
theorem q1533 : (Jvm.Cond.soleField "NamesWeatherModel" "wants") ∈ lw_all := lw_g (lw_at lw_m6 173 rfl) rfl
theorem q1534 : (Jvm.Cond.lays "NamesWeatherModel" "NamesWeatherModel" "planMany" "I") ∈ lw_all := lw_g (lw_at lw_m6 174 rfl) rfl
theorem q1535 : (Jvm.Cond.soleField "NamesWeatherModel" "planMany") ∈ lw_all := lw_g (lw_at lw_m6 175 rfl) rfl
theorem q1536 : (Jvm.Cond.laysFinal "NamesWeatherModel" "NamesWeatherModel" "plan" "[I") ∈ lw_all := lw_g (lw_at lw_m6 176 rfl) rfl
theorem q1537 : (Jvm.Cond.soleField "NamesWeatherModel" "plan") ∈ lw_all := lw_g (lw_at lw_m6 177 rfl) rfl
theorem q1538 : (Jvm.Cond.laysFinal "NamesWeatherModel" "NamesWeatherModel" "asked" "[I") ∈ lw_all := lw_g (lw_at lw_m6 178 rfl) rfl
theorem q1539 : (Jvm.Cond.soleField "NamesWeatherModel" "asked") ∈ lw_all := lw_g (lw_at lw_m6 179 rfl) rfl
theorem q1540 : (Jvm.Cond.laysFinal "NamesWeatherModel" "NamesWeatherModel" "stack" "[I") ∈ lw_all := lw_g (lw_at lw_m6 180 rfl) rfl
theorem q1541 : (Jvm.Cond.soleField "NamesWeatherModel" "stack") ∈ lw_all := lw_g (lw_at lw_m6 181 rfl) rfl
theorem q1542 : (Jvm.Cond.laysFinal "NamesWeatherModel" "NamesWeatherModel" "came" "[I") ∈ lw_all := lw_g (lw_at lw_m6 182 rfl) rfl
theorem q1543 : (Jvm.Cond.soleField "NamesWeatherModel" "came") ∈ lw_all := lw_g (lw_at lw_m6 183 rfl) rfl
theorem q1544 : (Jvm.Cond.laysFinal "NamesWeatherModel" "NamesWeatherModel" "weigh" "[I") ∈ lw_all := lw_g (lw_at lw_m6 184 rfl) rfl
theorem q1545 : (Jvm.Cond.soleField "NamesWeatherModel" "weigh") ∈ lw_all := lw_g (lw_at lw_m6 185 rfl) rfl
theorem q1546 : (Jvm.Cond.laysFinal "NamesWeatherModel" "NamesWeatherModel" "boatOf" "[I") ∈ lw_all := lw_g (lw_at lw_m6 186 rfl) rfl
theorem q1547 : (Jvm.Cond.soleField "NamesWeatherModel" "boatOf") ∈ lw_all := lw_g (lw_at lw_m6 187 rfl) rfl
theorem q1548 : (Jvm.Cond.lays "NamesWeatherModel" "NamesWeatherModel" "sets" "I") ∈ lw_all := lw_g (lw_at lw_m6 188 rfl) rfl
theorem q1549 : (Jvm.Cond.soleField "NamesWeatherModel" "sets") ∈ lw_all := lw_g (lw_at lw_m6 189 rfl) rfl
theorem q1550 : (Jvm.Cond.lays "NamesWeatherModel" "NamesWeatherModel" "firstSet" "I") ∈ lw_all := lw_g (lw_at lw_m6 190 rfl) rfl
theorem q1551 : (Jvm.Cond.soleField "NamesWeatherModel" "firstSet") ∈ lw_all := lw_g (lw_at lw_m6 191 rfl) rfl
theorem q1552 : (Jvm.Cond.lays "NamesWeatherModel" "NamesWeatherModel" "isTaking" "Z") ∈ lw_all := lw_g (lw_at lw_m6 192 rfl) rfl
theorem q1553 : (Jvm.Cond.soleField "NamesWeatherModel" "isTaking") ∈ lw_all := lw_g (lw_at lw_m6 193 rfl) rfl
theorem q1554 : (Jvm.Cond.lays "NamesWeatherModel" "NamesWeatherModel" "hasImage" "Z") ∈ lw_all := lw_g (lw_at lw_m6 194 rfl) rfl
theorem q1555 : (Jvm.Cond.soleField "NamesWeatherModel" "hasImage") ∈ lw_all := lw_g (lw_at lw_m6 195 rfl) rfl
theorem q1556 : (Jvm.Cond.lays "NamesWeatherModel" "NamesWeatherModel" "keptAt" "I") ∈ lw_all := lw_g (lw_at lw_m6 196 rfl) rfl
theorem q1557 : (Jvm.Cond.soleField "NamesWeatherModel" "keptAt") ∈ lw_all := lw_g (lw_at lw_m6 197 rfl) rfl
theorem q1558 : (Jvm.Cond.laysFinal "NamesWeatherModel" "NamesWeatherModel" "images" "[I") ∈ lw_all := lw_g (lw_at lw_m6 198 rfl) rfl
theorem q1559 : (Jvm.Cond.soleField "NamesWeatherModel" "images") ∈ lw_all := lw_g (lw_at lw_m6 199 rfl) rfl
theorem q1560 : (Jvm.Cond.superclass "NamesWeatherModel" "java/lang/Object") ∈ lw_all := lw_g (lw_at lw_m6 200 rfl) rfl
theorem q1562 : (Jvm.Cond.instanceMethod ({ cls := "NamesWeatherModel", name := "undo", desc := "()Z" } : Jvm.MethodName)) ∈ lw_all := lw_g (lw_at lw_m6 202 rfl) rfl
theorem q1563 : (Jvm.Cond.selects "NamesWeatherModel" ({ cls := "NamesWeatherModel", name := "undo", desc := "()Z" } : Jvm.MethodName) ({ cls := "NamesWeatherModel", name := "undo", desc := "()Z" } : Jvm.MethodName)) ∈ lw_all := lw_g (lw_at lw_m6 203 rfl) rfl
theorem q1564 : (Jvm.Cond.code ({ cls := "NamesWeatherModel", name := "undo", desc := "()Z" } : Jvm.MethodName) prog_21_method_8_code (2 : Nat) (Option.some Jvm.ClassFile.FieldType.boolean)) ∈ lw_all := lw_g (lw_at lw_m6 204 rfl) rfl
theorem q1566 : (Jvm.Cond.instanceMethod ({ cls := "NamesWeatherModel", name := "state", desc := "(I)I" } : Jvm.MethodName)) ∈ lw_all := lw_g (lw_at lw_m6 206 rfl) rfl
theorem q1567 : (Jvm.Cond.selects "NamesWeatherModel" ({ cls := "NamesWeatherModel", name := "state", desc := "(I)I" } : Jvm.MethodName) ({ cls := "NamesWeatherModel", name := "state", desc := "(I)I" } : Jvm.MethodName)) ∈ lw_all := lw_g (lw_at lw_m6 207 rfl) rfl
theorem q1568 : (Jvm.Cond.code ({ cls := "NamesWeatherModel", name := "state", desc := "(I)I" } : Jvm.MethodName) prog_21_method_11_code (3 : Nat) (Option.some Jvm.ClassFile.FieldType.int)) ∈ lw_all := lw_g (lw_at lw_m6 208 rfl) rfl
theorem q1570 : (Jvm.Cond.instanceMethod ({ cls := "NamesWeatherModel", name := "person", desc := "(III)I" } : Jvm.MethodName)) ∈ lw_all := lw_g (lw_at lw_m6 210 rfl) rfl
theorem q1571 : (Jvm.Cond.selects "NamesWeatherModel" ({ cls := "NamesWeatherModel", name := "person", desc := "(III)I" } : Jvm.MethodName) ({ cls := "NamesWeatherModel", name := "person", desc := "(III)I" } : Jvm.MethodName)) ∈ lw_all := lw_g (lw_at lw_m6 211 rfl) rfl
theorem q1572 : (Jvm.Cond.code ({ cls := "NamesWeatherModel", name := "person", desc := "(III)I" } : Jvm.MethodName) prog_21_method_19_code (4 : Nat) (Option.some Jvm.ClassFile.FieldType.int)) ∈ lw_all := lw_g (lw_at lw_m6 212 rfl) rfl
theorem q1573 : (Jvm.Cond.methodLink "NamesWeatherModel" (102 : Nat) ({ cls := "NamesWeatherModel", name := "isIn", desc := "(III)Z" } : Jvm.MethodName)) ∈ lw_all := lw_g (lw_at lw_m6 213 rfl) rfl
theorem q1574 : (Jvm.Cond.privateMethod ({ cls := "NamesWeatherModel", name := "isIn", desc := "(III)Z" } : Jvm.MethodName)) ∈ lw_tbl := lw_at lw_m6 214 rfl
theorem q1575 : (Jvm.Cond.instanceMethod ({ cls := "NamesWeatherModel", name := "isIn", desc := "(III)Z" } : Jvm.MethodName)) ∈ lw_all := lw_g (lw_at lw_m6 215 rfl) rfl
theorem q1576 : (Jvm.Cond.code ({ cls := "NamesWeatherModel", name := "isIn", desc := "(III)Z" } : Jvm.MethodName) prog_21_method_3_code (4 : Nat) (Option.some Jvm.ClassFile.FieldType.boolean)) ∈ lw_all := lw_g (lw_at lw_m6 216 rfl) rfl
theorem q1577 : (Jvm.Cond.methodLink "NamesWeatherModel" (106 : Nat) ({ cls := "NamesWeatherModel", name := "isIsland", desc := "(I)Z" } : Jvm.MethodName)) ∈ lw_all := lw_g (lw_at lw_m6 217 rfl) rfl
theorem q1578 : (Jvm.Cond.privateMethod ({ cls := "NamesWeatherModel", name := "isIsland", desc := "(I)Z" } : Jvm.MethodName)) ∈ lw_tbl := lw_at lw_m6 218 rfl
theorem q1579 : (Jvm.Cond.instanceMethod ({ cls := "NamesWeatherModel", name := "isIsland", desc := "(I)Z" } : Jvm.MethodName)) ∈ lw_all := lw_g (lw_at lw_m6 219 rfl) rfl
theorem q1580 : (Jvm.Cond.code ({ cls := "NamesWeatherModel", name := "isIsland", desc := "(I)Z" } : Jvm.MethodName) prog_21_method_14_code (2 : Nat) (Option.some Jvm.ClassFile.FieldType.boolean)) ∈ lw_all := lw_g (lw_at lw_m6 220 rfl) rfl
theorem q1581 : (Jvm.Cond.methodLink "NamesWeatherModel" (110 : Nat) ({ cls := "NamesWeatherModel", name := "comes", desc := "(III)I" } : Jvm.MethodName)) ∈ lw_all := lw_g (lw_at lw_m6 221 rfl) rfl
theorem q1582 : (Jvm.Cond.privateMethod ({ cls := "NamesWeatherModel", name := "comes", desc := "(III)I" } : Jvm.MethodName)) ∈ lw_tbl := lw_at lw_m6 222 rfl
theorem q1583 : (Jvm.Cond.instanceMethod ({ cls := "NamesWeatherModel", name := "comes", desc := "(III)I" } : Jvm.MethodName)) ∈ lw_all := lw_g (lw_at lw_m6 223 rfl) rfl
theorem q1584 : (Jvm.Cond.code ({ cls := "NamesWeatherModel", name := "comes", desc := "(III)I" } : Jvm.MethodName) prog_21_method_18_code (5 : Nat) (Option.some Jvm.ClassFile.FieldType.int)) ∈ lw_all := lw_g (lw_at lw_m6 224 rfl) rfl
theorem q1586 : (Jvm.Cond.instanceMethod ({ cls := "NamesWeatherModel", name := "sky", desc := "(III)Z" } : Jvm.MethodName)) ∈ lw_all := lw_g (lw_at lw_m6 226 rfl) rfl
theorem q1587 : (Jvm.Cond.selects "NamesWeatherModel" ({ cls := "NamesWeatherModel", name := "sky", desc := "(III)Z" } : Jvm.MethodName) ({ cls := "NamesWeatherModel", name := "sky", desc := "(III)Z" } : Jvm.MethodName)) ∈ lw_all := lw_g (lw_at lw_m6 227 rfl) rfl
theorem q1588 : (Jvm.Cond.code ({ cls := "NamesWeatherModel", name := "sky", desc := "(III)Z" } : Jvm.MethodName) prog_21_method_20_code (4 : Nat) (Option.some Jvm.ClassFile.FieldType.boolean)) ∈ lw_all := lw_g (lw_at lw_m6 228 rfl) rfl
theorem q1589 : (Jvm.Cond.methodLink "NamesWeatherModel" (113 : Nat) ({ cls := "NamesWeatherModel", name := "skyBe", desc := "(III)V" } : Jvm.MethodName)) ∈ lw_all := lw_g (lw_at lw_m6 229 rfl) rfl
theorem q1590 : (Jvm.Cond.privateMethod ({ cls := "NamesWeatherModel", name := "skyBe", desc := "(III)V" } : Jvm.MethodName)) ∈ lw_tbl := lw_at lw_m6 230 rfl
theorem q1591 : (Jvm.Cond.instanceMethod ({ cls := "NamesWeatherModel", name := "skyBe", desc := "(III)V" } : Jvm.MethodName)) ∈ lw_all := lw_g (lw_at lw_m6 231 rfl) rfl
theorem q1592 : (Jvm.Cond.code ({ cls := "NamesWeatherModel", name := "skyBe", desc := "(III)V" } : Jvm.MethodName) prog_21_method_17_code (4 : Nat) (Option.none : Option Jvm.ClassFile.FieldType)) ∈ lw_all := lw_g (lw_at lw_m6 232 rfl) rfl
theorem q1593 : (Jvm.Cond.methodLink "NamesWeatherModel" (98 : Nat) ({ cls := "NamesWeatherModel", name := "held", desc := "(III)I" } : Jvm.MethodName)) ∈ lw_all := lw_g (lw_at lw_m6 233 rfl) rfl
theorem q1594 : (Jvm.Cond.privateMethod ({ cls := "NamesWeatherModel", name := "held", desc := "(III)I" } : Jvm.MethodName)) ∈ lw_tbl := lw_at lw_m6 234 rfl
theorem q1595 : (Jvm.Cond.instanceMethod ({ cls := "NamesWeatherModel", name := "held", desc := "(III)I" } : Jvm.MethodName)) ∈ lw_all := lw_g (lw_at lw_m6 235 rfl) rfl
theorem q1596 : (Jvm.Cond.code ({ cls := "NamesWeatherModel", name := "held", desc := "(III)I" } : Jvm.MethodName) prog_21_method_4_code (4 : Nat) (Option.some Jvm.ClassFile.FieldType.int)) ∈ lw_all := lw_g (lw_at lw_m6 236 rfl) rfl
theorem q1598 : (Jvm.Cond.instanceMethod ({ cls := "NamesWeatherModel", name := "cry", desc := "(I)Z" } : Jvm.MethodName)) ∈ lw_all := lw_g (lw_at lw_m6 238 rfl) rfl
theorem q1599 : (Jvm.Cond.selects "NamesWeatherModel" ({ cls := "NamesWeatherModel", name := "cry", desc := "(I)Z" } : Jvm.MethodName) ({ cls := "NamesWeatherModel", name := "cry", desc := "(I)Z" } : Jvm.MethodName)) ∈ lw_all := lw_g (lw_at lw_m6 239 rfl) rfl
theorem q1600 : (Jvm.Cond.code ({ cls := "NamesWeatherModel", name := "cry", desc := "(I)Z" } : Jvm.MethodName) prog_21_method_21_code (2 : Nat) (Option.some Jvm.ClassFile.FieldType.boolean)) ∈ lw_all := lw_g (lw_at lw_m7 0 rfl) rfl
theorem q1602 : (Jvm.Cond.instanceMethod ({ cls := "NamesWeatherModel", name := "route", desc := "(II)Z" } : Jvm.MethodName)) ∈ lw_all := lw_g (lw_at lw_m7 2 rfl) rfl
theorem q1603 : (Jvm.Cond.selects "NamesWeatherModel" ({ cls := "NamesWeatherModel", name := "route", desc := "(II)Z" } : Jvm.MethodName) ({ cls := "NamesWeatherModel", name := "route", desc := "(II)Z" } : Jvm.MethodName)) ∈ lw_all := lw_g (lw_at lw_m7 3 rfl) rfl
theorem q1604 : (Jvm.Cond.code ({ cls := "NamesWeatherModel", name := "route", desc := "(II)Z" } : Jvm.MethodName) prog_21_method_22_code (3 : Nat) (Option.some Jvm.ClassFile.FieldType.boolean)) ∈ lw_all := lw_g (lw_at lw_m7 4 rfl) rfl
theorem q1606 : (Jvm.Cond.instanceMethod ({ cls := "NamesWeatherModel", name := "feed", desc := "(IIIII)I" } : Jvm.MethodName)) ∈ lw_all := lw_g (lw_at lw_m7 6 rfl) rfl
theorem q1607 : (Jvm.Cond.selects "NamesWeatherModel" ({ cls := "NamesWeatherModel", name := "feed", desc := "(IIIII)I" } : Jvm.MethodName) ({ cls := "NamesWeatherModel", name := "feed", desc := "(IIIII)I" } : Jvm.MethodName)) ∈ lw_all := lw_g (lw_at lw_m7 7 rfl) rfl
theorem q1608 : (Jvm.Cond.code ({ cls := "NamesWeatherModel", name := "feed", desc := "(IIIII)I" } : Jvm.MethodName) prog_21_method_24_code (6 : Nat) (Option.some Jvm.ClassFile.FieldType.int)) ∈ lw_all := lw_g (lw_at lw_m7 8 rfl) rfl
theorem q1609 : (Jvm.Cond.methodLink "NamesWeatherModel" (123 : Nat) ({ cls := "NamesWeatherModel", name := "types", desc := "(I)V" } : Jvm.MethodName)) ∈ lw_all := lw_g (lw_at lw_m7 9 rfl) rfl
theorem q1610 : (Jvm.Cond.privateMethod ({ cls := "NamesWeatherModel", name := "types", desc := "(I)V" } : Jvm.MethodName)) ∈ lw_tbl := lw_at lw_m7 10 rfl
theorem q1611 : (Jvm.Cond.instanceMethod ({ cls := "NamesWeatherModel", name := "types", desc := "(I)V" } : Jvm.MethodName)) ∈ lw_all := lw_g (lw_at lw_m7 11 rfl) rfl
theorem q1612 : (Jvm.Cond.code ({ cls := "NamesWeatherModel", name := "types", desc := "(I)V" } : Jvm.MethodName) prog_21_method_23_code (3 : Nat) (Option.none : Option Jvm.ClassFile.FieldType)) ∈ lw_all := lw_g (lw_at lw_m7 12 rfl) rfl
theorem q1614 : (Jvm.Cond.instanceMethod ({ cls := "NamesWeatherModel", name := "end", desc := "(I)Z" } : Jvm.MethodName)) ∈ lw_all := lw_g (lw_at lw_m7 14 rfl) rfl
theorem q1615 : (Jvm.Cond.selects "NamesWeatherModel" ({ cls := "NamesWeatherModel", name := "end", desc := "(I)Z" } : Jvm.MethodName) ({ cls := "NamesWeatherModel", name := "end", desc := "(I)Z" } : Jvm.MethodName)) ∈ lw_all := lw_g (lw_at lw_m7 15 rfl) rfl
theorem q1616 : (Jvm.Cond.code ({ cls := "NamesWeatherModel", name := "end", desc := "(I)Z" } : Jvm.MethodName) prog_21_method_25_code (2 : Nat) (Option.some Jvm.ClassFile.FieldType.boolean)) ∈ lw_all := lw_g (lw_at lw_m7 16 rfl) rfl
theorem q1618 : (Jvm.Cond.instanceMethod ({ cls := "NamesWeatherModel", name := "text", desc := "(I)I" } : Jvm.MethodName)) ∈ lw_all := lw_g (lw_at lw_m7 18 rfl) rfl
theorem q1619 : (Jvm.Cond.selects "NamesWeatherModel" ({ cls := "NamesWeatherModel", name := "text", desc := "(I)I" } : Jvm.MethodName) ({ cls := "NamesWeatherModel", name := "text", desc := "(I)I" } : Jvm.MethodName)) ∈ lw_all := lw_g (lw_at lw_m7 19 rfl) rfl
theorem q1620 : (Jvm.Cond.code ({ cls := "NamesWeatherModel", name := "text", desc := "(I)I" } : Jvm.MethodName) prog_21_method_62_code (3 : Nat) (Option.some Jvm.ClassFile.FieldType.int)) ∈ lw_all := lw_g (lw_at lw_m7 20 rfl) rfl
theorem q1621 : (Jvm.Cond.methodLink "NamesWeatherModel" (273 : Nat) ({ cls := "NamesWeatherModel", name := "readsText", desc := "(I)I" } : Jvm.MethodName)) ∈ lw_all := lw_g (lw_at lw_m7 21 rfl) rfl
theorem q1622 : (Jvm.Cond.privateMethod ({ cls := "NamesWeatherModel", name := "readsText", desc := "(I)I" } : Jvm.MethodName)) ∈ lw_tbl := lw_at lw_m7 22 rfl
theorem q1623 : (Jvm.Cond.instanceMethod ({ cls := "NamesWeatherModel", name := "readsText", desc := "(I)I" } : Jvm.MethodName)) ∈ lw_all := lw_g (lw_at lw_m7 23 rfl) rfl
theorem q1624 : (Jvm.Cond.code ({ cls := "NamesWeatherModel", name := "readsText", desc := "(I)I" } : Jvm.MethodName) prog_21_method_60_code (2 : Nat) (Option.some Jvm.ClassFile.FieldType.int)) ∈ lw_all := lw_g (lw_at lw_m7 24 rfl) rfl
theorem q1625 : (Jvm.Cond.methodLink "NamesWeatherModel" (175 : Nat) ({ cls := "NamesWeatherModel", name := "reads", desc := "()V" } : Jvm.MethodName)) ∈ lw_all := lw_g (lw_at lw_m7 25 rfl) rfl
theorem q1626 : (Jvm.Cond.privateMethod ({ cls := "NamesWeatherModel", name := "reads", desc := "()V" } : Jvm.MethodName)) ∈ lw_tbl := lw_at lw_m7 26 rfl
theorem q1627 : (Jvm.Cond.instanceMethod ({ cls := "NamesWeatherModel", name := "reads", desc := "()V" } : Jvm.MethodName)) ∈ lw_all := lw_g (lw_at lw_m7 27 rfl) rfl
theorem q1628 : (Jvm.Cond.code ({ cls := "NamesWeatherModel", name := "reads", desc := "()V" } : Jvm.MethodName) prog_21_method_31_code (2 : Nat) (Option.none : Option Jvm.ClassFile.FieldType)) ∈ lw_all := lw_g (lw_at lw_m7 28 rfl) rfl
theorem q1629 : (Jvm.Cond.methodLink "NamesWeatherModel" (130 : Nat) ({ cls := "NamesWeatherModel", name := "raw", desc := "(I)I" } : Jvm.MethodName)) ∈ lw_all := lw_g (lw_at lw_m7 29 rfl) rfl
theorem q1630 : (Jvm.Cond.privateMethod ({ cls := "NamesWeatherModel", name := "raw", desc := "(I)I" } : Jvm.MethodName)) ∈ lw_tbl := lw_at lw_m7 30 rfl
theorem q1631 : (Jvm.Cond.instanceMethod ({ cls := "NamesWeatherModel", name := "raw", desc := "(I)I" } : Jvm.MethodName)) ∈ lw_all := lw_g (lw_at lw_m7 31 rfl) rfl
theorem q1632 : (Jvm.Cond.code ({ cls := "NamesWeatherModel", name := "raw", desc := "(I)I" } : Jvm.MethodName) prog_21_method_26_code (2 : Nat) (Option.some Jvm.ClassFile.FieldType.int)) ∈ lw_all := lw_g (lw_at lw_m7 32 rfl) rfl
theorem q1633 : (Jvm.Cond.methodLink "NamesWeatherModel" (143 : Nat) ({ cls := "NamesWeatherModel", name := "isLetter", desc := "(I)Z" } : Jvm.MethodName)) ∈ lw_all := lw_g (lw_at lw_m7 33 rfl) rfl
theorem q1634 : (Jvm.Cond.privateMethod ({ cls := "NamesWeatherModel", name := "isLetter", desc := "(I)Z" } : Jvm.MethodName)) ∈ lw_tbl := lw_at lw_m7 34 rfl
theorem q1635 : (Jvm.Cond.instanceMethod ({ cls := "NamesWeatherModel", name := "isLetter", desc := "(I)Z" } : Jvm.MethodName)) ∈ lw_all := lw_g (lw_at lw_m7 35 rfl) rfl
theorem q1636 : (Jvm.Cond.code ({ cls := "NamesWeatherModel", name := "isLetter", desc := "(I)Z" } : Jvm.MethodName) prog_21_method_27_code (2 : Nat) (Option.some Jvm.ClassFile.FieldType.boolean)) ∈ lw_all := lw_g (lw_at lw_m7 36 rfl) rfl
theorem q1637 : (Jvm.Cond.methodLink "NamesWeatherModel" (146 : Nat) ({ cls := "NamesWeatherModel", name := "wordAt", desc := "(II)I" } : Jvm.MethodName)) ∈ lw_all := lw_g (lw_at lw_m7 37 rfl) rfl
theorem q1638 : (Jvm.Cond.privateMethod ({ cls := "NamesWeatherModel", name := "wordAt", desc := "(II)I" } : Jvm.MethodName)) ∈ lw_tbl := lw_at lw_m7 38 rfl
theorem q1639 : (Jvm.Cond.instanceMethod ({ cls := "NamesWeatherModel", name := "wordAt", desc := "(II)I" } : Jvm.MethodName)) ∈ lw_all := lw_g (lw_at lw_m7 39 rfl) rfl
theorem q1640 : (Jvm.Cond.code ({ cls := "NamesWeatherModel", name := "wordAt", desc := "(II)I" } : Jvm.MethodName) prog_21_method_30_code (6 : Nat) (Option.some Jvm.ClassFile.FieldType.int)) ∈ lw_all := lw_g (lw_at lw_m7 40 rfl) rfl
theorem q1641 : (Jvm.Cond.methodLink "NamesWeatherModel" (150 : Nat) ({ cls := "NamesWeatherModel", name := "isDigit", desc := "(I)Z" } : Jvm.MethodName)) ∈ lw_all := lw_g (lw_at lw_m7 41 rfl) rfl
theorem q1642 : (Jvm.Cond.privateMethod ({ cls := "NamesWeatherModel", name := "isDigit", desc := "(I)Z" } : Jvm.MethodName)) ∈ lw_tbl := lw_at lw_m7 42 rfl
theorem q1643 : (Jvm.Cond.instanceMethod ({ cls := "NamesWeatherModel", name := "isDigit", desc := "(I)Z" } : Jvm.MethodName)) ∈ lw_all := lw_g (lw_at lw_m7 43 rfl) rfl
theorem q1644 : (Jvm.Cond.code ({ cls := "NamesWeatherModel", name := "isDigit", desc := "(I)Z" } : Jvm.MethodName) prog_21_method_28_code (2 : Nat) (Option.some Jvm.ClassFile.FieldType.boolean)) ∈ lw_all := lw_g (lw_at lw_m7 44 rfl) rfl
theorem q1645 : (Jvm.Cond.methodLink "NamesWeatherModel" (153 : Nat) ({ cls := "NamesWeatherModel", name := "isMarkSign", desc := "(I)Z" } : Jvm.MethodName)) ∈ lw_all := lw_g (lw_at lw_m7 45 rfl) rfl
theorem q1646 : (Jvm.Cond.privateMethod ({ cls := "NamesWeatherModel", name := "isMarkSign", desc := "(I)Z" } : Jvm.MethodName)) ∈ lw_tbl := lw_at lw_m7 46 rfl
theorem q1647 : (Jvm.Cond.instanceMethod ({ cls := "NamesWeatherModel", name := "isMarkSign", desc := "(I)Z" } : Jvm.MethodName)) ∈ lw_all := lw_g (lw_at lw_m7 47 rfl) rfl
theorem q1648 : (Jvm.Cond.code ({ cls := "NamesWeatherModel", name := "isMarkSign", desc := "(I)Z" } : Jvm.MethodName) prog_21_method_29_code (2 : Nat) (Option.some Jvm.ClassFile.FieldType.boolean)) ∈ lw_all := lw_g (lw_at lw_m7 48 rfl) rfl
theorem q1649 : (Jvm.Cond.methodLink "NamesWeatherModel" (249 : Nat) ({ cls := "NamesWeatherModel", name := "readQuenching", desc := "()I" } : Jvm.MethodName)) ∈ lw_all := lw_g (lw_at lw_m7 49 rfl) rfl
theorem q1650 : (Jvm.Cond.privateMethod ({ cls := "NamesWeatherModel", name := "readQuenching", desc := "()I" } : Jvm.MethodName)) ∈ lw_tbl := lw_at lw_m7 50 rfl
theorem q1651 : (Jvm.Cond.instanceMethod ({ cls := "NamesWeatherModel", name := "readQuenching", desc := "()I" } : Jvm.MethodName)) ∈ lw_all := lw_g (lw_at lw_m7 51 rfl) rfl
theorem q1652 : (Jvm.Cond.code ({ cls := "NamesWeatherModel", name := "readQuenching", desc := "()I" } : Jvm.MethodName) prog_21_method_53_code (2 : Nat) (Option.some Jvm.ClassFile.FieldType.int)) ∈ lw_all := lw_g (lw_at lw_m7 52 rfl) rfl
theorem q1653 : (Jvm.Cond.methodLink "NamesWeatherModel" (225 : Nat) ({ cls := "NamesWeatherModel", name := "isKind", desc := "()Z" } : Jvm.MethodName)) ∈ lw_all := lw_g (lw_at lw_m7 53 rfl) rfl
theorem q1654 : (Jvm.Cond.privateMethod ({ cls := "NamesWeatherModel", name := "isKind", desc := "()Z" } : Jvm.MethodName)) ∈ lw_tbl := lw_at lw_m7 54 rfl
theorem q1655 : (Jvm.Cond.instanceMethod ({ cls := "NamesWeatherModel", name := "isKind", desc := "()Z" } : Jvm.MethodName)) ∈ lw_all := lw_g (lw_at lw_m7 55 rfl) rfl
theorem q1656 : (Jvm.Cond.code ({ cls := "NamesWeatherModel", name := "isKind", desc := "()Z" } : Jvm.MethodName) prog_21_method_51_code (1 : Nat) (Option.some Jvm.ClassFile.FieldType.boolean)) ∈ lw_all := lw_g (lw_at lw_m7 56 rfl) rfl
theorem q1657 : (Jvm.Cond.methodLink "NamesWeatherModel" (168 : Nat) ({ cls := "NamesWeatherModel", name := "errs", desc := "(I)I" } : Jvm.MethodName)) ∈ lw_all := lw_g (lw_at lw_m7 57 rfl) rfl
theorem q1658 : (Jvm.Cond.privateMethod ({ cls := "NamesWeatherModel", name := "errs", desc := "(I)I" } : Jvm.MethodName)) ∈ lw_tbl := lw_at lw_m7 58 rfl
theorem q1659 : (Jvm.Cond.instanceMethod ({ cls := "NamesWeatherModel", name := "errs", desc := "(I)I" } : Jvm.MethodName)) ∈ lw_all := lw_g (lw_at lw_m7 59 rfl) rfl
theorem q1660 : (Jvm.Cond.code ({ cls := "NamesWeatherModel", name := "errs", desc := "(I)I" } : Jvm.MethodName) prog_21_method_32_code (2 : Nat) (Option.some Jvm.ClassFile.FieldType.int)) ∈ lw_all := lw_g (lw_at lw_m7 60 rfl) rfl
theorem q1661 : (Jvm.Cond.methodLink "NamesWeatherModel" (234 : Nat) ({ cls := "NamesWeatherModel", name := "readQuench", desc := "(I)I" } : Jvm.MethodName)) ∈ lw_all := lw_g (lw_at lw_m7 61 rfl) rfl
theorem q1662 : (Jvm.Cond.privateMethod ({ cls := "NamesWeatherModel", name := "readQuench", desc := "(I)I" } : Jvm.MethodName)) ∈ lw_tbl := lw_at lw_m7 62 rfl
theorem q1663 : (Jvm.Cond.instanceMethod ({ cls := "NamesWeatherModel", name := "readQuench", desc := "(I)I" } : Jvm.MethodName)) ∈ lw_all := lw_g (lw_at lw_m7 63 rfl) rfl
theorem q1664 : (Jvm.Cond.code ({ cls := "NamesWeatherModel", name := "readQuench", desc := "(I)I" } : Jvm.MethodName) prog_21_method_52_code (2 : Nat) (Option.some Jvm.ClassFile.FieldType.int)) ∈ lw_all := lw_g (lw_at lw_m7 64 rfl) rfl
theorem q1665 : (Jvm.Cond.methodLink "NamesWeatherModel" (219 : Nat) ({ cls := "NamesWeatherModel", name := "readWord", desc := "(I)I" } : Jvm.MethodName)) ∈ lw_all := lw_g (lw_at lw_m7 65 rfl) rfl
theorem q1666 : (Jvm.Cond.privateMethod ({ cls := "NamesWeatherModel", name := "readWord", desc := "(I)I" } : Jvm.MethodName)) ∈ lw_tbl := lw_at lw_m7 66 rfl
theorem q1667 : (Jvm.Cond.instanceMethod ({ cls := "NamesWeatherModel", name := "readWord", desc := "(I)I" } : Jvm.MethodName)) ∈ lw_all := lw_g (lw_at lw_m7 67 rfl) rfl
theorem q1668 : (Jvm.Cond.code ({ cls := "NamesWeatherModel", name := "readWord", desc := "(I)I" } : Jvm.MethodName) prog_21_method_48_code (2 : Nat) (Option.some Jvm.ClassFile.FieldType.int)) ∈ lw_all := lw_g (lw_at lw_m7 68 rfl) rfl
theorem q1669 : (Jvm.Cond.methodLink "NamesWeatherModel" (197 : Nat) ({ cls := "NamesWeatherModel", name := "isWord", desc := "(I)Z" } : Jvm.MethodName)) ∈ lw_all := lw_g (lw_at lw_m7 69 rfl) rfl
theorem q1670 : (Jvm.Cond.privateMethod ({ cls := "NamesWeatherModel", name := "isWord", desc := "(I)Z" } : Jvm.MethodName)) ∈ lw_tbl := lw_at lw_m7 70 rfl
theorem q1671 : (Jvm.Cond.instanceMethod ({ cls := "NamesWeatherModel", name := "isWord", desc := "(I)Z" } : Jvm.MethodName)) ∈ lw_all := lw_g (lw_at lw_m7 71 rfl) rfl
theorem q1672 : (Jvm.Cond.code ({ cls := "NamesWeatherModel", name := "isWord", desc := "(I)Z" } : Jvm.MethodName) prog_21_method_33_code (2 : Nat) (Option.some Jvm.ClassFile.FieldType.boolean)) ∈ lw_all := lw_g (lw_at lw_m7 72 rfl) rfl
theorem q1673 : (Jvm.Cond.methodLink "NamesWeatherModel" (228 : Nat) ({ cls := "NamesWeatherModel", name := "readTold", desc := "(III)I" } : Jvm.MethodName)) ∈ lw_all := lw_g (lw_at lw_m7 73 rfl) rfl
theorem q1674 : (Jvm.Cond.privateMethod ({ cls := "NamesWeatherModel", name := "readTold", desc := "(III)I" } : Jvm.MethodName)) ∈ lw_tbl := lw_at lw_m7 74 rfl
theorem q1675 : (Jvm.Cond.instanceMethod ({ cls := "NamesWeatherModel", name := "readTold", desc := "(III)I" } : Jvm.MethodName)) ∈ lw_all := lw_g (lw_at lw_m7 75 rfl) rfl
theorem q1676 : (Jvm.Cond.code ({ cls := "NamesWeatherModel", name := "readTold", desc := "(III)I" } : Jvm.MethodName) prog_21_method_50_code (4 : Nat) (Option.some Jvm.ClassFile.FieldType.int)) ∈ lw_all := lw_g (lw_at lw_m7 76 rfl) rfl
theorem q1677 : (Jvm.Cond.methodLink "NamesWeatherModel" (222 : Nat) ({ cls := "NamesWeatherModel", name := "readNumber", desc := "(II)I" } : Jvm.MethodName)) ∈ lw_all := lw_g (lw_at lw_m7 77 rfl) rfl
theorem q1678 : (Jvm.Cond.privateMethod ({ cls := "NamesWeatherModel", name := "readNumber", desc := "(II)I" } : Jvm.MethodName)) ∈ lw_tbl := lw_at lw_m7 78 rfl
theorem q1679 : (Jvm.Cond.instanceMethod ({ cls := "NamesWeatherModel", name := "readNumber", desc := "(II)I" } : Jvm.MethodName)) ∈ lw_all := lw_g (lw_at lw_m7 79 rfl) rfl
theorem q1680 : (Jvm.Cond.code ({ cls := "NamesWeatherModel", name := "readNumber", desc := "(II)I" } : Jvm.MethodName) prog_21_method_47_code (4 : Nat) (Option.some Jvm.ClassFile.FieldType.int)) ∈ lw_all := lw_g (lw_at lw_m7 80 rfl) rfl
theorem q1681 : (Jvm.Cond.methodLink "NamesWeatherModel" (231 : Nat) ({ cls := "NamesWeatherModel", name := "readMark", desc := "(I)I" } : Jvm.MethodName)) ∈ lw_all := lw_g (lw_at lw_m7 81 rfl) rfl
theorem q1682 : (Jvm.Cond.privateMethod ({ cls := "NamesWeatherModel", name := "readMark", desc := "(I)I" } : Jvm.MethodName)) ∈ lw_tbl := lw_at lw_m7 82 rfl
theorem q1683 : (Jvm.Cond.instanceMethod ({ cls := "NamesWeatherModel", name := "readMark", desc := "(I)I" } : Jvm.MethodName)) ∈ lw_all := lw_g (lw_at lw_m7 83 rfl) rfl
theorem q1684 : (Jvm.Cond.code ({ cls := "NamesWeatherModel", name := "readMark", desc := "(I)I" } : Jvm.MethodName) prog_21_method_49_code (2 : Nat) (Option.some Jvm.ClassFile.FieldType.int)) ∈ lw_all := lw_g (lw_at lw_m7 84 rfl) rfl
theorem q1685 : (Jvm.Cond.methodLink "NamesWeatherModel" (182 : Nat) ({ cls := "NamesWeatherModel", name := "isSign", desc := "(I)Z" } : Jvm.MethodName)) ∈ lw_all := lw_g (lw_at lw_m7 85 rfl) rfl
theorem q1686 : (Jvm.Cond.privateMethod ({ cls := "NamesWeatherModel", name := "isSign", desc := "(I)Z" } : Jvm.MethodName)) ∈ lw_tbl := lw_at lw_m7 86 rfl
theorem q1687 : (Jvm.Cond.instanceMethod ({ cls := "NamesWeatherModel", name := "isSign", desc := "(I)Z" } : Jvm.MethodName)) ∈ lw_all := lw_g (lw_at lw_m7 87 rfl) rfl
theorem q1688 : (Jvm.Cond.code ({ cls := "NamesWeatherModel", name := "isSign", desc := "(I)Z" } : Jvm.MethodName) prog_21_method_34_code (2 : Nat) (Option.some Jvm.ClassFile.FieldType.boolean)) ∈ lw_all := lw_g (lw_at lw_m7 88 rfl) rfl
theorem q1689 : (Jvm.Cond.methodLink "NamesWeatherModel" (252 : Nat) ({ cls := "NamesWeatherModel", name := "readWants", desc := "()I" } : Jvm.MethodName)) ∈ lw_all := lw_g (lw_at lw_m7 89 rfl) rfl
theorem q1690 : (Jvm.Cond.privateMethod ({ cls := "NamesWeatherModel", name := "readWants", desc := "()I" } : Jvm.MethodName)) ∈ lw_tbl := lw_at lw_m7 90 rfl
theorem q1691 : (Jvm.Cond.instanceMethod ({ cls := "NamesWeatherModel", name := "readWants", desc := "()I" } : Jvm.MethodName)) ∈ lw_all := lw_g (lw_at lw_m7 91 rfl) rfl
theorem q1692 : (Jvm.Cond.code ({ cls := "NamesWeatherModel", name := "readWants", desc := "()I" } : Jvm.MethodName) prog_21_method_56_code (2 : Nat) (Option.some Jvm.ClassFile.FieldType.int)) ∈ lw_all := lw_g (lw_at lw_m7 92 rfl) rfl
theorem q1693 : (Jvm.Cond.methodLink "NamesWeatherModel" (240 : Nat) ({ cls := "NamesWeatherModel", name := "readWant", desc := "(I)I" } : Jvm.MethodName)) ∈ lw_all := lw_g (lw_at lw_m7 93 rfl) rfl
theorem q1694 : (Jvm.Cond.privateMethod ({ cls := "NamesWeatherModel", name := "readWant", desc := "(I)I" } : Jvm.MethodName)) ∈ lw_tbl := lw_at lw_m7 94 rfl
theorem q1695 : (Jvm.Cond.instanceMethod ({ cls := "NamesWeatherModel", name := "readWant", desc := "(I)I" } : Jvm.MethodName)) ∈ lw_all := lw_g (lw_at lw_m7 95 rfl) rfl
theorem q1696 : (Jvm.Cond.code ({ cls := "NamesWeatherModel", name := "readWant", desc := "(I)I" } : Jvm.MethodName) prog_21_method_55_code (2 : Nat) (Option.some Jvm.ClassFile.FieldType.int)) ∈ lw_all := lw_g (lw_at lw_m7 96 rfl) rfl
theorem q1697 : (Jvm.Cond.methodLink "NamesWeatherModel" (237 : Nat) ({ cls := "NamesWeatherModel", name := "readSky", desc := "(I)I" } : Jvm.MethodName)) ∈ lw_all := lw_g (lw_at lw_m7 97 rfl) rfl
theorem q1698 : (Jvm.Cond.privateMethod ({ cls := "NamesWeatherModel", name := "readSky", desc := "(I)I" } : Jvm.MethodName)) ∈ lw_tbl := lw_at lw_m7 98 rfl
theorem q1699 : (Jvm.Cond.instanceMethod ({ cls := "NamesWeatherModel", name := "readSky", desc := "(I)I" } : Jvm.MethodName)) ∈ lw_all := lw_g (lw_at lw_m7 99 rfl) rfl
theorem q1700 : (Jvm.Cond.code ({ cls := "NamesWeatherModel", name := "readSky", desc := "(I)I" } : Jvm.MethodName) prog_21_method_54_code (2 : Nat) (Option.some Jvm.ClassFile.FieldType.int)) ∈ lw_all := lw_g (lw_at lw_m7 100 rfl) rfl
theorem q1701 : (Jvm.Cond.methodLink "NamesWeatherModel" (255 : Nat) ({ cls := "NamesWeatherModel", name := "readPlan", desc := "()I" } : Jvm.MethodName)) ∈ lw_all := lw_g (lw_at lw_m7 101 rfl) rfl
theorem q1702 : (Jvm.Cond.privateMethod ({ cls := "NamesWeatherModel", name := "readPlan", desc := "()I" } : Jvm.MethodName)) ∈ lw_tbl := lw_at lw_m7 102 rfl
theorem q1703 : (Jvm.Cond.instanceMethod ({ cls := "NamesWeatherModel", name := "readPlan", desc := "()I" } : Jvm.MethodName)) ∈ lw_all := lw_g (lw_at lw_m7 103 rfl) rfl
theorem q1704 : (Jvm.Cond.code ({ cls := "NamesWeatherModel", name := "readPlan", desc := "()I" } : Jvm.MethodName) prog_21_method_59_code (2 : Nat) (Option.some Jvm.ClassFile.FieldType.int)) ∈ lw_all := lw_g (lw_at lw_m7 104 rfl) rfl
theorem q1705 : (Jvm.Cond.methodLink "NamesWeatherModel" (246 : Nat) ({ cls := "NamesWeatherModel", name := "readPlanLine", desc := "(I)I" } : Jvm.MethodName)) ∈ lw_all := lw_g (lw_at lw_m7 105 rfl) rfl
theorem q1706 : (Jvm.Cond.privateMethod ({ cls := "NamesWeatherModel", name := "readPlanLine", desc := "(I)I" } : Jvm.MethodName)) ∈ lw_tbl := lw_at lw_m7 106 rfl
theorem q1707 : (Jvm.Cond.instanceMethod ({ cls := "NamesWeatherModel", name := "readPlanLine", desc := "(I)I" } : Jvm.MethodName)) ∈ lw_all := lw_g (lw_at lw_m7 107 rfl) rfl
theorem q1708 : (Jvm.Cond.code ({ cls := "NamesWeatherModel", name := "readPlanLine", desc := "(I)I" } : Jvm.MethodName) prog_21_method_58_code (3 : Nat) (Option.some Jvm.ClassFile.FieldType.int)) ∈ lw_all := lw_g (lw_at lw_m7 108 rfl) rfl
theorem q1709 : (Jvm.Cond.methodLink "NamesWeatherModel" (243 : Nat) ({ cls := "NamesWeatherModel", name := "deedOf", desc := "(I)I" } : Jvm.MethodName)) ∈ lw_all := lw_g (lw_at lw_m7 109 rfl) rfl
theorem q1710 : (Jvm.Cond.privateMethod ({ cls := "NamesWeatherModel", name := "deedOf", desc := "(I)I" } : Jvm.MethodName)) ∈ lw_tbl := lw_at lw_m7 110 rfl
theorem q1711 : (Jvm.Cond.instanceMethod ({ cls := "NamesWeatherModel", name := "deedOf", desc := "(I)I" } : Jvm.MethodName)) ∈ lw_all := lw_g (lw_at lw_m7 111 rfl) rfl
theorem q1712 : (Jvm.Cond.code ({ cls := "NamesWeatherModel", name := "deedOf", desc := "(I)I" } : Jvm.MethodName) prog_21_method_57_code (2 : Nat) (Option.some Jvm.ClassFile.FieldType.int)) ∈ lw_all := lw_g (lw_at lw_m7 112 rfl) rfl
theorem q1713 : (Jvm.Cond.methodLink "NamesWeatherModel" (258 : Nat) ({ cls := "NamesWeatherModel", name := "readLaw", desc := "()I" } : Jvm.MethodName)) ∈ lw_all := lw_g (lw_at lw_m7 113 rfl) rfl
theorem q1714 : (Jvm.Cond.privateMethod ({ cls := "NamesWeatherModel", name := "readLaw", desc := "()I" } : Jvm.MethodName)) ∈ lw_tbl := lw_at lw_m7 114 rfl
theorem q1715 : (Jvm.Cond.instanceMethod ({ cls := "NamesWeatherModel", name := "readLaw", desc := "()I" } : Jvm.MethodName)) ∈ lw_all := lw_g (lw_at lw_m7 115 rfl) rfl
theorem q1716 : (Jvm.Cond.code ({ cls := "NamesWeatherModel", name := "readLaw", desc := "()I" } : Jvm.MethodName) prog_21_method_45_code (3 : Nat) (Option.some Jvm.ClassFile.FieldType.int)) ∈ lw_all := lw_g (lw_at lw_m7 116 rfl) rfl
theorem q1717 : (Jvm.Cond.methodLink "NamesWeatherModel" (209 : Nat) ({ cls := "NamesWeatherModel", name := "isLineWord", desc := "()Z" } : Jvm.MethodName)) ∈ lw_all := lw_g (lw_at lw_m7 117 rfl) rfl
theorem q1718 : (Jvm.Cond.privateMethod ({ cls := "NamesWeatherModel", name := "isLineWord", desc := "()Z" } : Jvm.MethodName)) ∈ lw_tbl := lw_at lw_m7 118 rfl
theorem q1719 : (Jvm.Cond.instanceMethod ({ cls := "NamesWeatherModel", name := "isLineWord", desc := "()Z" } : Jvm.MethodName)) ∈ lw_all := lw_g (lw_at lw_m7 119 rfl) rfl
theorem q1720 : (Jvm.Cond.code ({ cls := "NamesWeatherModel", name := "isLineWord", desc := "()Z" } : Jvm.MethodName) prog_21_method_44_code (1 : Nat) (Option.some Jvm.ClassFile.FieldType.boolean)) ∈ lw_all := lw_g (lw_at lw_m7 120 rfl) rfl
theorem q1721 : (Jvm.Cond.methodLink "NamesWeatherModel" (188 : Nat) ({ cls := "NamesWeatherModel", name := "readSum", desc := "()I" } : Jvm.MethodName)) ∈ lw_all := lw_g (lw_at lw_m7 121 rfl) rfl
theorem q1722 : (Jvm.Cond.privateMethod ({ cls := "NamesWeatherModel", name := "readSum", desc := "()I" } : Jvm.MethodName)) ∈ lw_tbl := lw_at lw_m7 122 rfl
theorem q1723 : (Jvm.Cond.instanceMethod ({ cls := "NamesWeatherModel", name := "readSum", desc := "()I" } : Jvm.MethodName)) ∈ lw_all := lw_g (lw_at lw_m7 123 rfl) rfl
theorem q1724 : (Jvm.Cond.code ({ cls := "NamesWeatherModel", name := "readSum", desc := "()I" } : Jvm.MethodName) prog_21_method_39_code (2 : Nat) (Option.some Jvm.ClassFile.FieldType.int)) ∈ lw_all := lw_g (lw_at lw_m7 124 rfl) rfl
theorem q1725 : (Jvm.Cond.methodLink "NamesWeatherModel" (185 : Nat) ({ cls := "NamesWeatherModel", name := "readProduct", desc := "()I" } : Jvm.MethodName)) ∈ lw_all := lw_g (lw_at lw_m7 125 rfl) rfl
theorem q1726 : (Jvm.Cond.privateMethod ({ cls := "NamesWeatherModel", name := "readProduct", desc := "()I" } : Jvm.MethodName)) ∈ lw_tbl := lw_at lw_m7 126 rfl
theorem q1727 : (Jvm.Cond.instanceMethod ({ cls := "NamesWeatherModel", name := "readProduct", desc := "()I" } : Jvm.MethodName)) ∈ lw_all := lw_g (lw_at lw_m7 127 rfl) rfl
theorem q1728 : (Jvm.Cond.code ({ cls := "NamesWeatherModel", name := "readProduct", desc := "()I" } : Jvm.MethodName) prog_21_method_38_code (2 : Nat) (Option.some Jvm.ClassFile.FieldType.int)) ∈ lw_all := lw_g (lw_at lw_m7 128 rfl) rfl
theorem q1729 : (Jvm.Cond.methodLink "NamesWeatherModel" (178 : Nat) ({ cls := "NamesWeatherModel", name := "readUnit", desc := "()I" } : Jvm.MethodName)) ∈ lw_all := lw_g (lw_at lw_m7 129 rfl) rfl
theorem q1730 : (Jvm.Cond.privateMethod ({ cls := "NamesWeatherModel", name := "readUnit", desc := "()I" } : Jvm.MethodName)) ∈ lw_tbl := lw_at lw_m7 130 rfl
theorem q1731 : (Jvm.Cond.instanceMethod ({ cls := "NamesWeatherModel", name := "readUnit", desc := "()I" } : Jvm.MethodName)) ∈ lw_all := lw_g (lw_at lw_m7 131 rfl) rfl
theorem q1732 : (Jvm.Cond.code ({ cls := "NamesWeatherModel", name := "readUnit", desc := "()I" } : Jvm.MethodName) prog_21_method_37_code (2 : Nat) (Option.some Jvm.ClassFile.FieldType.int)) ∈ lw_all := lw_g (lw_at lw_m7 132 rfl) rfl
theorem q1733 : (Jvm.Cond.methodLink "NamesWeatherModel" (165 : Nat) ({ cls := "NamesWeatherModel", name := "canAsk", desc := "(I)Z" } : Jvm.MethodName)) ∈ lw_all := lw_g (lw_at lw_m7 133 rfl) rfl
theorem q1734 : (Jvm.Cond.privateMethod ({ cls := "NamesWeatherModel", name := "canAsk", desc := "(I)Z" } : Jvm.MethodName)) ∈ lw_tbl := lw_at lw_m7 134 rfl
theorem q1735 : (Jvm.Cond.instanceMethod ({ cls := "NamesWeatherModel", name := "canAsk", desc := "(I)Z" } : Jvm.MethodName)) ∈ lw_all := lw_g (lw_at lw_m7 135 rfl) rfl
theorem q1736 : (Jvm.Cond.code ({ cls := "NamesWeatherModel", name := "canAsk", desc := "(I)Z" } : Jvm.MethodName) prog_21_method_36_code (2 : Nat) (Option.some Jvm.ClassFile.FieldType.boolean)) ∈ lw_all := lw_g (lw_at lw_m7 136 rfl) rfl
theorem q1737 : (Jvm.Cond.methodLink "NamesWeatherModel" (171 : Nat) ({ cls := "NamesWeatherModel", name := "emits", desc := "(II)V" } : Jvm.MethodName)) ∈ lw_all := lw_g (lw_at lw_m7 137 rfl) rfl
theorem q1738 : (Jvm.Cond.privateMethod ({ cls := "NamesWeatherModel", name := "emits", desc := "(II)V" } : Jvm.MethodName)) ∈ lw_tbl := lw_at lw_m7 138 rfl
theorem q1739 : (Jvm.Cond.instanceMethod ({ cls := "NamesWeatherModel", name := "emits", desc := "(II)V" } : Jvm.MethodName)) ∈ lw_all := lw_g (lw_at lw_m7 139 rfl) rfl
theorem q1740 : (Jvm.Cond.code ({ cls := "NamesWeatherModel", name := "emits", desc := "(II)V" } : Jvm.MethodName) prog_21_method_35_code (3 : Nat) (Option.none : Option Jvm.ClassFile.FieldType)) ∈ lw_all := lw_g (lw_at lw_m7 140 rfl) rfl
theorem q1741 : (Jvm.Cond.methodLink "NamesWeatherModel" (213 : Nat) ({ cls := "NamesWeatherModel", name := "readAny", desc := "()I" } : Jvm.MethodName)) ∈ lw_all := lw_g (lw_at lw_m7 141 rfl) rfl
theorem q1742 : (Jvm.Cond.privateMethod ({ cls := "NamesWeatherModel", name := "readAny", desc := "()I" } : Jvm.MethodName)) ∈ lw_tbl := lw_at lw_m7 142 rfl
theorem q1743 : (Jvm.Cond.instanceMethod ({ cls := "NamesWeatherModel", name := "readAny", desc := "()I" } : Jvm.MethodName)) ∈ lw_all := lw_g (lw_at lw_m7 143 rfl) rfl
theorem q1744 : (Jvm.Cond.code ({ cls := "NamesWeatherModel", name := "readAny", desc := "()I" } : Jvm.MethodName) prog_21_method_43_code (4 : Nat) (Option.some Jvm.ClassFile.FieldType.int)) ∈ lw_all := lw_g (lw_at lw_m7 144 rfl) rfl
theorem q1745 : (Jvm.Cond.methodLink "NamesWeatherModel" (200 : Nat) ({ cls := "NamesWeatherModel", name := "waits", desc := "(I)V" } : Jvm.MethodName)) ∈ lw_all := lw_g (lw_at lw_m7 145 rfl) rfl
theorem q1746 : (Jvm.Cond.privateMethod ({ cls := "NamesWeatherModel", name := "waits", desc := "(I)V" } : Jvm.MethodName)) ∈ lw_tbl := lw_at lw_m7 146 rfl
theorem q1747 : (Jvm.Cond.instanceMethod ({ cls := "NamesWeatherModel", name := "waits", desc := "(I)V" } : Jvm.MethodName)) ∈ lw_all := lw_g (lw_at lw_m7 147 rfl) rfl
theorem q1748 : (Jvm.Cond.code ({ cls := "NamesWeatherModel", name := "waits", desc := "(I)V" } : Jvm.MethodName) prog_21_method_41_code (2 : Nat) (Option.none : Option Jvm.ClassFile.FieldType)) ∈ lw_all := lw_g (lw_at lw_m7 148 rfl) rfl
theorem q1749 : (Jvm.Cond.methodLink "NamesWeatherModel" (203 : Nat) ({ cls := "NamesWeatherModel", name := "readCompared", desc := "()I" } : Jvm.MethodName)) ∈ lw_all := lw_g (lw_at lw_m7 149 rfl) rfl
theorem q1750 : (Jvm.Cond.privateMethod ({ cls := "NamesWeatherModel", name := "readCompared", desc := "()I" } : Jvm.MethodName)) ∈ lw_tbl := lw_at lw_m7 150 rfl
theorem q1751 : (Jvm.Cond.instanceMethod ({ cls := "NamesWeatherModel", name := "readCompared", desc := "()I" } : Jvm.MethodName)) ∈ lw_all := lw_g (lw_at lw_m7 151 rfl) rfl
theorem q1752 : (Jvm.Cond.code ({ cls := "NamesWeatherModel", name := "readCompared", desc := "()I" } : Jvm.MethodName) prog_21_method_40_code (2 : Nat) (Option.some Jvm.ClassFile.FieldType.int)) ∈ lw_all := lw_g (lw_at lw_m7 152 rfl) rfl
theorem q1753 : (Jvm.Cond.methodLink "NamesWeatherModel" (206 : Nat) ({ cls := "NamesWeatherModel", name := "settles", desc := "(I)V" } : Jvm.MethodName)) ∈ lw_all := lw_g (lw_at lw_m7 153 rfl) rfl
theorem q1754 : (Jvm.Cond.privateMethod ({ cls := "NamesWeatherModel", name := "settles", desc := "(I)V" } : Jvm.MethodName)) ∈ lw_tbl := lw_at lw_m7 154 rfl
theorem q1755 : (Jvm.Cond.instanceMethod ({ cls := "NamesWeatherModel", name := "settles", desc := "(I)V" } : Jvm.MethodName)) ∈ lw_all := lw_g (lw_at lw_m7 155 rfl) rfl
theorem q1756 : (Jvm.Cond.code ({ cls := "NamesWeatherModel", name := "settles", desc := "(I)V" } : Jvm.MethodName) prog_21_method_42_code (2 : Nat) (Option.none : Option Jvm.ClassFile.FieldType)) ∈ lw_all := lw_g (lw_at lw_m7 156 rfl) rfl
theorem q1757 : (Jvm.Cond.methodLink "NamesWeatherModel" (276 : Nat) ({ cls := "NamesWeatherModel", name := "takesLaw", desc := "(I)V" } : Jvm.MethodName)) ∈ lw_all := lw_g (lw_at lw_m7 157 rfl) rfl
theorem q1758 : (Jvm.Cond.privateMethod ({ cls := "NamesWeatherModel", name := "takesLaw", desc := "(I)V" } : Jvm.MethodName)) ∈ lw_tbl := lw_at lw_m7 158 rfl
theorem q1759 : (Jvm.Cond.instanceMethod ({ cls := "NamesWeatherModel", name := "takesLaw", desc := "(I)V" } : Jvm.MethodName)) ∈ lw_all := lw_g (lw_at lw_m7 159 rfl) rfl
theorem q1760 : (Jvm.Cond.code ({ cls := "NamesWeatherModel", name := "takesLaw", desc := "(I)V" } : Jvm.MethodName) prog_21_method_46_code (3 : Nat) (Option.none : Option Jvm.ClassFile.FieldType)) ∈ lw_all := lw_g (lw_at lw_m7 160 rfl) rfl
theorem q1761 : (Jvm.Cond.methodLink "NamesWeatherModel" (279 : Nat) ({ cls := "NamesWeatherModel", name := "takesOther", desc := "(II)V" } : Jvm.MethodName)) ∈ lw_all := lw_g (lw_at lw_m7 161 rfl) rfl
theorem q1762 : (Jvm.Cond.privateMethod ({ cls := "NamesWeatherModel", name := "takesOther", desc := "(II)V" } : Jvm.MethodName)) ∈ lw_tbl := lw_at lw_m7 162 rfl
theorem q1763 : (Jvm.Cond.instanceMethod ({ cls := "NamesWeatherModel", name := "takesOther", desc := "(II)V" } : Jvm.MethodName)) ∈ lw_all := lw_g (lw_at lw_m7 163 rfl) rfl
theorem q1764 : (Jvm.Cond.code ({ cls := "NamesWeatherModel", name := "takesOther", desc := "(II)V" } : Jvm.MethodName) prog_21_method_61_code (4 : Nat) (Option.none : Option Jvm.ClassFile.FieldType)) ∈ lw_all := lw_g (lw_at lw_m7 164 rfl) rfl
theorem q1766 : (Jvm.Cond.instanceMethod ({ cls := "NamesWeatherModel", name := "fault", desc := "(I)I" } : Jvm.MethodName)) ∈ lw_all := lw_g (lw_at lw_m7 166 rfl) rfl
theorem q1767 : (Jvm.Cond.selects "NamesWeatherModel" ({ cls := "NamesWeatherModel", name := "fault", desc := "(I)I" } : Jvm.MethodName) ({ cls := "NamesWeatherModel", name := "fault", desc := "(I)I" } : Jvm.MethodName)) ∈ lw_all := lw_g (lw_at lw_m7 167 rfl) rfl
theorem q1768 : (Jvm.Cond.code ({ cls := "NamesWeatherModel", name := "fault", desc := "(I)I" } : Jvm.MethodName) prog_21_method_63_code (2 : Nat) (Option.some Jvm.ClassFile.FieldType.int)) ∈ lw_all := lw_g (lw_at lw_m7 168 rfl) rfl
theorem q1770 : (Jvm.Cond.instanceMethod ({ cls := "NamesWeatherModel", name := "call", desc := "(II)I" } : Jvm.MethodName)) ∈ lw_all := lw_g (lw_at lw_m7 170 rfl) rfl
theorem q1771 : (Jvm.Cond.selects "NamesWeatherModel" ({ cls := "NamesWeatherModel", name := "call", desc := "(II)I" } : Jvm.MethodName) ({ cls := "NamesWeatherModel", name := "call", desc := "(II)I" } : Jvm.MethodName)) ∈ lw_all := lw_g (lw_at lw_m7 171 rfl) rfl
theorem q1772 : (Jvm.Cond.code ({ cls := "NamesWeatherModel", name := "call", desc := "(II)I" } : Jvm.MethodName) prog_21_method_81_code (3 : Nat) (Option.some Jvm.ClassFile.FieldType.int)) ∈ lw_all := lw_g (lw_at lw_m7 172 rfl) rfl
theorem q1773 : (Jvm.Cond.methodLink "NamesWeatherModel" (325 : Nat) ({ cls := "NamesWeatherModel", name := "canCall", desc := "(II)Z" } : Jvm.MethodName)) ∈ lw_all := lw_g (lw_at lw_m7 173 rfl) rfl
theorem q1774 : (Jvm.Cond.privateMethod ({ cls := "NamesWeatherModel", name := "canCall", desc := "(II)Z" } : Jvm.MethodName)) ∈ lw_tbl := lw_at lw_m7 174 rfl
theorem q1775 : (Jvm.Cond.instanceMethod ({ cls := "NamesWeatherModel", name := "canCall", desc := "(II)Z" } : Jvm.MethodName)) ∈ lw_all := lw_g (lw_at lw_m7 175 rfl) rfl
theorem q1776 : (Jvm.Cond.code ({ cls := "NamesWeatherModel", name := "canCall", desc := "(II)Z" } : Jvm.MethodName) prog_21_method_76_code (3 : Nat) (Option.some Jvm.ClassFile.FieldType.boolean)) ∈ lw_all := lw_g (lw_at lw_m7 176 rfl) rfl
theorem q1777 : (Jvm.Cond.methodLink "NamesWeatherModel" (312 : Nat) ({ cls := "NamesWeatherModel", name := "isOne", desc := "(I)Z" } : Jvm.MethodName)) ∈ lw_all := lw_g (lw_at lw_m7 177 rfl) rfl
theorem q1778 : (Jvm.Cond.privateMethod ({ cls := "NamesWeatherModel", name := "isOne", desc := "(I)Z" } : Jvm.MethodName)) ∈ lw_tbl := lw_at lw_m7 178 rfl
theorem q1779 : (Jvm.Cond.instanceMethod ({ cls := "NamesWeatherModel", name := "isOne", desc := "(I)Z" } : Jvm.MethodName)) ∈ lw_all := lw_g (lw_at lw_m7 179 rfl) rfl
theorem q1780 : (Jvm.Cond.code ({ cls := "NamesWeatherModel", name := "isOne", desc := "(I)Z" } : Jvm.MethodName) prog_21_method_13_code (2 : Nat) (Option.some Jvm.ClassFile.FieldType.boolean)) ∈ lw_all := lw_g (lw_at lw_m7 180 rfl) rfl
theorem q1781 : (Jvm.Cond.methodLink "NamesWeatherModel" (315 : Nat) ({ cls := "NamesWeatherModel", name := "isDead", desc := "(I)Z" } : Jvm.MethodName)) ∈ lw_all := lw_g (lw_at lw_m7 181 rfl) rfl
theorem q1782 : (Jvm.Cond.privateMethod ({ cls := "NamesWeatherModel", name := "isDead", desc := "(I)Z" } : Jvm.MethodName)) ∈ lw_tbl := lw_at lw_m7 182 rfl
theorem q1783 : (Jvm.Cond.instanceMethod ({ cls := "NamesWeatherModel", name := "isDead", desc := "(I)Z" } : Jvm.MethodName)) ∈ lw_all := lw_g (lw_at lw_m7 183 rfl) rfl
theorem q1784 : (Jvm.Cond.code ({ cls := "NamesWeatherModel", name := "isDead", desc := "(I)Z" } : Jvm.MethodName) prog_21_method_15_code (2 : Nat) (Option.some Jvm.ClassFile.FieldType.boolean)) ∈ lw_all := lw_g (lw_at lw_m7 184 rfl) rfl
theorem q1785 : (Jvm.Cond.methodLink "NamesWeatherModel" (329 : Nat) ({ cls := "NamesWeatherModel", name := "keepsAhead", desc := "()V" } : Jvm.MethodName)) ∈ lw_all := lw_g (lw_at lw_m7 185 rfl) rfl
theorem q1786 : (Jvm.Cond.privateMethod ({ cls := "NamesWeatherModel", name := "keepsAhead", desc := "()V" } : Jvm.MethodName)) ∈ lw_tbl := lw_at lw_m7 186 rfl
theorem q1787 : (Jvm.Cond.instanceMethod ({ cls := "NamesWeatherModel", name := "keepsAhead", desc := "()V" } : Jvm.MethodName)) ∈ lw_all := lw_g (lw_at lw_m7 187 rfl) rfl
theorem q1788 : (Jvm.Cond.code ({ cls := "NamesWeatherModel", name := "keepsAhead", desc := "()V" } : Jvm.MethodName) prog_21_method_7_code (2 : Nat) (Option.none : Option Jvm.ClassFile.FieldType)) ∈ lw_all := lw_g (lw_at lw_m7 188 rfl) rfl
theorem q1789 : (Jvm.Cond.methodLink "NamesWeatherModel" (332 : Nat) ({ cls := "NamesWeatherModel", name := "calledAt", desc := "(III)I" } : Jvm.MethodName)) ∈ lw_all := lw_g (lw_at lw_m7 189 rfl) rfl
theorem q1790 : (Jvm.Cond.privateMethod ({ cls := "NamesWeatherModel", name := "calledAt", desc := "(III)I" } : Jvm.MethodName)) ∈ lw_tbl := lw_at lw_m7 190 rfl
theorem q1791 : (Jvm.Cond.instanceMethod ({ cls := "NamesWeatherModel", name := "calledAt", desc := "(III)I" } : Jvm.MethodName)) ∈ lw_all := lw_g (lw_at lw_m7 191 rfl) rfl
theorem q1792 : (Jvm.Cond.code ({ cls := "NamesWeatherModel", name := "calledAt", desc := "(III)I" } : Jvm.MethodName) prog_21_method_77_code (6 : Nat) (Option.some Jvm.ClassFile.FieldType.int)) ∈ lw_all := lw_g (lw_at lw_m7 192 rfl) rfl
theorem q1793 : (Jvm.Cond.methodLink "NamesWeatherModel" (288 : Nat) ({ cls := "NamesWeatherModel", name := "skyAt", desc := "(II)I" } : Jvm.MethodName)) ∈ lw_all := lw_g (lw_at lw_m7 193 rfl) rfl
theorem q1794 : (Jvm.Cond.privateMethod ({ cls := "NamesWeatherModel", name := "skyAt", desc := "(II)I" } : Jvm.MethodName)) ∈ lw_tbl := lw_at lw_m7 194 rfl
theorem q1795 : (Jvm.Cond.instanceMethod ({ cls := "NamesWeatherModel", name := "skyAt", desc := "(II)I" } : Jvm.MethodName)) ∈ lw_all := lw_g (lw_at lw_m7 195 rfl) rfl
theorem q1796 : (Jvm.Cond.code ({ cls := "NamesWeatherModel", name := "skyAt", desc := "(II)I" } : Jvm.MethodName) prog_21_method_16_code (3 : Nat) (Option.some Jvm.ClassFile.FieldType.int)) ∈ lw_all := lw_g (lw_at lw_m7 196 rfl) rfl
theorem q1797 : (Jvm.Cond.methodLink "NamesWeatherModel" (318 : Nat) ({ cls := "NamesWeatherModel", name := "addOf", desc := "(II)I" } : Jvm.MethodName)) ∈ lw_all := lw_g (lw_at lw_m7 197 rfl) rfl
theorem q1798 : (Jvm.Cond.privateMethod ({ cls := "NamesWeatherModel", name := "addOf", desc := "(II)I" } : Jvm.MethodName)) ∈ lw_tbl := lw_at lw_m7 198 rfl
theorem q1799 : (Jvm.Cond.instanceMethod ({ cls := "NamesWeatherModel", name := "addOf", desc := "(II)I" } : Jvm.MethodName)) ∈ lw_all := lw_g (lw_at lw_m7 199 rfl) rfl
theorem q1800 : (Jvm.Cond.code ({ cls := "NamesWeatherModel", name := "addOf", desc := "(II)I" } : Jvm.MethodName) prog_21_method_72_code (3 : Nat) (Option.some Jvm.ClassFile.FieldType.int)) ∈ lw_all := lw_g (lw_at lw_m7 200 rfl) rfl
theorem q1801 : (Jvm.Cond.methodLink "NamesWeatherModel" (306 : Nat) ({ cls := "NamesWeatherModel", name := "asksOf", desc := "(II)V" } : Jvm.MethodName)) ∈ lw_all := lw_g (lw_at lw_m7 201 rfl) rfl
theorem q1802 : (Jvm.Cond.privateMethod ({ cls := "NamesWeatherModel", name := "asksOf", desc := "(II)V" } : Jvm.MethodName)) ∈ lw_tbl := lw_at lw_m7 202 rfl
theorem q1803 : (Jvm.Cond.instanceMethod ({ cls := "NamesWeatherModel", name := "asksOf", desc := "(II)V" } : Jvm.MethodName)) ∈ lw_all := lw_g (lw_at lw_m7 203 rfl) rfl
theorem q1804 : (Jvm.Cond.code ({ cls := "NamesWeatherModel", name := "asksOf", desc := "(II)V" } : Jvm.MethodName) prog_21_method_70_code (3 : Nat) (Option.none : Option Jvm.ClassFile.FieldType)) ∈ lw_all := lw_g (lw_at lw_m7 204 rfl) rfl
theorem q1805 : (Jvm.Cond.methodLink "NamesWeatherModel" (300 : Nat) ({ cls := "NamesWeatherModel", name := "asks", desc := "(II)V" } : Jvm.MethodName)) ∈ lw_all := lw_g (lw_at lw_m7 205 rfl) rfl
theorem q1806 : (Jvm.Cond.privateMethod ({ cls := "NamesWeatherModel", name := "asks", desc := "(II)V" } : Jvm.MethodName)) ∈ lw_tbl := lw_at lw_m7 206 rfl
theorem q1807 : (Jvm.Cond.instanceMethod ({ cls := "NamesWeatherModel", name := "asks", desc := "(II)V" } : Jvm.MethodName)) ∈ lw_all := lw_g (lw_at lw_m7 207 rfl) rfl
theorem q1808 : (Jvm.Cond.code ({ cls := "NamesWeatherModel", name := "asks", desc := "(II)V" } : Jvm.MethodName) prog_21_method_69_code (3 : Nat) (Option.none : Option Jvm.ClassFile.FieldType)) ∈ lw_all := lw_g (lw_at lw_m7 208 rfl) rfl
theorem q1809 : (Jvm.Cond.methodLink "NamesWeatherModel" (291 : Nat) ({ cls := "NamesWeatherModel", name := "allAt", desc := "(I)I" } : Jvm.MethodName)) ∈ lw_all := lw_g (lw_at lw_m7 209 rfl) rfl
theorem q1810 : (Jvm.Cond.privateMethod ({ cls := "NamesWeatherModel", name := "allAt", desc := "(I)I" } : Jvm.MethodName)) ∈ lw_tbl := lw_at lw_m7 210 rfl
theorem q1811 : (Jvm.Cond.instanceMethod ({ cls := "NamesWeatherModel", name := "allAt", desc := "(I)I" } : Jvm.MethodName)) ∈ lw_all := lw_g (lw_at lw_m7 211 rfl) rfl
theorem q1812 : (Jvm.Cond.code ({ cls := "NamesWeatherModel", name := "allAt", desc := "(I)I" } : Jvm.MethodName) prog_21_method_67_code (4 : Nat) (Option.some Jvm.ClassFile.FieldType.int)) ∈ lw_all := lw_g (lw_at lw_m7 212 rfl) rfl
theorem q1813 : (Jvm.Cond.methodLink "NamesWeatherModel" (294 : Nat) ({ cls := "NamesWeatherModel", name := "thereAt", desc := "(II)I" } : Jvm.MethodName)) ∈ lw_all := lw_g (lw_at lw_m7 213 rfl) rfl
theorem q1814 : (Jvm.Cond.privateMethod ({ cls := "NamesWeatherModel", name := "thereAt", desc := "(II)I" } : Jvm.MethodName)) ∈ lw_tbl := lw_at lw_m7 214 rfl
theorem q1815 : (Jvm.Cond.instanceMethod ({ cls := "NamesWeatherModel", name := "thereAt", desc := "(II)I" } : Jvm.MethodName)) ∈ lw_all := lw_g (lw_at lw_m7 215 rfl) rfl
theorem q1816 : (Jvm.Cond.code ({ cls := "NamesWeatherModel", name := "thereAt", desc := "(II)I" } : Jvm.MethodName) prog_21_method_68_code (5 : Nat) (Option.some Jvm.ClassFile.FieldType.int)) ∈ lw_all := lw_g (lw_at lw_m7 216 rfl) rfl
theorem q1817 : (Jvm.Cond.methodLink "NamesWeatherModel" (297 : Nat) ({ cls := "NamesWeatherModel", name := "onesOf", desc := "(I)I" } : Jvm.MethodName)) ∈ lw_all := lw_g (lw_at lw_m7 217 rfl) rfl
theorem q1818 : (Jvm.Cond.privateMethod ({ cls := "NamesWeatherModel", name := "onesOf", desc := "(I)I" } : Jvm.MethodName)) ∈ lw_tbl := lw_at lw_m7 218 rfl
theorem q1819 : (Jvm.Cond.instanceMethod ({ cls := "NamesWeatherModel", name := "onesOf", desc := "(I)I" } : Jvm.MethodName)) ∈ lw_all := lw_g (lw_at lw_m7 219 rfl) rfl
theorem q1820 : (Jvm.Cond.code ({ cls := "NamesWeatherModel", name := "onesOf", desc := "(I)I" } : Jvm.MethodName) prog_21_method_6_code (4 : Nat) (Option.some Jvm.ClassFile.FieldType.int)) ∈ lw_all := lw_g (lw_at lw_m7 220 rfl) rfl
theorem q1821 : (Jvm.Cond.methodLink "NamesWeatherModel" (309 : Nat) ({ cls := "NamesWeatherModel", name := "lawTells", desc := "(III)I" } : Jvm.MethodName)) ∈ lw_all := lw_g (lw_at lw_m7 221 rfl) rfl
theorem q1822 : (Jvm.Cond.privateMethod ({ cls := "NamesWeatherModel", name := "lawTells", desc := "(III)I" } : Jvm.MethodName)) ∈ lw_tbl := lw_at lw_m7 222 rfl
theorem q1823 : (Jvm.Cond.instanceMethod ({ cls := "NamesWeatherModel", name := "lawTells", desc := "(III)I" } : Jvm.MethodName)) ∈ lw_all := lw_g (lw_at lw_m7 223 rfl) rfl
theorem q1824 : (Jvm.Cond.code ({ cls := "NamesWeatherModel", name := "lawTells", desc := "(III)I" } : Jvm.MethodName) prog_21_method_71_code (5 : Nat) (Option.some Jvm.ClassFile.FieldType.int)) ∈ lw_all := lw_g (lw_at lw_m7 224 rfl) rfl
theorem q1825 : (Jvm.Cond.methodLink "NamesWeatherModel" (303 : Nat) ({ cls := "NamesWeatherModel", name := "lineOf", desc := "(I)I" } : Jvm.MethodName)) ∈ lw_all := lw_g (lw_at lw_m7 225 rfl) rfl
theorem q1826 : (Jvm.Cond.privateMethod ({ cls := "NamesWeatherModel", name := "lineOf", desc := "(I)I" } : Jvm.MethodName)) ∈ lw_tbl := lw_at lw_m7 226 rfl
theorem q1827 : (Jvm.Cond.instanceMethod ({ cls := "NamesWeatherModel", name := "lineOf", desc := "(I)I" } : Jvm.MethodName)) ∈ lw_all := lw_g (lw_at lw_m7 227 rfl) rfl
theorem q1828 : (Jvm.Cond.code ({ cls := "NamesWeatherModel", name := "lineOf", desc := "(I)I" } : Jvm.MethodName) prog_21_method_66_code (3 : Nat) (Option.some Jvm.ClassFile.FieldType.int)) ∈ lw_all := lw_g (lw_at lw_m7 228 rfl) rfl
theorem q1829 : (Jvm.Cond.methodLink "NamesWeatherModel" (285 : Nat) ({ cls := "NamesWeatherModel", name := "runs", desc := "(III)I" } : Jvm.MethodName)) ∈ lw_all := lw_g (lw_at lw_m7 229 rfl) rfl
theorem q1830 : (Jvm.Cond.privateMethod ({ cls := "NamesWeatherModel", name := "runs", desc := "(III)I" } : Jvm.MethodName)) ∈ lw_tbl := lw_at lw_m7 230 rfl
theorem q1831 : (Jvm.Cond.instanceMethod ({ cls := "NamesWeatherModel", name := "runs", desc := "(III)I" } : Jvm.MethodName)) ∈ lw_all := lw_g (lw_at lw_m7 231 rfl) rfl
theorem q1832 : (Jvm.Cond.code ({ cls := "NamesWeatherModel", name := "runs", desc := "(III)I" } : Jvm.MethodName) prog_21_method_65_code (6 : Nat) (Option.some Jvm.ClassFile.FieldType.int)) ∈ lw_all := lw_g (lw_at lw_m7 232 rfl) rfl
theorem q1833 : (Jvm.Cond.methodLink "NamesWeatherModel" (282 : Nat) ({ cls := "NamesWeatherModel", name := "twoOf", desc := "(III)I" } : Jvm.MethodName)) ∈ lw_all := lw_g (lw_at lw_m7 233 rfl) rfl
theorem q1834 : (Jvm.Cond.privateMethod ({ cls := "NamesWeatherModel", name := "twoOf", desc := "(III)I" } : Jvm.MethodName)) ∈ lw_tbl := lw_at lw_m7 234 rfl
theorem q1835 : (Jvm.Cond.instanceMethod ({ cls := "NamesWeatherModel", name := "twoOf", desc := "(III)I" } : Jvm.MethodName)) ∈ lw_all := lw_g (lw_at lw_m7 235 rfl) rfl
theorem q1836 : (Jvm.Cond.code ({ cls := "NamesWeatherModel", name := "twoOf", desc := "(III)I" } : Jvm.MethodName) prog_21_method_64_code (4 : Nat) (Option.some Jvm.ClassFile.FieldType.int)) ∈ lw_all := lw_g (lw_at lw_m7 236 rfl) rfl
theorem q1837 : (Jvm.Cond.methodLink "NamesWeatherModel" (321 : Nat) ({ cls := "NamesWeatherModel", name := "notes", desc := "(IIII)V" } : Jvm.MethodName)) ∈ lw_all := lw_g (lw_at lw_m7 237 rfl) rfl
theorem q1838 : (Jvm.Cond.privateMethod ({ cls := "NamesWeatherModel", name := "notes", desc := "(IIII)V" } : Jvm.MethodName)) ∈ lw_tbl := lw_at lw_m7 238 rfl
theorem q1839 : (Jvm.Cond.instanceMethod ({ cls := "NamesWeatherModel", name := "notes", desc := "(IIII)V" } : Jvm.MethodName)) ∈ lw_all := lw_g (lw_at lw_m7 239 rfl) rfl
theorem q1840 : (Jvm.Cond.code ({ cls := "NamesWeatherModel", name := "notes", desc := "(IIII)V" } : Jvm.MethodName) prog_21_method_75_code (6 : Nat) (Option.none : Option Jvm.ClassFile.FieldType)) ∈ lw_all := lw_g (lw_at lw_m8 0 rfl) rfl
theorem q1842 : (Jvm.Cond.instanceMethod ({ cls := "NamesWeatherModel", name := "move", desc := "(II)Z" } : Jvm.MethodName)) ∈ lw_all := lw_g (lw_at lw_m8 2 rfl) rfl
theorem q1843 : (Jvm.Cond.selects "NamesWeatherModel" ({ cls := "NamesWeatherModel", name := "move", desc := "(II)Z" } : Jvm.MethodName) ({ cls := "NamesWeatherModel", name := "move", desc := "(II)Z" } : Jvm.MethodName)) ∈ lw_all := lw_g (lw_at lw_m8 3 rfl) rfl
theorem q1844 : (Jvm.Cond.code ({ cls := "NamesWeatherModel", name := "move", desc := "(II)Z" } : Jvm.MethodName) prog_21_method_82_code (3 : Nat) (Option.some Jvm.ClassFile.FieldType.boolean)) ∈ lw_all := lw_g (lw_at lw_m8 4 rfl) rfl
theorem q1845 : (Jvm.Cond.methodLink "NamesWeatherModel" (335 : Nat) ({ cls := "NamesWeatherModel", name := "canMove", desc := "(II)Z" } : Jvm.MethodName)) ∈ lw_all := lw_g (lw_at lw_m8 5 rfl) rfl
theorem q1846 : (Jvm.Cond.privateMethod ({ cls := "NamesWeatherModel", name := "canMove", desc := "(II)Z" } : Jvm.MethodName)) ∈ lw_tbl := lw_at lw_m8 6 rfl
theorem q1847 : (Jvm.Cond.instanceMethod ({ cls := "NamesWeatherModel", name := "canMove", desc := "(II)Z" } : Jvm.MethodName)) ∈ lw_all := lw_g (lw_at lw_m8 7 rfl) rfl
theorem q1848 : (Jvm.Cond.code ({ cls := "NamesWeatherModel", name := "canMove", desc := "(II)Z" } : Jvm.MethodName) prog_21_method_78_code (3 : Nat) (Option.some Jvm.ClassFile.FieldType.boolean)) ∈ lw_all := lw_g (lw_at lw_m8 8 rfl) rfl
theorem q1849 : (Jvm.Cond.methodLink "NamesWeatherModel" (338 : Nat) ({ cls := "NamesWeatherModel", name := "moves", desc := "(II)V" } : Jvm.MethodName)) ∈ lw_all := lw_g (lw_at lw_m8 9 rfl) rfl
theorem q1850 : (Jvm.Cond.privateMethod ({ cls := "NamesWeatherModel", name := "moves", desc := "(II)V" } : Jvm.MethodName)) ∈ lw_tbl := lw_at lw_m8 10 rfl
theorem q1851 : (Jvm.Cond.instanceMethod ({ cls := "NamesWeatherModel", name := "moves", desc := "(II)V" } : Jvm.MethodName)) ∈ lw_all := lw_g (lw_at lw_m8 11 rfl) rfl
theorem q1852 : (Jvm.Cond.code ({ cls := "NamesWeatherModel", name := "moves", desc := "(II)V" } : Jvm.MethodName) prog_21_method_79_code (3 : Nat) (Option.none : Option Jvm.ClassFile.FieldType)) ∈ lw_all := lw_g (lw_at lw_m8 12 rfl) rfl
theorem q1854 : (Jvm.Cond.instanceMethod ({ cls := "NamesWeatherModel", name := "bury", desc := "(I)Z" } : Jvm.MethodName)) ∈ lw_all := lw_g (lw_at lw_m8 14 rfl) rfl
theorem q1855 : (Jvm.Cond.selects "NamesWeatherModel" ({ cls := "NamesWeatherModel", name := "bury", desc := "(I)Z" } : Jvm.MethodName) ({ cls := "NamesWeatherModel", name := "bury", desc := "(I)Z" } : Jvm.MethodName)) ∈ lw_all := lw_g (lw_at lw_m8 15 rfl) rfl
theorem q1856 : (Jvm.Cond.code ({ cls := "NamesWeatherModel", name := "bury", desc := "(I)Z" } : Jvm.MethodName) prog_21_method_83_code (2 : Nat) (Option.some Jvm.ClassFile.FieldType.boolean)) ∈ lw_all := lw_g (lw_at lw_m8 16 rfl) rfl
theorem q1857 : (Jvm.Cond.methodLink "NamesWeatherModel" (341 : Nat) ({ cls := "NamesWeatherModel", name := "buries", desc := "(I)V" } : Jvm.MethodName)) ∈ lw_all := lw_g (lw_at lw_m8 17 rfl) rfl
theorem q1858 : (Jvm.Cond.privateMethod ({ cls := "NamesWeatherModel", name := "buries", desc := "(I)V" } : Jvm.MethodName)) ∈ lw_tbl := lw_at lw_m8 18 rfl
theorem q1859 : (Jvm.Cond.instanceMethod ({ cls := "NamesWeatherModel", name := "buries", desc := "(I)V" } : Jvm.MethodName)) ∈ lw_all := lw_g (lw_at lw_m8 19 rfl) rfl
theorem q1860 : (Jvm.Cond.code ({ cls := "NamesWeatherModel", name := "buries", desc := "(I)V" } : Jvm.MethodName) prog_21_method_80_code (2 : Nat) (Option.none : Option Jvm.ClassFile.FieldType)) ∈ lw_all := lw_g (lw_at lw_m8 20 rfl) rfl
theorem q1862 : (Jvm.Cond.instanceMethod ({ cls := "NamesWeatherModel", name := "birth", desc := "(I)I" } : Jvm.MethodName)) ∈ lw_all := lw_g (lw_at lw_m8 22 rfl) rfl
theorem q1863 : (Jvm.Cond.selects "NamesWeatherModel" ({ cls := "NamesWeatherModel", name := "birth", desc := "(I)I" } : Jvm.MethodName) ({ cls := "NamesWeatherModel", name := "birth", desc := "(I)I" } : Jvm.MethodName)) ∈ lw_all := lw_g (lw_at lw_m8 23 rfl) rfl
theorem q1864 : (Jvm.Cond.code ({ cls := "NamesWeatherModel", name := "birth", desc := "(I)I" } : Jvm.MethodName) prog_21_method_86_code (3 : Nat) (Option.some Jvm.ClassFile.FieldType.int)) ∈ lw_all := lw_g (lw_at lw_m8 24 rfl) rfl
theorem q1865 : (Jvm.Cond.methodLink "NamesWeatherModel" (344 : Nat) ({ cls := "NamesWeatherModel", name := "mostAt", desc := "(I)I" } : Jvm.MethodName)) ∈ lw_all := lw_g (lw_at lw_m8 25 rfl) rfl
theorem q1866 : (Jvm.Cond.privateMethod ({ cls := "NamesWeatherModel", name := "mostAt", desc := "(I)I" } : Jvm.MethodName)) ∈ lw_tbl := lw_at lw_m8 26 rfl
theorem q1867 : (Jvm.Cond.instanceMethod ({ cls := "NamesWeatherModel", name := "mostAt", desc := "(I)I" } : Jvm.MethodName)) ∈ lw_all := lw_g (lw_at lw_m8 27 rfl) rfl
theorem q1868 : (Jvm.Cond.code ({ cls := "NamesWeatherModel", name := "mostAt", desc := "(I)I" } : Jvm.MethodName) prog_21_method_84_code (4 : Nat) (Option.some Jvm.ClassFile.FieldType.int)) ∈ lw_all := lw_g (lw_at lw_m8 28 rfl) rfl
theorem q1869 : (Jvm.Cond.methodLink "NamesWeatherModel" (347 : Nat) ({ cls := "NamesWeatherModel", name := "strengthAt", desc := "(I)I" } : Jvm.MethodName)) ∈ lw_all := lw_g (lw_at lw_m8 29 rfl) rfl
theorem q1870 : (Jvm.Cond.privateMethod ({ cls := "NamesWeatherModel", name := "strengthAt", desc := "(I)I" } : Jvm.MethodName)) ∈ lw_tbl := lw_at lw_m8 30 rfl
theorem q1871 : (Jvm.Cond.instanceMethod ({ cls := "NamesWeatherModel", name := "strengthAt", desc := "(I)I" } : Jvm.MethodName)) ∈ lw_all := lw_g (lw_at lw_m8 31 rfl) rfl
theorem q1872 : (Jvm.Cond.code ({ cls := "NamesWeatherModel", name := "strengthAt", desc := "(I)I" } : Jvm.MethodName) prog_21_method_85_code (2 : Nat) (Option.some Jvm.ClassFile.FieldType.int)) ∈ lw_all := lw_g (lw_at lw_m8 32 rfl) rfl
theorem q1874 : (Jvm.Cond.instanceMethod ({ cls := "NamesWeatherModel", name := "days", desc := "(I)I" } : Jvm.MethodName)) ∈ lw_all := lw_g (lw_at lw_m8 34 rfl) rfl
theorem q1875 : (Jvm.Cond.selects "NamesWeatherModel" ({ cls := "NamesWeatherModel", name := "days", desc := "(I)I" } : Jvm.MethodName) ({ cls := "NamesWeatherModel", name := "days", desc := "(I)I" } : Jvm.MethodName)) ∈ lw_all := lw_g (lw_at lw_m8 35 rfl) rfl
theorem q1876 : (Jvm.Cond.code ({ cls := "NamesWeatherModel", name := "days", desc := "(I)I" } : Jvm.MethodName) prog_21_method_95_code (4 : Nat) (Option.some Jvm.ClassFile.FieldType.int)) ∈ lw_all := lw_g (lw_at lw_m8 36 rfl) rfl
theorem q1877 : (Jvm.Cond.methodLink "NamesWeatherModel" (374 : Nat) ({ cls := "NamesWeatherModel", name := "goesIn", desc := "()V" } : Jvm.MethodName)) ∈ lw_all := lw_g (lw_at lw_m8 37 rfl) rfl
theorem q1878 : (Jvm.Cond.privateMethod ({ cls := "NamesWeatherModel", name := "goesIn", desc := "()V" } : Jvm.MethodName)) ∈ lw_tbl := lw_at lw_m8 38 rfl
theorem q1879 : (Jvm.Cond.instanceMethod ({ cls := "NamesWeatherModel", name := "goesIn", desc := "()V" } : Jvm.MethodName)) ∈ lw_all := lw_g (lw_at lw_m8 39 rfl) rfl
theorem q1880 : (Jvm.Cond.code ({ cls := "NamesWeatherModel", name := "goesIn", desc := "()V" } : Jvm.MethodName) prog_21_method_93_code (2 : Nat) (Option.none : Option Jvm.ClassFile.FieldType)) ∈ lw_all := lw_g (lw_at lw_m8 40 rfl) rfl
theorem q1881 : (Jvm.Cond.methodLink "NamesWeatherModel" (356 : Nat) ({ cls := "NamesWeatherModel", name := "does", desc := "(I)V" } : Jvm.MethodName)) ∈ lw_all := lw_g (lw_at lw_m8 41 rfl) rfl
theorem q1882 : (Jvm.Cond.privateMethod ({ cls := "NamesWeatherModel", name := "does", desc := "(I)V" } : Jvm.MethodName)) ∈ lw_tbl := lw_at lw_m8 42 rfl
theorem q1883 : (Jvm.Cond.instanceMethod ({ cls := "NamesWeatherModel", name := "does", desc := "(I)V" } : Jvm.MethodName)) ∈ lw_all := lw_g (lw_at lw_m8 43 rfl) rfl
theorem q1884 : (Jvm.Cond.code ({ cls := "NamesWeatherModel", name := "does", desc := "(I)V" } : Jvm.MethodName) prog_21_method_87_code (4 : Nat) (Option.none : Option Jvm.ClassFile.FieldType)) ∈ lw_all := lw_g (lw_at lw_m8 44 rfl) rfl
theorem q1885 : (Jvm.Cond.methodLink "NamesWeatherModel" (359 : Nat) ({ cls := "NamesWeatherModel", name := "quenches", desc := "()V" } : Jvm.MethodName)) ∈ lw_all := lw_g (lw_at lw_m8 45 rfl) rfl
theorem q1886 : (Jvm.Cond.privateMethod ({ cls := "NamesWeatherModel", name := "quenches", desc := "()V" } : Jvm.MethodName)) ∈ lw_tbl := lw_at lw_m8 46 rfl
theorem q1887 : (Jvm.Cond.instanceMethod ({ cls := "NamesWeatherModel", name := "quenches", desc := "()V" } : Jvm.MethodName)) ∈ lw_all := lw_g (lw_at lw_m8 47 rfl) rfl
theorem q1888 : (Jvm.Cond.code ({ cls := "NamesWeatherModel", name := "quenches", desc := "()V" } : Jvm.MethodName) prog_21_method_88_code (3 : Nat) (Option.none : Option Jvm.ClassFile.FieldType)) ∈ lw_all := lw_g (lw_at lw_m8 48 rfl) rfl
theorem q1889 : (Jvm.Cond.methodLink "NamesWeatherModel" (377 : Nat) ({ cls := "NamesWeatherModel", name := "goesOut", desc := "()I" } : Jvm.MethodName)) ∈ lw_all := lw_g (lw_at lw_m8 49 rfl) rfl
theorem q1890 : (Jvm.Cond.privateMethod ({ cls := "NamesWeatherModel", name := "goesOut", desc := "()I" } : Jvm.MethodName)) ∈ lw_tbl := lw_at lw_m8 50 rfl
theorem q1891 : (Jvm.Cond.instanceMethod ({ cls := "NamesWeatherModel", name := "goesOut", desc := "()I" } : Jvm.MethodName)) ∈ lw_all := lw_g (lw_at lw_m8 51 rfl) rfl
theorem q1892 : (Jvm.Cond.code ({ cls := "NamesWeatherModel", name := "goesOut", desc := "()I" } : Jvm.MethodName) prog_21_method_94_code (2 : Nat) (Option.some Jvm.ClassFile.FieldType.int)) ∈ lw_all := lw_g (lw_at lw_m8 52 rfl) rfl
theorem q1893 : (Jvm.Cond.methodLink "NamesWeatherModel" (362 : Nat) ({ cls := "NamesWeatherModel", name := "blows", desc := "()V" } : Jvm.MethodName)) ∈ lw_all := lw_g (lw_at lw_m8 53 rfl) rfl
theorem q1894 : (Jvm.Cond.privateMethod ({ cls := "NamesWeatherModel", name := "blows", desc := "()V" } : Jvm.MethodName)) ∈ lw_tbl := lw_at lw_m8 54 rfl
theorem q1895 : (Jvm.Cond.instanceMethod ({ cls := "NamesWeatherModel", name := "blows", desc := "()V" } : Jvm.MethodName)) ∈ lw_all := lw_g (lw_at lw_m8 55 rfl) rfl
theorem q1896 : (Jvm.Cond.code ({ cls := "NamesWeatherModel", name := "blows", desc := "()V" } : Jvm.MethodName) prog_21_method_89_code (4 : Nat) (Option.none : Option Jvm.ClassFile.FieldType)) ∈ lw_all := lw_g (lw_at lw_m8 56 rfl) rfl
theorem q1897 : (Jvm.Cond.methodLink "NamesWeatherModel" (365 : Nat) ({ cls := "NamesWeatherModel", name := "fades", desc := "()V" } : Jvm.MethodName)) ∈ lw_all := lw_g (lw_at lw_m8 57 rfl) rfl
theorem q1898 : (Jvm.Cond.privateMethod ({ cls := "NamesWeatherModel", name := "fades", desc := "()V" } : Jvm.MethodName)) ∈ lw_tbl := lw_at lw_m8 58 rfl
theorem q1899 : (Jvm.Cond.instanceMethod ({ cls := "NamesWeatherModel", name := "fades", desc := "()V" } : Jvm.MethodName)) ∈ lw_all := lw_g (lw_at lw_m8 59 rfl) rfl
theorem q1900 : (Jvm.Cond.code ({ cls := "NamesWeatherModel", name := "fades", desc := "()V" } : Jvm.MethodName) prog_21_method_90_code (3 : Nat) (Option.none : Option Jvm.ClassFile.FieldType)) ∈ lw_all := lw_g (lw_at lw_m8 60 rfl) rfl
theorem q1901 : (Jvm.Cond.methodLink "NamesWeatherModel" (350 : Nat) ({ cls := "NamesWeatherModel", name := "fadeOf", desc := "(II)I" } : Jvm.MethodName)) ∈ lw_all := lw_g (lw_at lw_m8 61 rfl) rfl
theorem q1902 : (Jvm.Cond.privateMethod ({ cls := "NamesWeatherModel", name := "fadeOf", desc := "(II)I" } : Jvm.MethodName)) ∈ lw_tbl := lw_at lw_m8 62 rfl
theorem q1903 : (Jvm.Cond.instanceMethod ({ cls := "NamesWeatherModel", name := "fadeOf", desc := "(II)I" } : Jvm.MethodName)) ∈ lw_all := lw_g (lw_at lw_m8 63 rfl) rfl
theorem q1904 : (Jvm.Cond.code ({ cls := "NamesWeatherModel", name := "fadeOf", desc := "(II)I" } : Jvm.MethodName) prog_21_method_74_code (3 : Nat) (Option.some Jvm.ClassFile.FieldType.int)) ∈ lw_all := lw_g (lw_at lw_m8 64 rfl) rfl
theorem q1905 : (Jvm.Cond.methodLink "NamesWeatherModel" (368 : Nat) ({ cls := "NamesWeatherModel", name := "keepsGraves", desc := "()V" } : Jvm.MethodName)) ∈ lw_all := lw_g (lw_at lw_m8 65 rfl) rfl
theorem q1906 : (Jvm.Cond.privateMethod ({ cls := "NamesWeatherModel", name := "keepsGraves", desc := "()V" } : Jvm.MethodName)) ∈ lw_tbl := lw_at lw_m8 66 rfl
theorem q1907 : (Jvm.Cond.instanceMethod ({ cls := "NamesWeatherModel", name := "keepsGraves", desc := "()V" } : Jvm.MethodName)) ∈ lw_all := lw_g (lw_at lw_m8 67 rfl) rfl
theorem q1908 : (Jvm.Cond.code ({ cls := "NamesWeatherModel", name := "keepsGraves", desc := "()V" } : Jvm.MethodName) prog_21_method_91_code (4 : Nat) (Option.none : Option Jvm.ClassFile.FieldType)) ∈ lw_all := lw_g (lw_at lw_m8 68 rfl) rfl
theorem q1909 : (Jvm.Cond.methodLink "NamesWeatherModel" (371 : Nat) ({ cls := "NamesWeatherModel", name := "cries", desc := "()I" } : Jvm.MethodName)) ∈ lw_all := lw_g (lw_at lw_m8 69 rfl) rfl
theorem q1910 : (Jvm.Cond.privateMethod ({ cls := "NamesWeatherModel", name := "cries", desc := "()I" } : Jvm.MethodName)) ∈ lw_tbl := lw_at lw_m8 70 rfl
theorem q1911 : (Jvm.Cond.instanceMethod ({ cls := "NamesWeatherModel", name := "cries", desc := "()I" } : Jvm.MethodName)) ∈ lw_all := lw_g (lw_at lw_m8 71 rfl) rfl
theorem q1912 : (Jvm.Cond.code ({ cls := "NamesWeatherModel", name := "cries", desc := "()I" } : Jvm.MethodName) prog_21_method_92_code (3 : Nat) (Option.some Jvm.ClassFile.FieldType.int)) ∈ lw_all := lw_g (lw_at lw_m8 72 rfl) rfl
theorem q1913 : (Jvm.Cond.methodLink "NamesWeatherModel" (353 : Nat) ({ cls := "NamesWeatherModel", name := "draw", desc := "(I)I" } : Jvm.MethodName)) ∈ lw_all := lw_g (lw_at lw_m8 73 rfl) rfl
theorem q1914 : (Jvm.Cond.privateMethod ({ cls := "NamesWeatherModel", name := "draw", desc := "(I)I" } : Jvm.MethodName)) ∈ lw_tbl := lw_at lw_m8 74 rfl
theorem q1915 : (Jvm.Cond.instanceMethod ({ cls := "NamesWeatherModel", name := "draw", desc := "(I)I" } : Jvm.MethodName)) ∈ lw_all := lw_g (lw_at lw_m8 75 rfl) rfl
theorem q1916 : (Jvm.Cond.code ({ cls := "NamesWeatherModel", name := "draw", desc := "(I)I" } : Jvm.MethodName) prog_21_method_12_code (2 : Nat) (Option.some Jvm.ClassFile.FieldType.int)) ∈ lw_all := lw_g (lw_at lw_m8 76 rfl) rfl
theorem q1917 : (Jvm.Cond.constant "NamesWeatherModel" (96 : Nat) (1664525 : Int32)) ∈ lw_all := lw_g (lw_at lw_m8 77 rfl) rfl
theorem q1918 : (Jvm.Cond.constant "NamesWeatherModel" (97 : Nat) (1013904223 : Int32)) ∈ lw_all := lw_g (lw_at lw_m8 78 rfl) rfl
theorem q1920 : (Jvm.Cond.instanceMethod ({ cls := "NamesWeatherModel", name := "of", desc := "(II)I" } : Jvm.MethodName)) ∈ lw_all := lw_g (lw_at lw_m8 80 rfl) rfl
theorem q1921 : (Jvm.Cond.selects "NamesWeatherModel" ({ cls := "NamesWeatherModel", name := "of", desc := "(II)I" } : Jvm.MethodName) ({ cls := "NamesWeatherModel", name := "of", desc := "(II)I" } : Jvm.MethodName)) ∈ lw_all := lw_g (lw_at lw_m8 81 rfl) rfl
theorem q1922 : (Jvm.Cond.code ({ cls := "NamesWeatherModel", name := "of", desc := "(II)I" } : Jvm.MethodName) prog_21_method_96_code (3 : Nat) (Option.some Jvm.ClassFile.FieldType.int)) ∈ lw_all := lw_g (lw_at lw_m8 82 rfl) rfl
theorem q1923 : (Jvm.Cond.methodLink "NamesWeatherModel" (380 : Nat) ({ cls := "NamesWeatherModel", name := "costOf", desc := "(I)I" } : Jvm.MethodName)) ∈ lw_all := lw_g (lw_at lw_m8 83 rfl) rfl
theorem q1924 : (Jvm.Cond.privateMethod ({ cls := "NamesWeatherModel", name := "costOf", desc := "(I)I" } : Jvm.MethodName)) ∈ lw_tbl := lw_at lw_m8 84 rfl
theorem q1925 : (Jvm.Cond.instanceMethod ({ cls := "NamesWeatherModel", name := "costOf", desc := "(I)I" } : Jvm.MethodName)) ∈ lw_all := lw_g (lw_at lw_m8 85 rfl) rfl
theorem q1926 : (Jvm.Cond.code ({ cls := "NamesWeatherModel", name := "costOf", desc := "(I)I" } : Jvm.MethodName) prog_21_method_73_code (2 : Nat) (Option.some Jvm.ClassFile.FieldType.int)) ∈ lw_all := lw_g (lw_at lw_m8 86 rfl) rfl
theorem q1928 : (Jvm.Cond.instanceMethod ({ cls := "NamesWeatherModel", name := "skyOf", desc := "(III)I" } : Jvm.MethodName)) ∈ lw_all := lw_g (lw_at lw_m8 88 rfl) rfl
theorem q1929 : (Jvm.Cond.selects "NamesWeatherModel" ({ cls := "NamesWeatherModel", name := "skyOf", desc := "(III)I" } : Jvm.MethodName) ({ cls := "NamesWeatherModel", name := "skyOf", desc := "(III)I" } : Jvm.MethodName)) ∈ lw_all := lw_g (lw_at lw_m8 89 rfl) rfl
theorem q1930 : (Jvm.Cond.code ({ cls := "NamesWeatherModel", name := "skyOf", desc := "(III)I" } : Jvm.MethodName) prog_21_method_99_code (5 : Nat) (Option.some Jvm.ClassFile.FieldType.int)) ∈ lw_all := lw_g (lw_at lw_m8 90 rfl) rfl
theorem q1931 : (Jvm.Cond.methodLink "NamesWeatherModel" (383 : Nat) ({ cls := "NamesWeatherModel", name := "isSky", desc := "(II)Z" } : Jvm.MethodName)) ∈ lw_all := lw_g (lw_at lw_m8 91 rfl) rfl
theorem q1932 : (Jvm.Cond.privateMethod ({ cls := "NamesWeatherModel", name := "isSky", desc := "(II)Z" } : Jvm.MethodName)) ∈ lw_tbl := lw_at lw_m8 92 rfl
theorem q1933 : (Jvm.Cond.instanceMethod ({ cls := "NamesWeatherModel", name := "isSky", desc := "(II)Z" } : Jvm.MethodName)) ∈ lw_all := lw_g (lw_at lw_m8 93 rfl) rfl
theorem q1934 : (Jvm.Cond.code ({ cls := "NamesWeatherModel", name := "isSky", desc := "(II)Z" } : Jvm.MethodName) prog_21_method_97_code (3 : Nat) (Option.some Jvm.ClassFile.FieldType.boolean)) ∈ lw_all := lw_g (lw_at lw_m8 94 rfl) rfl
theorem q1935 : (Jvm.Cond.methodLink "NamesWeatherModel" (386 : Nat) ({ cls := "NamesWeatherModel", name := "thinks", desc := "()V" } : Jvm.MethodName)) ∈ lw_all := lw_g (lw_at lw_m8 95 rfl) rfl
theorem q1936 : (Jvm.Cond.privateMethod ({ cls := "NamesWeatherModel", name := "thinks", desc := "()V" } : Jvm.MethodName)) ∈ lw_tbl := lw_at lw_m8 96 rfl
theorem q1937 : (Jvm.Cond.instanceMethod ({ cls := "NamesWeatherModel", name := "thinks", desc := "()V" } : Jvm.MethodName)) ∈ lw_all := lw_g (lw_at lw_m8 97 rfl) rfl
theorem q1938 : (Jvm.Cond.code ({ cls := "NamesWeatherModel", name := "thinks", desc := "()V" } : Jvm.MethodName) prog_21_method_9_code (2 : Nat) (Option.none : Option Jvm.ClassFile.FieldType)) ∈ lw_all := lw_g (lw_at lw_m8 98 rfl) rfl
theorem q1939 : (Jvm.Cond.methodLink "NamesWeatherModel" (389 : Nat) ({ cls := "NamesWeatherModel", name := "goesFor", desc := "(I)V" } : Jvm.MethodName)) ∈ lw_all := lw_g (lw_at lw_m8 99 rfl) rfl
theorem q1940 : (Jvm.Cond.privateMethod ({ cls := "NamesWeatherModel", name := "goesFor", desc := "(I)V" } : Jvm.MethodName)) ∈ lw_tbl := lw_at lw_m8 100 rfl
theorem q1941 : (Jvm.Cond.instanceMethod ({ cls := "NamesWeatherModel", name := "goesFor", desc := "(I)V" } : Jvm.MethodName)) ∈ lw_all := lw_g (lw_at lw_m8 101 rfl) rfl
theorem q1942 : (Jvm.Cond.code ({ cls := "NamesWeatherModel", name := "goesFor", desc := "(I)V" } : Jvm.MethodName) prog_21_method_98_code (3 : Nat) (Option.none : Option Jvm.ClassFile.FieldType)) ∈ lw_all := lw_g (lw_at lw_m8 102 rfl) rfl
theorem q1943 : (Jvm.Cond.methodLink "NamesWeatherModel" (392 : Nat) ({ cls := "NamesWeatherModel", name := "endsThought", desc := "()V" } : Jvm.MethodName)) ∈ lw_all := lw_g (lw_at lw_m8 103 rfl) rfl
theorem q1944 : (Jvm.Cond.privateMethod ({ cls := "NamesWeatherModel", name := "endsThought", desc := "()V" } : Jvm.MethodName)) ∈ lw_tbl := lw_at lw_m8 104 rfl
theorem q1945 : (Jvm.Cond.instanceMethod ({ cls := "NamesWeatherModel", name := "endsThought", desc := "()V" } : Jvm.MethodName)) ∈ lw_all := lw_g (lw_at lw_m8 105 rfl) rfl
theorem q1946 : (Jvm.Cond.code ({ cls := "NamesWeatherModel", name := "endsThought", desc := "()V" } : Jvm.MethodName) prog_21_method_10_code (2 : Nat) (Option.none : Option Jvm.ClassFile.FieldType)) ∈ lw_all := lw_g (lw_at lw_m8 106 rfl) rfl
theorem q1948 : (Jvm.Cond.instanceMethod ({ cls := "NamesWeatherModel", name := "at", desc := "(II)I" } : Jvm.MethodName)) ∈ lw_all := lw_g (lw_at lw_m8 108 rfl) rfl
theorem q1949 : (Jvm.Cond.selects "NamesWeatherModel" ({ cls := "NamesWeatherModel", name := "at", desc := "(II)I" } : Jvm.MethodName) ({ cls := "NamesWeatherModel", name := "at", desc := "(II)I" } : Jvm.MethodName)) ∈ lw_all := lw_g (lw_at lw_m8 109 rfl) rfl
theorem q1950 : (Jvm.Cond.code ({ cls := "NamesWeatherModel", name := "at", desc := "(II)I" } : Jvm.MethodName) prog_21_method_100_code (3 : Nat) (Option.some Jvm.ClassFile.FieldType.int)) ∈ lw_all := lw_g (lw_at lw_m8 110 rfl) rfl
theorem q1952 : (Jvm.Cond.instanceMethod ({ cls := "NamesWeatherModel", name := "clash", desc := "(II)I" } : Jvm.MethodName)) ∈ lw_all := lw_g (lw_at lw_m8 112 rfl) rfl
theorem q1953 : (Jvm.Cond.selects "NamesWeatherModel" ({ cls := "NamesWeatherModel", name := "clash", desc := "(II)I" } : Jvm.MethodName) ({ cls := "NamesWeatherModel", name := "clash", desc := "(II)I" } : Jvm.MethodName)) ∈ lw_all := lw_g (lw_at lw_m8 113 rfl) rfl
theorem q1954 : (Jvm.Cond.code ({ cls := "NamesWeatherModel", name := "clash", desc := "(II)I" } : Jvm.MethodName) prog_21_method_102_code (3 : Nat) (Option.some Jvm.ClassFile.FieldType.int)) ∈ lw_all := lw_g (lw_at lw_m8 114 rfl) rfl
theorem q1955 : (Jvm.Cond.methodLink "NamesWeatherModel" (395 : Nat) ({ cls := "NamesWeatherModel", name := "doClash", desc := "(II)Z" } : Jvm.MethodName)) ∈ lw_all := lw_g (lw_at lw_m8 115 rfl) rfl
theorem q1956 : (Jvm.Cond.privateMethod ({ cls := "NamesWeatherModel", name := "doClash", desc := "(II)Z" } : Jvm.MethodName)) ∈ lw_tbl := lw_at lw_m8 116 rfl
theorem q1957 : (Jvm.Cond.instanceMethod ({ cls := "NamesWeatherModel", name := "doClash", desc := "(II)Z" } : Jvm.MethodName)) ∈ lw_all := lw_g (lw_at lw_m8 117 rfl) rfl
theorem q1958 : (Jvm.Cond.code ({ cls := "NamesWeatherModel", name := "doClash", desc := "(II)Z" } : Jvm.MethodName) prog_21_method_101_code (4 : Nat) (Option.some Jvm.ClassFile.FieldType.boolean)) ∈ lw_all := lw_g (lw_at lw_m8 118 rfl) rfl
theorem q1960 : (Jvm.Cond.instanceMethod ({ cls := "NamesWeatherModel", name := "book", desc := "(II)I" } : Jvm.MethodName)) ∈ lw_all := lw_g (lw_at lw_m8 120 rfl) rfl
theorem q1961 : (Jvm.Cond.selects "NamesWeatherModel" ({ cls := "NamesWeatherModel", name := "book", desc := "(II)I" } : Jvm.MethodName) ({ cls := "NamesWeatherModel", name := "book", desc := "(II)I" } : Jvm.MethodName)) ∈ lw_all := lw_g (lw_at lw_m8 121 rfl) rfl
theorem q1962 : (Jvm.Cond.code ({ cls := "NamesWeatherModel", name := "book", desc := "(II)I" } : Jvm.MethodName) prog_21_method_103_code (3 : Nat) (Option.some Jvm.ClassFile.FieldType.int)) ∈ lw_all := lw_g (lw_at lw_m8 122 rfl) rfl
theorem q1964 : (Jvm.Cond.instanceMethod ({ cls := "NamesWeatherModel", name := "meets", desc := "(I)I" } : Jvm.MethodName)) ∈ lw_all := lw_g (lw_at lw_m8 124 rfl) rfl
theorem q1965 : (Jvm.Cond.selects "NamesWeatherModel" ({ cls := "NamesWeatherModel", name := "meets", desc := "(I)I" } : Jvm.MethodName) ({ cls := "NamesWeatherModel", name := "meets", desc := "(I)I" } : Jvm.MethodName)) ∈ lw_all := lw_g (lw_at lw_m8 125 rfl) rfl
theorem q1966 : (Jvm.Cond.code ({ cls := "NamesWeatherModel", name := "meets", desc := "(I)I" } : Jvm.MethodName) prog_21_method_107_code (6 : Nat) (Option.some Jvm.ClassFile.FieldType.int)) ∈ lw_all := lw_g (lw_at lw_m8 126 rfl) rfl
theorem q1967 : (Jvm.Cond.methodLink "NamesWeatherModel" (404 : Nat) ({ cls := "NamesWeatherModel", name := "lastWanted", desc := "()I" } : Jvm.MethodName)) ∈ lw_all := lw_g (lw_at lw_m8 127 rfl) rfl
theorem q1968 : (Jvm.Cond.privateMethod ({ cls := "NamesWeatherModel", name := "lastWanted", desc := "()I" } : Jvm.MethodName)) ∈ lw_tbl := lw_at lw_m8 128 rfl
theorem q1969 : (Jvm.Cond.instanceMethod ({ cls := "NamesWeatherModel", name := "lastWanted", desc := "()I" } : Jvm.MethodName)) ∈ lw_all := lw_g (lw_at lw_m8 129 rfl) rfl
theorem q1970 : (Jvm.Cond.code ({ cls := "NamesWeatherModel", name := "lastWanted", desc := "()I" } : Jvm.MethodName) prog_21_method_106_code (3 : Nat) (Option.some Jvm.ClassFile.FieldType.int)) ∈ lw_all := lw_g (lw_at lw_m8 130 rfl) rfl
theorem q1971 : (Jvm.Cond.methodLink "NamesWeatherModel" (398 : Nat) ({ cls := "NamesWeatherModel", name := "ofWant", desc := "(II)I" } : Jvm.MethodName)) ∈ lw_all := lw_g (lw_at lw_m8 131 rfl) rfl
theorem q1972 : (Jvm.Cond.privateMethod ({ cls := "NamesWeatherModel", name := "ofWant", desc := "(II)I" } : Jvm.MethodName)) ∈ lw_tbl := lw_at lw_m8 132 rfl
theorem q1973 : (Jvm.Cond.instanceMethod ({ cls := "NamesWeatherModel", name := "ofWant", desc := "(II)I" } : Jvm.MethodName)) ∈ lw_all := lw_g (lw_at lw_m8 133 rfl) rfl
theorem q1974 : (Jvm.Cond.code ({ cls := "NamesWeatherModel", name := "ofWant", desc := "(II)I" } : Jvm.MethodName) prog_21_method_104_code (3 : Nat) (Option.some Jvm.ClassFile.FieldType.int)) ∈ lw_all := lw_g (lw_at lw_m8 134 rfl) rfl
theorem q1975 : (Jvm.Cond.methodLink "NamesWeatherModel" (401 : Nat) ({ cls := "NamesWeatherModel", name := "greater", desc := "(II)I" } : Jvm.MethodName)) ∈ lw_all := lw_g (lw_at lw_m8 135 rfl) rfl
theorem q1976 : (Jvm.Cond.privateMethod ({ cls := "NamesWeatherModel", name := "greater", desc := "(II)I" } : Jvm.MethodName)) ∈ lw_tbl := lw_at lw_m8 136 rfl
theorem q1977 : (Jvm.Cond.instanceMethod ({ cls := "NamesWeatherModel", name := "greater", desc := "(II)I" } : Jvm.MethodName)) ∈ lw_all := lw_g (lw_at lw_m8 137 rfl) rfl
theorem q1978 : (Jvm.Cond.code ({ cls := "NamesWeatherModel", name := "greater", desc := "(II)I" } : Jvm.MethodName) prog_21_method_5_code (3 : Nat) (Option.some Jvm.ClassFile.FieldType.int)) ∈ lw_all := lw_g (lw_at lw_m8 138 rfl) rfl
theorem q1979 : (Jvm.Cond.methodLink "NamesWeatherModel" (407 : Nat) ({ cls := "NamesWeatherModel", name := "isMet", desc := "(I)Z" } : Jvm.MethodName)) ∈ lw_all := lw_g (lw_at lw_m8 139 rfl) rfl
theorem q1980 : (Jvm.Cond.privateMethod ({ cls := "NamesWeatherModel", name := "isMet", desc := "(I)Z" } : Jvm.MethodName)) ∈ lw_tbl := lw_at lw_m8 140 rfl
theorem q1981 : (Jvm.Cond.instanceMethod ({ cls := "NamesWeatherModel", name := "isMet", desc := "(I)Z" } : Jvm.MethodName)) ∈ lw_all := lw_g (lw_at lw_m8 141 rfl) rfl
theorem q1982 : (Jvm.Cond.code ({ cls := "NamesWeatherModel", name := "isMet", desc := "(I)Z" } : Jvm.MethodName) prog_21_method_105_code (2 : Nat) (Option.some Jvm.ClassFile.FieldType.boolean)) ∈ lw_all := lw_g (lw_at lw_m8 142 rfl) rfl
theorem q1984 : (Jvm.Cond.instanceMethod ({ cls := "NamesWeatherModel", name := "calls", desc := "(II)I" } : Jvm.MethodName)) ∈ lw_all := lw_g (lw_at lw_m8 144 rfl) rfl
theorem q1985 : (Jvm.Cond.selects "NamesWeatherModel" ({ cls := "NamesWeatherModel", name := "calls", desc := "(II)I" } : Jvm.MethodName) ({ cls := "NamesWeatherModel", name := "calls", desc := "(II)I" } : Jvm.MethodName)) ∈ lw_all := lw_g (lw_at lw_m8 145 rfl) rfl
theorem q1986 : (Jvm.Cond.code ({ cls := "NamesWeatherModel", name := "calls", desc := "(II)I" } : Jvm.MethodName) prog_21_method_110_code (8 : Nat) (Option.some Jvm.ClassFile.FieldType.int)) ∈ lw_all := lw_g (lw_at lw_m8 146 rfl) rfl
theorem q1987 : (Jvm.Cond.methodLink "NamesWeatherModel" (410 : Nat) ({ cls := "NamesWeatherModel", name := "callersAt", desc := "(II)I" } : Jvm.MethodName)) ∈ lw_all := lw_g (lw_at lw_m8 147 rfl) rfl
theorem q1988 : (Jvm.Cond.privateMethod ({ cls := "NamesWeatherModel", name := "callersAt", desc := "(II)I" } : Jvm.MethodName)) ∈ lw_tbl := lw_at lw_m8 148 rfl
theorem q1989 : (Jvm.Cond.instanceMethod ({ cls := "NamesWeatherModel", name := "callersAt", desc := "(II)I" } : Jvm.MethodName)) ∈ lw_all := lw_g (lw_at lw_m8 149 rfl) rfl
theorem q1990 : (Jvm.Cond.code ({ cls := "NamesWeatherModel", name := "callersAt", desc := "(II)I" } : Jvm.MethodName) prog_21_method_109_code (5 : Nat) (Option.some Jvm.ClassFile.FieldType.int)) ∈ lw_all := lw_g (lw_at lw_m8 150 rfl) rfl
theorem q1991 : (Jvm.Cond.methodLink "NamesWeatherModel" (413 : Nat) ({ cls := "NamesWeatherModel", name := "sumOf", desc := "(I)I" } : Jvm.MethodName)) ∈ lw_all := lw_g (lw_at lw_m8 151 rfl) rfl
theorem q1992 : (Jvm.Cond.privateMethod ({ cls := "NamesWeatherModel", name := "sumOf", desc := "(I)I" } : Jvm.MethodName)) ∈ lw_tbl := lw_at lw_m8 152 rfl
theorem q1993 : (Jvm.Cond.instanceMethod ({ cls := "NamesWeatherModel", name := "sumOf", desc := "(I)I" } : Jvm.MethodName)) ∈ lw_all := lw_g (lw_at lw_m8 153 rfl) rfl
theorem q1994 : (Jvm.Cond.code ({ cls := "NamesWeatherModel", name := "sumOf", desc := "(I)I" } : Jvm.MethodName) prog_21_method_108_code (4 : Nat) (Option.some Jvm.ClassFile.FieldType.int)) ∈ lw_all := lw_g (lw_at lw_m8 154 rfl) rfl
theorem q1996 : (Jvm.Cond.instanceMethod ({ cls := "NamesWeatherModel", name := "boats", desc := "(II)I" } : Jvm.MethodName)) ∈ lw_all := lw_g (lw_at lw_m8 156 rfl) rfl
theorem q1997 : (Jvm.Cond.selects "NamesWeatherModel" ({ cls := "NamesWeatherModel", name := "boats", desc := "(II)I" } : Jvm.MethodName) ({ cls := "NamesWeatherModel", name := "boats", desc := "(II)I" } : Jvm.MethodName)) ∈ lw_all := lw_g (lw_at lw_m8 157 rfl) rfl
theorem q1998 : (Jvm.Cond.code ({ cls := "NamesWeatherModel", name := "boats", desc := "(II)I" } : Jvm.MethodName) prog_21_method_117_code (4 : Nat) (Option.some Jvm.ClassFile.FieldType.int)) ∈ lw_all := lw_g (lw_at lw_m8 158 rfl) rfl
theorem q1999 : (Jvm.Cond.methodLink "NamesWeatherModel" (428 : Nat) ({ cls := "NamesWeatherModel", name := "living", desc := "()I" } : Jvm.MethodName)) ∈ lw_all := lw_g (lw_at lw_m8 159 rfl) rfl
theorem q2000 : (Jvm.Cond.privateMethod ({ cls := "NamesWeatherModel", name := "living", desc := "()I" } : Jvm.MethodName)) ∈ lw_tbl := lw_at lw_m8 160 rfl
theorem q2001 : (Jvm.Cond.instanceMethod ({ cls := "NamesWeatherModel", name := "living", desc := "()I" } : Jvm.MethodName)) ∈ lw_all := lw_g (lw_at lw_m8 161 rfl) rfl
theorem q2002 : (Jvm.Cond.code ({ cls := "NamesWeatherModel", name := "living", desc := "()I" } : Jvm.MethodName) prog_21_method_111_code (3 : Nat) (Option.some Jvm.ClassFile.FieldType.int)) ∈ lw_all := lw_g (lw_at lw_m8 162 rfl) rfl
theorem q2003 : (Jvm.Cond.methodLink "NamesWeatherModel" (431 : Nat) ({ cls := "NamesWeatherModel", name := "sailIn", desc := "(II)Z" } : Jvm.MethodName)) ∈ lw_all := lw_g (lw_at lw_m8 163 rfl) rfl
theorem q2004 : (Jvm.Cond.privateMethod ({ cls := "NamesWeatherModel", name := "sailIn", desc := "(II)Z" } : Jvm.MethodName)) ∈ lw_tbl := lw_at lw_m8 164 rfl
theorem q2005 : (Jvm.Cond.instanceMethod ({ cls := "NamesWeatherModel", name := "sailIn", desc := "(II)Z" } : Jvm.MethodName)) ∈ lw_all := lw_g (lw_at lw_m8 165 rfl) rfl
theorem q2006 : (Jvm.Cond.code ({ cls := "NamesWeatherModel", name := "sailIn", desc := "(II)Z" } : Jvm.MethodName) prog_21_method_116_code (6 : Nat) (Option.some Jvm.ClassFile.FieldType.boolean)) ∈ lw_all := lw_g (lw_at lw_m8 166 rfl) rfl
theorem q2007 : (Jvm.Cond.methodLink "NamesWeatherModel" (416 : Nat) ({ cls := "NamesWeatherModel", name := "livingFrom", desc := "(I)I" } : Jvm.MethodName)) ∈ lw_all := lw_g (lw_at lw_m8 167 rfl) rfl
theorem q2008 : (Jvm.Cond.privateMethod ({ cls := "NamesWeatherModel", name := "livingFrom", desc := "(I)I" } : Jvm.MethodName)) ∈ lw_tbl := lw_at lw_m8 168 rfl
theorem q2009 : (Jvm.Cond.instanceMethod ({ cls := "NamesWeatherModel", name := "livingFrom", desc := "(I)I" } : Jvm.MethodName)) ∈ lw_all := lw_g (lw_at lw_m8 169 rfl) rfl
theorem q2010 : (Jvm.Cond.code ({ cls := "NamesWeatherModel", name := "livingFrom", desc := "(I)I" } : Jvm.MethodName) prog_21_method_112_code (3 : Nat) (Option.some Jvm.ClassFile.FieldType.int)) ∈ lw_all := lw_g (lw_at lw_m8 170 rfl) rfl
theorem q2011 : (Jvm.Cond.methodLink "NamesWeatherModel" (419 : Nat) ({ cls := "NamesWeatherModel", name := "boatsAhead", desc := "(I)I" } : Jvm.MethodName)) ∈ lw_all := lw_g (lw_at lw_m8 171 rfl) rfl
theorem q2012 : (Jvm.Cond.privateMethod ({ cls := "NamesWeatherModel", name := "boatsAhead", desc := "(I)I" } : Jvm.MethodName)) ∈ lw_tbl := lw_at lw_m8 172 rfl
theorem q2013 : (Jvm.Cond.instanceMethod ({ cls := "NamesWeatherModel", name := "boatsAhead", desc := "(I)I" } : Jvm.MethodName)) ∈ lw_all := lw_g (lw_at lw_m8 173 rfl) rfl
theorem q2014 : (Jvm.Cond.code ({ cls := "NamesWeatherModel", name := "boatsAhead", desc := "(I)I" } : Jvm.MethodName) prog_21_method_114_code (4 : Nat) (Option.some Jvm.ClassFile.FieldType.int)) ∈ lw_all := lw_g (lw_at lw_m8 174 rfl) rfl
theorem q2015 : (Jvm.Cond.methodLink "NamesWeatherModel" (422 : Nat) ({ cls := "NamesWeatherModel", name := "canSail", desc := "(III)Z" } : Jvm.MethodName)) ∈ lw_all := lw_g (lw_at lw_m8 175 rfl) rfl
theorem q2016 : (Jvm.Cond.privateMethod ({ cls := "NamesWeatherModel", name := "canSail", desc := "(III)Z" } : Jvm.MethodName)) ∈ lw_tbl := lw_at lw_m8 176 rfl
theorem q2017 : (Jvm.Cond.instanceMethod ({ cls := "NamesWeatherModel", name := "canSail", desc := "(III)Z" } : Jvm.MethodName)) ∈ lw_all := lw_g (lw_at lw_m8 177 rfl) rfl
theorem q2018 : (Jvm.Cond.code ({ cls := "NamesWeatherModel", name := "canSail", desc := "(III)Z" } : Jvm.MethodName) prog_21_method_115_code (6 : Nat) (Option.some Jvm.ClassFile.FieldType.boolean)) ∈ lw_all := lw_g (lw_at lw_m8 178 rfl) rfl
theorem q2019 : (Jvm.Cond.methodLink "NamesWeatherModel" (425 : Nat) ({ cls := "NamesWeatherModel", name := "livingAhead", desc := "(I)I" } : Jvm.MethodName)) ∈ lw_all := lw_g (lw_at lw_m8 179 rfl) rfl
theorem q2020 : (Jvm.Cond.privateMethod ({ cls := "NamesWeatherModel", name := "livingAhead", desc := "(I)I" } : Jvm.MethodName)) ∈ lw_tbl := lw_at lw_m8 180 rfl
theorem q2021 : (Jvm.Cond.instanceMethod ({ cls := "NamesWeatherModel", name := "livingAhead", desc := "(I)I" } : Jvm.MethodName)) ∈ lw_all := lw_g (lw_at lw_m8 181 rfl) rfl
theorem q2022 : (Jvm.Cond.code ({ cls := "NamesWeatherModel", name := "livingAhead", desc := "(I)I" } : Jvm.MethodName) prog_21_method_113_code (3 : Nat) (Option.some Jvm.ClassFile.FieldType.int)) ∈ lw_all := lw_g (lw_at lw_m8 182 rfl) rfl
theorem q2024 : (Jvm.Cond.instanceMethod ({ cls := "NamesWeatherModel", name := "called", desc := "(IIII)I" } : Jvm.MethodName)) ∈ lw_all := lw_g (lw_at lw_m8 184 rfl) rfl
theorem q2025 : (Jvm.Cond.selects "NamesWeatherModel" ({ cls := "NamesWeatherModel", name := "called", desc := "(IIII)I" } : Jvm.MethodName) ({ cls := "NamesWeatherModel", name := "called", desc := "(IIII)I" } : Jvm.MethodName)) ∈ lw_all := lw_g (lw_at lw_m8 185 rfl) rfl
theorem q2026 : (Jvm.Cond.code ({ cls := "NamesWeatherModel", name := "called", desc := "(IIII)I" } : Jvm.MethodName) prog_21_method_119_code (5 : Nat) (Option.some Jvm.ClassFile.FieldType.int)) ∈ lw_all := lw_g (lw_at lw_m8 186 rfl) rfl
theorem q2027 : (Jvm.Cond.methodLink "NamesWeatherModel" (440 : Nat) ({ cls := "NamesWeatherModel", name := "findsSets", desc := "(III)V" } : Jvm.MethodName)) ∈ lw_all := lw_g (lw_at lw_m8 187 rfl) rfl
theorem q2028 : (Jvm.Cond.privateMethod ({ cls := "NamesWeatherModel", name := "findsSets", desc := "(III)V" } : Jvm.MethodName)) ∈ lw_tbl := lw_at lw_m8 188 rfl
theorem q2029 : (Jvm.Cond.instanceMethod ({ cls := "NamesWeatherModel", name := "findsSets", desc := "(III)V" } : Jvm.MethodName)) ∈ lw_all := lw_g (lw_at lw_m8 189 rfl) rfl
theorem q2030 : (Jvm.Cond.code ({ cls := "NamesWeatherModel", name := "findsSets", desc := "(III)V" } : Jvm.MethodName) prog_21_method_118_code (5 : Nat) (Option.none : Option Jvm.ClassFile.FieldType)) ∈ lw_all := lw_g (lw_at lw_m8 190 rfl) rfl
theorem q2032 : (Jvm.Cond.instanceMethod ({ cls := "NamesWeatherModel", name := "ask", desc := "(III)I" } : Jvm.MethodName)) ∈ lw_all := lw_g (lw_at lw_m8 192 rfl) rfl
theorem q2033 : (Jvm.Cond.selects "NamesWeatherModel" ({ cls := "NamesWeatherModel", name := "ask", desc := "(III)I" } : Jvm.MethodName) ({ cls := "NamesWeatherModel", name := "ask", desc := "(III)I" } : Jvm.MethodName)) ∈ lw_all := lw_g (lw_at lw_m8 193 rfl) rfl
theorem q2034 : (Jvm.Cond.code ({ cls := "NamesWeatherModel", name := "ask", desc := "(III)I" } : Jvm.MethodName) prog_21_method_120_code (10 : Nat) (Option.some Jvm.ClassFile.FieldType.int)) ∈ lw_all := lw_g (lw_at lw_m8 194 rfl) rfl
theorem q2035 : (Jvm.Cond.constant "NamesWeatherModel" (443 : Nat) (100000 : Int32)) ∈ lw_all := lw_g (lw_at lw_m8 195 rfl) rfl
theorem q2037 : (Jvm.Cond.instanceMethod ({ cls := "NamesWeatherModel", name := "child", desc := "(III)I" } : Jvm.MethodName)) ∈ lw_all := lw_g (lw_at lw_m8 197 rfl) rfl
theorem q2038 : (Jvm.Cond.selects "NamesWeatherModel" ({ cls := "NamesWeatherModel", name := "child", desc := "(III)I" } : Jvm.MethodName) ({ cls := "NamesWeatherModel", name := "child", desc := "(III)I" } : Jvm.MethodName)) ∈ lw_all := lw_g (lw_at lw_m8 198 rfl) rfl
theorem q2039 : (Jvm.Cond.code ({ cls := "NamesWeatherModel", name := "child", desc := "(III)I" } : Jvm.MethodName) prog_21_method_121_code (5 : Nat) (Option.some Jvm.ClassFile.FieldType.int)) ∈ lw_all := lw_g (lw_at lw_m8 199 rfl) rfl
theorem q2041 : (Jvm.Cond.instanceMethod ({ cls := "NamesWeatherModel", name := "anew", desc := "(I)I" } : Jvm.MethodName)) ∈ lw_all := lw_g (lw_at lw_m8 201 rfl) rfl
theorem q2042 : (Jvm.Cond.selects "NamesWeatherModel" ({ cls := "NamesWeatherModel", name := "anew", desc := "(I)I" } : Jvm.MethodName) ({ cls := "NamesWeatherModel", name := "anew", desc := "(I)I" } : Jvm.MethodName)) ∈ lw_all := lw_g (lw_at lw_m8 202 rfl) rfl
theorem q2043 : (Jvm.Cond.code ({ cls := "NamesWeatherModel", name := "anew", desc := "(I)I" } : Jvm.MethodName) prog_21_method_123_code (5 : Nat) (Option.some Jvm.ClassFile.FieldType.int)) ∈ lw_all := lw_g (lw_at lw_m8 203 rfl) rfl
theorem q2044 : (Jvm.Cond.methodLink "NamesWeatherModel" (444 : Nat) ({ cls := "NamesWeatherModel", name := "areAtPeace", desc := "(I)Z" } : Jvm.MethodName)) ∈ lw_all := lw_g (lw_at lw_m8 204 rfl) rfl
theorem q2045 : (Jvm.Cond.privateMethod ({ cls := "NamesWeatherModel", name := "areAtPeace", desc := "(I)Z" } : Jvm.MethodName)) ∈ lw_tbl := lw_at lw_m8 205 rfl
theorem q2046 : (Jvm.Cond.instanceMethod ({ cls := "NamesWeatherModel", name := "areAtPeace", desc := "(I)Z" } : Jvm.MethodName)) ∈ lw_all := lw_g (lw_at lw_m8 206 rfl) rfl
theorem q2047 : (Jvm.Cond.code ({ cls := "NamesWeatherModel", name := "areAtPeace", desc := "(I)Z" } : Jvm.MethodName) prog_21_method_122_code (4 : Nat) (Option.some Jvm.ClassFile.FieldType.boolean)) ∈ lw_all := lw_g (lw_at lw_m8 207 rfl) rfl
theorem q2049 : (Jvm.Cond.instanceMethod ({ cls := "NamesWeatherModel", name := "dry", desc := "(IIII)I" } : Jvm.MethodName)) ∈ lw_all := lw_g (lw_at lw_m8 209 rfl) rfl
theorem q2050 : (Jvm.Cond.selects "NamesWeatherModel" ({ cls := "NamesWeatherModel", name := "dry", desc := "(IIII)I" } : Jvm.MethodName) ({ cls := "NamesWeatherModel", name := "dry", desc := "(IIII)I" } : Jvm.MethodName)) ∈ lw_all := lw_g (lw_at lw_m8 210 rfl) rfl
theorem q2051 : (Jvm.Cond.code ({ cls := "NamesWeatherModel", name := "dry", desc := "(IIII)I" } : Jvm.MethodName) prog_21_method_124_code (9 : Nat) (Option.some Jvm.ClassFile.FieldType.int)) ∈ lw_all := lw_g (lw_at lw_m8 211 rfl) rfl
theorem q2053 : (Jvm.Cond.instanceMethod ({ cls := "NamesWeatherModel", name := "buys", desc := "(II)I" } : Jvm.MethodName)) ∈ lw_all := lw_g (lw_at lw_m8 213 rfl) rfl
theorem q2054 : (Jvm.Cond.selects "NamesWeatherModel" ({ cls := "NamesWeatherModel", name := "buys", desc := "(II)I" } : Jvm.MethodName) ({ cls := "NamesWeatherModel", name := "buys", desc := "(II)I" } : Jvm.MethodName)) ∈ lw_all := lw_g (lw_at lw_m8 214 rfl) rfl
theorem q2055 : (Jvm.Cond.code ({ cls := "NamesWeatherModel", name := "buys", desc := "(II)I" } : Jvm.MethodName) prog_21_method_126_code (7 : Nat) (Option.some Jvm.ClassFile.FieldType.int)) ∈ lw_all := lw_g (lw_at lw_m8 215 rfl) rfl
theorem q2056 : (Jvm.Cond.methodLink "NamesWeatherModel" (447 : Nat) ({ cls := "NamesWeatherModel", name := "strengthOf", desc := "(I)I" } : Jvm.MethodName)) ∈ lw_all := lw_g (lw_at lw_m8 216 rfl) rfl
theorem q2057 : (Jvm.Cond.privateMethod ({ cls := "NamesWeatherModel", name := "strengthOf", desc := "(I)I" } : Jvm.MethodName)) ∈ lw_tbl := lw_at lw_m8 217 rfl
theorem q2058 : (Jvm.Cond.instanceMethod ({ cls := "NamesWeatherModel", name := "strengthOf", desc := "(I)I" } : Jvm.MethodName)) ∈ lw_all := lw_g (lw_at lw_m8 218 rfl) rfl
theorem q2059 : (Jvm.Cond.code ({ cls := "NamesWeatherModel", name := "strengthOf", desc := "(I)I" } : Jvm.MethodName) prog_21_method_125_code (4 : Nat) (Option.some Jvm.ClassFile.FieldType.int)) ∈ lw_all := lw_g (lw_at lw_m8 219 rfl) rfl
theorem q2061 : (Jvm.Cond.instanceMethod ({ cls := "NamesWeatherModel", name := "carried", desc := "(II)I" } : Jvm.MethodName)) ∈ lw_all := lw_g (lw_at lw_m8 221 rfl) rfl
theorem q2062 : (Jvm.Cond.selects "NamesWeatherModel" ({ cls := "NamesWeatherModel", name := "carried", desc := "(II)I" } : Jvm.MethodName) ({ cls := "NamesWeatherModel", name := "carried", desc := "(II)I" } : Jvm.MethodName)) ∈ lw_all := lw_g (lw_at lw_m8 222 rfl) rfl
theorem q2063 : (Jvm.Cond.code ({ cls := "NamesWeatherModel", name := "carried", desc := "(II)I" } : Jvm.MethodName) prog_21_method_128_code (3 : Nat) (Option.some Jvm.ClassFile.FieldType.int)) ∈ lw_all := lw_g (lw_at lw_m8 223 rfl) rfl
theorem q2064 : (Jvm.Cond.methodLink "NamesWeatherModel" (450 : Nat) ({ cls := "NamesWeatherModel", name := "leads", desc := "(II)I" } : Jvm.MethodName)) ∈ lw_all := lw_g (lw_at lw_m8 224 rfl) rfl
theorem q2065 : (Jvm.Cond.privateMethod ({ cls := "NamesWeatherModel", name := "leads", desc := "(II)I" } : Jvm.MethodName)) ∈ lw_tbl := lw_at lw_m8 225 rfl
theorem q2066 : (Jvm.Cond.instanceMethod ({ cls := "NamesWeatherModel", name := "leads", desc := "(II)I" } : Jvm.MethodName)) ∈ lw_all := lw_g (lw_at lw_m8 226 rfl) rfl
theorem q2067 : (Jvm.Cond.code ({ cls := "NamesWeatherModel", name := "leads", desc := "(II)I" } : Jvm.MethodName) prog_21_method_127_code (5 : Nat) (Option.some Jvm.ClassFile.FieldType.int)) ∈ lw_all := lw_g (lw_at lw_m8 227 rfl) rfl
theorem q2069 : (Jvm.Cond.instanceMethod ({ cls := "NamesWeatherModel", name := "ring", desc := "()I" } : Jvm.MethodName)) ∈ lw_all := lw_g (lw_at lw_m8 229 rfl) rfl
theorem q2070 : (Jvm.Cond.selects "NamesWeatherModel" ({ cls := "NamesWeatherModel", name := "ring", desc := "()I" } : Jvm.MethodName) ({ cls := "NamesWeatherModel", name := "ring", desc := "()I" } : Jvm.MethodName)) ∈ lw_all := lw_g (lw_at lw_m8 230 rfl) rfl
theorem q2071 : (Jvm.Cond.code ({ cls := "NamesWeatherModel", name := "ring", desc := "()I" } : Jvm.MethodName) prog_21_method_129_code (3 : Nat) (Option.some Jvm.ClassFile.FieldType.int)) ∈ lw_all := lw_g (lw_at lw_m8 231 rfl) rfl
theorem q2073 : (Jvm.Cond.instanceMethod ({ cls := "NamesWeatherModel", name := "game", desc := "(I)I" } : Jvm.MethodName)) ∈ lw_all := lw_g (lw_at lw_m8 233 rfl) rfl
theorem q2074 : (Jvm.Cond.selects "NamesWeatherModel" ({ cls := "NamesWeatherModel", name := "game", desc := "(I)I" } : Jvm.MethodName) ({ cls := "NamesWeatherModel", name := "game", desc := "(I)I" } : Jvm.MethodName)) ∈ lw_all := lw_g (lw_at lw_m8 234 rfl) rfl
theorem q2075 : (Jvm.Cond.code ({ cls := "NamesWeatherModel", name := "game", desc := "(I)I" } : Jvm.MethodName) prog_21_method_131_code (4 : Nat) (Option.some Jvm.ClassFile.FieldType.int)) ∈ lw_all := lw_g (lw_at lw_m8 235 rfl) rfl
theorem q2076 : (Jvm.Cond.methodLink "NamesWeatherModel" (453 : Nat) ({ cls := "NamesWeatherModel", name := "heapOf", desc := "(I)I" } : Jvm.MethodName)) ∈ lw_all := lw_g (lw_at lw_m8 236 rfl) rfl
theorem q2077 : (Jvm.Cond.privateMethod ({ cls := "NamesWeatherModel", name := "heapOf", desc := "(I)I" } : Jvm.MethodName)) ∈ lw_tbl := lw_at lw_m8 237 rfl
theorem q2078 : (Jvm.Cond.instanceMethod ({ cls := "NamesWeatherModel", name := "heapOf", desc := "(I)I" } : Jvm.MethodName)) ∈ lw_all := lw_g (lw_at lw_m8 238 rfl) rfl
theorem q2079 : (Jvm.Cond.code ({ cls := "NamesWeatherModel", name := "heapOf", desc := "(I)I" } : Jvm.MethodName) prog_21_method_130_code (2 : Nat) (Option.some Jvm.ClassFile.FieldType.int)) ∈ lw_all := lw_g (lw_at lw_m8 239 rfl) rfl
theorem q2081 : (Jvm.Cond.instanceMethod ({ cls := "NamesWeatherModel", name := "image", desc := "(Z)Z" } : Jvm.MethodName)) ∈ lw_all := lw_g (lw_at lw_m9 1 rfl) rfl
theorem q2082 : (Jvm.Cond.selects "NamesWeatherModel" ({ cls := "NamesWeatherModel", name := "image", desc := "(Z)Z" } : Jvm.MethodName) ({ cls := "NamesWeatherModel", name := "image", desc := "(Z)Z" } : Jvm.MethodName)) ∈ lw_all := lw_g (lw_at lw_m9 2 rfl) rfl
theorem q2083 : (Jvm.Cond.code ({ cls := "NamesWeatherModel", name := "image", desc := "(Z)Z" } : Jvm.MethodName) prog_21_method_135_code (3 : Nat) (Option.some Jvm.ClassFile.FieldType.boolean)) ∈ lw_all := lw_g (lw_at lw_m9 3 rfl) rfl
theorem q2084 : (Jvm.Cond.methodLink "NamesWeatherModel" (462 : Nat) ({ cls := "NamesWeatherModel", name := "keeps", desc := "(I)I" } : Jvm.MethodName)) ∈ lw_all := lw_g (lw_at lw_m9 4 rfl) rfl
theorem q2085 : (Jvm.Cond.privateMethod ({ cls := "NamesWeatherModel", name := "keeps", desc := "(I)I" } : Jvm.MethodName)) ∈ lw_tbl := lw_at lw_m9 5 rfl
theorem q2086 : (Jvm.Cond.instanceMethod ({ cls := "NamesWeatherModel", name := "keeps", desc := "(I)I" } : Jvm.MethodName)) ∈ lw_all := lw_g (lw_at lw_m9 6 rfl) rfl
theorem q2087 : (Jvm.Cond.code ({ cls := "NamesWeatherModel", name := "keeps", desc := "(I)I" } : Jvm.MethodName) prog_21_method_132_code (2 : Nat) (Option.some Jvm.ClassFile.FieldType.int)) ∈ lw_all := lw_g (lw_at lw_m9 7 rfl) rfl
theorem q2088 : (Jvm.Cond.methodLink "NamesWeatherModel" (468 : Nat) ({ cls := "NamesWeatherModel", name := "keepsTold", desc := "()V" } : Jvm.MethodName)) ∈ lw_all := lw_g (lw_at lw_m9 8 rfl) rfl
theorem q2089 : (Jvm.Cond.privateMethod ({ cls := "NamesWeatherModel", name := "keepsTold", desc := "()V" } : Jvm.MethodName)) ∈ lw_tbl := lw_at lw_m9 9 rfl
theorem q2090 : (Jvm.Cond.instanceMethod ({ cls := "NamesWeatherModel", name := "keepsTold", desc := "()V" } : Jvm.MethodName)) ∈ lw_all := lw_g (lw_at lw_m9 10 rfl) rfl
theorem q2091 : (Jvm.Cond.code ({ cls := "NamesWeatherModel", name := "keepsTold", desc := "()V" } : Jvm.MethodName) prog_21_method_134_code (2 : Nat) (Option.none : Option Jvm.ClassFile.FieldType)) ∈ lw_all := lw_g (lw_at lw_m9 11 rfl) rfl
theorem q2092 : (Jvm.Cond.methodLink "NamesWeatherModel" (471 : Nat) ({ cls := "NamesWeatherModel", name := "keepsLaw", desc := "()V" } : Jvm.MethodName)) ∈ lw_all := lw_g (lw_at lw_m9 12 rfl) rfl
theorem q2093 : (Jvm.Cond.privateMethod ({ cls := "NamesWeatherModel", name := "keepsLaw", desc := "()V" } : Jvm.MethodName)) ∈ lw_tbl := lw_at lw_m9 13 rfl
theorem q2094 : (Jvm.Cond.instanceMethod ({ cls := "NamesWeatherModel", name := "keepsLaw", desc := "()V" } : Jvm.MethodName)) ∈ lw_all := lw_g (lw_at lw_m9 14 rfl) rfl
theorem q2095 : (Jvm.Cond.code ({ cls := "NamesWeatherModel", name := "keepsLaw", desc := "()V" } : Jvm.MethodName) prog_21_method_133_code (2 : Nat) (Option.none : Option Jvm.ClassFile.FieldType)) ∈ lw_all := lw_g (lw_at lw_m9 15 rfl) rfl
theorem q2097 : (Jvm.Cond.instanceMethod ({ cls := "NamesWeatherModel", name := "look", desc := "(I)I" } : Jvm.MethodName)) ∈ lw_all := lw_g (lw_at lw_m9 17 rfl) rfl
theorem q2098 : (Jvm.Cond.selects "NamesWeatherModel" ({ cls := "NamesWeatherModel", name := "look", desc := "(I)I" } : Jvm.MethodName) ({ cls := "NamesWeatherModel", name := "look", desc := "(I)I" } : Jvm.MethodName)) ∈ lw_all := lw_g (lw_at lw_m9 18 rfl) rfl
theorem q2099 : (Jvm.Cond.code ({ cls := "NamesWeatherModel", name := "look", desc := "(I)I" } : Jvm.MethodName) prog_21_method_137_code (2 : Nat) (Option.some Jvm.ClassFile.FieldType.int)) ∈ lw_all := lw_g (lw_at lw_m9 19 rfl) rfl
theorem q2100 : (Jvm.Cond.methodLink "NamesWeatherModel" (474 : Nat) ({ cls := "NamesWeatherModel", name := "graves", desc := "()I" } : Jvm.MethodName)) ∈ lw_all := lw_g (lw_at lw_m9 20 rfl) rfl
theorem q2101 : (Jvm.Cond.privateMethod ({ cls := "NamesWeatherModel", name := "graves", desc := "()I" } : Jvm.MethodName)) ∈ lw_tbl := lw_at lw_m9 21 rfl
theorem q2102 : (Jvm.Cond.instanceMethod ({ cls := "NamesWeatherModel", name := "graves", desc := "()I" } : Jvm.MethodName)) ∈ lw_all := lw_g (lw_at lw_m9 22 rfl) rfl
theorem q2103 : (Jvm.Cond.code ({ cls := "NamesWeatherModel", name := "graves", desc := "()I" } : Jvm.MethodName) prog_21_method_136_code (3 : Nat) (Option.some Jvm.ClassFile.FieldType.int)) ∈ lw_all := lw_g (lw_at lw_m9 23 rfl) rfl
theorem q2117 : (Jvm.Cond.castable "NamesWeatherModel" "java/lang/Object") ∈ lw_tbl := lw_at lw_m9 37 rfl
theorem in_X2 : ∀ w ∈ wsX20, w ∈ lw_all := lw_in wsX20 [1462, 1464, 1466, 1468, 1470, 1472, 1474, 1476, 1478, 1480, 1482, 1484, 1486, 1488, 1490, 1492, 1494, 1496, 1498, 1500, 1502, 1504, 1506, 1508, 1510, 1512, 1514, 1516, 1518, 1520, 1522, 1524, 1526, 1528, 1530, 1532, 1534, 1536, 1538, 1540, 1542, 1544, 1546, 1548, 1550, 1552, 1554, 1556, 1558] (by decide +kernel) (by decide +kernel)
