/-! NoonMealsModel -/
set_option maxRecDepth 100000
def RX5 : String := "NoonMealsModel"
def TX5 : u_T := fun k => match k with
  | 0 => ("NoonMealsModel", "thrown", "I", false)
  | 1 => ("NoonMealsModel", "trouble", "I", false)
  | 2 => ("NoonMealsModel", "where", "I", false)
  | 3 => ("NoonMealsModel", "today", "LNoonMealsModel$Day;", false)
  | 4 => ("NoonMealsModel", "reading", "LNoonMealsModel$Day;", false)
  | 5 => ("NoonMealsModel", "tape", "[B", true)
  | 6 => ("NoonMealsModel", "taped", "I", false)
  | 7 => ("NoonMealsModel", "size", "I", false)
  | 8 => ("NoonMealsModel", "at", "I", false)
  | 9 => ("NoonMealsModel", "sort", "I", false)
  | 10 => ("NoonMealsModel", "place", "I", false)
  | 11 => ("NoonMealsModel", "mark", "I", false)
  | 12 => ("NoonMealsModel", "number", "I", false)
  | 13 => ("NoonMealsModel", "fault", "I", false)
  | 14 => ("NoonMealsModel", "wrongAt", "I", false)
  | 15 => ("NoonMealsModel", "wordBits", "I", false)
  | 16 => ("NoonMealsModel", "word", "J", false)
  | 17 => ("NoonMealsModel", "rounds", "[I", true)
  | 18 => ("NoonMealsModel", "round", "[I", true)
  | 19 => ("NoonMealsModel", "teas", "I", false)
  | 20 => ("NoonMealsModel", "many", "I", false)
  | 21 => ("NoonMealsModel", "badSet", "I", false)
  | 22 => ("NoonMealsModel", "row", "[I", true)
  | 23 => ("NoonMealsModel", "comesAt", "[I", true)
  | 24 => ("NoonMealsModel", "bestBad", "I", false)
  | 25 => ("NoonMealsModel", "bestLast", "I", false)
  | 26 => ("NoonMealsModel", "bestRow", "[I", true)
  | 27 => ("NoonMealsModel", "isShared", "Z", false)
  | 28 => ("NoonMealsModel", "share", "[I", true)
  | 29 => ("NoonMealsModel", "carBad", "[I", true)
  | 30 => ("NoonMealsModel", "carLast", "[I", true)
  | 31 => ("NoonMealsModel", "least", "[I", true)
  | 32 => ("NoonMealsModel", "menu", "[I", true)
  | 33 => ("NoonMealsModel", "menuDays", "I", false)
  | 34 => ("NoonMealsModel", "called", "I", false)
  | 35 => ("NoonMealsModel", "callRow", "[I", true)
  | 36 => ("NoonMealsModel", "bestCalls", "[I", true)
  | 37 => ("NoonMealsModel", "isFilled", "Z", false)
  | 38 => ("NoonMealsModel", "filled", "[I", true)
  | 39 => ("NoonMealsModel", "worked", "[I", true)
  | 40 => ("NoonMealsModel", "signs", "[I", true)
  | 41 => ("NoonMealsModel", "sign", "[I", true)
  | 42 => ("NoonMealsModel", "probes", "I", false)
  | 43 => ("NoonMealsModel", "probeCar", "[I", true)
  | 44 => ("NoonMealsModel", "probeAt", "[I", true)
  | _ => ("NoonMealsModel", "probeHeat", "[I", true)
def tyX5 : Nat → FieldType := fun k => match k with
  | 0 => .int
  | 1 => .int
  | 2 => .int
  | 3 => .object "NoonMealsModel$Day"
  | 4 => .object "NoonMealsModel$Day"
  | 5 => .array .byte
  | 6 => .int
  | 7 => .int
  | 8 => .int
  | 9 => .int
  | 10 => .int
  | 11 => .int
  | 12 => .int
  | 13 => .int
  | 14 => .int
  | 15 => .int
  | 16 => .long
  | 17 => .array .int
  | 18 => .array .int
  | 19 => .int
  | 20 => .int
  | 21 => .int
  | 22 => .array .int
  | 23 => .array .int
  | 24 => .int
  | 25 => .int
  | 26 => .array .int
  | 27 => .boolean
  | 28 => .array .int
  | 29 => .array .int
  | 30 => .array .int
  | 31 => .array .int
  | 32 => .array .int
  | 33 => .int
  | 34 => .int
  | 35 => .array .int
  | 36 => .array .int
  | 37 => .boolean
  | 38 => .array .int
  | 39 => .array .int
  | 40 => .array .int
  | 41 => .array .int
  | 42 => .int
  | 43 => .array .int
  | 44 => .array .int
  | _ => .array .int
abbrev wsX50 : List Cond := u_ws RX5 TX5 46
set_option maxRecDepth 100000 in
theorem nmX5 : ∀ a, a < 46 → ∀ b, b < 46 → a ≠ b → (TX5 a).2.1 ≠ (TX5 b).2.1 := by decide +kernel
set_option maxRecDepth 100000 in
theorem tyX5_ok : ∀ k, k < 46 → parseFieldDescriptor (TX5 k).2.2.1 = some (tyX5 k) := by decide +kernel
abbrev cX5_init : ByteArray := prog_15_method_1_code
def yX5_init : MethodName := ⟨RX5, "<init>", "()V"⟩
def dkwX5_init_7 : List UInt8 := [188, 10, 181, 0, 72, 177]
abbrev dktX5_init_7 : List UInt8 := dkwX5_init_7 ++ []
def dkwX5_init_6 : List UInt8 := [188, 10, 181, 0, 63, 42, 16, 16, 188, 10, 181, 0, 66, 42, 16, 16, 188, 10, 181, 0, 69, 42, 16, 16]
abbrev dktX5_init_6 : List UInt8 := dkwX5_init_6 ++ dktX5_init_7
def dkwX5_init_5 : List UInt8 := [188, 10, 181, 0, 54, 42, 16, 6, 188, 10, 181, 0, 57, 42, 16, 6, 188, 10, 181, 0, 60, 42, 16, 60]
abbrev dktX5_init_5 : List UInt8 := dkwX5_init_5 ++ dktX5_init_6
def dkwX5_init_4 : List UInt8 := [16, 14, 188, 10, 181, 0, 45, 42, 8, 188, 10, 181, 0, 48, 42, 8, 188, 10, 181, 0, 51, 42, 16, 7]
abbrev dktX5_init_4 : List UInt8 := dkwX5_init_4 ++ dktX5_init_5
def dkwX5_init_3 : List UInt8 := [188, 10, 181, 0, 36, 42, 17, 0, 192, 188, 10, 181, 0, 39, 42, 16, 84, 188, 10, 181, 0, 42, 42]
abbrev dktX5_init_3 : List UInt8 := dkwX5_init_3 ++ dktX5_init_4
def dkwX5_init_2 : List UInt8 := [181, 0, 27, 42, 16, 6, 188, 10, 181, 0, 30, 42, 16, 6, 188, 10, 181, 0, 33, 42, 17, 0, 192]
abbrev dktX5_init_2 : List UInt8 := dkwX5_init_2 ++ dktX5_init_3
def dkwX5_init_1 : List UInt8 := [181, 0, 17, 42, 16, 18, 188, 10, 181, 0, 21, 42, 16, 6, 188, 10, 181, 0, 24, 42, 16, 6, 188, 10]
abbrev dktX5_init_1 : List UInt8 := dkwX5_init_1 ++ dktX5_init_2
def dkwX5_init_0 : List UInt8 := [42, 183, 0, 1, 42, 2, 181, 0, 9, 42, 17, 3, 132, 188, 8, 181, 0, 13, 42, 6, 188, 10]
abbrev dktX5_init_0 : List UInt8 := dkwX5_init_0 ++ dktX5_init_1
theorem dksX5_init_0 : cX5_init.data.toList.drop 0 = dktX5_init_0 := by decide +kernel
theorem dksX5_init_1 : cX5_init.data.toList.drop 22 = dktX5_init_1 := dk_seg dksX5_init_0 22 rfl rfl
theorem dksX5_init_2 : cX5_init.data.toList.drop 46 = dktX5_init_2 := dk_seg dksX5_init_1 24 rfl rfl
theorem dksX5_init_3 : cX5_init.data.toList.drop 69 = dktX5_init_3 := dk_seg dksX5_init_2 23 rfl rfl
theorem dksX5_init_4 : cX5_init.data.toList.drop 92 = dktX5_init_4 := dk_seg dksX5_init_3 23 rfl rfl
theorem dksX5_init_5 : cX5_init.data.toList.drop 116 = dktX5_init_5 := dk_seg dksX5_init_4 24 rfl rfl
theorem dksX5_init_6 : cX5_init.data.toList.drop 140 = dktX5_init_6 := dk_seg dksX5_init_5 24 rfl rfl
theorem dksX5_init_7 : cX5_init.data.toList.drop 164 = dktX5_init_7 := dk_seg dksX5_init_6 24 rfl rfl
theorem dX5_init_0 : decode cX5_init 0 = .ok (.aload_n 0, 1) := dk_42 (dk_at dksX5_init_0 0 rfl rfl)
theorem dX5_init_1 : decode cX5_init 1 = .ok (.invokespecial 1, 3) := dk_183 0 1 (dk_at dksX5_init_0 1 rfl rfl)
theorem dX5_init_4 : decode cX5_init 4 = .ok (.aload_n 0, 1) := dk_42 (dk_at dksX5_init_0 4 rfl rfl)
theorem dX5_init_5 : decode cX5_init 5 = .ok (.iconst (-1), 1) := dk_2 (dk_at dksX5_init_0 5 rfl rfl)
theorem dX5_init_6 : decode cX5_init 6 = .ok (.putfield 9, 3) := dk_181 0 9 (dk_at dksX5_init_0 6 rfl rfl)
theorem dX5_init_9 : decode cX5_init 9 = .ok (.aload_n 0, 1) := dk_42 (dk_at dksX5_init_0 9 rfl rfl)
theorem dX5_init_10 : decode cX5_init 10 = .ok (.sipush 900, 3) := dk_17 3 132 (dk_at dksX5_init_0 10 rfl rfl)
theorem dX5_init_13 : decode cX5_init 13 = .ok (.newarray .byte, 2) := dk_188_8 (dk_at dksX5_init_0 13 rfl rfl)
theorem dX5_init_15 : decode cX5_init 15 = .ok (.putfield 13, 3) := dk_181 0 13 (dk_at dksX5_init_0 15 rfl rfl)
theorem dX5_init_18 : decode cX5_init 18 = .ok (.aload_n 0, 1) := dk_42 (dk_at dksX5_init_0 18 rfl rfl)
theorem dX5_init_19 : decode cX5_init 19 = .ok (.iconst 3, 1) := dk_6 (dk_at dksX5_init_0 19 rfl rfl)
theorem dX5_init_20 : decode cX5_init 20 = .ok (.newarray .int, 2) := dk_188_10 (dk_at dksX5_init_0 20 rfl rfl)
theorem dX5_init_22 : decode cX5_init 22 = .ok (.putfield 17, 3) := dk_181 0 17 (dk_at dksX5_init_1 0 rfl rfl)
theorem dX5_init_25 : decode cX5_init 25 = .ok (.aload_n 0, 1) := dk_42 (dk_at dksX5_init_1 3 rfl rfl)
theorem dX5_init_26 : decode cX5_init 26 = .ok (.bipush 18, 2) := dk_16 18 (dk_at dksX5_init_1 4 rfl rfl)
theorem dX5_init_28 : decode cX5_init 28 = .ok (.newarray .int, 2) := dk_188_10 (dk_at dksX5_init_1 6 rfl rfl)
theorem dX5_init_30 : decode cX5_init 30 = .ok (.putfield 21, 3) := dk_181 0 21 (dk_at dksX5_init_1 8 rfl rfl)
theorem dX5_init_33 : decode cX5_init 33 = .ok (.aload_n 0, 1) := dk_42 (dk_at dksX5_init_1 11 rfl rfl)
theorem dX5_init_34 : decode cX5_init 34 = .ok (.bipush 6, 2) := dk_16 6 (dk_at dksX5_init_1 12 rfl rfl)
theorem dX5_init_36 : decode cX5_init 36 = .ok (.newarray .int, 2) := dk_188_10 (dk_at dksX5_init_1 14 rfl rfl)
theorem dX5_init_38 : decode cX5_init 38 = .ok (.putfield 24, 3) := dk_181 0 24 (dk_at dksX5_init_1 16 rfl rfl)
theorem dX5_init_41 : decode cX5_init 41 = .ok (.aload_n 0, 1) := dk_42 (dk_at dksX5_init_1 19 rfl rfl)
theorem dX5_init_42 : decode cX5_init 42 = .ok (.bipush 6, 2) := dk_16 6 (dk_at dksX5_init_1 20 rfl rfl)
theorem dX5_init_44 : decode cX5_init 44 = .ok (.newarray .int, 2) := dk_188_10 (dk_at dksX5_init_1 22 rfl rfl)
theorem dX5_init_46 : decode cX5_init 46 = .ok (.putfield 27, 3) := dk_181 0 27 (dk_at dksX5_init_2 0 rfl rfl)
theorem dX5_init_49 : decode cX5_init 49 = .ok (.aload_n 0, 1) := dk_42 (dk_at dksX5_init_2 3 rfl rfl)
theorem dX5_init_50 : decode cX5_init 50 = .ok (.bipush 6, 2) := dk_16 6 (dk_at dksX5_init_2 4 rfl rfl)
theorem dX5_init_52 : decode cX5_init 52 = .ok (.newarray .int, 2) := dk_188_10 (dk_at dksX5_init_2 6 rfl rfl)
theorem dX5_init_54 : decode cX5_init 54 = .ok (.putfield 30, 3) := dk_181 0 30 (dk_at dksX5_init_2 8 rfl rfl)
theorem dX5_init_57 : decode cX5_init 57 = .ok (.aload_n 0, 1) := dk_42 (dk_at dksX5_init_2 11 rfl rfl)
theorem dX5_init_58 : decode cX5_init 58 = .ok (.bipush 6, 2) := dk_16 6 (dk_at dksX5_init_2 12 rfl rfl)
theorem dX5_init_60 : decode cX5_init 60 = .ok (.newarray .int, 2) := dk_188_10 (dk_at dksX5_init_2 14 rfl rfl)
theorem dX5_init_62 : decode cX5_init 62 = .ok (.putfield 33, 3) := dk_181 0 33 (dk_at dksX5_init_2 16 rfl rfl)
theorem dX5_init_65 : decode cX5_init 65 = .ok (.aload_n 0, 1) := dk_42 (dk_at dksX5_init_2 19 rfl rfl)
theorem dX5_init_66 : decode cX5_init 66 = .ok (.sipush 192, 3) := dk_17 0 192 (dk_at dksX5_init_2 20 rfl rfl)
theorem dX5_init_69 : decode cX5_init 69 = .ok (.newarray .int, 2) := dk_188_10 (dk_at dksX5_init_3 0 rfl rfl)
theorem dX5_init_71 : decode cX5_init 71 = .ok (.putfield 36, 3) := dk_181 0 36 (dk_at dksX5_init_3 2 rfl rfl)
theorem dX5_init_74 : decode cX5_init 74 = .ok (.aload_n 0, 1) := dk_42 (dk_at dksX5_init_3 5 rfl rfl)
theorem dX5_init_75 : decode cX5_init 75 = .ok (.sipush 192, 3) := dk_17 0 192 (dk_at dksX5_init_3 6 rfl rfl)
theorem dX5_init_78 : decode cX5_init 78 = .ok (.newarray .int, 2) := dk_188_10 (dk_at dksX5_init_3 9 rfl rfl)
theorem dX5_init_80 : decode cX5_init 80 = .ok (.putfield 39, 3) := dk_181 0 39 (dk_at dksX5_init_3 11 rfl rfl)
theorem dX5_init_83 : decode cX5_init 83 = .ok (.aload_n 0, 1) := dk_42 (dk_at dksX5_init_3 14 rfl rfl)
theorem dX5_init_84 : decode cX5_init 84 = .ok (.bipush 84, 2) := dk_16 84 (dk_at dksX5_init_3 15 rfl rfl)
theorem dX5_init_86 : decode cX5_init 86 = .ok (.newarray .int, 2) := dk_188_10 (dk_at dksX5_init_3 17 rfl rfl)
theorem dX5_init_88 : decode cX5_init 88 = .ok (.putfield 42, 3) := dk_181 0 42 (dk_at dksX5_init_3 19 rfl rfl)
theorem dX5_init_91 : decode cX5_init 91 = .ok (.aload_n 0, 1) := dk_42 (dk_at dksX5_init_3 22 rfl rfl)
theorem dX5_init_92 : decode cX5_init 92 = .ok (.bipush 14, 2) := dk_16 14 (dk_at dksX5_init_4 0 rfl rfl)
theorem dX5_init_94 : decode cX5_init 94 = .ok (.newarray .int, 2) := dk_188_10 (dk_at dksX5_init_4 2 rfl rfl)
theorem dX5_init_96 : decode cX5_init 96 = .ok (.putfield 45, 3) := dk_181 0 45 (dk_at dksX5_init_4 4 rfl rfl)
theorem dX5_init_99 : decode cX5_init 99 = .ok (.aload_n 0, 1) := dk_42 (dk_at dksX5_init_4 7 rfl rfl)
theorem dX5_init_100 : decode cX5_init 100 = .ok (.iconst 5, 1) := dk_8 (dk_at dksX5_init_4 8 rfl rfl)
theorem dX5_init_101 : decode cX5_init 101 = .ok (.newarray .int, 2) := dk_188_10 (dk_at dksX5_init_4 9 rfl rfl)
theorem dX5_init_103 : decode cX5_init 103 = .ok (.putfield 48, 3) := dk_181 0 48 (dk_at dksX5_init_4 11 rfl rfl)
theorem dX5_init_106 : decode cX5_init 106 = .ok (.aload_n 0, 1) := dk_42 (dk_at dksX5_init_4 14 rfl rfl)
theorem dX5_init_107 : decode cX5_init 107 = .ok (.iconst 5, 1) := dk_8 (dk_at dksX5_init_4 15 rfl rfl)
theorem dX5_init_108 : decode cX5_init 108 = .ok (.newarray .int, 2) := dk_188_10 (dk_at dksX5_init_4 16 rfl rfl)
theorem dX5_init_110 : decode cX5_init 110 = .ok (.putfield 51, 3) := dk_181 0 51 (dk_at dksX5_init_4 18 rfl rfl)
theorem dX5_init_113 : decode cX5_init 113 = .ok (.aload_n 0, 1) := dk_42 (dk_at dksX5_init_4 21 rfl rfl)
theorem dX5_init_114 : decode cX5_init 114 = .ok (.bipush 7, 2) := dk_16 7 (dk_at dksX5_init_4 22 rfl rfl)
theorem dX5_init_116 : decode cX5_init 116 = .ok (.newarray .int, 2) := dk_188_10 (dk_at dksX5_init_5 0 rfl rfl)
theorem dX5_init_118 : decode cX5_init 118 = .ok (.putfield 54, 3) := dk_181 0 54 (dk_at dksX5_init_5 2 rfl rfl)
theorem dX5_init_121 : decode cX5_init 121 = .ok (.aload_n 0, 1) := dk_42 (dk_at dksX5_init_5 5 rfl rfl)
theorem dX5_init_122 : decode cX5_init 122 = .ok (.bipush 6, 2) := dk_16 6 (dk_at dksX5_init_5 6 rfl rfl)
theorem dX5_init_124 : decode cX5_init 124 = .ok (.newarray .int, 2) := dk_188_10 (dk_at dksX5_init_5 8 rfl rfl)
theorem dX5_init_126 : decode cX5_init 126 = .ok (.putfield 57, 3) := dk_181 0 57 (dk_at dksX5_init_5 10 rfl rfl)
theorem dX5_init_129 : decode cX5_init 129 = .ok (.aload_n 0, 1) := dk_42 (dk_at dksX5_init_5 13 rfl rfl)
theorem dX5_init_130 : decode cX5_init 130 = .ok (.bipush 6, 2) := dk_16 6 (dk_at dksX5_init_5 14 rfl rfl)
theorem dX5_init_132 : decode cX5_init 132 = .ok (.newarray .int, 2) := dk_188_10 (dk_at dksX5_init_5 16 rfl rfl)
theorem dX5_init_134 : decode cX5_init 134 = .ok (.putfield 60, 3) := dk_181 0 60 (dk_at dksX5_init_5 18 rfl rfl)
theorem dX5_init_137 : decode cX5_init 137 = .ok (.aload_n 0, 1) := dk_42 (dk_at dksX5_init_5 21 rfl rfl)
theorem dX5_init_138 : decode cX5_init 138 = .ok (.bipush 60, 2) := dk_16 60 (dk_at dksX5_init_5 22 rfl rfl)
theorem dX5_init_140 : decode cX5_init 140 = .ok (.newarray .int, 2) := dk_188_10 (dk_at dksX5_init_6 0 rfl rfl)
theorem dX5_init_142 : decode cX5_init 142 = .ok (.putfield 63, 3) := dk_181 0 63 (dk_at dksX5_init_6 2 rfl rfl)
theorem dX5_init_145 : decode cX5_init 145 = .ok (.aload_n 0, 1) := dk_42 (dk_at dksX5_init_6 5 rfl rfl)
theorem dX5_init_146 : decode cX5_init 146 = .ok (.bipush 16, 2) := dk_16 16 (dk_at dksX5_init_6 6 rfl rfl)
theorem dX5_init_148 : decode cX5_init 148 = .ok (.newarray .int, 2) := dk_188_10 (dk_at dksX5_init_6 8 rfl rfl)
theorem dX5_init_150 : decode cX5_init 150 = .ok (.putfield 66, 3) := dk_181 0 66 (dk_at dksX5_init_6 10 rfl rfl)
theorem dX5_init_153 : decode cX5_init 153 = .ok (.aload_n 0, 1) := dk_42 (dk_at dksX5_init_6 13 rfl rfl)
theorem dX5_init_154 : decode cX5_init 154 = .ok (.bipush 16, 2) := dk_16 16 (dk_at dksX5_init_6 14 rfl rfl)
theorem dX5_init_156 : decode cX5_init 156 = .ok (.newarray .int, 2) := dk_188_10 (dk_at dksX5_init_6 16 rfl rfl)
theorem dX5_init_158 : decode cX5_init 158 = .ok (.putfield 69, 3) := dk_181 0 69 (dk_at dksX5_init_6 18 rfl rfl)
theorem dX5_init_161 : decode cX5_init 161 = .ok (.aload_n 0, 1) := dk_42 (dk_at dksX5_init_6 21 rfl rfl)
theorem dX5_init_162 : decode cX5_init 162 = .ok (.bipush 16, 2) := dk_16 16 (dk_at dksX5_init_6 22 rfl rfl)
theorem dX5_init_164 : decode cX5_init 164 = .ok (.newarray .int, 2) := dk_188_10 (dk_at dksX5_init_7 0 rfl rfl)
theorem dX5_init_166 : decode cX5_init 166 = .ok (.putfield 72, 3) := dk_181 0 72 (dk_at dksX5_init_7 2 rfl rfl)
theorem dX5_init_169 : decode cX5_init 169 = .ok (.return_, 1) := dk_177 (dk_at dksX5_init_7 5 rfl rfl)
abbrev cX5_thrown : ByteArray := prog_15_method_2_code
def yX5_thrown : MethodName := ⟨RX5, "thrown", "()I"⟩
theorem dX5_thrown_0 : decode cX5_thrown 0 = .ok (.aload_n 0, 1) := by decide +kernel
theorem dX5_thrown_1 : decode cX5_thrown 1 = .ok (.getfield 75, 3) := by decide +kernel
theorem dX5_thrown_4 : decode cX5_thrown 4 = .ok (.ireturn, 1) := by decide +kernel
abbrev cX5_feed : ByteArray := prog_15_method_34_code
def yX5_feed : MethodName := ⟨RX5, "feed", "(IIIII)I"⟩
def dkwX5_feed_5 : List UInt8 := [180, 1, 131, 172]
abbrev dktX5_feed_5 : List UInt8 := dkwX5_feed_5 ++ []
def dkwX5_feed_4 : List UInt8 := [112, 104, 100, 122, 145, 84, 42, 89, 180, 1, 131, 4, 96, 181, 1, 131, 132, 6, 1, 167, 255, 165, 42]
abbrev dktX5_feed_4 : List UInt8 := dkwX5_feed_4 ++ dktX5_feed_5
def dkwX5_feed_3 : List UInt8 := [167, 0, 5, 21, 5, 54, 7, 42, 180, 0, 13, 42, 180, 1, 131, 21, 7, 16, 24, 16, 8, 21, 6, 7]
abbrev dktX5_feed_3 : List UInt8 := dkwX5_feed_3 ++ dktX5_feed_4
def dkwX5_feed_2 : List UInt8 := [28, 167, 0, 28, 21, 6, 16, 12, 162, 0, 7, 29, 167, 0, 17, 21, 6, 16, 16, 162, 0, 8, 21, 4]
abbrev dktX5_feed_2 : List UInt8 := dkwX5_feed_2 ++ dktX5_feed_3
def dkwX5_feed_1 : List UInt8 := [21, 6, 16, 20, 162, 0, 90, 21, 6, 7, 162, 0, 7, 27, 167, 0, 39, 21, 6, 16, 8, 162, 0, 7]
abbrev dktX5_feed_1 : List UInt8 := dkwX5_feed_1 ++ dktX5_feed_2
def dkwX5_feed_0 : List UInt8 := [42, 3, 181, 0, 75, 42, 180, 1, 131, 16, 20, 96, 17, 3, 132, 164, 0, 5, 2, 172, 3, 54, 6]
abbrev dktX5_feed_0 : List UInt8 := dkwX5_feed_0 ++ dktX5_feed_1
theorem dksX5_feed_0 : cX5_feed.data.toList.drop 0 = dktX5_feed_0 := by decide +kernel
theorem dksX5_feed_1 : cX5_feed.data.toList.drop 23 = dktX5_feed_1 := dk_seg dksX5_feed_0 23 rfl rfl
theorem dksX5_feed_2 : cX5_feed.data.toList.drop 47 = dktX5_feed_2 := dk_seg dksX5_feed_1 24 rfl rfl
theorem dksX5_feed_3 : cX5_feed.data.toList.drop 71 = dktX5_feed_3 := dk_seg dksX5_feed_2 24 rfl rfl
theorem dksX5_feed_4 : cX5_feed.data.toList.drop 95 = dktX5_feed_4 := dk_seg dksX5_feed_3 24 rfl rfl
theorem dksX5_feed_5 : cX5_feed.data.toList.drop 118 = dktX5_feed_5 := dk_seg dksX5_feed_4 23 rfl rfl
theorem dX5_feed_0 : decode cX5_feed 0 = .ok (.aload_n 0, 1) := dk_42 (dk_at dksX5_feed_0 0 rfl rfl)
theorem dX5_feed_1 : decode cX5_feed 1 = .ok (.iconst 0, 1) := dk_3 (dk_at dksX5_feed_0 1 rfl rfl)
theorem dX5_feed_2 : decode cX5_feed 2 = .ok (.putfield 75, 3) := dk_181 0 75 (dk_at dksX5_feed_0 2 rfl rfl)
theorem dX5_feed_5 : decode cX5_feed 5 = .ok (.aload_n 0, 1) := dk_42 (dk_at dksX5_feed_0 5 rfl rfl)
theorem dX5_feed_6 : decode cX5_feed 6 = .ok (.getfield 387, 3) := dk_180 1 131 (dk_at dksX5_feed_0 6 rfl rfl)
theorem dX5_feed_9 : decode cX5_feed 9 = .ok (.bipush 20, 2) := dk_16 20 (dk_at dksX5_feed_0 9 rfl rfl)
theorem dX5_feed_11 : decode cX5_feed 11 = .ok (.iadd, 1) := dk_96 (dk_at dksX5_feed_0 11 rfl rfl)
theorem dX5_feed_12 : decode cX5_feed 12 = .ok (.sipush 900, 3) := dk_17 3 132 (dk_at dksX5_feed_0 12 rfl rfl)
theorem dX5_feed_15 : decode cX5_feed 15 = .ok (.if_icmp .le 5, 3) := dk_164 0 5 (dk_at dksX5_feed_0 15 rfl rfl)
theorem dX5_feed_18 : decode cX5_feed 18 = .ok (.iconst (-1), 1) := dk_2 (dk_at dksX5_feed_0 18 rfl rfl)
theorem dX5_feed_19 : decode cX5_feed 19 = .ok (.ireturn, 1) := dk_172 (dk_at dksX5_feed_0 19 rfl rfl)
theorem dX5_feed_20 : decode cX5_feed 20 = .ok (.iconst 0, 1) := dk_3 (dk_at dksX5_feed_0 20 rfl rfl)
theorem dX5_feed_21 : decode cX5_feed 21 = .ok (.istore 6, 2) := dk_54 6 (dk_at dksX5_feed_0 21 rfl rfl)
theorem dX5_feed_23 : decode cX5_feed 23 = .ok (.iload 6, 2) := dk_21 6 (dk_at dksX5_feed_1 0 rfl rfl)
theorem dX5_feed_25 : decode cX5_feed 25 = .ok (.bipush 20, 2) := dk_16 20 (dk_at dksX5_feed_1 2 rfl rfl)
theorem dX5_feed_27 : decode cX5_feed 27 = .ok (.if_icmp .ge 90, 3) := dk_162 0 90 (dk_at dksX5_feed_1 4 rfl rfl)
theorem dX5_feed_30 : decode cX5_feed 30 = .ok (.iload 6, 2) := dk_21 6 (dk_at dksX5_feed_1 7 rfl rfl)
theorem dX5_feed_32 : decode cX5_feed 32 = .ok (.iconst 4, 1) := dk_7 (dk_at dksX5_feed_1 9 rfl rfl)
theorem dX5_feed_33 : decode cX5_feed 33 = .ok (.if_icmp .ge 7, 3) := dk_162 0 7 (dk_at dksX5_feed_1 10 rfl rfl)
theorem dX5_feed_36 : decode cX5_feed 36 = .ok (.iload_n 1, 1) := dk_27 (dk_at dksX5_feed_1 13 rfl rfl)
theorem dX5_feed_37 : decode cX5_feed 37 = .ok (.goto 39, 3) := dk_167 0 39 (dk_at dksX5_feed_1 14 rfl rfl)
theorem dX5_feed_40 : decode cX5_feed 40 = .ok (.iload 6, 2) := dk_21 6 (dk_at dksX5_feed_1 17 rfl rfl)
theorem dX5_feed_42 : decode cX5_feed 42 = .ok (.bipush 8, 2) := dk_16 8 (dk_at dksX5_feed_1 19 rfl rfl)
theorem dX5_feed_44 : decode cX5_feed 44 = .ok (.if_icmp .ge 7, 3) := dk_162 0 7 (dk_at dksX5_feed_1 21 rfl rfl)
theorem dX5_feed_47 : decode cX5_feed 47 = .ok (.iload_n 2, 1) := dk_28 (dk_at dksX5_feed_2 0 rfl rfl)
theorem dX5_feed_48 : decode cX5_feed 48 = .ok (.goto 28, 3) := dk_167 0 28 (dk_at dksX5_feed_2 1 rfl rfl)
theorem dX5_feed_51 : decode cX5_feed 51 = .ok (.iload 6, 2) := dk_21 6 (dk_at dksX5_feed_2 4 rfl rfl)
theorem dX5_feed_53 : decode cX5_feed 53 = .ok (.bipush 12, 2) := dk_16 12 (dk_at dksX5_feed_2 6 rfl rfl)
theorem dX5_feed_55 : decode cX5_feed 55 = .ok (.if_icmp .ge 7, 3) := dk_162 0 7 (dk_at dksX5_feed_2 8 rfl rfl)
theorem dX5_feed_58 : decode cX5_feed 58 = .ok (.iload_n 3, 1) := dk_29 (dk_at dksX5_feed_2 11 rfl rfl)
theorem dX5_feed_59 : decode cX5_feed 59 = .ok (.goto 17, 3) := dk_167 0 17 (dk_at dksX5_feed_2 12 rfl rfl)
theorem dX5_feed_62 : decode cX5_feed 62 = .ok (.iload 6, 2) := dk_21 6 (dk_at dksX5_feed_2 15 rfl rfl)
theorem dX5_feed_64 : decode cX5_feed 64 = .ok (.bipush 16, 2) := dk_16 16 (dk_at dksX5_feed_2 17 rfl rfl)
theorem dX5_feed_66 : decode cX5_feed 66 = .ok (.if_icmp .ge 8, 3) := dk_162 0 8 (dk_at dksX5_feed_2 19 rfl rfl)
theorem dX5_feed_69 : decode cX5_feed 69 = .ok (.iload 4, 2) := dk_21 4 (dk_at dksX5_feed_2 22 rfl rfl)
theorem dX5_feed_71 : decode cX5_feed 71 = .ok (.goto 5, 3) := dk_167 0 5 (dk_at dksX5_feed_3 0 rfl rfl)
theorem dX5_feed_74 : decode cX5_feed 74 = .ok (.iload 5, 2) := dk_21 5 (dk_at dksX5_feed_3 3 rfl rfl)
theorem dX5_feed_76 : decode cX5_feed 76 = .ok (.istore 7, 2) := dk_54 7 (dk_at dksX5_feed_3 5 rfl rfl)
theorem dX5_feed_78 : decode cX5_feed 78 = .ok (.aload_n 0, 1) := dk_42 (dk_at dksX5_feed_3 7 rfl rfl)
theorem dX5_feed_79 : decode cX5_feed 79 = .ok (.getfield 13, 3) := dk_180 0 13 (dk_at dksX5_feed_3 8 rfl rfl)
theorem dX5_feed_82 : decode cX5_feed 82 = .ok (.aload_n 0, 1) := dk_42 (dk_at dksX5_feed_3 11 rfl rfl)
theorem dX5_feed_83 : decode cX5_feed 83 = .ok (.getfield 387, 3) := dk_180 1 131 (dk_at dksX5_feed_3 12 rfl rfl)
theorem dX5_feed_86 : decode cX5_feed 86 = .ok (.iload 7, 2) := dk_21 7 (dk_at dksX5_feed_3 15 rfl rfl)
theorem dX5_feed_88 : decode cX5_feed 88 = .ok (.bipush 24, 2) := dk_16 24 (dk_at dksX5_feed_3 17 rfl rfl)
theorem dX5_feed_90 : decode cX5_feed 90 = .ok (.bipush 8, 2) := dk_16 8 (dk_at dksX5_feed_3 19 rfl rfl)
theorem dX5_feed_92 : decode cX5_feed 92 = .ok (.iload 6, 2) := dk_21 6 (dk_at dksX5_feed_3 21 rfl rfl)
theorem dX5_feed_94 : decode cX5_feed 94 = .ok (.iconst 4, 1) := dk_7 (dk_at dksX5_feed_3 23 rfl rfl)
theorem dX5_feed_95 : decode cX5_feed 95 = .ok (.irem, 1) := dk_112 (dk_at dksX5_feed_4 0 rfl rfl)
theorem dX5_feed_96 : decode cX5_feed 96 = .ok (.imul, 1) := dk_104 (dk_at dksX5_feed_4 1 rfl rfl)
theorem dX5_feed_97 : decode cX5_feed 97 = .ok (.isub, 1) := dk_100 (dk_at dksX5_feed_4 2 rfl rfl)
theorem dX5_feed_98 : decode cX5_feed 98 = .ok (.ishr, 1) := dk_122 (dk_at dksX5_feed_4 3 rfl rfl)
theorem dX5_feed_99 : decode cX5_feed 99 = .ok (.i2b, 1) := dk_145 (dk_at dksX5_feed_4 4 rfl rfl)
theorem dX5_feed_100 : decode cX5_feed 100 = .ok (.bastore, 1) := dk_84 (dk_at dksX5_feed_4 5 rfl rfl)
theorem dX5_feed_101 : decode cX5_feed 101 = .ok (.aload_n 0, 1) := dk_42 (dk_at dksX5_feed_4 6 rfl rfl)
theorem dX5_feed_102 : decode cX5_feed 102 = .ok (.dup, 1) := dk_89 (dk_at dksX5_feed_4 7 rfl rfl)
theorem dX5_feed_103 : decode cX5_feed 103 = .ok (.getfield 387, 3) := dk_180 1 131 (dk_at dksX5_feed_4 8 rfl rfl)
theorem dX5_feed_106 : decode cX5_feed 106 = .ok (.iconst 1, 1) := dk_4 (dk_at dksX5_feed_4 11 rfl rfl)
theorem dX5_feed_107 : decode cX5_feed 107 = .ok (.iadd, 1) := dk_96 (dk_at dksX5_feed_4 12 rfl rfl)
theorem dX5_feed_108 : decode cX5_feed 108 = .ok (.putfield 387, 3) := dk_181 1 131 (dk_at dksX5_feed_4 13 rfl rfl)
theorem dX5_feed_111 : decode cX5_feed 111 = .ok (.iinc 6 1, 3) := dk_132 6 1 (dk_at dksX5_feed_4 16 rfl rfl)
theorem dX5_feed_114 : decode cX5_feed 114 = .ok (.goto (-91), 3) := dk_167 255 165 (dk_at dksX5_feed_4 19 rfl rfl)
theorem dX5_feed_117 : decode cX5_feed 117 = .ok (.aload_n 0, 1) := dk_42 (dk_at dksX5_feed_4 22 rfl rfl)
theorem dX5_feed_118 : decode cX5_feed 118 = .ok (.getfield 387, 3) := dk_180 1 131 (dk_at dksX5_feed_5 0 rfl rfl)
theorem dX5_feed_121 : decode cX5_feed 121 = .ok (.ireturn, 1) := dk_172 (dk_at dksX5_feed_5 3 rfl rfl)
abbrev cX5_day : ByteArray := prog_15_method_35_code
def yX5_day : MethodName := ⟨RX5, "day", "(I)I"⟩
def dkwX5_day_7 : List UInt8 := [3, 181, 1, 157, 42, 42, 180, 1, 138, 180, 0, 223, 182, 1, 160, 172]
abbrev dktX5_day_7 : List UInt8 := dkwX5_day_7 ++ []
def dkwX5_day_6 : List UInt8 := [181, 1, 141, 42, 3, 181, 1, 144, 42, 3, 181, 1, 147, 42, 3, 181, 1, 150, 42, 3, 181, 1, 153, 42]
abbrev dktX5_day_6 : List UInt8 := dkwX5_day_6 ++ dktX5_day_7
def dkwX5_day_5 : List UInt8 := [61, 28, 16, 6, 162, 0, 16, 42, 180, 0, 60, 28, 3, 79, 132, 2, 1, 167, 255, 240, 42, 3]
abbrev dktX5_day_5 : List UInt8 := dkwX5_day_5 ++ dktX5_day_6
def dkwX5_day_4 : List UInt8 := [181, 1, 138, 3, 61, 28, 6, 162, 0, 16, 42, 180, 0, 17, 28, 3, 79, 132, 2, 1, 167, 255, 241, 3]
abbrev dktX5_day_4 : List UInt8 := dkwX5_day_4 ++ dktX5_day_5
def dkwX5_day_3 : List UInt8 := [158, 0, 18, 42, 7, 181, 0, 78, 42, 42, 180, 0, 135, 181, 0, 9, 2, 172, 42, 42, 180, 0, 191]
abbrev dktX5_day_3 : List UInt8 := dkwX5_day_3 ++ dktX5_day_4
def dkwX5_day_2 : List UInt8 := [183, 1, 134, 181, 0, 191, 42, 3, 181, 0, 100, 42, 182, 0, 146, 42, 182, 1, 135, 42, 180, 0, 132]
abbrev dktX5_day_2 : List UInt8 := dkwX5_day_2 ++ dktX5_day_3
def dkwX5_day_1 : List UInt8 := [27, 181, 0, 85, 42, 3, 181, 1, 131, 42, 3, 181, 0, 103, 42, 3, 181, 0, 132, 42, 187, 0, 196, 89]
abbrev dktX5_day_1 : List UInt8 := dkwX5_day_1 ++ dktX5_day_2
def dkwX5_day_0 : List UInt8 := [42, 3, 181, 0, 75, 27, 155, 0, 11, 27, 42, 180, 1, 131, 164, 0, 9, 42, 5, 182, 0, 81, 172, 42]
abbrev dktX5_day_0 : List UInt8 := dkwX5_day_0 ++ dktX5_day_1
theorem dksX5_day_0 : cX5_day.data.toList.drop 0 = dktX5_day_0 := by decide +kernel
theorem dksX5_day_1 : cX5_day.data.toList.drop 24 = dktX5_day_1 := dk_seg dksX5_day_0 24 rfl rfl
theorem dksX5_day_2 : cX5_day.data.toList.drop 48 = dktX5_day_2 := dk_seg dksX5_day_1 24 rfl rfl
theorem dksX5_day_3 : cX5_day.data.toList.drop 71 = dktX5_day_3 := dk_seg dksX5_day_2 23 rfl rfl
theorem dksX5_day_4 : cX5_day.data.toList.drop 94 = dktX5_day_4 := dk_seg dksX5_day_3 23 rfl rfl
theorem dksX5_day_5 : cX5_day.data.toList.drop 118 = dktX5_day_5 := dk_seg dksX5_day_4 24 rfl rfl
theorem dksX5_day_6 : cX5_day.data.toList.drop 140 = dktX5_day_6 := dk_seg dksX5_day_5 22 rfl rfl
theorem dksX5_day_7 : cX5_day.data.toList.drop 164 = dktX5_day_7 := dk_seg dksX5_day_6 24 rfl rfl
theorem dX5_day_0 : decode cX5_day 0 = .ok (.aload_n 0, 1) := dk_42 (dk_at dksX5_day_0 0 rfl rfl)
theorem dX5_day_1 : decode cX5_day 1 = .ok (.iconst 0, 1) := dk_3 (dk_at dksX5_day_0 1 rfl rfl)
theorem dX5_day_2 : decode cX5_day 2 = .ok (.putfield 75, 3) := dk_181 0 75 (dk_at dksX5_day_0 2 rfl rfl)
theorem dX5_day_5 : decode cX5_day 5 = .ok (.iload_n 1, 1) := dk_27 (dk_at dksX5_day_0 5 rfl rfl)
theorem dX5_day_6 : decode cX5_day 6 = .ok (.ifCond .lt 11, 3) := dk_155 0 11 (dk_at dksX5_day_0 6 rfl rfl)
theorem dX5_day_9 : decode cX5_day 9 = .ok (.iload_n 1, 1) := dk_27 (dk_at dksX5_day_0 9 rfl rfl)
theorem dX5_day_10 : decode cX5_day 10 = .ok (.aload_n 0, 1) := dk_42 (dk_at dksX5_day_0 10 rfl rfl)
theorem dX5_day_11 : decode cX5_day 11 = .ok (.getfield 387, 3) := dk_180 1 131 (dk_at dksX5_day_0 11 rfl rfl)
theorem dX5_day_14 : decode cX5_day 14 = .ok (.if_icmp .le 9, 3) := dk_164 0 9 (dk_at dksX5_day_0 14 rfl rfl)
theorem dX5_day_17 : decode cX5_day 17 = .ok (.aload_n 0, 1) := dk_42 (dk_at dksX5_day_0 17 rfl rfl)
theorem dX5_day_18 : decode cX5_day 18 = .ok (.iconst 2, 1) := dk_5 (dk_at dksX5_day_0 18 rfl rfl)
theorem dX5_day_19 : decode cX5_day 19 = .ok (.invokevirtual 81, 3) := dk_182 0 81 (dk_at dksX5_day_0 19 rfl rfl)
theorem dX5_day_22 : decode cX5_day 22 = .ok (.ireturn, 1) := dk_172 (dk_at dksX5_day_0 22 rfl rfl)
theorem dX5_day_23 : decode cX5_day 23 = .ok (.aload_n 0, 1) := dk_42 (dk_at dksX5_day_0 23 rfl rfl)
theorem dX5_day_24 : decode cX5_day 24 = .ok (.iload_n 1, 1) := dk_27 (dk_at dksX5_day_1 0 rfl rfl)
theorem dX5_day_25 : decode cX5_day 25 = .ok (.putfield 85, 3) := dk_181 0 85 (dk_at dksX5_day_1 1 rfl rfl)
theorem dX5_day_28 : decode cX5_day 28 = .ok (.aload_n 0, 1) := dk_42 (dk_at dksX5_day_1 4 rfl rfl)
theorem dX5_day_29 : decode cX5_day 29 = .ok (.iconst 0, 1) := dk_3 (dk_at dksX5_day_1 5 rfl rfl)
theorem dX5_day_30 : decode cX5_day 30 = .ok (.putfield 387, 3) := dk_181 1 131 (dk_at dksX5_day_1 6 rfl rfl)
theorem dX5_day_33 : decode cX5_day 33 = .ok (.aload_n 0, 1) := dk_42 (dk_at dksX5_day_1 9 rfl rfl)
theorem dX5_day_34 : decode cX5_day 34 = .ok (.iconst 0, 1) := dk_3 (dk_at dksX5_day_1 10 rfl rfl)
theorem dX5_day_35 : decode cX5_day 35 = .ok (.putfield 103, 3) := dk_181 0 103 (dk_at dksX5_day_1 11 rfl rfl)
theorem dX5_day_38 : decode cX5_day 38 = .ok (.aload_n 0, 1) := dk_42 (dk_at dksX5_day_1 14 rfl rfl)
theorem dX5_day_39 : decode cX5_day 39 = .ok (.iconst 0, 1) := dk_3 (dk_at dksX5_day_1 15 rfl rfl)
theorem dX5_day_40 : decode cX5_day 40 = .ok (.putfield 132, 3) := dk_181 0 132 (dk_at dksX5_day_1 16 rfl rfl)
theorem dX5_day_43 : decode cX5_day 43 = .ok (.aload_n 0, 1) := dk_42 (dk_at dksX5_day_1 19 rfl rfl)
theorem dX5_day_44 : decode cX5_day 44 = .ok (.new 196, 3) := dk_187 0 196 (dk_at dksX5_day_1 20 rfl rfl)
theorem dX5_day_47 : decode cX5_day 47 = .ok (.dup, 1) := dk_89 (dk_at dksX5_day_1 23 rfl rfl)
theorem dX5_day_48 : decode cX5_day 48 = .ok (.invokespecial 390, 3) := dk_183 1 134 (dk_at dksX5_day_2 0 rfl rfl)
theorem dX5_day_51 : decode cX5_day 51 = .ok (.putfield 191, 3) := dk_181 0 191 (dk_at dksX5_day_2 3 rfl rfl)
theorem dX5_day_54 : decode cX5_day 54 = .ok (.aload_n 0, 1) := dk_42 (dk_at dksX5_day_2 6 rfl rfl)
theorem dX5_day_55 : decode cX5_day 55 = .ok (.iconst 0, 1) := dk_3 (dk_at dksX5_day_2 7 rfl rfl)
theorem dX5_day_56 : decode cX5_day 56 = .ok (.putfield 100, 3) := dk_181 0 100 (dk_at dksX5_day_2 8 rfl rfl)
theorem dX5_day_59 : decode cX5_day 59 = .ok (.aload_n 0, 1) := dk_42 (dk_at dksX5_day_2 11 rfl rfl)
theorem dX5_day_60 : decode cX5_day 60 = .ok (.invokevirtual 146, 3) := dk_182 0 146 (dk_at dksX5_day_2 12 rfl rfl)
theorem dX5_day_63 : decode cX5_day 63 = .ok (.aload_n 0, 1) := dk_42 (dk_at dksX5_day_2 15 rfl rfl)
theorem dX5_day_64 : decode cX5_day 64 = .ok (.invokevirtual 391, 3) := dk_182 1 135 (dk_at dksX5_day_2 16 rfl rfl)
theorem dX5_day_67 : decode cX5_day 67 = .ok (.aload_n 0, 1) := dk_42 (dk_at dksX5_day_2 19 rfl rfl)
theorem dX5_day_68 : decode cX5_day 68 = .ok (.getfield 132, 3) := dk_180 0 132 (dk_at dksX5_day_2 20 rfl rfl)
theorem dX5_day_71 : decode cX5_day 71 = .ok (.ifCond .le 18, 3) := dk_158 0 18 (dk_at dksX5_day_3 0 rfl rfl)
theorem dX5_day_74 : decode cX5_day 74 = .ok (.aload_n 0, 1) := dk_42 (dk_at dksX5_day_3 3 rfl rfl)
theorem dX5_day_75 : decode cX5_day 75 = .ok (.iconst 4, 1) := dk_7 (dk_at dksX5_day_3 4 rfl rfl)
theorem dX5_day_76 : decode cX5_day 76 = .ok (.putfield 78, 3) := dk_181 0 78 (dk_at dksX5_day_3 5 rfl rfl)
theorem dX5_day_79 : decode cX5_day 79 = .ok (.aload_n 0, 1) := dk_42 (dk_at dksX5_day_3 8 rfl rfl)
theorem dX5_day_80 : decode cX5_day 80 = .ok (.aload_n 0, 1) := dk_42 (dk_at dksX5_day_3 9 rfl rfl)
theorem dX5_day_81 : decode cX5_day 81 = .ok (.getfield 135, 3) := dk_180 0 135 (dk_at dksX5_day_3 10 rfl rfl)
theorem dX5_day_84 : decode cX5_day 84 = .ok (.putfield 9, 3) := dk_181 0 9 (dk_at dksX5_day_3 13 rfl rfl)
theorem dX5_day_87 : decode cX5_day 87 = .ok (.iconst (-1), 1) := dk_2 (dk_at dksX5_day_3 16 rfl rfl)
theorem dX5_day_88 : decode cX5_day 88 = .ok (.ireturn, 1) := dk_172 (dk_at dksX5_day_3 17 rfl rfl)
theorem dX5_day_89 : decode cX5_day 89 = .ok (.aload_n 0, 1) := dk_42 (dk_at dksX5_day_3 18 rfl rfl)
theorem dX5_day_90 : decode cX5_day 90 = .ok (.aload_n 0, 1) := dk_42 (dk_at dksX5_day_3 19 rfl rfl)
theorem dX5_day_91 : decode cX5_day 91 = .ok (.getfield 191, 3) := dk_180 0 191 (dk_at dksX5_day_3 20 rfl rfl)
theorem dX5_day_94 : decode cX5_day 94 = .ok (.putfield 394, 3) := dk_181 1 138 (dk_at dksX5_day_4 0 rfl rfl)
theorem dX5_day_97 : decode cX5_day 97 = .ok (.iconst 0, 1) := dk_3 (dk_at dksX5_day_4 3 rfl rfl)
theorem dX5_day_98 : decode cX5_day 98 = .ok (.istore_n 2, 1) := dk_61 (dk_at dksX5_day_4 4 rfl rfl)
theorem dX5_day_99 : decode cX5_day 99 = .ok (.iload_n 2, 1) := dk_28 (dk_at dksX5_day_4 5 rfl rfl)
theorem dX5_day_100 : decode cX5_day 100 = .ok (.iconst 3, 1) := dk_6 (dk_at dksX5_day_4 6 rfl rfl)
theorem dX5_day_101 : decode cX5_day 101 = .ok (.if_icmp .ge 16, 3) := dk_162 0 16 (dk_at dksX5_day_4 7 rfl rfl)
theorem dX5_day_104 : decode cX5_day 104 = .ok (.aload_n 0, 1) := dk_42 (dk_at dksX5_day_4 10 rfl rfl)
theorem dX5_day_105 : decode cX5_day 105 = .ok (.getfield 17, 3) := dk_180 0 17 (dk_at dksX5_day_4 11 rfl rfl)
theorem dX5_day_108 : decode cX5_day 108 = .ok (.iload_n 2, 1) := dk_28 (dk_at dksX5_day_4 14 rfl rfl)
theorem dX5_day_109 : decode cX5_day 109 = .ok (.iconst 0, 1) := dk_3 (dk_at dksX5_day_4 15 rfl rfl)
theorem dX5_day_110 : decode cX5_day 110 = .ok (.iastore, 1) := dk_79 (dk_at dksX5_day_4 16 rfl rfl)
theorem dX5_day_111 : decode cX5_day 111 = .ok (.iinc 2 1, 3) := dk_132 2 1 (dk_at dksX5_day_4 17 rfl rfl)
theorem dX5_day_114 : decode cX5_day 114 = .ok (.goto (-15), 3) := dk_167 255 241 (dk_at dksX5_day_4 20 rfl rfl)
theorem dX5_day_117 : decode cX5_day 117 = .ok (.iconst 0, 1) := dk_3 (dk_at dksX5_day_4 23 rfl rfl)
theorem dX5_day_118 : decode cX5_day 118 = .ok (.istore_n 2, 1) := dk_61 (dk_at dksX5_day_5 0 rfl rfl)
theorem dX5_day_119 : decode cX5_day 119 = .ok (.iload_n 2, 1) := dk_28 (dk_at dksX5_day_5 1 rfl rfl)
theorem dX5_day_120 : decode cX5_day 120 = .ok (.bipush 6, 2) := dk_16 6 (dk_at dksX5_day_5 2 rfl rfl)
theorem dX5_day_122 : decode cX5_day 122 = .ok (.if_icmp .ge 16, 3) := dk_162 0 16 (dk_at dksX5_day_5 4 rfl rfl)
theorem dX5_day_125 : decode cX5_day 125 = .ok (.aload_n 0, 1) := dk_42 (dk_at dksX5_day_5 7 rfl rfl)
theorem dX5_day_126 : decode cX5_day 126 = .ok (.getfield 60, 3) := dk_180 0 60 (dk_at dksX5_day_5 8 rfl rfl)
theorem dX5_day_129 : decode cX5_day 129 = .ok (.iload_n 2, 1) := dk_28 (dk_at dksX5_day_5 11 rfl rfl)
theorem dX5_day_130 : decode cX5_day 130 = .ok (.iconst 0, 1) := dk_3 (dk_at dksX5_day_5 12 rfl rfl)
theorem dX5_day_131 : decode cX5_day 131 = .ok (.iastore, 1) := dk_79 (dk_at dksX5_day_5 13 rfl rfl)
theorem dX5_day_132 : decode cX5_day 132 = .ok (.iinc 2 1, 3) := dk_132 2 1 (dk_at dksX5_day_5 14 rfl rfl)
theorem dX5_day_135 : decode cX5_day 135 = .ok (.goto (-16), 3) := dk_167 255 240 (dk_at dksX5_day_5 17 rfl rfl)
theorem dX5_day_138 : decode cX5_day 138 = .ok (.aload_n 0, 1) := dk_42 (dk_at dksX5_day_5 20 rfl rfl)
theorem dX5_day_139 : decode cX5_day 139 = .ok (.iconst 0, 1) := dk_3 (dk_at dksX5_day_5 21 rfl rfl)
theorem dX5_day_140 : decode cX5_day 140 = .ok (.putfield 397, 3) := dk_181 1 141 (dk_at dksX5_day_6 0 rfl rfl)
theorem dX5_day_143 : decode cX5_day 143 = .ok (.aload_n 0, 1) := dk_42 (dk_at dksX5_day_6 3 rfl rfl)
theorem dX5_day_144 : decode cX5_day 144 = .ok (.iconst 0, 1) := dk_3 (dk_at dksX5_day_6 4 rfl rfl)
theorem dX5_day_145 : decode cX5_day 145 = .ok (.putfield 400, 3) := dk_181 1 144 (dk_at dksX5_day_6 5 rfl rfl)
theorem dX5_day_148 : decode cX5_day 148 = .ok (.aload_n 0, 1) := dk_42 (dk_at dksX5_day_6 8 rfl rfl)
theorem dX5_day_149 : decode cX5_day 149 = .ok (.iconst 0, 1) := dk_3 (dk_at dksX5_day_6 9 rfl rfl)
theorem dX5_day_150 : decode cX5_day 150 = .ok (.putfield 403, 3) := dk_181 1 147 (dk_at dksX5_day_6 10 rfl rfl)
theorem dX5_day_153 : decode cX5_day 153 = .ok (.aload_n 0, 1) := dk_42 (dk_at dksX5_day_6 13 rfl rfl)
theorem dX5_day_154 : decode cX5_day 154 = .ok (.iconst 0, 1) := dk_3 (dk_at dksX5_day_6 14 rfl rfl)
theorem dX5_day_155 : decode cX5_day 155 = .ok (.putfield 406, 3) := dk_181 1 150 (dk_at dksX5_day_6 15 rfl rfl)
theorem dX5_day_158 : decode cX5_day 158 = .ok (.aload_n 0, 1) := dk_42 (dk_at dksX5_day_6 18 rfl rfl)
theorem dX5_day_159 : decode cX5_day 159 = .ok (.iconst 0, 1) := dk_3 (dk_at dksX5_day_6 19 rfl rfl)
theorem dX5_day_160 : decode cX5_day 160 = .ok (.putfield 409, 3) := dk_181 1 153 (dk_at dksX5_day_6 20 rfl rfl)
theorem dX5_day_163 : decode cX5_day 163 = .ok (.aload_n 0, 1) := dk_42 (dk_at dksX5_day_6 23 rfl rfl)
theorem dX5_day_164 : decode cX5_day 164 = .ok (.iconst 0, 1) := dk_3 (dk_at dksX5_day_7 0 rfl rfl)
theorem dX5_day_165 : decode cX5_day 165 = .ok (.putfield 413, 3) := dk_181 1 157 (dk_at dksX5_day_7 1 rfl rfl)
theorem dX5_day_168 : decode cX5_day 168 = .ok (.aload_n 0, 1) := dk_42 (dk_at dksX5_day_7 4 rfl rfl)
theorem dX5_day_169 : decode cX5_day 169 = .ok (.aload_n 0, 1) := dk_42 (dk_at dksX5_day_7 5 rfl rfl)
theorem dX5_day_170 : decode cX5_day 170 = .ok (.getfield 394, 3) := dk_180 1 138 (dk_at dksX5_day_7 6 rfl rfl)
theorem dX5_day_173 : decode cX5_day 173 = .ok (.getfield 223, 3) := dk_180 0 223 (dk_at dksX5_day_7 9 rfl rfl)
theorem dX5_day_176 : decode cX5_day 176 = .ok (.invokevirtual 416, 3) := dk_182 1 160 (dk_at dksX5_day_7 12 rfl rfl)
theorem dX5_day_179 : decode cX5_day 179 = .ok (.ireturn, 1) := dk_172 (dk_at dksX5_day_7 15 rfl rfl)
abbrev cX5_refused : ByteArray := prog_15_method_3_code
def yX5_refused : MethodName := ⟨RX5, "refused", "(I)I"⟩
def dkwX5_refused_0 : List UInt8 := [42, 27, 181, 0, 78, 42, 2, 181, 0, 9, 2, 172]
abbrev dktX5_refused_0 : List UInt8 := dkwX5_refused_0 ++ []
theorem dksX5_refused_0 : cX5_refused.data.toList.drop 0 = dktX5_refused_0 := by decide +kernel
theorem dX5_refused_0 : decode cX5_refused 0 = .ok (.aload_n 0, 1) := dk_42 (dk_at dksX5_refused_0 0 rfl rfl)
theorem dX5_refused_1 : decode cX5_refused 1 = .ok (.iload_n 1, 1) := dk_27 (dk_at dksX5_refused_0 1 rfl rfl)
theorem dX5_refused_2 : decode cX5_refused 2 = .ok (.putfield 78, 3) := dk_181 0 78 (dk_at dksX5_refused_0 2 rfl rfl)
theorem dX5_refused_5 : decode cX5_refused 5 = .ok (.aload_n 0, 1) := dk_42 (dk_at dksX5_refused_0 5 rfl rfl)
theorem dX5_refused_6 : decode cX5_refused 6 = .ok (.iconst (-1), 1) := dk_2 (dk_at dksX5_refused_0 6 rfl rfl)
theorem dX5_refused_7 : decode cX5_refused 7 = .ok (.putfield 9, 3) := dk_181 0 9 (dk_at dksX5_refused_0 7 rfl rfl)
theorem dX5_refused_10 : decode cX5_refused 10 = .ok (.iconst (-1), 1) := dk_2 (dk_at dksX5_refused_0 10 rfl rfl)
theorem dX5_refused_11 : decode cX5_refused 11 = .ok (.ireturn, 1) := dk_172 (dk_at dksX5_refused_0 11 rfl rfl)
abbrev cX5_goesOn : ByteArray := prog_15_method_11_code
def yX5_goesOn : MethodName := ⟨RX5, "goesOn", "()V"⟩
def dkwX5_goesOn_13 : List UInt8 := [181, 0, 103, 177]
abbrev dktX5_goesOn_13 : List UInt8 := dkwX5_goesOn_13 ++ []
def dkwX5_goesOn_12 : List UInt8 := [16, 44, 160, 0, 23, 42, 7, 181, 0, 100, 42, 27, 181, 0, 112, 42, 89, 180, 0, 103, 4, 96]
abbrev dktX5_goesOn_12 : List UInt8 := dkwX5_goesOn_12 ++ dktX5_goesOn_13
def dkwX5_goesOn_11 : List UInt8 := [167, 255, 201, 28, 6, 163, 0, 43, 42, 6, 181, 0, 100, 167, 0, 35, 27, 16, 59, 159, 0, 9, 27]
abbrev dktX5_goesOn_11 : List UInt8 := dkwX5_goesOn_11 ++ dktX5_goesOn_12
def dkwX5_goesOn_10 : List UInt8 := [182, 0, 106, 96, 16, 48, 100, 181, 0, 129, 132, 2, 1, 42, 89, 180, 0, 103, 4, 96, 181, 0, 103]
abbrev dktX5_goesOn_10 : List UInt8 := dkwX5_goesOn_10 ++ dktX5_goesOn_11
def dkwX5_goesOn_9 : List UInt8 := [184, 0, 126, 153, 0, 47, 28, 6, 162, 0, 26, 42, 16, 10, 42, 180, 0, 129, 104, 42, 42, 180, 0, 103]
abbrev dktX5_goesOn_9 : List UInt8 := dkwX5_goesOn_9 ++ dktX5_goesOn_10
def dkwX5_goesOn_8 : List UInt8 := [167, 0, 118, 27, 184, 0, 126, 153, 0, 79, 42, 3, 181, 0, 129, 42, 42, 180, 0, 103, 182, 0, 106]
abbrev dktX5_goesOn_8 : List UInt8 := dkwX5_goesOn_8 ++ dktX5_goesOn_9
def dkwX5_goesOn_7 : List UInt8 := [89, 180, 0, 103, 4, 96, 181, 0, 103, 167, 255, 174, 28, 16, 8, 163, 0, 126, 42, 5, 181, 0, 100]
abbrev dktX5_goesOn_7 : List UInt8 := dkwX5_goesOn_7 ++ dktX5_goesOn_8
def dkwX5_goesOn_6 : List UInt8 := [180, 0, 123, 4, 42, 42, 180, 0, 103, 182, 0, 106, 16, 97, 100, 120, 128, 181, 0, 123, 132, 2, 1, 42]
abbrev dktX5_goesOn_6 : List UInt8 := dkwX5_goesOn_6 ++ dktX5_goesOn_7
def dkwX5_goesOn_5 : List UInt8 := [180, 0, 119, 105, 42, 42, 180, 0, 103, 182, 0, 106, 16, 97, 100, 4, 96, 133, 97, 181, 0, 119, 42, 89]
abbrev dktX5_goesOn_5 : List UInt8 := dkwX5_goesOn_5 ++ dktX5_goesOn_6
def dkwX5_goesOn_4 : List UInt8 := [42, 180, 0, 103, 182, 0, 106, 184, 0, 115, 153, 0, 74, 28, 16, 8, 162, 0, 30, 42, 20, 0, 94, 42]
abbrev dktX5_goesOn_4 : List UInt8 := dkwX5_goesOn_4 ++ dktX5_goesOn_5
def dkwX5_goesOn_3 : List UInt8 := [181, 0, 100, 167, 0, 234, 27, 184, 0, 115, 153, 0, 112, 42, 9, 181, 0, 119, 42, 3, 181, 0, 123, 42]
abbrev dktX5_goesOn_3 : List UInt8 := dkwX5_goesOn_3 ++ dktX5_goesOn_4
def dkwX5_goesOn_2 : List UInt8 := [42, 3, 181, 0, 112, 42, 42, 180, 0, 103, 182, 0, 106, 60, 3, 61, 27, 2, 160, 0, 11, 42, 4]
abbrev dktX5_goesOn_2 : List UInt8 := dkwX5_goesOn_2 ++ dktX5_goesOn_3
def dkwX5_goesOn_1 : List UInt8 := [180, 0, 103, 4, 96, 181, 0, 103, 167, 255, 233, 42, 42, 180, 0, 103, 181, 0, 109, 42, 3, 181, 0, 100]
abbrev dktX5_goesOn_1 : List UInt8 := dkwX5_goesOn_1 ++ dktX5_goesOn_2
def dkwX5_goesOn_0 : List UInt8 := [42, 180, 0, 100, 8, 160, 0, 4, 177, 42, 42, 180, 0, 103, 182, 0, 106, 16, 32, 160, 0, 16, 42, 89]
abbrev dktX5_goesOn_0 : List UInt8 := dkwX5_goesOn_0 ++ dktX5_goesOn_1
theorem dksX5_goesOn_0 : cX5_goesOn.data.toList.drop 0 = dktX5_goesOn_0 := by decide +kernel
theorem dksX5_goesOn_1 : cX5_goesOn.data.toList.drop 24 = dktX5_goesOn_1 := dk_seg dksX5_goesOn_0 24 rfl rfl
theorem dksX5_goesOn_2 : cX5_goesOn.data.toList.drop 48 = dktX5_goesOn_2 := dk_seg dksX5_goesOn_1 24 rfl rfl
theorem dksX5_goesOn_3 : cX5_goesOn.data.toList.drop 71 = dktX5_goesOn_3 := dk_seg dksX5_goesOn_2 23 rfl rfl
theorem dksX5_goesOn_4 : cX5_goesOn.data.toList.drop 95 = dktX5_goesOn_4 := dk_seg dksX5_goesOn_3 24 rfl rfl
theorem dksX5_goesOn_5 : cX5_goesOn.data.toList.drop 119 = dktX5_goesOn_5 := dk_seg dksX5_goesOn_4 24 rfl rfl
theorem dksX5_goesOn_6 : cX5_goesOn.data.toList.drop 143 = dktX5_goesOn_6 := dk_seg dksX5_goesOn_5 24 rfl rfl
theorem dksX5_goesOn_7 : cX5_goesOn.data.toList.drop 167 = dktX5_goesOn_7 := dk_seg dksX5_goesOn_6 24 rfl rfl
theorem dksX5_goesOn_8 : cX5_goesOn.data.toList.drop 190 = dktX5_goesOn_8 := dk_seg dksX5_goesOn_7 23 rfl rfl
theorem dksX5_goesOn_9 : cX5_goesOn.data.toList.drop 213 = dktX5_goesOn_9 := dk_seg dksX5_goesOn_8 23 rfl rfl
theorem dksX5_goesOn_10 : cX5_goesOn.data.toList.drop 237 = dktX5_goesOn_10 := dk_seg dksX5_goesOn_9 24 rfl rfl
theorem dksX5_goesOn_11 : cX5_goesOn.data.toList.drop 260 = dktX5_goesOn_11 := dk_seg dksX5_goesOn_10 23 rfl rfl
theorem dksX5_goesOn_12 : cX5_goesOn.data.toList.drop 283 = dktX5_goesOn_12 := dk_seg dksX5_goesOn_11 23 rfl rfl
theorem dksX5_goesOn_13 : cX5_goesOn.data.toList.drop 305 = dktX5_goesOn_13 := dk_seg dksX5_goesOn_12 22 rfl rfl
theorem dX5_goesOn_0 : decode cX5_goesOn 0 = .ok (.aload_n 0, 1) := dk_42 (dk_at dksX5_goesOn_0 0 rfl rfl)
theorem dX5_goesOn_1 : decode cX5_goesOn 1 = .ok (.getfield 100, 3) := dk_180 0 100 (dk_at dksX5_goesOn_0 1 rfl rfl)
theorem dX5_goesOn_4 : decode cX5_goesOn 4 = .ok (.iconst 5, 1) := dk_8 (dk_at dksX5_goesOn_0 4 rfl rfl)
theorem dX5_goesOn_5 : decode cX5_goesOn 5 = .ok (.if_icmp .ne 4, 3) := dk_160 0 4 (dk_at dksX5_goesOn_0 5 rfl rfl)
theorem dX5_goesOn_8 : decode cX5_goesOn 8 = .ok (.return_, 1) := dk_177 (dk_at dksX5_goesOn_0 8 rfl rfl)
theorem dX5_goesOn_9 : decode cX5_goesOn 9 = .ok (.aload_n 0, 1) := dk_42 (dk_at dksX5_goesOn_0 9 rfl rfl)
theorem dX5_goesOn_10 : decode cX5_goesOn 10 = .ok (.aload_n 0, 1) := dk_42 (dk_at dksX5_goesOn_0 10 rfl rfl)
theorem dX5_goesOn_11 : decode cX5_goesOn 11 = .ok (.getfield 103, 3) := dk_180 0 103 (dk_at dksX5_goesOn_0 11 rfl rfl)
theorem dX5_goesOn_14 : decode cX5_goesOn 14 = .ok (.invokevirtual 106, 3) := dk_182 0 106 (dk_at dksX5_goesOn_0 14 rfl rfl)
theorem dX5_goesOn_17 : decode cX5_goesOn 17 = .ok (.bipush 32, 2) := dk_16 32 (dk_at dksX5_goesOn_0 17 rfl rfl)
theorem dX5_goesOn_19 : decode cX5_goesOn 19 = .ok (.if_icmp .ne 16, 3) := dk_160 0 16 (dk_at dksX5_goesOn_0 19 rfl rfl)
theorem dX5_goesOn_22 : decode cX5_goesOn 22 = .ok (.aload_n 0, 1) := dk_42 (dk_at dksX5_goesOn_0 22 rfl rfl)
theorem dX5_goesOn_23 : decode cX5_goesOn 23 = .ok (.dup, 1) := dk_89 (dk_at dksX5_goesOn_0 23 rfl rfl)
theorem dX5_goesOn_24 : decode cX5_goesOn 24 = .ok (.getfield 103, 3) := dk_180 0 103 (dk_at dksX5_goesOn_1 0 rfl rfl)
theorem dX5_goesOn_27 : decode cX5_goesOn 27 = .ok (.iconst 1, 1) := dk_4 (dk_at dksX5_goesOn_1 3 rfl rfl)
theorem dX5_goesOn_28 : decode cX5_goesOn 28 = .ok (.iadd, 1) := dk_96 (dk_at dksX5_goesOn_1 4 rfl rfl)
theorem dX5_goesOn_29 : decode cX5_goesOn 29 = .ok (.putfield 103, 3) := dk_181 0 103 (dk_at dksX5_goesOn_1 5 rfl rfl)
theorem dX5_goesOn_32 : decode cX5_goesOn 32 = .ok (.goto (-23), 3) := dk_167 255 233 (dk_at dksX5_goesOn_1 8 rfl rfl)
theorem dX5_goesOn_35 : decode cX5_goesOn 35 = .ok (.aload_n 0, 1) := dk_42 (dk_at dksX5_goesOn_1 11 rfl rfl)
theorem dX5_goesOn_36 : decode cX5_goesOn 36 = .ok (.aload_n 0, 1) := dk_42 (dk_at dksX5_goesOn_1 12 rfl rfl)
theorem dX5_goesOn_37 : decode cX5_goesOn 37 = .ok (.getfield 103, 3) := dk_180 0 103 (dk_at dksX5_goesOn_1 13 rfl rfl)
theorem dX5_goesOn_40 : decode cX5_goesOn 40 = .ok (.putfield 109, 3) := dk_181 0 109 (dk_at dksX5_goesOn_1 16 rfl rfl)
theorem dX5_goesOn_43 : decode cX5_goesOn 43 = .ok (.aload_n 0, 1) := dk_42 (dk_at dksX5_goesOn_1 19 rfl rfl)
theorem dX5_goesOn_44 : decode cX5_goesOn 44 = .ok (.iconst 0, 1) := dk_3 (dk_at dksX5_goesOn_1 20 rfl rfl)
theorem dX5_goesOn_45 : decode cX5_goesOn 45 = .ok (.putfield 100, 3) := dk_181 0 100 (dk_at dksX5_goesOn_1 21 rfl rfl)
theorem dX5_goesOn_48 : decode cX5_goesOn 48 = .ok (.aload_n 0, 1) := dk_42 (dk_at dksX5_goesOn_2 0 rfl rfl)
theorem dX5_goesOn_49 : decode cX5_goesOn 49 = .ok (.iconst 0, 1) := dk_3 (dk_at dksX5_goesOn_2 1 rfl rfl)
theorem dX5_goesOn_50 : decode cX5_goesOn 50 = .ok (.putfield 112, 3) := dk_181 0 112 (dk_at dksX5_goesOn_2 2 rfl rfl)
theorem dX5_goesOn_53 : decode cX5_goesOn 53 = .ok (.aload_n 0, 1) := dk_42 (dk_at dksX5_goesOn_2 5 rfl rfl)
theorem dX5_goesOn_54 : decode cX5_goesOn 54 = .ok (.aload_n 0, 1) := dk_42 (dk_at dksX5_goesOn_2 6 rfl rfl)
theorem dX5_goesOn_55 : decode cX5_goesOn 55 = .ok (.getfield 103, 3) := dk_180 0 103 (dk_at dksX5_goesOn_2 7 rfl rfl)
theorem dX5_goesOn_58 : decode cX5_goesOn 58 = .ok (.invokevirtual 106, 3) := dk_182 0 106 (dk_at dksX5_goesOn_2 10 rfl rfl)
theorem dX5_goesOn_61 : decode cX5_goesOn 61 = .ok (.istore_n 1, 1) := dk_60 (dk_at dksX5_goesOn_2 13 rfl rfl)
theorem dX5_goesOn_62 : decode cX5_goesOn 62 = .ok (.iconst 0, 1) := dk_3 (dk_at dksX5_goesOn_2 14 rfl rfl)
theorem dX5_goesOn_63 : decode cX5_goesOn 63 = .ok (.istore_n 2, 1) := dk_61 (dk_at dksX5_goesOn_2 15 rfl rfl)
theorem dX5_goesOn_64 : decode cX5_goesOn 64 = .ok (.iload_n 1, 1) := dk_27 (dk_at dksX5_goesOn_2 16 rfl rfl)
theorem dX5_goesOn_65 : decode cX5_goesOn 65 = .ok (.iconst (-1), 1) := dk_2 (dk_at dksX5_goesOn_2 17 rfl rfl)
theorem dX5_goesOn_66 : decode cX5_goesOn 66 = .ok (.if_icmp .ne 11, 3) := dk_160 0 11 (dk_at dksX5_goesOn_2 18 rfl rfl)
theorem dX5_goesOn_69 : decode cX5_goesOn 69 = .ok (.aload_n 0, 1) := dk_42 (dk_at dksX5_goesOn_2 21 rfl rfl)
theorem dX5_goesOn_70 : decode cX5_goesOn 70 = .ok (.iconst 1, 1) := dk_4 (dk_at dksX5_goesOn_2 22 rfl rfl)
theorem dX5_goesOn_71 : decode cX5_goesOn 71 = .ok (.putfield 100, 3) := dk_181 0 100 (dk_at dksX5_goesOn_3 0 rfl rfl)
theorem dX5_goesOn_74 : decode cX5_goesOn 74 = .ok (.goto 234, 3) := dk_167 0 234 (dk_at dksX5_goesOn_3 3 rfl rfl)
theorem dX5_goesOn_77 : decode cX5_goesOn 77 = .ok (.iload_n 1, 1) := dk_27 (dk_at dksX5_goesOn_3 6 rfl rfl)
theorem dX5_goesOn_78 : decode cX5_goesOn 78 = .ok (.invokestatic 115, 3) := dk_184 0 115 (dk_at dksX5_goesOn_3 7 rfl rfl)
theorem dX5_goesOn_81 : decode cX5_goesOn 81 = .ok (.ifCond .eq 112, 3) := dk_153 0 112 (dk_at dksX5_goesOn_3 10 rfl rfl)
theorem dX5_goesOn_84 : decode cX5_goesOn 84 = .ok (.aload_n 0, 1) := dk_42 (dk_at dksX5_goesOn_3 13 rfl rfl)
theorem dX5_goesOn_85 : decode cX5_goesOn 85 = .ok (.lconst 0, 1) := dk_9 (dk_at dksX5_goesOn_3 14 rfl rfl)
theorem dX5_goesOn_86 : decode cX5_goesOn 86 = .ok (.putfield 119, 3) := dk_181 0 119 (dk_at dksX5_goesOn_3 15 rfl rfl)
theorem dX5_goesOn_89 : decode cX5_goesOn 89 = .ok (.aload_n 0, 1) := dk_42 (dk_at dksX5_goesOn_3 18 rfl rfl)
theorem dX5_goesOn_90 : decode cX5_goesOn 90 = .ok (.iconst 0, 1) := dk_3 (dk_at dksX5_goesOn_3 19 rfl rfl)
theorem dX5_goesOn_91 : decode cX5_goesOn 91 = .ok (.putfield 123, 3) := dk_181 0 123 (dk_at dksX5_goesOn_3 20 rfl rfl)
theorem dX5_goesOn_94 : decode cX5_goesOn 94 = .ok (.aload_n 0, 1) := dk_42 (dk_at dksX5_goesOn_3 23 rfl rfl)
theorem dX5_goesOn_95 : decode cX5_goesOn 95 = .ok (.aload_n 0, 1) := dk_42 (dk_at dksX5_goesOn_4 0 rfl rfl)
theorem dX5_goesOn_96 : decode cX5_goesOn 96 = .ok (.getfield 103, 3) := dk_180 0 103 (dk_at dksX5_goesOn_4 1 rfl rfl)
theorem dX5_goesOn_99 : decode cX5_goesOn 99 = .ok (.invokevirtual 106, 3) := dk_182 0 106 (dk_at dksX5_goesOn_4 4 rfl rfl)
theorem dX5_goesOn_102 : decode cX5_goesOn 102 = .ok (.invokestatic 115, 3) := dk_184 0 115 (dk_at dksX5_goesOn_4 7 rfl rfl)
theorem dX5_goesOn_105 : decode cX5_goesOn 105 = .ok (.ifCond .eq 74, 3) := dk_153 0 74 (dk_at dksX5_goesOn_4 10 rfl rfl)
theorem dX5_goesOn_108 : decode cX5_goesOn 108 = .ok (.iload_n 2, 1) := dk_28 (dk_at dksX5_goesOn_4 13 rfl rfl)
theorem dX5_goesOn_109 : decode cX5_goesOn 109 = .ok (.bipush 8, 2) := dk_16 8 (dk_at dksX5_goesOn_4 14 rfl rfl)
theorem dX5_goesOn_111 : decode cX5_goesOn 111 = .ok (.if_icmp .ge 30, 3) := dk_162 0 30 (dk_at dksX5_goesOn_4 16 rfl rfl)
theorem dX5_goesOn_114 : decode cX5_goesOn 114 = .ok (.aload_n 0, 1) := dk_42 (dk_at dksX5_goesOn_4 19 rfl rfl)
theorem dX5_goesOn_115 : decode cX5_goesOn 115 = .ok (.ldc2_w 94, 3) := dk_20 0 94 (dk_at dksX5_goesOn_4 20 rfl rfl)
theorem dX5_goesOn_118 : decode cX5_goesOn 118 = .ok (.aload_n 0, 1) := dk_42 (dk_at dksX5_goesOn_4 23 rfl rfl)
theorem dX5_goesOn_119 : decode cX5_goesOn 119 = .ok (.getfield 119, 3) := dk_180 0 119 (dk_at dksX5_goesOn_5 0 rfl rfl)
theorem dX5_goesOn_122 : decode cX5_goesOn 122 = .ok (.lmul, 1) := dk_105 (dk_at dksX5_goesOn_5 3 rfl rfl)
theorem dX5_goesOn_123 : decode cX5_goesOn 123 = .ok (.aload_n 0, 1) := dk_42 (dk_at dksX5_goesOn_5 4 rfl rfl)
theorem dX5_goesOn_124 : decode cX5_goesOn 124 = .ok (.aload_n 0, 1) := dk_42 (dk_at dksX5_goesOn_5 5 rfl rfl)
theorem dX5_goesOn_125 : decode cX5_goesOn 125 = .ok (.getfield 103, 3) := dk_180 0 103 (dk_at dksX5_goesOn_5 6 rfl rfl)
theorem dX5_goesOn_128 : decode cX5_goesOn 128 = .ok (.invokevirtual 106, 3) := dk_182 0 106 (dk_at dksX5_goesOn_5 9 rfl rfl)
theorem dX5_goesOn_131 : decode cX5_goesOn 131 = .ok (.bipush 97, 2) := dk_16 97 (dk_at dksX5_goesOn_5 12 rfl rfl)
theorem dX5_goesOn_133 : decode cX5_goesOn 133 = .ok (.isub, 1) := dk_100 (dk_at dksX5_goesOn_5 14 rfl rfl)
theorem dX5_goesOn_134 : decode cX5_goesOn 134 = .ok (.iconst 1, 1) := dk_4 (dk_at dksX5_goesOn_5 15 rfl rfl)
theorem dX5_goesOn_135 : decode cX5_goesOn 135 = .ok (.iadd, 1) := dk_96 (dk_at dksX5_goesOn_5 16 rfl rfl)
theorem dX5_goesOn_136 : decode cX5_goesOn 136 = .ok (.i2l, 1) := dk_133 (dk_at dksX5_goesOn_5 17 rfl rfl)
theorem dX5_goesOn_137 : decode cX5_goesOn 137 = .ok (.ladd, 1) := dk_97 (dk_at dksX5_goesOn_5 18 rfl rfl)
theorem dX5_goesOn_138 : decode cX5_goesOn 138 = .ok (.putfield 119, 3) := dk_181 0 119 (dk_at dksX5_goesOn_5 19 rfl rfl)
theorem dX5_goesOn_141 : decode cX5_goesOn 141 = .ok (.aload_n 0, 1) := dk_42 (dk_at dksX5_goesOn_5 22 rfl rfl)
theorem dX5_goesOn_142 : decode cX5_goesOn 142 = .ok (.dup, 1) := dk_89 (dk_at dksX5_goesOn_5 23 rfl rfl)
theorem dX5_goesOn_143 : decode cX5_goesOn 143 = .ok (.getfield 123, 3) := dk_180 0 123 (dk_at dksX5_goesOn_6 0 rfl rfl)
theorem dX5_goesOn_146 : decode cX5_goesOn 146 = .ok (.iconst 1, 1) := dk_4 (dk_at dksX5_goesOn_6 3 rfl rfl)
theorem dX5_goesOn_147 : decode cX5_goesOn 147 = .ok (.aload_n 0, 1) := dk_42 (dk_at dksX5_goesOn_6 4 rfl rfl)
theorem dX5_goesOn_148 : decode cX5_goesOn 148 = .ok (.aload_n 0, 1) := dk_42 (dk_at dksX5_goesOn_6 5 rfl rfl)
theorem dX5_goesOn_149 : decode cX5_goesOn 149 = .ok (.getfield 103, 3) := dk_180 0 103 (dk_at dksX5_goesOn_6 6 rfl rfl)
theorem dX5_goesOn_152 : decode cX5_goesOn 152 = .ok (.invokevirtual 106, 3) := dk_182 0 106 (dk_at dksX5_goesOn_6 9 rfl rfl)
theorem dX5_goesOn_155 : decode cX5_goesOn 155 = .ok (.bipush 97, 2) := dk_16 97 (dk_at dksX5_goesOn_6 12 rfl rfl)
theorem dX5_goesOn_157 : decode cX5_goesOn 157 = .ok (.isub, 1) := dk_100 (dk_at dksX5_goesOn_6 14 rfl rfl)
theorem dX5_goesOn_158 : decode cX5_goesOn 158 = .ok (.ishl, 1) := dk_120 (dk_at dksX5_goesOn_6 15 rfl rfl)
theorem dX5_goesOn_159 : decode cX5_goesOn 159 = .ok (.ior, 1) := dk_128 (dk_at dksX5_goesOn_6 16 rfl rfl)
theorem dX5_goesOn_160 : decode cX5_goesOn 160 = .ok (.putfield 123, 3) := dk_181 0 123 (dk_at dksX5_goesOn_6 17 rfl rfl)
theorem dX5_goesOn_163 : decode cX5_goesOn 163 = .ok (.iinc 2 1, 3) := dk_132 2 1 (dk_at dksX5_goesOn_6 20 rfl rfl)
theorem dX5_goesOn_166 : decode cX5_goesOn 166 = .ok (.aload_n 0, 1) := dk_42 (dk_at dksX5_goesOn_6 23 rfl rfl)
theorem dX5_goesOn_167 : decode cX5_goesOn 167 = .ok (.dup, 1) := dk_89 (dk_at dksX5_goesOn_7 0 rfl rfl)
theorem dX5_goesOn_168 : decode cX5_goesOn 168 = .ok (.getfield 103, 3) := dk_180 0 103 (dk_at dksX5_goesOn_7 1 rfl rfl)
theorem dX5_goesOn_171 : decode cX5_goesOn 171 = .ok (.iconst 1, 1) := dk_4 (dk_at dksX5_goesOn_7 4 rfl rfl)
theorem dX5_goesOn_172 : decode cX5_goesOn 172 = .ok (.iadd, 1) := dk_96 (dk_at dksX5_goesOn_7 5 rfl rfl)
theorem dX5_goesOn_173 : decode cX5_goesOn 173 = .ok (.putfield 103, 3) := dk_181 0 103 (dk_at dksX5_goesOn_7 6 rfl rfl)
theorem dX5_goesOn_176 : decode cX5_goesOn 176 = .ok (.goto (-82), 3) := dk_167 255 174 (dk_at dksX5_goesOn_7 9 rfl rfl)
theorem dX5_goesOn_179 : decode cX5_goesOn 179 = .ok (.iload_n 2, 1) := dk_28 (dk_at dksX5_goesOn_7 12 rfl rfl)
theorem dX5_goesOn_180 : decode cX5_goesOn 180 = .ok (.bipush 8, 2) := dk_16 8 (dk_at dksX5_goesOn_7 13 rfl rfl)
theorem dX5_goesOn_182 : decode cX5_goesOn 182 = .ok (.if_icmp .gt 126, 3) := dk_163 0 126 (dk_at dksX5_goesOn_7 15 rfl rfl)
theorem dX5_goesOn_185 : decode cX5_goesOn 185 = .ok (.aload_n 0, 1) := dk_42 (dk_at dksX5_goesOn_7 18 rfl rfl)
theorem dX5_goesOn_186 : decode cX5_goesOn 186 = .ok (.iconst 2, 1) := dk_5 (dk_at dksX5_goesOn_7 19 rfl rfl)
theorem dX5_goesOn_187 : decode cX5_goesOn 187 = .ok (.putfield 100, 3) := dk_181 0 100 (dk_at dksX5_goesOn_7 20 rfl rfl)
theorem dX5_goesOn_190 : decode cX5_goesOn 190 = .ok (.goto 118, 3) := dk_167 0 118 (dk_at dksX5_goesOn_8 0 rfl rfl)
theorem dX5_goesOn_193 : decode cX5_goesOn 193 = .ok (.iload_n 1, 1) := dk_27 (dk_at dksX5_goesOn_8 3 rfl rfl)
theorem dX5_goesOn_194 : decode cX5_goesOn 194 = .ok (.invokestatic 126, 3) := dk_184 0 126 (dk_at dksX5_goesOn_8 4 rfl rfl)
theorem dX5_goesOn_197 : decode cX5_goesOn 197 = .ok (.ifCond .eq 79, 3) := dk_153 0 79 (dk_at dksX5_goesOn_8 7 rfl rfl)
theorem dX5_goesOn_200 : decode cX5_goesOn 200 = .ok (.aload_n 0, 1) := dk_42 (dk_at dksX5_goesOn_8 10 rfl rfl)
theorem dX5_goesOn_201 : decode cX5_goesOn 201 = .ok (.iconst 0, 1) := dk_3 (dk_at dksX5_goesOn_8 11 rfl rfl)
theorem dX5_goesOn_202 : decode cX5_goesOn 202 = .ok (.putfield 129, 3) := dk_181 0 129 (dk_at dksX5_goesOn_8 12 rfl rfl)
theorem dX5_goesOn_205 : decode cX5_goesOn 205 = .ok (.aload_n 0, 1) := dk_42 (dk_at dksX5_goesOn_8 15 rfl rfl)
theorem dX5_goesOn_206 : decode cX5_goesOn 206 = .ok (.aload_n 0, 1) := dk_42 (dk_at dksX5_goesOn_8 16 rfl rfl)
theorem dX5_goesOn_207 : decode cX5_goesOn 207 = .ok (.getfield 103, 3) := dk_180 0 103 (dk_at dksX5_goesOn_8 17 rfl rfl)
theorem dX5_goesOn_210 : decode cX5_goesOn 210 = .ok (.invokevirtual 106, 3) := dk_182 0 106 (dk_at dksX5_goesOn_8 20 rfl rfl)
theorem dX5_goesOn_213 : decode cX5_goesOn 213 = .ok (.invokestatic 126, 3) := dk_184 0 126 (dk_at dksX5_goesOn_9 0 rfl rfl)
theorem dX5_goesOn_216 : decode cX5_goesOn 216 = .ok (.ifCond .eq 47, 3) := dk_153 0 47 (dk_at dksX5_goesOn_9 3 rfl rfl)
theorem dX5_goesOn_219 : decode cX5_goesOn 219 = .ok (.iload_n 2, 1) := dk_28 (dk_at dksX5_goesOn_9 6 rfl rfl)
theorem dX5_goesOn_220 : decode cX5_goesOn 220 = .ok (.iconst 3, 1) := dk_6 (dk_at dksX5_goesOn_9 7 rfl rfl)
theorem dX5_goesOn_221 : decode cX5_goesOn 221 = .ok (.if_icmp .ge 26, 3) := dk_162 0 26 (dk_at dksX5_goesOn_9 8 rfl rfl)
theorem dX5_goesOn_224 : decode cX5_goesOn 224 = .ok (.aload_n 0, 1) := dk_42 (dk_at dksX5_goesOn_9 11 rfl rfl)
theorem dX5_goesOn_225 : decode cX5_goesOn 225 = .ok (.bipush 10, 2) := dk_16 10 (dk_at dksX5_goesOn_9 12 rfl rfl)
theorem dX5_goesOn_227 : decode cX5_goesOn 227 = .ok (.aload_n 0, 1) := dk_42 (dk_at dksX5_goesOn_9 14 rfl rfl)
theorem dX5_goesOn_228 : decode cX5_goesOn 228 = .ok (.getfield 129, 3) := dk_180 0 129 (dk_at dksX5_goesOn_9 15 rfl rfl)
theorem dX5_goesOn_231 : decode cX5_goesOn 231 = .ok (.imul, 1) := dk_104 (dk_at dksX5_goesOn_9 18 rfl rfl)
theorem dX5_goesOn_232 : decode cX5_goesOn 232 = .ok (.aload_n 0, 1) := dk_42 (dk_at dksX5_goesOn_9 19 rfl rfl)
theorem dX5_goesOn_233 : decode cX5_goesOn 233 = .ok (.aload_n 0, 1) := dk_42 (dk_at dksX5_goesOn_9 20 rfl rfl)
theorem dX5_goesOn_234 : decode cX5_goesOn 234 = .ok (.getfield 103, 3) := dk_180 0 103 (dk_at dksX5_goesOn_9 21 rfl rfl)
theorem dX5_goesOn_237 : decode cX5_goesOn 237 = .ok (.invokevirtual 106, 3) := dk_182 0 106 (dk_at dksX5_goesOn_10 0 rfl rfl)
theorem dX5_goesOn_240 : decode cX5_goesOn 240 = .ok (.iadd, 1) := dk_96 (dk_at dksX5_goesOn_10 3 rfl rfl)
theorem dX5_goesOn_241 : decode cX5_goesOn 241 = .ok (.bipush 48, 2) := dk_16 48 (dk_at dksX5_goesOn_10 4 rfl rfl)
theorem dX5_goesOn_243 : decode cX5_goesOn 243 = .ok (.isub, 1) := dk_100 (dk_at dksX5_goesOn_10 6 rfl rfl)
theorem dX5_goesOn_244 : decode cX5_goesOn 244 = .ok (.putfield 129, 3) := dk_181 0 129 (dk_at dksX5_goesOn_10 7 rfl rfl)
theorem dX5_goesOn_247 : decode cX5_goesOn 247 = .ok (.iinc 2 1, 3) := dk_132 2 1 (dk_at dksX5_goesOn_10 10 rfl rfl)
theorem dX5_goesOn_250 : decode cX5_goesOn 250 = .ok (.aload_n 0, 1) := dk_42 (dk_at dksX5_goesOn_10 13 rfl rfl)
theorem dX5_goesOn_251 : decode cX5_goesOn 251 = .ok (.dup, 1) := dk_89 (dk_at dksX5_goesOn_10 14 rfl rfl)
theorem dX5_goesOn_252 : decode cX5_goesOn 252 = .ok (.getfield 103, 3) := dk_180 0 103 (dk_at dksX5_goesOn_10 15 rfl rfl)
theorem dX5_goesOn_255 : decode cX5_goesOn 255 = .ok (.iconst 1, 1) := dk_4 (dk_at dksX5_goesOn_10 18 rfl rfl)
theorem dX5_goesOn_256 : decode cX5_goesOn 256 = .ok (.iadd, 1) := dk_96 (dk_at dksX5_goesOn_10 19 rfl rfl)
theorem dX5_goesOn_257 : decode cX5_goesOn 257 = .ok (.putfield 103, 3) := dk_181 0 103 (dk_at dksX5_goesOn_10 20 rfl rfl)
theorem dX5_goesOn_260 : decode cX5_goesOn 260 = .ok (.goto (-55), 3) := dk_167 255 201 (dk_at dksX5_goesOn_11 0 rfl rfl)
theorem dX5_goesOn_263 : decode cX5_goesOn 263 = .ok (.iload_n 2, 1) := dk_28 (dk_at dksX5_goesOn_11 3 rfl rfl)
theorem dX5_goesOn_264 : decode cX5_goesOn 264 = .ok (.iconst 3, 1) := dk_6 (dk_at dksX5_goesOn_11 4 rfl rfl)
theorem dX5_goesOn_265 : decode cX5_goesOn 265 = .ok (.if_icmp .gt 43, 3) := dk_163 0 43 (dk_at dksX5_goesOn_11 5 rfl rfl)
theorem dX5_goesOn_268 : decode cX5_goesOn 268 = .ok (.aload_n 0, 1) := dk_42 (dk_at dksX5_goesOn_11 8 rfl rfl)
theorem dX5_goesOn_269 : decode cX5_goesOn 269 = .ok (.iconst 3, 1) := dk_6 (dk_at dksX5_goesOn_11 9 rfl rfl)
theorem dX5_goesOn_270 : decode cX5_goesOn 270 = .ok (.putfield 100, 3) := dk_181 0 100 (dk_at dksX5_goesOn_11 10 rfl rfl)
theorem dX5_goesOn_273 : decode cX5_goesOn 273 = .ok (.goto 35, 3) := dk_167 0 35 (dk_at dksX5_goesOn_11 13 rfl rfl)
theorem dX5_goesOn_276 : decode cX5_goesOn 276 = .ok (.iload_n 1, 1) := dk_27 (dk_at dksX5_goesOn_11 16 rfl rfl)
theorem dX5_goesOn_277 : decode cX5_goesOn 277 = .ok (.bipush 59, 2) := dk_16 59 (dk_at dksX5_goesOn_11 17 rfl rfl)
theorem dX5_goesOn_279 : decode cX5_goesOn 279 = .ok (.if_icmp .eq 9, 3) := dk_159 0 9 (dk_at dksX5_goesOn_11 19 rfl rfl)
theorem dX5_goesOn_282 : decode cX5_goesOn 282 = .ok (.iload_n 1, 1) := dk_27 (dk_at dksX5_goesOn_11 22 rfl rfl)
theorem dX5_goesOn_283 : decode cX5_goesOn 283 = .ok (.bipush 44, 2) := dk_16 44 (dk_at dksX5_goesOn_12 0 rfl rfl)
theorem dX5_goesOn_285 : decode cX5_goesOn 285 = .ok (.if_icmp .ne 23, 3) := dk_160 0 23 (dk_at dksX5_goesOn_12 2 rfl rfl)
theorem dX5_goesOn_288 : decode cX5_goesOn 288 = .ok (.aload_n 0, 1) := dk_42 (dk_at dksX5_goesOn_12 5 rfl rfl)
theorem dX5_goesOn_289 : decode cX5_goesOn 289 = .ok (.iconst 4, 1) := dk_7 (dk_at dksX5_goesOn_12 6 rfl rfl)
theorem dX5_goesOn_290 : decode cX5_goesOn 290 = .ok (.putfield 100, 3) := dk_181 0 100 (dk_at dksX5_goesOn_12 7 rfl rfl)
theorem dX5_goesOn_293 : decode cX5_goesOn 293 = .ok (.aload_n 0, 1) := dk_42 (dk_at dksX5_goesOn_12 10 rfl rfl)
theorem dX5_goesOn_294 : decode cX5_goesOn 294 = .ok (.iload_n 1, 1) := dk_27 (dk_at dksX5_goesOn_12 11 rfl rfl)
theorem dX5_goesOn_295 : decode cX5_goesOn 295 = .ok (.putfield 112, 3) := dk_181 0 112 (dk_at dksX5_goesOn_12 12 rfl rfl)
theorem dX5_goesOn_298 : decode cX5_goesOn 298 = .ok (.aload_n 0, 1) := dk_42 (dk_at dksX5_goesOn_12 15 rfl rfl)
theorem dX5_goesOn_299 : decode cX5_goesOn 299 = .ok (.dup, 1) := dk_89 (dk_at dksX5_goesOn_12 16 rfl rfl)
theorem dX5_goesOn_300 : decode cX5_goesOn 300 = .ok (.getfield 103, 3) := dk_180 0 103 (dk_at dksX5_goesOn_12 17 rfl rfl)
theorem dX5_goesOn_303 : decode cX5_goesOn 303 = .ok (.iconst 1, 1) := dk_4 (dk_at dksX5_goesOn_12 20 rfl rfl)
theorem dX5_goesOn_304 : decode cX5_goesOn 304 = .ok (.iadd, 1) := dk_96 (dk_at dksX5_goesOn_12 21 rfl rfl)
theorem dX5_goesOn_305 : decode cX5_goesOn 305 = .ok (.putfield 103, 3) := dk_181 0 103 (dk_at dksX5_goesOn_13 0 rfl rfl)
theorem dX5_goesOn_308 : decode cX5_goesOn 308 = .ok (.return_, 1) := dk_177 (dk_at dksX5_goesOn_13 3 rfl rfl)
abbrev cX5_byteAt : ByteArray := prog_15_method_7_code
def yX5_byteAt : MethodName := ⟨RX5, "byteAt", "(I)I"⟩
def dkwX5_byteAt_0 : List UInt8 := [27, 42, 180, 0, 85, 162, 0, 16, 42, 180, 0, 13, 27, 51, 17, 0, 255, 126, 167, 0, 4, 2, 172]
abbrev dktX5_byteAt_0 : List UInt8 := dkwX5_byteAt_0 ++ []
theorem dksX5_byteAt_0 : cX5_byteAt.data.toList.drop 0 = dktX5_byteAt_0 := by decide +kernel
theorem dX5_byteAt_0 : decode cX5_byteAt 0 = .ok (.iload_n 1, 1) := dk_27 (dk_at dksX5_byteAt_0 0 rfl rfl)
theorem dX5_byteAt_1 : decode cX5_byteAt 1 = .ok (.aload_n 0, 1) := dk_42 (dk_at dksX5_byteAt_0 1 rfl rfl)
theorem dX5_byteAt_2 : decode cX5_byteAt 2 = .ok (.getfield 85, 3) := dk_180 0 85 (dk_at dksX5_byteAt_0 2 rfl rfl)
theorem dX5_byteAt_5 : decode cX5_byteAt 5 = .ok (.if_icmp .ge 16, 3) := dk_162 0 16 (dk_at dksX5_byteAt_0 5 rfl rfl)
theorem dX5_byteAt_8 : decode cX5_byteAt 8 = .ok (.aload_n 0, 1) := dk_42 (dk_at dksX5_byteAt_0 8 rfl rfl)
theorem dX5_byteAt_9 : decode cX5_byteAt 9 = .ok (.getfield 13, 3) := dk_180 0 13 (dk_at dksX5_byteAt_0 9 rfl rfl)
theorem dX5_byteAt_12 : decode cX5_byteAt 12 = .ok (.iload_n 1, 1) := dk_27 (dk_at dksX5_byteAt_0 12 rfl rfl)
theorem dX5_byteAt_13 : decode cX5_byteAt 13 = .ok (.baload, 1) := dk_51 (dk_at dksX5_byteAt_0 13 rfl rfl)
theorem dX5_byteAt_14 : decode cX5_byteAt 14 = .ok (.sipush 255, 3) := dk_17 0 255 (dk_at dksX5_byteAt_0 14 rfl rfl)
theorem dX5_byteAt_17 : decode cX5_byteAt 17 = .ok (.iand, 1) := dk_126 (dk_at dksX5_byteAt_0 17 rfl rfl)
theorem dX5_byteAt_18 : decode cX5_byteAt 18 = .ok (.goto 4, 3) := dk_167 0 4 (dk_at dksX5_byteAt_0 18 rfl rfl)
theorem dX5_byteAt_21 : decode cX5_byteAt 21 = .ok (.iconst (-1), 1) := dk_2 (dk_at dksX5_byteAt_0 21 rfl rfl)
theorem dX5_byteAt_22 : decode cX5_byteAt 22 = .ok (.ireturn, 1) := dk_172 (dk_at dksX5_byteAt_0 22 rfl rfl)
abbrev cX5_isLetter : ByteArray := prog_15_method_8_code
def yX5_isLetter : MethodName := ⟨RX5, "isLetter", "(I)Z"⟩
def dkwX5_isLetter_0 : List UInt8 := [26, 16, 97, 161, 0, 13, 26, 16, 122, 163, 0, 7, 4, 167, 0, 4, 3, 172]
abbrev dktX5_isLetter_0 : List UInt8 := dkwX5_isLetter_0 ++ []
theorem dksX5_isLetter_0 : cX5_isLetter.data.toList.drop 0 = dktX5_isLetter_0 := by decide +kernel
theorem dX5_isLetter_0 : decode cX5_isLetter 0 = .ok (.iload_n 0, 1) := dk_26 (dk_at dksX5_isLetter_0 0 rfl rfl)
theorem dX5_isLetter_1 : decode cX5_isLetter 1 = .ok (.bipush 97, 2) := dk_16 97 (dk_at dksX5_isLetter_0 1 rfl rfl)
theorem dX5_isLetter_3 : decode cX5_isLetter 3 = .ok (.if_icmp .lt 13, 3) := dk_161 0 13 (dk_at dksX5_isLetter_0 3 rfl rfl)
theorem dX5_isLetter_6 : decode cX5_isLetter 6 = .ok (.iload_n 0, 1) := dk_26 (dk_at dksX5_isLetter_0 6 rfl rfl)
theorem dX5_isLetter_7 : decode cX5_isLetter 7 = .ok (.bipush 122, 2) := dk_16 122 (dk_at dksX5_isLetter_0 7 rfl rfl)
theorem dX5_isLetter_9 : decode cX5_isLetter 9 = .ok (.if_icmp .gt 7, 3) := dk_163 0 7 (dk_at dksX5_isLetter_0 9 rfl rfl)
theorem dX5_isLetter_12 : decode cX5_isLetter 12 = .ok (.iconst 1, 1) := dk_4 (dk_at dksX5_isLetter_0 12 rfl rfl)
theorem dX5_isLetter_13 : decode cX5_isLetter 13 = .ok (.goto 4, 3) := dk_167 0 4 (dk_at dksX5_isLetter_0 13 rfl rfl)
theorem dX5_isLetter_16 : decode cX5_isLetter 16 = .ok (.iconst 0, 1) := dk_3 (dk_at dksX5_isLetter_0 16 rfl rfl)
theorem dX5_isLetter_17 : decode cX5_isLetter 17 = .ok (.ireturn, 1) := dk_172 (dk_at dksX5_isLetter_0 17 rfl rfl)
abbrev cX5_isDigit : ByteArray := prog_15_method_9_code
def yX5_isDigit : MethodName := ⟨RX5, "isDigit", "(I)Z"⟩
def dkwX5_isDigit_0 : List UInt8 := [26, 16, 48, 161, 0, 13, 26, 16, 57, 163, 0, 7, 4, 167, 0, 4, 3, 172]
abbrev dktX5_isDigit_0 : List UInt8 := dkwX5_isDigit_0 ++ []
theorem dksX5_isDigit_0 : cX5_isDigit.data.toList.drop 0 = dktX5_isDigit_0 := by decide +kernel
theorem dX5_isDigit_0 : decode cX5_isDigit 0 = .ok (.iload_n 0, 1) := dk_26 (dk_at dksX5_isDigit_0 0 rfl rfl)
theorem dX5_isDigit_1 : decode cX5_isDigit 1 = .ok (.bipush 48, 2) := dk_16 48 (dk_at dksX5_isDigit_0 1 rfl rfl)
theorem dX5_isDigit_3 : decode cX5_isDigit 3 = .ok (.if_icmp .lt 13, 3) := dk_161 0 13 (dk_at dksX5_isDigit_0 3 rfl rfl)
theorem dX5_isDigit_6 : decode cX5_isDigit 6 = .ok (.iload_n 0, 1) := dk_26 (dk_at dksX5_isDigit_0 6 rfl rfl)
theorem dX5_isDigit_7 : decode cX5_isDigit 7 = .ok (.bipush 57, 2) := dk_16 57 (dk_at dksX5_isDigit_0 7 rfl rfl)
theorem dX5_isDigit_9 : decode cX5_isDigit 9 = .ok (.if_icmp .gt 7, 3) := dk_163 0 7 (dk_at dksX5_isDigit_0 9 rfl rfl)
theorem dX5_isDigit_12 : decode cX5_isDigit 12 = .ok (.iconst 1, 1) := dk_4 (dk_at dksX5_isDigit_0 12 rfl rfl)
theorem dX5_isDigit_13 : decode cX5_isDigit 13 = .ok (.goto 4, 3) := dk_167 0 4 (dk_at dksX5_isDigit_0 13 rfl rfl)
theorem dX5_isDigit_16 : decode cX5_isDigit 16 = .ok (.iconst 0, 1) := dk_3 (dk_at dksX5_isDigit_0 16 rfl rfl)
theorem dX5_isDigit_17 : decode cX5_isDigit 17 = .ok (.ireturn, 1) := dk_172 (dk_at dksX5_isDigit_0 17 rfl rfl)
abbrev cX5_readDay : ByteArray := prog_15_method_23_code
def yX5_readDay : MethodName := ⟨RX5, "readDay", "()V"⟩
def dkwX5_readDay_2 : List UInt8 := [180, 0, 223, 153, 0, 13, 42, 180, 0, 191, 180, 0, 226, 154, 0, 9, 42, 16, 6, 182, 0, 149, 177]
abbrev dktX5_readDay_2 : List UInt8 := dkwX5_readDay_2 ++ []
def dkwX5_readDay_1 : List UInt8 := [4, 159, 0, 8, 42, 4, 182, 0, 149, 42, 180, 0, 191, 180, 0, 220, 2, 159, 0, 23, 42, 180, 0, 191]
abbrev dktX5_readDay_1 : List UInt8 := dkwX5_readDay_1 ++ dktX5_readDay_2
def dkwX5_readDay_0 : List UInt8 := [4, 60, 27, 153, 0, 17, 42, 182, 0, 214, 42, 16, 59, 182, 0, 217, 60, 167, 255, 241, 42, 180, 0, 100]
abbrev dktX5_readDay_0 : List UInt8 := dkwX5_readDay_0 ++ dktX5_readDay_1
theorem dksX5_readDay_0 : cX5_readDay.data.toList.drop 0 = dktX5_readDay_0 := by decide +kernel
theorem dksX5_readDay_1 : cX5_readDay.data.toList.drop 24 = dktX5_readDay_1 := dk_seg dksX5_readDay_0 24 rfl rfl
theorem dksX5_readDay_2 : cX5_readDay.data.toList.drop 48 = dktX5_readDay_2 := dk_seg dksX5_readDay_1 24 rfl rfl
theorem dX5_readDay_0 : decode cX5_readDay 0 = .ok (.iconst 1, 1) := dk_4 (dk_at dksX5_readDay_0 0 rfl rfl)
theorem dX5_readDay_1 : decode cX5_readDay 1 = .ok (.istore_n 1, 1) := dk_60 (dk_at dksX5_readDay_0 1 rfl rfl)
theorem dX5_readDay_2 : decode cX5_readDay 2 = .ok (.iload_n 1, 1) := dk_27 (dk_at dksX5_readDay_0 2 rfl rfl)
theorem dX5_readDay_3 : decode cX5_readDay 3 = .ok (.ifCond .eq 17, 3) := dk_153 0 17 (dk_at dksX5_readDay_0 3 rfl rfl)
theorem dX5_readDay_6 : decode cX5_readDay 6 = .ok (.aload_n 0, 1) := dk_42 (dk_at dksX5_readDay_0 6 rfl rfl)
theorem dX5_readDay_7 : decode cX5_readDay 7 = .ok (.invokevirtual 214, 3) := dk_182 0 214 (dk_at dksX5_readDay_0 7 rfl rfl)
theorem dX5_readDay_10 : decode cX5_readDay 10 = .ok (.aload_n 0, 1) := dk_42 (dk_at dksX5_readDay_0 10 rfl rfl)
theorem dX5_readDay_11 : decode cX5_readDay 11 = .ok (.bipush 59, 2) := dk_16 59 (dk_at dksX5_readDay_0 11 rfl rfl)
theorem dX5_readDay_13 : decode cX5_readDay 13 = .ok (.invokevirtual 217, 3) := dk_182 0 217 (dk_at dksX5_readDay_0 13 rfl rfl)
theorem dX5_readDay_16 : decode cX5_readDay 16 = .ok (.istore_n 1, 1) := dk_60 (dk_at dksX5_readDay_0 16 rfl rfl)
theorem dX5_readDay_17 : decode cX5_readDay 17 = .ok (.goto (-15), 3) := dk_167 255 241 (dk_at dksX5_readDay_0 17 rfl rfl)
theorem dX5_readDay_20 : decode cX5_readDay 20 = .ok (.aload_n 0, 1) := dk_42 (dk_at dksX5_readDay_0 20 rfl rfl)
theorem dX5_readDay_21 : decode cX5_readDay 21 = .ok (.getfield 100, 3) := dk_180 0 100 (dk_at dksX5_readDay_0 21 rfl rfl)
theorem dX5_readDay_24 : decode cX5_readDay 24 = .ok (.iconst 1, 1) := dk_4 (dk_at dksX5_readDay_1 0 rfl rfl)
theorem dX5_readDay_25 : decode cX5_readDay 25 = .ok (.if_icmp .eq 8, 3) := dk_159 0 8 (dk_at dksX5_readDay_1 1 rfl rfl)
theorem dX5_readDay_28 : decode cX5_readDay 28 = .ok (.aload_n 0, 1) := dk_42 (dk_at dksX5_readDay_1 4 rfl rfl)
theorem dX5_readDay_29 : decode cX5_readDay 29 = .ok (.iconst 1, 1) := dk_4 (dk_at dksX5_readDay_1 5 rfl rfl)
theorem dX5_readDay_30 : decode cX5_readDay 30 = .ok (.invokevirtual 149, 3) := dk_182 0 149 (dk_at dksX5_readDay_1 6 rfl rfl)
theorem dX5_readDay_33 : decode cX5_readDay 33 = .ok (.aload_n 0, 1) := dk_42 (dk_at dksX5_readDay_1 9 rfl rfl)
theorem dX5_readDay_34 : decode cX5_readDay 34 = .ok (.getfield 191, 3) := dk_180 0 191 (dk_at dksX5_readDay_1 10 rfl rfl)
theorem dX5_readDay_37 : decode cX5_readDay 37 = .ok (.getfield 220, 3) := dk_180 0 220 (dk_at dksX5_readDay_1 13 rfl rfl)
theorem dX5_readDay_40 : decode cX5_readDay 40 = .ok (.iconst (-1), 1) := dk_2 (dk_at dksX5_readDay_1 16 rfl rfl)
theorem dX5_readDay_41 : decode cX5_readDay 41 = .ok (.if_icmp .eq 23, 3) := dk_159 0 23 (dk_at dksX5_readDay_1 17 rfl rfl)
theorem dX5_readDay_44 : decode cX5_readDay 44 = .ok (.aload_n 0, 1) := dk_42 (dk_at dksX5_readDay_1 20 rfl rfl)
theorem dX5_readDay_45 : decode cX5_readDay 45 = .ok (.getfield 191, 3) := dk_180 0 191 (dk_at dksX5_readDay_1 21 rfl rfl)
theorem dX5_readDay_48 : decode cX5_readDay 48 = .ok (.getfield 223, 3) := dk_180 0 223 (dk_at dksX5_readDay_2 0 rfl rfl)
theorem dX5_readDay_51 : decode cX5_readDay 51 = .ok (.ifCond .eq 13, 3) := dk_153 0 13 (dk_at dksX5_readDay_2 3 rfl rfl)
theorem dX5_readDay_54 : decode cX5_readDay 54 = .ok (.aload_n 0, 1) := dk_42 (dk_at dksX5_readDay_2 6 rfl rfl)
theorem dX5_readDay_55 : decode cX5_readDay 55 = .ok (.getfield 191, 3) := dk_180 0 191 (dk_at dksX5_readDay_2 7 rfl rfl)
theorem dX5_readDay_58 : decode cX5_readDay 58 = .ok (.getfield 226, 3) := dk_180 0 226 (dk_at dksX5_readDay_2 10 rfl rfl)
theorem dX5_readDay_61 : decode cX5_readDay 61 = .ok (.ifCond .ne 9, 3) := dk_154 0 9 (dk_at dksX5_readDay_2 13 rfl rfl)
theorem dX5_readDay_64 : decode cX5_readDay 64 = .ok (.aload_n 0, 1) := dk_42 (dk_at dksX5_readDay_2 16 rfl rfl)
theorem dX5_readDay_65 : decode cX5_readDay 65 = .ok (.bipush 6, 2) := dk_16 6 (dk_at dksX5_readDay_2 17 rfl rfl)
theorem dX5_readDay_67 : decode cX5_readDay 67 = .ok (.invokevirtual 149, 3) := dk_182 0 149 (dk_at dksX5_readDay_2 19 rfl rfl)
theorem dX5_readDay_70 : decode cX5_readDay 70 = .ok (.return_, 1) := dk_177 (dk_at dksX5_readDay_2 22 rfl rfl)
abbrev cX5_readLine : ByteArray := prog_15_method_24_code
def yX5_readLine : MethodName := ⟨RX5, "readLine", "()V"⟩
def dkwX5_readLine_6 : List UInt8 := [42, 182, 0, 253, 167, 0, 8, 42, 4, 182, 0, 149, 177]
abbrev dktX5_readLine_6 : List UInt8 := dkwX5_readLine_6 ++ []
def dkwX5_readLine_5 : List UInt8 := [18, 179, 182, 0, 142, 153, 0, 10, 42, 182, 0, 250, 167, 0, 24, 42, 18, 181, 182, 0, 142, 153, 0, 10]
abbrev dktX5_readLine_5 : List UInt8 := dkwX5_readLine_5 ++ dktX5_readLine_6
def dkwX5_readLine_4 : List UInt8 := [182, 0, 244, 167, 0, 56, 42, 18, 177, 182, 0, 142, 153, 0, 10, 42, 182, 0, 247, 167, 0, 40, 42]
abbrev dktX5_readLine_4 : List UInt8 := dkwX5_readLine_4 ++ dktX5_readLine_5
def dkwX5_readLine_3 : List UInt8 := [182, 0, 142, 153, 0, 10, 42, 182, 0, 241, 167, 0, 72, 42, 18, 175, 182, 0, 142, 153, 0, 10, 42]
abbrev dktX5_readLine_3 : List UInt8 := dkwX5_readLine_3 ++ dktX5_readLine_4
def dkwX5_readLine_2 : List UInt8 := [167, 0, 104, 42, 18, 171, 182, 0, 142, 153, 0, 10, 42, 182, 0, 238, 167, 0, 88, 42, 18, 173]
abbrev dktX5_readLine_2 : List UInt8 := dkwX5_readLine_2 ++ dktX5_readLine_3
def dkwX5_readLine_1 : List UInt8 := [153, 0, 10, 42, 182, 0, 232, 167, 0, 120, 42, 18, 169, 182, 0, 142, 153, 0, 10, 42, 182, 0, 235]
abbrev dktX5_readLine_1 : List UInt8 := dkwX5_readLine_1 ++ dktX5_readLine_2
def dkwX5_readLine_0 : List UInt8 := [42, 18, 165, 182, 0, 142, 153, 0, 10, 42, 182, 0, 229, 167, 0, 136, 42, 18, 167, 182, 0, 142]
abbrev dktX5_readLine_0 : List UInt8 := dkwX5_readLine_0 ++ dktX5_readLine_1
theorem dksX5_readLine_0 : cX5_readLine.data.toList.drop 0 = dktX5_readLine_0 := by decide +kernel
theorem dksX5_readLine_1 : cX5_readLine.data.toList.drop 22 = dktX5_readLine_1 := dk_seg dksX5_readLine_0 22 rfl rfl
theorem dksX5_readLine_2 : cX5_readLine.data.toList.drop 45 = dktX5_readLine_2 := dk_seg dksX5_readLine_1 23 rfl rfl
theorem dksX5_readLine_3 : cX5_readLine.data.toList.drop 67 = dktX5_readLine_3 := dk_seg dksX5_readLine_2 22 rfl rfl
theorem dksX5_readLine_4 : cX5_readLine.data.toList.drop 90 = dktX5_readLine_4 := dk_seg dksX5_readLine_3 23 rfl rfl
theorem dksX5_readLine_5 : cX5_readLine.data.toList.drop 113 = dktX5_readLine_5 := dk_seg dksX5_readLine_4 23 rfl rfl
theorem dksX5_readLine_6 : cX5_readLine.data.toList.drop 137 = dktX5_readLine_6 := dk_seg dksX5_readLine_5 24 rfl rfl
theorem dX5_readLine_0 : decode cX5_readLine 0 = .ok (.aload_n 0, 1) := dk_42 (dk_at dksX5_readLine_0 0 rfl rfl)
theorem dX5_readLine_1 : decode cX5_readLine 1 = .ok (.ldc 165, 2) := dk_18 165 (dk_at dksX5_readLine_0 1 rfl rfl)
theorem dX5_readLine_3 : decode cX5_readLine 3 = .ok (.invokevirtual 142, 3) := dk_182 0 142 (dk_at dksX5_readLine_0 3 rfl rfl)
theorem dX5_readLine_6 : decode cX5_readLine 6 = .ok (.ifCond .eq 10, 3) := dk_153 0 10 (dk_at dksX5_readLine_0 6 rfl rfl)
theorem dX5_readLine_9 : decode cX5_readLine 9 = .ok (.aload_n 0, 1) := dk_42 (dk_at dksX5_readLine_0 9 rfl rfl)
theorem dX5_readLine_10 : decode cX5_readLine 10 = .ok (.invokevirtual 229, 3) := dk_182 0 229 (dk_at dksX5_readLine_0 10 rfl rfl)
theorem dX5_readLine_13 : decode cX5_readLine 13 = .ok (.goto 136, 3) := dk_167 0 136 (dk_at dksX5_readLine_0 13 rfl rfl)
theorem dX5_readLine_16 : decode cX5_readLine 16 = .ok (.aload_n 0, 1) := dk_42 (dk_at dksX5_readLine_0 16 rfl rfl)
theorem dX5_readLine_17 : decode cX5_readLine 17 = .ok (.ldc 167, 2) := dk_18 167 (dk_at dksX5_readLine_0 17 rfl rfl)
theorem dX5_readLine_19 : decode cX5_readLine 19 = .ok (.invokevirtual 142, 3) := dk_182 0 142 (dk_at dksX5_readLine_0 19 rfl rfl)
theorem dX5_readLine_22 : decode cX5_readLine 22 = .ok (.ifCond .eq 10, 3) := dk_153 0 10 (dk_at dksX5_readLine_1 0 rfl rfl)
theorem dX5_readLine_25 : decode cX5_readLine 25 = .ok (.aload_n 0, 1) := dk_42 (dk_at dksX5_readLine_1 3 rfl rfl)
theorem dX5_readLine_26 : decode cX5_readLine 26 = .ok (.invokevirtual 232, 3) := dk_182 0 232 (dk_at dksX5_readLine_1 4 rfl rfl)
theorem dX5_readLine_29 : decode cX5_readLine 29 = .ok (.goto 120, 3) := dk_167 0 120 (dk_at dksX5_readLine_1 7 rfl rfl)
theorem dX5_readLine_32 : decode cX5_readLine 32 = .ok (.aload_n 0, 1) := dk_42 (dk_at dksX5_readLine_1 10 rfl rfl)
theorem dX5_readLine_33 : decode cX5_readLine 33 = .ok (.ldc 169, 2) := dk_18 169 (dk_at dksX5_readLine_1 11 rfl rfl)
theorem dX5_readLine_35 : decode cX5_readLine 35 = .ok (.invokevirtual 142, 3) := dk_182 0 142 (dk_at dksX5_readLine_1 13 rfl rfl)
theorem dX5_readLine_38 : decode cX5_readLine 38 = .ok (.ifCond .eq 10, 3) := dk_153 0 10 (dk_at dksX5_readLine_1 16 rfl rfl)
theorem dX5_readLine_41 : decode cX5_readLine 41 = .ok (.aload_n 0, 1) := dk_42 (dk_at dksX5_readLine_1 19 rfl rfl)
theorem dX5_readLine_42 : decode cX5_readLine 42 = .ok (.invokevirtual 235, 3) := dk_182 0 235 (dk_at dksX5_readLine_1 20 rfl rfl)
theorem dX5_readLine_45 : decode cX5_readLine 45 = .ok (.goto 104, 3) := dk_167 0 104 (dk_at dksX5_readLine_2 0 rfl rfl)
theorem dX5_readLine_48 : decode cX5_readLine 48 = .ok (.aload_n 0, 1) := dk_42 (dk_at dksX5_readLine_2 3 rfl rfl)
theorem dX5_readLine_49 : decode cX5_readLine 49 = .ok (.ldc 171, 2) := dk_18 171 (dk_at dksX5_readLine_2 4 rfl rfl)
theorem dX5_readLine_51 : decode cX5_readLine 51 = .ok (.invokevirtual 142, 3) := dk_182 0 142 (dk_at dksX5_readLine_2 6 rfl rfl)
theorem dX5_readLine_54 : decode cX5_readLine 54 = .ok (.ifCond .eq 10, 3) := dk_153 0 10 (dk_at dksX5_readLine_2 9 rfl rfl)
theorem dX5_readLine_57 : decode cX5_readLine 57 = .ok (.aload_n 0, 1) := dk_42 (dk_at dksX5_readLine_2 12 rfl rfl)
theorem dX5_readLine_58 : decode cX5_readLine 58 = .ok (.invokevirtual 238, 3) := dk_182 0 238 (dk_at dksX5_readLine_2 13 rfl rfl)
theorem dX5_readLine_61 : decode cX5_readLine 61 = .ok (.goto 88, 3) := dk_167 0 88 (dk_at dksX5_readLine_2 16 rfl rfl)
theorem dX5_readLine_64 : decode cX5_readLine 64 = .ok (.aload_n 0, 1) := dk_42 (dk_at dksX5_readLine_2 19 rfl rfl)
theorem dX5_readLine_65 : decode cX5_readLine 65 = .ok (.ldc 173, 2) := dk_18 173 (dk_at dksX5_readLine_2 20 rfl rfl)
theorem dX5_readLine_67 : decode cX5_readLine 67 = .ok (.invokevirtual 142, 3) := dk_182 0 142 (dk_at dksX5_readLine_3 0 rfl rfl)
theorem dX5_readLine_70 : decode cX5_readLine 70 = .ok (.ifCond .eq 10, 3) := dk_153 0 10 (dk_at dksX5_readLine_3 3 rfl rfl)
theorem dX5_readLine_73 : decode cX5_readLine 73 = .ok (.aload_n 0, 1) := dk_42 (dk_at dksX5_readLine_3 6 rfl rfl)
theorem dX5_readLine_74 : decode cX5_readLine 74 = .ok (.invokevirtual 241, 3) := dk_182 0 241 (dk_at dksX5_readLine_3 7 rfl rfl)
theorem dX5_readLine_77 : decode cX5_readLine 77 = .ok (.goto 72, 3) := dk_167 0 72 (dk_at dksX5_readLine_3 10 rfl rfl)
theorem dX5_readLine_80 : decode cX5_readLine 80 = .ok (.aload_n 0, 1) := dk_42 (dk_at dksX5_readLine_3 13 rfl rfl)
theorem dX5_readLine_81 : decode cX5_readLine 81 = .ok (.ldc 175, 2) := dk_18 175 (dk_at dksX5_readLine_3 14 rfl rfl)
theorem dX5_readLine_83 : decode cX5_readLine 83 = .ok (.invokevirtual 142, 3) := dk_182 0 142 (dk_at dksX5_readLine_3 16 rfl rfl)
theorem dX5_readLine_86 : decode cX5_readLine 86 = .ok (.ifCond .eq 10, 3) := dk_153 0 10 (dk_at dksX5_readLine_3 19 rfl rfl)
theorem dX5_readLine_89 : decode cX5_readLine 89 = .ok (.aload_n 0, 1) := dk_42 (dk_at dksX5_readLine_3 22 rfl rfl)
theorem dX5_readLine_90 : decode cX5_readLine 90 = .ok (.invokevirtual 244, 3) := dk_182 0 244 (dk_at dksX5_readLine_4 0 rfl rfl)
theorem dX5_readLine_93 : decode cX5_readLine 93 = .ok (.goto 56, 3) := dk_167 0 56 (dk_at dksX5_readLine_4 3 rfl rfl)
theorem dX5_readLine_96 : decode cX5_readLine 96 = .ok (.aload_n 0, 1) := dk_42 (dk_at dksX5_readLine_4 6 rfl rfl)
theorem dX5_readLine_97 : decode cX5_readLine 97 = .ok (.ldc 177, 2) := dk_18 177 (dk_at dksX5_readLine_4 7 rfl rfl)
theorem dX5_readLine_99 : decode cX5_readLine 99 = .ok (.invokevirtual 142, 3) := dk_182 0 142 (dk_at dksX5_readLine_4 9 rfl rfl)
theorem dX5_readLine_102 : decode cX5_readLine 102 = .ok (.ifCond .eq 10, 3) := dk_153 0 10 (dk_at dksX5_readLine_4 12 rfl rfl)
theorem dX5_readLine_105 : decode cX5_readLine 105 = .ok (.aload_n 0, 1) := dk_42 (dk_at dksX5_readLine_4 15 rfl rfl)
theorem dX5_readLine_106 : decode cX5_readLine 106 = .ok (.invokevirtual 247, 3) := dk_182 0 247 (dk_at dksX5_readLine_4 16 rfl rfl)
theorem dX5_readLine_109 : decode cX5_readLine 109 = .ok (.goto 40, 3) := dk_167 0 40 (dk_at dksX5_readLine_4 19 rfl rfl)
theorem dX5_readLine_112 : decode cX5_readLine 112 = .ok (.aload_n 0, 1) := dk_42 (dk_at dksX5_readLine_4 22 rfl rfl)
theorem dX5_readLine_113 : decode cX5_readLine 113 = .ok (.ldc 179, 2) := dk_18 179 (dk_at dksX5_readLine_5 0 rfl rfl)
theorem dX5_readLine_115 : decode cX5_readLine 115 = .ok (.invokevirtual 142, 3) := dk_182 0 142 (dk_at dksX5_readLine_5 2 rfl rfl)
theorem dX5_readLine_118 : decode cX5_readLine 118 = .ok (.ifCond .eq 10, 3) := dk_153 0 10 (dk_at dksX5_readLine_5 5 rfl rfl)
theorem dX5_readLine_121 : decode cX5_readLine 121 = .ok (.aload_n 0, 1) := dk_42 (dk_at dksX5_readLine_5 8 rfl rfl)
theorem dX5_readLine_122 : decode cX5_readLine 122 = .ok (.invokevirtual 250, 3) := dk_182 0 250 (dk_at dksX5_readLine_5 9 rfl rfl)
theorem dX5_readLine_125 : decode cX5_readLine 125 = .ok (.goto 24, 3) := dk_167 0 24 (dk_at dksX5_readLine_5 12 rfl rfl)
theorem dX5_readLine_128 : decode cX5_readLine 128 = .ok (.aload_n 0, 1) := dk_42 (dk_at dksX5_readLine_5 15 rfl rfl)
theorem dX5_readLine_129 : decode cX5_readLine 129 = .ok (.ldc 181, 2) := dk_18 181 (dk_at dksX5_readLine_5 16 rfl rfl)
theorem dX5_readLine_131 : decode cX5_readLine 131 = .ok (.invokevirtual 142, 3) := dk_182 0 142 (dk_at dksX5_readLine_5 18 rfl rfl)
theorem dX5_readLine_134 : decode cX5_readLine 134 = .ok (.ifCond .eq 10, 3) := dk_153 0 10 (dk_at dksX5_readLine_5 21 rfl rfl)
theorem dX5_readLine_137 : decode cX5_readLine 137 = .ok (.aload_n 0, 1) := dk_42 (dk_at dksX5_readLine_6 0 rfl rfl)
theorem dX5_readLine_138 : decode cX5_readLine 138 = .ok (.invokevirtual 253, 3) := dk_182 0 253 (dk_at dksX5_readLine_6 1 rfl rfl)
theorem dX5_readLine_141 : decode cX5_readLine 141 = .ok (.goto 8, 3) := dk_167 0 8 (dk_at dksX5_readLine_6 4 rfl rfl)
theorem dX5_readLine_144 : decode cX5_readLine 144 = .ok (.aload_n 0, 1) := dk_42 (dk_at dksX5_readLine_6 7 rfl rfl)
theorem dX5_readLine_145 : decode cX5_readLine 145 = .ok (.iconst 1, 1) := dk_4 (dk_at dksX5_readLine_6 8 rfl rfl)
theorem dX5_readLine_146 : decode cX5_readLine 146 = .ok (.invokevirtual 149, 3) := dk_182 0 149 (dk_at dksX5_readLine_6 9 rfl rfl)
theorem dX5_readLine_149 : decode cX5_readLine 149 = .ok (.return_, 1) := dk_177 (dk_at dksX5_readLine_6 12 rfl rfl)
abbrev cX5_isWord : ByteArray := prog_15_method_13_code
def yX5_isWord : MethodName := ⟨RX5, "isWord", "(Ljava/lang/String;)Z"⟩
def dkwX5_isWord_1 : List UInt8 := [3, 172]
abbrev dktX5_isWord_1 : List UInt8 := dkwX5_isWord_1 ++ []
def dkwX5_isWord_0 : List UInt8 := [42, 180, 0, 100, 5, 160, 0, 19, 42, 180, 0, 119, 43, 184, 0, 138, 148, 154, 0, 7, 4, 167, 0, 4]
abbrev dktX5_isWord_0 : List UInt8 := dkwX5_isWord_0 ++ dktX5_isWord_1
theorem dksX5_isWord_0 : cX5_isWord.data.toList.drop 0 = dktX5_isWord_0 := by decide +kernel
theorem dksX5_isWord_1 : cX5_isWord.data.toList.drop 24 = dktX5_isWord_1 := dk_seg dksX5_isWord_0 24 rfl rfl
theorem dX5_isWord_0 : decode cX5_isWord 0 = .ok (.aload_n 0, 1) := dk_42 (dk_at dksX5_isWord_0 0 rfl rfl)
theorem dX5_isWord_1 : decode cX5_isWord 1 = .ok (.getfield 100, 3) := dk_180 0 100 (dk_at dksX5_isWord_0 1 rfl rfl)
theorem dX5_isWord_4 : decode cX5_isWord 4 = .ok (.iconst 2, 1) := dk_5 (dk_at dksX5_isWord_0 4 rfl rfl)
theorem dX5_isWord_5 : decode cX5_isWord 5 = .ok (.if_icmp .ne 19, 3) := dk_160 0 19 (dk_at dksX5_isWord_0 5 rfl rfl)
theorem dX5_isWord_8 : decode cX5_isWord 8 = .ok (.aload_n 0, 1) := dk_42 (dk_at dksX5_isWord_0 8 rfl rfl)
theorem dX5_isWord_9 : decode cX5_isWord 9 = .ok (.getfield 119, 3) := dk_180 0 119 (dk_at dksX5_isWord_0 9 rfl rfl)
theorem dX5_isWord_12 : decode cX5_isWord 12 = .ok (.aload_n 1, 1) := dk_43 (dk_at dksX5_isWord_0 12 rfl rfl)
theorem dX5_isWord_13 : decode cX5_isWord 13 = .ok (.invokestatic 138, 3) := dk_184 0 138 (dk_at dksX5_isWord_0 13 rfl rfl)
theorem dX5_isWord_16 : decode cX5_isWord 16 = .ok (.lcmp, 1) := dk_148 (dk_at dksX5_isWord_0 16 rfl rfl)
theorem dX5_isWord_17 : decode cX5_isWord 17 = .ok (.ifCond .ne 7, 3) := dk_154 0 7 (dk_at dksX5_isWord_0 17 rfl rfl)
theorem dX5_isWord_20 : decode cX5_isWord 20 = .ok (.iconst 1, 1) := dk_4 (dk_at dksX5_isWord_0 20 rfl rfl)
theorem dX5_isWord_21 : decode cX5_isWord 21 = .ok (.goto 4, 3) := dk_167 0 4 (dk_at dksX5_isWord_0 21 rfl rfl)
theorem dX5_isWord_24 : decode cX5_isWord 24 = .ok (.iconst 0, 1) := dk_3 (dk_at dksX5_isWord_1 0 rfl rfl)
theorem dX5_isWord_25 : decode cX5_isWord 25 = .ok (.ireturn, 1) := dk_172 (dk_at dksX5_isWord_1 1 rfl rfl)
abbrev cX5_wordOf : ByteArray := prog_15_method_10_code
def yX5_wordOf : MethodName := ⟨RX5, "wordOf", "(Ljava/lang/String;)J"⟩
def dkwX5_wordOf_1 : List UInt8 := [100, 4, 96, 133, 97, 64, 132, 3, 1, 167, 255, 227, 31, 173]
abbrev dktX5_wordOf_1 : List UInt8 := dkwX5_wordOf_1 ++ []
def dkwX5_wordOf_0 : List UInt8 := [9, 64, 3, 62, 29, 42, 182, 0, 88, 162, 0, 27, 20, 0, 94, 31, 105, 42, 29, 182, 0, 96, 16, 97]
abbrev dktX5_wordOf_0 : List UInt8 := dkwX5_wordOf_0 ++ dktX5_wordOf_1
theorem dksX5_wordOf_0 : cX5_wordOf.data.toList.drop 0 = dktX5_wordOf_0 := by decide +kernel
theorem dksX5_wordOf_1 : cX5_wordOf.data.toList.drop 24 = dktX5_wordOf_1 := dk_seg dksX5_wordOf_0 24 rfl rfl
theorem dX5_wordOf_0 : decode cX5_wordOf 0 = .ok (.lconst 0, 1) := dk_9 (dk_at dksX5_wordOf_0 0 rfl rfl)
theorem dX5_wordOf_1 : decode cX5_wordOf 1 = .ok (.lstore_n 1, 1) := dk_64 (dk_at dksX5_wordOf_0 1 rfl rfl)
theorem dX5_wordOf_2 : decode cX5_wordOf 2 = .ok (.iconst 0, 1) := dk_3 (dk_at dksX5_wordOf_0 2 rfl rfl)
theorem dX5_wordOf_3 : decode cX5_wordOf 3 = .ok (.istore_n 3, 1) := dk_62 (dk_at dksX5_wordOf_0 3 rfl rfl)
theorem dX5_wordOf_4 : decode cX5_wordOf 4 = .ok (.iload_n 3, 1) := dk_29 (dk_at dksX5_wordOf_0 4 rfl rfl)
theorem dX5_wordOf_5 : decode cX5_wordOf 5 = .ok (.aload_n 0, 1) := dk_42 (dk_at dksX5_wordOf_0 5 rfl rfl)
theorem dX5_wordOf_6 : decode cX5_wordOf 6 = .ok (.invokevirtual 88, 3) := dk_182 0 88 (dk_at dksX5_wordOf_0 6 rfl rfl)
theorem dX5_wordOf_9 : decode cX5_wordOf 9 = .ok (.if_icmp .ge 27, 3) := dk_162 0 27 (dk_at dksX5_wordOf_0 9 rfl rfl)
theorem dX5_wordOf_12 : decode cX5_wordOf 12 = .ok (.ldc2_w 94, 3) := dk_20 0 94 (dk_at dksX5_wordOf_0 12 rfl rfl)
theorem dX5_wordOf_15 : decode cX5_wordOf 15 = .ok (.lload_n 1, 1) := dk_31 (dk_at dksX5_wordOf_0 15 rfl rfl)
theorem dX5_wordOf_16 : decode cX5_wordOf 16 = .ok (.lmul, 1) := dk_105 (dk_at dksX5_wordOf_0 16 rfl rfl)
theorem dX5_wordOf_17 : decode cX5_wordOf 17 = .ok (.aload_n 0, 1) := dk_42 (dk_at dksX5_wordOf_0 17 rfl rfl)
theorem dX5_wordOf_18 : decode cX5_wordOf 18 = .ok (.iload_n 3, 1) := dk_29 (dk_at dksX5_wordOf_0 18 rfl rfl)
theorem dX5_wordOf_19 : decode cX5_wordOf 19 = .ok (.invokevirtual 96, 3) := dk_182 0 96 (dk_at dksX5_wordOf_0 19 rfl rfl)
theorem dX5_wordOf_22 : decode cX5_wordOf 22 = .ok (.bipush 97, 2) := dk_16 97 (dk_at dksX5_wordOf_0 22 rfl rfl)
theorem dX5_wordOf_24 : decode cX5_wordOf 24 = .ok (.isub, 1) := dk_100 (dk_at dksX5_wordOf_1 0 rfl rfl)
theorem dX5_wordOf_25 : decode cX5_wordOf 25 = .ok (.iconst 1, 1) := dk_4 (dk_at dksX5_wordOf_1 1 rfl rfl)
theorem dX5_wordOf_26 : decode cX5_wordOf 26 = .ok (.iadd, 1) := dk_96 (dk_at dksX5_wordOf_1 2 rfl rfl)
theorem dX5_wordOf_27 : decode cX5_wordOf 27 = .ok (.i2l, 1) := dk_133 (dk_at dksX5_wordOf_1 3 rfl rfl)
theorem dX5_wordOf_28 : decode cX5_wordOf 28 = .ok (.ladd, 1) := dk_97 (dk_at dksX5_wordOf_1 4 rfl rfl)
theorem dX5_wordOf_29 : decode cX5_wordOf 29 = .ok (.lstore_n 1, 1) := dk_64 (dk_at dksX5_wordOf_1 5 rfl rfl)
theorem dX5_wordOf_30 : decode cX5_wordOf 30 = .ok (.iinc 3 1, 3) := dk_132 3 1 (dk_at dksX5_wordOf_1 6 rfl rfl)
theorem dX5_wordOf_33 : decode cX5_wordOf 33 = .ok (.goto (-29), 3) := dk_167 255 227 (dk_at dksX5_wordOf_1 9 rfl rfl)
theorem dX5_wordOf_36 : decode cX5_wordOf 36 = .ok (.lload_n 1, 1) := dk_31 (dk_at dksX5_wordOf_1 12 rfl rfl)
theorem dX5_wordOf_37 : decode cX5_wordOf 37 = .ok (.lreturn, 1) := dk_173 (dk_at dksX5_wordOf_1 13 rfl rfl)
abbrev cX5_readLaw : ByteArray := prog_15_method_25_code
def yX5_readLaw : MethodName := ⟨RX5, "readLaw", "()V"⟩
def dkwX5_readLaw_3 : List UInt8 := [177]
abbrev dktX5_readLaw_3 : List UInt8 := dkwX5_readLaw_3 ++ []
def dkwX5_readLaw_2 : List UInt8 := [180, 0, 100, 8, 160, 0, 4, 177, 42, 180, 0, 191, 27, 181, 0, 220, 42, 180, 0, 191, 28, 181, 1, 7]
abbrev dktX5_readLaw_2 : List UInt8 := dkwX5_readLaw_2 ++ dktX5_readLaw_3
def dkwX5_readLaw_1 : List UInt8 := [16, 40, 16, 90, 182, 1, 1, 60, 42, 19, 1, 5, 17, 2, 88, 17, 3, 132, 182, 1, 1, 61, 42]
abbrev dktX5_readLaw_1 : List UInt8 := dkwX5_readLaw_1 ++ dktX5_readLaw_2
def dkwX5_readLaw_0 : List UInt8 := [42, 180, 0, 191, 180, 0, 220, 2, 159, 0, 8, 42, 6, 182, 0, 149, 42, 182, 0, 146, 42, 19, 1, 0]
abbrev dktX5_readLaw_0 : List UInt8 := dkwX5_readLaw_0 ++ dktX5_readLaw_1
theorem dksX5_readLaw_0 : cX5_readLaw.data.toList.drop 0 = dktX5_readLaw_0 := by decide +kernel
theorem dksX5_readLaw_1 : cX5_readLaw.data.toList.drop 24 = dktX5_readLaw_1 := dk_seg dksX5_readLaw_0 24 rfl rfl
theorem dksX5_readLaw_2 : cX5_readLaw.data.toList.drop 47 = dktX5_readLaw_2 := dk_seg dksX5_readLaw_1 23 rfl rfl
theorem dksX5_readLaw_3 : cX5_readLaw.data.toList.drop 71 = dktX5_readLaw_3 := dk_seg dksX5_readLaw_2 24 rfl rfl
theorem dX5_readLaw_0 : decode cX5_readLaw 0 = .ok (.aload_n 0, 1) := dk_42 (dk_at dksX5_readLaw_0 0 rfl rfl)
theorem dX5_readLaw_1 : decode cX5_readLaw 1 = .ok (.getfield 191, 3) := dk_180 0 191 (dk_at dksX5_readLaw_0 1 rfl rfl)
theorem dX5_readLaw_4 : decode cX5_readLaw 4 = .ok (.getfield 220, 3) := dk_180 0 220 (dk_at dksX5_readLaw_0 4 rfl rfl)
theorem dX5_readLaw_7 : decode cX5_readLaw 7 = .ok (.iconst (-1), 1) := dk_2 (dk_at dksX5_readLaw_0 7 rfl rfl)
theorem dX5_readLaw_8 : decode cX5_readLaw 8 = .ok (.if_icmp .eq 8, 3) := dk_159 0 8 (dk_at dksX5_readLaw_0 8 rfl rfl)
theorem dX5_readLaw_11 : decode cX5_readLaw 11 = .ok (.aload_n 0, 1) := dk_42 (dk_at dksX5_readLaw_0 11 rfl rfl)
theorem dX5_readLaw_12 : decode cX5_readLaw 12 = .ok (.iconst 3, 1) := dk_6 (dk_at dksX5_readLaw_0 12 rfl rfl)
theorem dX5_readLaw_13 : decode cX5_readLaw 13 = .ok (.invokevirtual 149, 3) := dk_182 0 149 (dk_at dksX5_readLaw_0 13 rfl rfl)
theorem dX5_readLaw_16 : decode cX5_readLaw 16 = .ok (.aload_n 0, 1) := dk_42 (dk_at dksX5_readLaw_0 16 rfl rfl)
theorem dX5_readLaw_17 : decode cX5_readLaw 17 = .ok (.invokevirtual 146, 3) := dk_182 0 146 (dk_at dksX5_readLaw_0 17 rfl rfl)
theorem dX5_readLaw_20 : decode cX5_readLaw 20 = .ok (.aload_n 0, 1) := dk_42 (dk_at dksX5_readLaw_0 20 rfl rfl)
theorem dX5_readLaw_21 : decode cX5_readLaw 21 = .ok (.ldc_w 256, 3) := dk_19 1 0 (dk_at dksX5_readLaw_0 21 rfl rfl)
theorem dX5_readLaw_24 : decode cX5_readLaw 24 = .ok (.bipush 40, 2) := dk_16 40 (dk_at dksX5_readLaw_1 0 rfl rfl)
theorem dX5_readLaw_26 : decode cX5_readLaw 26 = .ok (.bipush 90, 2) := dk_16 90 (dk_at dksX5_readLaw_1 2 rfl rfl)
theorem dX5_readLaw_28 : decode cX5_readLaw 28 = .ok (.invokevirtual 257, 3) := dk_182 1 1 (dk_at dksX5_readLaw_1 4 rfl rfl)
theorem dX5_readLaw_31 : decode cX5_readLaw 31 = .ok (.istore_n 1, 1) := dk_60 (dk_at dksX5_readLaw_1 7 rfl rfl)
theorem dX5_readLaw_32 : decode cX5_readLaw 32 = .ok (.aload_n 0, 1) := dk_42 (dk_at dksX5_readLaw_1 8 rfl rfl)
theorem dX5_readLaw_33 : decode cX5_readLaw 33 = .ok (.ldc_w 261, 3) := dk_19 1 5 (dk_at dksX5_readLaw_1 9 rfl rfl)
theorem dX5_readLaw_36 : decode cX5_readLaw 36 = .ok (.sipush 600, 3) := dk_17 2 88 (dk_at dksX5_readLaw_1 12 rfl rfl)
theorem dX5_readLaw_39 : decode cX5_readLaw 39 = .ok (.sipush 900, 3) := dk_17 3 132 (dk_at dksX5_readLaw_1 15 rfl rfl)
theorem dX5_readLaw_42 : decode cX5_readLaw 42 = .ok (.invokevirtual 257, 3) := dk_182 1 1 (dk_at dksX5_readLaw_1 18 rfl rfl)
theorem dX5_readLaw_45 : decode cX5_readLaw 45 = .ok (.istore_n 2, 1) := dk_61 (dk_at dksX5_readLaw_1 21 rfl rfl)
theorem dX5_readLaw_46 : decode cX5_readLaw 46 = .ok (.aload_n 0, 1) := dk_42 (dk_at dksX5_readLaw_1 22 rfl rfl)
theorem dX5_readLaw_47 : decode cX5_readLaw 47 = .ok (.getfield 100, 3) := dk_180 0 100 (dk_at dksX5_readLaw_2 0 rfl rfl)
theorem dX5_readLaw_50 : decode cX5_readLaw 50 = .ok (.iconst 5, 1) := dk_8 (dk_at dksX5_readLaw_2 3 rfl rfl)
theorem dX5_readLaw_51 : decode cX5_readLaw 51 = .ok (.if_icmp .ne 4, 3) := dk_160 0 4 (dk_at dksX5_readLaw_2 4 rfl rfl)
theorem dX5_readLaw_54 : decode cX5_readLaw 54 = .ok (.return_, 1) := dk_177 (dk_at dksX5_readLaw_2 7 rfl rfl)
theorem dX5_readLaw_55 : decode cX5_readLaw 55 = .ok (.aload_n 0, 1) := dk_42 (dk_at dksX5_readLaw_2 8 rfl rfl)
theorem dX5_readLaw_56 : decode cX5_readLaw 56 = .ok (.getfield 191, 3) := dk_180 0 191 (dk_at dksX5_readLaw_2 9 rfl rfl)
theorem dX5_readLaw_59 : decode cX5_readLaw 59 = .ok (.iload_n 1, 1) := dk_27 (dk_at dksX5_readLaw_2 12 rfl rfl)
theorem dX5_readLaw_60 : decode cX5_readLaw 60 = .ok (.putfield 220, 3) := dk_181 0 220 (dk_at dksX5_readLaw_2 13 rfl rfl)
theorem dX5_readLaw_63 : decode cX5_readLaw 63 = .ok (.aload_n 0, 1) := dk_42 (dk_at dksX5_readLaw_2 16 rfl rfl)
theorem dX5_readLaw_64 : decode cX5_readLaw 64 = .ok (.getfield 191, 3) := dk_180 0 191 (dk_at dksX5_readLaw_2 17 rfl rfl)
theorem dX5_readLaw_67 : decode cX5_readLaw 67 = .ok (.iload_n 2, 1) := dk_28 (dk_at dksX5_readLaw_2 20 rfl rfl)
theorem dX5_readLaw_68 : decode cX5_readLaw 68 = .ok (.putfield 263, 3) := dk_181 1 7 (dk_at dksX5_readLaw_2 21 rfl rfl)
theorem dX5_readLaw_71 : decode cX5_readLaw 71 = .ok (.return_, 1) := dk_177 (dk_at dksX5_readLaw_3 0 rfl rfl)
abbrev cX5_wrong : ByteArray := prog_15_method_12_code
def yX5_wrong : MethodName := ⟨RX5, "wrong", "(I)V"⟩
def dkwX5_wrong_1 : List UInt8 := [181, 0, 100, 177]
abbrev dktX5_wrong_1 : List UInt8 := dkwX5_wrong_1 ++ []
def dkwX5_wrong_0 : List UInt8 := [42, 180, 0, 100, 8, 160, 0, 4, 177, 42, 27, 181, 0, 132, 42, 42, 180, 0, 109, 181, 0, 135, 42, 8]
abbrev dktX5_wrong_0 : List UInt8 := dkwX5_wrong_0 ++ dktX5_wrong_1
theorem dksX5_wrong_0 : cX5_wrong.data.toList.drop 0 = dktX5_wrong_0 := by decide +kernel
theorem dksX5_wrong_1 : cX5_wrong.data.toList.drop 24 = dktX5_wrong_1 := dk_seg dksX5_wrong_0 24 rfl rfl
theorem dX5_wrong_0 : decode cX5_wrong 0 = .ok (.aload_n 0, 1) := dk_42 (dk_at dksX5_wrong_0 0 rfl rfl)
theorem dX5_wrong_1 : decode cX5_wrong 1 = .ok (.getfield 100, 3) := dk_180 0 100 (dk_at dksX5_wrong_0 1 rfl rfl)
theorem dX5_wrong_4 : decode cX5_wrong 4 = .ok (.iconst 5, 1) := dk_8 (dk_at dksX5_wrong_0 4 rfl rfl)
theorem dX5_wrong_5 : decode cX5_wrong 5 = .ok (.if_icmp .ne 4, 3) := dk_160 0 4 (dk_at dksX5_wrong_0 5 rfl rfl)
theorem dX5_wrong_8 : decode cX5_wrong 8 = .ok (.return_, 1) := dk_177 (dk_at dksX5_wrong_0 8 rfl rfl)
theorem dX5_wrong_9 : decode cX5_wrong 9 = .ok (.aload_n 0, 1) := dk_42 (dk_at dksX5_wrong_0 9 rfl rfl)
theorem dX5_wrong_10 : decode cX5_wrong 10 = .ok (.iload_n 1, 1) := dk_27 (dk_at dksX5_wrong_0 10 rfl rfl)
theorem dX5_wrong_11 : decode cX5_wrong 11 = .ok (.putfield 132, 3) := dk_181 0 132 (dk_at dksX5_wrong_0 11 rfl rfl)
theorem dX5_wrong_14 : decode cX5_wrong 14 = .ok (.aload_n 0, 1) := dk_42 (dk_at dksX5_wrong_0 14 rfl rfl)
theorem dX5_wrong_15 : decode cX5_wrong 15 = .ok (.aload_n 0, 1) := dk_42 (dk_at dksX5_wrong_0 15 rfl rfl)
theorem dX5_wrong_16 : decode cX5_wrong 16 = .ok (.getfield 109, 3) := dk_180 0 109 (dk_at dksX5_wrong_0 16 rfl rfl)
theorem dX5_wrong_19 : decode cX5_wrong 19 = .ok (.putfield 135, 3) := dk_181 0 135 (dk_at dksX5_wrong_0 19 rfl rfl)
theorem dX5_wrong_22 : decode cX5_wrong 22 = .ok (.aload_n 0, 1) := dk_42 (dk_at dksX5_wrong_0 22 rfl rfl)
theorem dX5_wrong_23 : decode cX5_wrong 23 = .ok (.iconst 5, 1) := dk_8 (dk_at dksX5_wrong_0 23 rfl rfl)
theorem dX5_wrong_24 : decode cX5_wrong 24 = .ok (.putfield 100, 3) := dk_181 0 100 (dk_at dksX5_wrong_1 0 rfl rfl)
theorem dX5_wrong_27 : decode cX5_wrong 27 = .ok (.return_, 1) := dk_177 (dk_at dksX5_wrong_1 3 rfl rfl)
abbrev cX5_readPart : ByteArray := prog_15_method_18_code
def yX5_readPart : MethodName := ⟨RX5, "readPart", "(Ljava/lang/String;II)I"⟩
def dkwX5_readPart_0 : List UInt8 := [42, 43, 182, 0, 157, 42, 28, 29, 182, 0, 161, 172]
abbrev dktX5_readPart_0 : List UInt8 := dkwX5_readPart_0 ++ []
theorem dksX5_readPart_0 : cX5_readPart.data.toList.drop 0 = dktX5_readPart_0 := by decide +kernel
theorem dX5_readPart_0 : decode cX5_readPart 0 = .ok (.aload_n 0, 1) := dk_42 (dk_at dksX5_readPart_0 0 rfl rfl)
theorem dX5_readPart_1 : decode cX5_readPart 1 = .ok (.aload_n 1, 1) := dk_43 (dk_at dksX5_readPart_0 1 rfl rfl)
theorem dX5_readPart_2 : decode cX5_readPart 2 = .ok (.invokevirtual 157, 3) := dk_182 0 157 (dk_at dksX5_readPart_0 2 rfl rfl)
theorem dX5_readPart_5 : decode cX5_readPart 5 = .ok (.aload_n 0, 1) := dk_42 (dk_at dksX5_readPart_0 5 rfl rfl)
theorem dX5_readPart_6 : decode cX5_readPart 6 = .ok (.iload_n 2, 1) := dk_28 (dk_at dksX5_readPart_0 6 rfl rfl)
theorem dX5_readPart_7 : decode cX5_readPart 7 = .ok (.iload_n 3, 1) := dk_29 (dk_at dksX5_readPart_0 7 rfl rfl)
theorem dX5_readPart_8 : decode cX5_readPart 8 = .ok (.invokevirtual 161, 3) := dk_182 0 161 (dk_at dksX5_readPart_0 8 rfl rfl)
theorem dX5_readPart_11 : decode cX5_readPart 11 = .ok (.ireturn, 1) := dk_172 (dk_at dksX5_readPart_0 11 rfl rfl)
abbrev cX5_needs : ByteArray := prog_15_method_16_code
def yX5_needs : MethodName := ⟨RX5, "needs", "(Ljava/lang/String;)V"⟩
def dkwX5_needs_0 : List UInt8 := [42, 43, 182, 0, 142, 154, 0, 8, 42, 4, 182, 0, 149, 42, 182, 0, 146, 177]
abbrev dktX5_needs_0 : List UInt8 := dkwX5_needs_0 ++ []
theorem dksX5_needs_0 : cX5_needs.data.toList.drop 0 = dktX5_needs_0 := by decide +kernel
theorem dX5_needs_0 : decode cX5_needs 0 = .ok (.aload_n 0, 1) := dk_42 (dk_at dksX5_needs_0 0 rfl rfl)
theorem dX5_needs_1 : decode cX5_needs 1 = .ok (.aload_n 1, 1) := dk_43 (dk_at dksX5_needs_0 1 rfl rfl)
theorem dX5_needs_2 : decode cX5_needs 2 = .ok (.invokevirtual 142, 3) := dk_182 0 142 (dk_at dksX5_needs_0 2 rfl rfl)
theorem dX5_needs_5 : decode cX5_needs 5 = .ok (.ifCond .ne 8, 3) := dk_154 0 8 (dk_at dksX5_needs_0 5 rfl rfl)
theorem dX5_needs_8 : decode cX5_needs 8 = .ok (.aload_n 0, 1) := dk_42 (dk_at dksX5_needs_0 8 rfl rfl)
theorem dX5_needs_9 : decode cX5_needs 9 = .ok (.iconst 1, 1) := dk_4 (dk_at dksX5_needs_0 9 rfl rfl)
theorem dX5_needs_10 : decode cX5_needs 10 = .ok (.invokevirtual 149, 3) := dk_182 0 149 (dk_at dksX5_needs_0 10 rfl rfl)
theorem dX5_needs_13 : decode cX5_needs 13 = .ok (.aload_n 0, 1) := dk_42 (dk_at dksX5_needs_0 13 rfl rfl)
theorem dX5_needs_14 : decode cX5_needs 14 = .ok (.invokevirtual 146, 3) := dk_182 0 146 (dk_at dksX5_needs_0 14 rfl rfl)
theorem dX5_needs_17 : decode cX5_needs 17 = .ok (.return_, 1) := dk_177 (dk_at dksX5_needs_0 17 rfl rfl)
abbrev cX5_readWhole : ByteArray := prog_15_method_17_code
def yX5_readWhole : MethodName := ⟨RX5, "readWhole", "(II)I"⟩
def dkwX5_readWhole_1 : List UInt8 := [184, 0, 153, 154, 0, 8, 42, 7, 182, 0, 149, 42, 180, 0, 129, 62, 42, 182, 0, 146, 29, 172]
abbrev dktX5_readWhole_1 : List UInt8 := dkwX5_readWhole_1 ++ []
def dkwX5_readWhole_0 : List UInt8 := [42, 180, 0, 100, 6, 159, 0, 11, 42, 4, 182, 0, 149, 167, 0, 20, 42, 180, 0, 129, 27, 28]
abbrev dktX5_readWhole_0 : List UInt8 := dkwX5_readWhole_0 ++ dktX5_readWhole_1
theorem dksX5_readWhole_0 : cX5_readWhole.data.toList.drop 0 = dktX5_readWhole_0 := by decide +kernel
theorem dksX5_readWhole_1 : cX5_readWhole.data.toList.drop 22 = dktX5_readWhole_1 := dk_seg dksX5_readWhole_0 22 rfl rfl
theorem dX5_readWhole_0 : decode cX5_readWhole 0 = .ok (.aload_n 0, 1) := dk_42 (dk_at dksX5_readWhole_0 0 rfl rfl)
theorem dX5_readWhole_1 : decode cX5_readWhole 1 = .ok (.getfield 100, 3) := dk_180 0 100 (dk_at dksX5_readWhole_0 1 rfl rfl)
theorem dX5_readWhole_4 : decode cX5_readWhole 4 = .ok (.iconst 3, 1) := dk_6 (dk_at dksX5_readWhole_0 4 rfl rfl)
theorem dX5_readWhole_5 : decode cX5_readWhole 5 = .ok (.if_icmp .eq 11, 3) := dk_159 0 11 (dk_at dksX5_readWhole_0 5 rfl rfl)
theorem dX5_readWhole_8 : decode cX5_readWhole 8 = .ok (.aload_n 0, 1) := dk_42 (dk_at dksX5_readWhole_0 8 rfl rfl)
theorem dX5_readWhole_9 : decode cX5_readWhole 9 = .ok (.iconst 1, 1) := dk_4 (dk_at dksX5_readWhole_0 9 rfl rfl)
theorem dX5_readWhole_10 : decode cX5_readWhole 10 = .ok (.invokevirtual 149, 3) := dk_182 0 149 (dk_at dksX5_readWhole_0 10 rfl rfl)
theorem dX5_readWhole_13 : decode cX5_readWhole 13 = .ok (.goto 20, 3) := dk_167 0 20 (dk_at dksX5_readWhole_0 13 rfl rfl)
theorem dX5_readWhole_16 : decode cX5_readWhole 16 = .ok (.aload_n 0, 1) := dk_42 (dk_at dksX5_readWhole_0 16 rfl rfl)
theorem dX5_readWhole_17 : decode cX5_readWhole 17 = .ok (.getfield 129, 3) := dk_180 0 129 (dk_at dksX5_readWhole_0 17 rfl rfl)
theorem dX5_readWhole_20 : decode cX5_readWhole 20 = .ok (.iload_n 1, 1) := dk_27 (dk_at dksX5_readWhole_0 20 rfl rfl)
theorem dX5_readWhole_21 : decode cX5_readWhole 21 = .ok (.iload_n 2, 1) := dk_28 (dk_at dksX5_readWhole_0 21 rfl rfl)
theorem dX5_readWhole_22 : decode cX5_readWhole 22 = .ok (.invokestatic 153, 3) := dk_184 0 153 (dk_at dksX5_readWhole_1 0 rfl rfl)
theorem dX5_readWhole_25 : decode cX5_readWhole 25 = .ok (.ifCond .ne 8, 3) := dk_154 0 8 (dk_at dksX5_readWhole_1 3 rfl rfl)
theorem dX5_readWhole_28 : decode cX5_readWhole 28 = .ok (.aload_n 0, 1) := dk_42 (dk_at dksX5_readWhole_1 6 rfl rfl)
theorem dX5_readWhole_29 : decode cX5_readWhole 29 = .ok (.iconst 4, 1) := dk_7 (dk_at dksX5_readWhole_1 7 rfl rfl)
theorem dX5_readWhole_30 : decode cX5_readWhole 30 = .ok (.invokevirtual 149, 3) := dk_182 0 149 (dk_at dksX5_readWhole_1 8 rfl rfl)
theorem dX5_readWhole_33 : decode cX5_readWhole 33 = .ok (.aload_n 0, 1) := dk_42 (dk_at dksX5_readWhole_1 11 rfl rfl)
theorem dX5_readWhole_34 : decode cX5_readWhole 34 = .ok (.getfield 129, 3) := dk_180 0 129 (dk_at dksX5_readWhole_1 12 rfl rfl)
theorem dX5_readWhole_37 : decode cX5_readWhole 37 = .ok (.istore_n 3, 1) := dk_62 (dk_at dksX5_readWhole_1 15 rfl rfl)
theorem dX5_readWhole_38 : decode cX5_readWhole 38 = .ok (.aload_n 0, 1) := dk_42 (dk_at dksX5_readWhole_1 16 rfl rfl)
theorem dX5_readWhole_39 : decode cX5_readWhole 39 = .ok (.invokevirtual 146, 3) := dk_182 0 146 (dk_at dksX5_readWhole_1 17 rfl rfl)
theorem dX5_readWhole_42 : decode cX5_readWhole 42 = .ok (.iload_n 3, 1) := dk_29 (dk_at dksX5_readWhole_1 20 rfl rfl)
theorem dX5_readWhole_43 : decode cX5_readWhole 43 = .ok (.ireturn, 1) := dk_172 (dk_at dksX5_readWhole_1 21 rfl rfl)
abbrev cX5_in : ByteArray := prog_15_method_6_code
def yX5_in : MethodName := ⟨RX5, "in", "(III)Z"⟩
def dkwX5_in_0 : List UInt8 := [26, 27, 161, 0, 12, 26, 28, 163, 0, 7, 4, 167, 0, 4, 3, 172]
abbrev dktX5_in_0 : List UInt8 := dkwX5_in_0 ++ []
theorem dksX5_in_0 : cX5_in.data.toList.drop 0 = dktX5_in_0 := by decide +kernel
theorem dX5_in_0 : decode cX5_in 0 = .ok (.iload_n 0, 1) := dk_26 (dk_at dksX5_in_0 0 rfl rfl)
theorem dX5_in_1 : decode cX5_in 1 = .ok (.iload_n 1, 1) := dk_27 (dk_at dksX5_in_0 1 rfl rfl)
theorem dX5_in_2 : decode cX5_in 2 = .ok (.if_icmp .lt 12, 3) := dk_161 0 12 (dk_at dksX5_in_0 2 rfl rfl)
theorem dX5_in_5 : decode cX5_in 5 = .ok (.iload_n 0, 1) := dk_26 (dk_at dksX5_in_0 5 rfl rfl)
theorem dX5_in_6 : decode cX5_in 6 = .ok (.iload_n 2, 1) := dk_28 (dk_at dksX5_in_0 6 rfl rfl)
theorem dX5_in_7 : decode cX5_in 7 = .ok (.if_icmp .gt 7, 3) := dk_163 0 7 (dk_at dksX5_in_0 7 rfl rfl)
theorem dX5_in_10 : decode cX5_in 10 = .ok (.iconst 1, 1) := dk_4 (dk_at dksX5_in_0 10 rfl rfl)
theorem dX5_in_11 : decode cX5_in 11 = .ok (.goto 4, 3) := dk_167 0 4 (dk_at dksX5_in_0 11 rfl rfl)
theorem dX5_in_14 : decode cX5_in 14 = .ok (.iconst 0, 1) := dk_3 (dk_at dksX5_in_0 14 rfl rfl)
theorem dX5_in_15 : decode cX5_in 15 = .ok (.ireturn, 1) := dk_172 (dk_at dksX5_in_0 15 rfl rfl)
abbrev cX5_readKitchen : ByteArray := prog_15_method_26_code
def yX5_readKitchen : MethodName := ⟨RX5, "readKitchen", "()V"⟩
def dkwX5_readKitchen_3 : List UInt8 := [180, 0, 191, 180, 1, 9, 28, 79, 42, 180, 0, 191, 89, 180, 1, 9, 4, 96, 181, 1, 9, 177]
abbrev dktX5_readKitchen_3 : List UInt8 := dkwX5_readKitchen_3 ++ []
def dkwX5_readKitchen_2 : List UInt8 := [180, 0, 191, 180, 1, 17, 42, 180, 0, 191, 180, 1, 9, 27, 79, 42, 180, 0, 191, 180, 1, 20, 42]
abbrev dktX5_readKitchen_2 : List UInt8 := dkwX5_readKitchen_2 ++ dktX5_readKitchen_3
def dkwX5_readKitchen_1 : List UInt8 := [42, 19, 1, 0, 16, 60, 16, 99, 182, 1, 1, 61, 42, 180, 0, 100, 8, 160, 0, 4, 177, 42]
abbrev dktX5_readKitchen_1 : List UInt8 := dkwX5_readKitchen_1 ++ dktX5_readKitchen_2
def dkwX5_readKitchen_0 : List UInt8 := [42, 42, 180, 0, 191, 180, 1, 9, 6, 3, 182, 1, 12, 42, 19, 1, 16, 3, 16, 99, 182, 1, 1, 60]
abbrev dktX5_readKitchen_0 : List UInt8 := dkwX5_readKitchen_0 ++ dktX5_readKitchen_1
theorem dksX5_readKitchen_0 : cX5_readKitchen.data.toList.drop 0 = dktX5_readKitchen_0 := by decide +kernel
theorem dksX5_readKitchen_1 : cX5_readKitchen.data.toList.drop 24 = dktX5_readKitchen_1 := dk_seg dksX5_readKitchen_0 24 rfl rfl
theorem dksX5_readKitchen_2 : cX5_readKitchen.data.toList.drop 46 = dktX5_readKitchen_2 := dk_seg dksX5_readKitchen_1 22 rfl rfl
theorem dksX5_readKitchen_3 : cX5_readKitchen.data.toList.drop 69 = dktX5_readKitchen_3 := dk_seg dksX5_readKitchen_2 23 rfl rfl
theorem dX5_readKitchen_0 : decode cX5_readKitchen 0 = .ok (.aload_n 0, 1) := dk_42 (dk_at dksX5_readKitchen_0 0 rfl rfl)
theorem dX5_readKitchen_1 : decode cX5_readKitchen 1 = .ok (.aload_n 0, 1) := dk_42 (dk_at dksX5_readKitchen_0 1 rfl rfl)
theorem dX5_readKitchen_2 : decode cX5_readKitchen 2 = .ok (.getfield 191, 3) := dk_180 0 191 (dk_at dksX5_readKitchen_0 2 rfl rfl)
theorem dX5_readKitchen_5 : decode cX5_readKitchen 5 = .ok (.getfield 265, 3) := dk_180 1 9 (dk_at dksX5_readKitchen_0 5 rfl rfl)
theorem dX5_readKitchen_8 : decode cX5_readKitchen 8 = .ok (.iconst 3, 1) := dk_6 (dk_at dksX5_readKitchen_0 8 rfl rfl)
theorem dX5_readKitchen_9 : decode cX5_readKitchen 9 = .ok (.iconst 0, 1) := dk_3 (dk_at dksX5_readKitchen_0 9 rfl rfl)
theorem dX5_readKitchen_10 : decode cX5_readKitchen 10 = .ok (.invokevirtual 268, 3) := dk_182 1 12 (dk_at dksX5_readKitchen_0 10 rfl rfl)
theorem dX5_readKitchen_13 : decode cX5_readKitchen 13 = .ok (.aload_n 0, 1) := dk_42 (dk_at dksX5_readKitchen_0 13 rfl rfl)
theorem dX5_readKitchen_14 : decode cX5_readKitchen 14 = .ok (.ldc_w 272, 3) := dk_19 1 16 (dk_at dksX5_readKitchen_0 14 rfl rfl)
theorem dX5_readKitchen_17 : decode cX5_readKitchen 17 = .ok (.iconst 0, 1) := dk_3 (dk_at dksX5_readKitchen_0 17 rfl rfl)
theorem dX5_readKitchen_18 : decode cX5_readKitchen 18 = .ok (.bipush 99, 2) := dk_16 99 (dk_at dksX5_readKitchen_0 18 rfl rfl)
theorem dX5_readKitchen_20 : decode cX5_readKitchen 20 = .ok (.invokevirtual 257, 3) := dk_182 1 1 (dk_at dksX5_readKitchen_0 20 rfl rfl)
theorem dX5_readKitchen_23 : decode cX5_readKitchen 23 = .ok (.istore_n 1, 1) := dk_60 (dk_at dksX5_readKitchen_0 23 rfl rfl)
theorem dX5_readKitchen_24 : decode cX5_readKitchen 24 = .ok (.aload_n 0, 1) := dk_42 (dk_at dksX5_readKitchen_1 0 rfl rfl)
theorem dX5_readKitchen_25 : decode cX5_readKitchen 25 = .ok (.ldc_w 256, 3) := dk_19 1 0 (dk_at dksX5_readKitchen_1 1 rfl rfl)
theorem dX5_readKitchen_28 : decode cX5_readKitchen 28 = .ok (.bipush 60, 2) := dk_16 60 (dk_at dksX5_readKitchen_1 4 rfl rfl)
theorem dX5_readKitchen_30 : decode cX5_readKitchen 30 = .ok (.bipush 99, 2) := dk_16 99 (dk_at dksX5_readKitchen_1 6 rfl rfl)
theorem dX5_readKitchen_32 : decode cX5_readKitchen 32 = .ok (.invokevirtual 257, 3) := dk_182 1 1 (dk_at dksX5_readKitchen_1 8 rfl rfl)
theorem dX5_readKitchen_35 : decode cX5_readKitchen 35 = .ok (.istore_n 2, 1) := dk_61 (dk_at dksX5_readKitchen_1 11 rfl rfl)
theorem dX5_readKitchen_36 : decode cX5_readKitchen 36 = .ok (.aload_n 0, 1) := dk_42 (dk_at dksX5_readKitchen_1 12 rfl rfl)
theorem dX5_readKitchen_37 : decode cX5_readKitchen 37 = .ok (.getfield 100, 3) := dk_180 0 100 (dk_at dksX5_readKitchen_1 13 rfl rfl)
theorem dX5_readKitchen_40 : decode cX5_readKitchen 40 = .ok (.iconst 5, 1) := dk_8 (dk_at dksX5_readKitchen_1 16 rfl rfl)
theorem dX5_readKitchen_41 : decode cX5_readKitchen 41 = .ok (.if_icmp .ne 4, 3) := dk_160 0 4 (dk_at dksX5_readKitchen_1 17 rfl rfl)
theorem dX5_readKitchen_44 : decode cX5_readKitchen 44 = .ok (.return_, 1) := dk_177 (dk_at dksX5_readKitchen_1 20 rfl rfl)
theorem dX5_readKitchen_45 : decode cX5_readKitchen 45 = .ok (.aload_n 0, 1) := dk_42 (dk_at dksX5_readKitchen_1 21 rfl rfl)
theorem dX5_readKitchen_46 : decode cX5_readKitchen 46 = .ok (.getfield 191, 3) := dk_180 0 191 (dk_at dksX5_readKitchen_2 0 rfl rfl)
theorem dX5_readKitchen_49 : decode cX5_readKitchen 49 = .ok (.getfield 273, 3) := dk_180 1 17 (dk_at dksX5_readKitchen_2 3 rfl rfl)
theorem dX5_readKitchen_52 : decode cX5_readKitchen 52 = .ok (.aload_n 0, 1) := dk_42 (dk_at dksX5_readKitchen_2 6 rfl rfl)
theorem dX5_readKitchen_53 : decode cX5_readKitchen 53 = .ok (.getfield 191, 3) := dk_180 0 191 (dk_at dksX5_readKitchen_2 7 rfl rfl)
theorem dX5_readKitchen_56 : decode cX5_readKitchen 56 = .ok (.getfield 265, 3) := dk_180 1 9 (dk_at dksX5_readKitchen_2 10 rfl rfl)
theorem dX5_readKitchen_59 : decode cX5_readKitchen 59 = .ok (.iload_n 1, 1) := dk_27 (dk_at dksX5_readKitchen_2 13 rfl rfl)
theorem dX5_readKitchen_60 : decode cX5_readKitchen 60 = .ok (.iastore, 1) := dk_79 (dk_at dksX5_readKitchen_2 14 rfl rfl)
theorem dX5_readKitchen_61 : decode cX5_readKitchen 61 = .ok (.aload_n 0, 1) := dk_42 (dk_at dksX5_readKitchen_2 15 rfl rfl)
theorem dX5_readKitchen_62 : decode cX5_readKitchen 62 = .ok (.getfield 191, 3) := dk_180 0 191 (dk_at dksX5_readKitchen_2 16 rfl rfl)
theorem dX5_readKitchen_65 : decode cX5_readKitchen 65 = .ok (.getfield 276, 3) := dk_180 1 20 (dk_at dksX5_readKitchen_2 19 rfl rfl)
theorem dX5_readKitchen_68 : decode cX5_readKitchen 68 = .ok (.aload_n 0, 1) := dk_42 (dk_at dksX5_readKitchen_2 22 rfl rfl)
theorem dX5_readKitchen_69 : decode cX5_readKitchen 69 = .ok (.getfield 191, 3) := dk_180 0 191 (dk_at dksX5_readKitchen_3 0 rfl rfl)
theorem dX5_readKitchen_72 : decode cX5_readKitchen 72 = .ok (.getfield 265, 3) := dk_180 1 9 (dk_at dksX5_readKitchen_3 3 rfl rfl)
theorem dX5_readKitchen_75 : decode cX5_readKitchen 75 = .ok (.iload_n 2, 1) := dk_28 (dk_at dksX5_readKitchen_3 6 rfl rfl)
theorem dX5_readKitchen_76 : decode cX5_readKitchen 76 = .ok (.iastore, 1) := dk_79 (dk_at dksX5_readKitchen_3 7 rfl rfl)
theorem dX5_readKitchen_77 : decode cX5_readKitchen 77 = .ok (.aload_n 0, 1) := dk_42 (dk_at dksX5_readKitchen_3 8 rfl rfl)
theorem dX5_readKitchen_78 : decode cX5_readKitchen 78 = .ok (.getfield 191, 3) := dk_180 0 191 (dk_at dksX5_readKitchen_3 9 rfl rfl)
theorem dX5_readKitchen_81 : decode cX5_readKitchen 81 = .ok (.dup, 1) := dk_89 (dk_at dksX5_readKitchen_3 12 rfl rfl)
theorem dX5_readKitchen_82 : decode cX5_readKitchen 82 = .ok (.getfield 265, 3) := dk_180 1 9 (dk_at dksX5_readKitchen_3 13 rfl rfl)
theorem dX5_readKitchen_85 : decode cX5_readKitchen 85 = .ok (.iconst 1, 1) := dk_4 (dk_at dksX5_readKitchen_3 16 rfl rfl)
theorem dX5_readKitchen_86 : decode cX5_readKitchen 86 = .ok (.iadd, 1) := dk_96 (dk_at dksX5_readKitchen_3 17 rfl rfl)
theorem dX5_readKitchen_87 : decode cX5_readKitchen 87 = .ok (.putfield 265, 3) := dk_181 1 9 (dk_at dksX5_readKitchen_3 18 rfl rfl)
theorem dX5_readKitchen_90 : decode cX5_readKitchen 90 = .ok (.return_, 1) := dk_177 (dk_at dksX5_readKitchen_3 21 rfl rfl)
abbrev cX5_readNamed : ByteArray := prog_15_method_21_code
def yX5_readNamed : MethodName := ⟨RX5, "readNamed", "(III)V"⟩
def dkwX5_readNamed_5 : List UInt8 := [181, 0, 205, 42, 182, 0, 146, 177]
abbrev dktX5_readNamed_5 : List UInt8 := dkwX5_readNamed_5 ++ []
def dkwX5_readNamed_4 : List UInt8 := [180, 0, 211, 42, 180, 0, 191, 180, 0, 205, 27, 79, 42, 180, 0, 191, 89, 180, 0, 205, 4, 96]
abbrev dktX5_readNamed_4 : List UInt8 := dkwX5_readNamed_4 ++ dktX5_readNamed_5
def dkwX5_readNamed_3 : List UInt8 := [180, 0, 119, 80, 42, 180, 0, 191, 180, 0, 208, 42, 180, 0, 191, 180, 0, 205, 29, 79, 42, 180, 0, 191]
abbrev dktX5_readNamed_3 : List UInt8 := dkwX5_readNamed_3 ++ dktX5_readNamed_4
def dkwX5_readNamed_2 : List UInt8 := [180, 0, 100, 8, 160, 0, 4, 177, 42, 180, 0, 191, 180, 0, 201, 42, 180, 0, 191, 180, 0, 205, 42]
abbrev dktX5_readNamed_2 : List UInt8 := dkwX5_readNamed_2 ++ dktX5_readNamed_3
def dkwX5_readNamed_1 : List UInt8 := [182, 0, 149, 42, 180, 0, 191, 42, 180, 0, 119, 182, 0, 195, 2, 159, 0, 8, 42, 6, 182, 0, 149, 42]
abbrev dktX5_readNamed_1 : List UInt8 := dkwX5_readNamed_1 ++ dktX5_readNamed_2
def dkwX5_readNamed_0 : List UInt8 := [27, 28, 160, 0, 8, 42, 8, 182, 0, 149, 42, 182, 0, 146, 42, 182, 0, 187, 154, 0, 8, 42, 4]
abbrev dktX5_readNamed_0 : List UInt8 := dkwX5_readNamed_0 ++ dktX5_readNamed_1
theorem dksX5_readNamed_0 : cX5_readNamed.data.toList.drop 0 = dktX5_readNamed_0 := by decide +kernel
theorem dksX5_readNamed_1 : cX5_readNamed.data.toList.drop 23 = dktX5_readNamed_1 := dk_seg dksX5_readNamed_0 23 rfl rfl
theorem dksX5_readNamed_2 : cX5_readNamed.data.toList.drop 47 = dktX5_readNamed_2 := dk_seg dksX5_readNamed_1 24 rfl rfl
theorem dksX5_readNamed_3 : cX5_readNamed.data.toList.drop 70 = dktX5_readNamed_3 := dk_seg dksX5_readNamed_2 23 rfl rfl
theorem dksX5_readNamed_4 : cX5_readNamed.data.toList.drop 94 = dktX5_readNamed_4 := dk_seg dksX5_readNamed_3 24 rfl rfl
theorem dksX5_readNamed_5 : cX5_readNamed.data.toList.drop 116 = dktX5_readNamed_5 := dk_seg dksX5_readNamed_4 22 rfl rfl
theorem dX5_readNamed_0 : decode cX5_readNamed 0 = .ok (.iload_n 1, 1) := dk_27 (dk_at dksX5_readNamed_0 0 rfl rfl)
theorem dX5_readNamed_1 : decode cX5_readNamed 1 = .ok (.iload_n 2, 1) := dk_28 (dk_at dksX5_readNamed_0 1 rfl rfl)
theorem dX5_readNamed_2 : decode cX5_readNamed 2 = .ok (.if_icmp .ne 8, 3) := dk_160 0 8 (dk_at dksX5_readNamed_0 2 rfl rfl)
theorem dX5_readNamed_5 : decode cX5_readNamed 5 = .ok (.aload_n 0, 1) := dk_42 (dk_at dksX5_readNamed_0 5 rfl rfl)
theorem dX5_readNamed_6 : decode cX5_readNamed 6 = .ok (.iconst 5, 1) := dk_8 (dk_at dksX5_readNamed_0 6 rfl rfl)
theorem dX5_readNamed_7 : decode cX5_readNamed 7 = .ok (.invokevirtual 149, 3) := dk_182 0 149 (dk_at dksX5_readNamed_0 7 rfl rfl)
theorem dX5_readNamed_10 : decode cX5_readNamed 10 = .ok (.aload_n 0, 1) := dk_42 (dk_at dksX5_readNamed_0 10 rfl rfl)
theorem dX5_readNamed_11 : decode cX5_readNamed 11 = .ok (.invokevirtual 146, 3) := dk_182 0 146 (dk_at dksX5_readNamed_0 11 rfl rfl)
theorem dX5_readNamed_14 : decode cX5_readNamed 14 = .ok (.aload_n 0, 1) := dk_42 (dk_at dksX5_readNamed_0 14 rfl rfl)
theorem dX5_readNamed_15 : decode cX5_readNamed 15 = .ok (.invokevirtual 187, 3) := dk_182 0 187 (dk_at dksX5_readNamed_0 15 rfl rfl)
theorem dX5_readNamed_18 : decode cX5_readNamed 18 = .ok (.ifCond .ne 8, 3) := dk_154 0 8 (dk_at dksX5_readNamed_0 18 rfl rfl)
theorem dX5_readNamed_21 : decode cX5_readNamed 21 = .ok (.aload_n 0, 1) := dk_42 (dk_at dksX5_readNamed_0 21 rfl rfl)
theorem dX5_readNamed_22 : decode cX5_readNamed 22 = .ok (.iconst 1, 1) := dk_4 (dk_at dksX5_readNamed_0 22 rfl rfl)
theorem dX5_readNamed_23 : decode cX5_readNamed 23 = .ok (.invokevirtual 149, 3) := dk_182 0 149 (dk_at dksX5_readNamed_1 0 rfl rfl)
theorem dX5_readNamed_26 : decode cX5_readNamed 26 = .ok (.aload_n 0, 1) := dk_42 (dk_at dksX5_readNamed_1 3 rfl rfl)
theorem dX5_readNamed_27 : decode cX5_readNamed 27 = .ok (.getfield 191, 3) := dk_180 0 191 (dk_at dksX5_readNamed_1 4 rfl rfl)
theorem dX5_readNamed_30 : decode cX5_readNamed 30 = .ok (.aload_n 0, 1) := dk_42 (dk_at dksX5_readNamed_1 7 rfl rfl)
theorem dX5_readNamed_31 : decode cX5_readNamed 31 = .ok (.getfield 119, 3) := dk_180 0 119 (dk_at dksX5_readNamed_1 8 rfl rfl)
theorem dX5_readNamed_34 : decode cX5_readNamed 34 = .ok (.invokevirtual 195, 3) := dk_182 0 195 (dk_at dksX5_readNamed_1 11 rfl rfl)
theorem dX5_readNamed_37 : decode cX5_readNamed 37 = .ok (.iconst (-1), 1) := dk_2 (dk_at dksX5_readNamed_1 14 rfl rfl)
theorem dX5_readNamed_38 : decode cX5_readNamed 38 = .ok (.if_icmp .eq 8, 3) := dk_159 0 8 (dk_at dksX5_readNamed_1 15 rfl rfl)
theorem dX5_readNamed_41 : decode cX5_readNamed 41 = .ok (.aload_n 0, 1) := dk_42 (dk_at dksX5_readNamed_1 18 rfl rfl)
theorem dX5_readNamed_42 : decode cX5_readNamed 42 = .ok (.iconst 3, 1) := dk_6 (dk_at dksX5_readNamed_1 19 rfl rfl)
theorem dX5_readNamed_43 : decode cX5_readNamed 43 = .ok (.invokevirtual 149, 3) := dk_182 0 149 (dk_at dksX5_readNamed_1 20 rfl rfl)
theorem dX5_readNamed_46 : decode cX5_readNamed 46 = .ok (.aload_n 0, 1) := dk_42 (dk_at dksX5_readNamed_1 23 rfl rfl)
theorem dX5_readNamed_47 : decode cX5_readNamed 47 = .ok (.getfield 100, 3) := dk_180 0 100 (dk_at dksX5_readNamed_2 0 rfl rfl)
theorem dX5_readNamed_50 : decode cX5_readNamed 50 = .ok (.iconst 5, 1) := dk_8 (dk_at dksX5_readNamed_2 3 rfl rfl)
theorem dX5_readNamed_51 : decode cX5_readNamed 51 = .ok (.if_icmp .ne 4, 3) := dk_160 0 4 (dk_at dksX5_readNamed_2 4 rfl rfl)
theorem dX5_readNamed_54 : decode cX5_readNamed 54 = .ok (.return_, 1) := dk_177 (dk_at dksX5_readNamed_2 7 rfl rfl)
theorem dX5_readNamed_55 : decode cX5_readNamed 55 = .ok (.aload_n 0, 1) := dk_42 (dk_at dksX5_readNamed_2 8 rfl rfl)
theorem dX5_readNamed_56 : decode cX5_readNamed 56 = .ok (.getfield 191, 3) := dk_180 0 191 (dk_at dksX5_readNamed_2 9 rfl rfl)
theorem dX5_readNamed_59 : decode cX5_readNamed 59 = .ok (.getfield 201, 3) := dk_180 0 201 (dk_at dksX5_readNamed_2 12 rfl rfl)
theorem dX5_readNamed_62 : decode cX5_readNamed 62 = .ok (.aload_n 0, 1) := dk_42 (dk_at dksX5_readNamed_2 15 rfl rfl)
theorem dX5_readNamed_63 : decode cX5_readNamed 63 = .ok (.getfield 191, 3) := dk_180 0 191 (dk_at dksX5_readNamed_2 16 rfl rfl)
theorem dX5_readNamed_66 : decode cX5_readNamed 66 = .ok (.getfield 205, 3) := dk_180 0 205 (dk_at dksX5_readNamed_2 19 rfl rfl)
theorem dX5_readNamed_69 : decode cX5_readNamed 69 = .ok (.aload_n 0, 1) := dk_42 (dk_at dksX5_readNamed_2 22 rfl rfl)
theorem dX5_readNamed_70 : decode cX5_readNamed 70 = .ok (.getfield 119, 3) := dk_180 0 119 (dk_at dksX5_readNamed_3 0 rfl rfl)
theorem dX5_readNamed_73 : decode cX5_readNamed 73 = .ok (.lastore, 1) := dk_80 (dk_at dksX5_readNamed_3 3 rfl rfl)
theorem dX5_readNamed_74 : decode cX5_readNamed 74 = .ok (.aload_n 0, 1) := dk_42 (dk_at dksX5_readNamed_3 4 rfl rfl)
theorem dX5_readNamed_75 : decode cX5_readNamed 75 = .ok (.getfield 191, 3) := dk_180 0 191 (dk_at dksX5_readNamed_3 5 rfl rfl)
theorem dX5_readNamed_78 : decode cX5_readNamed 78 = .ok (.getfield 208, 3) := dk_180 0 208 (dk_at dksX5_readNamed_3 8 rfl rfl)
theorem dX5_readNamed_81 : decode cX5_readNamed 81 = .ok (.aload_n 0, 1) := dk_42 (dk_at dksX5_readNamed_3 11 rfl rfl)
theorem dX5_readNamed_82 : decode cX5_readNamed 82 = .ok (.getfield 191, 3) := dk_180 0 191 (dk_at dksX5_readNamed_3 12 rfl rfl)
theorem dX5_readNamed_85 : decode cX5_readNamed 85 = .ok (.getfield 205, 3) := dk_180 0 205 (dk_at dksX5_readNamed_3 15 rfl rfl)
theorem dX5_readNamed_88 : decode cX5_readNamed 88 = .ok (.iload_n 3, 1) := dk_29 (dk_at dksX5_readNamed_3 18 rfl rfl)
theorem dX5_readNamed_89 : decode cX5_readNamed 89 = .ok (.iastore, 1) := dk_79 (dk_at dksX5_readNamed_3 19 rfl rfl)
theorem dX5_readNamed_90 : decode cX5_readNamed 90 = .ok (.aload_n 0, 1) := dk_42 (dk_at dksX5_readNamed_3 20 rfl rfl)
theorem dX5_readNamed_91 : decode cX5_readNamed 91 = .ok (.getfield 191, 3) := dk_180 0 191 (dk_at dksX5_readNamed_3 21 rfl rfl)
theorem dX5_readNamed_94 : decode cX5_readNamed 94 = .ok (.getfield 211, 3) := dk_180 0 211 (dk_at dksX5_readNamed_4 0 rfl rfl)
theorem dX5_readNamed_97 : decode cX5_readNamed 97 = .ok (.aload_n 0, 1) := dk_42 (dk_at dksX5_readNamed_4 3 rfl rfl)
theorem dX5_readNamed_98 : decode cX5_readNamed 98 = .ok (.getfield 191, 3) := dk_180 0 191 (dk_at dksX5_readNamed_4 4 rfl rfl)
theorem dX5_readNamed_101 : decode cX5_readNamed 101 = .ok (.getfield 205, 3) := dk_180 0 205 (dk_at dksX5_readNamed_4 7 rfl rfl)
theorem dX5_readNamed_104 : decode cX5_readNamed 104 = .ok (.iload_n 1, 1) := dk_27 (dk_at dksX5_readNamed_4 10 rfl rfl)
theorem dX5_readNamed_105 : decode cX5_readNamed 105 = .ok (.iastore, 1) := dk_79 (dk_at dksX5_readNamed_4 11 rfl rfl)
theorem dX5_readNamed_106 : decode cX5_readNamed 106 = .ok (.aload_n 0, 1) := dk_42 (dk_at dksX5_readNamed_4 12 rfl rfl)
theorem dX5_readNamed_107 : decode cX5_readNamed 107 = .ok (.getfield 191, 3) := dk_180 0 191 (dk_at dksX5_readNamed_4 13 rfl rfl)
theorem dX5_readNamed_110 : decode cX5_readNamed 110 = .ok (.dup, 1) := dk_89 (dk_at dksX5_readNamed_4 16 rfl rfl)
theorem dX5_readNamed_111 : decode cX5_readNamed 111 = .ok (.getfield 205, 3) := dk_180 0 205 (dk_at dksX5_readNamed_4 17 rfl rfl)
theorem dX5_readNamed_114 : decode cX5_readNamed 114 = .ok (.iconst 1, 1) := dk_4 (dk_at dksX5_readNamed_4 20 rfl rfl)
theorem dX5_readNamed_115 : decode cX5_readNamed 115 = .ok (.iadd, 1) := dk_96 (dk_at dksX5_readNamed_4 21 rfl rfl)
theorem dX5_readNamed_116 : decode cX5_readNamed 116 = .ok (.putfield 205, 3) := dk_181 0 205 (dk_at dksX5_readNamed_5 0 rfl rfl)
theorem dX5_readNamed_119 : decode cX5_readNamed 119 = .ok (.aload_n 0, 1) := dk_42 (dk_at dksX5_readNamed_5 3 rfl rfl)
theorem dX5_readNamed_120 : decode cX5_readNamed 120 = .ok (.invokevirtual 146, 3) := dk_182 0 146 (dk_at dksX5_readNamed_5 4 rfl rfl)
theorem dX5_readNamed_123 : decode cX5_readNamed 123 = .ok (.return_, 1) := dk_177 (dk_at dksX5_readNamed_5 7 rfl rfl)
abbrev cX5_isName : ByteArray := prog_15_method_20_code
def yX5_isName : MethodName := ⟨RX5, "isName", "()Z"⟩
def dkwX5_isName_4 : List UInt8 := [182, 0, 142, 154, 0, 16, 42, 18, 185, 182, 0, 142, 154, 0, 7, 4, 167, 0, 4, 3, 172]
abbrev dktX5_isName_4 : List UInt8 := dkwX5_isName_4 ++ []
def dkwX5_isName_3 : List UInt8 := [154, 0, 43, 42, 18, 179, 182, 0, 142, 154, 0, 34, 42, 18, 181, 182, 0, 142, 154, 0, 25, 42, 18, 183]
abbrev dktX5_isName_3 : List UInt8 := dkwX5_isName_3 ++ dktX5_isName_4
def dkwX5_isName_2 : List UInt8 := [182, 0, 142, 154, 0, 12, 42, 18, 175, 182, 0, 142, 153, 0, 5, 3, 172, 42, 18, 177, 182, 0, 142]
abbrev dktX5_isName_2 : List UInt8 := dkwX5_isName_2 ++ dktX5_isName_3
def dkwX5_isName_1 : List UInt8 := [154, 0, 39, 42, 18, 169, 182, 0, 142, 154, 0, 30, 42, 18, 171, 182, 0, 142, 154, 0, 21, 42, 18, 173]
abbrev dktX5_isName_1 : List UInt8 := dkwX5_isName_1 ++ dktX5_isName_2
def dkwX5_isName_0 : List UInt8 := [42, 180, 0, 100, 5, 160, 0, 57, 42, 18, 165, 182, 0, 142, 154, 0, 48, 42, 18, 167, 182, 0, 142]
abbrev dktX5_isName_0 : List UInt8 := dkwX5_isName_0 ++ dktX5_isName_1
theorem dksX5_isName_0 : cX5_isName.data.toList.drop 0 = dktX5_isName_0 := by decide +kernel
theorem dksX5_isName_1 : cX5_isName.data.toList.drop 23 = dktX5_isName_1 := dk_seg dksX5_isName_0 23 rfl rfl
theorem dksX5_isName_2 : cX5_isName.data.toList.drop 47 = dktX5_isName_2 := dk_seg dksX5_isName_1 24 rfl rfl
theorem dksX5_isName_3 : cX5_isName.data.toList.drop 70 = dktX5_isName_3 := dk_seg dksX5_isName_2 23 rfl rfl
theorem dksX5_isName_4 : cX5_isName.data.toList.drop 94 = dktX5_isName_4 := dk_seg dksX5_isName_3 24 rfl rfl
theorem dX5_isName_0 : decode cX5_isName 0 = .ok (.aload_n 0, 1) := dk_42 (dk_at dksX5_isName_0 0 rfl rfl)
theorem dX5_isName_1 : decode cX5_isName 1 = .ok (.getfield 100, 3) := dk_180 0 100 (dk_at dksX5_isName_0 1 rfl rfl)
theorem dX5_isName_4 : decode cX5_isName 4 = .ok (.iconst 2, 1) := dk_5 (dk_at dksX5_isName_0 4 rfl rfl)
theorem dX5_isName_5 : decode cX5_isName 5 = .ok (.if_icmp .ne 57, 3) := dk_160 0 57 (dk_at dksX5_isName_0 5 rfl rfl)
theorem dX5_isName_8 : decode cX5_isName 8 = .ok (.aload_n 0, 1) := dk_42 (dk_at dksX5_isName_0 8 rfl rfl)
theorem dX5_isName_9 : decode cX5_isName 9 = .ok (.ldc 165, 2) := dk_18 165 (dk_at dksX5_isName_0 9 rfl rfl)
theorem dX5_isName_11 : decode cX5_isName 11 = .ok (.invokevirtual 142, 3) := dk_182 0 142 (dk_at dksX5_isName_0 11 rfl rfl)
theorem dX5_isName_14 : decode cX5_isName 14 = .ok (.ifCond .ne 48, 3) := dk_154 0 48 (dk_at dksX5_isName_0 14 rfl rfl)
theorem dX5_isName_17 : decode cX5_isName 17 = .ok (.aload_n 0, 1) := dk_42 (dk_at dksX5_isName_0 17 rfl rfl)
theorem dX5_isName_18 : decode cX5_isName 18 = .ok (.ldc 167, 2) := dk_18 167 (dk_at dksX5_isName_0 18 rfl rfl)
theorem dX5_isName_20 : decode cX5_isName 20 = .ok (.invokevirtual 142, 3) := dk_182 0 142 (dk_at dksX5_isName_0 20 rfl rfl)
theorem dX5_isName_23 : decode cX5_isName 23 = .ok (.ifCond .ne 39, 3) := dk_154 0 39 (dk_at dksX5_isName_1 0 rfl rfl)
theorem dX5_isName_26 : decode cX5_isName 26 = .ok (.aload_n 0, 1) := dk_42 (dk_at dksX5_isName_1 3 rfl rfl)
theorem dX5_isName_27 : decode cX5_isName 27 = .ok (.ldc 169, 2) := dk_18 169 (dk_at dksX5_isName_1 4 rfl rfl)
theorem dX5_isName_29 : decode cX5_isName 29 = .ok (.invokevirtual 142, 3) := dk_182 0 142 (dk_at dksX5_isName_1 6 rfl rfl)
theorem dX5_isName_32 : decode cX5_isName 32 = .ok (.ifCond .ne 30, 3) := dk_154 0 30 (dk_at dksX5_isName_1 9 rfl rfl)
theorem dX5_isName_35 : decode cX5_isName 35 = .ok (.aload_n 0, 1) := dk_42 (dk_at dksX5_isName_1 12 rfl rfl)
theorem dX5_isName_36 : decode cX5_isName 36 = .ok (.ldc 171, 2) := dk_18 171 (dk_at dksX5_isName_1 13 rfl rfl)
theorem dX5_isName_38 : decode cX5_isName 38 = .ok (.invokevirtual 142, 3) := dk_182 0 142 (dk_at dksX5_isName_1 15 rfl rfl)
theorem dX5_isName_41 : decode cX5_isName 41 = .ok (.ifCond .ne 21, 3) := dk_154 0 21 (dk_at dksX5_isName_1 18 rfl rfl)
theorem dX5_isName_44 : decode cX5_isName 44 = .ok (.aload_n 0, 1) := dk_42 (dk_at dksX5_isName_1 21 rfl rfl)
theorem dX5_isName_45 : decode cX5_isName 45 = .ok (.ldc 173, 2) := dk_18 173 (dk_at dksX5_isName_1 22 rfl rfl)
theorem dX5_isName_47 : decode cX5_isName 47 = .ok (.invokevirtual 142, 3) := dk_182 0 142 (dk_at dksX5_isName_2 0 rfl rfl)
theorem dX5_isName_50 : decode cX5_isName 50 = .ok (.ifCond .ne 12, 3) := dk_154 0 12 (dk_at dksX5_isName_2 3 rfl rfl)
theorem dX5_isName_53 : decode cX5_isName 53 = .ok (.aload_n 0, 1) := dk_42 (dk_at dksX5_isName_2 6 rfl rfl)
theorem dX5_isName_54 : decode cX5_isName 54 = .ok (.ldc 175, 2) := dk_18 175 (dk_at dksX5_isName_2 7 rfl rfl)
theorem dX5_isName_56 : decode cX5_isName 56 = .ok (.invokevirtual 142, 3) := dk_182 0 142 (dk_at dksX5_isName_2 9 rfl rfl)
theorem dX5_isName_59 : decode cX5_isName 59 = .ok (.ifCond .eq 5, 3) := dk_153 0 5 (dk_at dksX5_isName_2 12 rfl rfl)
theorem dX5_isName_62 : decode cX5_isName 62 = .ok (.iconst 0, 1) := dk_3 (dk_at dksX5_isName_2 15 rfl rfl)
theorem dX5_isName_63 : decode cX5_isName 63 = .ok (.ireturn, 1) := dk_172 (dk_at dksX5_isName_2 16 rfl rfl)
theorem dX5_isName_64 : decode cX5_isName 64 = .ok (.aload_n 0, 1) := dk_42 (dk_at dksX5_isName_2 17 rfl rfl)
theorem dX5_isName_65 : decode cX5_isName 65 = .ok (.ldc 177, 2) := dk_18 177 (dk_at dksX5_isName_2 18 rfl rfl)
theorem dX5_isName_67 : decode cX5_isName 67 = .ok (.invokevirtual 142, 3) := dk_182 0 142 (dk_at dksX5_isName_2 20 rfl rfl)
theorem dX5_isName_70 : decode cX5_isName 70 = .ok (.ifCond .ne 43, 3) := dk_154 0 43 (dk_at dksX5_isName_3 0 rfl rfl)
theorem dX5_isName_73 : decode cX5_isName 73 = .ok (.aload_n 0, 1) := dk_42 (dk_at dksX5_isName_3 3 rfl rfl)
theorem dX5_isName_74 : decode cX5_isName 74 = .ok (.ldc 179, 2) := dk_18 179 (dk_at dksX5_isName_3 4 rfl rfl)
theorem dX5_isName_76 : decode cX5_isName 76 = .ok (.invokevirtual 142, 3) := dk_182 0 142 (dk_at dksX5_isName_3 6 rfl rfl)
theorem dX5_isName_79 : decode cX5_isName 79 = .ok (.ifCond .ne 34, 3) := dk_154 0 34 (dk_at dksX5_isName_3 9 rfl rfl)
theorem dX5_isName_82 : decode cX5_isName 82 = .ok (.aload_n 0, 1) := dk_42 (dk_at dksX5_isName_3 12 rfl rfl)
theorem dX5_isName_83 : decode cX5_isName 83 = .ok (.ldc 181, 2) := dk_18 181 (dk_at dksX5_isName_3 13 rfl rfl)
theorem dX5_isName_85 : decode cX5_isName 85 = .ok (.invokevirtual 142, 3) := dk_182 0 142 (dk_at dksX5_isName_3 15 rfl rfl)
theorem dX5_isName_88 : decode cX5_isName 88 = .ok (.ifCond .ne 25, 3) := dk_154 0 25 (dk_at dksX5_isName_3 18 rfl rfl)
theorem dX5_isName_91 : decode cX5_isName 91 = .ok (.aload_n 0, 1) := dk_42 (dk_at dksX5_isName_3 21 rfl rfl)
theorem dX5_isName_92 : decode cX5_isName 92 = .ok (.ldc 183, 2) := dk_18 183 (dk_at dksX5_isName_3 22 rfl rfl)
theorem dX5_isName_94 : decode cX5_isName 94 = .ok (.invokevirtual 142, 3) := dk_182 0 142 (dk_at dksX5_isName_4 0 rfl rfl)
theorem dX5_isName_97 : decode cX5_isName 97 = .ok (.ifCond .ne 16, 3) := dk_154 0 16 (dk_at dksX5_isName_4 3 rfl rfl)
theorem dX5_isName_100 : decode cX5_isName 100 = .ok (.aload_n 0, 1) := dk_42 (dk_at dksX5_isName_4 6 rfl rfl)
theorem dX5_isName_101 : decode cX5_isName 101 = .ok (.ldc 185, 2) := dk_18 185 (dk_at dksX5_isName_4 7 rfl rfl)
theorem dX5_isName_103 : decode cX5_isName 103 = .ok (.invokevirtual 142, 3) := dk_182 0 142 (dk_at dksX5_isName_4 9 rfl rfl)
theorem dX5_isName_106 : decode cX5_isName 106 = .ok (.ifCond .ne 7, 3) := dk_154 0 7 (dk_at dksX5_isName_4 12 rfl rfl)
theorem dX5_isName_109 : decode cX5_isName 109 = .ok (.iconst 1, 1) := dk_4 (dk_at dksX5_isName_4 15 rfl rfl)
theorem dX5_isName_110 : decode cX5_isName 110 = .ok (.goto 4, 3) := dk_167 0 4 (dk_at dksX5_isName_4 16 rfl rfl)
theorem dX5_isName_113 : decode cX5_isName 113 = .ok (.iconst 0, 1) := dk_3 (dk_at dksX5_isName_4 19 rfl rfl)
theorem dX5_isName_114 : decode cX5_isName 114 = .ok (.ireturn, 1) := dk_172 (dk_at dksX5_isName_4 20 rfl rfl)
abbrev cX5_readFlood : ByteArray := prog_15_method_27_code
def yX5_readFlood : MethodName := ⟨RX5, "readFlood", "()V"⟩
def dkwX5_readFlood_3 : List UInt8 := [180, 0, 191, 180, 1, 23, 28, 79, 42, 180, 0, 191, 89, 180, 1, 23, 4, 96, 181, 1, 23, 177]
abbrev dktX5_readFlood_3 : List UInt8 := dkwX5_readFlood_3 ++ []
def dkwX5_readFlood_2 : List UInt8 := [42, 180, 0, 191, 180, 1, 28, 42, 180, 0, 191, 180, 1, 23, 27, 79, 42, 180, 0, 191, 180, 1, 31, 42]
abbrev dktX5_readFlood_2 : List UInt8 := dkwX5_readFlood_2 ++ dktX5_readFlood_3
def dkwX5_readFlood_1 : List UInt8 := [182, 0, 161, 60, 42, 19, 1, 26, 4, 16, 60, 182, 1, 1, 61, 42, 180, 0, 100, 8, 160, 0, 4, 177]
abbrev dktX5_readFlood_1 : List UInt8 := dkwX5_readFlood_1 ++ dktX5_readFlood_2
def dkwX5_readFlood_0 : List UInt8 := [42, 180, 0, 191, 180, 1, 23, 6, 160, 0, 8, 42, 8, 182, 0, 149, 42, 182, 0, 146, 42, 3, 16, 98]
abbrev dktX5_readFlood_0 : List UInt8 := dkwX5_readFlood_0 ++ dktX5_readFlood_1
theorem dksX5_readFlood_0 : cX5_readFlood.data.toList.drop 0 = dktX5_readFlood_0 := by decide +kernel
theorem dksX5_readFlood_1 : cX5_readFlood.data.toList.drop 24 = dktX5_readFlood_1 := dk_seg dksX5_readFlood_0 24 rfl rfl
theorem dksX5_readFlood_2 : cX5_readFlood.data.toList.drop 48 = dktX5_readFlood_2 := dk_seg dksX5_readFlood_1 24 rfl rfl
theorem dksX5_readFlood_3 : cX5_readFlood.data.toList.drop 72 = dktX5_readFlood_3 := dk_seg dksX5_readFlood_2 24 rfl rfl
theorem dX5_readFlood_0 : decode cX5_readFlood 0 = .ok (.aload_n 0, 1) := dk_42 (dk_at dksX5_readFlood_0 0 rfl rfl)
theorem dX5_readFlood_1 : decode cX5_readFlood 1 = .ok (.getfield 191, 3) := dk_180 0 191 (dk_at dksX5_readFlood_0 1 rfl rfl)
theorem dX5_readFlood_4 : decode cX5_readFlood 4 = .ok (.getfield 279, 3) := dk_180 1 23 (dk_at dksX5_readFlood_0 4 rfl rfl)
theorem dX5_readFlood_7 : decode cX5_readFlood 7 = .ok (.iconst 3, 1) := dk_6 (dk_at dksX5_readFlood_0 7 rfl rfl)
theorem dX5_readFlood_8 : decode cX5_readFlood 8 = .ok (.if_icmp .ne 8, 3) := dk_160 0 8 (dk_at dksX5_readFlood_0 8 rfl rfl)
theorem dX5_readFlood_11 : decode cX5_readFlood 11 = .ok (.aload_n 0, 1) := dk_42 (dk_at dksX5_readFlood_0 11 rfl rfl)
theorem dX5_readFlood_12 : decode cX5_readFlood 12 = .ok (.iconst 5, 1) := dk_8 (dk_at dksX5_readFlood_0 12 rfl rfl)
theorem dX5_readFlood_13 : decode cX5_readFlood 13 = .ok (.invokevirtual 149, 3) := dk_182 0 149 (dk_at dksX5_readFlood_0 13 rfl rfl)
theorem dX5_readFlood_16 : decode cX5_readFlood 16 = .ok (.aload_n 0, 1) := dk_42 (dk_at dksX5_readFlood_0 16 rfl rfl)
theorem dX5_readFlood_17 : decode cX5_readFlood 17 = .ok (.invokevirtual 146, 3) := dk_182 0 146 (dk_at dksX5_readFlood_0 17 rfl rfl)
theorem dX5_readFlood_20 : decode cX5_readFlood 20 = .ok (.aload_n 0, 1) := dk_42 (dk_at dksX5_readFlood_0 20 rfl rfl)
theorem dX5_readFlood_21 : decode cX5_readFlood 21 = .ok (.iconst 0, 1) := dk_3 (dk_at dksX5_readFlood_0 21 rfl rfl)
theorem dX5_readFlood_22 : decode cX5_readFlood 22 = .ok (.bipush 98, 2) := dk_16 98 (dk_at dksX5_readFlood_0 22 rfl rfl)
theorem dX5_readFlood_24 : decode cX5_readFlood 24 = .ok (.invokevirtual 161, 3) := dk_182 0 161 (dk_at dksX5_readFlood_1 0 rfl rfl)
theorem dX5_readFlood_27 : decode cX5_readFlood 27 = .ok (.istore_n 1, 1) := dk_60 (dk_at dksX5_readFlood_1 3 rfl rfl)
theorem dX5_readFlood_28 : decode cX5_readFlood 28 = .ok (.aload_n 0, 1) := dk_42 (dk_at dksX5_readFlood_1 4 rfl rfl)
theorem dX5_readFlood_29 : decode cX5_readFlood 29 = .ok (.ldc_w 282, 3) := dk_19 1 26 (dk_at dksX5_readFlood_1 5 rfl rfl)
theorem dX5_readFlood_32 : decode cX5_readFlood 32 = .ok (.iconst 1, 1) := dk_4 (dk_at dksX5_readFlood_1 8 rfl rfl)
theorem dX5_readFlood_33 : decode cX5_readFlood 33 = .ok (.bipush 60, 2) := dk_16 60 (dk_at dksX5_readFlood_1 9 rfl rfl)
theorem dX5_readFlood_35 : decode cX5_readFlood 35 = .ok (.invokevirtual 257, 3) := dk_182 1 1 (dk_at dksX5_readFlood_1 11 rfl rfl)
theorem dX5_readFlood_38 : decode cX5_readFlood 38 = .ok (.istore_n 2, 1) := dk_61 (dk_at dksX5_readFlood_1 14 rfl rfl)
theorem dX5_readFlood_39 : decode cX5_readFlood 39 = .ok (.aload_n 0, 1) := dk_42 (dk_at dksX5_readFlood_1 15 rfl rfl)
theorem dX5_readFlood_40 : decode cX5_readFlood 40 = .ok (.getfield 100, 3) := dk_180 0 100 (dk_at dksX5_readFlood_1 16 rfl rfl)
theorem dX5_readFlood_43 : decode cX5_readFlood 43 = .ok (.iconst 5, 1) := dk_8 (dk_at dksX5_readFlood_1 19 rfl rfl)
theorem dX5_readFlood_44 : decode cX5_readFlood 44 = .ok (.if_icmp .ne 4, 3) := dk_160 0 4 (dk_at dksX5_readFlood_1 20 rfl rfl)
theorem dX5_readFlood_47 : decode cX5_readFlood 47 = .ok (.return_, 1) := dk_177 (dk_at dksX5_readFlood_1 23 rfl rfl)
theorem dX5_readFlood_48 : decode cX5_readFlood 48 = .ok (.aload_n 0, 1) := dk_42 (dk_at dksX5_readFlood_2 0 rfl rfl)
theorem dX5_readFlood_49 : decode cX5_readFlood 49 = .ok (.getfield 191, 3) := dk_180 0 191 (dk_at dksX5_readFlood_2 1 rfl rfl)
theorem dX5_readFlood_52 : decode cX5_readFlood 52 = .ok (.getfield 284, 3) := dk_180 1 28 (dk_at dksX5_readFlood_2 4 rfl rfl)
theorem dX5_readFlood_55 : decode cX5_readFlood 55 = .ok (.aload_n 0, 1) := dk_42 (dk_at dksX5_readFlood_2 7 rfl rfl)
theorem dX5_readFlood_56 : decode cX5_readFlood 56 = .ok (.getfield 191, 3) := dk_180 0 191 (dk_at dksX5_readFlood_2 8 rfl rfl)
theorem dX5_readFlood_59 : decode cX5_readFlood 59 = .ok (.getfield 279, 3) := dk_180 1 23 (dk_at dksX5_readFlood_2 11 rfl rfl)
theorem dX5_readFlood_62 : decode cX5_readFlood 62 = .ok (.iload_n 1, 1) := dk_27 (dk_at dksX5_readFlood_2 14 rfl rfl)
theorem dX5_readFlood_63 : decode cX5_readFlood 63 = .ok (.iastore, 1) := dk_79 (dk_at dksX5_readFlood_2 15 rfl rfl)
theorem dX5_readFlood_64 : decode cX5_readFlood 64 = .ok (.aload_n 0, 1) := dk_42 (dk_at dksX5_readFlood_2 16 rfl rfl)
theorem dX5_readFlood_65 : decode cX5_readFlood 65 = .ok (.getfield 191, 3) := dk_180 0 191 (dk_at dksX5_readFlood_2 17 rfl rfl)
theorem dX5_readFlood_68 : decode cX5_readFlood 68 = .ok (.getfield 287, 3) := dk_180 1 31 (dk_at dksX5_readFlood_2 20 rfl rfl)
theorem dX5_readFlood_71 : decode cX5_readFlood 71 = .ok (.aload_n 0, 1) := dk_42 (dk_at dksX5_readFlood_2 23 rfl rfl)
theorem dX5_readFlood_72 : decode cX5_readFlood 72 = .ok (.getfield 191, 3) := dk_180 0 191 (dk_at dksX5_readFlood_3 0 rfl rfl)
theorem dX5_readFlood_75 : decode cX5_readFlood 75 = .ok (.getfield 279, 3) := dk_180 1 23 (dk_at dksX5_readFlood_3 3 rfl rfl)
theorem dX5_readFlood_78 : decode cX5_readFlood 78 = .ok (.iload_n 2, 1) := dk_28 (dk_at dksX5_readFlood_3 6 rfl rfl)
theorem dX5_readFlood_79 : decode cX5_readFlood 79 = .ok (.iastore, 1) := dk_79 (dk_at dksX5_readFlood_3 7 rfl rfl)
theorem dX5_readFlood_80 : decode cX5_readFlood 80 = .ok (.aload_n 0, 1) := dk_42 (dk_at dksX5_readFlood_3 8 rfl rfl)
theorem dX5_readFlood_81 : decode cX5_readFlood 81 = .ok (.getfield 191, 3) := dk_180 0 191 (dk_at dksX5_readFlood_3 9 rfl rfl)
theorem dX5_readFlood_84 : decode cX5_readFlood 84 = .ok (.dup, 1) := dk_89 (dk_at dksX5_readFlood_3 12 rfl rfl)
theorem dX5_readFlood_85 : decode cX5_readFlood 85 = .ok (.getfield 279, 3) := dk_180 1 23 (dk_at dksX5_readFlood_3 13 rfl rfl)
theorem dX5_readFlood_88 : decode cX5_readFlood 88 = .ok (.iconst 1, 1) := dk_4 (dk_at dksX5_readFlood_3 16 rfl rfl)
theorem dX5_readFlood_89 : decode cX5_readFlood 89 = .ok (.iadd, 1) := dk_96 (dk_at dksX5_readFlood_3 17 rfl rfl)
theorem dX5_readFlood_90 : decode cX5_readFlood 90 = .ok (.putfield 279, 3) := dk_181 1 23 (dk_at dksX5_readFlood_3 18 rfl rfl)
theorem dX5_readFlood_93 : decode cX5_readFlood 93 = .ok (.return_, 1) := dk_177 (dk_at dksX5_readFlood_3 21 rfl rfl)
abbrev cX5_readDish : ByteArray := prog_15_method_28_code
def yX5_readDish : MethodName := ⟨RX5, "readDish", "()V"⟩
def dkwX5_readDish_3 : List UInt8 := [180, 0, 191, 180, 1, 34, 28, 79, 42, 180, 0, 191, 89, 180, 1, 34, 4, 96, 181, 1, 34, 177]
abbrev dktX5_readDish_3 : List UInt8 := dkwX5_readDish_3 ++ []
def dkwX5_readDish_2 : List UInt8 := [42, 180, 0, 191, 180, 1, 44, 42, 180, 0, 191, 180, 1, 34, 27, 79, 42, 180, 0, 191, 180, 1, 47, 42]
abbrev dktX5_readDish_2 : List UInt8 := dkwX5_readDish_2 ++ dktX5_readDish_3
def dkwX5_readDish_1 : List UInt8 := [182, 1, 39, 60, 42, 19, 1, 42, 4, 16, 99, 182, 1, 1, 61, 42, 180, 0, 100, 8, 160, 0, 4, 177]
abbrev dktX5_readDish_1 : List UInt8 := dkwX5_readDish_1 ++ dktX5_readDish_2
def dkwX5_readDish_0 : List UInt8 := [42, 42, 180, 0, 191, 180, 1, 34, 16, 6, 4, 182, 1, 12, 42, 19, 1, 37, 182, 0, 157, 42]
abbrev dktX5_readDish_0 : List UInt8 := dkwX5_readDish_0 ++ dktX5_readDish_1
theorem dksX5_readDish_0 : cX5_readDish.data.toList.drop 0 = dktX5_readDish_0 := by decide +kernel
theorem dksX5_readDish_1 : cX5_readDish.data.toList.drop 22 = dktX5_readDish_1 := dk_seg dksX5_readDish_0 22 rfl rfl
theorem dksX5_readDish_2 : cX5_readDish.data.toList.drop 46 = dktX5_readDish_2 := dk_seg dksX5_readDish_1 24 rfl rfl
theorem dksX5_readDish_3 : cX5_readDish.data.toList.drop 70 = dktX5_readDish_3 := dk_seg dksX5_readDish_2 24 rfl rfl
theorem dX5_readDish_0 : decode cX5_readDish 0 = .ok (.aload_n 0, 1) := dk_42 (dk_at dksX5_readDish_0 0 rfl rfl)
theorem dX5_readDish_1 : decode cX5_readDish 1 = .ok (.aload_n 0, 1) := dk_42 (dk_at dksX5_readDish_0 1 rfl rfl)
theorem dX5_readDish_2 : decode cX5_readDish 2 = .ok (.getfield 191, 3) := dk_180 0 191 (dk_at dksX5_readDish_0 2 rfl rfl)
theorem dX5_readDish_5 : decode cX5_readDish 5 = .ok (.getfield 290, 3) := dk_180 1 34 (dk_at dksX5_readDish_0 5 rfl rfl)
theorem dX5_readDish_8 : decode cX5_readDish 8 = .ok (.bipush 6, 2) := dk_16 6 (dk_at dksX5_readDish_0 8 rfl rfl)
theorem dX5_readDish_10 : decode cX5_readDish 10 = .ok (.iconst 1, 1) := dk_4 (dk_at dksX5_readDish_0 10 rfl rfl)
theorem dX5_readDish_11 : decode cX5_readDish 11 = .ok (.invokevirtual 268, 3) := dk_182 1 12 (dk_at dksX5_readDish_0 11 rfl rfl)
theorem dX5_readDish_14 : decode cX5_readDish 14 = .ok (.aload_n 0, 1) := dk_42 (dk_at dksX5_readDish_0 14 rfl rfl)
theorem dX5_readDish_15 : decode cX5_readDish 15 = .ok (.ldc_w 293, 3) := dk_19 1 37 (dk_at dksX5_readDish_0 15 rfl rfl)
theorem dX5_readDish_18 : decode cX5_readDish 18 = .ok (.invokevirtual 157, 3) := dk_182 0 157 (dk_at dksX5_readDish_0 18 rfl rfl)
theorem dX5_readDish_21 : decode cX5_readDish 21 = .ok (.aload_n 0, 1) := dk_42 (dk_at dksX5_readDish_0 21 rfl rfl)
theorem dX5_readDish_22 : decode cX5_readDish 22 = .ok (.invokevirtual 295, 3) := dk_182 1 39 (dk_at dksX5_readDish_1 0 rfl rfl)
theorem dX5_readDish_25 : decode cX5_readDish 25 = .ok (.istore_n 1, 1) := dk_60 (dk_at dksX5_readDish_1 3 rfl rfl)
theorem dX5_readDish_26 : decode cX5_readDish 26 = .ok (.aload_n 0, 1) := dk_42 (dk_at dksX5_readDish_1 4 rfl rfl)
theorem dX5_readDish_27 : decode cX5_readDish 27 = .ok (.ldc_w 298, 3) := dk_19 1 42 (dk_at dksX5_readDish_1 5 rfl rfl)
theorem dX5_readDish_30 : decode cX5_readDish 30 = .ok (.iconst 1, 1) := dk_4 (dk_at dksX5_readDish_1 8 rfl rfl)
theorem dX5_readDish_31 : decode cX5_readDish 31 = .ok (.bipush 99, 2) := dk_16 99 (dk_at dksX5_readDish_1 9 rfl rfl)
theorem dX5_readDish_33 : decode cX5_readDish 33 = .ok (.invokevirtual 257, 3) := dk_182 1 1 (dk_at dksX5_readDish_1 11 rfl rfl)
theorem dX5_readDish_36 : decode cX5_readDish 36 = .ok (.istore_n 2, 1) := dk_61 (dk_at dksX5_readDish_1 14 rfl rfl)
theorem dX5_readDish_37 : decode cX5_readDish 37 = .ok (.aload_n 0, 1) := dk_42 (dk_at dksX5_readDish_1 15 rfl rfl)
theorem dX5_readDish_38 : decode cX5_readDish 38 = .ok (.getfield 100, 3) := dk_180 0 100 (dk_at dksX5_readDish_1 16 rfl rfl)
theorem dX5_readDish_41 : decode cX5_readDish 41 = .ok (.iconst 5, 1) := dk_8 (dk_at dksX5_readDish_1 19 rfl rfl)
theorem dX5_readDish_42 : decode cX5_readDish 42 = .ok (.if_icmp .ne 4, 3) := dk_160 0 4 (dk_at dksX5_readDish_1 20 rfl rfl)
theorem dX5_readDish_45 : decode cX5_readDish 45 = .ok (.return_, 1) := dk_177 (dk_at dksX5_readDish_1 23 rfl rfl)
theorem dX5_readDish_46 : decode cX5_readDish 46 = .ok (.aload_n 0, 1) := dk_42 (dk_at dksX5_readDish_2 0 rfl rfl)
theorem dX5_readDish_47 : decode cX5_readDish 47 = .ok (.getfield 191, 3) := dk_180 0 191 (dk_at dksX5_readDish_2 1 rfl rfl)
theorem dX5_readDish_50 : decode cX5_readDish 50 = .ok (.getfield 300, 3) := dk_180 1 44 (dk_at dksX5_readDish_2 4 rfl rfl)
theorem dX5_readDish_53 : decode cX5_readDish 53 = .ok (.aload_n 0, 1) := dk_42 (dk_at dksX5_readDish_2 7 rfl rfl)
theorem dX5_readDish_54 : decode cX5_readDish 54 = .ok (.getfield 191, 3) := dk_180 0 191 (dk_at dksX5_readDish_2 8 rfl rfl)
theorem dX5_readDish_57 : decode cX5_readDish 57 = .ok (.getfield 290, 3) := dk_180 1 34 (dk_at dksX5_readDish_2 11 rfl rfl)
theorem dX5_readDish_60 : decode cX5_readDish 60 = .ok (.iload_n 1, 1) := dk_27 (dk_at dksX5_readDish_2 14 rfl rfl)
theorem dX5_readDish_61 : decode cX5_readDish 61 = .ok (.iastore, 1) := dk_79 (dk_at dksX5_readDish_2 15 rfl rfl)
theorem dX5_readDish_62 : decode cX5_readDish 62 = .ok (.aload_n 0, 1) := dk_42 (dk_at dksX5_readDish_2 16 rfl rfl)
theorem dX5_readDish_63 : decode cX5_readDish 63 = .ok (.getfield 191, 3) := dk_180 0 191 (dk_at dksX5_readDish_2 17 rfl rfl)
theorem dX5_readDish_66 : decode cX5_readDish 66 = .ok (.getfield 303, 3) := dk_180 1 47 (dk_at dksX5_readDish_2 20 rfl rfl)
theorem dX5_readDish_69 : decode cX5_readDish 69 = .ok (.aload_n 0, 1) := dk_42 (dk_at dksX5_readDish_2 23 rfl rfl)
theorem dX5_readDish_70 : decode cX5_readDish 70 = .ok (.getfield 191, 3) := dk_180 0 191 (dk_at dksX5_readDish_3 0 rfl rfl)
theorem dX5_readDish_73 : decode cX5_readDish 73 = .ok (.getfield 290, 3) := dk_180 1 34 (dk_at dksX5_readDish_3 3 rfl rfl)
theorem dX5_readDish_76 : decode cX5_readDish 76 = .ok (.iload_n 2, 1) := dk_28 (dk_at dksX5_readDish_3 6 rfl rfl)
theorem dX5_readDish_77 : decode cX5_readDish 77 = .ok (.iastore, 1) := dk_79 (dk_at dksX5_readDish_3 7 rfl rfl)
theorem dX5_readDish_78 : decode cX5_readDish 78 = .ok (.aload_n 0, 1) := dk_42 (dk_at dksX5_readDish_3 8 rfl rfl)
theorem dX5_readDish_79 : decode cX5_readDish 79 = .ok (.getfield 191, 3) := dk_180 0 191 (dk_at dksX5_readDish_3 9 rfl rfl)
theorem dX5_readDish_82 : decode cX5_readDish 82 = .ok (.dup, 1) := dk_89 (dk_at dksX5_readDish_3 12 rfl rfl)
theorem dX5_readDish_83 : decode cX5_readDish 83 = .ok (.getfield 290, 3) := dk_180 1 34 (dk_at dksX5_readDish_3 13 rfl rfl)
theorem dX5_readDish_86 : decode cX5_readDish 86 = .ok (.iconst 1, 1) := dk_4 (dk_at dksX5_readDish_3 16 rfl rfl)
theorem dX5_readDish_87 : decode cX5_readDish 87 = .ok (.iadd, 1) := dk_96 (dk_at dksX5_readDish_3 17 rfl rfl)
theorem dX5_readDish_88 : decode cX5_readDish 88 = .ok (.putfield 290, 3) := dk_181 1 34 (dk_at dksX5_readDish_3 18 rfl rfl)
theorem dX5_readDish_91 : decode cX5_readDish 91 = .ok (.return_, 1) := dk_177 (dk_at dksX5_readDish_3 21 rfl rfl)
abbrev cX5_readLetters : ByteArray := prog_15_method_19_code
def yX5_readLetters : MethodName := ⟨RX5, "readLetters", "()I"⟩
def dkwX5_readLetters_0 : List UInt8 := [42, 180, 0, 100, 5, 159, 0, 8, 42, 4, 182, 0, 149, 42, 180, 0, 123, 60, 42, 182, 0, 146, 27, 172]
abbrev dktX5_readLetters_0 : List UInt8 := dkwX5_readLetters_0 ++ []
theorem dksX5_readLetters_0 : cX5_readLetters.data.toList.drop 0 = dktX5_readLetters_0 := by decide +kernel
theorem dX5_readLetters_0 : decode cX5_readLetters 0 = .ok (.aload_n 0, 1) := dk_42 (dk_at dksX5_readLetters_0 0 rfl rfl)
theorem dX5_readLetters_1 : decode cX5_readLetters 1 = .ok (.getfield 100, 3) := dk_180 0 100 (dk_at dksX5_readLetters_0 1 rfl rfl)
theorem dX5_readLetters_4 : decode cX5_readLetters 4 = .ok (.iconst 2, 1) := dk_5 (dk_at dksX5_readLetters_0 4 rfl rfl)
theorem dX5_readLetters_5 : decode cX5_readLetters 5 = .ok (.if_icmp .eq 8, 3) := dk_159 0 8 (dk_at dksX5_readLetters_0 5 rfl rfl)
theorem dX5_readLetters_8 : decode cX5_readLetters 8 = .ok (.aload_n 0, 1) := dk_42 (dk_at dksX5_readLetters_0 8 rfl rfl)
theorem dX5_readLetters_9 : decode cX5_readLetters 9 = .ok (.iconst 1, 1) := dk_4 (dk_at dksX5_readLetters_0 9 rfl rfl)
theorem dX5_readLetters_10 : decode cX5_readLetters 10 = .ok (.invokevirtual 149, 3) := dk_182 0 149 (dk_at dksX5_readLetters_0 10 rfl rfl)
theorem dX5_readLetters_13 : decode cX5_readLetters 13 = .ok (.aload_n 0, 1) := dk_42 (dk_at dksX5_readLetters_0 13 rfl rfl)
theorem dX5_readLetters_14 : decode cX5_readLetters 14 = .ok (.getfield 123, 3) := dk_180 0 123 (dk_at dksX5_readLetters_0 14 rfl rfl)
theorem dX5_readLetters_17 : decode cX5_readLetters 17 = .ok (.istore_n 1, 1) := dk_60 (dk_at dksX5_readLetters_0 17 rfl rfl)
theorem dX5_readLetters_18 : decode cX5_readLetters 18 = .ok (.aload_n 0, 1) := dk_42 (dk_at dksX5_readLetters_0 18 rfl rfl)
theorem dX5_readLetters_19 : decode cX5_readLetters 19 = .ok (.invokevirtual 146, 3) := dk_182 0 146 (dk_at dksX5_readLetters_0 19 rfl rfl)
theorem dX5_readLetters_22 : decode cX5_readLetters 22 = .ok (.iload_n 1, 1) := dk_27 (dk_at dksX5_readLetters_0 22 rfl rfl)
theorem dX5_readLetters_23 : decode cX5_readLetters 23 = .ok (.ireturn, 1) := dk_172 (dk_at dksX5_readLetters_0 23 rfl rfl)
abbrev cX5_readDiet : ByteArray := prog_15_method_29_code
def yX5_readDiet : MethodName := ⟨RX5, "readDiet", "()V"⟩
def dkwX5_readDiet_2 : List UInt8 := [27, 79, 42, 180, 0, 191, 89, 180, 1, 50, 4, 96, 181, 1, 50, 177]
abbrev dktX5_readDiet_2 : List UInt8 := dkwX5_readDiet_2 ++ []
def dkwX5_readDiet_1 : List UInt8 := [60, 42, 180, 0, 100, 8, 160, 0, 4, 177, 42, 180, 0, 191, 180, 1, 55, 42, 180, 0, 191, 180, 1, 50]
abbrev dktX5_readDiet_1 : List UInt8 := dkwX5_readDiet_1 ++ dktX5_readDiet_2
def dkwX5_readDiet_0 : List UInt8 := [42, 42, 180, 0, 191, 180, 1, 50, 7, 5, 182, 1, 12, 42, 19, 1, 53, 182, 0, 157, 42, 182, 1, 39]
abbrev dktX5_readDiet_0 : List UInt8 := dkwX5_readDiet_0 ++ dktX5_readDiet_1
theorem dksX5_readDiet_0 : cX5_readDiet.data.toList.drop 0 = dktX5_readDiet_0 := by decide +kernel
theorem dksX5_readDiet_1 : cX5_readDiet.data.toList.drop 24 = dktX5_readDiet_1 := dk_seg dksX5_readDiet_0 24 rfl rfl
theorem dksX5_readDiet_2 : cX5_readDiet.data.toList.drop 48 = dktX5_readDiet_2 := dk_seg dksX5_readDiet_1 24 rfl rfl
theorem dX5_readDiet_0 : decode cX5_readDiet 0 = .ok (.aload_n 0, 1) := dk_42 (dk_at dksX5_readDiet_0 0 rfl rfl)
theorem dX5_readDiet_1 : decode cX5_readDiet 1 = .ok (.aload_n 0, 1) := dk_42 (dk_at dksX5_readDiet_0 1 rfl rfl)
theorem dX5_readDiet_2 : decode cX5_readDiet 2 = .ok (.getfield 191, 3) := dk_180 0 191 (dk_at dksX5_readDiet_0 2 rfl rfl)
theorem dX5_readDiet_5 : decode cX5_readDiet 5 = .ok (.getfield 306, 3) := dk_180 1 50 (dk_at dksX5_readDiet_0 5 rfl rfl)
theorem dX5_readDiet_8 : decode cX5_readDiet 8 = .ok (.iconst 4, 1) := dk_7 (dk_at dksX5_readDiet_0 8 rfl rfl)
theorem dX5_readDiet_9 : decode cX5_readDiet 9 = .ok (.iconst 2, 1) := dk_5 (dk_at dksX5_readDiet_0 9 rfl rfl)
theorem dX5_readDiet_10 : decode cX5_readDiet 10 = .ok (.invokevirtual 268, 3) := dk_182 1 12 (dk_at dksX5_readDiet_0 10 rfl rfl)
theorem dX5_readDiet_13 : decode cX5_readDiet 13 = .ok (.aload_n 0, 1) := dk_42 (dk_at dksX5_readDiet_0 13 rfl rfl)
theorem dX5_readDiet_14 : decode cX5_readDiet 14 = .ok (.ldc_w 309, 3) := dk_19 1 53 (dk_at dksX5_readDiet_0 14 rfl rfl)
theorem dX5_readDiet_17 : decode cX5_readDiet 17 = .ok (.invokevirtual 157, 3) := dk_182 0 157 (dk_at dksX5_readDiet_0 17 rfl rfl)
theorem dX5_readDiet_20 : decode cX5_readDiet 20 = .ok (.aload_n 0, 1) := dk_42 (dk_at dksX5_readDiet_0 20 rfl rfl)
theorem dX5_readDiet_21 : decode cX5_readDiet 21 = .ok (.invokevirtual 295, 3) := dk_182 1 39 (dk_at dksX5_readDiet_0 21 rfl rfl)
theorem dX5_readDiet_24 : decode cX5_readDiet 24 = .ok (.istore_n 1, 1) := dk_60 (dk_at dksX5_readDiet_1 0 rfl rfl)
theorem dX5_readDiet_25 : decode cX5_readDiet 25 = .ok (.aload_n 0, 1) := dk_42 (dk_at dksX5_readDiet_1 1 rfl rfl)
theorem dX5_readDiet_26 : decode cX5_readDiet 26 = .ok (.getfield 100, 3) := dk_180 0 100 (dk_at dksX5_readDiet_1 2 rfl rfl)
theorem dX5_readDiet_29 : decode cX5_readDiet 29 = .ok (.iconst 5, 1) := dk_8 (dk_at dksX5_readDiet_1 5 rfl rfl)
theorem dX5_readDiet_30 : decode cX5_readDiet 30 = .ok (.if_icmp .ne 4, 3) := dk_160 0 4 (dk_at dksX5_readDiet_1 6 rfl rfl)
theorem dX5_readDiet_33 : decode cX5_readDiet 33 = .ok (.return_, 1) := dk_177 (dk_at dksX5_readDiet_1 9 rfl rfl)
theorem dX5_readDiet_34 : decode cX5_readDiet 34 = .ok (.aload_n 0, 1) := dk_42 (dk_at dksX5_readDiet_1 10 rfl rfl)
theorem dX5_readDiet_35 : decode cX5_readDiet 35 = .ok (.getfield 191, 3) := dk_180 0 191 (dk_at dksX5_readDiet_1 11 rfl rfl)
theorem dX5_readDiet_38 : decode cX5_readDiet 38 = .ok (.getfield 311, 3) := dk_180 1 55 (dk_at dksX5_readDiet_1 14 rfl rfl)
theorem dX5_readDiet_41 : decode cX5_readDiet 41 = .ok (.aload_n 0, 1) := dk_42 (dk_at dksX5_readDiet_1 17 rfl rfl)
theorem dX5_readDiet_42 : decode cX5_readDiet 42 = .ok (.getfield 191, 3) := dk_180 0 191 (dk_at dksX5_readDiet_1 18 rfl rfl)
theorem dX5_readDiet_45 : decode cX5_readDiet 45 = .ok (.getfield 306, 3) := dk_180 1 50 (dk_at dksX5_readDiet_1 21 rfl rfl)
theorem dX5_readDiet_48 : decode cX5_readDiet 48 = .ok (.iload_n 1, 1) := dk_27 (dk_at dksX5_readDiet_2 0 rfl rfl)
theorem dX5_readDiet_49 : decode cX5_readDiet 49 = .ok (.iastore, 1) := dk_79 (dk_at dksX5_readDiet_2 1 rfl rfl)
theorem dX5_readDiet_50 : decode cX5_readDiet 50 = .ok (.aload_n 0, 1) := dk_42 (dk_at dksX5_readDiet_2 2 rfl rfl)
theorem dX5_readDiet_51 : decode cX5_readDiet 51 = .ok (.getfield 191, 3) := dk_180 0 191 (dk_at dksX5_readDiet_2 3 rfl rfl)
theorem dX5_readDiet_54 : decode cX5_readDiet 54 = .ok (.dup, 1) := dk_89 (dk_at dksX5_readDiet_2 6 rfl rfl)
theorem dX5_readDiet_55 : decode cX5_readDiet 55 = .ok (.getfield 306, 3) := dk_180 1 50 (dk_at dksX5_readDiet_2 7 rfl rfl)
theorem dX5_readDiet_58 : decode cX5_readDiet 58 = .ok (.iconst 1, 1) := dk_4 (dk_at dksX5_readDiet_2 10 rfl rfl)
theorem dX5_readDiet_59 : decode cX5_readDiet 59 = .ok (.iadd, 1) := dk_96 (dk_at dksX5_readDiet_2 11 rfl rfl)
theorem dX5_readDiet_60 : decode cX5_readDiet 60 = .ok (.putfield 306, 3) := dk_181 1 50 (dk_at dksX5_readDiet_2 12 rfl rfl)
theorem dX5_readDiet_63 : decode cX5_readDiet 63 = .ok (.return_, 1) := dk_177 (dk_at dksX5_readDiet_2 15 rfl rfl)
abbrev cX5_readHouse : ByteArray := prog_15_method_30_code
def yX5_readHouse : MethodName := ⟨RX5, "readHouse", "()V"⟩
def dkwX5_readHouse_8 : List UInt8 := [21, 7, 84, 42, 180, 0, 191, 89, 180, 0, 223, 4, 96, 181, 0, 223, 177]
abbrev dktX5_readHouse_8 : List UInt8 := dkwX5_readHouse_8 ++ []
def dkwX5_readHouse_7 : List UInt8 := [21, 5, 79, 42, 180, 0, 191, 180, 1, 84, 21, 8, 21, 6, 79, 42, 180, 0, 191, 180, 1, 86, 21, 8]
abbrev dktX5_readHouse_7 : List UInt8 := dkwX5_readHouse_7 ++ dktX5_readHouse_8
def dkwX5_readHouse_6 : List UInt8 := [29, 79, 42, 180, 0, 191, 180, 1, 80, 21, 8, 21, 4, 79, 42, 180, 0, 191, 180, 1, 82, 21, 8]
abbrev dktX5_readHouse_6 : List UInt8 := dkwX5_readHouse_6 ++ dktX5_readHouse_7
def dkwX5_readHouse_5 : List UInt8 := [21, 8, 27, 79, 42, 180, 0, 191, 180, 1, 76, 21, 8, 28, 79, 42, 180, 0, 191, 180, 1, 78, 21, 8]
abbrev dktX5_readHouse_5 : List UInt8 := dkwX5_readHouse_5 ++ dktX5_readHouse_6
def dkwX5_readHouse_4 : List UInt8 := [180, 0, 100, 8, 160, 0, 4, 177, 42, 180, 0, 191, 180, 0, 223, 54, 8, 42, 180, 0, 191, 180, 1, 73]
abbrev dktX5_readHouse_4 : List UInt8 := dkwX5_readHouse_4 ++ dktX5_readHouse_5
def dkwX5_readHouse_3 : List UInt8 := [54, 5, 42, 19, 1, 68, 4, 16, 9, 182, 1, 1, 54, 6, 42, 18, 183, 182, 1, 70, 54, 7, 42]
abbrev dktX5_readHouse_3 : List UInt8 := dkwX5_readHouse_3 ++ dktX5_readHouse_4
def dkwX5_readHouse_2 : List UInt8 := [62, 42, 19, 1, 64, 3, 16, 60, 182, 1, 1, 54, 4, 42, 19, 1, 66, 3, 16, 100, 182, 1, 1]
abbrev dktX5_readHouse_2 : List UInt8 := dkwX5_readHouse_2 ++ dktX5_readHouse_3
def dkwX5_readHouse_1 : List UInt8 := [60, 42, 19, 1, 57, 182, 0, 157, 42, 5, 182, 1, 59, 61, 42, 19, 1, 62, 3, 16, 30, 182, 1, 1]
abbrev dktX5_readHouse_1 : List UInt8 := dkwX5_readHouse_1 ++ dktX5_readHouse_2
def dkwX5_readHouse_0 : List UInt8 := [42, 42, 180, 0, 191, 180, 0, 223, 16, 6, 6, 182, 1, 12, 42, 19, 1, 16, 3, 16, 99, 182, 1, 1]
abbrev dktX5_readHouse_0 : List UInt8 := dkwX5_readHouse_0 ++ dktX5_readHouse_1
theorem dksX5_readHouse_0 : cX5_readHouse.data.toList.drop 0 = dktX5_readHouse_0 := by decide +kernel
theorem dksX5_readHouse_1 : cX5_readHouse.data.toList.drop 24 = dktX5_readHouse_1 := dk_seg dksX5_readHouse_0 24 rfl rfl
theorem dksX5_readHouse_2 : cX5_readHouse.data.toList.drop 48 = dktX5_readHouse_2 := dk_seg dksX5_readHouse_1 24 rfl rfl
theorem dksX5_readHouse_3 : cX5_readHouse.data.toList.drop 71 = dktX5_readHouse_3 := dk_seg dksX5_readHouse_2 23 rfl rfl
theorem dksX5_readHouse_4 : cX5_readHouse.data.toList.drop 94 = dktX5_readHouse_4 := dk_seg dksX5_readHouse_3 23 rfl rfl
theorem dksX5_readHouse_5 : cX5_readHouse.data.toList.drop 118 = dktX5_readHouse_5 := dk_seg dksX5_readHouse_4 24 rfl rfl
theorem dksX5_readHouse_6 : cX5_readHouse.data.toList.drop 142 = dktX5_readHouse_6 := dk_seg dksX5_readHouse_5 24 rfl rfl
theorem dksX5_readHouse_7 : cX5_readHouse.data.toList.drop 165 = dktX5_readHouse_7 := dk_seg dksX5_readHouse_6 23 rfl rfl
theorem dksX5_readHouse_8 : cX5_readHouse.data.toList.drop 189 = dktX5_readHouse_8 := dk_seg dksX5_readHouse_7 24 rfl rfl
theorem dX5_readHouse_0 : decode cX5_readHouse 0 = .ok (.aload_n 0, 1) := dk_42 (dk_at dksX5_readHouse_0 0 rfl rfl)
theorem dX5_readHouse_1 : decode cX5_readHouse 1 = .ok (.aload_n 0, 1) := dk_42 (dk_at dksX5_readHouse_0 1 rfl rfl)
theorem dX5_readHouse_2 : decode cX5_readHouse 2 = .ok (.getfield 191, 3) := dk_180 0 191 (dk_at dksX5_readHouse_0 2 rfl rfl)
theorem dX5_readHouse_5 : decode cX5_readHouse 5 = .ok (.getfield 223, 3) := dk_180 0 223 (dk_at dksX5_readHouse_0 5 rfl rfl)
theorem dX5_readHouse_8 : decode cX5_readHouse 8 = .ok (.bipush 6, 2) := dk_16 6 (dk_at dksX5_readHouse_0 8 rfl rfl)
theorem dX5_readHouse_10 : decode cX5_readHouse 10 = .ok (.iconst 3, 1) := dk_6 (dk_at dksX5_readHouse_0 10 rfl rfl)
theorem dX5_readHouse_11 : decode cX5_readHouse 11 = .ok (.invokevirtual 268, 3) := dk_182 1 12 (dk_at dksX5_readHouse_0 11 rfl rfl)
theorem dX5_readHouse_14 : decode cX5_readHouse 14 = .ok (.aload_n 0, 1) := dk_42 (dk_at dksX5_readHouse_0 14 rfl rfl)
theorem dX5_readHouse_15 : decode cX5_readHouse 15 = .ok (.ldc_w 272, 3) := dk_19 1 16 (dk_at dksX5_readHouse_0 15 rfl rfl)
theorem dX5_readHouse_18 : decode cX5_readHouse 18 = .ok (.iconst 0, 1) := dk_3 (dk_at dksX5_readHouse_0 18 rfl rfl)
theorem dX5_readHouse_19 : decode cX5_readHouse 19 = .ok (.bipush 99, 2) := dk_16 99 (dk_at dksX5_readHouse_0 19 rfl rfl)
theorem dX5_readHouse_21 : decode cX5_readHouse 21 = .ok (.invokevirtual 257, 3) := dk_182 1 1 (dk_at dksX5_readHouse_0 21 rfl rfl)
theorem dX5_readHouse_24 : decode cX5_readHouse 24 = .ok (.istore_n 1, 1) := dk_60 (dk_at dksX5_readHouse_1 0 rfl rfl)
theorem dX5_readHouse_25 : decode cX5_readHouse 25 = .ok (.aload_n 0, 1) := dk_42 (dk_at dksX5_readHouse_1 1 rfl rfl)
theorem dX5_readHouse_26 : decode cX5_readHouse 26 = .ok (.ldc_w 313, 3) := dk_19 1 57 (dk_at dksX5_readHouse_1 2 rfl rfl)
theorem dX5_readHouse_29 : decode cX5_readHouse 29 = .ok (.invokevirtual 157, 3) := dk_182 0 157 (dk_at dksX5_readHouse_1 5 rfl rfl)
theorem dX5_readHouse_32 : decode cX5_readHouse 32 = .ok (.aload_n 0, 1) := dk_42 (dk_at dksX5_readHouse_1 8 rfl rfl)
theorem dX5_readHouse_33 : decode cX5_readHouse 33 = .ok (.iconst 2, 1) := dk_5 (dk_at dksX5_readHouse_1 9 rfl rfl)
theorem dX5_readHouse_34 : decode cX5_readHouse 34 = .ok (.invokevirtual 315, 3) := dk_182 1 59 (dk_at dksX5_readHouse_1 10 rfl rfl)
theorem dX5_readHouse_37 : decode cX5_readHouse 37 = .ok (.istore_n 2, 1) := dk_61 (dk_at dksX5_readHouse_1 13 rfl rfl)
theorem dX5_readHouse_38 : decode cX5_readHouse 38 = .ok (.aload_n 0, 1) := dk_42 (dk_at dksX5_readHouse_1 14 rfl rfl)
theorem dX5_readHouse_39 : decode cX5_readHouse 39 = .ok (.ldc_w 318, 3) := dk_19 1 62 (dk_at dksX5_readHouse_1 15 rfl rfl)
theorem dX5_readHouse_42 : decode cX5_readHouse 42 = .ok (.iconst 0, 1) := dk_3 (dk_at dksX5_readHouse_1 18 rfl rfl)
theorem dX5_readHouse_43 : decode cX5_readHouse 43 = .ok (.bipush 30, 2) := dk_16 30 (dk_at dksX5_readHouse_1 19 rfl rfl)
theorem dX5_readHouse_45 : decode cX5_readHouse 45 = .ok (.invokevirtual 257, 3) := dk_182 1 1 (dk_at dksX5_readHouse_1 21 rfl rfl)
theorem dX5_readHouse_48 : decode cX5_readHouse 48 = .ok (.istore_n 3, 1) := dk_62 (dk_at dksX5_readHouse_2 0 rfl rfl)
theorem dX5_readHouse_49 : decode cX5_readHouse 49 = .ok (.aload_n 0, 1) := dk_42 (dk_at dksX5_readHouse_2 1 rfl rfl)
theorem dX5_readHouse_50 : decode cX5_readHouse 50 = .ok (.ldc_w 320, 3) := dk_19 1 64 (dk_at dksX5_readHouse_2 2 rfl rfl)
theorem dX5_readHouse_53 : decode cX5_readHouse 53 = .ok (.iconst 0, 1) := dk_3 (dk_at dksX5_readHouse_2 5 rfl rfl)
theorem dX5_readHouse_54 : decode cX5_readHouse 54 = .ok (.bipush 60, 2) := dk_16 60 (dk_at dksX5_readHouse_2 6 rfl rfl)
theorem dX5_readHouse_56 : decode cX5_readHouse 56 = .ok (.invokevirtual 257, 3) := dk_182 1 1 (dk_at dksX5_readHouse_2 8 rfl rfl)
theorem dX5_readHouse_59 : decode cX5_readHouse 59 = .ok (.istore 4, 2) := dk_54 4 (dk_at dksX5_readHouse_2 11 rfl rfl)
theorem dX5_readHouse_61 : decode cX5_readHouse 61 = .ok (.aload_n 0, 1) := dk_42 (dk_at dksX5_readHouse_2 13 rfl rfl)
theorem dX5_readHouse_62 : decode cX5_readHouse 62 = .ok (.ldc_w 322, 3) := dk_19 1 66 (dk_at dksX5_readHouse_2 14 rfl rfl)
theorem dX5_readHouse_65 : decode cX5_readHouse 65 = .ok (.iconst 0, 1) := dk_3 (dk_at dksX5_readHouse_2 17 rfl rfl)
theorem dX5_readHouse_66 : decode cX5_readHouse 66 = .ok (.bipush 100, 2) := dk_16 100 (dk_at dksX5_readHouse_2 18 rfl rfl)
theorem dX5_readHouse_68 : decode cX5_readHouse 68 = .ok (.invokevirtual 257, 3) := dk_182 1 1 (dk_at dksX5_readHouse_2 20 rfl rfl)
theorem dX5_readHouse_71 : decode cX5_readHouse 71 = .ok (.istore 5, 2) := dk_54 5 (dk_at dksX5_readHouse_3 0 rfl rfl)
theorem dX5_readHouse_73 : decode cX5_readHouse 73 = .ok (.aload_n 0, 1) := dk_42 (dk_at dksX5_readHouse_3 2 rfl rfl)
theorem dX5_readHouse_74 : decode cX5_readHouse 74 = .ok (.ldc_w 324, 3) := dk_19 1 68 (dk_at dksX5_readHouse_3 3 rfl rfl)
theorem dX5_readHouse_77 : decode cX5_readHouse 77 = .ok (.iconst 1, 1) := dk_4 (dk_at dksX5_readHouse_3 6 rfl rfl)
theorem dX5_readHouse_78 : decode cX5_readHouse 78 = .ok (.bipush 9, 2) := dk_16 9 (dk_at dksX5_readHouse_3 7 rfl rfl)
theorem dX5_readHouse_80 : decode cX5_readHouse 80 = .ok (.invokevirtual 257, 3) := dk_182 1 1 (dk_at dksX5_readHouse_3 9 rfl rfl)
theorem dX5_readHouse_83 : decode cX5_readHouse 83 = .ok (.istore 6, 2) := dk_54 6 (dk_at dksX5_readHouse_3 12 rfl rfl)
theorem dX5_readHouse_85 : decode cX5_readHouse 85 = .ok (.aload_n 0, 1) := dk_42 (dk_at dksX5_readHouse_3 14 rfl rfl)
theorem dX5_readHouse_86 : decode cX5_readHouse 86 = .ok (.ldc 183, 2) := dk_18 183 (dk_at dksX5_readHouse_3 15 rfl rfl)
theorem dX5_readHouse_88 : decode cX5_readHouse 88 = .ok (.invokevirtual 326, 3) := dk_182 1 70 (dk_at dksX5_readHouse_3 17 rfl rfl)
theorem dX5_readHouse_91 : decode cX5_readHouse 91 = .ok (.istore 7, 2) := dk_54 7 (dk_at dksX5_readHouse_3 20 rfl rfl)
theorem dX5_readHouse_93 : decode cX5_readHouse 93 = .ok (.aload_n 0, 1) := dk_42 (dk_at dksX5_readHouse_3 22 rfl rfl)
theorem dX5_readHouse_94 : decode cX5_readHouse 94 = .ok (.getfield 100, 3) := dk_180 0 100 (dk_at dksX5_readHouse_4 0 rfl rfl)
theorem dX5_readHouse_97 : decode cX5_readHouse 97 = .ok (.iconst 5, 1) := dk_8 (dk_at dksX5_readHouse_4 3 rfl rfl)
theorem dX5_readHouse_98 : decode cX5_readHouse 98 = .ok (.if_icmp .ne 4, 3) := dk_160 0 4 (dk_at dksX5_readHouse_4 4 rfl rfl)
theorem dX5_readHouse_101 : decode cX5_readHouse 101 = .ok (.return_, 1) := dk_177 (dk_at dksX5_readHouse_4 7 rfl rfl)
theorem dX5_readHouse_102 : decode cX5_readHouse 102 = .ok (.aload_n 0, 1) := dk_42 (dk_at dksX5_readHouse_4 8 rfl rfl)
theorem dX5_readHouse_103 : decode cX5_readHouse 103 = .ok (.getfield 191, 3) := dk_180 0 191 (dk_at dksX5_readHouse_4 9 rfl rfl)
theorem dX5_readHouse_106 : decode cX5_readHouse 106 = .ok (.getfield 223, 3) := dk_180 0 223 (dk_at dksX5_readHouse_4 12 rfl rfl)
theorem dX5_readHouse_109 : decode cX5_readHouse 109 = .ok (.istore 8, 2) := dk_54 8 (dk_at dksX5_readHouse_4 15 rfl rfl)
theorem dX5_readHouse_111 : decode cX5_readHouse 111 = .ok (.aload_n 0, 1) := dk_42 (dk_at dksX5_readHouse_4 17 rfl rfl)
theorem dX5_readHouse_112 : decode cX5_readHouse 112 = .ok (.getfield 191, 3) := dk_180 0 191 (dk_at dksX5_readHouse_4 18 rfl rfl)
theorem dX5_readHouse_115 : decode cX5_readHouse 115 = .ok (.getfield 329, 3) := dk_180 1 73 (dk_at dksX5_readHouse_4 21 rfl rfl)
theorem dX5_readHouse_118 : decode cX5_readHouse 118 = .ok (.iload 8, 2) := dk_21 8 (dk_at dksX5_readHouse_5 0 rfl rfl)
theorem dX5_readHouse_120 : decode cX5_readHouse 120 = .ok (.iload_n 1, 1) := dk_27 (dk_at dksX5_readHouse_5 2 rfl rfl)
theorem dX5_readHouse_121 : decode cX5_readHouse 121 = .ok (.iastore, 1) := dk_79 (dk_at dksX5_readHouse_5 3 rfl rfl)
theorem dX5_readHouse_122 : decode cX5_readHouse 122 = .ok (.aload_n 0, 1) := dk_42 (dk_at dksX5_readHouse_5 4 rfl rfl)
theorem dX5_readHouse_123 : decode cX5_readHouse 123 = .ok (.getfield 191, 3) := dk_180 0 191 (dk_at dksX5_readHouse_5 5 rfl rfl)
theorem dX5_readHouse_126 : decode cX5_readHouse 126 = .ok (.getfield 332, 3) := dk_180 1 76 (dk_at dksX5_readHouse_5 8 rfl rfl)
theorem dX5_readHouse_129 : decode cX5_readHouse 129 = .ok (.iload 8, 2) := dk_21 8 (dk_at dksX5_readHouse_5 11 rfl rfl)
theorem dX5_readHouse_131 : decode cX5_readHouse 131 = .ok (.iload_n 2, 1) := dk_28 (dk_at dksX5_readHouse_5 13 rfl rfl)
theorem dX5_readHouse_132 : decode cX5_readHouse 132 = .ok (.iastore, 1) := dk_79 (dk_at dksX5_readHouse_5 14 rfl rfl)
theorem dX5_readHouse_133 : decode cX5_readHouse 133 = .ok (.aload_n 0, 1) := dk_42 (dk_at dksX5_readHouse_5 15 rfl rfl)
theorem dX5_readHouse_134 : decode cX5_readHouse 134 = .ok (.getfield 191, 3) := dk_180 0 191 (dk_at dksX5_readHouse_5 16 rfl rfl)
theorem dX5_readHouse_137 : decode cX5_readHouse 137 = .ok (.getfield 334, 3) := dk_180 1 78 (dk_at dksX5_readHouse_5 19 rfl rfl)
theorem dX5_readHouse_140 : decode cX5_readHouse 140 = .ok (.iload 8, 2) := dk_21 8 (dk_at dksX5_readHouse_5 22 rfl rfl)
theorem dX5_readHouse_142 : decode cX5_readHouse 142 = .ok (.iload_n 3, 1) := dk_29 (dk_at dksX5_readHouse_6 0 rfl rfl)
theorem dX5_readHouse_143 : decode cX5_readHouse 143 = .ok (.iastore, 1) := dk_79 (dk_at dksX5_readHouse_6 1 rfl rfl)
theorem dX5_readHouse_144 : decode cX5_readHouse 144 = .ok (.aload_n 0, 1) := dk_42 (dk_at dksX5_readHouse_6 2 rfl rfl)
theorem dX5_readHouse_145 : decode cX5_readHouse 145 = .ok (.getfield 191, 3) := dk_180 0 191 (dk_at dksX5_readHouse_6 3 rfl rfl)
theorem dX5_readHouse_148 : decode cX5_readHouse 148 = .ok (.getfield 336, 3) := dk_180 1 80 (dk_at dksX5_readHouse_6 6 rfl rfl)
theorem dX5_readHouse_151 : decode cX5_readHouse 151 = .ok (.iload 8, 2) := dk_21 8 (dk_at dksX5_readHouse_6 9 rfl rfl)
theorem dX5_readHouse_153 : decode cX5_readHouse 153 = .ok (.iload 4, 2) := dk_21 4 (dk_at dksX5_readHouse_6 11 rfl rfl)
theorem dX5_readHouse_155 : decode cX5_readHouse 155 = .ok (.iastore, 1) := dk_79 (dk_at dksX5_readHouse_6 13 rfl rfl)
theorem dX5_readHouse_156 : decode cX5_readHouse 156 = .ok (.aload_n 0, 1) := dk_42 (dk_at dksX5_readHouse_6 14 rfl rfl)
theorem dX5_readHouse_157 : decode cX5_readHouse 157 = .ok (.getfield 191, 3) := dk_180 0 191 (dk_at dksX5_readHouse_6 15 rfl rfl)
theorem dX5_readHouse_160 : decode cX5_readHouse 160 = .ok (.getfield 338, 3) := dk_180 1 82 (dk_at dksX5_readHouse_6 18 rfl rfl)
theorem dX5_readHouse_163 : decode cX5_readHouse 163 = .ok (.iload 8, 2) := dk_21 8 (dk_at dksX5_readHouse_6 21 rfl rfl)
theorem dX5_readHouse_165 : decode cX5_readHouse 165 = .ok (.iload 5, 2) := dk_21 5 (dk_at dksX5_readHouse_7 0 rfl rfl)
theorem dX5_readHouse_167 : decode cX5_readHouse 167 = .ok (.iastore, 1) := dk_79 (dk_at dksX5_readHouse_7 2 rfl rfl)
theorem dX5_readHouse_168 : decode cX5_readHouse 168 = .ok (.aload_n 0, 1) := dk_42 (dk_at dksX5_readHouse_7 3 rfl rfl)
theorem dX5_readHouse_169 : decode cX5_readHouse 169 = .ok (.getfield 191, 3) := dk_180 0 191 (dk_at dksX5_readHouse_7 4 rfl rfl)
theorem dX5_readHouse_172 : decode cX5_readHouse 172 = .ok (.getfield 340, 3) := dk_180 1 84 (dk_at dksX5_readHouse_7 7 rfl rfl)
theorem dX5_readHouse_175 : decode cX5_readHouse 175 = .ok (.iload 8, 2) := dk_21 8 (dk_at dksX5_readHouse_7 10 rfl rfl)
theorem dX5_readHouse_177 : decode cX5_readHouse 177 = .ok (.iload 6, 2) := dk_21 6 (dk_at dksX5_readHouse_7 12 rfl rfl)
theorem dX5_readHouse_179 : decode cX5_readHouse 179 = .ok (.iastore, 1) := dk_79 (dk_at dksX5_readHouse_7 14 rfl rfl)
theorem dX5_readHouse_180 : decode cX5_readHouse 180 = .ok (.aload_n 0, 1) := dk_42 (dk_at dksX5_readHouse_7 15 rfl rfl)
theorem dX5_readHouse_181 : decode cX5_readHouse 181 = .ok (.getfield 191, 3) := dk_180 0 191 (dk_at dksX5_readHouse_7 16 rfl rfl)
theorem dX5_readHouse_184 : decode cX5_readHouse 184 = .ok (.getfield 342, 3) := dk_180 1 86 (dk_at dksX5_readHouse_7 19 rfl rfl)
theorem dX5_readHouse_187 : decode cX5_readHouse 187 = .ok (.iload 8, 2) := dk_21 8 (dk_at dksX5_readHouse_7 22 rfl rfl)
theorem dX5_readHouse_189 : decode cX5_readHouse 189 = .ok (.iload 7, 2) := dk_21 7 (dk_at dksX5_readHouse_8 0 rfl rfl)
theorem dX5_readHouse_191 : decode cX5_readHouse 191 = .ok (.bastore, 1) := dk_84 (dk_at dksX5_readHouse_8 2 rfl rfl)
theorem dX5_readHouse_192 : decode cX5_readHouse 192 = .ok (.aload_n 0, 1) := dk_42 (dk_at dksX5_readHouse_8 3 rfl rfl)
theorem dX5_readHouse_193 : decode cX5_readHouse 193 = .ok (.getfield 191, 3) := dk_180 0 191 (dk_at dksX5_readHouse_8 4 rfl rfl)
theorem dX5_readHouse_196 : decode cX5_readHouse 196 = .ok (.dup, 1) := dk_89 (dk_at dksX5_readHouse_8 7 rfl rfl)
theorem dX5_readHouse_197 : decode cX5_readHouse 197 = .ok (.getfield 223, 3) := dk_180 0 223 (dk_at dksX5_readHouse_8 8 rfl rfl)
theorem dX5_readHouse_200 : decode cX5_readHouse 200 = .ok (.iconst 1, 1) := dk_4 (dk_at dksX5_readHouse_8 11 rfl rfl)
theorem dX5_readHouse_201 : decode cX5_readHouse 201 = .ok (.iadd, 1) := dk_96 (dk_at dksX5_readHouse_8 12 rfl rfl)
theorem dX5_readHouse_202 : decode cX5_readHouse 202 = .ok (.putfield 223, 3) := dk_181 0 223 (dk_at dksX5_readHouse_8 13 rfl rfl)
theorem dX5_readHouse_205 : decode cX5_readHouse 205 = .ok (.return_, 1) := dk_177 (dk_at dksX5_readHouse_8 16 rfl rfl)
abbrev cX5_readKnown : ByteArray := prog_15_method_22_code
def yX5_readKnown : MethodName := ⟨RX5, "readKnown", "(I)I"⟩
def dkwX5_readKnown_3 : List UInt8 := [182, 0, 146, 29, 172]
abbrev dktX5_readKnown_3 : List UInt8 := dkwX5_readKnown_3 ++ []
def dkwX5_readKnown_2 : List UInt8 := [180, 0, 100, 8, 160, 0, 7, 3, 167, 0, 12, 42, 180, 0, 191, 180, 0, 211, 28, 46, 62, 42]
abbrev dktX5_readKnown_2 : List UInt8 := dkwX5_readKnown_2 ++ dktX5_readKnown_3
def dkwX5_readKnown_1 : List UInt8 := [28, 2, 159, 0, 16, 42, 180, 0, 191, 180, 0, 208, 28, 46, 27, 159, 0, 8, 42, 5, 182, 0, 149, 42]
abbrev dktX5_readKnown_1 : List UInt8 := dkwX5_readKnown_1 ++ dktX5_readKnown_2
def dkwX5_readKnown_0 : List UInt8 := [42, 182, 0, 187, 154, 0, 8, 42, 4, 182, 0, 149, 42, 180, 0, 191, 42, 180, 0, 119, 182, 0, 195, 61]
abbrev dktX5_readKnown_0 : List UInt8 := dkwX5_readKnown_0 ++ dktX5_readKnown_1
theorem dksX5_readKnown_0 : cX5_readKnown.data.toList.drop 0 = dktX5_readKnown_0 := by decide +kernel
theorem dksX5_readKnown_1 : cX5_readKnown.data.toList.drop 24 = dktX5_readKnown_1 := dk_seg dksX5_readKnown_0 24 rfl rfl
theorem dksX5_readKnown_2 : cX5_readKnown.data.toList.drop 48 = dktX5_readKnown_2 := dk_seg dksX5_readKnown_1 24 rfl rfl
theorem dksX5_readKnown_3 : cX5_readKnown.data.toList.drop 70 = dktX5_readKnown_3 := dk_seg dksX5_readKnown_2 22 rfl rfl
theorem dX5_readKnown_0 : decode cX5_readKnown 0 = .ok (.aload_n 0, 1) := dk_42 (dk_at dksX5_readKnown_0 0 rfl rfl)
theorem dX5_readKnown_1 : decode cX5_readKnown 1 = .ok (.invokevirtual 187, 3) := dk_182 0 187 (dk_at dksX5_readKnown_0 1 rfl rfl)
theorem dX5_readKnown_4 : decode cX5_readKnown 4 = .ok (.ifCond .ne 8, 3) := dk_154 0 8 (dk_at dksX5_readKnown_0 4 rfl rfl)
theorem dX5_readKnown_7 : decode cX5_readKnown 7 = .ok (.aload_n 0, 1) := dk_42 (dk_at dksX5_readKnown_0 7 rfl rfl)
theorem dX5_readKnown_8 : decode cX5_readKnown 8 = .ok (.iconst 1, 1) := dk_4 (dk_at dksX5_readKnown_0 8 rfl rfl)
theorem dX5_readKnown_9 : decode cX5_readKnown 9 = .ok (.invokevirtual 149, 3) := dk_182 0 149 (dk_at dksX5_readKnown_0 9 rfl rfl)
theorem dX5_readKnown_12 : decode cX5_readKnown 12 = .ok (.aload_n 0, 1) := dk_42 (dk_at dksX5_readKnown_0 12 rfl rfl)
theorem dX5_readKnown_13 : decode cX5_readKnown 13 = .ok (.getfield 191, 3) := dk_180 0 191 (dk_at dksX5_readKnown_0 13 rfl rfl)
theorem dX5_readKnown_16 : decode cX5_readKnown 16 = .ok (.aload_n 0, 1) := dk_42 (dk_at dksX5_readKnown_0 16 rfl rfl)
theorem dX5_readKnown_17 : decode cX5_readKnown 17 = .ok (.getfield 119, 3) := dk_180 0 119 (dk_at dksX5_readKnown_0 17 rfl rfl)
theorem dX5_readKnown_20 : decode cX5_readKnown 20 = .ok (.invokevirtual 195, 3) := dk_182 0 195 (dk_at dksX5_readKnown_0 20 rfl rfl)
theorem dX5_readKnown_23 : decode cX5_readKnown 23 = .ok (.istore_n 2, 1) := dk_61 (dk_at dksX5_readKnown_0 23 rfl rfl)
theorem dX5_readKnown_24 : decode cX5_readKnown 24 = .ok (.iload_n 2, 1) := dk_28 (dk_at dksX5_readKnown_1 0 rfl rfl)
theorem dX5_readKnown_25 : decode cX5_readKnown 25 = .ok (.iconst (-1), 1) := dk_2 (dk_at dksX5_readKnown_1 1 rfl rfl)
theorem dX5_readKnown_26 : decode cX5_readKnown 26 = .ok (.if_icmp .eq 16, 3) := dk_159 0 16 (dk_at dksX5_readKnown_1 2 rfl rfl)
theorem dX5_readKnown_29 : decode cX5_readKnown 29 = .ok (.aload_n 0, 1) := dk_42 (dk_at dksX5_readKnown_1 5 rfl rfl)
theorem dX5_readKnown_30 : decode cX5_readKnown 30 = .ok (.getfield 191, 3) := dk_180 0 191 (dk_at dksX5_readKnown_1 6 rfl rfl)
theorem dX5_readKnown_33 : decode cX5_readKnown 33 = .ok (.getfield 208, 3) := dk_180 0 208 (dk_at dksX5_readKnown_1 9 rfl rfl)
theorem dX5_readKnown_36 : decode cX5_readKnown 36 = .ok (.iload_n 2, 1) := dk_28 (dk_at dksX5_readKnown_1 12 rfl rfl)
theorem dX5_readKnown_37 : decode cX5_readKnown 37 = .ok (.iaload, 1) := dk_46 (dk_at dksX5_readKnown_1 13 rfl rfl)
theorem dX5_readKnown_38 : decode cX5_readKnown 38 = .ok (.iload_n 1, 1) := dk_27 (dk_at dksX5_readKnown_1 14 rfl rfl)
theorem dX5_readKnown_39 : decode cX5_readKnown 39 = .ok (.if_icmp .eq 8, 3) := dk_159 0 8 (dk_at dksX5_readKnown_1 15 rfl rfl)
theorem dX5_readKnown_42 : decode cX5_readKnown 42 = .ok (.aload_n 0, 1) := dk_42 (dk_at dksX5_readKnown_1 18 rfl rfl)
theorem dX5_readKnown_43 : decode cX5_readKnown 43 = .ok (.iconst 2, 1) := dk_5 (dk_at dksX5_readKnown_1 19 rfl rfl)
theorem dX5_readKnown_44 : decode cX5_readKnown 44 = .ok (.invokevirtual 149, 3) := dk_182 0 149 (dk_at dksX5_readKnown_1 20 rfl rfl)
theorem dX5_readKnown_47 : decode cX5_readKnown 47 = .ok (.aload_n 0, 1) := dk_42 (dk_at dksX5_readKnown_1 23 rfl rfl)
theorem dX5_readKnown_48 : decode cX5_readKnown 48 = .ok (.getfield 100, 3) := dk_180 0 100 (dk_at dksX5_readKnown_2 0 rfl rfl)
theorem dX5_readKnown_51 : decode cX5_readKnown 51 = .ok (.iconst 5, 1) := dk_8 (dk_at dksX5_readKnown_2 3 rfl rfl)
theorem dX5_readKnown_52 : decode cX5_readKnown 52 = .ok (.if_icmp .ne 7, 3) := dk_160 0 7 (dk_at dksX5_readKnown_2 4 rfl rfl)
theorem dX5_readKnown_55 : decode cX5_readKnown 55 = .ok (.iconst 0, 1) := dk_3 (dk_at dksX5_readKnown_2 7 rfl rfl)
theorem dX5_readKnown_56 : decode cX5_readKnown 56 = .ok (.goto 12, 3) := dk_167 0 12 (dk_at dksX5_readKnown_2 8 rfl rfl)
theorem dX5_readKnown_59 : decode cX5_readKnown 59 = .ok (.aload_n 0, 1) := dk_42 (dk_at dksX5_readKnown_2 11 rfl rfl)
theorem dX5_readKnown_60 : decode cX5_readKnown 60 = .ok (.getfield 191, 3) := dk_180 0 191 (dk_at dksX5_readKnown_2 12 rfl rfl)
theorem dX5_readKnown_63 : decode cX5_readKnown 63 = .ok (.getfield 211, 3) := dk_180 0 211 (dk_at dksX5_readKnown_2 15 rfl rfl)
theorem dX5_readKnown_66 : decode cX5_readKnown 66 = .ok (.iload_n 2, 1) := dk_28 (dk_at dksX5_readKnown_2 18 rfl rfl)
theorem dX5_readKnown_67 : decode cX5_readKnown 67 = .ok (.iaload, 1) := dk_46 (dk_at dksX5_readKnown_2 19 rfl rfl)
theorem dX5_readKnown_68 : decode cX5_readKnown 68 = .ok (.istore_n 3, 1) := dk_62 (dk_at dksX5_readKnown_2 20 rfl rfl)
theorem dX5_readKnown_69 : decode cX5_readKnown 69 = .ok (.aload_n 0, 1) := dk_42 (dk_at dksX5_readKnown_2 21 rfl rfl)
theorem dX5_readKnown_70 : decode cX5_readKnown 70 = .ok (.invokevirtual 146, 3) := dk_182 0 146 (dk_at dksX5_readKnown_3 0 rfl rfl)
theorem dX5_readKnown_73 : decode cX5_readKnown 73 = .ok (.iload_n 3, 1) := dk_29 (dk_at dksX5_readKnown_3 3 rfl rfl)
theorem dX5_readKnown_74 : decode cX5_readKnown 74 = .ok (.ireturn, 1) := dk_172 (dk_at dksX5_readKnown_3 4 rfl rfl)
abbrev cX5_eatsWord : ByteArray := prog_15_method_14_code
def yX5_eatsWord : MethodName := ⟨RX5, "eatsWord", "(Ljava/lang/String;)Z"⟩
def dkwX5_eatsWord_0 : List UInt8 := [42, 43, 182, 0, 142, 61, 28, 153, 0, 7, 42, 182, 0, 146, 28, 172]
abbrev dktX5_eatsWord_0 : List UInt8 := dkwX5_eatsWord_0 ++ []
theorem dksX5_eatsWord_0 : cX5_eatsWord.data.toList.drop 0 = dktX5_eatsWord_0 := by decide +kernel
theorem dX5_eatsWord_0 : decode cX5_eatsWord 0 = .ok (.aload_n 0, 1) := dk_42 (dk_at dksX5_eatsWord_0 0 rfl rfl)
theorem dX5_eatsWord_1 : decode cX5_eatsWord 1 = .ok (.aload_n 1, 1) := dk_43 (dk_at dksX5_eatsWord_0 1 rfl rfl)
theorem dX5_eatsWord_2 : decode cX5_eatsWord 2 = .ok (.invokevirtual 142, 3) := dk_182 0 142 (dk_at dksX5_eatsWord_0 2 rfl rfl)
theorem dX5_eatsWord_5 : decode cX5_eatsWord 5 = .ok (.istore_n 2, 1) := dk_61 (dk_at dksX5_eatsWord_0 5 rfl rfl)
theorem dX5_eatsWord_6 : decode cX5_eatsWord 6 = .ok (.iload_n 2, 1) := dk_28 (dk_at dksX5_eatsWord_0 6 rfl rfl)
theorem dX5_eatsWord_7 : decode cX5_eatsWord 7 = .ok (.ifCond .eq 7, 3) := dk_153 0 7 (dk_at dksX5_eatsWord_0 7 rfl rfl)
theorem dX5_eatsWord_10 : decode cX5_eatsWord 10 = .ok (.aload_n 0, 1) := dk_42 (dk_at dksX5_eatsWord_0 10 rfl rfl)
theorem dX5_eatsWord_11 : decode cX5_eatsWord 11 = .ok (.invokevirtual 146, 3) := dk_182 0 146 (dk_at dksX5_eatsWord_0 11 rfl rfl)
theorem dX5_eatsWord_14 : decode cX5_eatsWord 14 = .ok (.iload_n 2, 1) := dk_28 (dk_at dksX5_eatsWord_0 14 rfl rfl)
theorem dX5_eatsWord_15 : decode cX5_eatsWord 15 = .ok (.ireturn, 1) := dk_172 (dk_at dksX5_eatsWord_0 15 rfl rfl)
abbrev cX5_readCar : ByteArray := prog_15_method_31_code
def yX5_readCar : MethodName := ⟨RX5, "readCar", "()V"⟩
def dkwX5_readCar_6 : List UInt8 := [180, 1, 106, 21, 6, 21, 5, 84, 42, 180, 0, 191, 89, 180, 0, 226, 4, 96, 181, 0, 226, 177]
abbrev dktX5_readCar_6 : List UInt8 := dkwX5_readCar_6 ++ []
def dkwX5_readCar_5 : List UInt8 := [180, 1, 102, 21, 6, 29, 79, 42, 180, 0, 191, 180, 1, 104, 21, 6, 21, 4, 79, 42, 180, 0, 191]
abbrev dktX5_readCar_5 : List UInt8 := dkwX5_readCar_5 ++ dktX5_readCar_6
def dkwX5_readCar_4 : List UInt8 := [180, 1, 98, 21, 6, 27, 79, 42, 180, 0, 191, 180, 1, 100, 21, 6, 28, 79, 42, 180, 0, 191]
abbrev dktX5_readCar_4 : List UInt8 := dkwX5_readCar_4 ++ dktX5_readCar_5
def dkwX5_readCar_3 : List UInt8 := [54, 5, 42, 180, 0, 100, 8, 160, 0, 4, 177, 42, 180, 0, 191, 180, 0, 226, 54, 6, 42, 180, 0, 191]
abbrev dktX5_readCar_3 : List UInt8 := dkwX5_readCar_3 ++ dktX5_readCar_4
def dkwX5_readCar_2 : List UInt8 := [16, 6, 182, 1, 1, 62, 42, 19, 1, 96, 3, 16, 50, 182, 1, 1, 54, 4, 42, 18, 185, 182, 1, 70]
abbrev dktX5_readCar_2 : List UInt8 := dkwX5_readCar_2 ++ dktX5_readCar_3
def dkwX5_readCar_1 : List UInt8 := [182, 1, 59, 60, 42, 19, 1, 92, 17, 1, 244, 17, 3, 32, 182, 1, 1, 61, 42, 19, 1, 94, 4]
abbrev dktX5_readCar_1 : List UInt8 := dkwX5_readCar_1 ++ dktX5_readCar_2
def dkwX5_readCar_0 : List UInt8 := [42, 42, 180, 0, 191, 180, 0, 226, 6, 6, 182, 1, 12, 42, 19, 1, 90, 182, 0, 157, 42, 3]
abbrev dktX5_readCar_0 : List UInt8 := dkwX5_readCar_0 ++ dktX5_readCar_1
theorem dksX5_readCar_0 : cX5_readCar.data.toList.drop 0 = dktX5_readCar_0 := by decide +kernel
theorem dksX5_readCar_1 : cX5_readCar.data.toList.drop 22 = dktX5_readCar_1 := dk_seg dksX5_readCar_0 22 rfl rfl
theorem dksX5_readCar_2 : cX5_readCar.data.toList.drop 45 = dktX5_readCar_2 := dk_seg dksX5_readCar_1 23 rfl rfl
theorem dksX5_readCar_3 : cX5_readCar.data.toList.drop 69 = dktX5_readCar_3 := dk_seg dksX5_readCar_2 24 rfl rfl
theorem dksX5_readCar_4 : cX5_readCar.data.toList.drop 93 = dktX5_readCar_4 := dk_seg dksX5_readCar_3 24 rfl rfl
theorem dksX5_readCar_5 : cX5_readCar.data.toList.drop 115 = dktX5_readCar_5 := dk_seg dksX5_readCar_4 22 rfl rfl
theorem dksX5_readCar_6 : cX5_readCar.data.toList.drop 138 = dktX5_readCar_6 := dk_seg dksX5_readCar_5 23 rfl rfl
theorem dX5_readCar_0 : decode cX5_readCar 0 = .ok (.aload_n 0, 1) := dk_42 (dk_at dksX5_readCar_0 0 rfl rfl)
theorem dX5_readCar_1 : decode cX5_readCar 1 = .ok (.aload_n 0, 1) := dk_42 (dk_at dksX5_readCar_0 1 rfl rfl)
theorem dX5_readCar_2 : decode cX5_readCar 2 = .ok (.getfield 191, 3) := dk_180 0 191 (dk_at dksX5_readCar_0 2 rfl rfl)
theorem dX5_readCar_5 : decode cX5_readCar 5 = .ok (.getfield 226, 3) := dk_180 0 226 (dk_at dksX5_readCar_0 5 rfl rfl)
theorem dX5_readCar_8 : decode cX5_readCar 8 = .ok (.iconst 3, 1) := dk_6 (dk_at dksX5_readCar_0 8 rfl rfl)
theorem dX5_readCar_9 : decode cX5_readCar 9 = .ok (.iconst 3, 1) := dk_6 (dk_at dksX5_readCar_0 9 rfl rfl)
theorem dX5_readCar_10 : decode cX5_readCar 10 = .ok (.invokevirtual 268, 3) := dk_182 1 12 (dk_at dksX5_readCar_0 10 rfl rfl)
theorem dX5_readCar_13 : decode cX5_readCar 13 = .ok (.aload_n 0, 1) := dk_42 (dk_at dksX5_readCar_0 13 rfl rfl)
theorem dX5_readCar_14 : decode cX5_readCar 14 = .ok (.ldc_w 346, 3) := dk_19 1 90 (dk_at dksX5_readCar_0 14 rfl rfl)
theorem dX5_readCar_17 : decode cX5_readCar 17 = .ok (.invokevirtual 157, 3) := dk_182 0 157 (dk_at dksX5_readCar_0 17 rfl rfl)
theorem dX5_readCar_20 : decode cX5_readCar 20 = .ok (.aload_n 0, 1) := dk_42 (dk_at dksX5_readCar_0 20 rfl rfl)
theorem dX5_readCar_21 : decode cX5_readCar 21 = .ok (.iconst 0, 1) := dk_3 (dk_at dksX5_readCar_0 21 rfl rfl)
theorem dX5_readCar_22 : decode cX5_readCar 22 = .ok (.invokevirtual 315, 3) := dk_182 1 59 (dk_at dksX5_readCar_1 0 rfl rfl)
theorem dX5_readCar_25 : decode cX5_readCar 25 = .ok (.istore_n 1, 1) := dk_60 (dk_at dksX5_readCar_1 3 rfl rfl)
theorem dX5_readCar_26 : decode cX5_readCar 26 = .ok (.aload_n 0, 1) := dk_42 (dk_at dksX5_readCar_1 4 rfl rfl)
theorem dX5_readCar_27 : decode cX5_readCar 27 = .ok (.ldc_w 348, 3) := dk_19 1 92 (dk_at dksX5_readCar_1 5 rfl rfl)
theorem dX5_readCar_30 : decode cX5_readCar 30 = .ok (.sipush 500, 3) := dk_17 1 244 (dk_at dksX5_readCar_1 8 rfl rfl)
theorem dX5_readCar_33 : decode cX5_readCar 33 = .ok (.sipush 800, 3) := dk_17 3 32 (dk_at dksX5_readCar_1 11 rfl rfl)
theorem dX5_readCar_36 : decode cX5_readCar 36 = .ok (.invokevirtual 257, 3) := dk_182 1 1 (dk_at dksX5_readCar_1 14 rfl rfl)
theorem dX5_readCar_39 : decode cX5_readCar 39 = .ok (.istore_n 2, 1) := dk_61 (dk_at dksX5_readCar_1 17 rfl rfl)
theorem dX5_readCar_40 : decode cX5_readCar 40 = .ok (.aload_n 0, 1) := dk_42 (dk_at dksX5_readCar_1 18 rfl rfl)
theorem dX5_readCar_41 : decode cX5_readCar 41 = .ok (.ldc_w 350, 3) := dk_19 1 94 (dk_at dksX5_readCar_1 19 rfl rfl)
theorem dX5_readCar_44 : decode cX5_readCar 44 = .ok (.iconst 1, 1) := dk_4 (dk_at dksX5_readCar_1 22 rfl rfl)
theorem dX5_readCar_45 : decode cX5_readCar 45 = .ok (.bipush 6, 2) := dk_16 6 (dk_at dksX5_readCar_2 0 rfl rfl)
theorem dX5_readCar_47 : decode cX5_readCar 47 = .ok (.invokevirtual 257, 3) := dk_182 1 1 (dk_at dksX5_readCar_2 2 rfl rfl)
theorem dX5_readCar_50 : decode cX5_readCar 50 = .ok (.istore_n 3, 1) := dk_62 (dk_at dksX5_readCar_2 5 rfl rfl)
theorem dX5_readCar_51 : decode cX5_readCar 51 = .ok (.aload_n 0, 1) := dk_42 (dk_at dksX5_readCar_2 6 rfl rfl)
theorem dX5_readCar_52 : decode cX5_readCar 52 = .ok (.ldc_w 352, 3) := dk_19 1 96 (dk_at dksX5_readCar_2 7 rfl rfl)
theorem dX5_readCar_55 : decode cX5_readCar 55 = .ok (.iconst 0, 1) := dk_3 (dk_at dksX5_readCar_2 10 rfl rfl)
theorem dX5_readCar_56 : decode cX5_readCar 56 = .ok (.bipush 50, 2) := dk_16 50 (dk_at dksX5_readCar_2 11 rfl rfl)
theorem dX5_readCar_58 : decode cX5_readCar 58 = .ok (.invokevirtual 257, 3) := dk_182 1 1 (dk_at dksX5_readCar_2 13 rfl rfl)
theorem dX5_readCar_61 : decode cX5_readCar 61 = .ok (.istore 4, 2) := dk_54 4 (dk_at dksX5_readCar_2 16 rfl rfl)
theorem dX5_readCar_63 : decode cX5_readCar 63 = .ok (.aload_n 0, 1) := dk_42 (dk_at dksX5_readCar_2 18 rfl rfl)
theorem dX5_readCar_64 : decode cX5_readCar 64 = .ok (.ldc 185, 2) := dk_18 185 (dk_at dksX5_readCar_2 19 rfl rfl)
theorem dX5_readCar_66 : decode cX5_readCar 66 = .ok (.invokevirtual 326, 3) := dk_182 1 70 (dk_at dksX5_readCar_2 21 rfl rfl)
theorem dX5_readCar_69 : decode cX5_readCar 69 = .ok (.istore 5, 2) := dk_54 5 (dk_at dksX5_readCar_3 0 rfl rfl)
theorem dX5_readCar_71 : decode cX5_readCar 71 = .ok (.aload_n 0, 1) := dk_42 (dk_at dksX5_readCar_3 2 rfl rfl)
theorem dX5_readCar_72 : decode cX5_readCar 72 = .ok (.getfield 100, 3) := dk_180 0 100 (dk_at dksX5_readCar_3 3 rfl rfl)
theorem dX5_readCar_75 : decode cX5_readCar 75 = .ok (.iconst 5, 1) := dk_8 (dk_at dksX5_readCar_3 6 rfl rfl)
theorem dX5_readCar_76 : decode cX5_readCar 76 = .ok (.if_icmp .ne 4, 3) := dk_160 0 4 (dk_at dksX5_readCar_3 7 rfl rfl)
theorem dX5_readCar_79 : decode cX5_readCar 79 = .ok (.return_, 1) := dk_177 (dk_at dksX5_readCar_3 10 rfl rfl)
theorem dX5_readCar_80 : decode cX5_readCar 80 = .ok (.aload_n 0, 1) := dk_42 (dk_at dksX5_readCar_3 11 rfl rfl)
theorem dX5_readCar_81 : decode cX5_readCar 81 = .ok (.getfield 191, 3) := dk_180 0 191 (dk_at dksX5_readCar_3 12 rfl rfl)
theorem dX5_readCar_84 : decode cX5_readCar 84 = .ok (.getfield 226, 3) := dk_180 0 226 (dk_at dksX5_readCar_3 15 rfl rfl)
theorem dX5_readCar_87 : decode cX5_readCar 87 = .ok (.istore 6, 2) := dk_54 6 (dk_at dksX5_readCar_3 18 rfl rfl)
theorem dX5_readCar_89 : decode cX5_readCar 89 = .ok (.aload_n 0, 1) := dk_42 (dk_at dksX5_readCar_3 20 rfl rfl)
theorem dX5_readCar_90 : decode cX5_readCar 90 = .ok (.getfield 191, 3) := dk_180 0 191 (dk_at dksX5_readCar_3 21 rfl rfl)
theorem dX5_readCar_93 : decode cX5_readCar 93 = .ok (.getfield 354, 3) := dk_180 1 98 (dk_at dksX5_readCar_4 0 rfl rfl)
theorem dX5_readCar_96 : decode cX5_readCar 96 = .ok (.iload 6, 2) := dk_21 6 (dk_at dksX5_readCar_4 3 rfl rfl)
theorem dX5_readCar_98 : decode cX5_readCar 98 = .ok (.iload_n 1, 1) := dk_27 (dk_at dksX5_readCar_4 5 rfl rfl)
theorem dX5_readCar_99 : decode cX5_readCar 99 = .ok (.iastore, 1) := dk_79 (dk_at dksX5_readCar_4 6 rfl rfl)
theorem dX5_readCar_100 : decode cX5_readCar 100 = .ok (.aload_n 0, 1) := dk_42 (dk_at dksX5_readCar_4 7 rfl rfl)
theorem dX5_readCar_101 : decode cX5_readCar 101 = .ok (.getfield 191, 3) := dk_180 0 191 (dk_at dksX5_readCar_4 8 rfl rfl)
theorem dX5_readCar_104 : decode cX5_readCar 104 = .ok (.getfield 356, 3) := dk_180 1 100 (dk_at dksX5_readCar_4 11 rfl rfl)
theorem dX5_readCar_107 : decode cX5_readCar 107 = .ok (.iload 6, 2) := dk_21 6 (dk_at dksX5_readCar_4 14 rfl rfl)
theorem dX5_readCar_109 : decode cX5_readCar 109 = .ok (.iload_n 2, 1) := dk_28 (dk_at dksX5_readCar_4 16 rfl rfl)
theorem dX5_readCar_110 : decode cX5_readCar 110 = .ok (.iastore, 1) := dk_79 (dk_at dksX5_readCar_4 17 rfl rfl)
theorem dX5_readCar_111 : decode cX5_readCar 111 = .ok (.aload_n 0, 1) := dk_42 (dk_at dksX5_readCar_4 18 rfl rfl)
theorem dX5_readCar_112 : decode cX5_readCar 112 = .ok (.getfield 191, 3) := dk_180 0 191 (dk_at dksX5_readCar_4 19 rfl rfl)
theorem dX5_readCar_115 : decode cX5_readCar 115 = .ok (.getfield 358, 3) := dk_180 1 102 (dk_at dksX5_readCar_5 0 rfl rfl)
theorem dX5_readCar_118 : decode cX5_readCar 118 = .ok (.iload 6, 2) := dk_21 6 (dk_at dksX5_readCar_5 3 rfl rfl)
theorem dX5_readCar_120 : decode cX5_readCar 120 = .ok (.iload_n 3, 1) := dk_29 (dk_at dksX5_readCar_5 5 rfl rfl)
theorem dX5_readCar_121 : decode cX5_readCar 121 = .ok (.iastore, 1) := dk_79 (dk_at dksX5_readCar_5 6 rfl rfl)
theorem dX5_readCar_122 : decode cX5_readCar 122 = .ok (.aload_n 0, 1) := dk_42 (dk_at dksX5_readCar_5 7 rfl rfl)
theorem dX5_readCar_123 : decode cX5_readCar 123 = .ok (.getfield 191, 3) := dk_180 0 191 (dk_at dksX5_readCar_5 8 rfl rfl)
theorem dX5_readCar_126 : decode cX5_readCar 126 = .ok (.getfield 360, 3) := dk_180 1 104 (dk_at dksX5_readCar_5 11 rfl rfl)
theorem dX5_readCar_129 : decode cX5_readCar 129 = .ok (.iload 6, 2) := dk_21 6 (dk_at dksX5_readCar_5 14 rfl rfl)
theorem dX5_readCar_131 : decode cX5_readCar 131 = .ok (.iload 4, 2) := dk_21 4 (dk_at dksX5_readCar_5 16 rfl rfl)
theorem dX5_readCar_133 : decode cX5_readCar 133 = .ok (.iastore, 1) := dk_79 (dk_at dksX5_readCar_5 18 rfl rfl)
theorem dX5_readCar_134 : decode cX5_readCar 134 = .ok (.aload_n 0, 1) := dk_42 (dk_at dksX5_readCar_5 19 rfl rfl)
theorem dX5_readCar_135 : decode cX5_readCar 135 = .ok (.getfield 191, 3) := dk_180 0 191 (dk_at dksX5_readCar_5 20 rfl rfl)
theorem dX5_readCar_138 : decode cX5_readCar 138 = .ok (.getfield 362, 3) := dk_180 1 106 (dk_at dksX5_readCar_6 0 rfl rfl)
theorem dX5_readCar_141 : decode cX5_readCar 141 = .ok (.iload 6, 2) := dk_21 6 (dk_at dksX5_readCar_6 3 rfl rfl)
theorem dX5_readCar_143 : decode cX5_readCar 143 = .ok (.iload 5, 2) := dk_21 5 (dk_at dksX5_readCar_6 5 rfl rfl)
theorem dX5_readCar_145 : decode cX5_readCar 145 = .ok (.bastore, 1) := dk_84 (dk_at dksX5_readCar_6 7 rfl rfl)
theorem dX5_readCar_146 : decode cX5_readCar 146 = .ok (.aload_n 0, 1) := dk_42 (dk_at dksX5_readCar_6 8 rfl rfl)
theorem dX5_readCar_147 : decode cX5_readCar 147 = .ok (.getfield 191, 3) := dk_180 0 191 (dk_at dksX5_readCar_6 9 rfl rfl)
theorem dX5_readCar_150 : decode cX5_readCar 150 = .ok (.dup, 1) := dk_89 (dk_at dksX5_readCar_6 12 rfl rfl)
theorem dX5_readCar_151 : decode cX5_readCar 151 = .ok (.getfield 226, 3) := dk_180 0 226 (dk_at dksX5_readCar_6 13 rfl rfl)
theorem dX5_readCar_154 : decode cX5_readCar 154 = .ok (.iconst 1, 1) := dk_4 (dk_at dksX5_readCar_6 16 rfl rfl)
theorem dX5_readCar_155 : decode cX5_readCar 155 = .ok (.iadd, 1) := dk_96 (dk_at dksX5_readCar_6 17 rfl rfl)
theorem dX5_readCar_156 : decode cX5_readCar 156 = .ok (.putfield 226, 3) := dk_181 0 226 (dk_at dksX5_readCar_6 18 rfl rfl)
theorem dX5_readCar_159 : decode cX5_readCar 159 = .ok (.return_, 1) := dk_177 (dk_at dksX5_readCar_6 21 rfl rfl)
abbrev cX5_readCall : ByteArray := prog_15_method_32_code
def yX5_readCall : MethodName := ⟨RX5, "readCall", "()V"⟩
def dkwX5_readCall_3 : List UInt8 := [180, 1, 109, 28, 79, 42, 180, 0, 191, 89, 180, 1, 109, 4, 96, 181, 1, 109, 177]
abbrev dktX5_readCall_3 : List UInt8 := dkwX5_readCall_3 ++ []
def dkwX5_readCall_2 : List UInt8 := [180, 1, 114, 42, 180, 0, 191, 180, 1, 109, 27, 79, 42, 180, 0, 191, 180, 1, 116, 42, 180, 0, 191]
abbrev dktX5_readCall_2 : List UInt8 := dkwX5_readCall_2 ++ dktX5_readCall_3
def dkwX5_readCall_1 : List UInt8 := [42, 19, 1, 66, 3, 16, 100, 182, 1, 1, 61, 42, 180, 0, 100, 8, 160, 0, 4, 177, 42, 180, 0, 191]
abbrev dktX5_readCall_1 : List UInt8 := dkwX5_readCall_1 ++ dktX5_readCall_2
def dkwX5_readCall_0 : List UInt8 := [42, 42, 180, 0, 191, 180, 1, 109, 8, 6, 182, 1, 12, 42, 19, 1, 112, 4, 16, 60, 182, 1, 1, 60]
abbrev dktX5_readCall_0 : List UInt8 := dkwX5_readCall_0 ++ dktX5_readCall_1
theorem dksX5_readCall_0 : cX5_readCall.data.toList.drop 0 = dktX5_readCall_0 := by decide +kernel
theorem dksX5_readCall_1 : cX5_readCall.data.toList.drop 24 = dktX5_readCall_1 := dk_seg dksX5_readCall_0 24 rfl rfl
theorem dksX5_readCall_2 : cX5_readCall.data.toList.drop 48 = dktX5_readCall_2 := dk_seg dksX5_readCall_1 24 rfl rfl
theorem dksX5_readCall_3 : cX5_readCall.data.toList.drop 71 = dktX5_readCall_3 := dk_seg dksX5_readCall_2 23 rfl rfl
theorem dX5_readCall_0 : decode cX5_readCall 0 = .ok (.aload_n 0, 1) := dk_42 (dk_at dksX5_readCall_0 0 rfl rfl)
theorem dX5_readCall_1 : decode cX5_readCall 1 = .ok (.aload_n 0, 1) := dk_42 (dk_at dksX5_readCall_0 1 rfl rfl)
theorem dX5_readCall_2 : decode cX5_readCall 2 = .ok (.getfield 191, 3) := dk_180 0 191 (dk_at dksX5_readCall_0 2 rfl rfl)
theorem dX5_readCall_5 : decode cX5_readCall 5 = .ok (.getfield 365, 3) := dk_180 1 109 (dk_at dksX5_readCall_0 5 rfl rfl)
theorem dX5_readCall_8 : decode cX5_readCall 8 = .ok (.iconst 5, 1) := dk_8 (dk_at dksX5_readCall_0 8 rfl rfl)
theorem dX5_readCall_9 : decode cX5_readCall 9 = .ok (.iconst 3, 1) := dk_6 (dk_at dksX5_readCall_0 9 rfl rfl)
theorem dX5_readCall_10 : decode cX5_readCall 10 = .ok (.invokevirtual 268, 3) := dk_182 1 12 (dk_at dksX5_readCall_0 10 rfl rfl)
theorem dX5_readCall_13 : decode cX5_readCall 13 = .ok (.aload_n 0, 1) := dk_42 (dk_at dksX5_readCall_0 13 rfl rfl)
theorem dX5_readCall_14 : decode cX5_readCall 14 = .ok (.ldc_w 368, 3) := dk_19 1 112 (dk_at dksX5_readCall_0 14 rfl rfl)
theorem dX5_readCall_17 : decode cX5_readCall 17 = .ok (.iconst 1, 1) := dk_4 (dk_at dksX5_readCall_0 17 rfl rfl)
theorem dX5_readCall_18 : decode cX5_readCall 18 = .ok (.bipush 60, 2) := dk_16 60 (dk_at dksX5_readCall_0 18 rfl rfl)
theorem dX5_readCall_20 : decode cX5_readCall 20 = .ok (.invokevirtual 257, 3) := dk_182 1 1 (dk_at dksX5_readCall_0 20 rfl rfl)
theorem dX5_readCall_23 : decode cX5_readCall 23 = .ok (.istore_n 1, 1) := dk_60 (dk_at dksX5_readCall_0 23 rfl rfl)
theorem dX5_readCall_24 : decode cX5_readCall 24 = .ok (.aload_n 0, 1) := dk_42 (dk_at dksX5_readCall_1 0 rfl rfl)
theorem dX5_readCall_25 : decode cX5_readCall 25 = .ok (.ldc_w 322, 3) := dk_19 1 66 (dk_at dksX5_readCall_1 1 rfl rfl)
theorem dX5_readCall_28 : decode cX5_readCall 28 = .ok (.iconst 0, 1) := dk_3 (dk_at dksX5_readCall_1 4 rfl rfl)
theorem dX5_readCall_29 : decode cX5_readCall 29 = .ok (.bipush 100, 2) := dk_16 100 (dk_at dksX5_readCall_1 5 rfl rfl)
theorem dX5_readCall_31 : decode cX5_readCall 31 = .ok (.invokevirtual 257, 3) := dk_182 1 1 (dk_at dksX5_readCall_1 7 rfl rfl)
theorem dX5_readCall_34 : decode cX5_readCall 34 = .ok (.istore_n 2, 1) := dk_61 (dk_at dksX5_readCall_1 10 rfl rfl)
theorem dX5_readCall_35 : decode cX5_readCall 35 = .ok (.aload_n 0, 1) := dk_42 (dk_at dksX5_readCall_1 11 rfl rfl)
theorem dX5_readCall_36 : decode cX5_readCall 36 = .ok (.getfield 100, 3) := dk_180 0 100 (dk_at dksX5_readCall_1 12 rfl rfl)
theorem dX5_readCall_39 : decode cX5_readCall 39 = .ok (.iconst 5, 1) := dk_8 (dk_at dksX5_readCall_1 15 rfl rfl)
theorem dX5_readCall_40 : decode cX5_readCall 40 = .ok (.if_icmp .ne 4, 3) := dk_160 0 4 (dk_at dksX5_readCall_1 16 rfl rfl)
theorem dX5_readCall_43 : decode cX5_readCall 43 = .ok (.return_, 1) := dk_177 (dk_at dksX5_readCall_1 19 rfl rfl)
theorem dX5_readCall_44 : decode cX5_readCall 44 = .ok (.aload_n 0, 1) := dk_42 (dk_at dksX5_readCall_1 20 rfl rfl)
theorem dX5_readCall_45 : decode cX5_readCall 45 = .ok (.getfield 191, 3) := dk_180 0 191 (dk_at dksX5_readCall_1 21 rfl rfl)
theorem dX5_readCall_48 : decode cX5_readCall 48 = .ok (.getfield 370, 3) := dk_180 1 114 (dk_at dksX5_readCall_2 0 rfl rfl)
theorem dX5_readCall_51 : decode cX5_readCall 51 = .ok (.aload_n 0, 1) := dk_42 (dk_at dksX5_readCall_2 3 rfl rfl)
theorem dX5_readCall_52 : decode cX5_readCall 52 = .ok (.getfield 191, 3) := dk_180 0 191 (dk_at dksX5_readCall_2 4 rfl rfl)
theorem dX5_readCall_55 : decode cX5_readCall 55 = .ok (.getfield 365, 3) := dk_180 1 109 (dk_at dksX5_readCall_2 7 rfl rfl)
theorem dX5_readCall_58 : decode cX5_readCall 58 = .ok (.iload_n 1, 1) := dk_27 (dk_at dksX5_readCall_2 10 rfl rfl)
theorem dX5_readCall_59 : decode cX5_readCall 59 = .ok (.iastore, 1) := dk_79 (dk_at dksX5_readCall_2 11 rfl rfl)
theorem dX5_readCall_60 : decode cX5_readCall 60 = .ok (.aload_n 0, 1) := dk_42 (dk_at dksX5_readCall_2 12 rfl rfl)
theorem dX5_readCall_61 : decode cX5_readCall 61 = .ok (.getfield 191, 3) := dk_180 0 191 (dk_at dksX5_readCall_2 13 rfl rfl)
theorem dX5_readCall_64 : decode cX5_readCall 64 = .ok (.getfield 372, 3) := dk_180 1 116 (dk_at dksX5_readCall_2 16 rfl rfl)
theorem dX5_readCall_67 : decode cX5_readCall 67 = .ok (.aload_n 0, 1) := dk_42 (dk_at dksX5_readCall_2 19 rfl rfl)
theorem dX5_readCall_68 : decode cX5_readCall 68 = .ok (.getfield 191, 3) := dk_180 0 191 (dk_at dksX5_readCall_2 20 rfl rfl)
theorem dX5_readCall_71 : decode cX5_readCall 71 = .ok (.getfield 365, 3) := dk_180 1 109 (dk_at dksX5_readCall_3 0 rfl rfl)
theorem dX5_readCall_74 : decode cX5_readCall 74 = .ok (.iload_n 2, 1) := dk_28 (dk_at dksX5_readCall_3 3 rfl rfl)
theorem dX5_readCall_75 : decode cX5_readCall 75 = .ok (.iastore, 1) := dk_79 (dk_at dksX5_readCall_3 4 rfl rfl)
theorem dX5_readCall_76 : decode cX5_readCall 76 = .ok (.aload_n 0, 1) := dk_42 (dk_at dksX5_readCall_3 5 rfl rfl)
theorem dX5_readCall_77 : decode cX5_readCall 77 = .ok (.getfield 191, 3) := dk_180 0 191 (dk_at dksX5_readCall_3 6 rfl rfl)
theorem dX5_readCall_80 : decode cX5_readCall 80 = .ok (.dup, 1) := dk_89 (dk_at dksX5_readCall_3 9 rfl rfl)
theorem dX5_readCall_81 : decode cX5_readCall 81 = .ok (.getfield 365, 3) := dk_180 1 109 (dk_at dksX5_readCall_3 10 rfl rfl)
theorem dX5_readCall_84 : decode cX5_readCall 84 = .ok (.iconst 1, 1) := dk_4 (dk_at dksX5_readCall_3 13 rfl rfl)
theorem dX5_readCall_85 : decode cX5_readCall 85 = .ok (.iadd, 1) := dk_96 (dk_at dksX5_readCall_3 14 rfl rfl)
theorem dX5_readCall_86 : decode cX5_readCall 86 = .ok (.putfield 365, 3) := dk_181 1 109 (dk_at dksX5_readCall_3 15 rfl rfl)
theorem dX5_readCall_89 : decode cX5_readCall 89 = .ok (.return_, 1) := dk_177 (dk_at dksX5_readCall_3 18 rfl rfl)
abbrev cX5_readHelper : ByteArray := prog_15_method_33_code
def yX5_readHelper : MethodName := ⟨RX5, "readHelper", "()V"⟩
def dkwX5_readHelper_7 : List UInt8 := [180, 1, 119, 4, 96, 181, 1, 119, 177]
abbrev dktX5_readHelper_7 : List UInt8 := dkwX5_readHelper_7 ++ []
def dkwX5_readHelper_6 : List UInt8 := [27, 79, 42, 180, 0, 191, 180, 1, 129, 42, 180, 0, 191, 180, 1, 119, 29, 79, 42, 180, 0, 191, 89]
abbrev dktX5_readHelper_6 : List UInt8 := dkwX5_readHelper_6 ++ dktX5_readHelper_7
def dkwX5_readHelper_5 : List UInt8 := [62, 42, 180, 0, 100, 8, 160, 0, 4, 177, 42, 180, 0, 191, 180, 1, 126, 42, 180, 0, 191, 180, 1, 119]
abbrev dktX5_readHelper_5 : List UInt8 := dkwX5_readHelper_5 ++ dktX5_readHelper_6
def dkwX5_readHelper_4 : List UInt8 := [29, 120, 128, 60, 42, 16, 44, 182, 0, 217, 61, 167, 255, 188, 42, 19, 1, 124, 4, 16, 7, 182, 1, 1]
abbrev dktX5_readHelper_4 : List UInt8 := dkwX5_readHelper_4 ++ dktX5_readHelper_5
def dkwX5_readHelper_3 : List UInt8 := [42, 6, 182, 0, 149, 42, 3, 16, 6, 182, 0, 161, 62, 42, 180, 0, 100, 8, 160, 0, 4, 177, 27, 4]
abbrev dktX5_readHelper_3 : List UInt8 := dkwX5_readHelper_3 ++ dktX5_readHelper_4
def dkwX5_readHelper_2 : List UInt8 := [160, 0, 29, 42, 180, 0, 129, 16, 7, 162, 0, 20, 27, 42, 180, 0, 129, 122, 4, 126, 4, 160, 0, 8]
abbrev dktX5_readHelper_2 : List UInt8 := dkwX5_readHelper_2 ++ dktX5_readHelper_3
def dkwX5_readHelper_1 : List UInt8 := [180, 0, 100, 8, 159, 0, 7, 4, 167, 0, 4, 3, 61, 28, 153, 0, 70, 42, 180, 0, 100, 6]
abbrev dktX5_readHelper_1 : List UInt8 := dkwX5_readHelper_1 ++ dktX5_readHelper_2
def dkwX5_readHelper_0 : List UInt8 := [42, 42, 180, 0, 191, 180, 1, 119, 8, 6, 182, 1, 12, 42, 19, 1, 122, 182, 0, 157, 3, 60, 42]
abbrev dktX5_readHelper_0 : List UInt8 := dkwX5_readHelper_0 ++ dktX5_readHelper_1
theorem dksX5_readHelper_0 : cX5_readHelper.data.toList.drop 0 = dktX5_readHelper_0 := by decide +kernel
theorem dksX5_readHelper_1 : cX5_readHelper.data.toList.drop 23 = dktX5_readHelper_1 := dk_seg dksX5_readHelper_0 23 rfl rfl
theorem dksX5_readHelper_2 : cX5_readHelper.data.toList.drop 45 = dktX5_readHelper_2 := dk_seg dksX5_readHelper_1 22 rfl rfl
theorem dksX5_readHelper_3 : cX5_readHelper.data.toList.drop 69 = dktX5_readHelper_3 := dk_seg dksX5_readHelper_2 24 rfl rfl
theorem dksX5_readHelper_4 : cX5_readHelper.data.toList.drop 93 = dktX5_readHelper_4 := dk_seg dksX5_readHelper_3 24 rfl rfl
theorem dksX5_readHelper_5 : cX5_readHelper.data.toList.drop 117 = dktX5_readHelper_5 := dk_seg dksX5_readHelper_4 24 rfl rfl
theorem dksX5_readHelper_6 : cX5_readHelper.data.toList.drop 141 = dktX5_readHelper_6 := dk_seg dksX5_readHelper_5 24 rfl rfl
theorem dksX5_readHelper_7 : cX5_readHelper.data.toList.drop 164 = dktX5_readHelper_7 := dk_seg dksX5_readHelper_6 23 rfl rfl
theorem dX5_readHelper_0 : decode cX5_readHelper 0 = .ok (.aload_n 0, 1) := dk_42 (dk_at dksX5_readHelper_0 0 rfl rfl)
theorem dX5_readHelper_1 : decode cX5_readHelper 1 = .ok (.aload_n 0, 1) := dk_42 (dk_at dksX5_readHelper_0 1 rfl rfl)
theorem dX5_readHelper_2 : decode cX5_readHelper 2 = .ok (.getfield 191, 3) := dk_180 0 191 (dk_at dksX5_readHelper_0 2 rfl rfl)
theorem dX5_readHelper_5 : decode cX5_readHelper 5 = .ok (.getfield 375, 3) := dk_180 1 119 (dk_at dksX5_readHelper_0 5 rfl rfl)
theorem dX5_readHelper_8 : decode cX5_readHelper 8 = .ok (.iconst 5, 1) := dk_8 (dk_at dksX5_readHelper_0 8 rfl rfl)
theorem dX5_readHelper_9 : decode cX5_readHelper 9 = .ok (.iconst 3, 1) := dk_6 (dk_at dksX5_readHelper_0 9 rfl rfl)
theorem dX5_readHelper_10 : decode cX5_readHelper 10 = .ok (.invokevirtual 268, 3) := dk_182 1 12 (dk_at dksX5_readHelper_0 10 rfl rfl)
theorem dX5_readHelper_13 : decode cX5_readHelper 13 = .ok (.aload_n 0, 1) := dk_42 (dk_at dksX5_readHelper_0 13 rfl rfl)
theorem dX5_readHelper_14 : decode cX5_readHelper 14 = .ok (.ldc_w 378, 3) := dk_19 1 122 (dk_at dksX5_readHelper_0 14 rfl rfl)
theorem dX5_readHelper_17 : decode cX5_readHelper 17 = .ok (.invokevirtual 157, 3) := dk_182 0 157 (dk_at dksX5_readHelper_0 17 rfl rfl)
theorem dX5_readHelper_20 : decode cX5_readHelper 20 = .ok (.iconst 0, 1) := dk_3 (dk_at dksX5_readHelper_0 20 rfl rfl)
theorem dX5_readHelper_21 : decode cX5_readHelper 21 = .ok (.istore_n 1, 1) := dk_60 (dk_at dksX5_readHelper_0 21 rfl rfl)
theorem dX5_readHelper_22 : decode cX5_readHelper 22 = .ok (.aload_n 0, 1) := dk_42 (dk_at dksX5_readHelper_0 22 rfl rfl)
theorem dX5_readHelper_23 : decode cX5_readHelper 23 = .ok (.getfield 100, 3) := dk_180 0 100 (dk_at dksX5_readHelper_1 0 rfl rfl)
theorem dX5_readHelper_26 : decode cX5_readHelper 26 = .ok (.iconst 5, 1) := dk_8 (dk_at dksX5_readHelper_1 3 rfl rfl)
theorem dX5_readHelper_27 : decode cX5_readHelper 27 = .ok (.if_icmp .eq 7, 3) := dk_159 0 7 (dk_at dksX5_readHelper_1 4 rfl rfl)
theorem dX5_readHelper_30 : decode cX5_readHelper 30 = .ok (.iconst 1, 1) := dk_4 (dk_at dksX5_readHelper_1 7 rfl rfl)
theorem dX5_readHelper_31 : decode cX5_readHelper 31 = .ok (.goto 4, 3) := dk_167 0 4 (dk_at dksX5_readHelper_1 8 rfl rfl)
theorem dX5_readHelper_34 : decode cX5_readHelper 34 = .ok (.iconst 0, 1) := dk_3 (dk_at dksX5_readHelper_1 11 rfl rfl)
theorem dX5_readHelper_35 : decode cX5_readHelper 35 = .ok (.istore_n 2, 1) := dk_61 (dk_at dksX5_readHelper_1 12 rfl rfl)
theorem dX5_readHelper_36 : decode cX5_readHelper 36 = .ok (.iload_n 2, 1) := dk_28 (dk_at dksX5_readHelper_1 13 rfl rfl)
theorem dX5_readHelper_37 : decode cX5_readHelper 37 = .ok (.ifCond .eq 70, 3) := dk_153 0 70 (dk_at dksX5_readHelper_1 14 rfl rfl)
theorem dX5_readHelper_40 : decode cX5_readHelper 40 = .ok (.aload_n 0, 1) := dk_42 (dk_at dksX5_readHelper_1 17 rfl rfl)
theorem dX5_readHelper_41 : decode cX5_readHelper 41 = .ok (.getfield 100, 3) := dk_180 0 100 (dk_at dksX5_readHelper_1 18 rfl rfl)
theorem dX5_readHelper_44 : decode cX5_readHelper 44 = .ok (.iconst 3, 1) := dk_6 (dk_at dksX5_readHelper_1 21 rfl rfl)
theorem dX5_readHelper_45 : decode cX5_readHelper 45 = .ok (.if_icmp .ne 29, 3) := dk_160 0 29 (dk_at dksX5_readHelper_2 0 rfl rfl)
theorem dX5_readHelper_48 : decode cX5_readHelper 48 = .ok (.aload_n 0, 1) := dk_42 (dk_at dksX5_readHelper_2 3 rfl rfl)
theorem dX5_readHelper_49 : decode cX5_readHelper 49 = .ok (.getfield 129, 3) := dk_180 0 129 (dk_at dksX5_readHelper_2 4 rfl rfl)
theorem dX5_readHelper_52 : decode cX5_readHelper 52 = .ok (.bipush 7, 2) := dk_16 7 (dk_at dksX5_readHelper_2 7 rfl rfl)
theorem dX5_readHelper_54 : decode cX5_readHelper 54 = .ok (.if_icmp .ge 20, 3) := dk_162 0 20 (dk_at dksX5_readHelper_2 9 rfl rfl)
theorem dX5_readHelper_57 : decode cX5_readHelper 57 = .ok (.iload_n 1, 1) := dk_27 (dk_at dksX5_readHelper_2 12 rfl rfl)
theorem dX5_readHelper_58 : decode cX5_readHelper 58 = .ok (.aload_n 0, 1) := dk_42 (dk_at dksX5_readHelper_2 13 rfl rfl)
theorem dX5_readHelper_59 : decode cX5_readHelper 59 = .ok (.getfield 129, 3) := dk_180 0 129 (dk_at dksX5_readHelper_2 14 rfl rfl)
theorem dX5_readHelper_62 : decode cX5_readHelper 62 = .ok (.ishr, 1) := dk_122 (dk_at dksX5_readHelper_2 17 rfl rfl)
theorem dX5_readHelper_63 : decode cX5_readHelper 63 = .ok (.iconst 1, 1) := dk_4 (dk_at dksX5_readHelper_2 18 rfl rfl)
theorem dX5_readHelper_64 : decode cX5_readHelper 64 = .ok (.iand, 1) := dk_126 (dk_at dksX5_readHelper_2 19 rfl rfl)
theorem dX5_readHelper_65 : decode cX5_readHelper 65 = .ok (.iconst 1, 1) := dk_4 (dk_at dksX5_readHelper_2 20 rfl rfl)
theorem dX5_readHelper_66 : decode cX5_readHelper 66 = .ok (.if_icmp .ne 8, 3) := dk_160 0 8 (dk_at dksX5_readHelper_2 21 rfl rfl)
theorem dX5_readHelper_69 : decode cX5_readHelper 69 = .ok (.aload_n 0, 1) := dk_42 (dk_at dksX5_readHelper_3 0 rfl rfl)
theorem dX5_readHelper_70 : decode cX5_readHelper 70 = .ok (.iconst 3, 1) := dk_6 (dk_at dksX5_readHelper_3 1 rfl rfl)
theorem dX5_readHelper_71 : decode cX5_readHelper 71 = .ok (.invokevirtual 149, 3) := dk_182 0 149 (dk_at dksX5_readHelper_3 2 rfl rfl)
theorem dX5_readHelper_74 : decode cX5_readHelper 74 = .ok (.aload_n 0, 1) := dk_42 (dk_at dksX5_readHelper_3 5 rfl rfl)
theorem dX5_readHelper_75 : decode cX5_readHelper 75 = .ok (.iconst 0, 1) := dk_3 (dk_at dksX5_readHelper_3 6 rfl rfl)
theorem dX5_readHelper_76 : decode cX5_readHelper 76 = .ok (.bipush 6, 2) := dk_16 6 (dk_at dksX5_readHelper_3 7 rfl rfl)
theorem dX5_readHelper_78 : decode cX5_readHelper 78 = .ok (.invokevirtual 161, 3) := dk_182 0 161 (dk_at dksX5_readHelper_3 9 rfl rfl)
theorem dX5_readHelper_81 : decode cX5_readHelper 81 = .ok (.istore_n 3, 1) := dk_62 (dk_at dksX5_readHelper_3 12 rfl rfl)
theorem dX5_readHelper_82 : decode cX5_readHelper 82 = .ok (.aload_n 0, 1) := dk_42 (dk_at dksX5_readHelper_3 13 rfl rfl)
theorem dX5_readHelper_83 : decode cX5_readHelper 83 = .ok (.getfield 100, 3) := dk_180 0 100 (dk_at dksX5_readHelper_3 14 rfl rfl)
theorem dX5_readHelper_86 : decode cX5_readHelper 86 = .ok (.iconst 5, 1) := dk_8 (dk_at dksX5_readHelper_3 17 rfl rfl)
theorem dX5_readHelper_87 : decode cX5_readHelper 87 = .ok (.if_icmp .ne 4, 3) := dk_160 0 4 (dk_at dksX5_readHelper_3 18 rfl rfl)
theorem dX5_readHelper_90 : decode cX5_readHelper 90 = .ok (.return_, 1) := dk_177 (dk_at dksX5_readHelper_3 21 rfl rfl)
theorem dX5_readHelper_91 : decode cX5_readHelper 91 = .ok (.iload_n 1, 1) := dk_27 (dk_at dksX5_readHelper_3 22 rfl rfl)
theorem dX5_readHelper_92 : decode cX5_readHelper 92 = .ok (.iconst 1, 1) := dk_4 (dk_at dksX5_readHelper_3 23 rfl rfl)
theorem dX5_readHelper_93 : decode cX5_readHelper 93 = .ok (.iload_n 3, 1) := dk_29 (dk_at dksX5_readHelper_4 0 rfl rfl)
theorem dX5_readHelper_94 : decode cX5_readHelper 94 = .ok (.ishl, 1) := dk_120 (dk_at dksX5_readHelper_4 1 rfl rfl)
theorem dX5_readHelper_95 : decode cX5_readHelper 95 = .ok (.ior, 1) := dk_128 (dk_at dksX5_readHelper_4 2 rfl rfl)
theorem dX5_readHelper_96 : decode cX5_readHelper 96 = .ok (.istore_n 1, 1) := dk_60 (dk_at dksX5_readHelper_4 3 rfl rfl)
theorem dX5_readHelper_97 : decode cX5_readHelper 97 = .ok (.aload_n 0, 1) := dk_42 (dk_at dksX5_readHelper_4 4 rfl rfl)
theorem dX5_readHelper_98 : decode cX5_readHelper 98 = .ok (.bipush 44, 2) := dk_16 44 (dk_at dksX5_readHelper_4 5 rfl rfl)
theorem dX5_readHelper_100 : decode cX5_readHelper 100 = .ok (.invokevirtual 217, 3) := dk_182 0 217 (dk_at dksX5_readHelper_4 7 rfl rfl)
theorem dX5_readHelper_103 : decode cX5_readHelper 103 = .ok (.istore_n 2, 1) := dk_61 (dk_at dksX5_readHelper_4 10 rfl rfl)
theorem dX5_readHelper_104 : decode cX5_readHelper 104 = .ok (.goto (-68), 3) := dk_167 255 188 (dk_at dksX5_readHelper_4 11 rfl rfl)
theorem dX5_readHelper_107 : decode cX5_readHelper 107 = .ok (.aload_n 0, 1) := dk_42 (dk_at dksX5_readHelper_4 14 rfl rfl)
theorem dX5_readHelper_108 : decode cX5_readHelper 108 = .ok (.ldc_w 380, 3) := dk_19 1 124 (dk_at dksX5_readHelper_4 15 rfl rfl)
theorem dX5_readHelper_111 : decode cX5_readHelper 111 = .ok (.iconst 1, 1) := dk_4 (dk_at dksX5_readHelper_4 18 rfl rfl)
theorem dX5_readHelper_112 : decode cX5_readHelper 112 = .ok (.bipush 7, 2) := dk_16 7 (dk_at dksX5_readHelper_4 19 rfl rfl)
theorem dX5_readHelper_114 : decode cX5_readHelper 114 = .ok (.invokevirtual 257, 3) := dk_182 1 1 (dk_at dksX5_readHelper_4 21 rfl rfl)
theorem dX5_readHelper_117 : decode cX5_readHelper 117 = .ok (.istore_n 3, 1) := dk_62 (dk_at dksX5_readHelper_5 0 rfl rfl)
theorem dX5_readHelper_118 : decode cX5_readHelper 118 = .ok (.aload_n 0, 1) := dk_42 (dk_at dksX5_readHelper_5 1 rfl rfl)
theorem dX5_readHelper_119 : decode cX5_readHelper 119 = .ok (.getfield 100, 3) := dk_180 0 100 (dk_at dksX5_readHelper_5 2 rfl rfl)
theorem dX5_readHelper_122 : decode cX5_readHelper 122 = .ok (.iconst 5, 1) := dk_8 (dk_at dksX5_readHelper_5 5 rfl rfl)
theorem dX5_readHelper_123 : decode cX5_readHelper 123 = .ok (.if_icmp .ne 4, 3) := dk_160 0 4 (dk_at dksX5_readHelper_5 6 rfl rfl)
theorem dX5_readHelper_126 : decode cX5_readHelper 126 = .ok (.return_, 1) := dk_177 (dk_at dksX5_readHelper_5 9 rfl rfl)
theorem dX5_readHelper_127 : decode cX5_readHelper 127 = .ok (.aload_n 0, 1) := dk_42 (dk_at dksX5_readHelper_5 10 rfl rfl)
theorem dX5_readHelper_128 : decode cX5_readHelper 128 = .ok (.getfield 191, 3) := dk_180 0 191 (dk_at dksX5_readHelper_5 11 rfl rfl)
theorem dX5_readHelper_131 : decode cX5_readHelper 131 = .ok (.getfield 382, 3) := dk_180 1 126 (dk_at dksX5_readHelper_5 14 rfl rfl)
theorem dX5_readHelper_134 : decode cX5_readHelper 134 = .ok (.aload_n 0, 1) := dk_42 (dk_at dksX5_readHelper_5 17 rfl rfl)
theorem dX5_readHelper_135 : decode cX5_readHelper 135 = .ok (.getfield 191, 3) := dk_180 0 191 (dk_at dksX5_readHelper_5 18 rfl rfl)
theorem dX5_readHelper_138 : decode cX5_readHelper 138 = .ok (.getfield 375, 3) := dk_180 1 119 (dk_at dksX5_readHelper_5 21 rfl rfl)
theorem dX5_readHelper_141 : decode cX5_readHelper 141 = .ok (.iload_n 1, 1) := dk_27 (dk_at dksX5_readHelper_6 0 rfl rfl)
theorem dX5_readHelper_142 : decode cX5_readHelper 142 = .ok (.iastore, 1) := dk_79 (dk_at dksX5_readHelper_6 1 rfl rfl)
theorem dX5_readHelper_143 : decode cX5_readHelper 143 = .ok (.aload_n 0, 1) := dk_42 (dk_at dksX5_readHelper_6 2 rfl rfl)
theorem dX5_readHelper_144 : decode cX5_readHelper 144 = .ok (.getfield 191, 3) := dk_180 0 191 (dk_at dksX5_readHelper_6 3 rfl rfl)
theorem dX5_readHelper_147 : decode cX5_readHelper 147 = .ok (.getfield 385, 3) := dk_180 1 129 (dk_at dksX5_readHelper_6 6 rfl rfl)
theorem dX5_readHelper_150 : decode cX5_readHelper 150 = .ok (.aload_n 0, 1) := dk_42 (dk_at dksX5_readHelper_6 9 rfl rfl)
theorem dX5_readHelper_151 : decode cX5_readHelper 151 = .ok (.getfield 191, 3) := dk_180 0 191 (dk_at dksX5_readHelper_6 10 rfl rfl)
theorem dX5_readHelper_154 : decode cX5_readHelper 154 = .ok (.getfield 375, 3) := dk_180 1 119 (dk_at dksX5_readHelper_6 13 rfl rfl)
theorem dX5_readHelper_157 : decode cX5_readHelper 157 = .ok (.iload_n 3, 1) := dk_29 (dk_at dksX5_readHelper_6 16 rfl rfl)
theorem dX5_readHelper_158 : decode cX5_readHelper 158 = .ok (.iastore, 1) := dk_79 (dk_at dksX5_readHelper_6 17 rfl rfl)
theorem dX5_readHelper_159 : decode cX5_readHelper 159 = .ok (.aload_n 0, 1) := dk_42 (dk_at dksX5_readHelper_6 18 rfl rfl)
theorem dX5_readHelper_160 : decode cX5_readHelper 160 = .ok (.getfield 191, 3) := dk_180 0 191 (dk_at dksX5_readHelper_6 19 rfl rfl)
theorem dX5_readHelper_163 : decode cX5_readHelper 163 = .ok (.dup, 1) := dk_89 (dk_at dksX5_readHelper_6 22 rfl rfl)
theorem dX5_readHelper_164 : decode cX5_readHelper 164 = .ok (.getfield 375, 3) := dk_180 1 119 (dk_at dksX5_readHelper_7 0 rfl rfl)
theorem dX5_readHelper_167 : decode cX5_readHelper 167 = .ok (.iconst 1, 1) := dk_4 (dk_at dksX5_readHelper_7 3 rfl rfl)
theorem dX5_readHelper_168 : decode cX5_readHelper 168 = .ok (.iadd, 1) := dk_96 (dk_at dksX5_readHelper_7 4 rfl rfl)
theorem dX5_readHelper_169 : decode cX5_readHelper 169 = .ok (.putfield 375, 3) := dk_181 1 119 (dk_at dksX5_readHelper_7 5 rfl rfl)
theorem dX5_readHelper_172 : decode cX5_readHelper 172 = .ok (.return_, 1) := dk_177 (dk_at dksX5_readHelper_7 8 rfl rfl)
abbrev cX5_eatsSign : ByteArray := prog_15_method_15_code
def yX5_eatsSign : MethodName := ⟨RX5, "eatsSign", "(I)Z"⟩
def dkwX5_eatsSign_1 : List UInt8 := [153, 0, 7, 42, 182, 0, 146, 28, 172]
abbrev dktX5_eatsSign_1 : List UInt8 := dkwX5_eatsSign_1 ++ []
def dkwX5_eatsSign_0 : List UInt8 := [42, 180, 0, 100, 7, 160, 0, 15, 42, 180, 0, 112, 27, 160, 0, 7, 4, 167, 0, 4, 3, 61, 28]
abbrev dktX5_eatsSign_0 : List UInt8 := dkwX5_eatsSign_0 ++ dktX5_eatsSign_1
theorem dksX5_eatsSign_0 : cX5_eatsSign.data.toList.drop 0 = dktX5_eatsSign_0 := by decide +kernel
theorem dksX5_eatsSign_1 : cX5_eatsSign.data.toList.drop 23 = dktX5_eatsSign_1 := dk_seg dksX5_eatsSign_0 23 rfl rfl
theorem dX5_eatsSign_0 : decode cX5_eatsSign 0 = .ok (.aload_n 0, 1) := dk_42 (dk_at dksX5_eatsSign_0 0 rfl rfl)
theorem dX5_eatsSign_1 : decode cX5_eatsSign 1 = .ok (.getfield 100, 3) := dk_180 0 100 (dk_at dksX5_eatsSign_0 1 rfl rfl)
theorem dX5_eatsSign_4 : decode cX5_eatsSign 4 = .ok (.iconst 4, 1) := dk_7 (dk_at dksX5_eatsSign_0 4 rfl rfl)
theorem dX5_eatsSign_5 : decode cX5_eatsSign 5 = .ok (.if_icmp .ne 15, 3) := dk_160 0 15 (dk_at dksX5_eatsSign_0 5 rfl rfl)
theorem dX5_eatsSign_8 : decode cX5_eatsSign 8 = .ok (.aload_n 0, 1) := dk_42 (dk_at dksX5_eatsSign_0 8 rfl rfl)
theorem dX5_eatsSign_9 : decode cX5_eatsSign 9 = .ok (.getfield 112, 3) := dk_180 0 112 (dk_at dksX5_eatsSign_0 9 rfl rfl)
theorem dX5_eatsSign_12 : decode cX5_eatsSign 12 = .ok (.iload_n 1, 1) := dk_27 (dk_at dksX5_eatsSign_0 12 rfl rfl)
theorem dX5_eatsSign_13 : decode cX5_eatsSign 13 = .ok (.if_icmp .ne 7, 3) := dk_160 0 7 (dk_at dksX5_eatsSign_0 13 rfl rfl)
theorem dX5_eatsSign_16 : decode cX5_eatsSign 16 = .ok (.iconst 1, 1) := dk_4 (dk_at dksX5_eatsSign_0 16 rfl rfl)
theorem dX5_eatsSign_17 : decode cX5_eatsSign 17 = .ok (.goto 4, 3) := dk_167 0 4 (dk_at dksX5_eatsSign_0 17 rfl rfl)
theorem dX5_eatsSign_20 : decode cX5_eatsSign 20 = .ok (.iconst 0, 1) := dk_3 (dk_at dksX5_eatsSign_0 20 rfl rfl)
theorem dX5_eatsSign_21 : decode cX5_eatsSign 21 = .ok (.istore_n 2, 1) := dk_61 (dk_at dksX5_eatsSign_0 21 rfl rfl)
theorem dX5_eatsSign_22 : decode cX5_eatsSign 22 = .ok (.iload_n 2, 1) := dk_28 (dk_at dksX5_eatsSign_0 22 rfl rfl)
theorem dX5_eatsSign_23 : decode cX5_eatsSign 23 = .ok (.ifCond .eq 7, 3) := dk_153 0 7 (dk_at dksX5_eatsSign_1 0 rfl rfl)
theorem dX5_eatsSign_26 : decode cX5_eatsSign 26 = .ok (.aload_n 0, 1) := dk_42 (dk_at dksX5_eatsSign_1 3 rfl rfl)
theorem dX5_eatsSign_27 : decode cX5_eatsSign 27 = .ok (.invokevirtual 146, 3) := dk_182 0 146 (dk_at dksX5_eatsSign_1 4 rfl rfl)
theorem dX5_eatsSign_30 : decode cX5_eatsSign 30 = .ok (.iload_n 2, 1) := dk_28 (dk_at dksX5_eatsSign_1 7 rfl rfl)
theorem dX5_eatsSign_31 : decode cX5_eatsSign 31 = .ok (.ireturn, 1) := dk_172 (dk_at dksX5_eatsSign_1 8 rfl rfl)
abbrev cX5_done : ByteArray := prog_15_method_5_code
def yX5_done : MethodName := ⟨RX5, "done", "(I)I"⟩
def dkwX5_done_0 : List UInt8 := [42, 3, 181, 0, 78, 42, 2, 181, 0, 9, 27, 172]
abbrev dktX5_done_0 : List UInt8 := dkwX5_done_0 ++ []
theorem dksX5_done_0 : cX5_done.data.toList.drop 0 = dktX5_done_0 := by decide +kernel
theorem dX5_done_0 : decode cX5_done 0 = .ok (.aload_n 0, 1) := dk_42 (dk_at dksX5_done_0 0 rfl rfl)
theorem dX5_done_1 : decode cX5_done 1 = .ok (.iconst 0, 1) := dk_3 (dk_at dksX5_done_0 1 rfl rfl)
theorem dX5_done_2 : decode cX5_done 2 = .ok (.putfield 78, 3) := dk_181 0 78 (dk_at dksX5_done_0 2 rfl rfl)
theorem dX5_done_5 : decode cX5_done 5 = .ok (.aload_n 0, 1) := dk_42 (dk_at dksX5_done_0 5 rfl rfl)
theorem dX5_done_6 : decode cX5_done 6 = .ok (.iconst (-1), 1) := dk_2 (dk_at dksX5_done_0 6 rfl rfl)
theorem dX5_done_7 : decode cX5_done 7 = .ok (.putfield 9, 3) := dk_181 0 9 (dk_at dksX5_done_0 7 rfl rfl)
theorem dX5_done_10 : decode cX5_done 10 = .ok (.iload_n 1, 1) := dk_27 (dk_at dksX5_done_0 10 rfl rfl)
theorem dX5_done_11 : decode cX5_done 11 = .ok (.ireturn, 1) := dk_172 (dk_at dksX5_done_0 11 rfl rfl)
abbrev cX5_fault : ByteArray := prog_15_method_36_code
def yX5_fault : MethodName := ⟨RX5, "fault", "()I"⟩
def dkwX5_fault_0 : List UInt8 := [42, 3, 181, 0, 75, 42, 180, 0, 132, 172]
abbrev dktX5_fault_0 : List UInt8 := dkwX5_fault_0 ++ []
theorem dksX5_fault_0 : cX5_fault.data.toList.drop 0 = dktX5_fault_0 := by decide +kernel
theorem dX5_fault_0 : decode cX5_fault 0 = .ok (.aload_n 0, 1) := dk_42 (dk_at dksX5_fault_0 0 rfl rfl)
theorem dX5_fault_1 : decode cX5_fault 1 = .ok (.iconst 0, 1) := dk_3 (dk_at dksX5_fault_0 1 rfl rfl)
theorem dX5_fault_2 : decode cX5_fault 2 = .ok (.putfield 75, 3) := dk_181 0 75 (dk_at dksX5_fault_0 2 rfl rfl)
theorem dX5_fault_5 : decode cX5_fault 5 = .ok (.aload_n 0, 1) := dk_42 (dk_at dksX5_fault_0 5 rfl rfl)
theorem dX5_fault_6 : decode cX5_fault 6 = .ok (.getfield 132, 3) := dk_180 0 132 (dk_at dksX5_fault_0 6 rfl rfl)
theorem dX5_fault_9 : decode cX5_fault 9 = .ok (.ireturn, 1) := dk_172 (dk_at dksX5_fault_0 9 rfl rfl)
abbrev cX5_where : ByteArray := prog_15_method_37_code
def yX5_where : MethodName := ⟨RX5, "where", "()I"⟩
def dkwX5_where_0 : List UInt8 := [42, 3, 181, 0, 75, 42, 180, 0, 9, 172]
abbrev dktX5_where_0 : List UInt8 := dkwX5_where_0 ++ []
theorem dksX5_where_0 : cX5_where.data.toList.drop 0 = dktX5_where_0 := by decide +kernel
theorem dX5_where_0 : decode cX5_where 0 = .ok (.aload_n 0, 1) := dk_42 (dk_at dksX5_where_0 0 rfl rfl)
theorem dX5_where_1 : decode cX5_where 1 = .ok (.iconst 0, 1) := dk_3 (dk_at dksX5_where_0 1 rfl rfl)
theorem dX5_where_2 : decode cX5_where 2 = .ok (.putfield 75, 3) := dk_181 0 75 (dk_at dksX5_where_0 2 rfl rfl)
theorem dX5_where_5 : decode cX5_where 5 = .ok (.aload_n 0, 1) := dk_42 (dk_at dksX5_where_0 5 rfl rfl)
theorem dX5_where_6 : decode cX5_where 6 = .ok (.getfield 9, 3) := dk_180 0 9 (dk_at dksX5_where_0 6 rfl rfl)
theorem dX5_where_9 : decode cX5_where 9 = .ok (.ireturn, 1) := dk_172 (dk_at dksX5_where_0 9 rfl rfl)
abbrev cX5_drive : ByteArray := prog_15_method_42_code
def yX5_drive : MethodName := ⟨RX5, "drive", "(II)I"⟩
def dkwX5_drive_4 : List UInt8 := [42, 180, 0, 17, 27, 46, 182, 1, 160, 172]
abbrev dktX5_drive_4 : List UInt8 := dkwX5_drive_4 ++ []
def dkwX5_drive_3 : List UInt8 := [16, 6, 27, 104, 42, 180, 0, 17, 27, 46, 96, 28, 79, 42, 180, 0, 17, 27, 92, 46, 4, 96, 79, 42]
abbrev dktX5_drive_3 : List UInt8 := dkwX5_drive_3 ++ dktX5_drive_4
def dkwX5_drive_2 : List UInt8 := [46, 42, 180, 1, 138, 180, 1, 102, 27, 46, 160, 0, 9, 42, 6, 182, 0, 81, 172, 42, 180, 0, 21]
abbrev dktX5_drive_2 : List UInt8 := dkwX5_drive_2 ++ dktX5_drive_3
def dkwX5_drive_1 : List UInt8 := [182, 0, 81, 172, 42, 28, 182, 1, 169, 2, 159, 0, 9, 42, 8, 182, 0, 81, 172, 42, 180, 0, 17, 27]
abbrev dktX5_drive_1 : List UInt8 := dkwX5_drive_1 ++ dktX5_drive_2
def dkwX5_drive_0 : List UInt8 := [42, 3, 181, 0, 75, 42, 27, 182, 1, 163, 153, 0, 11, 42, 28, 182, 1, 166, 154, 0, 9, 42, 4]
abbrev dktX5_drive_0 : List UInt8 := dkwX5_drive_0 ++ dktX5_drive_1
theorem dksX5_drive_0 : cX5_drive.data.toList.drop 0 = dktX5_drive_0 := by decide +kernel
theorem dksX5_drive_1 : cX5_drive.data.toList.drop 23 = dktX5_drive_1 := dk_seg dksX5_drive_0 23 rfl rfl
theorem dksX5_drive_2 : cX5_drive.data.toList.drop 47 = dktX5_drive_2 := dk_seg dksX5_drive_1 24 rfl rfl
theorem dksX5_drive_3 : cX5_drive.data.toList.drop 70 = dktX5_drive_3 := dk_seg dksX5_drive_2 23 rfl rfl
theorem dksX5_drive_4 : cX5_drive.data.toList.drop 94 = dktX5_drive_4 := dk_seg dksX5_drive_3 24 rfl rfl
theorem dX5_drive_0 : decode cX5_drive 0 = .ok (.aload_n 0, 1) := dk_42 (dk_at dksX5_drive_0 0 rfl rfl)
theorem dX5_drive_1 : decode cX5_drive 1 = .ok (.iconst 0, 1) := dk_3 (dk_at dksX5_drive_0 1 rfl rfl)
theorem dX5_drive_2 : decode cX5_drive 2 = .ok (.putfield 75, 3) := dk_181 0 75 (dk_at dksX5_drive_0 2 rfl rfl)
theorem dX5_drive_5 : decode cX5_drive 5 = .ok (.aload_n 0, 1) := dk_42 (dk_at dksX5_drive_0 5 rfl rfl)
theorem dX5_drive_6 : decode cX5_drive 6 = .ok (.iload_n 1, 1) := dk_27 (dk_at dksX5_drive_0 6 rfl rfl)
theorem dX5_drive_7 : decode cX5_drive 7 = .ok (.invokevirtual 419, 3) := dk_182 1 163 (dk_at dksX5_drive_0 7 rfl rfl)
theorem dX5_drive_10 : decode cX5_drive 10 = .ok (.ifCond .eq 11, 3) := dk_153 0 11 (dk_at dksX5_drive_0 10 rfl rfl)
theorem dX5_drive_13 : decode cX5_drive 13 = .ok (.aload_n 0, 1) := dk_42 (dk_at dksX5_drive_0 13 rfl rfl)
theorem dX5_drive_14 : decode cX5_drive 14 = .ok (.iload_n 2, 1) := dk_28 (dk_at dksX5_drive_0 14 rfl rfl)
theorem dX5_drive_15 : decode cX5_drive 15 = .ok (.invokevirtual 422, 3) := dk_182 1 166 (dk_at dksX5_drive_0 15 rfl rfl)
theorem dX5_drive_18 : decode cX5_drive 18 = .ok (.ifCond .ne 9, 3) := dk_154 0 9 (dk_at dksX5_drive_0 18 rfl rfl)
theorem dX5_drive_21 : decode cX5_drive 21 = .ok (.aload_n 0, 1) := dk_42 (dk_at dksX5_drive_0 21 rfl rfl)
theorem dX5_drive_22 : decode cX5_drive 22 = .ok (.iconst 1, 1) := dk_4 (dk_at dksX5_drive_0 22 rfl rfl)
theorem dX5_drive_23 : decode cX5_drive 23 = .ok (.invokevirtual 81, 3) := dk_182 0 81 (dk_at dksX5_drive_1 0 rfl rfl)
theorem dX5_drive_26 : decode cX5_drive 26 = .ok (.ireturn, 1) := dk_172 (dk_at dksX5_drive_1 3 rfl rfl)
theorem dX5_drive_27 : decode cX5_drive 27 = .ok (.aload_n 0, 1) := dk_42 (dk_at dksX5_drive_1 4 rfl rfl)
theorem dX5_drive_28 : decode cX5_drive 28 = .ok (.iload_n 2, 1) := dk_28 (dk_at dksX5_drive_1 5 rfl rfl)
theorem dX5_drive_29 : decode cX5_drive 29 = .ok (.invokevirtual 425, 3) := dk_182 1 169 (dk_at dksX5_drive_1 6 rfl rfl)
theorem dX5_drive_32 : decode cX5_drive 32 = .ok (.iconst (-1), 1) := dk_2 (dk_at dksX5_drive_1 9 rfl rfl)
theorem dX5_drive_33 : decode cX5_drive 33 = .ok (.if_icmp .eq 9, 3) := dk_159 0 9 (dk_at dksX5_drive_1 10 rfl rfl)
theorem dX5_drive_36 : decode cX5_drive 36 = .ok (.aload_n 0, 1) := dk_42 (dk_at dksX5_drive_1 13 rfl rfl)
theorem dX5_drive_37 : decode cX5_drive 37 = .ok (.iconst 5, 1) := dk_8 (dk_at dksX5_drive_1 14 rfl rfl)
theorem dX5_drive_38 : decode cX5_drive 38 = .ok (.invokevirtual 81, 3) := dk_182 0 81 (dk_at dksX5_drive_1 15 rfl rfl)
theorem dX5_drive_41 : decode cX5_drive 41 = .ok (.ireturn, 1) := dk_172 (dk_at dksX5_drive_1 18 rfl rfl)
theorem dX5_drive_42 : decode cX5_drive 42 = .ok (.aload_n 0, 1) := dk_42 (dk_at dksX5_drive_1 19 rfl rfl)
theorem dX5_drive_43 : decode cX5_drive 43 = .ok (.getfield 17, 3) := dk_180 0 17 (dk_at dksX5_drive_1 20 rfl rfl)
theorem dX5_drive_46 : decode cX5_drive 46 = .ok (.iload_n 1, 1) := dk_27 (dk_at dksX5_drive_1 23 rfl rfl)
theorem dX5_drive_47 : decode cX5_drive 47 = .ok (.iaload, 1) := dk_46 (dk_at dksX5_drive_2 0 rfl rfl)
theorem dX5_drive_48 : decode cX5_drive 48 = .ok (.aload_n 0, 1) := dk_42 (dk_at dksX5_drive_2 1 rfl rfl)
theorem dX5_drive_49 : decode cX5_drive 49 = .ok (.getfield 394, 3) := dk_180 1 138 (dk_at dksX5_drive_2 2 rfl rfl)
theorem dX5_drive_52 : decode cX5_drive 52 = .ok (.getfield 358, 3) := dk_180 1 102 (dk_at dksX5_drive_2 5 rfl rfl)
theorem dX5_drive_55 : decode cX5_drive 55 = .ok (.iload_n 1, 1) := dk_27 (dk_at dksX5_drive_2 8 rfl rfl)
theorem dX5_drive_56 : decode cX5_drive 56 = .ok (.iaload, 1) := dk_46 (dk_at dksX5_drive_2 9 rfl rfl)
theorem dX5_drive_57 : decode cX5_drive 57 = .ok (.if_icmp .ne 9, 3) := dk_160 0 9 (dk_at dksX5_drive_2 10 rfl rfl)
theorem dX5_drive_60 : decode cX5_drive 60 = .ok (.aload_n 0, 1) := dk_42 (dk_at dksX5_drive_2 13 rfl rfl)
theorem dX5_drive_61 : decode cX5_drive 61 = .ok (.iconst 3, 1) := dk_6 (dk_at dksX5_drive_2 14 rfl rfl)
theorem dX5_drive_62 : decode cX5_drive 62 = .ok (.invokevirtual 81, 3) := dk_182 0 81 (dk_at dksX5_drive_2 15 rfl rfl)
theorem dX5_drive_65 : decode cX5_drive 65 = .ok (.ireturn, 1) := dk_172 (dk_at dksX5_drive_2 18 rfl rfl)
theorem dX5_drive_66 : decode cX5_drive 66 = .ok (.aload_n 0, 1) := dk_42 (dk_at dksX5_drive_2 19 rfl rfl)
theorem dX5_drive_67 : decode cX5_drive 67 = .ok (.getfield 21, 3) := dk_180 0 21 (dk_at dksX5_drive_2 20 rfl rfl)
theorem dX5_drive_70 : decode cX5_drive 70 = .ok (.bipush 6, 2) := dk_16 6 (dk_at dksX5_drive_3 0 rfl rfl)
theorem dX5_drive_72 : decode cX5_drive 72 = .ok (.iload_n 1, 1) := dk_27 (dk_at dksX5_drive_3 2 rfl rfl)
theorem dX5_drive_73 : decode cX5_drive 73 = .ok (.imul, 1) := dk_104 (dk_at dksX5_drive_3 3 rfl rfl)
theorem dX5_drive_74 : decode cX5_drive 74 = .ok (.aload_n 0, 1) := dk_42 (dk_at dksX5_drive_3 4 rfl rfl)
theorem dX5_drive_75 : decode cX5_drive 75 = .ok (.getfield 17, 3) := dk_180 0 17 (dk_at dksX5_drive_3 5 rfl rfl)
theorem dX5_drive_78 : decode cX5_drive 78 = .ok (.iload_n 1, 1) := dk_27 (dk_at dksX5_drive_3 8 rfl rfl)
theorem dX5_drive_79 : decode cX5_drive 79 = .ok (.iaload, 1) := dk_46 (dk_at dksX5_drive_3 9 rfl rfl)
theorem dX5_drive_80 : decode cX5_drive 80 = .ok (.iadd, 1) := dk_96 (dk_at dksX5_drive_3 10 rfl rfl)
theorem dX5_drive_81 : decode cX5_drive 81 = .ok (.iload_n 2, 1) := dk_28 (dk_at dksX5_drive_3 11 rfl rfl)
theorem dX5_drive_82 : decode cX5_drive 82 = .ok (.iastore, 1) := dk_79 (dk_at dksX5_drive_3 12 rfl rfl)
theorem dX5_drive_83 : decode cX5_drive 83 = .ok (.aload_n 0, 1) := dk_42 (dk_at dksX5_drive_3 13 rfl rfl)
theorem dX5_drive_84 : decode cX5_drive 84 = .ok (.getfield 17, 3) := dk_180 0 17 (dk_at dksX5_drive_3 14 rfl rfl)
theorem dX5_drive_87 : decode cX5_drive 87 = .ok (.iload_n 1, 1) := dk_27 (dk_at dksX5_drive_3 17 rfl rfl)
theorem dX5_drive_88 : decode cX5_drive 88 = .ok (.dup2, 1) := dk_92 (dk_at dksX5_drive_3 18 rfl rfl)
theorem dX5_drive_89 : decode cX5_drive 89 = .ok (.iaload, 1) := dk_46 (dk_at dksX5_drive_3 19 rfl rfl)
theorem dX5_drive_90 : decode cX5_drive 90 = .ok (.iconst 1, 1) := dk_4 (dk_at dksX5_drive_3 20 rfl rfl)
theorem dX5_drive_91 : decode cX5_drive 91 = .ok (.iadd, 1) := dk_96 (dk_at dksX5_drive_3 21 rfl rfl)
theorem dX5_drive_92 : decode cX5_drive 92 = .ok (.iastore, 1) := dk_79 (dk_at dksX5_drive_3 22 rfl rfl)
theorem dX5_drive_93 : decode cX5_drive 93 = .ok (.aload_n 0, 1) := dk_42 (dk_at dksX5_drive_3 23 rfl rfl)
theorem dX5_drive_94 : decode cX5_drive 94 = .ok (.aload_n 0, 1) := dk_42 (dk_at dksX5_drive_4 0 rfl rfl)
theorem dX5_drive_95 : decode cX5_drive 95 = .ok (.getfield 17, 3) := dk_180 0 17 (dk_at dksX5_drive_4 1 rfl rfl)
theorem dX5_drive_98 : decode cX5_drive 98 = .ok (.iload_n 1, 1) := dk_27 (dk_at dksX5_drive_4 4 rfl rfl)
theorem dX5_drive_99 : decode cX5_drive 99 = .ok (.iaload, 1) := dk_46 (dk_at dksX5_drive_4 5 rfl rfl)
theorem dX5_drive_100 : decode cX5_drive 100 = .ok (.invokevirtual 416, 3) := dk_182 1 160 (dk_at dksX5_drive_4 6 rfl rfl)
theorem dX5_drive_103 : decode cX5_drive 103 = .ok (.ireturn, 1) := dk_172 (dk_at dksX5_drive_4 9 rfl rfl)
abbrev cX5_isCar : ByteArray := prog_15_method_38_code
def yX5_isCar : MethodName := ⟨RX5, "isCar", "(I)Z"⟩
def dkwX5_isCar_1 : List UInt8 := [167, 0, 4, 3, 172]
abbrev dktX5_isCar_1 : List UInt8 := dkwX5_isCar_1 ++ []
def dkwX5_isCar_0 : List UInt8 := [42, 180, 1, 138, 198, 0, 22, 27, 155, 0, 18, 27, 42, 180, 1, 138, 180, 0, 226, 162, 0, 7, 4]
abbrev dktX5_isCar_0 : List UInt8 := dkwX5_isCar_0 ++ dktX5_isCar_1
theorem dksX5_isCar_0 : cX5_isCar.data.toList.drop 0 = dktX5_isCar_0 := by decide +kernel
theorem dksX5_isCar_1 : cX5_isCar.data.toList.drop 23 = dktX5_isCar_1 := dk_seg dksX5_isCar_0 23 rfl rfl
theorem dX5_isCar_0 : decode cX5_isCar 0 = .ok (.aload_n 0, 1) := dk_42 (dk_at dksX5_isCar_0 0 rfl rfl)
theorem dX5_isCar_1 : decode cX5_isCar 1 = .ok (.getfield 394, 3) := dk_180 1 138 (dk_at dksX5_isCar_0 1 rfl rfl)
theorem dX5_isCar_4 : decode cX5_isCar 4 = .ok (.ifnull 22, 3) := dk_198 0 22 (dk_at dksX5_isCar_0 4 rfl rfl)
theorem dX5_isCar_7 : decode cX5_isCar 7 = .ok (.iload_n 1, 1) := dk_27 (dk_at dksX5_isCar_0 7 rfl rfl)
theorem dX5_isCar_8 : decode cX5_isCar 8 = .ok (.ifCond .lt 18, 3) := dk_155 0 18 (dk_at dksX5_isCar_0 8 rfl rfl)
theorem dX5_isCar_11 : decode cX5_isCar 11 = .ok (.iload_n 1, 1) := dk_27 (dk_at dksX5_isCar_0 11 rfl rfl)
theorem dX5_isCar_12 : decode cX5_isCar 12 = .ok (.aload_n 0, 1) := dk_42 (dk_at dksX5_isCar_0 12 rfl rfl)
theorem dX5_isCar_13 : decode cX5_isCar 13 = .ok (.getfield 394, 3) := dk_180 1 138 (dk_at dksX5_isCar_0 13 rfl rfl)
theorem dX5_isCar_16 : decode cX5_isCar 16 = .ok (.getfield 226, 3) := dk_180 0 226 (dk_at dksX5_isCar_0 16 rfl rfl)
theorem dX5_isCar_19 : decode cX5_isCar 19 = .ok (.if_icmp .ge 7, 3) := dk_162 0 7 (dk_at dksX5_isCar_0 19 rfl rfl)
theorem dX5_isCar_22 : decode cX5_isCar 22 = .ok (.iconst 1, 1) := dk_4 (dk_at dksX5_isCar_0 22 rfl rfl)
theorem dX5_isCar_23 : decode cX5_isCar 23 = .ok (.goto 4, 3) := dk_167 0 4 (dk_at dksX5_isCar_1 0 rfl rfl)
theorem dX5_isCar_26 : decode cX5_isCar 26 = .ok (.iconst 0, 1) := dk_3 (dk_at dksX5_isCar_1 3 rfl rfl)
theorem dX5_isCar_27 : decode cX5_isCar 27 = .ok (.ireturn, 1) := dk_172 (dk_at dksX5_isCar_1 4 rfl rfl)
abbrev cX5_isHouse : ByteArray := prog_15_method_39_code
def yX5_isHouse : MethodName := ⟨RX5, "isHouse", "(I)Z"⟩
def dkwX5_isHouse_1 : List UInt8 := [167, 0, 4, 3, 172]
abbrev dktX5_isHouse_1 : List UInt8 := dkwX5_isHouse_1 ++ []
def dkwX5_isHouse_0 : List UInt8 := [42, 180, 1, 138, 198, 0, 22, 27, 155, 0, 18, 27, 42, 180, 1, 138, 180, 0, 223, 162, 0, 7, 4]
abbrev dktX5_isHouse_0 : List UInt8 := dkwX5_isHouse_0 ++ dktX5_isHouse_1
theorem dksX5_isHouse_0 : cX5_isHouse.data.toList.drop 0 = dktX5_isHouse_0 := by decide +kernel
theorem dksX5_isHouse_1 : cX5_isHouse.data.toList.drop 23 = dktX5_isHouse_1 := dk_seg dksX5_isHouse_0 23 rfl rfl
theorem dX5_isHouse_0 : decode cX5_isHouse 0 = .ok (.aload_n 0, 1) := dk_42 (dk_at dksX5_isHouse_0 0 rfl rfl)
theorem dX5_isHouse_1 : decode cX5_isHouse 1 = .ok (.getfield 394, 3) := dk_180 1 138 (dk_at dksX5_isHouse_0 1 rfl rfl)
theorem dX5_isHouse_4 : decode cX5_isHouse 4 = .ok (.ifnull 22, 3) := dk_198 0 22 (dk_at dksX5_isHouse_0 4 rfl rfl)
theorem dX5_isHouse_7 : decode cX5_isHouse 7 = .ok (.iload_n 1, 1) := dk_27 (dk_at dksX5_isHouse_0 7 rfl rfl)
theorem dX5_isHouse_8 : decode cX5_isHouse 8 = .ok (.ifCond .lt 18, 3) := dk_155 0 18 (dk_at dksX5_isHouse_0 8 rfl rfl)
theorem dX5_isHouse_11 : decode cX5_isHouse 11 = .ok (.iload_n 1, 1) := dk_27 (dk_at dksX5_isHouse_0 11 rfl rfl)
theorem dX5_isHouse_12 : decode cX5_isHouse 12 = .ok (.aload_n 0, 1) := dk_42 (dk_at dksX5_isHouse_0 12 rfl rfl)
theorem dX5_isHouse_13 : decode cX5_isHouse 13 = .ok (.getfield 394, 3) := dk_180 1 138 (dk_at dksX5_isHouse_0 13 rfl rfl)
theorem dX5_isHouse_16 : decode cX5_isHouse 16 = .ok (.getfield 223, 3) := dk_180 0 223 (dk_at dksX5_isHouse_0 16 rfl rfl)
theorem dX5_isHouse_19 : decode cX5_isHouse 19 = .ok (.if_icmp .ge 7, 3) := dk_162 0 7 (dk_at dksX5_isHouse_0 19 rfl rfl)
theorem dX5_isHouse_22 : decode cX5_isHouse 22 = .ok (.iconst 1, 1) := dk_4 (dk_at dksX5_isHouse_0 22 rfl rfl)
theorem dX5_isHouse_23 : decode cX5_isHouse 23 = .ok (.goto 4, 3) := dk_167 0 4 (dk_at dksX5_isHouse_1 0 rfl rfl)
theorem dX5_isHouse_26 : decode cX5_isHouse 26 = .ok (.iconst 0, 1) := dk_3 (dk_at dksX5_isHouse_1 3 rfl rfl)
theorem dX5_isHouse_27 : decode cX5_isHouse 27 = .ok (.ireturn, 1) := dk_172 (dk_at dksX5_isHouse_1 4 rfl rfl)
abbrev cX5_carOf : ByteArray := prog_15_method_41_code
def yX5_carOf : MethodName := ⟨RX5, "carOf", "(I)I"⟩
def dkwX5_carOf_2 : List UInt8 := [167, 255, 226, 132, 2, 1, 167, 255, 207, 2, 172]
abbrev dktX5_carOf_2 : List UInt8 := dkwX5_carOf_2 ++ []
def dkwX5_carOf_1 : List UInt8 := [162, 0, 26, 42, 180, 0, 21, 16, 6, 28, 104, 29, 96, 46, 27, 160, 0, 5, 28, 172, 132, 3, 1]
abbrev dktX5_carOf_1 : List UInt8 := dkwX5_carOf_1 ++ dktX5_carOf_2
def dkwX5_carOf_0 : List UInt8 := [3, 61, 28, 42, 180, 1, 138, 180, 0, 226, 162, 0, 44, 3, 62, 29, 42, 180, 0, 17, 28, 46]
abbrev dktX5_carOf_0 : List UInt8 := dkwX5_carOf_0 ++ dktX5_carOf_1
theorem dksX5_carOf_0 : cX5_carOf.data.toList.drop 0 = dktX5_carOf_0 := by decide +kernel
theorem dksX5_carOf_1 : cX5_carOf.data.toList.drop 22 = dktX5_carOf_1 := dk_seg dksX5_carOf_0 22 rfl rfl
theorem dksX5_carOf_2 : cX5_carOf.data.toList.drop 45 = dktX5_carOf_2 := dk_seg dksX5_carOf_1 23 rfl rfl
theorem dX5_carOf_0 : decode cX5_carOf 0 = .ok (.iconst 0, 1) := dk_3 (dk_at dksX5_carOf_0 0 rfl rfl)
theorem dX5_carOf_1 : decode cX5_carOf 1 = .ok (.istore_n 2, 1) := dk_61 (dk_at dksX5_carOf_0 1 rfl rfl)
theorem dX5_carOf_2 : decode cX5_carOf 2 = .ok (.iload_n 2, 1) := dk_28 (dk_at dksX5_carOf_0 2 rfl rfl)
theorem dX5_carOf_3 : decode cX5_carOf 3 = .ok (.aload_n 0, 1) := dk_42 (dk_at dksX5_carOf_0 3 rfl rfl)
theorem dX5_carOf_4 : decode cX5_carOf 4 = .ok (.getfield 394, 3) := dk_180 1 138 (dk_at dksX5_carOf_0 4 rfl rfl)
theorem dX5_carOf_7 : decode cX5_carOf 7 = .ok (.getfield 226, 3) := dk_180 0 226 (dk_at dksX5_carOf_0 7 rfl rfl)
theorem dX5_carOf_10 : decode cX5_carOf 10 = .ok (.if_icmp .ge 44, 3) := dk_162 0 44 (dk_at dksX5_carOf_0 10 rfl rfl)
theorem dX5_carOf_13 : decode cX5_carOf 13 = .ok (.iconst 0, 1) := dk_3 (dk_at dksX5_carOf_0 13 rfl rfl)
theorem dX5_carOf_14 : decode cX5_carOf 14 = .ok (.istore_n 3, 1) := dk_62 (dk_at dksX5_carOf_0 14 rfl rfl)
theorem dX5_carOf_15 : decode cX5_carOf 15 = .ok (.iload_n 3, 1) := dk_29 (dk_at dksX5_carOf_0 15 rfl rfl)
theorem dX5_carOf_16 : decode cX5_carOf 16 = .ok (.aload_n 0, 1) := dk_42 (dk_at dksX5_carOf_0 16 rfl rfl)
theorem dX5_carOf_17 : decode cX5_carOf 17 = .ok (.getfield 17, 3) := dk_180 0 17 (dk_at dksX5_carOf_0 17 rfl rfl)
theorem dX5_carOf_20 : decode cX5_carOf 20 = .ok (.iload_n 2, 1) := dk_28 (dk_at dksX5_carOf_0 20 rfl rfl)
theorem dX5_carOf_21 : decode cX5_carOf 21 = .ok (.iaload, 1) := dk_46 (dk_at dksX5_carOf_0 21 rfl rfl)
theorem dX5_carOf_22 : decode cX5_carOf 22 = .ok (.if_icmp .ge 26, 3) := dk_162 0 26 (dk_at dksX5_carOf_1 0 rfl rfl)
theorem dX5_carOf_25 : decode cX5_carOf 25 = .ok (.aload_n 0, 1) := dk_42 (dk_at dksX5_carOf_1 3 rfl rfl)
theorem dX5_carOf_26 : decode cX5_carOf 26 = .ok (.getfield 21, 3) := dk_180 0 21 (dk_at dksX5_carOf_1 4 rfl rfl)
theorem dX5_carOf_29 : decode cX5_carOf 29 = .ok (.bipush 6, 2) := dk_16 6 (dk_at dksX5_carOf_1 7 rfl rfl)
theorem dX5_carOf_31 : decode cX5_carOf 31 = .ok (.iload_n 2, 1) := dk_28 (dk_at dksX5_carOf_1 9 rfl rfl)
theorem dX5_carOf_32 : decode cX5_carOf 32 = .ok (.imul, 1) := dk_104 (dk_at dksX5_carOf_1 10 rfl rfl)
theorem dX5_carOf_33 : decode cX5_carOf 33 = .ok (.iload_n 3, 1) := dk_29 (dk_at dksX5_carOf_1 11 rfl rfl)
theorem dX5_carOf_34 : decode cX5_carOf 34 = .ok (.iadd, 1) := dk_96 (dk_at dksX5_carOf_1 12 rfl rfl)
theorem dX5_carOf_35 : decode cX5_carOf 35 = .ok (.iaload, 1) := dk_46 (dk_at dksX5_carOf_1 13 rfl rfl)
theorem dX5_carOf_36 : decode cX5_carOf 36 = .ok (.iload_n 1, 1) := dk_27 (dk_at dksX5_carOf_1 14 rfl rfl)
theorem dX5_carOf_37 : decode cX5_carOf 37 = .ok (.if_icmp .ne 5, 3) := dk_160 0 5 (dk_at dksX5_carOf_1 15 rfl rfl)
theorem dX5_carOf_40 : decode cX5_carOf 40 = .ok (.iload_n 2, 1) := dk_28 (dk_at dksX5_carOf_1 18 rfl rfl)
theorem dX5_carOf_41 : decode cX5_carOf 41 = .ok (.ireturn, 1) := dk_172 (dk_at dksX5_carOf_1 19 rfl rfl)
theorem dX5_carOf_42 : decode cX5_carOf 42 = .ok (.iinc 3 1, 3) := dk_132 3 1 (dk_at dksX5_carOf_1 20 rfl rfl)
theorem dX5_carOf_45 : decode cX5_carOf 45 = .ok (.goto (-30), 3) := dk_167 255 226 (dk_at dksX5_carOf_2 0 rfl rfl)
theorem dX5_carOf_48 : decode cX5_carOf 48 = .ok (.iinc 2 1, 3) := dk_132 2 1 (dk_at dksX5_carOf_2 3 rfl rfl)
theorem dX5_carOf_51 : decode cX5_carOf 51 = .ok (.goto (-49), 3) := dk_167 255 207 (dk_at dksX5_carOf_2 6 rfl rfl)
theorem dX5_carOf_54 : decode cX5_carOf 54 = .ok (.iconst (-1), 1) := dk_2 (dk_at dksX5_carOf_2 9 rfl rfl)
theorem dX5_carOf_55 : decode cX5_carOf 55 = .ok (.ireturn, 1) := dk_172 (dk_at dksX5_carOf_2 10 rfl rfl)
abbrev cX5_unload : ByteArray := prog_15_method_43_code
def yX5_unload : MethodName := ⟨RX5, "unload", "(I)I"⟩
def dkwX5_unload_1 : List UInt8 := [46, 61, 42, 180, 0, 17, 27, 3, 79, 42, 28, 182, 1, 160, 172]
abbrev dktX5_unload_1 : List UInt8 := dkwX5_unload_1 ++ []
def dkwX5_unload_0 : List UInt8 := [42, 3, 181, 0, 75, 42, 27, 182, 1, 163, 154, 0, 9, 42, 4, 182, 0, 81, 172, 42, 180, 0, 17, 27]
abbrev dktX5_unload_0 : List UInt8 := dkwX5_unload_0 ++ dktX5_unload_1
theorem dksX5_unload_0 : cX5_unload.data.toList.drop 0 = dktX5_unload_0 := by decide +kernel
theorem dksX5_unload_1 : cX5_unload.data.toList.drop 24 = dktX5_unload_1 := dk_seg dksX5_unload_0 24 rfl rfl
theorem dX5_unload_0 : decode cX5_unload 0 = .ok (.aload_n 0, 1) := dk_42 (dk_at dksX5_unload_0 0 rfl rfl)
theorem dX5_unload_1 : decode cX5_unload 1 = .ok (.iconst 0, 1) := dk_3 (dk_at dksX5_unload_0 1 rfl rfl)
theorem dX5_unload_2 : decode cX5_unload 2 = .ok (.putfield 75, 3) := dk_181 0 75 (dk_at dksX5_unload_0 2 rfl rfl)
theorem dX5_unload_5 : decode cX5_unload 5 = .ok (.aload_n 0, 1) := dk_42 (dk_at dksX5_unload_0 5 rfl rfl)
theorem dX5_unload_6 : decode cX5_unload 6 = .ok (.iload_n 1, 1) := dk_27 (dk_at dksX5_unload_0 6 rfl rfl)
theorem dX5_unload_7 : decode cX5_unload 7 = .ok (.invokevirtual 419, 3) := dk_182 1 163 (dk_at dksX5_unload_0 7 rfl rfl)
theorem dX5_unload_10 : decode cX5_unload 10 = .ok (.ifCond .ne 9, 3) := dk_154 0 9 (dk_at dksX5_unload_0 10 rfl rfl)
theorem dX5_unload_13 : decode cX5_unload 13 = .ok (.aload_n 0, 1) := dk_42 (dk_at dksX5_unload_0 13 rfl rfl)
theorem dX5_unload_14 : decode cX5_unload 14 = .ok (.iconst 1, 1) := dk_4 (dk_at dksX5_unload_0 14 rfl rfl)
theorem dX5_unload_15 : decode cX5_unload 15 = .ok (.invokevirtual 81, 3) := dk_182 0 81 (dk_at dksX5_unload_0 15 rfl rfl)
theorem dX5_unload_18 : decode cX5_unload 18 = .ok (.ireturn, 1) := dk_172 (dk_at dksX5_unload_0 18 rfl rfl)
theorem dX5_unload_19 : decode cX5_unload 19 = .ok (.aload_n 0, 1) := dk_42 (dk_at dksX5_unload_0 19 rfl rfl)
theorem dX5_unload_20 : decode cX5_unload 20 = .ok (.getfield 17, 3) := dk_180 0 17 (dk_at dksX5_unload_0 20 rfl rfl)
theorem dX5_unload_23 : decode cX5_unload 23 = .ok (.iload_n 1, 1) := dk_27 (dk_at dksX5_unload_0 23 rfl rfl)
theorem dX5_unload_24 : decode cX5_unload 24 = .ok (.iaload, 1) := dk_46 (dk_at dksX5_unload_1 0 rfl rfl)
theorem dX5_unload_25 : decode cX5_unload 25 = .ok (.istore_n 2, 1) := dk_61 (dk_at dksX5_unload_1 1 rfl rfl)
theorem dX5_unload_26 : decode cX5_unload 26 = .ok (.aload_n 0, 1) := dk_42 (dk_at dksX5_unload_1 2 rfl rfl)
theorem dX5_unload_27 : decode cX5_unload 27 = .ok (.getfield 17, 3) := dk_180 0 17 (dk_at dksX5_unload_1 3 rfl rfl)
theorem dX5_unload_30 : decode cX5_unload 30 = .ok (.iload_n 1, 1) := dk_27 (dk_at dksX5_unload_1 6 rfl rfl)
theorem dX5_unload_31 : decode cX5_unload 31 = .ok (.iconst 0, 1) := dk_3 (dk_at dksX5_unload_1 7 rfl rfl)
theorem dX5_unload_32 : decode cX5_unload 32 = .ok (.iastore, 1) := dk_79 (dk_at dksX5_unload_1 8 rfl rfl)
theorem dX5_unload_33 : decode cX5_unload 33 = .ok (.aload_n 0, 1) := dk_42 (dk_at dksX5_unload_1 9 rfl rfl)
theorem dX5_unload_34 : decode cX5_unload 34 = .ok (.iload_n 2, 1) := dk_28 (dk_at dksX5_unload_1 10 rfl rfl)
theorem dX5_unload_35 : decode cX5_unload 35 = .ok (.invokevirtual 416, 3) := dk_182 1 160 (dk_at dksX5_unload_1 11 rfl rfl)
theorem dX5_unload_38 : decode cX5_unload 38 = .ok (.ireturn, 1) := dk_172 (dk_at dksX5_unload_1 14 rfl rfl)
abbrev cX5_tea : ByteArray := prog_15_method_44_code
def yX5_tea : MethodName := ⟨RX5, "tea", "(I)Z"⟩
def dkwX5_tea_2 : List UInt8 := [3, 172, 42, 27, 181, 1, 141, 42, 3, 182, 1, 160, 87, 4, 172]
abbrev dktX5_tea_2 : List UInt8 := dkwX5_tea_2 ++ []
def dkwX5_tea_1 : List UInt8 := [180, 0, 223, 120, 161, 0, 22, 42, 42, 180, 1, 138, 199, 0, 7, 4, 167, 0, 4, 5, 182, 0, 81, 87]
abbrev dktX5_tea_1 : List UInt8 := dkwX5_tea_1 ++ dktX5_tea_2
def dkwX5_tea_0 : List UInt8 := [42, 3, 181, 0, 75, 42, 180, 1, 138, 198, 0, 20, 27, 155, 0, 16, 27, 4, 42, 180, 1, 138]
abbrev dktX5_tea_0 : List UInt8 := dkwX5_tea_0 ++ dktX5_tea_1
theorem dksX5_tea_0 : cX5_tea.data.toList.drop 0 = dktX5_tea_0 := by decide +kernel
theorem dksX5_tea_1 : cX5_tea.data.toList.drop 22 = dktX5_tea_1 := dk_seg dksX5_tea_0 22 rfl rfl
theorem dksX5_tea_2 : cX5_tea.data.toList.drop 46 = dktX5_tea_2 := dk_seg dksX5_tea_1 24 rfl rfl
theorem dX5_tea_0 : decode cX5_tea 0 = .ok (.aload_n 0, 1) := dk_42 (dk_at dksX5_tea_0 0 rfl rfl)
theorem dX5_tea_1 : decode cX5_tea 1 = .ok (.iconst 0, 1) := dk_3 (dk_at dksX5_tea_0 1 rfl rfl)
theorem dX5_tea_2 : decode cX5_tea 2 = .ok (.putfield 75, 3) := dk_181 0 75 (dk_at dksX5_tea_0 2 rfl rfl)
theorem dX5_tea_5 : decode cX5_tea 5 = .ok (.aload_n 0, 1) := dk_42 (dk_at dksX5_tea_0 5 rfl rfl)
theorem dX5_tea_6 : decode cX5_tea 6 = .ok (.getfield 394, 3) := dk_180 1 138 (dk_at dksX5_tea_0 6 rfl rfl)
theorem dX5_tea_9 : decode cX5_tea 9 = .ok (.ifnull 20, 3) := dk_198 0 20 (dk_at dksX5_tea_0 9 rfl rfl)
theorem dX5_tea_12 : decode cX5_tea 12 = .ok (.iload_n 1, 1) := dk_27 (dk_at dksX5_tea_0 12 rfl rfl)
theorem dX5_tea_13 : decode cX5_tea 13 = .ok (.ifCond .lt 16, 3) := dk_155 0 16 (dk_at dksX5_tea_0 13 rfl rfl)
theorem dX5_tea_16 : decode cX5_tea 16 = .ok (.iload_n 1, 1) := dk_27 (dk_at dksX5_tea_0 16 rfl rfl)
theorem dX5_tea_17 : decode cX5_tea 17 = .ok (.iconst 1, 1) := dk_4 (dk_at dksX5_tea_0 17 rfl rfl)
theorem dX5_tea_18 : decode cX5_tea 18 = .ok (.aload_n 0, 1) := dk_42 (dk_at dksX5_tea_0 18 rfl rfl)
theorem dX5_tea_19 : decode cX5_tea 19 = .ok (.getfield 394, 3) := dk_180 1 138 (dk_at dksX5_tea_0 19 rfl rfl)
theorem dX5_tea_22 : decode cX5_tea 22 = .ok (.getfield 223, 3) := dk_180 0 223 (dk_at dksX5_tea_1 0 rfl rfl)
theorem dX5_tea_25 : decode cX5_tea 25 = .ok (.ishl, 1) := dk_120 (dk_at dksX5_tea_1 3 rfl rfl)
theorem dX5_tea_26 : decode cX5_tea 26 = .ok (.if_icmp .lt 22, 3) := dk_161 0 22 (dk_at dksX5_tea_1 4 rfl rfl)
theorem dX5_tea_29 : decode cX5_tea 29 = .ok (.aload_n 0, 1) := dk_42 (dk_at dksX5_tea_1 7 rfl rfl)
theorem dX5_tea_30 : decode cX5_tea 30 = .ok (.aload_n 0, 1) := dk_42 (dk_at dksX5_tea_1 8 rfl rfl)
theorem dX5_tea_31 : decode cX5_tea 31 = .ok (.getfield 394, 3) := dk_180 1 138 (dk_at dksX5_tea_1 9 rfl rfl)
theorem dX5_tea_34 : decode cX5_tea 34 = .ok (.ifnonnull 7, 3) := dk_199 0 7 (dk_at dksX5_tea_1 12 rfl rfl)
theorem dX5_tea_37 : decode cX5_tea 37 = .ok (.iconst 1, 1) := dk_4 (dk_at dksX5_tea_1 15 rfl rfl)
theorem dX5_tea_38 : decode cX5_tea 38 = .ok (.goto 4, 3) := dk_167 0 4 (dk_at dksX5_tea_1 16 rfl rfl)
theorem dX5_tea_41 : decode cX5_tea 41 = .ok (.iconst 2, 1) := dk_5 (dk_at dksX5_tea_1 19 rfl rfl)
theorem dX5_tea_42 : decode cX5_tea 42 = .ok (.invokevirtual 81, 3) := dk_182 0 81 (dk_at dksX5_tea_1 20 rfl rfl)
theorem dX5_tea_45 : decode cX5_tea 45 = .ok (.pop, 1) := dk_87 (dk_at dksX5_tea_1 23 rfl rfl)
theorem dX5_tea_46 : decode cX5_tea 46 = .ok (.iconst 0, 1) := dk_3 (dk_at dksX5_tea_2 0 rfl rfl)
theorem dX5_tea_47 : decode cX5_tea 47 = .ok (.ireturn, 1) := dk_172 (dk_at dksX5_tea_2 1 rfl rfl)
theorem dX5_tea_48 : decode cX5_tea 48 = .ok (.aload_n 0, 1) := dk_42 (dk_at dksX5_tea_2 2 rfl rfl)
theorem dX5_tea_49 : decode cX5_tea 49 = .ok (.iload_n 1, 1) := dk_27 (dk_at dksX5_tea_2 3 rfl rfl)
theorem dX5_tea_50 : decode cX5_tea 50 = .ok (.putfield 397, 3) := dk_181 1 141 (dk_at dksX5_tea_2 4 rfl rfl)
theorem dX5_tea_53 : decode cX5_tea 53 = .ok (.aload_n 0, 1) := dk_42 (dk_at dksX5_tea_2 7 rfl rfl)
theorem dX5_tea_54 : decode cX5_tea 54 = .ok (.iconst 0, 1) := dk_3 (dk_at dksX5_tea_2 8 rfl rfl)
theorem dX5_tea_55 : decode cX5_tea 55 = .ok (.invokevirtual 416, 3) := dk_182 1 160 (dk_at dksX5_tea_2 9 rfl rfl)
theorem dX5_tea_58 : decode cX5_tea 58 = .ok (.pop, 1) := dk_87 (dk_at dksX5_tea_2 12 rfl rfl)
theorem dX5_tea_59 : decode cX5_tea 59 = .ok (.iconst 1, 1) := dk_4 (dk_at dksX5_tea_2 13 rfl rfl)
theorem dX5_tea_60 : decode cX5_tea 60 = .ok (.ireturn, 1) := dk_172 (dk_at dksX5_tea_2 14 rfl rfl)
abbrev cX5_comes : ByteArray := prog_15_method_49_code
def yX5_comes : MethodName := ⟨RX5, "comes", "(I)I"⟩
def dkwX5_comes_2 : List UInt8 := [27, 182, 1, 195, 182, 1, 160, 172]
abbrev dktX5_comes_2 : List UInt8 := dkwX5_comes_2 ++ []
def dkwX5_comes_1 : List UInt8 := [61, 28, 2, 160, 0, 10, 42, 16, 6, 182, 0, 81, 172, 42, 28, 42, 180, 1, 141, 182, 1, 192, 42, 42]
abbrev dktX5_comes_1 : List UInt8 := dkwX5_comes_1 ++ dktX5_comes_2
def dkwX5_comes_0 : List UInt8 := [42, 3, 181, 0, 75, 42, 27, 182, 1, 166, 154, 0, 9, 42, 4, 182, 0, 81, 172, 42, 27, 182, 1, 169]
abbrev dktX5_comes_0 : List UInt8 := dkwX5_comes_0 ++ dktX5_comes_1
theorem dksX5_comes_0 : cX5_comes.data.toList.drop 0 = dktX5_comes_0 := by decide +kernel
theorem dksX5_comes_1 : cX5_comes.data.toList.drop 24 = dktX5_comes_1 := dk_seg dksX5_comes_0 24 rfl rfl
theorem dksX5_comes_2 : cX5_comes.data.toList.drop 48 = dktX5_comes_2 := dk_seg dksX5_comes_1 24 rfl rfl
theorem dX5_comes_0 : decode cX5_comes 0 = .ok (.aload_n 0, 1) := dk_42 (dk_at dksX5_comes_0 0 rfl rfl)
theorem dX5_comes_1 : decode cX5_comes 1 = .ok (.iconst 0, 1) := dk_3 (dk_at dksX5_comes_0 1 rfl rfl)
theorem dX5_comes_2 : decode cX5_comes 2 = .ok (.putfield 75, 3) := dk_181 0 75 (dk_at dksX5_comes_0 2 rfl rfl)
theorem dX5_comes_5 : decode cX5_comes 5 = .ok (.aload_n 0, 1) := dk_42 (dk_at dksX5_comes_0 5 rfl rfl)
theorem dX5_comes_6 : decode cX5_comes 6 = .ok (.iload_n 1, 1) := dk_27 (dk_at dksX5_comes_0 6 rfl rfl)
theorem dX5_comes_7 : decode cX5_comes 7 = .ok (.invokevirtual 422, 3) := dk_182 1 166 (dk_at dksX5_comes_0 7 rfl rfl)
theorem dX5_comes_10 : decode cX5_comes 10 = .ok (.ifCond .ne 9, 3) := dk_154 0 9 (dk_at dksX5_comes_0 10 rfl rfl)
theorem dX5_comes_13 : decode cX5_comes 13 = .ok (.aload_n 0, 1) := dk_42 (dk_at dksX5_comes_0 13 rfl rfl)
theorem dX5_comes_14 : decode cX5_comes 14 = .ok (.iconst 1, 1) := dk_4 (dk_at dksX5_comes_0 14 rfl rfl)
theorem dX5_comes_15 : decode cX5_comes 15 = .ok (.invokevirtual 81, 3) := dk_182 0 81 (dk_at dksX5_comes_0 15 rfl rfl)
theorem dX5_comes_18 : decode cX5_comes 18 = .ok (.ireturn, 1) := dk_172 (dk_at dksX5_comes_0 18 rfl rfl)
theorem dX5_comes_19 : decode cX5_comes 19 = .ok (.aload_n 0, 1) := dk_42 (dk_at dksX5_comes_0 19 rfl rfl)
theorem dX5_comes_20 : decode cX5_comes 20 = .ok (.iload_n 1, 1) := dk_27 (dk_at dksX5_comes_0 20 rfl rfl)
theorem dX5_comes_21 : decode cX5_comes 21 = .ok (.invokevirtual 425, 3) := dk_182 1 169 (dk_at dksX5_comes_0 21 rfl rfl)
theorem dX5_comes_24 : decode cX5_comes 24 = .ok (.istore_n 2, 1) := dk_61 (dk_at dksX5_comes_1 0 rfl rfl)
theorem dX5_comes_25 : decode cX5_comes 25 = .ok (.iload_n 2, 1) := dk_28 (dk_at dksX5_comes_1 1 rfl rfl)
theorem dX5_comes_26 : decode cX5_comes 26 = .ok (.iconst (-1), 1) := dk_2 (dk_at dksX5_comes_1 2 rfl rfl)
theorem dX5_comes_27 : decode cX5_comes 27 = .ok (.if_icmp .ne 10, 3) := dk_160 0 10 (dk_at dksX5_comes_1 3 rfl rfl)
theorem dX5_comes_30 : decode cX5_comes 30 = .ok (.aload_n 0, 1) := dk_42 (dk_at dksX5_comes_1 6 rfl rfl)
theorem dX5_comes_31 : decode cX5_comes 31 = .ok (.bipush 6, 2) := dk_16 6 (dk_at dksX5_comes_1 7 rfl rfl)
theorem dX5_comes_33 : decode cX5_comes 33 = .ok (.invokevirtual 81, 3) := dk_182 0 81 (dk_at dksX5_comes_1 9 rfl rfl)
theorem dX5_comes_36 : decode cX5_comes 36 = .ok (.ireturn, 1) := dk_172 (dk_at dksX5_comes_1 12 rfl rfl)
theorem dX5_comes_37 : decode cX5_comes 37 = .ok (.aload_n 0, 1) := dk_42 (dk_at dksX5_comes_1 13 rfl rfl)
theorem dX5_comes_38 : decode cX5_comes 38 = .ok (.iload_n 2, 1) := dk_28 (dk_at dksX5_comes_1 14 rfl rfl)
theorem dX5_comes_39 : decode cX5_comes 39 = .ok (.aload_n 0, 1) := dk_42 (dk_at dksX5_comes_1 15 rfl rfl)
theorem dX5_comes_40 : decode cX5_comes 40 = .ok (.getfield 397, 3) := dk_180 1 141 (dk_at dksX5_comes_1 16 rfl rfl)
theorem dX5_comes_43 : decode cX5_comes 43 = .ok (.invokevirtual 448, 3) := dk_182 1 192 (dk_at dksX5_comes_1 19 rfl rfl)
theorem dX5_comes_46 : decode cX5_comes 46 = .ok (.aload_n 0, 1) := dk_42 (dk_at dksX5_comes_1 22 rfl rfl)
theorem dX5_comes_47 : decode cX5_comes 47 = .ok (.aload_n 0, 1) := dk_42 (dk_at dksX5_comes_1 23 rfl rfl)
theorem dX5_comes_48 : decode cX5_comes 48 = .ok (.iload_n 1, 1) := dk_27 (dk_at dksX5_comes_2 0 rfl rfl)
theorem dX5_comes_49 : decode cX5_comes 49 = .ok (.invokevirtual 451, 3) := dk_182 1 195 (dk_at dksX5_comes_2 1 rfl rfl)
theorem dX5_comes_52 : decode cX5_comes 52 = .ok (.invokevirtual 416, 3) := dk_182 1 160 (dk_at dksX5_comes_2 4 rfl rfl)
theorem dX5_comes_55 : decode cX5_comes 55 = .ok (.ireturn, 1) := dk_172 (dk_at dksX5_comes_2 7 rfl rfl)
abbrev cX5_goesAsDriven : ByteArray := prog_15_method_47_code
def yX5_goesAsDriven : MethodName := ⟨RX5, "goesAsDriven", "(II)V"⟩
def dkwX5_goesAsDriven_2 : List UInt8 := [182, 1, 188, 177]
abbrev dktX5_goesAsDriven_2 : List UInt8 := dkwX5_goesAsDriven_2 ++ []
def dkwX5_goesAsDriven_1 : List UInt8 := [29, 42, 180, 0, 21, 16, 6, 27, 104, 29, 96, 46, 79, 132, 3, 1, 167, 255, 228, 42, 27, 28]
abbrev dktX5_goesAsDriven_1 : List UInt8 := dkwX5_goesAsDriven_1 ++ dktX5_goesAsDriven_2
def dkwX5_goesAsDriven_0 : List UInt8 := [42, 42, 180, 0, 17, 27, 46, 181, 1, 175, 3, 62, 29, 42, 180, 1, 175, 162, 0, 26, 42, 180, 0, 24]
abbrev dktX5_goesAsDriven_0 : List UInt8 := dkwX5_goesAsDriven_0 ++ dktX5_goesAsDriven_1
theorem dksX5_goesAsDriven_0 : cX5_goesAsDriven.data.toList.drop 0 = dktX5_goesAsDriven_0 := by decide +kernel
theorem dksX5_goesAsDriven_1 : cX5_goesAsDriven.data.toList.drop 24 = dktX5_goesAsDriven_1 := dk_seg dksX5_goesAsDriven_0 24 rfl rfl
theorem dksX5_goesAsDriven_2 : cX5_goesAsDriven.data.toList.drop 46 = dktX5_goesAsDriven_2 := dk_seg dksX5_goesAsDriven_1 22 rfl rfl
theorem dX5_goesAsDriven_0 : decode cX5_goesAsDriven 0 = .ok (.aload_n 0, 1) := dk_42 (dk_at dksX5_goesAsDriven_0 0 rfl rfl)
theorem dX5_goesAsDriven_1 : decode cX5_goesAsDriven 1 = .ok (.aload_n 0, 1) := dk_42 (dk_at dksX5_goesAsDriven_0 1 rfl rfl)
theorem dX5_goesAsDriven_2 : decode cX5_goesAsDriven 2 = .ok (.getfield 17, 3) := dk_180 0 17 (dk_at dksX5_goesAsDriven_0 2 rfl rfl)
theorem dX5_goesAsDriven_5 : decode cX5_goesAsDriven 5 = .ok (.iload_n 1, 1) := dk_27 (dk_at dksX5_goesAsDriven_0 5 rfl rfl)
theorem dX5_goesAsDriven_6 : decode cX5_goesAsDriven 6 = .ok (.iaload, 1) := dk_46 (dk_at dksX5_goesAsDriven_0 6 rfl rfl)
theorem dX5_goesAsDriven_7 : decode cX5_goesAsDriven 7 = .ok (.putfield 431, 3) := dk_181 1 175 (dk_at dksX5_goesAsDriven_0 7 rfl rfl)
theorem dX5_goesAsDriven_10 : decode cX5_goesAsDriven 10 = .ok (.iconst 0, 1) := dk_3 (dk_at dksX5_goesAsDriven_0 10 rfl rfl)
theorem dX5_goesAsDriven_11 : decode cX5_goesAsDriven 11 = .ok (.istore_n 3, 1) := dk_62 (dk_at dksX5_goesAsDriven_0 11 rfl rfl)
theorem dX5_goesAsDriven_12 : decode cX5_goesAsDriven 12 = .ok (.iload_n 3, 1) := dk_29 (dk_at dksX5_goesAsDriven_0 12 rfl rfl)
theorem dX5_goesAsDriven_13 : decode cX5_goesAsDriven 13 = .ok (.aload_n 0, 1) := dk_42 (dk_at dksX5_goesAsDriven_0 13 rfl rfl)
theorem dX5_goesAsDriven_14 : decode cX5_goesAsDriven 14 = .ok (.getfield 431, 3) := dk_180 1 175 (dk_at dksX5_goesAsDriven_0 14 rfl rfl)
theorem dX5_goesAsDriven_17 : decode cX5_goesAsDriven 17 = .ok (.if_icmp .ge 26, 3) := dk_162 0 26 (dk_at dksX5_goesAsDriven_0 17 rfl rfl)
theorem dX5_goesAsDriven_20 : decode cX5_goesAsDriven 20 = .ok (.aload_n 0, 1) := dk_42 (dk_at dksX5_goesAsDriven_0 20 rfl rfl)
theorem dX5_goesAsDriven_21 : decode cX5_goesAsDriven 21 = .ok (.getfield 24, 3) := dk_180 0 24 (dk_at dksX5_goesAsDriven_0 21 rfl rfl)
theorem dX5_goesAsDriven_24 : decode cX5_goesAsDriven 24 = .ok (.iload_n 3, 1) := dk_29 (dk_at dksX5_goesAsDriven_1 0 rfl rfl)
theorem dX5_goesAsDriven_25 : decode cX5_goesAsDriven 25 = .ok (.aload_n 0, 1) := dk_42 (dk_at dksX5_goesAsDriven_1 1 rfl rfl)
theorem dX5_goesAsDriven_26 : decode cX5_goesAsDriven 26 = .ok (.getfield 21, 3) := dk_180 0 21 (dk_at dksX5_goesAsDriven_1 2 rfl rfl)
theorem dX5_goesAsDriven_29 : decode cX5_goesAsDriven 29 = .ok (.bipush 6, 2) := dk_16 6 (dk_at dksX5_goesAsDriven_1 5 rfl rfl)
theorem dX5_goesAsDriven_31 : decode cX5_goesAsDriven 31 = .ok (.iload_n 1, 1) := dk_27 (dk_at dksX5_goesAsDriven_1 7 rfl rfl)
theorem dX5_goesAsDriven_32 : decode cX5_goesAsDriven 32 = .ok (.imul, 1) := dk_104 (dk_at dksX5_goesAsDriven_1 8 rfl rfl)
theorem dX5_goesAsDriven_33 : decode cX5_goesAsDriven 33 = .ok (.iload_n 3, 1) := dk_29 (dk_at dksX5_goesAsDriven_1 9 rfl rfl)
theorem dX5_goesAsDriven_34 : decode cX5_goesAsDriven 34 = .ok (.iadd, 1) := dk_96 (dk_at dksX5_goesAsDriven_1 10 rfl rfl)
theorem dX5_goesAsDriven_35 : decode cX5_goesAsDriven 35 = .ok (.iaload, 1) := dk_46 (dk_at dksX5_goesAsDriven_1 11 rfl rfl)
theorem dX5_goesAsDriven_36 : decode cX5_goesAsDriven 36 = .ok (.iastore, 1) := dk_79 (dk_at dksX5_goesAsDriven_1 12 rfl rfl)
theorem dX5_goesAsDriven_37 : decode cX5_goesAsDriven 37 = .ok (.iinc 3 1, 3) := dk_132 3 1 (dk_at dksX5_goesAsDriven_1 13 rfl rfl)
theorem dX5_goesAsDriven_40 : decode cX5_goesAsDriven 40 = .ok (.goto (-28), 3) := dk_167 255 228 (dk_at dksX5_goesAsDriven_1 16 rfl rfl)
theorem dX5_goesAsDriven_43 : decode cX5_goesAsDriven 43 = .ok (.aload_n 0, 1) := dk_42 (dk_at dksX5_goesAsDriven_1 19 rfl rfl)
theorem dX5_goesAsDriven_44 : decode cX5_goesAsDriven 44 = .ok (.iload_n 1, 1) := dk_27 (dk_at dksX5_goesAsDriven_1 20 rfl rfl)
theorem dX5_goesAsDriven_45 : decode cX5_goesAsDriven 45 = .ok (.iload_n 2, 1) := dk_28 (dk_at dksX5_goesAsDriven_1 21 rfl rfl)
theorem dX5_goesAsDriven_46 : decode cX5_goesAsDriven 46 = .ok (.invokevirtual 444, 3) := dk_182 1 188 (dk_at dksX5_goesAsDriven_2 0 rfl rfl)
theorem dX5_goesAsDriven_49 : decode cX5_goesAsDriven 49 = .ok (.return_, 1) := dk_177 (dk_at dksX5_goesAsDriven_2 3 rfl rfl)
abbrev cX5_goes : ByteArray := prog_15_method_45_code
def yX5_goes : MethodName := ⟨RX5, "goes", "(II)V"⟩
def dkwX5_goes_9 : List UInt8 := [167, 255, 85, 177]
abbrev dktX5_goes_9 : List UInt8 := dkwX5_goes_9 ++ []
def dkwX5_goes_8 : List UInt8 := [167, 0, 4, 3, 96, 96, 62, 42, 180, 1, 138, 180, 1, 73, 21, 6, 46, 54, 4, 132, 5, 1]
abbrev dktX5_goes_8 : List UInt8 := dkwX5_goes_8 ++ dktX5_goes_9
def dkwX5_goes_7 : List UInt8 := [167, 0, 4, 3, 96, 28, 21, 6, 184, 1, 184, 153, 0, 16, 42, 180, 1, 138, 180, 1, 80, 21, 6, 46]
abbrev dktX5_goes_7 : List UInt8 := dkwX5_goes_7 ++ dktX5_goes_8
def dkwX5_goes_6 : List UInt8 := [180, 1, 86, 21, 6, 51, 153, 0, 19, 42, 180, 1, 138, 180, 1, 106, 27, 51, 153, 0, 7, 8]
abbrev dktX5_goes_6 : List UInt8 := dkwX5_goes_6 ++ dktX5_goes_7
def dkwX5_goes_5 : List UInt8 := [4, 21, 6, 120, 128, 181, 1, 172, 29, 42, 180, 1, 138, 180, 1, 78, 21, 6, 46, 42, 180, 1, 138]
abbrev dktX5_goes_5 : List UInt8 := dkwX5_goes_5 ++ dktX5_goes_6
def dkwX5_goes_4 : List UInt8 := [163, 0, 19, 42, 27, 29, 182, 1, 181, 42, 180, 1, 138, 180, 0, 220, 162, 0, 16, 42, 89, 180, 1, 172]
abbrev dktX5_goes_4 : List UInt8 := dkwX5_goes_4 ++ dktX5_goes_5
def dkwX5_goes_3 : List UInt8 := [46, 182, 1, 178, 96, 62, 42, 180, 0, 27, 21, 5, 29, 79, 29, 42, 180, 1, 138, 180, 1, 7]
abbrev dktX5_goes_3 : List UInt8 := dkwX5_goes_3 ++ dktX5_goes_4
def dkwX5_goes_2 : List UInt8 := [180, 0, 24, 21, 5, 46, 54, 6, 29, 42, 180, 1, 138, 21, 4, 42, 180, 1, 138, 180, 1, 73, 21, 6]
abbrev dktX5_goes_2 : List UInt8 := dkwX5_goes_2 ++ dktX5_goes_3
def dkwX5_goes_1 : List UInt8 := [27, 46, 46, 54, 4, 42, 3, 181, 1, 172, 3, 54, 5, 21, 5, 42, 180, 1, 175, 162, 0, 168, 42]
abbrev dktX5_goes_1 : List UInt8 := dkwX5_goes_1 ++ dktX5_goes_2
def dkwX5_goes_0 : List UInt8 := [42, 180, 1, 138, 180, 1, 100, 27, 46, 62, 42, 180, 1, 138, 180, 1, 17, 42, 180, 1, 138, 180, 1, 98]
abbrev dktX5_goes_0 : List UInt8 := dkwX5_goes_0 ++ dktX5_goes_1
theorem dksX5_goes_0 : cX5_goes.data.toList.drop 0 = dktX5_goes_0 := by decide +kernel
theorem dksX5_goes_1 : cX5_goes.data.toList.drop 24 = dktX5_goes_1 := dk_seg dksX5_goes_0 24 rfl rfl
theorem dksX5_goes_2 : cX5_goes.data.toList.drop 47 = dktX5_goes_2 := dk_seg dksX5_goes_1 23 rfl rfl
theorem dksX5_goes_3 : cX5_goes.data.toList.drop 71 = dktX5_goes_3 := dk_seg dksX5_goes_2 24 rfl rfl
theorem dksX5_goes_4 : cX5_goes.data.toList.drop 93 = dktX5_goes_4 := dk_seg dksX5_goes_3 22 rfl rfl
theorem dksX5_goes_5 : cX5_goes.data.toList.drop 117 = dktX5_goes_5 := dk_seg dksX5_goes_4 24 rfl rfl
theorem dksX5_goes_6 : cX5_goes.data.toList.drop 140 = dktX5_goes_6 := dk_seg dksX5_goes_5 23 rfl rfl
theorem dksX5_goes_7 : cX5_goes.data.toList.drop 162 = dktX5_goes_7 := dk_seg dksX5_goes_6 22 rfl rfl
theorem dksX5_goes_8 : cX5_goes.data.toList.drop 186 = dktX5_goes_8 := dk_seg dksX5_goes_7 24 rfl rfl
theorem dksX5_goes_9 : cX5_goes.data.toList.drop 208 = dktX5_goes_9 := dk_seg dksX5_goes_8 22 rfl rfl
theorem dX5_goes_0 : decode cX5_goes 0 = .ok (.aload_n 0, 1) := dk_42 (dk_at dksX5_goes_0 0 rfl rfl)
theorem dX5_goes_1 : decode cX5_goes 1 = .ok (.getfield 394, 3) := dk_180 1 138 (dk_at dksX5_goes_0 1 rfl rfl)
theorem dX5_goes_4 : decode cX5_goes 4 = .ok (.getfield 356, 3) := dk_180 1 100 (dk_at dksX5_goes_0 4 rfl rfl)
theorem dX5_goes_7 : decode cX5_goes 7 = .ok (.iload_n 1, 1) := dk_27 (dk_at dksX5_goes_0 7 rfl rfl)
theorem dX5_goes_8 : decode cX5_goes 8 = .ok (.iaload, 1) := dk_46 (dk_at dksX5_goes_0 8 rfl rfl)
theorem dX5_goes_9 : decode cX5_goes 9 = .ok (.istore_n 3, 1) := dk_62 (dk_at dksX5_goes_0 9 rfl rfl)
theorem dX5_goes_10 : decode cX5_goes 10 = .ok (.aload_n 0, 1) := dk_42 (dk_at dksX5_goes_0 10 rfl rfl)
theorem dX5_goes_11 : decode cX5_goes 11 = .ok (.getfield 394, 3) := dk_180 1 138 (dk_at dksX5_goes_0 11 rfl rfl)
theorem dX5_goes_14 : decode cX5_goes 14 = .ok (.getfield 273, 3) := dk_180 1 17 (dk_at dksX5_goes_0 14 rfl rfl)
theorem dX5_goes_17 : decode cX5_goes 17 = .ok (.aload_n 0, 1) := dk_42 (dk_at dksX5_goes_0 17 rfl rfl)
theorem dX5_goes_18 : decode cX5_goes 18 = .ok (.getfield 394, 3) := dk_180 1 138 (dk_at dksX5_goes_0 18 rfl rfl)
theorem dX5_goes_21 : decode cX5_goes 21 = .ok (.getfield 354, 3) := dk_180 1 98 (dk_at dksX5_goes_0 21 rfl rfl)
theorem dX5_goes_24 : decode cX5_goes 24 = .ok (.iload_n 1, 1) := dk_27 (dk_at dksX5_goes_1 0 rfl rfl)
theorem dX5_goes_25 : decode cX5_goes 25 = .ok (.iaload, 1) := dk_46 (dk_at dksX5_goes_1 1 rfl rfl)
theorem dX5_goes_26 : decode cX5_goes 26 = .ok (.iaload, 1) := dk_46 (dk_at dksX5_goes_1 2 rfl rfl)
theorem dX5_goes_27 : decode cX5_goes 27 = .ok (.istore 4, 2) := dk_54 4 (dk_at dksX5_goes_1 3 rfl rfl)
theorem dX5_goes_29 : decode cX5_goes 29 = .ok (.aload_n 0, 1) := dk_42 (dk_at dksX5_goes_1 5 rfl rfl)
theorem dX5_goes_30 : decode cX5_goes 30 = .ok (.iconst 0, 1) := dk_3 (dk_at dksX5_goes_1 6 rfl rfl)
theorem dX5_goes_31 : decode cX5_goes 31 = .ok (.putfield 428, 3) := dk_181 1 172 (dk_at dksX5_goes_1 7 rfl rfl)
theorem dX5_goes_34 : decode cX5_goes 34 = .ok (.iconst 0, 1) := dk_3 (dk_at dksX5_goes_1 10 rfl rfl)
theorem dX5_goes_35 : decode cX5_goes 35 = .ok (.istore 5, 2) := dk_54 5 (dk_at dksX5_goes_1 11 rfl rfl)
theorem dX5_goes_37 : decode cX5_goes 37 = .ok (.iload 5, 2) := dk_21 5 (dk_at dksX5_goes_1 13 rfl rfl)
theorem dX5_goes_39 : decode cX5_goes 39 = .ok (.aload_n 0, 1) := dk_42 (dk_at dksX5_goes_1 15 rfl rfl)
theorem dX5_goes_40 : decode cX5_goes 40 = .ok (.getfield 431, 3) := dk_180 1 175 (dk_at dksX5_goes_1 16 rfl rfl)
theorem dX5_goes_43 : decode cX5_goes 43 = .ok (.if_icmp .ge 168, 3) := dk_162 0 168 (dk_at dksX5_goes_1 19 rfl rfl)
theorem dX5_goes_46 : decode cX5_goes 46 = .ok (.aload_n 0, 1) := dk_42 (dk_at dksX5_goes_1 22 rfl rfl)
theorem dX5_goes_47 : decode cX5_goes 47 = .ok (.getfield 24, 3) := dk_180 0 24 (dk_at dksX5_goes_2 0 rfl rfl)
theorem dX5_goes_50 : decode cX5_goes 50 = .ok (.iload 5, 2) := dk_21 5 (dk_at dksX5_goes_2 3 rfl rfl)
theorem dX5_goes_52 : decode cX5_goes 52 = .ok (.iaload, 1) := dk_46 (dk_at dksX5_goes_2 5 rfl rfl)
theorem dX5_goes_53 : decode cX5_goes 53 = .ok (.istore 6, 2) := dk_54 6 (dk_at dksX5_goes_2 6 rfl rfl)
theorem dX5_goes_55 : decode cX5_goes 55 = .ok (.iload_n 3, 1) := dk_29 (dk_at dksX5_goes_2 8 rfl rfl)
theorem dX5_goes_56 : decode cX5_goes 56 = .ok (.aload_n 0, 1) := dk_42 (dk_at dksX5_goes_2 9 rfl rfl)
theorem dX5_goes_57 : decode cX5_goes 57 = .ok (.getfield 394, 3) := dk_180 1 138 (dk_at dksX5_goes_2 10 rfl rfl)
theorem dX5_goes_60 : decode cX5_goes 60 = .ok (.iload 4, 2) := dk_21 4 (dk_at dksX5_goes_2 13 rfl rfl)
theorem dX5_goes_62 : decode cX5_goes 62 = .ok (.aload_n 0, 1) := dk_42 (dk_at dksX5_goes_2 15 rfl rfl)
theorem dX5_goes_63 : decode cX5_goes 63 = .ok (.getfield 394, 3) := dk_180 1 138 (dk_at dksX5_goes_2 16 rfl rfl)
theorem dX5_goes_66 : decode cX5_goes 66 = .ok (.getfield 329, 3) := dk_180 1 73 (dk_at dksX5_goes_2 19 rfl rfl)
theorem dX5_goes_69 : decode cX5_goes 69 = .ok (.iload 6, 2) := dk_21 6 (dk_at dksX5_goes_2 22 rfl rfl)
theorem dX5_goes_71 : decode cX5_goes 71 = .ok (.iaload, 1) := dk_46 (dk_at dksX5_goes_3 0 rfl rfl)
theorem dX5_goes_72 : decode cX5_goes 72 = .ok (.invokevirtual 434, 3) := dk_182 1 178 (dk_at dksX5_goes_3 1 rfl rfl)
theorem dX5_goes_75 : decode cX5_goes 75 = .ok (.iadd, 1) := dk_96 (dk_at dksX5_goes_3 4 rfl rfl)
theorem dX5_goes_76 : decode cX5_goes 76 = .ok (.istore_n 3, 1) := dk_62 (dk_at dksX5_goes_3 5 rfl rfl)
theorem dX5_goes_77 : decode cX5_goes 77 = .ok (.aload_n 0, 1) := dk_42 (dk_at dksX5_goes_3 6 rfl rfl)
theorem dX5_goes_78 : decode cX5_goes 78 = .ok (.getfield 27, 3) := dk_180 0 27 (dk_at dksX5_goes_3 7 rfl rfl)
theorem dX5_goes_81 : decode cX5_goes 81 = .ok (.iload 5, 2) := dk_21 5 (dk_at dksX5_goes_3 10 rfl rfl)
theorem dX5_goes_83 : decode cX5_goes 83 = .ok (.iload_n 3, 1) := dk_29 (dk_at dksX5_goes_3 12 rfl rfl)
theorem dX5_goes_84 : decode cX5_goes 84 = .ok (.iastore, 1) := dk_79 (dk_at dksX5_goes_3 13 rfl rfl)
theorem dX5_goes_85 : decode cX5_goes 85 = .ok (.iload_n 3, 1) := dk_29 (dk_at dksX5_goes_3 14 rfl rfl)
theorem dX5_goes_86 : decode cX5_goes 86 = .ok (.aload_n 0, 1) := dk_42 (dk_at dksX5_goes_3 15 rfl rfl)
theorem dX5_goes_87 : decode cX5_goes 87 = .ok (.getfield 394, 3) := dk_180 1 138 (dk_at dksX5_goes_3 16 rfl rfl)
theorem dX5_goes_90 : decode cX5_goes 90 = .ok (.getfield 263, 3) := dk_180 1 7 (dk_at dksX5_goes_3 19 rfl rfl)
theorem dX5_goes_93 : decode cX5_goes 93 = .ok (.if_icmp .gt 19, 3) := dk_163 0 19 (dk_at dksX5_goes_4 0 rfl rfl)
theorem dX5_goes_96 : decode cX5_goes 96 = .ok (.aload_n 0, 1) := dk_42 (dk_at dksX5_goes_4 3 rfl rfl)
theorem dX5_goes_97 : decode cX5_goes 97 = .ok (.iload_n 1, 1) := dk_27 (dk_at dksX5_goes_4 4 rfl rfl)
theorem dX5_goes_98 : decode cX5_goes 98 = .ok (.iload_n 3, 1) := dk_29 (dk_at dksX5_goes_4 5 rfl rfl)
theorem dX5_goes_99 : decode cX5_goes 99 = .ok (.invokevirtual 437, 3) := dk_182 1 181 (dk_at dksX5_goes_4 6 rfl rfl)
theorem dX5_goes_102 : decode cX5_goes 102 = .ok (.aload_n 0, 1) := dk_42 (dk_at dksX5_goes_4 9 rfl rfl)
theorem dX5_goes_103 : decode cX5_goes 103 = .ok (.getfield 394, 3) := dk_180 1 138 (dk_at dksX5_goes_4 10 rfl rfl)
theorem dX5_goes_106 : decode cX5_goes 106 = .ok (.getfield 220, 3) := dk_180 0 220 (dk_at dksX5_goes_4 13 rfl rfl)
theorem dX5_goes_109 : decode cX5_goes 109 = .ok (.if_icmp .ge 16, 3) := dk_162 0 16 (dk_at dksX5_goes_4 16 rfl rfl)
theorem dX5_goes_112 : decode cX5_goes 112 = .ok (.aload_n 0, 1) := dk_42 (dk_at dksX5_goes_4 19 rfl rfl)
theorem dX5_goes_113 : decode cX5_goes 113 = .ok (.dup, 1) := dk_89 (dk_at dksX5_goes_4 20 rfl rfl)
theorem dX5_goes_114 : decode cX5_goes 114 = .ok (.getfield 428, 3) := dk_180 1 172 (dk_at dksX5_goes_4 21 rfl rfl)
theorem dX5_goes_117 : decode cX5_goes 117 = .ok (.iconst 1, 1) := dk_4 (dk_at dksX5_goes_5 0 rfl rfl)
theorem dX5_goes_118 : decode cX5_goes 118 = .ok (.iload 6, 2) := dk_21 6 (dk_at dksX5_goes_5 1 rfl rfl)
theorem dX5_goes_120 : decode cX5_goes 120 = .ok (.ishl, 1) := dk_120 (dk_at dksX5_goes_5 3 rfl rfl)
theorem dX5_goes_121 : decode cX5_goes 121 = .ok (.ior, 1) := dk_128 (dk_at dksX5_goes_5 4 rfl rfl)
theorem dX5_goes_122 : decode cX5_goes 122 = .ok (.putfield 428, 3) := dk_181 1 172 (dk_at dksX5_goes_5 5 rfl rfl)
theorem dX5_goes_125 : decode cX5_goes 125 = .ok (.iload_n 3, 1) := dk_29 (dk_at dksX5_goes_5 8 rfl rfl)
theorem dX5_goes_126 : decode cX5_goes 126 = .ok (.aload_n 0, 1) := dk_42 (dk_at dksX5_goes_5 9 rfl rfl)
theorem dX5_goes_127 : decode cX5_goes 127 = .ok (.getfield 394, 3) := dk_180 1 138 (dk_at dksX5_goes_5 10 rfl rfl)
theorem dX5_goes_130 : decode cX5_goes 130 = .ok (.getfield 334, 3) := dk_180 1 78 (dk_at dksX5_goes_5 13 rfl rfl)
theorem dX5_goes_133 : decode cX5_goes 133 = .ok (.iload 6, 2) := dk_21 6 (dk_at dksX5_goes_5 16 rfl rfl)
theorem dX5_goes_135 : decode cX5_goes 135 = .ok (.iaload, 1) := dk_46 (dk_at dksX5_goes_5 18 rfl rfl)
theorem dX5_goes_136 : decode cX5_goes 136 = .ok (.aload_n 0, 1) := dk_42 (dk_at dksX5_goes_5 19 rfl rfl)
theorem dX5_goes_137 : decode cX5_goes 137 = .ok (.getfield 394, 3) := dk_180 1 138 (dk_at dksX5_goes_5 20 rfl rfl)
theorem dX5_goes_140 : decode cX5_goes 140 = .ok (.getfield 342, 3) := dk_180 1 86 (dk_at dksX5_goes_6 0 rfl rfl)
theorem dX5_goes_143 : decode cX5_goes 143 = .ok (.iload 6, 2) := dk_21 6 (dk_at dksX5_goes_6 3 rfl rfl)
theorem dX5_goes_145 : decode cX5_goes 145 = .ok (.baload, 1) := dk_51 (dk_at dksX5_goes_6 5 rfl rfl)
theorem dX5_goes_146 : decode cX5_goes 146 = .ok (.ifCond .eq 19, 3) := dk_153 0 19 (dk_at dksX5_goes_6 6 rfl rfl)
theorem dX5_goes_149 : decode cX5_goes 149 = .ok (.aload_n 0, 1) := dk_42 (dk_at dksX5_goes_6 9 rfl rfl)
theorem dX5_goes_150 : decode cX5_goes 150 = .ok (.getfield 394, 3) := dk_180 1 138 (dk_at dksX5_goes_6 10 rfl rfl)
theorem dX5_goes_153 : decode cX5_goes 153 = .ok (.getfield 362, 3) := dk_180 1 106 (dk_at dksX5_goes_6 13 rfl rfl)
theorem dX5_goes_156 : decode cX5_goes 156 = .ok (.iload_n 1, 1) := dk_27 (dk_at dksX5_goes_6 16 rfl rfl)
theorem dX5_goes_157 : decode cX5_goes 157 = .ok (.baload, 1) := dk_51 (dk_at dksX5_goes_6 17 rfl rfl)
theorem dX5_goes_158 : decode cX5_goes 158 = .ok (.ifCond .eq 7, 3) := dk_153 0 7 (dk_at dksX5_goes_6 18 rfl rfl)
theorem dX5_goes_161 : decode cX5_goes 161 = .ok (.iconst 5, 1) := dk_8 (dk_at dksX5_goes_6 21 rfl rfl)
theorem dX5_goes_162 : decode cX5_goes 162 = .ok (.goto 4, 3) := dk_167 0 4 (dk_at dksX5_goes_7 0 rfl rfl)
theorem dX5_goes_165 : decode cX5_goes 165 = .ok (.iconst 0, 1) := dk_3 (dk_at dksX5_goes_7 3 rfl rfl)
theorem dX5_goes_166 : decode cX5_goes 166 = .ok (.iadd, 1) := dk_96 (dk_at dksX5_goes_7 4 rfl rfl)
theorem dX5_goes_167 : decode cX5_goes 167 = .ok (.iload_n 2, 1) := dk_28 (dk_at dksX5_goes_7 5 rfl rfl)
theorem dX5_goes_168 : decode cX5_goes 168 = .ok (.iload 6, 2) := dk_21 6 (dk_at dksX5_goes_7 6 rfl rfl)
theorem dX5_goes_170 : decode cX5_goes 170 = .ok (.invokestatic 440, 3) := dk_184 1 184 (dk_at dksX5_goes_7 8 rfl rfl)
theorem dX5_goes_173 : decode cX5_goes 173 = .ok (.ifCond .eq 16, 3) := dk_153 0 16 (dk_at dksX5_goes_7 11 rfl rfl)
theorem dX5_goes_176 : decode cX5_goes 176 = .ok (.aload_n 0, 1) := dk_42 (dk_at dksX5_goes_7 14 rfl rfl)
theorem dX5_goes_177 : decode cX5_goes 177 = .ok (.getfield 394, 3) := dk_180 1 138 (dk_at dksX5_goes_7 15 rfl rfl)
theorem dX5_goes_180 : decode cX5_goes 180 = .ok (.getfield 336, 3) := dk_180 1 80 (dk_at dksX5_goes_7 18 rfl rfl)
theorem dX5_goes_183 : decode cX5_goes 183 = .ok (.iload 6, 2) := dk_21 6 (dk_at dksX5_goes_7 21 rfl rfl)
theorem dX5_goes_185 : decode cX5_goes 185 = .ok (.iaload, 1) := dk_46 (dk_at dksX5_goes_7 23 rfl rfl)
theorem dX5_goes_186 : decode cX5_goes 186 = .ok (.goto 4, 3) := dk_167 0 4 (dk_at dksX5_goes_8 0 rfl rfl)
theorem dX5_goes_189 : decode cX5_goes 189 = .ok (.iconst 0, 1) := dk_3 (dk_at dksX5_goes_8 3 rfl rfl)
theorem dX5_goes_190 : decode cX5_goes 190 = .ok (.iadd, 1) := dk_96 (dk_at dksX5_goes_8 4 rfl rfl)
theorem dX5_goes_191 : decode cX5_goes 191 = .ok (.iadd, 1) := dk_96 (dk_at dksX5_goes_8 5 rfl rfl)
theorem dX5_goes_192 : decode cX5_goes 192 = .ok (.istore_n 3, 1) := dk_62 (dk_at dksX5_goes_8 6 rfl rfl)
theorem dX5_goes_193 : decode cX5_goes 193 = .ok (.aload_n 0, 1) := dk_42 (dk_at dksX5_goes_8 7 rfl rfl)
theorem dX5_goes_194 : decode cX5_goes 194 = .ok (.getfield 394, 3) := dk_180 1 138 (dk_at dksX5_goes_8 8 rfl rfl)
theorem dX5_goes_197 : decode cX5_goes 197 = .ok (.getfield 329, 3) := dk_180 1 73 (dk_at dksX5_goes_8 11 rfl rfl)
theorem dX5_goes_200 : decode cX5_goes 200 = .ok (.iload 6, 2) := dk_21 6 (dk_at dksX5_goes_8 14 rfl rfl)
theorem dX5_goes_202 : decode cX5_goes 202 = .ok (.iaload, 1) := dk_46 (dk_at dksX5_goes_8 16 rfl rfl)
theorem dX5_goes_203 : decode cX5_goes 203 = .ok (.istore 4, 2) := dk_54 4 (dk_at dksX5_goes_8 17 rfl rfl)
theorem dX5_goes_205 : decode cX5_goes 205 = .ok (.iinc 5 1, 3) := dk_132 5 1 (dk_at dksX5_goes_8 19 rfl rfl)
theorem dX5_goes_208 : decode cX5_goes 208 = .ok (.goto (-171), 3) := dk_167 255 85 (dk_at dksX5_goes_9 0 rfl rfl)
theorem dX5_goes_211 : decode cX5_goes 211 = .ok (.return_, 1) := dk_177 (dk_at dksX5_goes_9 3 rfl rfl)
abbrev cX5_heatBy : ByteArray := prog_15_method_46_code
def yX5_heatBy : MethodName := ⟨RX5, "heatBy", "(II)I"⟩
def dkwX5_heatBy_1 : List UInt8 := [27, 46, 28, 42, 180, 1, 138, 180, 1, 100, 27, 46, 100, 104, 16, 10, 108, 100, 172]
abbrev dktX5_heatBy_1 : List UInt8 := dkwX5_heatBy_1 ++ []
def dkwX5_heatBy_0 : List UInt8 := [42, 180, 1, 138, 180, 1, 20, 42, 180, 1, 138, 180, 1, 98, 27, 46, 46, 42, 180, 1, 138, 180, 1, 104]
abbrev dktX5_heatBy_0 : List UInt8 := dkwX5_heatBy_0 ++ dktX5_heatBy_1
theorem dksX5_heatBy_0 : cX5_heatBy.data.toList.drop 0 = dktX5_heatBy_0 := by decide +kernel
theorem dksX5_heatBy_1 : cX5_heatBy.data.toList.drop 24 = dktX5_heatBy_1 := dk_seg dksX5_heatBy_0 24 rfl rfl
theorem dX5_heatBy_0 : decode cX5_heatBy 0 = .ok (.aload_n 0, 1) := dk_42 (dk_at dksX5_heatBy_0 0 rfl rfl)
theorem dX5_heatBy_1 : decode cX5_heatBy 1 = .ok (.getfield 394, 3) := dk_180 1 138 (dk_at dksX5_heatBy_0 1 rfl rfl)
theorem dX5_heatBy_4 : decode cX5_heatBy 4 = .ok (.getfield 276, 3) := dk_180 1 20 (dk_at dksX5_heatBy_0 4 rfl rfl)
theorem dX5_heatBy_7 : decode cX5_heatBy 7 = .ok (.aload_n 0, 1) := dk_42 (dk_at dksX5_heatBy_0 7 rfl rfl)
theorem dX5_heatBy_8 : decode cX5_heatBy 8 = .ok (.getfield 394, 3) := dk_180 1 138 (dk_at dksX5_heatBy_0 8 rfl rfl)
theorem dX5_heatBy_11 : decode cX5_heatBy 11 = .ok (.getfield 354, 3) := dk_180 1 98 (dk_at dksX5_heatBy_0 11 rfl rfl)
theorem dX5_heatBy_14 : decode cX5_heatBy 14 = .ok (.iload_n 1, 1) := dk_27 (dk_at dksX5_heatBy_0 14 rfl rfl)
theorem dX5_heatBy_15 : decode cX5_heatBy 15 = .ok (.iaload, 1) := dk_46 (dk_at dksX5_heatBy_0 15 rfl rfl)
theorem dX5_heatBy_16 : decode cX5_heatBy 16 = .ok (.iaload, 1) := dk_46 (dk_at dksX5_heatBy_0 16 rfl rfl)
theorem dX5_heatBy_17 : decode cX5_heatBy 17 = .ok (.aload_n 0, 1) := dk_42 (dk_at dksX5_heatBy_0 17 rfl rfl)
theorem dX5_heatBy_18 : decode cX5_heatBy 18 = .ok (.getfield 394, 3) := dk_180 1 138 (dk_at dksX5_heatBy_0 18 rfl rfl)
theorem dX5_heatBy_21 : decode cX5_heatBy 21 = .ok (.getfield 360, 3) := dk_180 1 104 (dk_at dksX5_heatBy_0 21 rfl rfl)
theorem dX5_heatBy_24 : decode cX5_heatBy 24 = .ok (.iload_n 1, 1) := dk_27 (dk_at dksX5_heatBy_1 0 rfl rfl)
theorem dX5_heatBy_25 : decode cX5_heatBy 25 = .ok (.iaload, 1) := dk_46 (dk_at dksX5_heatBy_1 1 rfl rfl)
theorem dX5_heatBy_26 : decode cX5_heatBy 26 = .ok (.iload_n 2, 1) := dk_28 (dk_at dksX5_heatBy_1 2 rfl rfl)
theorem dX5_heatBy_27 : decode cX5_heatBy 27 = .ok (.aload_n 0, 1) := dk_42 (dk_at dksX5_heatBy_1 3 rfl rfl)
theorem dX5_heatBy_28 : decode cX5_heatBy 28 = .ok (.getfield 394, 3) := dk_180 1 138 (dk_at dksX5_heatBy_1 4 rfl rfl)
theorem dX5_heatBy_31 : decode cX5_heatBy 31 = .ok (.getfield 356, 3) := dk_180 1 100 (dk_at dksX5_heatBy_1 7 rfl rfl)
theorem dX5_heatBy_34 : decode cX5_heatBy 34 = .ok (.iload_n 1, 1) := dk_27 (dk_at dksX5_heatBy_1 10 rfl rfl)
theorem dX5_heatBy_35 : decode cX5_heatBy 35 = .ok (.iaload, 1) := dk_46 (dk_at dksX5_heatBy_1 11 rfl rfl)
theorem dX5_heatBy_36 : decode cX5_heatBy 36 = .ok (.isub, 1) := dk_100 (dk_at dksX5_heatBy_1 12 rfl rfl)
theorem dX5_heatBy_37 : decode cX5_heatBy 37 = .ok (.imul, 1) := dk_104 (dk_at dksX5_heatBy_1 13 rfl rfl)
theorem dX5_heatBy_38 : decode cX5_heatBy 38 = .ok (.bipush 10, 2) := dk_16 10 (dk_at dksX5_heatBy_1 14 rfl rfl)
theorem dX5_heatBy_40 : decode cX5_heatBy 40 = .ok (.idiv, 1) := dk_108 (dk_at dksX5_heatBy_1 16 rfl rfl)
theorem dX5_heatBy_41 : decode cX5_heatBy 41 = .ok (.isub, 1) := dk_100 (dk_at dksX5_heatBy_1 17 rfl rfl)
theorem dX5_heatBy_42 : decode cX5_heatBy 42 = .ok (.ireturn, 1) := dk_172 (dk_at dksX5_heatBy_1 18 rfl rfl)
abbrev cX5_has : ByteArray := prog_15_method_40_code
def yX5_has : MethodName := ⟨RX5, "has", "(II)Z"⟩
def dkwX5_has_0 : List UInt8 := [26, 27, 122, 4, 126, 4, 160, 0, 7, 4, 167, 0, 4, 3, 172]
abbrev dktX5_has_0 : List UInt8 := dkwX5_has_0 ++ []
theorem dksX5_has_0 : cX5_has.data.toList.drop 0 = dktX5_has_0 := by decide +kernel
theorem dX5_has_0 : decode cX5_has 0 = .ok (.iload_n 0, 1) := dk_26 (dk_at dksX5_has_0 0 rfl rfl)
theorem dX5_has_1 : decode cX5_has 1 = .ok (.iload_n 1, 1) := dk_27 (dk_at dksX5_has_0 1 rfl rfl)
theorem dX5_has_2 : decode cX5_has 2 = .ok (.ishr, 1) := dk_122 (dk_at dksX5_has_0 2 rfl rfl)
theorem dX5_has_3 : decode cX5_has 3 = .ok (.iconst 1, 1) := dk_4 (dk_at dksX5_has_0 3 rfl rfl)
theorem dX5_has_4 : decode cX5_has 4 = .ok (.iand, 1) := dk_126 (dk_at dksX5_has_0 4 rfl rfl)
theorem dX5_has_5 : decode cX5_has 5 = .ok (.iconst 1, 1) := dk_4 (dk_at dksX5_has_0 5 rfl rfl)
theorem dX5_has_6 : decode cX5_has 6 = .ok (.if_icmp .ne 7, 3) := dk_160 0 7 (dk_at dksX5_has_0 6 rfl rfl)
theorem dX5_has_9 : decode cX5_has 9 = .ok (.iconst 1, 1) := dk_4 (dk_at dksX5_has_0 9 rfl rfl)
theorem dX5_has_10 : decode cX5_has 10 = .ok (.goto 4, 3) := dk_167 0 4 (dk_at dksX5_has_0 10 rfl rfl)
theorem dX5_has_13 : decode cX5_has 13 = .ok (.iconst 0, 1) := dk_3 (dk_at dksX5_has_0 13 rfl rfl)
theorem dX5_has_14 : decode cX5_has 14 = .ok (.ireturn, 1) := dk_172 (dk_at dksX5_has_0 14 rfl rfl)
abbrev cX5_comesTo : ByteArray := prog_15_method_48_code
def yX5_comesTo : MethodName := ⟨RX5, "comesTo", "(I)I"⟩
def dkwX5_comesTo_1 : List UInt8 := [172]
abbrev dktX5_comesTo_1 : List UInt8 := dkwX5_comesTo_1 ++ []
def dkwX5_comesTo_0 : List UInt8 := [3, 61, 42, 180, 0, 24, 28, 46, 27, 159, 0, 9, 132, 2, 1, 167, 255, 243, 42, 180, 0, 27, 28, 46]
abbrev dktX5_comesTo_0 : List UInt8 := dkwX5_comesTo_0 ++ dktX5_comesTo_1
theorem dksX5_comesTo_0 : cX5_comesTo.data.toList.drop 0 = dktX5_comesTo_0 := by decide +kernel
theorem dksX5_comesTo_1 : cX5_comesTo.data.toList.drop 24 = dktX5_comesTo_1 := dk_seg dksX5_comesTo_0 24 rfl rfl
theorem dX5_comesTo_0 : decode cX5_comesTo 0 = .ok (.iconst 0, 1) := dk_3 (dk_at dksX5_comesTo_0 0 rfl rfl)
theorem dX5_comesTo_1 : decode cX5_comesTo 1 = .ok (.istore_n 2, 1) := dk_61 (dk_at dksX5_comesTo_0 1 rfl rfl)
theorem dX5_comesTo_2 : decode cX5_comesTo 2 = .ok (.aload_n 0, 1) := dk_42 (dk_at dksX5_comesTo_0 2 rfl rfl)
theorem dX5_comesTo_3 : decode cX5_comesTo 3 = .ok (.getfield 24, 3) := dk_180 0 24 (dk_at dksX5_comesTo_0 3 rfl rfl)
theorem dX5_comesTo_6 : decode cX5_comesTo 6 = .ok (.iload_n 2, 1) := dk_28 (dk_at dksX5_comesTo_0 6 rfl rfl)
theorem dX5_comesTo_7 : decode cX5_comesTo 7 = .ok (.iaload, 1) := dk_46 (dk_at dksX5_comesTo_0 7 rfl rfl)
theorem dX5_comesTo_8 : decode cX5_comesTo 8 = .ok (.iload_n 1, 1) := dk_27 (dk_at dksX5_comesTo_0 8 rfl rfl)
theorem dX5_comesTo_9 : decode cX5_comesTo 9 = .ok (.if_icmp .eq 9, 3) := dk_159 0 9 (dk_at dksX5_comesTo_0 9 rfl rfl)
theorem dX5_comesTo_12 : decode cX5_comesTo 12 = .ok (.iinc 2 1, 3) := dk_132 2 1 (dk_at dksX5_comesTo_0 12 rfl rfl)
theorem dX5_comesTo_15 : decode cX5_comesTo 15 = .ok (.goto (-13), 3) := dk_167 255 243 (dk_at dksX5_comesTo_0 15 rfl rfl)
theorem dX5_comesTo_18 : decode cX5_comesTo 18 = .ok (.aload_n 0, 1) := dk_42 (dk_at dksX5_comesTo_0 18 rfl rfl)
theorem dX5_comesTo_19 : decode cX5_comesTo 19 = .ok (.getfield 27, 3) := dk_180 0 27 (dk_at dksX5_comesTo_0 19 rfl rfl)
theorem dX5_comesTo_22 : decode cX5_comesTo 22 = .ok (.iload_n 2, 1) := dk_28 (dk_at dksX5_comesTo_0 22 rfl rfl)
theorem dX5_comesTo_23 : decode cX5_comesTo 23 = .ok (.iaload, 1) := dk_46 (dk_at dksX5_comesTo_0 23 rfl rfl)
theorem dX5_comesTo_24 : decode cX5_comesTo 24 = .ok (.ireturn, 1) := dk_172 (dk_at dksX5_comesTo_1 0 rfl rfl)
abbrev cX5_heat : ByteArray := prog_15_method_50_code
def yX5_heat : MethodName := ⟨RX5, "heat", "(I)I"⟩
def dkwX5_heat_2 : List UInt8 := [28, 42, 27, 182, 1, 195, 182, 1, 181, 182, 1, 160, 172]
abbrev dktX5_heat_2 : List UInt8 := dkwX5_heat_2 ++ []
def dkwX5_heat_1 : List UInt8 := [61, 28, 2, 160, 0, 10, 42, 16, 6, 182, 1, 198, 172, 42, 28, 42, 180, 1, 141, 182, 1, 192, 42, 42]
abbrev dktX5_heat_1 : List UInt8 := dkwX5_heat_1 ++ dktX5_heat_2
def dkwX5_heat_0 : List UInt8 := [42, 3, 181, 0, 75, 42, 27, 182, 1, 166, 154, 0, 9, 42, 4, 182, 1, 198, 172, 42, 27, 182, 1, 169]
abbrev dktX5_heat_0 : List UInt8 := dkwX5_heat_0 ++ dktX5_heat_1
theorem dksX5_heat_0 : cX5_heat.data.toList.drop 0 = dktX5_heat_0 := by decide +kernel
theorem dksX5_heat_1 : cX5_heat.data.toList.drop 24 = dktX5_heat_1 := dk_seg dksX5_heat_0 24 rfl rfl
theorem dksX5_heat_2 : cX5_heat.data.toList.drop 48 = dktX5_heat_2 := dk_seg dksX5_heat_1 24 rfl rfl
theorem dX5_heat_0 : decode cX5_heat 0 = .ok (.aload_n 0, 1) := dk_42 (dk_at dksX5_heat_0 0 rfl rfl)
theorem dX5_heat_1 : decode cX5_heat 1 = .ok (.iconst 0, 1) := dk_3 (dk_at dksX5_heat_0 1 rfl rfl)
theorem dX5_heat_2 : decode cX5_heat 2 = .ok (.putfield 75, 3) := dk_181 0 75 (dk_at dksX5_heat_0 2 rfl rfl)
theorem dX5_heat_5 : decode cX5_heat 5 = .ok (.aload_n 0, 1) := dk_42 (dk_at dksX5_heat_0 5 rfl rfl)
theorem dX5_heat_6 : decode cX5_heat 6 = .ok (.iload_n 1, 1) := dk_27 (dk_at dksX5_heat_0 6 rfl rfl)
theorem dX5_heat_7 : decode cX5_heat 7 = .ok (.invokevirtual 422, 3) := dk_182 1 166 (dk_at dksX5_heat_0 7 rfl rfl)
theorem dX5_heat_10 : decode cX5_heat 10 = .ok (.ifCond .ne 9, 3) := dk_154 0 9 (dk_at dksX5_heat_0 10 rfl rfl)
theorem dX5_heat_13 : decode cX5_heat 13 = .ok (.aload_n 0, 1) := dk_42 (dk_at dksX5_heat_0 13 rfl rfl)
theorem dX5_heat_14 : decode cX5_heat 14 = .ok (.iconst 1, 1) := dk_4 (dk_at dksX5_heat_0 14 rfl rfl)
theorem dX5_heat_15 : decode cX5_heat 15 = .ok (.invokevirtual 454, 3) := dk_182 1 198 (dk_at dksX5_heat_0 15 rfl rfl)
theorem dX5_heat_18 : decode cX5_heat 18 = .ok (.ireturn, 1) := dk_172 (dk_at dksX5_heat_0 18 rfl rfl)
theorem dX5_heat_19 : decode cX5_heat 19 = .ok (.aload_n 0, 1) := dk_42 (dk_at dksX5_heat_0 19 rfl rfl)
theorem dX5_heat_20 : decode cX5_heat 20 = .ok (.iload_n 1, 1) := dk_27 (dk_at dksX5_heat_0 20 rfl rfl)
theorem dX5_heat_21 : decode cX5_heat 21 = .ok (.invokevirtual 425, 3) := dk_182 1 169 (dk_at dksX5_heat_0 21 rfl rfl)
theorem dX5_heat_24 : decode cX5_heat 24 = .ok (.istore_n 2, 1) := dk_61 (dk_at dksX5_heat_1 0 rfl rfl)
theorem dX5_heat_25 : decode cX5_heat 25 = .ok (.iload_n 2, 1) := dk_28 (dk_at dksX5_heat_1 1 rfl rfl)
theorem dX5_heat_26 : decode cX5_heat 26 = .ok (.iconst (-1), 1) := dk_2 (dk_at dksX5_heat_1 2 rfl rfl)
theorem dX5_heat_27 : decode cX5_heat 27 = .ok (.if_icmp .ne 10, 3) := dk_160 0 10 (dk_at dksX5_heat_1 3 rfl rfl)
theorem dX5_heat_30 : decode cX5_heat 30 = .ok (.aload_n 0, 1) := dk_42 (dk_at dksX5_heat_1 6 rfl rfl)
theorem dX5_heat_31 : decode cX5_heat 31 = .ok (.bipush 6, 2) := dk_16 6 (dk_at dksX5_heat_1 7 rfl rfl)
theorem dX5_heat_33 : decode cX5_heat 33 = .ok (.invokevirtual 454, 3) := dk_182 1 198 (dk_at dksX5_heat_1 9 rfl rfl)
theorem dX5_heat_36 : decode cX5_heat 36 = .ok (.ireturn, 1) := dk_172 (dk_at dksX5_heat_1 12 rfl rfl)
theorem dX5_heat_37 : decode cX5_heat 37 = .ok (.aload_n 0, 1) := dk_42 (dk_at dksX5_heat_1 13 rfl rfl)
theorem dX5_heat_38 : decode cX5_heat 38 = .ok (.iload_n 2, 1) := dk_28 (dk_at dksX5_heat_1 14 rfl rfl)
theorem dX5_heat_39 : decode cX5_heat 39 = .ok (.aload_n 0, 1) := dk_42 (dk_at dksX5_heat_1 15 rfl rfl)
theorem dX5_heat_40 : decode cX5_heat 40 = .ok (.getfield 397, 3) := dk_180 1 141 (dk_at dksX5_heat_1 16 rfl rfl)
theorem dX5_heat_43 : decode cX5_heat 43 = .ok (.invokevirtual 448, 3) := dk_182 1 192 (dk_at dksX5_heat_1 19 rfl rfl)
theorem dX5_heat_46 : decode cX5_heat 46 = .ok (.aload_n 0, 1) := dk_42 (dk_at dksX5_heat_1 22 rfl rfl)
theorem dX5_heat_47 : decode cX5_heat 47 = .ok (.aload_n 0, 1) := dk_42 (dk_at dksX5_heat_1 23 rfl rfl)
theorem dX5_heat_48 : decode cX5_heat 48 = .ok (.iload_n 2, 1) := dk_28 (dk_at dksX5_heat_2 0 rfl rfl)
theorem dX5_heat_49 : decode cX5_heat 49 = .ok (.aload_n 0, 1) := dk_42 (dk_at dksX5_heat_2 1 rfl rfl)
theorem dX5_heat_50 : decode cX5_heat 50 = .ok (.iload_n 1, 1) := dk_27 (dk_at dksX5_heat_2 2 rfl rfl)
theorem dX5_heat_51 : decode cX5_heat 51 = .ok (.invokevirtual 451, 3) := dk_182 1 195 (dk_at dksX5_heat_2 3 rfl rfl)
theorem dX5_heat_54 : decode cX5_heat 54 = .ok (.invokevirtual 437, 3) := dk_182 1 181 (dk_at dksX5_heat_2 6 rfl rfl)
theorem dX5_heat_57 : decode cX5_heat 57 = .ok (.invokevirtual 416, 3) := dk_182 1 160 (dk_at dksX5_heat_2 9 rfl rfl)
theorem dX5_heat_60 : decode cX5_heat 60 = .ok (.ireturn, 1) := dk_172 (dk_at dksX5_heat_2 12 rfl rfl)
abbrev cX5_lost : ByteArray := prog_15_method_4_code
def yX5_lost : MethodName := ⟨RX5, "lost", "(I)I"⟩
def dkwX5_lost_0 : List UInt8 := [42, 27, 182, 0, 81, 87, 17, 252, 24, 172]
abbrev dktX5_lost_0 : List UInt8 := dkwX5_lost_0 ++ []
theorem dksX5_lost_0 : cX5_lost.data.toList.drop 0 = dktX5_lost_0 := by decide +kernel
theorem dX5_lost_0 : decode cX5_lost 0 = .ok (.aload_n 0, 1) := dk_42 (dk_at dksX5_lost_0 0 rfl rfl)
theorem dX5_lost_1 : decode cX5_lost 1 = .ok (.iload_n 1, 1) := dk_27 (dk_at dksX5_lost_0 1 rfl rfl)
theorem dX5_lost_2 : decode cX5_lost 2 = .ok (.invokevirtual 81, 3) := dk_182 0 81 (dk_at dksX5_lost_0 2 rfl rfl)
theorem dX5_lost_5 : decode cX5_lost 5 = .ok (.pop, 1) := dk_87 (dk_at dksX5_lost_0 5 rfl rfl)
theorem dX5_lost_6 : decode cX5_lost 6 = .ok (.sipush (-1000), 3) := dk_17 252 24 (dk_at dksX5_lost_0 6 rfl rfl)
theorem dX5_lost_9 : decode cX5_lost 9 = .ok (.ireturn, 1) := dk_172 (dk_at dksX5_lost_0 9 rfl rfl)
abbrev cX5_bad : ByteArray := prog_15_method_51_code
def yX5_bad : MethodName := ⟨RX5, "bad", "(I)I"⟩
def dkwX5_bad_1 : List UInt8 := [180, 1, 141, 182, 1, 192, 42, 42, 180, 1, 172, 182, 1, 160, 172]
abbrev dktX5_bad_1 : List UInt8 := dkwX5_bad_1 ++ []
def dkwX5_bad_0 : List UInt8 := [42, 3, 181, 0, 75, 42, 27, 182, 1, 163, 154, 0, 9, 42, 4, 182, 0, 81, 172, 42, 27, 42]
abbrev dktX5_bad_0 : List UInt8 := dkwX5_bad_0 ++ dktX5_bad_1
theorem dksX5_bad_0 : cX5_bad.data.toList.drop 0 = dktX5_bad_0 := by decide +kernel
theorem dksX5_bad_1 : cX5_bad.data.toList.drop 22 = dktX5_bad_1 := dk_seg dksX5_bad_0 22 rfl rfl
theorem dX5_bad_0 : decode cX5_bad 0 = .ok (.aload_n 0, 1) := dk_42 (dk_at dksX5_bad_0 0 rfl rfl)
theorem dX5_bad_1 : decode cX5_bad 1 = .ok (.iconst 0, 1) := dk_3 (dk_at dksX5_bad_0 1 rfl rfl)
theorem dX5_bad_2 : decode cX5_bad 2 = .ok (.putfield 75, 3) := dk_181 0 75 (dk_at dksX5_bad_0 2 rfl rfl)
theorem dX5_bad_5 : decode cX5_bad 5 = .ok (.aload_n 0, 1) := dk_42 (dk_at dksX5_bad_0 5 rfl rfl)
theorem dX5_bad_6 : decode cX5_bad 6 = .ok (.iload_n 1, 1) := dk_27 (dk_at dksX5_bad_0 6 rfl rfl)
theorem dX5_bad_7 : decode cX5_bad 7 = .ok (.invokevirtual 419, 3) := dk_182 1 163 (dk_at dksX5_bad_0 7 rfl rfl)
theorem dX5_bad_10 : decode cX5_bad 10 = .ok (.ifCond .ne 9, 3) := dk_154 0 9 (dk_at dksX5_bad_0 10 rfl rfl)
theorem dX5_bad_13 : decode cX5_bad 13 = .ok (.aload_n 0, 1) := dk_42 (dk_at dksX5_bad_0 13 rfl rfl)
theorem dX5_bad_14 : decode cX5_bad 14 = .ok (.iconst 1, 1) := dk_4 (dk_at dksX5_bad_0 14 rfl rfl)
theorem dX5_bad_15 : decode cX5_bad 15 = .ok (.invokevirtual 81, 3) := dk_182 0 81 (dk_at dksX5_bad_0 15 rfl rfl)
theorem dX5_bad_18 : decode cX5_bad 18 = .ok (.ireturn, 1) := dk_172 (dk_at dksX5_bad_0 18 rfl rfl)
theorem dX5_bad_19 : decode cX5_bad 19 = .ok (.aload_n 0, 1) := dk_42 (dk_at dksX5_bad_0 19 rfl rfl)
theorem dX5_bad_20 : decode cX5_bad 20 = .ok (.iload_n 1, 1) := dk_27 (dk_at dksX5_bad_0 20 rfl rfl)
theorem dX5_bad_21 : decode cX5_bad 21 = .ok (.aload_n 0, 1) := dk_42 (dk_at dksX5_bad_0 21 rfl rfl)
theorem dX5_bad_22 : decode cX5_bad 22 = .ok (.getfield 397, 3) := dk_180 1 141 (dk_at dksX5_bad_1 0 rfl rfl)
theorem dX5_bad_25 : decode cX5_bad 25 = .ok (.invokevirtual 448, 3) := dk_182 1 192 (dk_at dksX5_bad_1 3 rfl rfl)
theorem dX5_bad_28 : decode cX5_bad 28 = .ok (.aload_n 0, 1) := dk_42 (dk_at dksX5_bad_1 6 rfl rfl)
theorem dX5_bad_29 : decode cX5_bad 29 = .ok (.aload_n 0, 1) := dk_42 (dk_at dksX5_bad_1 7 rfl rfl)
theorem dX5_bad_30 : decode cX5_bad 30 = .ok (.getfield 428, 3) := dk_180 1 172 (dk_at dksX5_bad_1 8 rfl rfl)
theorem dX5_bad_33 : decode cX5_bad 33 = .ok (.invokevirtual 416, 3) := dk_182 1 160 (dk_at dksX5_bad_1 11 rfl rfl)
theorem dX5_bad_36 : decode cX5_bad 36 = .ok (.ireturn, 1) := dk_172 (dk_at dksX5_bad_1 14 rfl rfl)
abbrev cX5_way : ByteArray := prog_15_method_52_code
def yX5_way : MethodName := ⟨RX5, "way", "(II)I"⟩
def dkwX5_way_2 : List UInt8 := [182, 1, 178, 182, 1, 160, 167, 0, 8, 42, 5, 182, 0, 81, 172]
abbrev dktX5_way_2 : List UInt8 := dkwX5_way_2 ++ []
def dkwX5_way_1 : List UInt8 := [184, 0, 153, 153, 0, 29, 28, 3, 16, 99, 184, 0, 153, 153, 0, 19, 42, 42, 180, 1, 138, 27, 28]
abbrev dktX5_way_1 : List UInt8 := dkwX5_way_1 ++ dktX5_way_2
def dkwX5_way_0 : List UInt8 := [42, 3, 181, 0, 75, 42, 180, 1, 138, 199, 0, 9, 42, 4, 182, 0, 81, 172, 27, 3, 16, 99]
abbrev dktX5_way_0 : List UInt8 := dkwX5_way_0 ++ dktX5_way_1
theorem dksX5_way_0 : cX5_way.data.toList.drop 0 = dktX5_way_0 := by decide +kernel
theorem dksX5_way_1 : cX5_way.data.toList.drop 22 = dktX5_way_1 := dk_seg dksX5_way_0 22 rfl rfl
theorem dksX5_way_2 : cX5_way.data.toList.drop 45 = dktX5_way_2 := dk_seg dksX5_way_1 23 rfl rfl
theorem dX5_way_0 : decode cX5_way 0 = .ok (.aload_n 0, 1) := dk_42 (dk_at dksX5_way_0 0 rfl rfl)
theorem dX5_way_1 : decode cX5_way 1 = .ok (.iconst 0, 1) := dk_3 (dk_at dksX5_way_0 1 rfl rfl)
theorem dX5_way_2 : decode cX5_way 2 = .ok (.putfield 75, 3) := dk_181 0 75 (dk_at dksX5_way_0 2 rfl rfl)
theorem dX5_way_5 : decode cX5_way 5 = .ok (.aload_n 0, 1) := dk_42 (dk_at dksX5_way_0 5 rfl rfl)
theorem dX5_way_6 : decode cX5_way 6 = .ok (.getfield 394, 3) := dk_180 1 138 (dk_at dksX5_way_0 6 rfl rfl)
theorem dX5_way_9 : decode cX5_way 9 = .ok (.ifnonnull 9, 3) := dk_199 0 9 (dk_at dksX5_way_0 9 rfl rfl)
theorem dX5_way_12 : decode cX5_way 12 = .ok (.aload_n 0, 1) := dk_42 (dk_at dksX5_way_0 12 rfl rfl)
theorem dX5_way_13 : decode cX5_way 13 = .ok (.iconst 1, 1) := dk_4 (dk_at dksX5_way_0 13 rfl rfl)
theorem dX5_way_14 : decode cX5_way 14 = .ok (.invokevirtual 81, 3) := dk_182 0 81 (dk_at dksX5_way_0 14 rfl rfl)
theorem dX5_way_17 : decode cX5_way 17 = .ok (.ireturn, 1) := dk_172 (dk_at dksX5_way_0 17 rfl rfl)
theorem dX5_way_18 : decode cX5_way 18 = .ok (.iload_n 1, 1) := dk_27 (dk_at dksX5_way_0 18 rfl rfl)
theorem dX5_way_19 : decode cX5_way 19 = .ok (.iconst 0, 1) := dk_3 (dk_at dksX5_way_0 19 rfl rfl)
theorem dX5_way_20 : decode cX5_way 20 = .ok (.bipush 99, 2) := dk_16 99 (dk_at dksX5_way_0 20 rfl rfl)
theorem dX5_way_22 : decode cX5_way 22 = .ok (.invokestatic 153, 3) := dk_184 0 153 (dk_at dksX5_way_1 0 rfl rfl)
theorem dX5_way_25 : decode cX5_way 25 = .ok (.ifCond .eq 29, 3) := dk_153 0 29 (dk_at dksX5_way_1 3 rfl rfl)
theorem dX5_way_28 : decode cX5_way 28 = .ok (.iload_n 2, 1) := dk_28 (dk_at dksX5_way_1 6 rfl rfl)
theorem dX5_way_29 : decode cX5_way 29 = .ok (.iconst 0, 1) := dk_3 (dk_at dksX5_way_1 7 rfl rfl)
theorem dX5_way_30 : decode cX5_way 30 = .ok (.bipush 99, 2) := dk_16 99 (dk_at dksX5_way_1 8 rfl rfl)
theorem dX5_way_32 : decode cX5_way 32 = .ok (.invokestatic 153, 3) := dk_184 0 153 (dk_at dksX5_way_1 10 rfl rfl)
theorem dX5_way_35 : decode cX5_way 35 = .ok (.ifCond .eq 19, 3) := dk_153 0 19 (dk_at dksX5_way_1 13 rfl rfl)
theorem dX5_way_38 : decode cX5_way 38 = .ok (.aload_n 0, 1) := dk_42 (dk_at dksX5_way_1 16 rfl rfl)
theorem dX5_way_39 : decode cX5_way 39 = .ok (.aload_n 0, 1) := dk_42 (dk_at dksX5_way_1 17 rfl rfl)
theorem dX5_way_40 : decode cX5_way 40 = .ok (.getfield 394, 3) := dk_180 1 138 (dk_at dksX5_way_1 18 rfl rfl)
theorem dX5_way_43 : decode cX5_way 43 = .ok (.iload_n 1, 1) := dk_27 (dk_at dksX5_way_1 21 rfl rfl)
theorem dX5_way_44 : decode cX5_way 44 = .ok (.iload_n 2, 1) := dk_28 (dk_at dksX5_way_1 22 rfl rfl)
theorem dX5_way_45 : decode cX5_way 45 = .ok (.invokevirtual 434, 3) := dk_182 1 178 (dk_at dksX5_way_2 0 rfl rfl)
theorem dX5_way_48 : decode cX5_way 48 = .ok (.invokevirtual 416, 3) := dk_182 1 160 (dk_at dksX5_way_2 3 rfl rfl)
theorem dX5_way_51 : decode cX5_way 51 = .ok (.goto 8, 3) := dk_167 0 8 (dk_at dksX5_way_2 6 rfl rfl)
theorem dX5_way_54 : decode cX5_way 54 = .ok (.aload_n 0, 1) := dk_42 (dk_at dksX5_way_2 9 rfl rfl)
theorem dX5_way_55 : decode cX5_way 55 = .ok (.iconst 2, 1) := dk_5 (dk_at dksX5_way_2 10 rfl rfl)
theorem dX5_way_56 : decode cX5_way 56 = .ok (.invokevirtual 81, 3) := dk_182 0 81 (dk_at dksX5_way_2 11 rfl rfl)
theorem dX5_way_59 : decode cX5_way 59 = .ok (.ireturn, 1) := dk_172 (dk_at dksX5_way_2 14 rfl rfl)
abbrev cX5_best : ByteArray := prog_15_method_58_code
def yX5_best : MethodName := ⟨RX5, "best", "(II)I"⟩
def dkwX5_best_1 : List UInt8 := [28, 182, 1, 219, 42, 17, 39, 16, 42, 180, 1, 207, 104, 42, 180, 1, 210, 96, 182, 1, 160, 172]
abbrev dktX5_best_1 : List UInt8 := dkwX5_best_1 ++ []
def dkwX5_best_0 : List UInt8 := [42, 3, 181, 0, 75, 42, 27, 28, 182, 1, 216, 62, 29, 158, 0, 9, 42, 29, 182, 0, 81, 172, 42, 27]
abbrev dktX5_best_0 : List UInt8 := dkwX5_best_0 ++ dktX5_best_1
theorem dksX5_best_0 : cX5_best.data.toList.drop 0 = dktX5_best_0 := by decide +kernel
theorem dksX5_best_1 : cX5_best.data.toList.drop 24 = dktX5_best_1 := dk_seg dksX5_best_0 24 rfl rfl
theorem dX5_best_0 : decode cX5_best 0 = .ok (.aload_n 0, 1) := dk_42 (dk_at dksX5_best_0 0 rfl rfl)
theorem dX5_best_1 : decode cX5_best 1 = .ok (.iconst 0, 1) := dk_3 (dk_at dksX5_best_0 1 rfl rfl)
theorem dX5_best_2 : decode cX5_best 2 = .ok (.putfield 75, 3) := dk_181 0 75 (dk_at dksX5_best_0 2 rfl rfl)
theorem dX5_best_5 : decode cX5_best 5 = .ok (.aload_n 0, 1) := dk_42 (dk_at dksX5_best_0 5 rfl rfl)
theorem dX5_best_6 : decode cX5_best 6 = .ok (.iload_n 1, 1) := dk_27 (dk_at dksX5_best_0 6 rfl rfl)
theorem dX5_best_7 : decode cX5_best 7 = .ok (.iload_n 2, 1) := dk_28 (dk_at dksX5_best_0 7 rfl rfl)
theorem dX5_best_8 : decode cX5_best 8 = .ok (.invokevirtual 472, 3) := dk_182 1 216 (dk_at dksX5_best_0 8 rfl rfl)
theorem dX5_best_11 : decode cX5_best 11 = .ok (.istore_n 3, 1) := dk_62 (dk_at dksX5_best_0 11 rfl rfl)
theorem dX5_best_12 : decode cX5_best 12 = .ok (.iload_n 3, 1) := dk_29 (dk_at dksX5_best_0 12 rfl rfl)
theorem dX5_best_13 : decode cX5_best 13 = .ok (.ifCond .le 9, 3) := dk_158 0 9 (dk_at dksX5_best_0 13 rfl rfl)
theorem dX5_best_16 : decode cX5_best 16 = .ok (.aload_n 0, 1) := dk_42 (dk_at dksX5_best_0 16 rfl rfl)
theorem dX5_best_17 : decode cX5_best 17 = .ok (.iload_n 3, 1) := dk_29 (dk_at dksX5_best_0 17 rfl rfl)
theorem dX5_best_18 : decode cX5_best 18 = .ok (.invokevirtual 81, 3) := dk_182 0 81 (dk_at dksX5_best_0 18 rfl rfl)
theorem dX5_best_21 : decode cX5_best 21 = .ok (.ireturn, 1) := dk_172 (dk_at dksX5_best_0 21 rfl rfl)
theorem dX5_best_22 : decode cX5_best 22 = .ok (.aload_n 0, 1) := dk_42 (dk_at dksX5_best_0 22 rfl rfl)
theorem dX5_best_23 : decode cX5_best 23 = .ok (.iload_n 1, 1) := dk_27 (dk_at dksX5_best_0 23 rfl rfl)
theorem dX5_best_24 : decode cX5_best 24 = .ok (.iload_n 2, 1) := dk_28 (dk_at dksX5_best_1 0 rfl rfl)
theorem dX5_best_25 : decode cX5_best 25 = .ok (.invokevirtual 475, 3) := dk_182 1 219 (dk_at dksX5_best_1 1 rfl rfl)
theorem dX5_best_28 : decode cX5_best 28 = .ok (.aload_n 0, 1) := dk_42 (dk_at dksX5_best_1 4 rfl rfl)
theorem dX5_best_29 : decode cX5_best 29 = .ok (.sipush 10000, 3) := dk_17 39 16 (dk_at dksX5_best_1 5 rfl rfl)
theorem dX5_best_32 : decode cX5_best 32 = .ok (.aload_n 0, 1) := dk_42 (dk_at dksX5_best_1 8 rfl rfl)
theorem dX5_best_33 : decode cX5_best 33 = .ok (.getfield 463, 3) := dk_180 1 207 (dk_at dksX5_best_1 9 rfl rfl)
theorem dX5_best_36 : decode cX5_best 36 = .ok (.imul, 1) := dk_104 (dk_at dksX5_best_1 12 rfl rfl)
theorem dX5_best_37 : decode cX5_best 37 = .ok (.aload_n 0, 1) := dk_42 (dk_at dksX5_best_1 13 rfl rfl)
theorem dX5_best_38 : decode cX5_best 38 = .ok (.getfield 466, 3) := dk_180 1 210 (dk_at dksX5_best_1 14 rfl rfl)
theorem dX5_best_41 : decode cX5_best 41 = .ok (.iadd, 1) := dk_96 (dk_at dksX5_best_1 17 rfl rfl)
theorem dX5_best_42 : decode cX5_best 42 = .ok (.invokevirtual 416, 3) := dk_182 1 160 (dk_at dksX5_best_1 18 rfl rfl)
theorem dX5_best_45 : decode cX5_best 45 = .ok (.ireturn, 1) := dk_172 (dk_at dksX5_best_1 21 rfl rfl)
abbrev cX5_refusesBest : ByteArray := prog_15_method_57_code
def yX5_refusesBest : MethodName := ⟨RX5, "refusesBest", "(II)I"⟩
def dkwX5_refusesBest_2 : List UInt8 := [167, 0, 4, 3, 172]
abbrev dktX5_refusesBest_2 : List UInt8 := dkwX5_refusesBest_2 ++ []
def dkwX5_refusesBest_1 : List UInt8 := [161, 0, 5, 4, 172, 28, 184, 1, 201, 42, 180, 1, 138, 180, 1, 102, 27, 46, 164, 0, 7, 6]
abbrev dktX5_refusesBest_1 : List UInt8 := dkwX5_refusesBest_1 ++ dktX5_refusesBest_2
def dkwX5_refusesBest_0 : List UInt8 := [42, 27, 182, 1, 163, 153, 0, 20, 28, 155, 0, 16, 28, 4, 42, 180, 1, 138, 180, 0, 223, 120]
abbrev dktX5_refusesBest_0 : List UInt8 := dkwX5_refusesBest_0 ++ dktX5_refusesBest_1
theorem dksX5_refusesBest_0 : cX5_refusesBest.data.toList.drop 0 = dktX5_refusesBest_0 := by decide +kernel
theorem dksX5_refusesBest_1 : cX5_refusesBest.data.toList.drop 22 = dktX5_refusesBest_1 := dk_seg dksX5_refusesBest_0 22 rfl rfl
theorem dksX5_refusesBest_2 : cX5_refusesBest.data.toList.drop 44 = dktX5_refusesBest_2 := dk_seg dksX5_refusesBest_1 22 rfl rfl
theorem dX5_refusesBest_0 : decode cX5_refusesBest 0 = .ok (.aload_n 0, 1) := dk_42 (dk_at dksX5_refusesBest_0 0 rfl rfl)
theorem dX5_refusesBest_1 : decode cX5_refusesBest 1 = .ok (.iload_n 1, 1) := dk_27 (dk_at dksX5_refusesBest_0 1 rfl rfl)
theorem dX5_refusesBest_2 : decode cX5_refusesBest 2 = .ok (.invokevirtual 419, 3) := dk_182 1 163 (dk_at dksX5_refusesBest_0 2 rfl rfl)
theorem dX5_refusesBest_5 : decode cX5_refusesBest 5 = .ok (.ifCond .eq 20, 3) := dk_153 0 20 (dk_at dksX5_refusesBest_0 5 rfl rfl)
theorem dX5_refusesBest_8 : decode cX5_refusesBest 8 = .ok (.iload_n 2, 1) := dk_28 (dk_at dksX5_refusesBest_0 8 rfl rfl)
theorem dX5_refusesBest_9 : decode cX5_refusesBest 9 = .ok (.ifCond .lt 16, 3) := dk_155 0 16 (dk_at dksX5_refusesBest_0 9 rfl rfl)
theorem dX5_refusesBest_12 : decode cX5_refusesBest 12 = .ok (.iload_n 2, 1) := dk_28 (dk_at dksX5_refusesBest_0 12 rfl rfl)
theorem dX5_refusesBest_13 : decode cX5_refusesBest 13 = .ok (.iconst 1, 1) := dk_4 (dk_at dksX5_refusesBest_0 13 rfl rfl)
theorem dX5_refusesBest_14 : decode cX5_refusesBest 14 = .ok (.aload_n 0, 1) := dk_42 (dk_at dksX5_refusesBest_0 14 rfl rfl)
theorem dX5_refusesBest_15 : decode cX5_refusesBest 15 = .ok (.getfield 394, 3) := dk_180 1 138 (dk_at dksX5_refusesBest_0 15 rfl rfl)
theorem dX5_refusesBest_18 : decode cX5_refusesBest 18 = .ok (.getfield 223, 3) := dk_180 0 223 (dk_at dksX5_refusesBest_0 18 rfl rfl)
theorem dX5_refusesBest_21 : decode cX5_refusesBest 21 = .ok (.ishl, 1) := dk_120 (dk_at dksX5_refusesBest_0 21 rfl rfl)
theorem dX5_refusesBest_22 : decode cX5_refusesBest 22 = .ok (.if_icmp .lt 5, 3) := dk_161 0 5 (dk_at dksX5_refusesBest_1 0 rfl rfl)
theorem dX5_refusesBest_25 : decode cX5_refusesBest 25 = .ok (.iconst 1, 1) := dk_4 (dk_at dksX5_refusesBest_1 3 rfl rfl)
theorem dX5_refusesBest_26 : decode cX5_refusesBest 26 = .ok (.ireturn, 1) := dk_172 (dk_at dksX5_refusesBest_1 4 rfl rfl)
theorem dX5_refusesBest_27 : decode cX5_refusesBest 27 = .ok (.iload_n 2, 1) := dk_28 (dk_at dksX5_refusesBest_1 5 rfl rfl)
theorem dX5_refusesBest_28 : decode cX5_refusesBest 28 = .ok (.invokestatic 457, 3) := dk_184 1 201 (dk_at dksX5_refusesBest_1 6 rfl rfl)
theorem dX5_refusesBest_31 : decode cX5_refusesBest 31 = .ok (.aload_n 0, 1) := dk_42 (dk_at dksX5_refusesBest_1 9 rfl rfl)
theorem dX5_refusesBest_32 : decode cX5_refusesBest 32 = .ok (.getfield 394, 3) := dk_180 1 138 (dk_at dksX5_refusesBest_1 10 rfl rfl)
theorem dX5_refusesBest_35 : decode cX5_refusesBest 35 = .ok (.getfield 358, 3) := dk_180 1 102 (dk_at dksX5_refusesBest_1 13 rfl rfl)
theorem dX5_refusesBest_38 : decode cX5_refusesBest 38 = .ok (.iload_n 1, 1) := dk_27 (dk_at dksX5_refusesBest_1 16 rfl rfl)
theorem dX5_refusesBest_39 : decode cX5_refusesBest 39 = .ok (.iaload, 1) := dk_46 (dk_at dksX5_refusesBest_1 17 rfl rfl)
theorem dX5_refusesBest_40 : decode cX5_refusesBest 40 = .ok (.if_icmp .le 7, 3) := dk_164 0 7 (dk_at dksX5_refusesBest_1 18 rfl rfl)
theorem dX5_refusesBest_43 : decode cX5_refusesBest 43 = .ok (.iconst 3, 1) := dk_6 (dk_at dksX5_refusesBest_1 21 rfl rfl)
theorem dX5_refusesBest_44 : decode cX5_refusesBest 44 = .ok (.goto 4, 3) := dk_167 0 4 (dk_at dksX5_refusesBest_2 0 rfl rfl)
theorem dX5_refusesBest_47 : decode cX5_refusesBest 47 = .ok (.iconst 0, 1) := dk_3 (dk_at dksX5_refusesBest_2 3 rfl rfl)
theorem dX5_refusesBest_48 : decode cX5_refusesBest 48 = .ok (.ireturn, 1) := dk_172 (dk_at dksX5_refusesBest_2 4 rfl rfl)
abbrev cX5_bits : ByteArray := prog_15_method_53_code
def yX5_bits : MethodName := ⟨RX5, "bits", "(I)I"⟩
def dkwX5_bits_0 : List UInt8 := [3, 60, 26, 61, 28, 153, 0, 15, 132, 1, 1, 28, 28, 4, 100, 126, 61, 167, 255, 243, 27, 172]
abbrev dktX5_bits_0 : List UInt8 := dkwX5_bits_0 ++ []
theorem dksX5_bits_0 : cX5_bits.data.toList.drop 0 = dktX5_bits_0 := by decide +kernel
theorem dX5_bits_0 : decode cX5_bits 0 = .ok (.iconst 0, 1) := dk_3 (dk_at dksX5_bits_0 0 rfl rfl)
theorem dX5_bits_1 : decode cX5_bits 1 = .ok (.istore_n 1, 1) := dk_60 (dk_at dksX5_bits_0 1 rfl rfl)
theorem dX5_bits_2 : decode cX5_bits 2 = .ok (.iload_n 0, 1) := dk_26 (dk_at dksX5_bits_0 2 rfl rfl)
theorem dX5_bits_3 : decode cX5_bits 3 = .ok (.istore_n 2, 1) := dk_61 (dk_at dksX5_bits_0 3 rfl rfl)
theorem dX5_bits_4 : decode cX5_bits 4 = .ok (.iload_n 2, 1) := dk_28 (dk_at dksX5_bits_0 4 rfl rfl)
theorem dX5_bits_5 : decode cX5_bits 5 = .ok (.ifCond .eq 15, 3) := dk_153 0 15 (dk_at dksX5_bits_0 5 rfl rfl)
theorem dX5_bits_8 : decode cX5_bits 8 = .ok (.iinc 1 1, 3) := dk_132 1 1 (dk_at dksX5_bits_0 8 rfl rfl)
theorem dX5_bits_11 : decode cX5_bits 11 = .ok (.iload_n 2, 1) := dk_28 (dk_at dksX5_bits_0 11 rfl rfl)
theorem dX5_bits_12 : decode cX5_bits 12 = .ok (.iload_n 2, 1) := dk_28 (dk_at dksX5_bits_0 12 rfl rfl)
theorem dX5_bits_13 : decode cX5_bits 13 = .ok (.iconst 1, 1) := dk_4 (dk_at dksX5_bits_0 13 rfl rfl)
theorem dX5_bits_14 : decode cX5_bits 14 = .ok (.isub, 1) := dk_100 (dk_at dksX5_bits_0 14 rfl rfl)
theorem dX5_bits_15 : decode cX5_bits 15 = .ok (.iand, 1) := dk_126 (dk_at dksX5_bits_0 15 rfl rfl)
theorem dX5_bits_16 : decode cX5_bits 16 = .ok (.istore_n 2, 1) := dk_61 (dk_at dksX5_bits_0 16 rfl rfl)
theorem dX5_bits_17 : decode cX5_bits 17 = .ok (.goto (-13), 3) := dk_167 255 243 (dk_at dksX5_bits_0 17 rfl rfl)
theorem dX5_bits_20 : decode cX5_bits 20 = .ok (.iload_n 1, 1) := dk_27 (dk_at dksX5_bits_0 20 rfl rfl)
theorem dX5_bits_21 : decode cX5_bits 21 = .ok (.ireturn, 1) := dk_172 (dk_at dksX5_bits_0 21 rfl rfl)
abbrev cX5_bests : ByteArray := prog_15_method_56_code
def yX5_bests : MethodName := ⟨RX5, "bests", "(II)V"⟩
def dkwX5_bests_6 : List UInt8 := [180, 0, 24, 21, 7, 46, 79, 132, 7, 1, 167, 255, 230, 132, 4, 1, 167, 255, 129, 177]
abbrev dktX5_bests_6 : List UInt8 := dkwX5_bests_6 ++ []
def dkwX5_bests_5 : List UInt8 := [181, 1, 210, 3, 54, 7, 21, 7, 42, 180, 1, 175, 162, 0, 23, 42, 180, 0, 30, 21, 7, 42]
abbrev dktX5_bests_5 : List UInt8 := dkwX5_bests_5 ++ dktX5_bests_6
def dkwX5_bests_4 : List UInt8 := [160, 0, 15, 21, 6, 42, 180, 1, 210, 161, 0, 6, 167, 0, 47, 42, 21, 5, 181, 1, 207, 42, 21, 6]
abbrev dktX5_bests_4 : List UInt8 := dkwX5_bests_4 ++ dktX5_bests_5
def dkwX5_bests_3 : List UInt8 := [100, 46, 54, 6, 21, 4, 158, 0, 33, 21, 5, 42, 180, 1, 207, 163, 0, 68, 21, 5, 42, 180, 1, 207]
abbrev dktX5_bests_3 : List UInt8 := dkwX5_bests_3 ++ dktX5_bests_4
def dkwX5_bests_2 : List UInt8 := [42, 27, 3, 182, 1, 188, 42, 180, 1, 172, 184, 1, 201, 54, 5, 42, 180, 0, 27, 42, 180, 1, 175, 4]
abbrev dktX5_bests_2 : List UInt8 := dkwX5_bests_2 ++ dktX5_bests_3
def dkwX5_bests_1 : List UInt8 := [184, 1, 204, 62, 3, 54, 4, 21, 4, 29, 162, 0, 127, 28, 153, 0, 123, 42, 28, 21, 4, 182, 1, 213]
abbrev dktX5_bests_1 : List UInt8 := dkwX5_bests_1 ++ dktX5_bests_2
def dkwX5_bests_0 : List UInt8 := [42, 3, 181, 1, 207, 42, 42, 180, 1, 138, 180, 1, 100, 27, 46, 181, 1, 210, 28, 184, 1, 201]
abbrev dktX5_bests_0 : List UInt8 := dkwX5_bests_0 ++ dktX5_bests_1
theorem dksX5_bests_0 : cX5_bests.data.toList.drop 0 = dktX5_bests_0 := by decide +kernel
theorem dksX5_bests_1 : cX5_bests.data.toList.drop 22 = dktX5_bests_1 := dk_seg dksX5_bests_0 22 rfl rfl
theorem dksX5_bests_2 : cX5_bests.data.toList.drop 46 = dktX5_bests_2 := dk_seg dksX5_bests_1 24 rfl rfl
theorem dksX5_bests_3 : cX5_bests.data.toList.drop 70 = dktX5_bests_3 := dk_seg dksX5_bests_2 24 rfl rfl
theorem dksX5_bests_4 : cX5_bests.data.toList.drop 94 = dktX5_bests_4 := dk_seg dksX5_bests_3 24 rfl rfl
theorem dksX5_bests_5 : cX5_bests.data.toList.drop 118 = dktX5_bests_5 := dk_seg dksX5_bests_4 24 rfl rfl
theorem dksX5_bests_6 : cX5_bests.data.toList.drop 140 = dktX5_bests_6 := dk_seg dksX5_bests_5 22 rfl rfl
theorem dX5_bests_0 : decode cX5_bests 0 = .ok (.aload_n 0, 1) := dk_42 (dk_at dksX5_bests_0 0 rfl rfl)
theorem dX5_bests_1 : decode cX5_bests 1 = .ok (.iconst 0, 1) := dk_3 (dk_at dksX5_bests_0 1 rfl rfl)
theorem dX5_bests_2 : decode cX5_bests 2 = .ok (.putfield 463, 3) := dk_181 1 207 (dk_at dksX5_bests_0 2 rfl rfl)
theorem dX5_bests_5 : decode cX5_bests 5 = .ok (.aload_n 0, 1) := dk_42 (dk_at dksX5_bests_0 5 rfl rfl)
theorem dX5_bests_6 : decode cX5_bests 6 = .ok (.aload_n 0, 1) := dk_42 (dk_at dksX5_bests_0 6 rfl rfl)
theorem dX5_bests_7 : decode cX5_bests 7 = .ok (.getfield 394, 3) := dk_180 1 138 (dk_at dksX5_bests_0 7 rfl rfl)
theorem dX5_bests_10 : decode cX5_bests 10 = .ok (.getfield 356, 3) := dk_180 1 100 (dk_at dksX5_bests_0 10 rfl rfl)
theorem dX5_bests_13 : decode cX5_bests 13 = .ok (.iload_n 1, 1) := dk_27 (dk_at dksX5_bests_0 13 rfl rfl)
theorem dX5_bests_14 : decode cX5_bests 14 = .ok (.iaload, 1) := dk_46 (dk_at dksX5_bests_0 14 rfl rfl)
theorem dX5_bests_15 : decode cX5_bests 15 = .ok (.putfield 466, 3) := dk_181 1 210 (dk_at dksX5_bests_0 15 rfl rfl)
theorem dX5_bests_18 : decode cX5_bests 18 = .ok (.iload_n 2, 1) := dk_28 (dk_at dksX5_bests_0 18 rfl rfl)
theorem dX5_bests_19 : decode cX5_bests 19 = .ok (.invokestatic 457, 3) := dk_184 1 201 (dk_at dksX5_bests_0 19 rfl rfl)
theorem dX5_bests_22 : decode cX5_bests 22 = .ok (.invokestatic 460, 3) := dk_184 1 204 (dk_at dksX5_bests_1 0 rfl rfl)
theorem dX5_bests_25 : decode cX5_bests 25 = .ok (.istore_n 3, 1) := dk_62 (dk_at dksX5_bests_1 3 rfl rfl)
theorem dX5_bests_26 : decode cX5_bests 26 = .ok (.iconst 0, 1) := dk_3 (dk_at dksX5_bests_1 4 rfl rfl)
theorem dX5_bests_27 : decode cX5_bests 27 = .ok (.istore 4, 2) := dk_54 4 (dk_at dksX5_bests_1 5 rfl rfl)
theorem dX5_bests_29 : decode cX5_bests 29 = .ok (.iload 4, 2) := dk_21 4 (dk_at dksX5_bests_1 7 rfl rfl)
theorem dX5_bests_31 : decode cX5_bests 31 = .ok (.iload_n 3, 1) := dk_29 (dk_at dksX5_bests_1 9 rfl rfl)
theorem dX5_bests_32 : decode cX5_bests 32 = .ok (.if_icmp .ge 127, 3) := dk_162 0 127 (dk_at dksX5_bests_1 10 rfl rfl)
theorem dX5_bests_35 : decode cX5_bests 35 = .ok (.iload_n 2, 1) := dk_28 (dk_at dksX5_bests_1 13 rfl rfl)
theorem dX5_bests_36 : decode cX5_bests 36 = .ok (.ifCond .eq 123, 3) := dk_153 0 123 (dk_at dksX5_bests_1 14 rfl rfl)
theorem dX5_bests_39 : decode cX5_bests 39 = .ok (.aload_n 0, 1) := dk_42 (dk_at dksX5_bests_1 17 rfl rfl)
theorem dX5_bests_40 : decode cX5_bests 40 = .ok (.iload_n 2, 1) := dk_28 (dk_at dksX5_bests_1 18 rfl rfl)
theorem dX5_bests_41 : decode cX5_bests 41 = .ok (.iload 4, 2) := dk_21 4 (dk_at dksX5_bests_1 19 rfl rfl)
theorem dX5_bests_43 : decode cX5_bests 43 = .ok (.invokevirtual 469, 3) := dk_182 1 213 (dk_at dksX5_bests_1 21 rfl rfl)
theorem dX5_bests_46 : decode cX5_bests 46 = .ok (.aload_n 0, 1) := dk_42 (dk_at dksX5_bests_2 0 rfl rfl)
theorem dX5_bests_47 : decode cX5_bests 47 = .ok (.iload_n 1, 1) := dk_27 (dk_at dksX5_bests_2 1 rfl rfl)
theorem dX5_bests_48 : decode cX5_bests 48 = .ok (.iconst 0, 1) := dk_3 (dk_at dksX5_bests_2 2 rfl rfl)
theorem dX5_bests_49 : decode cX5_bests 49 = .ok (.invokevirtual 444, 3) := dk_182 1 188 (dk_at dksX5_bests_2 3 rfl rfl)
theorem dX5_bests_52 : decode cX5_bests 52 = .ok (.aload_n 0, 1) := dk_42 (dk_at dksX5_bests_2 6 rfl rfl)
theorem dX5_bests_53 : decode cX5_bests 53 = .ok (.getfield 428, 3) := dk_180 1 172 (dk_at dksX5_bests_2 7 rfl rfl)
theorem dX5_bests_56 : decode cX5_bests 56 = .ok (.invokestatic 457, 3) := dk_184 1 201 (dk_at dksX5_bests_2 10 rfl rfl)
theorem dX5_bests_59 : decode cX5_bests 59 = .ok (.istore 5, 2) := dk_54 5 (dk_at dksX5_bests_2 13 rfl rfl)
theorem dX5_bests_61 : decode cX5_bests 61 = .ok (.aload_n 0, 1) := dk_42 (dk_at dksX5_bests_2 15 rfl rfl)
theorem dX5_bests_62 : decode cX5_bests 62 = .ok (.getfield 27, 3) := dk_180 0 27 (dk_at dksX5_bests_2 16 rfl rfl)
theorem dX5_bests_65 : decode cX5_bests 65 = .ok (.aload_n 0, 1) := dk_42 (dk_at dksX5_bests_2 19 rfl rfl)
theorem dX5_bests_66 : decode cX5_bests 66 = .ok (.getfield 431, 3) := dk_180 1 175 (dk_at dksX5_bests_2 20 rfl rfl)
theorem dX5_bests_69 : decode cX5_bests 69 = .ok (.iconst 1, 1) := dk_4 (dk_at dksX5_bests_2 23 rfl rfl)
theorem dX5_bests_70 : decode cX5_bests 70 = .ok (.isub, 1) := dk_100 (dk_at dksX5_bests_3 0 rfl rfl)
theorem dX5_bests_71 : decode cX5_bests 71 = .ok (.iaload, 1) := dk_46 (dk_at dksX5_bests_3 1 rfl rfl)
theorem dX5_bests_72 : decode cX5_bests 72 = .ok (.istore 6, 2) := dk_54 6 (dk_at dksX5_bests_3 2 rfl rfl)
theorem dX5_bests_74 : decode cX5_bests 74 = .ok (.iload 4, 2) := dk_21 4 (dk_at dksX5_bests_3 4 rfl rfl)
theorem dX5_bests_76 : decode cX5_bests 76 = .ok (.ifCond .le 33, 3) := dk_158 0 33 (dk_at dksX5_bests_3 6 rfl rfl)
theorem dX5_bests_79 : decode cX5_bests 79 = .ok (.iload 5, 2) := dk_21 5 (dk_at dksX5_bests_3 9 rfl rfl)
theorem dX5_bests_81 : decode cX5_bests 81 = .ok (.aload_n 0, 1) := dk_42 (dk_at dksX5_bests_3 11 rfl rfl)
theorem dX5_bests_82 : decode cX5_bests 82 = .ok (.getfield 463, 3) := dk_180 1 207 (dk_at dksX5_bests_3 12 rfl rfl)
theorem dX5_bests_85 : decode cX5_bests 85 = .ok (.if_icmp .gt 68, 3) := dk_163 0 68 (dk_at dksX5_bests_3 15 rfl rfl)
theorem dX5_bests_88 : decode cX5_bests 88 = .ok (.iload 5, 2) := dk_21 5 (dk_at dksX5_bests_3 18 rfl rfl)
theorem dX5_bests_90 : decode cX5_bests 90 = .ok (.aload_n 0, 1) := dk_42 (dk_at dksX5_bests_3 20 rfl rfl)
theorem dX5_bests_91 : decode cX5_bests 91 = .ok (.getfield 463, 3) := dk_180 1 207 (dk_at dksX5_bests_3 21 rfl rfl)
theorem dX5_bests_94 : decode cX5_bests 94 = .ok (.if_icmp .ne 15, 3) := dk_160 0 15 (dk_at dksX5_bests_4 0 rfl rfl)
theorem dX5_bests_97 : decode cX5_bests 97 = .ok (.iload 6, 2) := dk_21 6 (dk_at dksX5_bests_4 3 rfl rfl)
theorem dX5_bests_99 : decode cX5_bests 99 = .ok (.aload_n 0, 1) := dk_42 (dk_at dksX5_bests_4 5 rfl rfl)
theorem dX5_bests_100 : decode cX5_bests 100 = .ok (.getfield 466, 3) := dk_180 1 210 (dk_at dksX5_bests_4 6 rfl rfl)
theorem dX5_bests_103 : decode cX5_bests 103 = .ok (.if_icmp .lt 6, 3) := dk_161 0 6 (dk_at dksX5_bests_4 9 rfl rfl)
theorem dX5_bests_106 : decode cX5_bests 106 = .ok (.goto 47, 3) := dk_167 0 47 (dk_at dksX5_bests_4 12 rfl rfl)
theorem dX5_bests_109 : decode cX5_bests 109 = .ok (.aload_n 0, 1) := dk_42 (dk_at dksX5_bests_4 15 rfl rfl)
theorem dX5_bests_110 : decode cX5_bests 110 = .ok (.iload 5, 2) := dk_21 5 (dk_at dksX5_bests_4 16 rfl rfl)
theorem dX5_bests_112 : decode cX5_bests 112 = .ok (.putfield 463, 3) := dk_181 1 207 (dk_at dksX5_bests_4 18 rfl rfl)
theorem dX5_bests_115 : decode cX5_bests 115 = .ok (.aload_n 0, 1) := dk_42 (dk_at dksX5_bests_4 21 rfl rfl)
theorem dX5_bests_116 : decode cX5_bests 116 = .ok (.iload 6, 2) := dk_21 6 (dk_at dksX5_bests_4 22 rfl rfl)
theorem dX5_bests_118 : decode cX5_bests 118 = .ok (.putfield 466, 3) := dk_181 1 210 (dk_at dksX5_bests_5 0 rfl rfl)
theorem dX5_bests_121 : decode cX5_bests 121 = .ok (.iconst 0, 1) := dk_3 (dk_at dksX5_bests_5 3 rfl rfl)
theorem dX5_bests_122 : decode cX5_bests 122 = .ok (.istore 7, 2) := dk_54 7 (dk_at dksX5_bests_5 4 rfl rfl)
theorem dX5_bests_124 : decode cX5_bests 124 = .ok (.iload 7, 2) := dk_21 7 (dk_at dksX5_bests_5 6 rfl rfl)
theorem dX5_bests_126 : decode cX5_bests 126 = .ok (.aload_n 0, 1) := dk_42 (dk_at dksX5_bests_5 8 rfl rfl)
theorem dX5_bests_127 : decode cX5_bests 127 = .ok (.getfield 431, 3) := dk_180 1 175 (dk_at dksX5_bests_5 9 rfl rfl)
theorem dX5_bests_130 : decode cX5_bests 130 = .ok (.if_icmp .ge 23, 3) := dk_162 0 23 (dk_at dksX5_bests_5 12 rfl rfl)
theorem dX5_bests_133 : decode cX5_bests 133 = .ok (.aload_n 0, 1) := dk_42 (dk_at dksX5_bests_5 15 rfl rfl)
theorem dX5_bests_134 : decode cX5_bests 134 = .ok (.getfield 30, 3) := dk_180 0 30 (dk_at dksX5_bests_5 16 rfl rfl)
theorem dX5_bests_137 : decode cX5_bests 137 = .ok (.iload 7, 2) := dk_21 7 (dk_at dksX5_bests_5 19 rfl rfl)
theorem dX5_bests_139 : decode cX5_bests 139 = .ok (.aload_n 0, 1) := dk_42 (dk_at dksX5_bests_5 21 rfl rfl)
theorem dX5_bests_140 : decode cX5_bests 140 = .ok (.getfield 24, 3) := dk_180 0 24 (dk_at dksX5_bests_6 0 rfl rfl)
theorem dX5_bests_143 : decode cX5_bests 143 = .ok (.iload 7, 2) := dk_21 7 (dk_at dksX5_bests_6 3 rfl rfl)
theorem dX5_bests_145 : decode cX5_bests 145 = .ok (.iaload, 1) := dk_46 (dk_at dksX5_bests_6 5 rfl rfl)
theorem dX5_bests_146 : decode cX5_bests 146 = .ok (.iastore, 1) := dk_79 (dk_at dksX5_bests_6 6 rfl rfl)
theorem dX5_bests_147 : decode cX5_bests 147 = .ok (.iinc 7 1, 3) := dk_132 7 1 (dk_at dksX5_bests_6 7 rfl rfl)
theorem dX5_bests_150 : decode cX5_bests 150 = .ok (.goto (-26), 3) := dk_167 255 230 (dk_at dksX5_bests_6 10 rfl rfl)
theorem dX5_bests_153 : decode cX5_bests 153 = .ok (.iinc 4 1, 3) := dk_132 4 1 (dk_at dksX5_bests_6 13 rfl rfl)
theorem dX5_bests_156 : decode cX5_bests 156 = .ok (.goto (-127), 3) := dk_167 255 129 (dk_at dksX5_bests_6 16 rfl rfl)
theorem dX5_bests_159 : decode cX5_bests 159 = .ok (.return_, 1) := dk_177 (dk_at dksX5_bests_6 19 rfl rfl)
abbrev cX5_orders : ByteArray := prog_15_method_54_code
def yX5_orders : MethodName := ⟨RX5, "orders", "(I)I"⟩
def dkwX5_orders_0 : List UInt8 := [4, 60, 5, 61, 28, 26, 163, 0, 13, 27, 28, 104, 60, 132, 2, 1, 167, 255, 244, 27, 172]
abbrev dktX5_orders_0 : List UInt8 := dkwX5_orders_0 ++ []
theorem dksX5_orders_0 : cX5_orders.data.toList.drop 0 = dktX5_orders_0 := by decide +kernel
theorem dX5_orders_0 : decode cX5_orders 0 = .ok (.iconst 1, 1) := dk_4 (dk_at dksX5_orders_0 0 rfl rfl)
theorem dX5_orders_1 : decode cX5_orders 1 = .ok (.istore_n 1, 1) := dk_60 (dk_at dksX5_orders_0 1 rfl rfl)
theorem dX5_orders_2 : decode cX5_orders 2 = .ok (.iconst 2, 1) := dk_5 (dk_at dksX5_orders_0 2 rfl rfl)
theorem dX5_orders_3 : decode cX5_orders 3 = .ok (.istore_n 2, 1) := dk_61 (dk_at dksX5_orders_0 3 rfl rfl)
theorem dX5_orders_4 : decode cX5_orders 4 = .ok (.iload_n 2, 1) := dk_28 (dk_at dksX5_orders_0 4 rfl rfl)
theorem dX5_orders_5 : decode cX5_orders 5 = .ok (.iload_n 0, 1) := dk_26 (dk_at dksX5_orders_0 5 rfl rfl)
theorem dX5_orders_6 : decode cX5_orders 6 = .ok (.if_icmp .gt 13, 3) := dk_163 0 13 (dk_at dksX5_orders_0 6 rfl rfl)
theorem dX5_orders_9 : decode cX5_orders 9 = .ok (.iload_n 1, 1) := dk_27 (dk_at dksX5_orders_0 9 rfl rfl)
theorem dX5_orders_10 : decode cX5_orders 10 = .ok (.iload_n 2, 1) := dk_28 (dk_at dksX5_orders_0 10 rfl rfl)
theorem dX5_orders_11 : decode cX5_orders 11 = .ok (.imul, 1) := dk_104 (dk_at dksX5_orders_0 11 rfl rfl)
theorem dX5_orders_12 : decode cX5_orders 12 = .ok (.istore_n 1, 1) := dk_60 (dk_at dksX5_orders_0 12 rfl rfl)
theorem dX5_orders_13 : decode cX5_orders 13 = .ok (.iinc 2 1, 3) := dk_132 2 1 (dk_at dksX5_orders_0 13 rfl rfl)
theorem dX5_orders_16 : decode cX5_orders 16 = .ok (.goto (-12), 3) := dk_167 255 244 (dk_at dksX5_orders_0 16 rfl rfl)
theorem dX5_orders_19 : decode cX5_orders 19 = .ok (.iload_n 1, 1) := dk_27 (dk_at dksX5_orders_0 19 rfl rfl)
theorem dX5_orders_20 : decode cX5_orders 20 = .ok (.ireturn, 1) := dk_172 (dk_at dksX5_orders_0 20 rfl rfl)
abbrev cX5_ordered : ByteArray := prog_15_method_55_code
def yX5_ordered : MethodName := ⟨RX5, "ordered", "(II)V"⟩
def dkwX5_ordered_5 : List UInt8 := [21, 6, 21, 8, 79, 132, 6, 1, 167, 255, 157, 177]
abbrev dktX5_ordered_5 : List UInt8 := dkwX5_ordered_5 ++ []
def dkwX5_ordered_4 : List UInt8 := [54, 7, 132, 8, 1, 167, 255, 218, 21, 4, 4, 21, 8, 120, 2, 130, 126, 54, 4, 42, 180, 0, 24]
abbrev dktX5_ordered_4 : List UInt8 := dkwX5_ordered_4 ++ dktX5_ordered_5
def dkwX5_ordered_3 : List UInt8 := [21, 7, 158, 0, 29, 21, 7, 21, 4, 21, 8, 184, 1, 184, 153, 0, 7, 4, 167, 0, 4, 3, 100]
abbrev dktX5_ordered_3 : List UInt8 := dkwX5_ordered_3 ++ dktX5_ordered_4
def dkwX5_ordered_2 : List UInt8 := [21, 5, 108, 54, 7, 29, 21, 5, 112, 62, 3, 54, 8, 21, 4, 21, 8, 184, 1, 184, 153, 0, 8]
abbrev dktX5_ordered_2 : List UInt8 := dkwX5_ordered_2 ++ dktX5_ordered_3
def dkwX5_ordered_1 : List UInt8 := [54, 6, 21, 6, 42, 180, 1, 175, 162, 0, 96, 21, 5, 42, 180, 1, 175, 21, 6, 100, 108, 54, 5, 29]
abbrev dktX5_ordered_1 : List UInt8 := dkwX5_ordered_1 ++ dktX5_ordered_2
def dkwX5_ordered_0 : List UInt8 := [42, 27, 184, 1, 201, 181, 1, 175, 28, 62, 27, 54, 4, 42, 180, 1, 175, 184, 1, 204, 54, 5, 3]
abbrev dktX5_ordered_0 : List UInt8 := dkwX5_ordered_0 ++ dktX5_ordered_1
theorem dksX5_ordered_0 : cX5_ordered.data.toList.drop 0 = dktX5_ordered_0 := by decide +kernel
theorem dksX5_ordered_1 : cX5_ordered.data.toList.drop 23 = dktX5_ordered_1 := dk_seg dksX5_ordered_0 23 rfl rfl
theorem dksX5_ordered_2 : cX5_ordered.data.toList.drop 47 = dktX5_ordered_2 := dk_seg dksX5_ordered_1 24 rfl rfl
theorem dksX5_ordered_3 : cX5_ordered.data.toList.drop 70 = dktX5_ordered_3 := dk_seg dksX5_ordered_2 23 rfl rfl
theorem dksX5_ordered_4 : cX5_ordered.data.toList.drop 93 = dktX5_ordered_4 := dk_seg dksX5_ordered_3 23 rfl rfl
theorem dksX5_ordered_5 : cX5_ordered.data.toList.drop 116 = dktX5_ordered_5 := dk_seg dksX5_ordered_4 23 rfl rfl
theorem dX5_ordered_0 : decode cX5_ordered 0 = .ok (.aload_n 0, 1) := dk_42 (dk_at dksX5_ordered_0 0 rfl rfl)
theorem dX5_ordered_1 : decode cX5_ordered 1 = .ok (.iload_n 1, 1) := dk_27 (dk_at dksX5_ordered_0 1 rfl rfl)
theorem dX5_ordered_2 : decode cX5_ordered 2 = .ok (.invokestatic 457, 3) := dk_184 1 201 (dk_at dksX5_ordered_0 2 rfl rfl)
theorem dX5_ordered_5 : decode cX5_ordered 5 = .ok (.putfield 431, 3) := dk_181 1 175 (dk_at dksX5_ordered_0 5 rfl rfl)
theorem dX5_ordered_8 : decode cX5_ordered 8 = .ok (.iload_n 2, 1) := dk_28 (dk_at dksX5_ordered_0 8 rfl rfl)
theorem dX5_ordered_9 : decode cX5_ordered 9 = .ok (.istore_n 3, 1) := dk_62 (dk_at dksX5_ordered_0 9 rfl rfl)
theorem dX5_ordered_10 : decode cX5_ordered 10 = .ok (.iload_n 1, 1) := dk_27 (dk_at dksX5_ordered_0 10 rfl rfl)
theorem dX5_ordered_11 : decode cX5_ordered 11 = .ok (.istore 4, 2) := dk_54 4 (dk_at dksX5_ordered_0 11 rfl rfl)
theorem dX5_ordered_13 : decode cX5_ordered 13 = .ok (.aload_n 0, 1) := dk_42 (dk_at dksX5_ordered_0 13 rfl rfl)
theorem dX5_ordered_14 : decode cX5_ordered 14 = .ok (.getfield 431, 3) := dk_180 1 175 (dk_at dksX5_ordered_0 14 rfl rfl)
theorem dX5_ordered_17 : decode cX5_ordered 17 = .ok (.invokestatic 460, 3) := dk_184 1 204 (dk_at dksX5_ordered_0 17 rfl rfl)
theorem dX5_ordered_20 : decode cX5_ordered 20 = .ok (.istore 5, 2) := dk_54 5 (dk_at dksX5_ordered_0 20 rfl rfl)
theorem dX5_ordered_22 : decode cX5_ordered 22 = .ok (.iconst 0, 1) := dk_3 (dk_at dksX5_ordered_0 22 rfl rfl)
theorem dX5_ordered_23 : decode cX5_ordered 23 = .ok (.istore 6, 2) := dk_54 6 (dk_at dksX5_ordered_1 0 rfl rfl)
theorem dX5_ordered_25 : decode cX5_ordered 25 = .ok (.iload 6, 2) := dk_21 6 (dk_at dksX5_ordered_1 2 rfl rfl)
theorem dX5_ordered_27 : decode cX5_ordered 27 = .ok (.aload_n 0, 1) := dk_42 (dk_at dksX5_ordered_1 4 rfl rfl)
theorem dX5_ordered_28 : decode cX5_ordered 28 = .ok (.getfield 431, 3) := dk_180 1 175 (dk_at dksX5_ordered_1 5 rfl rfl)
theorem dX5_ordered_31 : decode cX5_ordered 31 = .ok (.if_icmp .ge 96, 3) := dk_162 0 96 (dk_at dksX5_ordered_1 8 rfl rfl)
theorem dX5_ordered_34 : decode cX5_ordered 34 = .ok (.iload 5, 2) := dk_21 5 (dk_at dksX5_ordered_1 11 rfl rfl)
theorem dX5_ordered_36 : decode cX5_ordered 36 = .ok (.aload_n 0, 1) := dk_42 (dk_at dksX5_ordered_1 13 rfl rfl)
theorem dX5_ordered_37 : decode cX5_ordered 37 = .ok (.getfield 431, 3) := dk_180 1 175 (dk_at dksX5_ordered_1 14 rfl rfl)
theorem dX5_ordered_40 : decode cX5_ordered 40 = .ok (.iload 6, 2) := dk_21 6 (dk_at dksX5_ordered_1 17 rfl rfl)
theorem dX5_ordered_42 : decode cX5_ordered 42 = .ok (.isub, 1) := dk_100 (dk_at dksX5_ordered_1 19 rfl rfl)
theorem dX5_ordered_43 : decode cX5_ordered 43 = .ok (.idiv, 1) := dk_108 (dk_at dksX5_ordered_1 20 rfl rfl)
theorem dX5_ordered_44 : decode cX5_ordered 44 = .ok (.istore 5, 2) := dk_54 5 (dk_at dksX5_ordered_1 21 rfl rfl)
theorem dX5_ordered_46 : decode cX5_ordered 46 = .ok (.iload_n 3, 1) := dk_29 (dk_at dksX5_ordered_1 23 rfl rfl)
theorem dX5_ordered_47 : decode cX5_ordered 47 = .ok (.iload 5, 2) := dk_21 5 (dk_at dksX5_ordered_2 0 rfl rfl)
theorem dX5_ordered_49 : decode cX5_ordered 49 = .ok (.idiv, 1) := dk_108 (dk_at dksX5_ordered_2 2 rfl rfl)
theorem dX5_ordered_50 : decode cX5_ordered 50 = .ok (.istore 7, 2) := dk_54 7 (dk_at dksX5_ordered_2 3 rfl rfl)
theorem dX5_ordered_52 : decode cX5_ordered 52 = .ok (.iload_n 3, 1) := dk_29 (dk_at dksX5_ordered_2 5 rfl rfl)
theorem dX5_ordered_53 : decode cX5_ordered 53 = .ok (.iload 5, 2) := dk_21 5 (dk_at dksX5_ordered_2 6 rfl rfl)
theorem dX5_ordered_55 : decode cX5_ordered 55 = .ok (.irem, 1) := dk_112 (dk_at dksX5_ordered_2 8 rfl rfl)
theorem dX5_ordered_56 : decode cX5_ordered 56 = .ok (.istore_n 3, 1) := dk_62 (dk_at dksX5_ordered_2 9 rfl rfl)
theorem dX5_ordered_57 : decode cX5_ordered 57 = .ok (.iconst 0, 1) := dk_3 (dk_at dksX5_ordered_2 10 rfl rfl)
theorem dX5_ordered_58 : decode cX5_ordered 58 = .ok (.istore 8, 2) := dk_54 8 (dk_at dksX5_ordered_2 11 rfl rfl)
theorem dX5_ordered_60 : decode cX5_ordered 60 = .ok (.iload 4, 2) := dk_21 4 (dk_at dksX5_ordered_2 13 rfl rfl)
theorem dX5_ordered_62 : decode cX5_ordered 62 = .ok (.iload 8, 2) := dk_21 8 (dk_at dksX5_ordered_2 15 rfl rfl)
theorem dX5_ordered_64 : decode cX5_ordered 64 = .ok (.invokestatic 440, 3) := dk_184 1 184 (dk_at dksX5_ordered_2 17 rfl rfl)
theorem dX5_ordered_67 : decode cX5_ordered 67 = .ok (.ifCond .eq 8, 3) := dk_153 0 8 (dk_at dksX5_ordered_2 20 rfl rfl)
theorem dX5_ordered_70 : decode cX5_ordered 70 = .ok (.iload 7, 2) := dk_21 7 (dk_at dksX5_ordered_3 0 rfl rfl)
theorem dX5_ordered_72 : decode cX5_ordered 72 = .ok (.ifCond .le 29, 3) := dk_158 0 29 (dk_at dksX5_ordered_3 2 rfl rfl)
theorem dX5_ordered_75 : decode cX5_ordered 75 = .ok (.iload 7, 2) := dk_21 7 (dk_at dksX5_ordered_3 5 rfl rfl)
theorem dX5_ordered_77 : decode cX5_ordered 77 = .ok (.iload 4, 2) := dk_21 4 (dk_at dksX5_ordered_3 7 rfl rfl)
theorem dX5_ordered_79 : decode cX5_ordered 79 = .ok (.iload 8, 2) := dk_21 8 (dk_at dksX5_ordered_3 9 rfl rfl)
theorem dX5_ordered_81 : decode cX5_ordered 81 = .ok (.invokestatic 440, 3) := dk_184 1 184 (dk_at dksX5_ordered_3 11 rfl rfl)
theorem dX5_ordered_84 : decode cX5_ordered 84 = .ok (.ifCond .eq 7, 3) := dk_153 0 7 (dk_at dksX5_ordered_3 14 rfl rfl)
theorem dX5_ordered_87 : decode cX5_ordered 87 = .ok (.iconst 1, 1) := dk_4 (dk_at dksX5_ordered_3 17 rfl rfl)
theorem dX5_ordered_88 : decode cX5_ordered 88 = .ok (.goto 4, 3) := dk_167 0 4 (dk_at dksX5_ordered_3 18 rfl rfl)
theorem dX5_ordered_91 : decode cX5_ordered 91 = .ok (.iconst 0, 1) := dk_3 (dk_at dksX5_ordered_3 21 rfl rfl)
theorem dX5_ordered_92 : decode cX5_ordered 92 = .ok (.isub, 1) := dk_100 (dk_at dksX5_ordered_3 22 rfl rfl)
theorem dX5_ordered_93 : decode cX5_ordered 93 = .ok (.istore 7, 2) := dk_54 7 (dk_at dksX5_ordered_4 0 rfl rfl)
theorem dX5_ordered_95 : decode cX5_ordered 95 = .ok (.iinc 8 1, 3) := dk_132 8 1 (dk_at dksX5_ordered_4 2 rfl rfl)
theorem dX5_ordered_98 : decode cX5_ordered 98 = .ok (.goto (-38), 3) := dk_167 255 218 (dk_at dksX5_ordered_4 5 rfl rfl)
theorem dX5_ordered_101 : decode cX5_ordered 101 = .ok (.iload 4, 2) := dk_21 4 (dk_at dksX5_ordered_4 8 rfl rfl)
theorem dX5_ordered_103 : decode cX5_ordered 103 = .ok (.iconst 1, 1) := dk_4 (dk_at dksX5_ordered_4 10 rfl rfl)
theorem dX5_ordered_104 : decode cX5_ordered 104 = .ok (.iload 8, 2) := dk_21 8 (dk_at dksX5_ordered_4 11 rfl rfl)
theorem dX5_ordered_106 : decode cX5_ordered 106 = .ok (.ishl, 1) := dk_120 (dk_at dksX5_ordered_4 13 rfl rfl)
theorem dX5_ordered_107 : decode cX5_ordered 107 = .ok (.iconst (-1), 1) := dk_2 (dk_at dksX5_ordered_4 14 rfl rfl)
theorem dX5_ordered_108 : decode cX5_ordered 108 = .ok (.ixor, 1) := dk_130 (dk_at dksX5_ordered_4 15 rfl rfl)
theorem dX5_ordered_109 : decode cX5_ordered 109 = .ok (.iand, 1) := dk_126 (dk_at dksX5_ordered_4 16 rfl rfl)
theorem dX5_ordered_110 : decode cX5_ordered 110 = .ok (.istore 4, 2) := dk_54 4 (dk_at dksX5_ordered_4 17 rfl rfl)
theorem dX5_ordered_112 : decode cX5_ordered 112 = .ok (.aload_n 0, 1) := dk_42 (dk_at dksX5_ordered_4 19 rfl rfl)
theorem dX5_ordered_113 : decode cX5_ordered 113 = .ok (.getfield 24, 3) := dk_180 0 24 (dk_at dksX5_ordered_4 20 rfl rfl)
theorem dX5_ordered_116 : decode cX5_ordered 116 = .ok (.iload 6, 2) := dk_21 6 (dk_at dksX5_ordered_5 0 rfl rfl)
theorem dX5_ordered_118 : decode cX5_ordered 118 = .ok (.iload 8, 2) := dk_21 8 (dk_at dksX5_ordered_5 2 rfl rfl)
theorem dX5_ordered_120 : decode cX5_ordered 120 = .ok (.iastore, 1) := dk_79 (dk_at dksX5_ordered_5 4 rfl rfl)
theorem dX5_ordered_121 : decode cX5_ordered 121 = .ok (.iinc 6 1, 3) := dk_132 6 1 (dk_at dksX5_ordered_5 5 rfl rfl)
theorem dX5_ordered_124 : decode cX5_ordered 124 = .ok (.goto (-99), 3) := dk_167 255 157 (dk_at dksX5_ordered_5 8 rfl rfl)
theorem dX5_ordered_127 : decode cX5_ordered 127 = .ok (.return_, 1) := dk_177 (dk_at dksX5_ordered_5 11 rfl rfl)
abbrev cX5_bestAt : ByteArray := prog_15_method_59_code
def yX5_bestAt : MethodName := ⟨RX5, "bestAt", "(III)I"⟩
def dkwX5_bestAt_2 : List UInt8 := [182, 1, 219, 42, 42, 180, 0, 30, 29, 46, 182, 1, 160, 172]
abbrev dktX5_bestAt_2 : List UInt8 := dkwX5_bestAt_2 ++ []
def dkwX5_bestAt_1 : List UInt8 := [172, 29, 155, 0, 11, 29, 28, 184, 1, 201, 161, 0, 9, 42, 4, 182, 0, 81, 172, 42, 27, 28]
abbrev dktX5_bestAt_1 : List UInt8 := dkwX5_bestAt_1 ++ dktX5_bestAt_2
def dkwX5_bestAt_0 : List UInt8 := [42, 3, 181, 0, 75, 42, 27, 28, 182, 1, 216, 54, 4, 21, 4, 158, 0, 10, 42, 21, 4, 182, 0, 81]
abbrev dktX5_bestAt_0 : List UInt8 := dkwX5_bestAt_0 ++ dktX5_bestAt_1
theorem dksX5_bestAt_0 : cX5_bestAt.data.toList.drop 0 = dktX5_bestAt_0 := by decide +kernel
theorem dksX5_bestAt_1 : cX5_bestAt.data.toList.drop 24 = dktX5_bestAt_1 := dk_seg dksX5_bestAt_0 24 rfl rfl
theorem dksX5_bestAt_2 : cX5_bestAt.data.toList.drop 46 = dktX5_bestAt_2 := dk_seg dksX5_bestAt_1 22 rfl rfl
theorem dX5_bestAt_0 : decode cX5_bestAt 0 = .ok (.aload_n 0, 1) := dk_42 (dk_at dksX5_bestAt_0 0 rfl rfl)
theorem dX5_bestAt_1 : decode cX5_bestAt 1 = .ok (.iconst 0, 1) := dk_3 (dk_at dksX5_bestAt_0 1 rfl rfl)
theorem dX5_bestAt_2 : decode cX5_bestAt 2 = .ok (.putfield 75, 3) := dk_181 0 75 (dk_at dksX5_bestAt_0 2 rfl rfl)
theorem dX5_bestAt_5 : decode cX5_bestAt 5 = .ok (.aload_n 0, 1) := dk_42 (dk_at dksX5_bestAt_0 5 rfl rfl)
theorem dX5_bestAt_6 : decode cX5_bestAt 6 = .ok (.iload_n 1, 1) := dk_27 (dk_at dksX5_bestAt_0 6 rfl rfl)
theorem dX5_bestAt_7 : decode cX5_bestAt 7 = .ok (.iload_n 2, 1) := dk_28 (dk_at dksX5_bestAt_0 7 rfl rfl)
theorem dX5_bestAt_8 : decode cX5_bestAt 8 = .ok (.invokevirtual 472, 3) := dk_182 1 216 (dk_at dksX5_bestAt_0 8 rfl rfl)
theorem dX5_bestAt_11 : decode cX5_bestAt 11 = .ok (.istore 4, 2) := dk_54 4 (dk_at dksX5_bestAt_0 11 rfl rfl)
theorem dX5_bestAt_13 : decode cX5_bestAt 13 = .ok (.iload 4, 2) := dk_21 4 (dk_at dksX5_bestAt_0 13 rfl rfl)
theorem dX5_bestAt_15 : decode cX5_bestAt 15 = .ok (.ifCond .le 10, 3) := dk_158 0 10 (dk_at dksX5_bestAt_0 15 rfl rfl)
theorem dX5_bestAt_18 : decode cX5_bestAt 18 = .ok (.aload_n 0, 1) := dk_42 (dk_at dksX5_bestAt_0 18 rfl rfl)
theorem dX5_bestAt_19 : decode cX5_bestAt 19 = .ok (.iload 4, 2) := dk_21 4 (dk_at dksX5_bestAt_0 19 rfl rfl)
theorem dX5_bestAt_21 : decode cX5_bestAt 21 = .ok (.invokevirtual 81, 3) := dk_182 0 81 (dk_at dksX5_bestAt_0 21 rfl rfl)
theorem dX5_bestAt_24 : decode cX5_bestAt 24 = .ok (.ireturn, 1) := dk_172 (dk_at dksX5_bestAt_1 0 rfl rfl)
theorem dX5_bestAt_25 : decode cX5_bestAt 25 = .ok (.iload_n 3, 1) := dk_29 (dk_at dksX5_bestAt_1 1 rfl rfl)
theorem dX5_bestAt_26 : decode cX5_bestAt 26 = .ok (.ifCond .lt 11, 3) := dk_155 0 11 (dk_at dksX5_bestAt_1 2 rfl rfl)
theorem dX5_bestAt_29 : decode cX5_bestAt 29 = .ok (.iload_n 3, 1) := dk_29 (dk_at dksX5_bestAt_1 5 rfl rfl)
theorem dX5_bestAt_30 : decode cX5_bestAt 30 = .ok (.iload_n 2, 1) := dk_28 (dk_at dksX5_bestAt_1 6 rfl rfl)
theorem dX5_bestAt_31 : decode cX5_bestAt 31 = .ok (.invokestatic 457, 3) := dk_184 1 201 (dk_at dksX5_bestAt_1 7 rfl rfl)
theorem dX5_bestAt_34 : decode cX5_bestAt 34 = .ok (.if_icmp .lt 9, 3) := dk_161 0 9 (dk_at dksX5_bestAt_1 10 rfl rfl)
theorem dX5_bestAt_37 : decode cX5_bestAt 37 = .ok (.aload_n 0, 1) := dk_42 (dk_at dksX5_bestAt_1 13 rfl rfl)
theorem dX5_bestAt_38 : decode cX5_bestAt 38 = .ok (.iconst 1, 1) := dk_4 (dk_at dksX5_bestAt_1 14 rfl rfl)
theorem dX5_bestAt_39 : decode cX5_bestAt 39 = .ok (.invokevirtual 81, 3) := dk_182 0 81 (dk_at dksX5_bestAt_1 15 rfl rfl)
theorem dX5_bestAt_42 : decode cX5_bestAt 42 = .ok (.ireturn, 1) := dk_172 (dk_at dksX5_bestAt_1 18 rfl rfl)
theorem dX5_bestAt_43 : decode cX5_bestAt 43 = .ok (.aload_n 0, 1) := dk_42 (dk_at dksX5_bestAt_1 19 rfl rfl)
theorem dX5_bestAt_44 : decode cX5_bestAt 44 = .ok (.iload_n 1, 1) := dk_27 (dk_at dksX5_bestAt_1 20 rfl rfl)
theorem dX5_bestAt_45 : decode cX5_bestAt 45 = .ok (.iload_n 2, 1) := dk_28 (dk_at dksX5_bestAt_1 21 rfl rfl)
theorem dX5_bestAt_46 : decode cX5_bestAt 46 = .ok (.invokevirtual 475, 3) := dk_182 1 219 (dk_at dksX5_bestAt_2 0 rfl rfl)
theorem dX5_bestAt_49 : decode cX5_bestAt 49 = .ok (.aload_n 0, 1) := dk_42 (dk_at dksX5_bestAt_2 3 rfl rfl)
theorem dX5_bestAt_50 : decode cX5_bestAt 50 = .ok (.aload_n 0, 1) := dk_42 (dk_at dksX5_bestAt_2 4 rfl rfl)
theorem dX5_bestAt_51 : decode cX5_bestAt 51 = .ok (.getfield 30, 3) := dk_180 0 30 (dk_at dksX5_bestAt_2 5 rfl rfl)
theorem dX5_bestAt_54 : decode cX5_bestAt 54 = .ok (.iload_n 3, 1) := dk_29 (dk_at dksX5_bestAt_2 8 rfl rfl)
theorem dX5_bestAt_55 : decode cX5_bestAt 55 = .ok (.iaload, 1) := dk_46 (dk_at dksX5_bestAt_2 9 rfl rfl)
theorem dX5_bestAt_56 : decode cX5_bestAt 56 = .ok (.invokevirtual 416, 3) := dk_182 1 160 (dk_at dksX5_bestAt_2 10 rfl rfl)
theorem dX5_bestAt_59 : decode cX5_bestAt 59 = .ok (.ireturn, 1) := dk_172 (dk_at dksX5_bestAt_2 13 rfl rfl)
abbrev cX5_share : ByteArray := prog_15_method_63_code
def yX5_share : MethodName := ⟨RX5, "share", "()I"⟩
def dkwX5_share_12 : List UInt8 := [182, 1, 160, 172]
abbrev dktX5_share_12 : List UInt8 := dkwX5_share_12 ++ []
def dkwX5_share_11 : List UInt8 := [180, 0, 33, 21, 5, 21, 4, 79, 132, 5, 1, 167, 255, 217, 132, 4, 1, 167, 255, 196, 42, 28]
abbrev dktX5_share_11 : List UInt8 := dkwX5_share_11 ++ dktX5_share_12
def dkwX5_share_10 : List UInt8 := [180, 0, 223, 162, 0, 33, 42, 27, 21, 4, 182, 1, 228, 21, 5, 184, 1, 184, 153, 0, 12, 42]
abbrev dktX5_share_10 : List UInt8 := dkwX5_share_10 ++ dktX5_share_11
def dkwX5_share_9 : List UInt8 := [54, 4, 21, 4, 42, 180, 1, 138, 180, 0, 226, 162, 0, 54, 3, 54, 5, 21, 5, 42, 180, 1, 138]
abbrev dktX5_share_9 : List UInt8 := dkwX5_share_9 ++ dktX5_share_10
def dkwX5_share_8 : List UInt8 := [132, 4, 1, 167, 255, 98, 27, 2, 160, 0, 10, 42, 16, 6, 182, 0, 81, 172, 42, 4, 181, 1, 157, 3]
abbrev dktX5_share_8 : List UInt8 := dkwX5_share_8 ++ dktX5_share_9
def dkwX5_share_7 : List UInt8 := [28, 160, 0, 12, 21, 6, 29, 161, 0, 6, 167, 0, 12, 21, 4, 60, 21, 5, 61, 21, 6, 62]
abbrev dktX5_share_7 : List UInt8 := dkwX5_share_7 ++ dktX5_share_8
def dkwX5_share_6 : List UInt8 := [132, 8, 1, 167, 255, 165, 21, 7, 153, 0, 38, 27, 2, 159, 0, 24, 21, 5, 28, 163, 0, 27, 21, 5]
abbrev dktX5_share_6 : List UInt8 := dkwX5_share_6 ++ dktX5_share_7
def dkwX5_share_5 : List UInt8 := [96, 46, 96, 54, 5, 21, 6, 42, 180, 0, 39, 21, 8, 16, 6, 120, 21, 9, 96, 46, 96, 54, 6]
abbrev dktX5_share_5 : List UInt8 := dkwX5_share_5 ++ dktX5_share_6
def dkwX5_share_4 : List UInt8 := [46, 163, 0, 7, 4, 167, 0, 4, 3, 54, 7, 21, 5, 42, 180, 0, 36, 21, 8, 16, 6, 120, 21, 9]
abbrev dktX5_share_4 : List UInt8 := dkwX5_share_4 ++ dktX5_share_5
def dkwX5_share_3 : List UInt8 := [182, 1, 228, 54, 9, 21, 7, 153, 0, 25, 21, 9, 184, 1, 201, 42, 180, 1, 138, 180, 1, 102, 21, 8]
abbrev dktX5_share_3 : List UInt8 := dkwX5_share_3 ++ dktX5_share_4
def dkwX5_share_2 : List UInt8 := [54, 7, 3, 54, 8, 21, 8, 42, 180, 1, 138, 180, 0, 226, 162, 0, 85, 42, 21, 4, 21, 8]
abbrev dktX5_share_2 : List UInt8 := dkwX5_share_2 ++ dktX5_share_3
def dkwX5_share_1 : List UInt8 := [3, 61, 3, 62, 3, 54, 4, 21, 4, 42, 182, 1, 225, 162, 0, 155, 3, 54, 5, 3, 54, 6, 4]
abbrev dktX5_share_1 : List UInt8 := dkwX5_share_1 ++ dktX5_share_2
def dkwX5_share_0 : List UInt8 := [42, 3, 181, 0, 75, 42, 180, 1, 138, 199, 0, 9, 42, 4, 182, 0, 81, 172, 42, 182, 1, 222, 2, 60]
abbrev dktX5_share_0 : List UInt8 := dkwX5_share_0 ++ dktX5_share_1
theorem dksX5_share_0 : cX5_share.data.toList.drop 0 = dktX5_share_0 := by decide +kernel
theorem dksX5_share_1 : cX5_share.data.toList.drop 24 = dktX5_share_1 := dk_seg dksX5_share_0 24 rfl rfl
theorem dksX5_share_2 : cX5_share.data.toList.drop 47 = dktX5_share_2 := dk_seg dksX5_share_1 23 rfl rfl
theorem dksX5_share_3 : cX5_share.data.toList.drop 69 = dktX5_share_3 := dk_seg dksX5_share_2 22 rfl rfl
theorem dksX5_share_4 : cX5_share.data.toList.drop 93 = dktX5_share_4 := dk_seg dksX5_share_3 24 rfl rfl
theorem dksX5_share_5 : cX5_share.data.toList.drop 117 = dktX5_share_5 := dk_seg dksX5_share_4 24 rfl rfl
theorem dksX5_share_6 : cX5_share.data.toList.drop 140 = dktX5_share_6 := dk_seg dksX5_share_5 23 rfl rfl
theorem dksX5_share_7 : cX5_share.data.toList.drop 164 = dktX5_share_7 := dk_seg dksX5_share_6 24 rfl rfl
theorem dksX5_share_8 : cX5_share.data.toList.drop 186 = dktX5_share_8 := dk_seg dksX5_share_7 22 rfl rfl
theorem dksX5_share_9 : cX5_share.data.toList.drop 210 = dktX5_share_9 := dk_seg dksX5_share_8 24 rfl rfl
theorem dksX5_share_10 : cX5_share.data.toList.drop 233 = dktX5_share_10 := dk_seg dksX5_share_9 23 rfl rfl
theorem dksX5_share_11 : cX5_share.data.toList.drop 255 = dktX5_share_11 := dk_seg dksX5_share_10 22 rfl rfl
theorem dksX5_share_12 : cX5_share.data.toList.drop 277 = dktX5_share_12 := dk_seg dksX5_share_11 22 rfl rfl
theorem dX5_share_0 : decode cX5_share 0 = .ok (.aload_n 0, 1) := dk_42 (dk_at dksX5_share_0 0 rfl rfl)
theorem dX5_share_1 : decode cX5_share 1 = .ok (.iconst 0, 1) := dk_3 (dk_at dksX5_share_0 1 rfl rfl)
theorem dX5_share_2 : decode cX5_share 2 = .ok (.putfield 75, 3) := dk_181 0 75 (dk_at dksX5_share_0 2 rfl rfl)
theorem dX5_share_5 : decode cX5_share 5 = .ok (.aload_n 0, 1) := dk_42 (dk_at dksX5_share_0 5 rfl rfl)
theorem dX5_share_6 : decode cX5_share 6 = .ok (.getfield 394, 3) := dk_180 1 138 (dk_at dksX5_share_0 6 rfl rfl)
theorem dX5_share_9 : decode cX5_share 9 = .ok (.ifnonnull 9, 3) := dk_199 0 9 (dk_at dksX5_share_0 9 rfl rfl)
theorem dX5_share_12 : decode cX5_share 12 = .ok (.aload_n 0, 1) := dk_42 (dk_at dksX5_share_0 12 rfl rfl)
theorem dX5_share_13 : decode cX5_share 13 = .ok (.iconst 1, 1) := dk_4 (dk_at dksX5_share_0 13 rfl rfl)
theorem dX5_share_14 : decode cX5_share 14 = .ok (.invokevirtual 81, 3) := dk_182 0 81 (dk_at dksX5_share_0 14 rfl rfl)
theorem dX5_share_17 : decode cX5_share 17 = .ok (.ireturn, 1) := dk_172 (dk_at dksX5_share_0 17 rfl rfl)
theorem dX5_share_18 : decode cX5_share 18 = .ok (.aload_n 0, 1) := dk_42 (dk_at dksX5_share_0 18 rfl rfl)
theorem dX5_share_19 : decode cX5_share 19 = .ok (.invokevirtual 478, 3) := dk_182 1 222 (dk_at dksX5_share_0 19 rfl rfl)
theorem dX5_share_22 : decode cX5_share 22 = .ok (.iconst (-1), 1) := dk_2 (dk_at dksX5_share_0 22 rfl rfl)
theorem dX5_share_23 : decode cX5_share 23 = .ok (.istore_n 1, 1) := dk_60 (dk_at dksX5_share_0 23 rfl rfl)
theorem dX5_share_24 : decode cX5_share 24 = .ok (.iconst 0, 1) := dk_3 (dk_at dksX5_share_1 0 rfl rfl)
theorem dX5_share_25 : decode cX5_share 25 = .ok (.istore_n 2, 1) := dk_61 (dk_at dksX5_share_1 1 rfl rfl)
theorem dX5_share_26 : decode cX5_share 26 = .ok (.iconst 0, 1) := dk_3 (dk_at dksX5_share_1 2 rfl rfl)
theorem dX5_share_27 : decode cX5_share 27 = .ok (.istore_n 3, 1) := dk_62 (dk_at dksX5_share_1 3 rfl rfl)
theorem dX5_share_28 : decode cX5_share 28 = .ok (.iconst 0, 1) := dk_3 (dk_at dksX5_share_1 4 rfl rfl)
theorem dX5_share_29 : decode cX5_share 29 = .ok (.istore 4, 2) := dk_54 4 (dk_at dksX5_share_1 5 rfl rfl)
theorem dX5_share_31 : decode cX5_share 31 = .ok (.iload 4, 2) := dk_21 4 (dk_at dksX5_share_1 7 rfl rfl)
theorem dX5_share_33 : decode cX5_share 33 = .ok (.aload_n 0, 1) := dk_42 (dk_at dksX5_share_1 9 rfl rfl)
theorem dX5_share_34 : decode cX5_share 34 = .ok (.invokevirtual 481, 3) := dk_182 1 225 (dk_at dksX5_share_1 10 rfl rfl)
theorem dX5_share_37 : decode cX5_share 37 = .ok (.if_icmp .ge 155, 3) := dk_162 0 155 (dk_at dksX5_share_1 13 rfl rfl)
theorem dX5_share_40 : decode cX5_share 40 = .ok (.iconst 0, 1) := dk_3 (dk_at dksX5_share_1 16 rfl rfl)
theorem dX5_share_41 : decode cX5_share 41 = .ok (.istore 5, 2) := dk_54 5 (dk_at dksX5_share_1 17 rfl rfl)
theorem dX5_share_43 : decode cX5_share 43 = .ok (.iconst 0, 1) := dk_3 (dk_at dksX5_share_1 19 rfl rfl)
theorem dX5_share_44 : decode cX5_share 44 = .ok (.istore 6, 2) := dk_54 6 (dk_at dksX5_share_1 20 rfl rfl)
theorem dX5_share_46 : decode cX5_share 46 = .ok (.iconst 1, 1) := dk_4 (dk_at dksX5_share_1 22 rfl rfl)
theorem dX5_share_47 : decode cX5_share 47 = .ok (.istore 7, 2) := dk_54 7 (dk_at dksX5_share_2 0 rfl rfl)
theorem dX5_share_49 : decode cX5_share 49 = .ok (.iconst 0, 1) := dk_3 (dk_at dksX5_share_2 2 rfl rfl)
theorem dX5_share_50 : decode cX5_share 50 = .ok (.istore 8, 2) := dk_54 8 (dk_at dksX5_share_2 3 rfl rfl)
theorem dX5_share_52 : decode cX5_share 52 = .ok (.iload 8, 2) := dk_21 8 (dk_at dksX5_share_2 5 rfl rfl)
theorem dX5_share_54 : decode cX5_share 54 = .ok (.aload_n 0, 1) := dk_42 (dk_at dksX5_share_2 7 rfl rfl)
theorem dX5_share_55 : decode cX5_share 55 = .ok (.getfield 394, 3) := dk_180 1 138 (dk_at dksX5_share_2 8 rfl rfl)
theorem dX5_share_58 : decode cX5_share 58 = .ok (.getfield 226, 3) := dk_180 0 226 (dk_at dksX5_share_2 11 rfl rfl)
theorem dX5_share_61 : decode cX5_share 61 = .ok (.if_icmp .ge 85, 3) := dk_162 0 85 (dk_at dksX5_share_2 14 rfl rfl)
theorem dX5_share_64 : decode cX5_share 64 = .ok (.aload_n 0, 1) := dk_42 (dk_at dksX5_share_2 17 rfl rfl)
theorem dX5_share_65 : decode cX5_share 65 = .ok (.iload 4, 2) := dk_21 4 (dk_at dksX5_share_2 18 rfl rfl)
theorem dX5_share_67 : decode cX5_share 67 = .ok (.iload 8, 2) := dk_21 8 (dk_at dksX5_share_2 20 rfl rfl)
theorem dX5_share_69 : decode cX5_share 69 = .ok (.invokevirtual 484, 3) := dk_182 1 228 (dk_at dksX5_share_3 0 rfl rfl)
theorem dX5_share_72 : decode cX5_share 72 = .ok (.istore 9, 2) := dk_54 9 (dk_at dksX5_share_3 3 rfl rfl)
theorem dX5_share_74 : decode cX5_share 74 = .ok (.iload 7, 2) := dk_21 7 (dk_at dksX5_share_3 5 rfl rfl)
theorem dX5_share_76 : decode cX5_share 76 = .ok (.ifCond .eq 25, 3) := dk_153 0 25 (dk_at dksX5_share_3 7 rfl rfl)
theorem dX5_share_79 : decode cX5_share 79 = .ok (.iload 9, 2) := dk_21 9 (dk_at dksX5_share_3 10 rfl rfl)
theorem dX5_share_81 : decode cX5_share 81 = .ok (.invokestatic 457, 3) := dk_184 1 201 (dk_at dksX5_share_3 12 rfl rfl)
theorem dX5_share_84 : decode cX5_share 84 = .ok (.aload_n 0, 1) := dk_42 (dk_at dksX5_share_3 15 rfl rfl)
theorem dX5_share_85 : decode cX5_share 85 = .ok (.getfield 394, 3) := dk_180 1 138 (dk_at dksX5_share_3 16 rfl rfl)
theorem dX5_share_88 : decode cX5_share 88 = .ok (.getfield 358, 3) := dk_180 1 102 (dk_at dksX5_share_3 19 rfl rfl)
theorem dX5_share_91 : decode cX5_share 91 = .ok (.iload 8, 2) := dk_21 8 (dk_at dksX5_share_3 22 rfl rfl)
theorem dX5_share_93 : decode cX5_share 93 = .ok (.iaload, 1) := dk_46 (dk_at dksX5_share_4 0 rfl rfl)
theorem dX5_share_94 : decode cX5_share 94 = .ok (.if_icmp .gt 7, 3) := dk_163 0 7 (dk_at dksX5_share_4 1 rfl rfl)
theorem dX5_share_97 : decode cX5_share 97 = .ok (.iconst 1, 1) := dk_4 (dk_at dksX5_share_4 4 rfl rfl)
theorem dX5_share_98 : decode cX5_share 98 = .ok (.goto 4, 3) := dk_167 0 4 (dk_at dksX5_share_4 5 rfl rfl)
theorem dX5_share_101 : decode cX5_share 101 = .ok (.iconst 0, 1) := dk_3 (dk_at dksX5_share_4 8 rfl rfl)
theorem dX5_share_102 : decode cX5_share 102 = .ok (.istore 7, 2) := dk_54 7 (dk_at dksX5_share_4 9 rfl rfl)
theorem dX5_share_104 : decode cX5_share 104 = .ok (.iload 5, 2) := dk_21 5 (dk_at dksX5_share_4 11 rfl rfl)
theorem dX5_share_106 : decode cX5_share 106 = .ok (.aload_n 0, 1) := dk_42 (dk_at dksX5_share_4 13 rfl rfl)
theorem dX5_share_107 : decode cX5_share 107 = .ok (.getfield 36, 3) := dk_180 0 36 (dk_at dksX5_share_4 14 rfl rfl)
theorem dX5_share_110 : decode cX5_share 110 = .ok (.iload 8, 2) := dk_21 8 (dk_at dksX5_share_4 17 rfl rfl)
theorem dX5_share_112 : decode cX5_share 112 = .ok (.bipush 6, 2) := dk_16 6 (dk_at dksX5_share_4 19 rfl rfl)
theorem dX5_share_114 : decode cX5_share 114 = .ok (.ishl, 1) := dk_120 (dk_at dksX5_share_4 21 rfl rfl)
theorem dX5_share_115 : decode cX5_share 115 = .ok (.iload 9, 2) := dk_21 9 (dk_at dksX5_share_4 22 rfl rfl)
theorem dX5_share_117 : decode cX5_share 117 = .ok (.iadd, 1) := dk_96 (dk_at dksX5_share_5 0 rfl rfl)
theorem dX5_share_118 : decode cX5_share 118 = .ok (.iaload, 1) := dk_46 (dk_at dksX5_share_5 1 rfl rfl)
theorem dX5_share_119 : decode cX5_share 119 = .ok (.iadd, 1) := dk_96 (dk_at dksX5_share_5 2 rfl rfl)
theorem dX5_share_120 : decode cX5_share 120 = .ok (.istore 5, 2) := dk_54 5 (dk_at dksX5_share_5 3 rfl rfl)
theorem dX5_share_122 : decode cX5_share 122 = .ok (.iload 6, 2) := dk_21 6 (dk_at dksX5_share_5 5 rfl rfl)
theorem dX5_share_124 : decode cX5_share 124 = .ok (.aload_n 0, 1) := dk_42 (dk_at dksX5_share_5 7 rfl rfl)
theorem dX5_share_125 : decode cX5_share 125 = .ok (.getfield 39, 3) := dk_180 0 39 (dk_at dksX5_share_5 8 rfl rfl)
theorem dX5_share_128 : decode cX5_share 128 = .ok (.iload 8, 2) := dk_21 8 (dk_at dksX5_share_5 11 rfl rfl)
theorem dX5_share_130 : decode cX5_share 130 = .ok (.bipush 6, 2) := dk_16 6 (dk_at dksX5_share_5 13 rfl rfl)
theorem dX5_share_132 : decode cX5_share 132 = .ok (.ishl, 1) := dk_120 (dk_at dksX5_share_5 15 rfl rfl)
theorem dX5_share_133 : decode cX5_share 133 = .ok (.iload 9, 2) := dk_21 9 (dk_at dksX5_share_5 16 rfl rfl)
theorem dX5_share_135 : decode cX5_share 135 = .ok (.iadd, 1) := dk_96 (dk_at dksX5_share_5 18 rfl rfl)
theorem dX5_share_136 : decode cX5_share 136 = .ok (.iaload, 1) := dk_46 (dk_at dksX5_share_5 19 rfl rfl)
theorem dX5_share_137 : decode cX5_share 137 = .ok (.iadd, 1) := dk_96 (dk_at dksX5_share_5 20 rfl rfl)
theorem dX5_share_138 : decode cX5_share 138 = .ok (.istore 6, 2) := dk_54 6 (dk_at dksX5_share_5 21 rfl rfl)
theorem dX5_share_140 : decode cX5_share 140 = .ok (.iinc 8 1, 3) := dk_132 8 1 (dk_at dksX5_share_6 0 rfl rfl)
theorem dX5_share_143 : decode cX5_share 143 = .ok (.goto (-91), 3) := dk_167 255 165 (dk_at dksX5_share_6 3 rfl rfl)
theorem dX5_share_146 : decode cX5_share 146 = .ok (.iload 7, 2) := dk_21 7 (dk_at dksX5_share_6 6 rfl rfl)
theorem dX5_share_148 : decode cX5_share 148 = .ok (.ifCond .eq 38, 3) := dk_153 0 38 (dk_at dksX5_share_6 8 rfl rfl)
theorem dX5_share_151 : decode cX5_share 151 = .ok (.iload_n 1, 1) := dk_27 (dk_at dksX5_share_6 11 rfl rfl)
theorem dX5_share_152 : decode cX5_share 152 = .ok (.iconst (-1), 1) := dk_2 (dk_at dksX5_share_6 12 rfl rfl)
theorem dX5_share_153 : decode cX5_share 153 = .ok (.if_icmp .eq 24, 3) := dk_159 0 24 (dk_at dksX5_share_6 13 rfl rfl)
theorem dX5_share_156 : decode cX5_share 156 = .ok (.iload 5, 2) := dk_21 5 (dk_at dksX5_share_6 16 rfl rfl)
theorem dX5_share_158 : decode cX5_share 158 = .ok (.iload_n 2, 1) := dk_28 (dk_at dksX5_share_6 18 rfl rfl)
theorem dX5_share_159 : decode cX5_share 159 = .ok (.if_icmp .gt 27, 3) := dk_163 0 27 (dk_at dksX5_share_6 19 rfl rfl)
theorem dX5_share_162 : decode cX5_share 162 = .ok (.iload 5, 2) := dk_21 5 (dk_at dksX5_share_6 22 rfl rfl)
theorem dX5_share_164 : decode cX5_share 164 = .ok (.iload_n 2, 1) := dk_28 (dk_at dksX5_share_7 0 rfl rfl)
theorem dX5_share_165 : decode cX5_share 165 = .ok (.if_icmp .ne 12, 3) := dk_160 0 12 (dk_at dksX5_share_7 1 rfl rfl)
theorem dX5_share_168 : decode cX5_share 168 = .ok (.iload 6, 2) := dk_21 6 (dk_at dksX5_share_7 4 rfl rfl)
theorem dX5_share_170 : decode cX5_share 170 = .ok (.iload_n 3, 1) := dk_29 (dk_at dksX5_share_7 6 rfl rfl)
theorem dX5_share_171 : decode cX5_share 171 = .ok (.if_icmp .lt 6, 3) := dk_161 0 6 (dk_at dksX5_share_7 7 rfl rfl)
theorem dX5_share_174 : decode cX5_share 174 = .ok (.goto 12, 3) := dk_167 0 12 (dk_at dksX5_share_7 10 rfl rfl)
theorem dX5_share_177 : decode cX5_share 177 = .ok (.iload 4, 2) := dk_21 4 (dk_at dksX5_share_7 13 rfl rfl)
theorem dX5_share_179 : decode cX5_share 179 = .ok (.istore_n 1, 1) := dk_60 (dk_at dksX5_share_7 15 rfl rfl)
theorem dX5_share_180 : decode cX5_share 180 = .ok (.iload 5, 2) := dk_21 5 (dk_at dksX5_share_7 16 rfl rfl)
theorem dX5_share_182 : decode cX5_share 182 = .ok (.istore_n 2, 1) := dk_61 (dk_at dksX5_share_7 18 rfl rfl)
theorem dX5_share_183 : decode cX5_share 183 = .ok (.iload 6, 2) := dk_21 6 (dk_at dksX5_share_7 19 rfl rfl)
theorem dX5_share_185 : decode cX5_share 185 = .ok (.istore_n 3, 1) := dk_62 (dk_at dksX5_share_7 21 rfl rfl)
theorem dX5_share_186 : decode cX5_share 186 = .ok (.iinc 4 1, 3) := dk_132 4 1 (dk_at dksX5_share_8 0 rfl rfl)
theorem dX5_share_189 : decode cX5_share 189 = .ok (.goto (-158), 3) := dk_167 255 98 (dk_at dksX5_share_8 3 rfl rfl)
theorem dX5_share_192 : decode cX5_share 192 = .ok (.iload_n 1, 1) := dk_27 (dk_at dksX5_share_8 6 rfl rfl)
theorem dX5_share_193 : decode cX5_share 193 = .ok (.iconst (-1), 1) := dk_2 (dk_at dksX5_share_8 7 rfl rfl)
theorem dX5_share_194 : decode cX5_share 194 = .ok (.if_icmp .ne 10, 3) := dk_160 0 10 (dk_at dksX5_share_8 8 rfl rfl)
theorem dX5_share_197 : decode cX5_share 197 = .ok (.aload_n 0, 1) := dk_42 (dk_at dksX5_share_8 11 rfl rfl)
theorem dX5_share_198 : decode cX5_share 198 = .ok (.bipush 6, 2) := dk_16 6 (dk_at dksX5_share_8 12 rfl rfl)
theorem dX5_share_200 : decode cX5_share 200 = .ok (.invokevirtual 81, 3) := dk_182 0 81 (dk_at dksX5_share_8 14 rfl rfl)
theorem dX5_share_203 : decode cX5_share 203 = .ok (.ireturn, 1) := dk_172 (dk_at dksX5_share_8 17 rfl rfl)
theorem dX5_share_204 : decode cX5_share 204 = .ok (.aload_n 0, 1) := dk_42 (dk_at dksX5_share_8 18 rfl rfl)
theorem dX5_share_205 : decode cX5_share 205 = .ok (.iconst 1, 1) := dk_4 (dk_at dksX5_share_8 19 rfl rfl)
theorem dX5_share_206 : decode cX5_share 206 = .ok (.putfield 413, 3) := dk_181 1 157 (dk_at dksX5_share_8 20 rfl rfl)
theorem dX5_share_209 : decode cX5_share 209 = .ok (.iconst 0, 1) := dk_3 (dk_at dksX5_share_8 23 rfl rfl)
theorem dX5_share_210 : decode cX5_share 210 = .ok (.istore 4, 2) := dk_54 4 (dk_at dksX5_share_9 0 rfl rfl)
theorem dX5_share_212 : decode cX5_share 212 = .ok (.iload 4, 2) := dk_21 4 (dk_at dksX5_share_9 2 rfl rfl)
theorem dX5_share_214 : decode cX5_share 214 = .ok (.aload_n 0, 1) := dk_42 (dk_at dksX5_share_9 4 rfl rfl)
theorem dX5_share_215 : decode cX5_share 215 = .ok (.getfield 394, 3) := dk_180 1 138 (dk_at dksX5_share_9 5 rfl rfl)
theorem dX5_share_218 : decode cX5_share 218 = .ok (.getfield 226, 3) := dk_180 0 226 (dk_at dksX5_share_9 8 rfl rfl)
theorem dX5_share_221 : decode cX5_share 221 = .ok (.if_icmp .ge 54, 3) := dk_162 0 54 (dk_at dksX5_share_9 11 rfl rfl)
theorem dX5_share_224 : decode cX5_share 224 = .ok (.iconst 0, 1) := dk_3 (dk_at dksX5_share_9 14 rfl rfl)
theorem dX5_share_225 : decode cX5_share 225 = .ok (.istore 5, 2) := dk_54 5 (dk_at dksX5_share_9 15 rfl rfl)
theorem dX5_share_227 : decode cX5_share 227 = .ok (.iload 5, 2) := dk_21 5 (dk_at dksX5_share_9 17 rfl rfl)
theorem dX5_share_229 : decode cX5_share 229 = .ok (.aload_n 0, 1) := dk_42 (dk_at dksX5_share_9 19 rfl rfl)
theorem dX5_share_230 : decode cX5_share 230 = .ok (.getfield 394, 3) := dk_180 1 138 (dk_at dksX5_share_9 20 rfl rfl)
theorem dX5_share_233 : decode cX5_share 233 = .ok (.getfield 223, 3) := dk_180 0 223 (dk_at dksX5_share_10 0 rfl rfl)
theorem dX5_share_236 : decode cX5_share 236 = .ok (.if_icmp .ge 33, 3) := dk_162 0 33 (dk_at dksX5_share_10 3 rfl rfl)
theorem dX5_share_239 : decode cX5_share 239 = .ok (.aload_n 0, 1) := dk_42 (dk_at dksX5_share_10 6 rfl rfl)
theorem dX5_share_240 : decode cX5_share 240 = .ok (.iload_n 1, 1) := dk_27 (dk_at dksX5_share_10 7 rfl rfl)
theorem dX5_share_241 : decode cX5_share 241 = .ok (.iload 4, 2) := dk_21 4 (dk_at dksX5_share_10 8 rfl rfl)
theorem dX5_share_243 : decode cX5_share 243 = .ok (.invokevirtual 484, 3) := dk_182 1 228 (dk_at dksX5_share_10 10 rfl rfl)
theorem dX5_share_246 : decode cX5_share 246 = .ok (.iload 5, 2) := dk_21 5 (dk_at dksX5_share_10 13 rfl rfl)
theorem dX5_share_248 : decode cX5_share 248 = .ok (.invokestatic 440, 3) := dk_184 1 184 (dk_at dksX5_share_10 15 rfl rfl)
theorem dX5_share_251 : decode cX5_share 251 = .ok (.ifCond .eq 12, 3) := dk_153 0 12 (dk_at dksX5_share_10 18 rfl rfl)
theorem dX5_share_254 : decode cX5_share 254 = .ok (.aload_n 0, 1) := dk_42 (dk_at dksX5_share_10 21 rfl rfl)
theorem dX5_share_255 : decode cX5_share 255 = .ok (.getfield 33, 3) := dk_180 0 33 (dk_at dksX5_share_11 0 rfl rfl)
theorem dX5_share_258 : decode cX5_share 258 = .ok (.iload 5, 2) := dk_21 5 (dk_at dksX5_share_11 3 rfl rfl)
theorem dX5_share_260 : decode cX5_share 260 = .ok (.iload 4, 2) := dk_21 4 (dk_at dksX5_share_11 5 rfl rfl)
theorem dX5_share_262 : decode cX5_share 262 = .ok (.iastore, 1) := dk_79 (dk_at dksX5_share_11 7 rfl rfl)
theorem dX5_share_263 : decode cX5_share 263 = .ok (.iinc 5 1, 3) := dk_132 5 1 (dk_at dksX5_share_11 8 rfl rfl)
theorem dX5_share_266 : decode cX5_share 266 = .ok (.goto (-39), 3) := dk_167 255 217 (dk_at dksX5_share_11 11 rfl rfl)
theorem dX5_share_269 : decode cX5_share 269 = .ok (.iinc 4 1, 3) := dk_132 4 1 (dk_at dksX5_share_11 14 rfl rfl)
theorem dX5_share_272 : decode cX5_share 272 = .ok (.goto (-60), 3) := dk_167 255 196 (dk_at dksX5_share_11 17 rfl rfl)
theorem dX5_share_275 : decode cX5_share 275 = .ok (.aload_n 0, 1) := dk_42 (dk_at dksX5_share_11 20 rfl rfl)
theorem dX5_share_276 : decode cX5_share 276 = .ok (.iload_n 2, 1) := dk_28 (dk_at dksX5_share_11 21 rfl rfl)
theorem dX5_share_277 : decode cX5_share 277 = .ok (.invokevirtual 416, 3) := dk_182 1 160 (dk_at dksX5_share_12 0 rfl rfl)
theorem dX5_share_280 : decode cX5_share 280 = .ok (.ireturn, 1) := dk_172 (dk_at dksX5_share_12 3 rfl rfl)
abbrev cX5_weighsCars : ByteArray := prog_15_method_62_code
def yX5_weighsCars : MethodName := ⟨RX5, "weighsCars", "()V"⟩
def dkwX5_weighsCars_4 : List UInt8 := [167, 255, 177, 132, 1, 1, 167, 255, 158, 177]
abbrev dktX5_weighsCars_4 : List UInt8 := dkwX5_weighsCars_4 ++ []
def dkwX5_weighsCars_3 : List UInt8 := [27, 16, 6, 120, 28, 96, 28, 154, 0, 7, 3, 167, 0, 7, 42, 180, 1, 210, 79, 132, 2, 1]
abbrev dktX5_weighsCars_3 : List UInt8 := dkwX5_weighsCars_3 ++ dktX5_weighsCars_4
def dkwX5_weighsCars_2 : List UInt8 := [27, 28, 182, 1, 219, 42, 180, 0, 36, 27, 16, 6, 120, 28, 96, 42, 180, 1, 207, 79, 42, 180, 0, 39]
abbrev dktX5_weighsCars_2 : List UInt8 := dkwX5_weighsCars_2 ++ dktX5_weighsCars_3
def dkwX5_weighsCars_1 : List UInt8 := [120, 162, 0, 72, 28, 184, 1, 201, 42, 180, 1, 138, 180, 1, 102, 27, 46, 164, 0, 6, 167, 0, 47, 42]
abbrev dktX5_weighsCars_1 : List UInt8 := dkwX5_weighsCars_1 ++ dktX5_weighsCars_2
def dkwX5_weighsCars_0 : List UInt8 := [3, 60, 27, 42, 180, 1, 138, 180, 0, 226, 162, 0, 93, 3, 61, 28, 4, 42, 180, 1, 138, 180, 0, 223]
abbrev dktX5_weighsCars_0 : List UInt8 := dkwX5_weighsCars_0 ++ dktX5_weighsCars_1
theorem dksX5_weighsCars_0 : cX5_weighsCars.data.toList.drop 0 = dktX5_weighsCars_0 := by decide +kernel
theorem dksX5_weighsCars_1 : cX5_weighsCars.data.toList.drop 24 = dktX5_weighsCars_1 := dk_seg dksX5_weighsCars_0 24 rfl rfl
theorem dksX5_weighsCars_2 : cX5_weighsCars.data.toList.drop 48 = dktX5_weighsCars_2 := dk_seg dksX5_weighsCars_1 24 rfl rfl
theorem dksX5_weighsCars_3 : cX5_weighsCars.data.toList.drop 72 = dktX5_weighsCars_3 := dk_seg dksX5_weighsCars_2 24 rfl rfl
theorem dksX5_weighsCars_4 : cX5_weighsCars.data.toList.drop 94 = dktX5_weighsCars_4 := dk_seg dksX5_weighsCars_3 22 rfl rfl
theorem dX5_weighsCars_0 : decode cX5_weighsCars 0 = .ok (.iconst 0, 1) := dk_3 (dk_at dksX5_weighsCars_0 0 rfl rfl)
theorem dX5_weighsCars_1 : decode cX5_weighsCars 1 = .ok (.istore_n 1, 1) := dk_60 (dk_at dksX5_weighsCars_0 1 rfl rfl)
theorem dX5_weighsCars_2 : decode cX5_weighsCars 2 = .ok (.iload_n 1, 1) := dk_27 (dk_at dksX5_weighsCars_0 2 rfl rfl)
theorem dX5_weighsCars_3 : decode cX5_weighsCars 3 = .ok (.aload_n 0, 1) := dk_42 (dk_at dksX5_weighsCars_0 3 rfl rfl)
theorem dX5_weighsCars_4 : decode cX5_weighsCars 4 = .ok (.getfield 394, 3) := dk_180 1 138 (dk_at dksX5_weighsCars_0 4 rfl rfl)
theorem dX5_weighsCars_7 : decode cX5_weighsCars 7 = .ok (.getfield 226, 3) := dk_180 0 226 (dk_at dksX5_weighsCars_0 7 rfl rfl)
theorem dX5_weighsCars_10 : decode cX5_weighsCars 10 = .ok (.if_icmp .ge 93, 3) := dk_162 0 93 (dk_at dksX5_weighsCars_0 10 rfl rfl)
theorem dX5_weighsCars_13 : decode cX5_weighsCars 13 = .ok (.iconst 0, 1) := dk_3 (dk_at dksX5_weighsCars_0 13 rfl rfl)
theorem dX5_weighsCars_14 : decode cX5_weighsCars 14 = .ok (.istore_n 2, 1) := dk_61 (dk_at dksX5_weighsCars_0 14 rfl rfl)
theorem dX5_weighsCars_15 : decode cX5_weighsCars 15 = .ok (.iload_n 2, 1) := dk_28 (dk_at dksX5_weighsCars_0 15 rfl rfl)
theorem dX5_weighsCars_16 : decode cX5_weighsCars 16 = .ok (.iconst 1, 1) := dk_4 (dk_at dksX5_weighsCars_0 16 rfl rfl)
theorem dX5_weighsCars_17 : decode cX5_weighsCars 17 = .ok (.aload_n 0, 1) := dk_42 (dk_at dksX5_weighsCars_0 17 rfl rfl)
theorem dX5_weighsCars_18 : decode cX5_weighsCars 18 = .ok (.getfield 394, 3) := dk_180 1 138 (dk_at dksX5_weighsCars_0 18 rfl rfl)
theorem dX5_weighsCars_21 : decode cX5_weighsCars 21 = .ok (.getfield 223, 3) := dk_180 0 223 (dk_at dksX5_weighsCars_0 21 rfl rfl)
theorem dX5_weighsCars_24 : decode cX5_weighsCars 24 = .ok (.ishl, 1) := dk_120 (dk_at dksX5_weighsCars_1 0 rfl rfl)
theorem dX5_weighsCars_25 : decode cX5_weighsCars 25 = .ok (.if_icmp .ge 72, 3) := dk_162 0 72 (dk_at dksX5_weighsCars_1 1 rfl rfl)
theorem dX5_weighsCars_28 : decode cX5_weighsCars 28 = .ok (.iload_n 2, 1) := dk_28 (dk_at dksX5_weighsCars_1 4 rfl rfl)
theorem dX5_weighsCars_29 : decode cX5_weighsCars 29 = .ok (.invokestatic 457, 3) := dk_184 1 201 (dk_at dksX5_weighsCars_1 5 rfl rfl)
theorem dX5_weighsCars_32 : decode cX5_weighsCars 32 = .ok (.aload_n 0, 1) := dk_42 (dk_at dksX5_weighsCars_1 8 rfl rfl)
theorem dX5_weighsCars_33 : decode cX5_weighsCars 33 = .ok (.getfield 394, 3) := dk_180 1 138 (dk_at dksX5_weighsCars_1 9 rfl rfl)
theorem dX5_weighsCars_36 : decode cX5_weighsCars 36 = .ok (.getfield 358, 3) := dk_180 1 102 (dk_at dksX5_weighsCars_1 12 rfl rfl)
theorem dX5_weighsCars_39 : decode cX5_weighsCars 39 = .ok (.iload_n 1, 1) := dk_27 (dk_at dksX5_weighsCars_1 15 rfl rfl)
theorem dX5_weighsCars_40 : decode cX5_weighsCars 40 = .ok (.iaload, 1) := dk_46 (dk_at dksX5_weighsCars_1 16 rfl rfl)
theorem dX5_weighsCars_41 : decode cX5_weighsCars 41 = .ok (.if_icmp .le 6, 3) := dk_164 0 6 (dk_at dksX5_weighsCars_1 17 rfl rfl)
theorem dX5_weighsCars_44 : decode cX5_weighsCars 44 = .ok (.goto 47, 3) := dk_167 0 47 (dk_at dksX5_weighsCars_1 20 rfl rfl)
theorem dX5_weighsCars_47 : decode cX5_weighsCars 47 = .ok (.aload_n 0, 1) := dk_42 (dk_at dksX5_weighsCars_1 23 rfl rfl)
theorem dX5_weighsCars_48 : decode cX5_weighsCars 48 = .ok (.iload_n 1, 1) := dk_27 (dk_at dksX5_weighsCars_2 0 rfl rfl)
theorem dX5_weighsCars_49 : decode cX5_weighsCars 49 = .ok (.iload_n 2, 1) := dk_28 (dk_at dksX5_weighsCars_2 1 rfl rfl)
theorem dX5_weighsCars_50 : decode cX5_weighsCars 50 = .ok (.invokevirtual 475, 3) := dk_182 1 219 (dk_at dksX5_weighsCars_2 2 rfl rfl)
theorem dX5_weighsCars_53 : decode cX5_weighsCars 53 = .ok (.aload_n 0, 1) := dk_42 (dk_at dksX5_weighsCars_2 5 rfl rfl)
theorem dX5_weighsCars_54 : decode cX5_weighsCars 54 = .ok (.getfield 36, 3) := dk_180 0 36 (dk_at dksX5_weighsCars_2 6 rfl rfl)
theorem dX5_weighsCars_57 : decode cX5_weighsCars 57 = .ok (.iload_n 1, 1) := dk_27 (dk_at dksX5_weighsCars_2 9 rfl rfl)
theorem dX5_weighsCars_58 : decode cX5_weighsCars 58 = .ok (.bipush 6, 2) := dk_16 6 (dk_at dksX5_weighsCars_2 10 rfl rfl)
theorem dX5_weighsCars_60 : decode cX5_weighsCars 60 = .ok (.ishl, 1) := dk_120 (dk_at dksX5_weighsCars_2 12 rfl rfl)
theorem dX5_weighsCars_61 : decode cX5_weighsCars 61 = .ok (.iload_n 2, 1) := dk_28 (dk_at dksX5_weighsCars_2 13 rfl rfl)
theorem dX5_weighsCars_62 : decode cX5_weighsCars 62 = .ok (.iadd, 1) := dk_96 (dk_at dksX5_weighsCars_2 14 rfl rfl)
theorem dX5_weighsCars_63 : decode cX5_weighsCars 63 = .ok (.aload_n 0, 1) := dk_42 (dk_at dksX5_weighsCars_2 15 rfl rfl)
theorem dX5_weighsCars_64 : decode cX5_weighsCars 64 = .ok (.getfield 463, 3) := dk_180 1 207 (dk_at dksX5_weighsCars_2 16 rfl rfl)
theorem dX5_weighsCars_67 : decode cX5_weighsCars 67 = .ok (.iastore, 1) := dk_79 (dk_at dksX5_weighsCars_2 19 rfl rfl)
theorem dX5_weighsCars_68 : decode cX5_weighsCars 68 = .ok (.aload_n 0, 1) := dk_42 (dk_at dksX5_weighsCars_2 20 rfl rfl)
theorem dX5_weighsCars_69 : decode cX5_weighsCars 69 = .ok (.getfield 39, 3) := dk_180 0 39 (dk_at dksX5_weighsCars_2 21 rfl rfl)
theorem dX5_weighsCars_72 : decode cX5_weighsCars 72 = .ok (.iload_n 1, 1) := dk_27 (dk_at dksX5_weighsCars_3 0 rfl rfl)
theorem dX5_weighsCars_73 : decode cX5_weighsCars 73 = .ok (.bipush 6, 2) := dk_16 6 (dk_at dksX5_weighsCars_3 1 rfl rfl)
theorem dX5_weighsCars_75 : decode cX5_weighsCars 75 = .ok (.ishl, 1) := dk_120 (dk_at dksX5_weighsCars_3 3 rfl rfl)
theorem dX5_weighsCars_76 : decode cX5_weighsCars 76 = .ok (.iload_n 2, 1) := dk_28 (dk_at dksX5_weighsCars_3 4 rfl rfl)
theorem dX5_weighsCars_77 : decode cX5_weighsCars 77 = .ok (.iadd, 1) := dk_96 (dk_at dksX5_weighsCars_3 5 rfl rfl)
theorem dX5_weighsCars_78 : decode cX5_weighsCars 78 = .ok (.iload_n 2, 1) := dk_28 (dk_at dksX5_weighsCars_3 6 rfl rfl)
theorem dX5_weighsCars_79 : decode cX5_weighsCars 79 = .ok (.ifCond .ne 7, 3) := dk_154 0 7 (dk_at dksX5_weighsCars_3 7 rfl rfl)
theorem dX5_weighsCars_82 : decode cX5_weighsCars 82 = .ok (.iconst 0, 1) := dk_3 (dk_at dksX5_weighsCars_3 10 rfl rfl)
theorem dX5_weighsCars_83 : decode cX5_weighsCars 83 = .ok (.goto 7, 3) := dk_167 0 7 (dk_at dksX5_weighsCars_3 11 rfl rfl)
theorem dX5_weighsCars_86 : decode cX5_weighsCars 86 = .ok (.aload_n 0, 1) := dk_42 (dk_at dksX5_weighsCars_3 14 rfl rfl)
theorem dX5_weighsCars_87 : decode cX5_weighsCars 87 = .ok (.getfield 466, 3) := dk_180 1 210 (dk_at dksX5_weighsCars_3 15 rfl rfl)
theorem dX5_weighsCars_90 : decode cX5_weighsCars 90 = .ok (.iastore, 1) := dk_79 (dk_at dksX5_weighsCars_3 18 rfl rfl)
theorem dX5_weighsCars_91 : decode cX5_weighsCars 91 = .ok (.iinc 2 1, 3) := dk_132 2 1 (dk_at dksX5_weighsCars_3 19 rfl rfl)
theorem dX5_weighsCars_94 : decode cX5_weighsCars 94 = .ok (.goto (-79), 3) := dk_167 255 177 (dk_at dksX5_weighsCars_4 0 rfl rfl)
theorem dX5_weighsCars_97 : decode cX5_weighsCars 97 = .ok (.iinc 1 1, 3) := dk_132 1 1 (dk_at dksX5_weighsCars_4 3 rfl rfl)
theorem dX5_weighsCars_100 : decode cX5_weighsCars 100 = .ok (.goto (-98), 3) := dk_167 255 158 (dk_at dksX5_weighsCars_4 6 rfl rfl)
theorem dX5_weighsCars_103 : decode cX5_weighsCars 103 = .ok (.return_, 1) := dk_177 (dk_at dksX5_weighsCars_4 9 rfl rfl)
abbrev cX5_shares : ByteArray := prog_15_method_61_code
def yX5_shares : MethodName := ⟨RX5, "shares", "()I"⟩
def dkwX5_shares_1 : List UInt8 := [60, 132, 2, 1, 167, 255, 232, 27, 172]
abbrev dktX5_shares_1 : List UInt8 := dkwX5_shares_1 ++ []
def dkwX5_shares_0 : List UInt8 := [4, 60, 3, 61, 28, 42, 180, 1, 138, 180, 0, 223, 162, 0, 19, 27, 42, 180, 1, 138, 180, 0, 226, 104]
abbrev dktX5_shares_0 : List UInt8 := dkwX5_shares_0 ++ dktX5_shares_1
theorem dksX5_shares_0 : cX5_shares.data.toList.drop 0 = dktX5_shares_0 := by decide +kernel
theorem dksX5_shares_1 : cX5_shares.data.toList.drop 24 = dktX5_shares_1 := dk_seg dksX5_shares_0 24 rfl rfl
theorem dX5_shares_0 : decode cX5_shares 0 = .ok (.iconst 1, 1) := dk_4 (dk_at dksX5_shares_0 0 rfl rfl)
theorem dX5_shares_1 : decode cX5_shares 1 = .ok (.istore_n 1, 1) := dk_60 (dk_at dksX5_shares_0 1 rfl rfl)
theorem dX5_shares_2 : decode cX5_shares 2 = .ok (.iconst 0, 1) := dk_3 (dk_at dksX5_shares_0 2 rfl rfl)
theorem dX5_shares_3 : decode cX5_shares 3 = .ok (.istore_n 2, 1) := dk_61 (dk_at dksX5_shares_0 3 rfl rfl)
theorem dX5_shares_4 : decode cX5_shares 4 = .ok (.iload_n 2, 1) := dk_28 (dk_at dksX5_shares_0 4 rfl rfl)
theorem dX5_shares_5 : decode cX5_shares 5 = .ok (.aload_n 0, 1) := dk_42 (dk_at dksX5_shares_0 5 rfl rfl)
theorem dX5_shares_6 : decode cX5_shares 6 = .ok (.getfield 394, 3) := dk_180 1 138 (dk_at dksX5_shares_0 6 rfl rfl)
theorem dX5_shares_9 : decode cX5_shares 9 = .ok (.getfield 223, 3) := dk_180 0 223 (dk_at dksX5_shares_0 9 rfl rfl)
theorem dX5_shares_12 : decode cX5_shares 12 = .ok (.if_icmp .ge 19, 3) := dk_162 0 19 (dk_at dksX5_shares_0 12 rfl rfl)
theorem dX5_shares_15 : decode cX5_shares 15 = .ok (.iload_n 1, 1) := dk_27 (dk_at dksX5_shares_0 15 rfl rfl)
theorem dX5_shares_16 : decode cX5_shares 16 = .ok (.aload_n 0, 1) := dk_42 (dk_at dksX5_shares_0 16 rfl rfl)
theorem dX5_shares_17 : decode cX5_shares 17 = .ok (.getfield 394, 3) := dk_180 1 138 (dk_at dksX5_shares_0 17 rfl rfl)
theorem dX5_shares_20 : decode cX5_shares 20 = .ok (.getfield 226, 3) := dk_180 0 226 (dk_at dksX5_shares_0 20 rfl rfl)
theorem dX5_shares_23 : decode cX5_shares 23 = .ok (.imul, 1) := dk_104 (dk_at dksX5_shares_0 23 rfl rfl)
theorem dX5_shares_24 : decode cX5_shares 24 = .ok (.istore_n 1, 1) := dk_60 (dk_at dksX5_shares_1 0 rfl rfl)
theorem dX5_shares_25 : decode cX5_shares 25 = .ok (.iinc 2 1, 3) := dk_132 2 1 (dk_at dksX5_shares_1 1 rfl rfl)
theorem dX5_shares_28 : decode cX5_shares 28 = .ok (.goto (-24), 3) := dk_167 255 232 (dk_at dksX5_shares_1 4 rfl rfl)
theorem dX5_shares_31 : decode cX5_shares 31 = .ok (.iload_n 1, 1) := dk_27 (dk_at dksX5_shares_1 7 rfl rfl)
theorem dX5_shares_32 : decode cX5_shares 32 = .ok (.ireturn, 1) := dk_172 (dk_at dksX5_shares_1 8 rfl rfl)
abbrev cX5_housesOf : ByteArray := prog_15_method_60_code
def yX5_housesOf : MethodName := ⟨RX5, "housesOf", "(II)I"⟩
def dkwX5_housesOf_2 : List UInt8 := [180, 0, 226, 108, 54, 4, 132, 5, 255, 167, 255, 215, 29, 172]
abbrev dktX5_housesOf_2 : List UInt8 := dkwX5_housesOf_2 ++ []
def dkwX5_housesOf_1 : List UInt8 := [180, 1, 138, 180, 0, 226, 112, 28, 160, 0, 10, 29, 4, 21, 5, 120, 128, 62, 21, 4, 42, 180, 1, 138]
abbrev dktX5_housesOf_1 : List UInt8 := dkwX5_housesOf_1 ++ dktX5_housesOf_2
def dkwX5_housesOf_0 : List UInt8 := [3, 62, 27, 54, 4, 42, 180, 1, 138, 180, 0, 223, 4, 100, 54, 5, 21, 5, 155, 0, 42, 21, 4, 42]
abbrev dktX5_housesOf_0 : List UInt8 := dkwX5_housesOf_0 ++ dktX5_housesOf_1
theorem dksX5_housesOf_0 : cX5_housesOf.data.toList.drop 0 = dktX5_housesOf_0 := by decide +kernel
theorem dksX5_housesOf_1 : cX5_housesOf.data.toList.drop 24 = dktX5_housesOf_1 := dk_seg dksX5_housesOf_0 24 rfl rfl
theorem dksX5_housesOf_2 : cX5_housesOf.data.toList.drop 48 = dktX5_housesOf_2 := dk_seg dksX5_housesOf_1 24 rfl rfl
theorem dX5_housesOf_0 : decode cX5_housesOf 0 = .ok (.iconst 0, 1) := dk_3 (dk_at dksX5_housesOf_0 0 rfl rfl)
theorem dX5_housesOf_1 : decode cX5_housesOf 1 = .ok (.istore_n 3, 1) := dk_62 (dk_at dksX5_housesOf_0 1 rfl rfl)
theorem dX5_housesOf_2 : decode cX5_housesOf 2 = .ok (.iload_n 1, 1) := dk_27 (dk_at dksX5_housesOf_0 2 rfl rfl)
theorem dX5_housesOf_3 : decode cX5_housesOf 3 = .ok (.istore 4, 2) := dk_54 4 (dk_at dksX5_housesOf_0 3 rfl rfl)
theorem dX5_housesOf_5 : decode cX5_housesOf 5 = .ok (.aload_n 0, 1) := dk_42 (dk_at dksX5_housesOf_0 5 rfl rfl)
theorem dX5_housesOf_6 : decode cX5_housesOf 6 = .ok (.getfield 394, 3) := dk_180 1 138 (dk_at dksX5_housesOf_0 6 rfl rfl)
theorem dX5_housesOf_9 : decode cX5_housesOf 9 = .ok (.getfield 223, 3) := dk_180 0 223 (dk_at dksX5_housesOf_0 9 rfl rfl)
theorem dX5_housesOf_12 : decode cX5_housesOf 12 = .ok (.iconst 1, 1) := dk_4 (dk_at dksX5_housesOf_0 12 rfl rfl)
theorem dX5_housesOf_13 : decode cX5_housesOf 13 = .ok (.isub, 1) := dk_100 (dk_at dksX5_housesOf_0 13 rfl rfl)
theorem dX5_housesOf_14 : decode cX5_housesOf 14 = .ok (.istore 5, 2) := dk_54 5 (dk_at dksX5_housesOf_0 14 rfl rfl)
theorem dX5_housesOf_16 : decode cX5_housesOf 16 = .ok (.iload 5, 2) := dk_21 5 (dk_at dksX5_housesOf_0 16 rfl rfl)
theorem dX5_housesOf_18 : decode cX5_housesOf 18 = .ok (.ifCond .lt 42, 3) := dk_155 0 42 (dk_at dksX5_housesOf_0 18 rfl rfl)
theorem dX5_housesOf_21 : decode cX5_housesOf 21 = .ok (.iload 4, 2) := dk_21 4 (dk_at dksX5_housesOf_0 21 rfl rfl)
theorem dX5_housesOf_23 : decode cX5_housesOf 23 = .ok (.aload_n 0, 1) := dk_42 (dk_at dksX5_housesOf_0 23 rfl rfl)
theorem dX5_housesOf_24 : decode cX5_housesOf 24 = .ok (.getfield 394, 3) := dk_180 1 138 (dk_at dksX5_housesOf_1 0 rfl rfl)
theorem dX5_housesOf_27 : decode cX5_housesOf 27 = .ok (.getfield 226, 3) := dk_180 0 226 (dk_at dksX5_housesOf_1 3 rfl rfl)
theorem dX5_housesOf_30 : decode cX5_housesOf 30 = .ok (.irem, 1) := dk_112 (dk_at dksX5_housesOf_1 6 rfl rfl)
theorem dX5_housesOf_31 : decode cX5_housesOf 31 = .ok (.iload_n 2, 1) := dk_28 (dk_at dksX5_housesOf_1 7 rfl rfl)
theorem dX5_housesOf_32 : decode cX5_housesOf 32 = .ok (.if_icmp .ne 10, 3) := dk_160 0 10 (dk_at dksX5_housesOf_1 8 rfl rfl)
theorem dX5_housesOf_35 : decode cX5_housesOf 35 = .ok (.iload_n 3, 1) := dk_29 (dk_at dksX5_housesOf_1 11 rfl rfl)
theorem dX5_housesOf_36 : decode cX5_housesOf 36 = .ok (.iconst 1, 1) := dk_4 (dk_at dksX5_housesOf_1 12 rfl rfl)
theorem dX5_housesOf_37 : decode cX5_housesOf 37 = .ok (.iload 5, 2) := dk_21 5 (dk_at dksX5_housesOf_1 13 rfl rfl)
theorem dX5_housesOf_39 : decode cX5_housesOf 39 = .ok (.ishl, 1) := dk_120 (dk_at dksX5_housesOf_1 15 rfl rfl)
theorem dX5_housesOf_40 : decode cX5_housesOf 40 = .ok (.ior, 1) := dk_128 (dk_at dksX5_housesOf_1 16 rfl rfl)
theorem dX5_housesOf_41 : decode cX5_housesOf 41 = .ok (.istore_n 3, 1) := dk_62 (dk_at dksX5_housesOf_1 17 rfl rfl)
theorem dX5_housesOf_42 : decode cX5_housesOf 42 = .ok (.iload 4, 2) := dk_21 4 (dk_at dksX5_housesOf_1 18 rfl rfl)
theorem dX5_housesOf_44 : decode cX5_housesOf 44 = .ok (.aload_n 0, 1) := dk_42 (dk_at dksX5_housesOf_1 20 rfl rfl)
theorem dX5_housesOf_45 : decode cX5_housesOf 45 = .ok (.getfield 394, 3) := dk_180 1 138 (dk_at dksX5_housesOf_1 21 rfl rfl)
theorem dX5_housesOf_48 : decode cX5_housesOf 48 = .ok (.getfield 226, 3) := dk_180 0 226 (dk_at dksX5_housesOf_2 0 rfl rfl)
theorem dX5_housesOf_51 : decode cX5_housesOf 51 = .ok (.idiv, 1) := dk_108 (dk_at dksX5_housesOf_2 3 rfl rfl)
theorem dX5_housesOf_52 : decode cX5_housesOf 52 = .ok (.istore 4, 2) := dk_54 4 (dk_at dksX5_housesOf_2 4 rfl rfl)
theorem dX5_housesOf_54 : decode cX5_housesOf 54 = .ok (.iinc 5 (-1), 3) := dk_132 5 255 (dk_at dksX5_housesOf_2 6 rfl rfl)
theorem dX5_housesOf_57 : decode cX5_housesOf 57 = .ok (.goto (-41), 3) := dk_167 255 215 (dk_at dksX5_housesOf_2 9 rfl rfl)
theorem dX5_housesOf_60 : decode cX5_housesOf 60 = .ok (.iload_n 3, 1) := dk_29 (dk_at dksX5_housesOf_2 12 rfl rfl)
theorem dX5_housesOf_61 : decode cX5_housesOf 61 = .ok (.ireturn, 1) := dk_172 (dk_at dksX5_housesOf_2 13 rfl rfl)
abbrev cX5_shared : ByteArray := prog_15_method_64_code
def yX5_shared : MethodName := ⟨RX5, "shared", "(I)I"⟩
def dkwX5_shared_1 : List UInt8 := [27, 46, 167, 0, 4, 2, 172]
abbrev dktX5_shared_1 : List UInt8 := dkwX5_shared_1 ++ []
def dkwX5_shared_0 : List UInt8 := [42, 3, 181, 0, 75, 42, 27, 182, 1, 166, 153, 0, 19, 42, 180, 1, 157, 153, 0, 12, 42, 180, 0, 33]
abbrev dktX5_shared_0 : List UInt8 := dkwX5_shared_0 ++ dktX5_shared_1
theorem dksX5_shared_0 : cX5_shared.data.toList.drop 0 = dktX5_shared_0 := by decide +kernel
theorem dksX5_shared_1 : cX5_shared.data.toList.drop 24 = dktX5_shared_1 := dk_seg dksX5_shared_0 24 rfl rfl
theorem dX5_shared_0 : decode cX5_shared 0 = .ok (.aload_n 0, 1) := dk_42 (dk_at dksX5_shared_0 0 rfl rfl)
theorem dX5_shared_1 : decode cX5_shared 1 = .ok (.iconst 0, 1) := dk_3 (dk_at dksX5_shared_0 1 rfl rfl)
theorem dX5_shared_2 : decode cX5_shared 2 = .ok (.putfield 75, 3) := dk_181 0 75 (dk_at dksX5_shared_0 2 rfl rfl)
theorem dX5_shared_5 : decode cX5_shared 5 = .ok (.aload_n 0, 1) := dk_42 (dk_at dksX5_shared_0 5 rfl rfl)
theorem dX5_shared_6 : decode cX5_shared 6 = .ok (.iload_n 1, 1) := dk_27 (dk_at dksX5_shared_0 6 rfl rfl)
theorem dX5_shared_7 : decode cX5_shared 7 = .ok (.invokevirtual 422, 3) := dk_182 1 166 (dk_at dksX5_shared_0 7 rfl rfl)
theorem dX5_shared_10 : decode cX5_shared 10 = .ok (.ifCond .eq 19, 3) := dk_153 0 19 (dk_at dksX5_shared_0 10 rfl rfl)
theorem dX5_shared_13 : decode cX5_shared 13 = .ok (.aload_n 0, 1) := dk_42 (dk_at dksX5_shared_0 13 rfl rfl)
theorem dX5_shared_14 : decode cX5_shared 14 = .ok (.getfield 413, 3) := dk_180 1 157 (dk_at dksX5_shared_0 14 rfl rfl)
theorem dX5_shared_17 : decode cX5_shared 17 = .ok (.ifCond .eq 12, 3) := dk_153 0 12 (dk_at dksX5_shared_0 17 rfl rfl)
theorem dX5_shared_20 : decode cX5_shared 20 = .ok (.aload_n 0, 1) := dk_42 (dk_at dksX5_shared_0 20 rfl rfl)
theorem dX5_shared_21 : decode cX5_shared 21 = .ok (.getfield 33, 3) := dk_180 0 33 (dk_at dksX5_shared_0 21 rfl rfl)
theorem dX5_shared_24 : decode cX5_shared 24 = .ok (.iload_n 1, 1) := dk_27 (dk_at dksX5_shared_1 0 rfl rfl)
theorem dX5_shared_25 : decode cX5_shared 25 = .ok (.iaload, 1) := dk_46 (dk_at dksX5_shared_1 1 rfl rfl)
theorem dX5_shared_26 : decode cX5_shared 26 = .ok (.goto 4, 3) := dk_167 0 4 (dk_at dksX5_shared_1 2 rfl rfl)
theorem dX5_shared_29 : decode cX5_shared 29 = .ok (.iconst (-1), 1) := dk_2 (dk_at dksX5_shared_1 5 rfl rfl)
theorem dX5_shared_30 : decode cX5_shared 30 = .ok (.ireturn, 1) := dk_172 (dk_at dksX5_shared_1 6 rfl rfl)
abbrev cX5_odds : ByteArray := prog_15_method_65_code
def yX5_odds : MethodName := ⟨RX5, "odds", "(I)J"⟩
def dkwX5_odds_7 : List UInt8 := [97, 65, 132, 4, 1, 167, 255, 111, 42, 3, 182, 1, 160, 87, 32, 173]
abbrev dktX5_odds_7 : List UInt8 := dkwX5_odds_7 ++ []
def dkwX5_odds_6 : List UInt8 := [167, 255, 162, 42, 27, 21, 5, 182, 1, 192, 32, 42, 180, 1, 172, 154, 0, 8, 22, 6, 167, 0, 4, 9]
abbrev dktX5_odds_6 : List UInt8 := dkwX5_odds_6 ++ dktX5_odds_7
def dkwX5_odds_5 : List UInt8 := [133, 167, 0, 17, 16, 100, 42, 180, 1, 138, 180, 1, 82, 21, 9, 46, 100, 133, 105, 55, 6, 132, 8, 1]
abbrev dktX5_odds_5 : List UInt8 := dkwX5_odds_5 ++ dktX5_odds_6
def dkwX5_odds_4 : List UInt8 := [54, 5, 22, 6, 21, 4, 21, 8, 184, 1, 184, 153, 0, 17, 42, 180, 1, 138, 180, 1, 82, 21, 9, 46]
abbrev dktX5_odds_4 : List UInt8 := dkwX5_odds_4 ++ dktX5_odds_5
def dkwX5_odds_3 : List UInt8 := [54, 9, 21, 5, 21, 4, 21, 8, 184, 1, 184, 153, 0, 10, 4, 21, 9, 120, 167, 0, 4, 3, 128]
abbrev dktX5_odds_3 : List UInt8 := dkwX5_odds_3 ++ dktX5_odds_4
def dkwX5_odds_2 : List UInt8 := [21, 8, 42, 180, 0, 17, 27, 46, 162, 0, 89, 42, 180, 0, 21, 16, 6, 27, 104, 21, 8, 96, 46]
abbrev dktX5_odds_2 : List UInt8 := dkwX5_odds_2 ++ dktX5_odds_3
def dkwX5_odds_1 : List UInt8 := [54, 4, 21, 4, 4, 42, 180, 0, 17, 27, 46, 120, 162, 0, 138, 3, 54, 5, 10, 55, 6, 3, 54, 8]
abbrev dktX5_odds_1 : List UInt8 := dkwX5_odds_1 ++ dktX5_odds_2
def dkwX5_odds_0 : List UInt8 := [42, 3, 181, 0, 75, 42, 27, 182, 1, 163, 154, 0, 10, 42, 4, 182, 0, 81, 133, 173, 9, 65, 3]
abbrev dktX5_odds_0 : List UInt8 := dkwX5_odds_0 ++ dktX5_odds_1
theorem dksX5_odds_0 : cX5_odds.data.toList.drop 0 = dktX5_odds_0 := by decide +kernel
theorem dksX5_odds_1 : cX5_odds.data.toList.drop 23 = dktX5_odds_1 := dk_seg dksX5_odds_0 23 rfl rfl
theorem dksX5_odds_2 : cX5_odds.data.toList.drop 47 = dktX5_odds_2 := dk_seg dksX5_odds_1 24 rfl rfl
theorem dksX5_odds_3 : cX5_odds.data.toList.drop 70 = dktX5_odds_3 := dk_seg dksX5_odds_2 23 rfl rfl
theorem dksX5_odds_4 : cX5_odds.data.toList.drop 93 = dktX5_odds_4 := dk_seg dksX5_odds_3 23 rfl rfl
theorem dksX5_odds_5 : cX5_odds.data.toList.drop 117 = dktX5_odds_5 := dk_seg dksX5_odds_4 24 rfl rfl
theorem dksX5_odds_6 : cX5_odds.data.toList.drop 141 = dktX5_odds_6 := dk_seg dksX5_odds_5 24 rfl rfl
theorem dksX5_odds_7 : cX5_odds.data.toList.drop 165 = dktX5_odds_7 := dk_seg dksX5_odds_6 24 rfl rfl
theorem dX5_odds_0 : decode cX5_odds 0 = .ok (.aload_n 0, 1) := dk_42 (dk_at dksX5_odds_0 0 rfl rfl)
theorem dX5_odds_1 : decode cX5_odds 1 = .ok (.iconst 0, 1) := dk_3 (dk_at dksX5_odds_0 1 rfl rfl)
theorem dX5_odds_2 : decode cX5_odds 2 = .ok (.putfield 75, 3) := dk_181 0 75 (dk_at dksX5_odds_0 2 rfl rfl)
theorem dX5_odds_5 : decode cX5_odds 5 = .ok (.aload_n 0, 1) := dk_42 (dk_at dksX5_odds_0 5 rfl rfl)
theorem dX5_odds_6 : decode cX5_odds 6 = .ok (.iload_n 1, 1) := dk_27 (dk_at dksX5_odds_0 6 rfl rfl)
theorem dX5_odds_7 : decode cX5_odds 7 = .ok (.invokevirtual 419, 3) := dk_182 1 163 (dk_at dksX5_odds_0 7 rfl rfl)
theorem dX5_odds_10 : decode cX5_odds 10 = .ok (.ifCond .ne 10, 3) := dk_154 0 10 (dk_at dksX5_odds_0 10 rfl rfl)
theorem dX5_odds_13 : decode cX5_odds 13 = .ok (.aload_n 0, 1) := dk_42 (dk_at dksX5_odds_0 13 rfl rfl)
theorem dX5_odds_14 : decode cX5_odds 14 = .ok (.iconst 1, 1) := dk_4 (dk_at dksX5_odds_0 14 rfl rfl)
theorem dX5_odds_15 : decode cX5_odds 15 = .ok (.invokevirtual 81, 3) := dk_182 0 81 (dk_at dksX5_odds_0 15 rfl rfl)
theorem dX5_odds_18 : decode cX5_odds 18 = .ok (.i2l, 1) := dk_133 (dk_at dksX5_odds_0 18 rfl rfl)
theorem dX5_odds_19 : decode cX5_odds 19 = .ok (.lreturn, 1) := dk_173 (dk_at dksX5_odds_0 19 rfl rfl)
theorem dX5_odds_20 : decode cX5_odds 20 = .ok (.lconst 0, 1) := dk_9 (dk_at dksX5_odds_0 20 rfl rfl)
theorem dX5_odds_21 : decode cX5_odds 21 = .ok (.lstore_n 2, 1) := dk_65 (dk_at dksX5_odds_0 21 rfl rfl)
theorem dX5_odds_22 : decode cX5_odds 22 = .ok (.iconst 0, 1) := dk_3 (dk_at dksX5_odds_0 22 rfl rfl)
theorem dX5_odds_23 : decode cX5_odds 23 = .ok (.istore 4, 2) := dk_54 4 (dk_at dksX5_odds_1 0 rfl rfl)
theorem dX5_odds_25 : decode cX5_odds 25 = .ok (.iload 4, 2) := dk_21 4 (dk_at dksX5_odds_1 2 rfl rfl)
theorem dX5_odds_27 : decode cX5_odds 27 = .ok (.iconst 1, 1) := dk_4 (dk_at dksX5_odds_1 4 rfl rfl)
theorem dX5_odds_28 : decode cX5_odds 28 = .ok (.aload_n 0, 1) := dk_42 (dk_at dksX5_odds_1 5 rfl rfl)
theorem dX5_odds_29 : decode cX5_odds 29 = .ok (.getfield 17, 3) := dk_180 0 17 (dk_at dksX5_odds_1 6 rfl rfl)
theorem dX5_odds_32 : decode cX5_odds 32 = .ok (.iload_n 1, 1) := dk_27 (dk_at dksX5_odds_1 9 rfl rfl)
theorem dX5_odds_33 : decode cX5_odds 33 = .ok (.iaload, 1) := dk_46 (dk_at dksX5_odds_1 10 rfl rfl)
theorem dX5_odds_34 : decode cX5_odds 34 = .ok (.ishl, 1) := dk_120 (dk_at dksX5_odds_1 11 rfl rfl)
theorem dX5_odds_35 : decode cX5_odds 35 = .ok (.if_icmp .ge 138, 3) := dk_162 0 138 (dk_at dksX5_odds_1 12 rfl rfl)
theorem dX5_odds_38 : decode cX5_odds 38 = .ok (.iconst 0, 1) := dk_3 (dk_at dksX5_odds_1 15 rfl rfl)
theorem dX5_odds_39 : decode cX5_odds 39 = .ok (.istore 5, 2) := dk_54 5 (dk_at dksX5_odds_1 16 rfl rfl)
theorem dX5_odds_41 : decode cX5_odds 41 = .ok (.lconst 1, 1) := dk_10 (dk_at dksX5_odds_1 18 rfl rfl)
theorem dX5_odds_42 : decode cX5_odds 42 = .ok (.lstore 6, 2) := dk_55 6 (dk_at dksX5_odds_1 19 rfl rfl)
theorem dX5_odds_44 : decode cX5_odds 44 = .ok (.iconst 0, 1) := dk_3 (dk_at dksX5_odds_1 21 rfl rfl)
theorem dX5_odds_45 : decode cX5_odds 45 = .ok (.istore 8, 2) := dk_54 8 (dk_at dksX5_odds_1 22 rfl rfl)
theorem dX5_odds_47 : decode cX5_odds 47 = .ok (.iload 8, 2) := dk_21 8 (dk_at dksX5_odds_2 0 rfl rfl)
theorem dX5_odds_49 : decode cX5_odds 49 = .ok (.aload_n 0, 1) := dk_42 (dk_at dksX5_odds_2 2 rfl rfl)
theorem dX5_odds_50 : decode cX5_odds 50 = .ok (.getfield 17, 3) := dk_180 0 17 (dk_at dksX5_odds_2 3 rfl rfl)
theorem dX5_odds_53 : decode cX5_odds 53 = .ok (.iload_n 1, 1) := dk_27 (dk_at dksX5_odds_2 6 rfl rfl)
theorem dX5_odds_54 : decode cX5_odds 54 = .ok (.iaload, 1) := dk_46 (dk_at dksX5_odds_2 7 rfl rfl)
theorem dX5_odds_55 : decode cX5_odds 55 = .ok (.if_icmp .ge 89, 3) := dk_162 0 89 (dk_at dksX5_odds_2 8 rfl rfl)
theorem dX5_odds_58 : decode cX5_odds 58 = .ok (.aload_n 0, 1) := dk_42 (dk_at dksX5_odds_2 11 rfl rfl)
theorem dX5_odds_59 : decode cX5_odds 59 = .ok (.getfield 21, 3) := dk_180 0 21 (dk_at dksX5_odds_2 12 rfl rfl)
theorem dX5_odds_62 : decode cX5_odds 62 = .ok (.bipush 6, 2) := dk_16 6 (dk_at dksX5_odds_2 15 rfl rfl)
theorem dX5_odds_64 : decode cX5_odds 64 = .ok (.iload_n 1, 1) := dk_27 (dk_at dksX5_odds_2 17 rfl rfl)
theorem dX5_odds_65 : decode cX5_odds 65 = .ok (.imul, 1) := dk_104 (dk_at dksX5_odds_2 18 rfl rfl)
theorem dX5_odds_66 : decode cX5_odds 66 = .ok (.iload 8, 2) := dk_21 8 (dk_at dksX5_odds_2 19 rfl rfl)
theorem dX5_odds_68 : decode cX5_odds 68 = .ok (.iadd, 1) := dk_96 (dk_at dksX5_odds_2 21 rfl rfl)
theorem dX5_odds_69 : decode cX5_odds 69 = .ok (.iaload, 1) := dk_46 (dk_at dksX5_odds_2 22 rfl rfl)
theorem dX5_odds_70 : decode cX5_odds 70 = .ok (.istore 9, 2) := dk_54 9 (dk_at dksX5_odds_3 0 rfl rfl)
theorem dX5_odds_72 : decode cX5_odds 72 = .ok (.iload 5, 2) := dk_21 5 (dk_at dksX5_odds_3 2 rfl rfl)
theorem dX5_odds_74 : decode cX5_odds 74 = .ok (.iload 4, 2) := dk_21 4 (dk_at dksX5_odds_3 4 rfl rfl)
theorem dX5_odds_76 : decode cX5_odds 76 = .ok (.iload 8, 2) := dk_21 8 (dk_at dksX5_odds_3 6 rfl rfl)
theorem dX5_odds_78 : decode cX5_odds 78 = .ok (.invokestatic 440, 3) := dk_184 1 184 (dk_at dksX5_odds_3 8 rfl rfl)
theorem dX5_odds_81 : decode cX5_odds 81 = .ok (.ifCond .eq 10, 3) := dk_153 0 10 (dk_at dksX5_odds_3 11 rfl rfl)
theorem dX5_odds_84 : decode cX5_odds 84 = .ok (.iconst 1, 1) := dk_4 (dk_at dksX5_odds_3 14 rfl rfl)
theorem dX5_odds_85 : decode cX5_odds 85 = .ok (.iload 9, 2) := dk_21 9 (dk_at dksX5_odds_3 15 rfl rfl)
theorem dX5_odds_87 : decode cX5_odds 87 = .ok (.ishl, 1) := dk_120 (dk_at dksX5_odds_3 17 rfl rfl)
theorem dX5_odds_88 : decode cX5_odds 88 = .ok (.goto 4, 3) := dk_167 0 4 (dk_at dksX5_odds_3 18 rfl rfl)
theorem dX5_odds_91 : decode cX5_odds 91 = .ok (.iconst 0, 1) := dk_3 (dk_at dksX5_odds_3 21 rfl rfl)
theorem dX5_odds_92 : decode cX5_odds 92 = .ok (.ior, 1) := dk_128 (dk_at dksX5_odds_3 22 rfl rfl)
theorem dX5_odds_93 : decode cX5_odds 93 = .ok (.istore 5, 2) := dk_54 5 (dk_at dksX5_odds_4 0 rfl rfl)
theorem dX5_odds_95 : decode cX5_odds 95 = .ok (.lload 6, 2) := dk_22 6 (dk_at dksX5_odds_4 2 rfl rfl)
theorem dX5_odds_97 : decode cX5_odds 97 = .ok (.iload 4, 2) := dk_21 4 (dk_at dksX5_odds_4 4 rfl rfl)
theorem dX5_odds_99 : decode cX5_odds 99 = .ok (.iload 8, 2) := dk_21 8 (dk_at dksX5_odds_4 6 rfl rfl)
theorem dX5_odds_101 : decode cX5_odds 101 = .ok (.invokestatic 440, 3) := dk_184 1 184 (dk_at dksX5_odds_4 8 rfl rfl)
theorem dX5_odds_104 : decode cX5_odds 104 = .ok (.ifCond .eq 17, 3) := dk_153 0 17 (dk_at dksX5_odds_4 11 rfl rfl)
theorem dX5_odds_107 : decode cX5_odds 107 = .ok (.aload_n 0, 1) := dk_42 (dk_at dksX5_odds_4 14 rfl rfl)
theorem dX5_odds_108 : decode cX5_odds 108 = .ok (.getfield 394, 3) := dk_180 1 138 (dk_at dksX5_odds_4 15 rfl rfl)
theorem dX5_odds_111 : decode cX5_odds 111 = .ok (.getfield 338, 3) := dk_180 1 82 (dk_at dksX5_odds_4 18 rfl rfl)
theorem dX5_odds_114 : decode cX5_odds 114 = .ok (.iload 9, 2) := dk_21 9 (dk_at dksX5_odds_4 21 rfl rfl)
theorem dX5_odds_116 : decode cX5_odds 116 = .ok (.iaload, 1) := dk_46 (dk_at dksX5_odds_4 23 rfl rfl)
theorem dX5_odds_117 : decode cX5_odds 117 = .ok (.i2l, 1) := dk_133 (dk_at dksX5_odds_5 0 rfl rfl)
theorem dX5_odds_118 : decode cX5_odds 118 = .ok (.goto 17, 3) := dk_167 0 17 (dk_at dksX5_odds_5 1 rfl rfl)
theorem dX5_odds_121 : decode cX5_odds 121 = .ok (.bipush 100, 2) := dk_16 100 (dk_at dksX5_odds_5 4 rfl rfl)
theorem dX5_odds_123 : decode cX5_odds 123 = .ok (.aload_n 0, 1) := dk_42 (dk_at dksX5_odds_5 6 rfl rfl)
theorem dX5_odds_124 : decode cX5_odds 124 = .ok (.getfield 394, 3) := dk_180 1 138 (dk_at dksX5_odds_5 7 rfl rfl)
theorem dX5_odds_127 : decode cX5_odds 127 = .ok (.getfield 338, 3) := dk_180 1 82 (dk_at dksX5_odds_5 10 rfl rfl)
theorem dX5_odds_130 : decode cX5_odds 130 = .ok (.iload 9, 2) := dk_21 9 (dk_at dksX5_odds_5 13 rfl rfl)
theorem dX5_odds_132 : decode cX5_odds 132 = .ok (.iaload, 1) := dk_46 (dk_at dksX5_odds_5 15 rfl rfl)
theorem dX5_odds_133 : decode cX5_odds 133 = .ok (.isub, 1) := dk_100 (dk_at dksX5_odds_5 16 rfl rfl)
theorem dX5_odds_134 : decode cX5_odds 134 = .ok (.i2l, 1) := dk_133 (dk_at dksX5_odds_5 17 rfl rfl)
theorem dX5_odds_135 : decode cX5_odds 135 = .ok (.lmul, 1) := dk_105 (dk_at dksX5_odds_5 18 rfl rfl)
theorem dX5_odds_136 : decode cX5_odds 136 = .ok (.lstore 6, 2) := dk_55 6 (dk_at dksX5_odds_5 19 rfl rfl)
theorem dX5_odds_138 : decode cX5_odds 138 = .ok (.iinc 8 1, 3) := dk_132 8 1 (dk_at dksX5_odds_5 21 rfl rfl)
theorem dX5_odds_141 : decode cX5_odds 141 = .ok (.goto (-94), 3) := dk_167 255 162 (dk_at dksX5_odds_6 0 rfl rfl)
theorem dX5_odds_144 : decode cX5_odds 144 = .ok (.aload_n 0, 1) := dk_42 (dk_at dksX5_odds_6 3 rfl rfl)
theorem dX5_odds_145 : decode cX5_odds 145 = .ok (.iload_n 1, 1) := dk_27 (dk_at dksX5_odds_6 4 rfl rfl)
theorem dX5_odds_146 : decode cX5_odds 146 = .ok (.iload 5, 2) := dk_21 5 (dk_at dksX5_odds_6 5 rfl rfl)
theorem dX5_odds_148 : decode cX5_odds 148 = .ok (.invokevirtual 448, 3) := dk_182 1 192 (dk_at dksX5_odds_6 7 rfl rfl)
theorem dX5_odds_151 : decode cX5_odds 151 = .ok (.lload_n 2, 1) := dk_32 (dk_at dksX5_odds_6 10 rfl rfl)
theorem dX5_odds_152 : decode cX5_odds 152 = .ok (.aload_n 0, 1) := dk_42 (dk_at dksX5_odds_6 11 rfl rfl)
theorem dX5_odds_153 : decode cX5_odds 153 = .ok (.getfield 428, 3) := dk_180 1 172 (dk_at dksX5_odds_6 12 rfl rfl)
theorem dX5_odds_156 : decode cX5_odds 156 = .ok (.ifCond .ne 8, 3) := dk_154 0 8 (dk_at dksX5_odds_6 15 rfl rfl)
theorem dX5_odds_159 : decode cX5_odds 159 = .ok (.lload 6, 2) := dk_22 6 (dk_at dksX5_odds_6 18 rfl rfl)
theorem dX5_odds_161 : decode cX5_odds 161 = .ok (.goto 4, 3) := dk_167 0 4 (dk_at dksX5_odds_6 20 rfl rfl)
theorem dX5_odds_164 : decode cX5_odds 164 = .ok (.lconst 0, 1) := dk_9 (dk_at dksX5_odds_6 23 rfl rfl)
theorem dX5_odds_165 : decode cX5_odds 165 = .ok (.ladd, 1) := dk_97 (dk_at dksX5_odds_7 0 rfl rfl)
theorem dX5_odds_166 : decode cX5_odds 166 = .ok (.lstore_n 2, 1) := dk_65 (dk_at dksX5_odds_7 1 rfl rfl)
theorem dX5_odds_167 : decode cX5_odds 167 = .ok (.iinc 4 1, 3) := dk_132 4 1 (dk_at dksX5_odds_7 2 rfl rfl)
theorem dX5_odds_170 : decode cX5_odds 170 = .ok (.goto (-145), 3) := dk_167 255 111 (dk_at dksX5_odds_7 5 rfl rfl)
theorem dX5_odds_173 : decode cX5_odds 173 = .ok (.aload_n 0, 1) := dk_42 (dk_at dksX5_odds_7 8 rfl rfl)
theorem dX5_odds_174 : decode cX5_odds 174 = .ok (.iconst 0, 1) := dk_3 (dk_at dksX5_odds_7 9 rfl rfl)
theorem dX5_odds_175 : decode cX5_odds 175 = .ok (.invokevirtual 416, 3) := dk_182 1 160 (dk_at dksX5_odds_7 10 rfl rfl)
theorem dX5_odds_178 : decode cX5_odds 178 = .ok (.pop, 1) := dk_87 (dk_at dksX5_odds_7 13 rfl rfl)
theorem dX5_odds_179 : decode cX5_odds 179 = .ok (.lload_n 2, 1) := dk_32 (dk_at dksX5_odds_7 14 rfl rfl)
theorem dX5_odds_180 : decode cX5_odds 180 = .ok (.lreturn, 1) := dk_173 (dk_at dksX5_odds_7 15 rfl rfl)
abbrev cX5_costs : ByteArray := prog_15_method_66_code
def yX5_costs : MethodName := ⟨RX5, "costs", "(I)I"⟩
def dkwX5_costs_3 : List UInt8 := [182, 1, 160, 172]
abbrev dktX5_costs_3 : List UInt8 := dkwX5_costs_3 ++ []
def dkwX5_costs_2 : List UInt8 := [184, 1, 201, 62, 42, 28, 4, 27, 120, 182, 1, 192, 42, 42, 180, 1, 172, 184, 1, 201, 29, 100]
abbrev dktX5_costs_2 : List UInt8 := dkwX5_costs_2 ++ dktX5_costs_3
def dkwX5_costs_1 : List UInt8 := [61, 28, 2, 160, 0, 10, 42, 16, 6, 182, 1, 198, 172, 42, 28, 3, 182, 1, 192, 42, 180, 1, 172]
abbrev dktX5_costs_1 : List UInt8 := dkwX5_costs_1 ++ dktX5_costs_2
def dkwX5_costs_0 : List UInt8 := [42, 3, 181, 0, 75, 42, 27, 182, 1, 166, 154, 0, 9, 42, 4, 182, 1, 198, 172, 42, 27, 182, 1, 169]
abbrev dktX5_costs_0 : List UInt8 := dkwX5_costs_0 ++ dktX5_costs_1
theorem dksX5_costs_0 : cX5_costs.data.toList.drop 0 = dktX5_costs_0 := by decide +kernel
theorem dksX5_costs_1 : cX5_costs.data.toList.drop 24 = dktX5_costs_1 := dk_seg dksX5_costs_0 24 rfl rfl
theorem dksX5_costs_2 : cX5_costs.data.toList.drop 47 = dktX5_costs_2 := dk_seg dksX5_costs_1 23 rfl rfl
theorem dksX5_costs_3 : cX5_costs.data.toList.drop 69 = dktX5_costs_3 := dk_seg dksX5_costs_2 22 rfl rfl
theorem dX5_costs_0 : decode cX5_costs 0 = .ok (.aload_n 0, 1) := dk_42 (dk_at dksX5_costs_0 0 rfl rfl)
theorem dX5_costs_1 : decode cX5_costs 1 = .ok (.iconst 0, 1) := dk_3 (dk_at dksX5_costs_0 1 rfl rfl)
theorem dX5_costs_2 : decode cX5_costs 2 = .ok (.putfield 75, 3) := dk_181 0 75 (dk_at dksX5_costs_0 2 rfl rfl)
theorem dX5_costs_5 : decode cX5_costs 5 = .ok (.aload_n 0, 1) := dk_42 (dk_at dksX5_costs_0 5 rfl rfl)
theorem dX5_costs_6 : decode cX5_costs 6 = .ok (.iload_n 1, 1) := dk_27 (dk_at dksX5_costs_0 6 rfl rfl)
theorem dX5_costs_7 : decode cX5_costs 7 = .ok (.invokevirtual 422, 3) := dk_182 1 166 (dk_at dksX5_costs_0 7 rfl rfl)
theorem dX5_costs_10 : decode cX5_costs 10 = .ok (.ifCond .ne 9, 3) := dk_154 0 9 (dk_at dksX5_costs_0 10 rfl rfl)
theorem dX5_costs_13 : decode cX5_costs 13 = .ok (.aload_n 0, 1) := dk_42 (dk_at dksX5_costs_0 13 rfl rfl)
theorem dX5_costs_14 : decode cX5_costs 14 = .ok (.iconst 1, 1) := dk_4 (dk_at dksX5_costs_0 14 rfl rfl)
theorem dX5_costs_15 : decode cX5_costs 15 = .ok (.invokevirtual 454, 3) := dk_182 1 198 (dk_at dksX5_costs_0 15 rfl rfl)
theorem dX5_costs_18 : decode cX5_costs 18 = .ok (.ireturn, 1) := dk_172 (dk_at dksX5_costs_0 18 rfl rfl)
theorem dX5_costs_19 : decode cX5_costs 19 = .ok (.aload_n 0, 1) := dk_42 (dk_at dksX5_costs_0 19 rfl rfl)
theorem dX5_costs_20 : decode cX5_costs 20 = .ok (.iload_n 1, 1) := dk_27 (dk_at dksX5_costs_0 20 rfl rfl)
theorem dX5_costs_21 : decode cX5_costs 21 = .ok (.invokevirtual 425, 3) := dk_182 1 169 (dk_at dksX5_costs_0 21 rfl rfl)
theorem dX5_costs_24 : decode cX5_costs 24 = .ok (.istore_n 2, 1) := dk_61 (dk_at dksX5_costs_1 0 rfl rfl)
theorem dX5_costs_25 : decode cX5_costs 25 = .ok (.iload_n 2, 1) := dk_28 (dk_at dksX5_costs_1 1 rfl rfl)
theorem dX5_costs_26 : decode cX5_costs 26 = .ok (.iconst (-1), 1) := dk_2 (dk_at dksX5_costs_1 2 rfl rfl)
theorem dX5_costs_27 : decode cX5_costs 27 = .ok (.if_icmp .ne 10, 3) := dk_160 0 10 (dk_at dksX5_costs_1 3 rfl rfl)
theorem dX5_costs_30 : decode cX5_costs 30 = .ok (.aload_n 0, 1) := dk_42 (dk_at dksX5_costs_1 6 rfl rfl)
theorem dX5_costs_31 : decode cX5_costs 31 = .ok (.bipush 6, 2) := dk_16 6 (dk_at dksX5_costs_1 7 rfl rfl)
theorem dX5_costs_33 : decode cX5_costs 33 = .ok (.invokevirtual 454, 3) := dk_182 1 198 (dk_at dksX5_costs_1 9 rfl rfl)
theorem dX5_costs_36 : decode cX5_costs 36 = .ok (.ireturn, 1) := dk_172 (dk_at dksX5_costs_1 12 rfl rfl)
theorem dX5_costs_37 : decode cX5_costs 37 = .ok (.aload_n 0, 1) := dk_42 (dk_at dksX5_costs_1 13 rfl rfl)
theorem dX5_costs_38 : decode cX5_costs 38 = .ok (.iload_n 2, 1) := dk_28 (dk_at dksX5_costs_1 14 rfl rfl)
theorem dX5_costs_39 : decode cX5_costs 39 = .ok (.iconst 0, 1) := dk_3 (dk_at dksX5_costs_1 15 rfl rfl)
theorem dX5_costs_40 : decode cX5_costs 40 = .ok (.invokevirtual 448, 3) := dk_182 1 192 (dk_at dksX5_costs_1 16 rfl rfl)
theorem dX5_costs_43 : decode cX5_costs 43 = .ok (.aload_n 0, 1) := dk_42 (dk_at dksX5_costs_1 19 rfl rfl)
theorem dX5_costs_44 : decode cX5_costs 44 = .ok (.getfield 428, 3) := dk_180 1 172 (dk_at dksX5_costs_1 20 rfl rfl)
theorem dX5_costs_47 : decode cX5_costs 47 = .ok (.invokestatic 457, 3) := dk_184 1 201 (dk_at dksX5_costs_2 0 rfl rfl)
theorem dX5_costs_50 : decode cX5_costs 50 = .ok (.istore_n 3, 1) := dk_62 (dk_at dksX5_costs_2 3 rfl rfl)
theorem dX5_costs_51 : decode cX5_costs 51 = .ok (.aload_n 0, 1) := dk_42 (dk_at dksX5_costs_2 4 rfl rfl)
theorem dX5_costs_52 : decode cX5_costs 52 = .ok (.iload_n 2, 1) := dk_28 (dk_at dksX5_costs_2 5 rfl rfl)
theorem dX5_costs_53 : decode cX5_costs 53 = .ok (.iconst 1, 1) := dk_4 (dk_at dksX5_costs_2 6 rfl rfl)
theorem dX5_costs_54 : decode cX5_costs 54 = .ok (.iload_n 1, 1) := dk_27 (dk_at dksX5_costs_2 7 rfl rfl)
theorem dX5_costs_55 : decode cX5_costs 55 = .ok (.ishl, 1) := dk_120 (dk_at dksX5_costs_2 8 rfl rfl)
theorem dX5_costs_56 : decode cX5_costs 56 = .ok (.invokevirtual 448, 3) := dk_182 1 192 (dk_at dksX5_costs_2 9 rfl rfl)
theorem dX5_costs_59 : decode cX5_costs 59 = .ok (.aload_n 0, 1) := dk_42 (dk_at dksX5_costs_2 12 rfl rfl)
theorem dX5_costs_60 : decode cX5_costs 60 = .ok (.aload_n 0, 1) := dk_42 (dk_at dksX5_costs_2 13 rfl rfl)
theorem dX5_costs_61 : decode cX5_costs 61 = .ok (.getfield 428, 3) := dk_180 1 172 (dk_at dksX5_costs_2 14 rfl rfl)
theorem dX5_costs_64 : decode cX5_costs 64 = .ok (.invokestatic 457, 3) := dk_184 1 201 (dk_at dksX5_costs_2 17 rfl rfl)
theorem dX5_costs_67 : decode cX5_costs 67 = .ok (.iload_n 3, 1) := dk_29 (dk_at dksX5_costs_2 20 rfl rfl)
theorem dX5_costs_68 : decode cX5_costs 68 = .ok (.isub, 1) := dk_100 (dk_at dksX5_costs_2 21 rfl rfl)
theorem dX5_costs_69 : decode cX5_costs 69 = .ok (.invokevirtual 416, 3) := dk_182 1 160 (dk_at dksX5_costs_3 0 rfl rfl)
theorem dX5_costs_72 : decode cX5_costs 72 = .ok (.ireturn, 1) := dk_172 (dk_at dksX5_costs_3 3 rfl rfl)
abbrev cX5_fits : ByteArray := prog_15_method_69_code
def yX5_fits : MethodName := ⟨RX5, "fits", "(II)I"⟩
def dkwX5_fits_2 : List UInt8 := [167, 0, 8, 42, 4, 182, 0, 81, 172]
abbrev dktX5_fits_2 : List UInt8 := dkwX5_fits_2 ++ []
def dkwX5_fits_1 : List UInt8 := [180, 1, 138, 180, 1, 76, 27, 46, 28, 182, 1, 234, 154, 0, 7, 4, 167, 0, 4, 3, 182, 1, 160]
abbrev dktX5_fits_1 : List UInt8 := dkwX5_fits_1 ++ dktX5_fits_2
def dkwX5_fits_0 : List UInt8 := [42, 3, 181, 0, 75, 42, 27, 182, 1, 166, 153, 0, 40, 42, 28, 182, 1, 231, 153, 0, 32, 42, 42, 42]
abbrev dktX5_fits_0 : List UInt8 := dkwX5_fits_0 ++ dktX5_fits_1
theorem dksX5_fits_0 : cX5_fits.data.toList.drop 0 = dktX5_fits_0 := by decide +kernel
theorem dksX5_fits_1 : cX5_fits.data.toList.drop 24 = dktX5_fits_1 := dk_seg dksX5_fits_0 24 rfl rfl
theorem dksX5_fits_2 : cX5_fits.data.toList.drop 47 = dktX5_fits_2 := dk_seg dksX5_fits_1 23 rfl rfl
theorem dX5_fits_0 : decode cX5_fits 0 = .ok (.aload_n 0, 1) := dk_42 (dk_at dksX5_fits_0 0 rfl rfl)
theorem dX5_fits_1 : decode cX5_fits 1 = .ok (.iconst 0, 1) := dk_3 (dk_at dksX5_fits_0 1 rfl rfl)
theorem dX5_fits_2 : decode cX5_fits 2 = .ok (.putfield 75, 3) := dk_181 0 75 (dk_at dksX5_fits_0 2 rfl rfl)
theorem dX5_fits_5 : decode cX5_fits 5 = .ok (.aload_n 0, 1) := dk_42 (dk_at dksX5_fits_0 5 rfl rfl)
theorem dX5_fits_6 : decode cX5_fits 6 = .ok (.iload_n 1, 1) := dk_27 (dk_at dksX5_fits_0 6 rfl rfl)
theorem dX5_fits_7 : decode cX5_fits 7 = .ok (.invokevirtual 422, 3) := dk_182 1 166 (dk_at dksX5_fits_0 7 rfl rfl)
theorem dX5_fits_10 : decode cX5_fits 10 = .ok (.ifCond .eq 40, 3) := dk_153 0 40 (dk_at dksX5_fits_0 10 rfl rfl)
theorem dX5_fits_13 : decode cX5_fits 13 = .ok (.aload_n 0, 1) := dk_42 (dk_at dksX5_fits_0 13 rfl rfl)
theorem dX5_fits_14 : decode cX5_fits 14 = .ok (.iload_n 2, 1) := dk_28 (dk_at dksX5_fits_0 14 rfl rfl)
theorem dX5_fits_15 : decode cX5_fits 15 = .ok (.invokevirtual 487, 3) := dk_182 1 231 (dk_at dksX5_fits_0 15 rfl rfl)
theorem dX5_fits_18 : decode cX5_fits 18 = .ok (.ifCond .eq 32, 3) := dk_153 0 32 (dk_at dksX5_fits_0 18 rfl rfl)
theorem dX5_fits_21 : decode cX5_fits 21 = .ok (.aload_n 0, 1) := dk_42 (dk_at dksX5_fits_0 21 rfl rfl)
theorem dX5_fits_22 : decode cX5_fits 22 = .ok (.aload_n 0, 1) := dk_42 (dk_at dksX5_fits_0 22 rfl rfl)
theorem dX5_fits_23 : decode cX5_fits 23 = .ok (.aload_n 0, 1) := dk_42 (dk_at dksX5_fits_0 23 rfl rfl)
theorem dX5_fits_24 : decode cX5_fits 24 = .ok (.getfield 394, 3) := dk_180 1 138 (dk_at dksX5_fits_1 0 rfl rfl)
theorem dX5_fits_27 : decode cX5_fits 27 = .ok (.getfield 332, 3) := dk_180 1 76 (dk_at dksX5_fits_1 3 rfl rfl)
theorem dX5_fits_30 : decode cX5_fits 30 = .ok (.iload_n 1, 1) := dk_27 (dk_at dksX5_fits_1 6 rfl rfl)
theorem dX5_fits_31 : decode cX5_fits 31 = .ok (.iaload, 1) := dk_46 (dk_at dksX5_fits_1 7 rfl rfl)
theorem dX5_fits_32 : decode cX5_fits 32 = .ok (.iload_n 2, 1) := dk_28 (dk_at dksX5_fits_1 8 rfl rfl)
theorem dX5_fits_33 : decode cX5_fits 33 = .ok (.invokevirtual 490, 3) := dk_182 1 234 (dk_at dksX5_fits_1 9 rfl rfl)
theorem dX5_fits_36 : decode cX5_fits 36 = .ok (.ifCond .ne 7, 3) := dk_154 0 7 (dk_at dksX5_fits_1 12 rfl rfl)
theorem dX5_fits_39 : decode cX5_fits 39 = .ok (.iconst 1, 1) := dk_4 (dk_at dksX5_fits_1 15 rfl rfl)
theorem dX5_fits_40 : decode cX5_fits 40 = .ok (.goto 4, 3) := dk_167 0 4 (dk_at dksX5_fits_1 16 rfl rfl)
theorem dX5_fits_43 : decode cX5_fits 43 = .ok (.iconst 0, 1) := dk_3 (dk_at dksX5_fits_1 19 rfl rfl)
theorem dX5_fits_44 : decode cX5_fits 44 = .ok (.invokevirtual 416, 3) := dk_182 1 160 (dk_at dksX5_fits_1 20 rfl rfl)
theorem dX5_fits_47 : decode cX5_fits 47 = .ok (.goto 8, 3) := dk_167 0 8 (dk_at dksX5_fits_2 0 rfl rfl)
theorem dX5_fits_50 : decode cX5_fits 50 = .ok (.aload_n 0, 1) := dk_42 (dk_at dksX5_fits_2 3 rfl rfl)
theorem dX5_fits_51 : decode cX5_fits 51 = .ok (.iconst 1, 1) := dk_4 (dk_at dksX5_fits_2 4 rfl rfl)
theorem dX5_fits_52 : decode cX5_fits 52 = .ok (.invokevirtual 81, 3) := dk_182 0 81 (dk_at dksX5_fits_2 5 rfl rfl)
theorem dX5_fits_55 : decode cX5_fits 55 = .ok (.ireturn, 1) := dk_172 (dk_at dksX5_fits_2 8 rfl rfl)
abbrev cX5_isDish : ByteArray := prog_15_method_67_code
def yX5_isDish : MethodName := ⟨RX5, "isDish", "(I)Z"⟩
def dkwX5_isDish_1 : List UInt8 := [167, 0, 4, 3, 172]
abbrev dktX5_isDish_1 : List UInt8 := dkwX5_isDish_1 ++ []
def dkwX5_isDish_0 : List UInt8 := [42, 180, 1, 138, 198, 0, 22, 27, 155, 0, 18, 27, 42, 180, 1, 138, 180, 1, 34, 162, 0, 7, 4]
abbrev dktX5_isDish_0 : List UInt8 := dkwX5_isDish_0 ++ dktX5_isDish_1
theorem dksX5_isDish_0 : cX5_isDish.data.toList.drop 0 = dktX5_isDish_0 := by decide +kernel
theorem dksX5_isDish_1 : cX5_isDish.data.toList.drop 23 = dktX5_isDish_1 := dk_seg dksX5_isDish_0 23 rfl rfl
theorem dX5_isDish_0 : decode cX5_isDish 0 = .ok (.aload_n 0, 1) := dk_42 (dk_at dksX5_isDish_0 0 rfl rfl)
theorem dX5_isDish_1 : decode cX5_isDish 1 = .ok (.getfield 394, 3) := dk_180 1 138 (dk_at dksX5_isDish_0 1 rfl rfl)
theorem dX5_isDish_4 : decode cX5_isDish 4 = .ok (.ifnull 22, 3) := dk_198 0 22 (dk_at dksX5_isDish_0 4 rfl rfl)
theorem dX5_isDish_7 : decode cX5_isDish 7 = .ok (.iload_n 1, 1) := dk_27 (dk_at dksX5_isDish_0 7 rfl rfl)
theorem dX5_isDish_8 : decode cX5_isDish 8 = .ok (.ifCond .lt 18, 3) := dk_155 0 18 (dk_at dksX5_isDish_0 8 rfl rfl)
theorem dX5_isDish_11 : decode cX5_isDish 11 = .ok (.iload_n 1, 1) := dk_27 (dk_at dksX5_isDish_0 11 rfl rfl)
theorem dX5_isDish_12 : decode cX5_isDish 12 = .ok (.aload_n 0, 1) := dk_42 (dk_at dksX5_isDish_0 12 rfl rfl)
theorem dX5_isDish_13 : decode cX5_isDish 13 = .ok (.getfield 394, 3) := dk_180 1 138 (dk_at dksX5_isDish_0 13 rfl rfl)
theorem dX5_isDish_16 : decode cX5_isDish 16 = .ok (.getfield 290, 3) := dk_180 1 34 (dk_at dksX5_isDish_0 16 rfl rfl)
theorem dX5_isDish_19 : decode cX5_isDish 19 = .ok (.if_icmp .ge 7, 3) := dk_162 0 7 (dk_at dksX5_isDish_0 19 rfl rfl)
theorem dX5_isDish_22 : decode cX5_isDish 22 = .ok (.iconst 1, 1) := dk_4 (dk_at dksX5_isDish_0 22 rfl rfl)
theorem dX5_isDish_23 : decode cX5_isDish 23 = .ok (.goto 4, 3) := dk_167 0 4 (dk_at dksX5_isDish_1 0 rfl rfl)
theorem dX5_isDish_26 : decode cX5_isDish 26 = .ok (.iconst 0, 1) := dk_3 (dk_at dksX5_isDish_1 3 rfl rfl)
theorem dX5_isDish_27 : decode cX5_isDish 27 = .ok (.ireturn, 1) := dk_172 (dk_at dksX5_isDish_1 4 rfl rfl)
abbrev cX5_barred : ByteArray := prog_15_method_68_code
def yX5_barred : MethodName := ⟨RX5, "barred", "(II)I"⟩
def dkwX5_barred_0 : List UInt8 := [42, 180, 1, 138, 180, 1, 44, 28, 46, 42, 180, 1, 138, 180, 1, 55, 27, 46, 126, 172]
abbrev dktX5_barred_0 : List UInt8 := dkwX5_barred_0 ++ []
theorem dksX5_barred_0 : cX5_barred.data.toList.drop 0 = dktX5_barred_0 := by decide +kernel
theorem dX5_barred_0 : decode cX5_barred 0 = .ok (.aload_n 0, 1) := dk_42 (dk_at dksX5_barred_0 0 rfl rfl)
theorem dX5_barred_1 : decode cX5_barred 1 = .ok (.getfield 394, 3) := dk_180 1 138 (dk_at dksX5_barred_0 1 rfl rfl)
theorem dX5_barred_4 : decode cX5_barred 4 = .ok (.getfield 300, 3) := dk_180 1 44 (dk_at dksX5_barred_0 4 rfl rfl)
theorem dX5_barred_7 : decode cX5_barred 7 = .ok (.iload_n 2, 1) := dk_28 (dk_at dksX5_barred_0 7 rfl rfl)
theorem dX5_barred_8 : decode cX5_barred 8 = .ok (.iaload, 1) := dk_46 (dk_at dksX5_barred_0 8 rfl rfl)
theorem dX5_barred_9 : decode cX5_barred 9 = .ok (.aload_n 0, 1) := dk_42 (dk_at dksX5_barred_0 9 rfl rfl)
theorem dX5_barred_10 : decode cX5_barred 10 = .ok (.getfield 394, 3) := dk_180 1 138 (dk_at dksX5_barred_0 10 rfl rfl)
theorem dX5_barred_13 : decode cX5_barred 13 = .ok (.getfield 311, 3) := dk_180 1 55 (dk_at dksX5_barred_0 13 rfl rfl)
theorem dX5_barred_16 : decode cX5_barred 16 = .ok (.iload_n 1, 1) := dk_27 (dk_at dksX5_barred_0 16 rfl rfl)
theorem dX5_barred_17 : decode cX5_barred 17 = .ok (.iaload, 1) := dk_46 (dk_at dksX5_barred_0 17 rfl rfl)
theorem dX5_barred_18 : decode cX5_barred 18 = .ok (.iand, 1) := dk_126 (dk_at dksX5_barred_0 18 rfl rfl)
theorem dX5_barred_19 : decode cX5_barred 19 = .ok (.ireturn, 1) := dk_172 (dk_at dksX5_barred_0 19 rfl rfl)
abbrev cX5_breach : ByteArray := prog_15_method_70_code
def yX5_breach : MethodName := ⟨RX5, "breach", "(II)I"⟩
def dkwX5_breach_1 : List UInt8 := [180, 1, 138, 180, 1, 76, 27, 46, 28, 182, 1, 234, 182, 1, 160, 167, 0, 8, 42, 4, 182, 0, 81, 172]
abbrev dktX5_breach_1 : List UInt8 := dkwX5_breach_1 ++ []
def dkwX5_breach_0 : List UInt8 := [42, 3, 181, 0, 75, 42, 27, 182, 1, 166, 153, 0, 32, 42, 28, 182, 1, 231, 153, 0, 24, 42, 42, 42]
abbrev dktX5_breach_0 : List UInt8 := dkwX5_breach_0 ++ dktX5_breach_1
theorem dksX5_breach_0 : cX5_breach.data.toList.drop 0 = dktX5_breach_0 := by decide +kernel
theorem dksX5_breach_1 : cX5_breach.data.toList.drop 24 = dktX5_breach_1 := dk_seg dksX5_breach_0 24 rfl rfl
theorem dX5_breach_0 : decode cX5_breach 0 = .ok (.aload_n 0, 1) := dk_42 (dk_at dksX5_breach_0 0 rfl rfl)
theorem dX5_breach_1 : decode cX5_breach 1 = .ok (.iconst 0, 1) := dk_3 (dk_at dksX5_breach_0 1 rfl rfl)
theorem dX5_breach_2 : decode cX5_breach 2 = .ok (.putfield 75, 3) := dk_181 0 75 (dk_at dksX5_breach_0 2 rfl rfl)
theorem dX5_breach_5 : decode cX5_breach 5 = .ok (.aload_n 0, 1) := dk_42 (dk_at dksX5_breach_0 5 rfl rfl)
theorem dX5_breach_6 : decode cX5_breach 6 = .ok (.iload_n 1, 1) := dk_27 (dk_at dksX5_breach_0 6 rfl rfl)
theorem dX5_breach_7 : decode cX5_breach 7 = .ok (.invokevirtual 422, 3) := dk_182 1 166 (dk_at dksX5_breach_0 7 rfl rfl)
theorem dX5_breach_10 : decode cX5_breach 10 = .ok (.ifCond .eq 32, 3) := dk_153 0 32 (dk_at dksX5_breach_0 10 rfl rfl)
theorem dX5_breach_13 : decode cX5_breach 13 = .ok (.aload_n 0, 1) := dk_42 (dk_at dksX5_breach_0 13 rfl rfl)
theorem dX5_breach_14 : decode cX5_breach 14 = .ok (.iload_n 2, 1) := dk_28 (dk_at dksX5_breach_0 14 rfl rfl)
theorem dX5_breach_15 : decode cX5_breach 15 = .ok (.invokevirtual 487, 3) := dk_182 1 231 (dk_at dksX5_breach_0 15 rfl rfl)
theorem dX5_breach_18 : decode cX5_breach 18 = .ok (.ifCond .eq 24, 3) := dk_153 0 24 (dk_at dksX5_breach_0 18 rfl rfl)
theorem dX5_breach_21 : decode cX5_breach 21 = .ok (.aload_n 0, 1) := dk_42 (dk_at dksX5_breach_0 21 rfl rfl)
theorem dX5_breach_22 : decode cX5_breach 22 = .ok (.aload_n 0, 1) := dk_42 (dk_at dksX5_breach_0 22 rfl rfl)
theorem dX5_breach_23 : decode cX5_breach 23 = .ok (.aload_n 0, 1) := dk_42 (dk_at dksX5_breach_0 23 rfl rfl)
theorem dX5_breach_24 : decode cX5_breach 24 = .ok (.getfield 394, 3) := dk_180 1 138 (dk_at dksX5_breach_1 0 rfl rfl)
theorem dX5_breach_27 : decode cX5_breach 27 = .ok (.getfield 332, 3) := dk_180 1 76 (dk_at dksX5_breach_1 3 rfl rfl)
theorem dX5_breach_30 : decode cX5_breach 30 = .ok (.iload_n 1, 1) := dk_27 (dk_at dksX5_breach_1 6 rfl rfl)
theorem dX5_breach_31 : decode cX5_breach 31 = .ok (.iaload, 1) := dk_46 (dk_at dksX5_breach_1 7 rfl rfl)
theorem dX5_breach_32 : decode cX5_breach 32 = .ok (.iload_n 2, 1) := dk_28 (dk_at dksX5_breach_1 8 rfl rfl)
theorem dX5_breach_33 : decode cX5_breach 33 = .ok (.invokevirtual 490, 3) := dk_182 1 234 (dk_at dksX5_breach_1 9 rfl rfl)
theorem dX5_breach_36 : decode cX5_breach 36 = .ok (.invokevirtual 416, 3) := dk_182 1 160 (dk_at dksX5_breach_1 12 rfl rfl)
theorem dX5_breach_39 : decode cX5_breach 39 = .ok (.goto 8, 3) := dk_167 0 8 (dk_at dksX5_breach_1 15 rfl rfl)
theorem dX5_breach_42 : decode cX5_breach 42 = .ok (.aload_n 0, 1) := dk_42 (dk_at dksX5_breach_1 18 rfl rfl)
theorem dX5_breach_43 : decode cX5_breach 43 = .ok (.iconst 1, 1) := dk_4 (dk_at dksX5_breach_1 19 rfl rfl)
theorem dX5_breach_44 : decode cX5_breach 44 = .ok (.invokevirtual 81, 3) := dk_182 0 81 (dk_at dksX5_breach_1 20 rfl rfl)
theorem dX5_breach_47 : decode cX5_breach 47 = .ok (.ireturn, 1) := dk_172 (dk_at dksX5_breach_1 23 rfl rfl)
abbrev cX5_forAll : ByteArray := prog_15_method_71_code
def yX5_forAll : MethodName := ⟨RX5, "forAll", "()I"⟩
def dkwX5_forAll_4 : List UInt8 := [167, 0, 4, 3, 128, 60, 132, 2, 1, 167, 255, 177, 42, 27, 182, 1, 160, 172]
abbrev dktX5_forAll_4 : List UInt8 := dkwX5_forAll_4 ++ []
def dkwX5_forAll_3 : List UInt8 := [154, 0, 7, 4, 167, 0, 4, 3, 62, 132, 4, 1, 167, 255, 213, 27, 29, 153, 0, 9, 4, 28, 120]
abbrev dktX5_forAll_3 : List UInt8 := dkwX5_forAll_3 ++ dktX5_forAll_4
def dkwX5_forAll_2 : List UInt8 := [162, 0, 37, 29, 153, 0, 25, 42, 42, 180, 1, 138, 180, 1, 76, 21, 4, 46, 28, 182, 1, 234]
abbrev dktX5_forAll_2 : List UInt8 := dkwX5_forAll_2 ++ dktX5_forAll_3
def dkwX5_forAll_1 : List UInt8 := [180, 1, 138, 180, 1, 34, 162, 0, 74, 4, 62, 3, 54, 4, 21, 4, 42, 180, 1, 138, 180, 0, 223]
abbrev dktX5_forAll_1 : List UInt8 := dkwX5_forAll_1 ++ dktX5_forAll_2
def dkwX5_forAll_0 : List UInt8 := [42, 3, 181, 0, 75, 42, 180, 1, 138, 199, 0, 9, 42, 4, 182, 0, 81, 172, 3, 60, 3, 61, 28, 42]
abbrev dktX5_forAll_0 : List UInt8 := dkwX5_forAll_0 ++ dktX5_forAll_1
theorem dksX5_forAll_0 : cX5_forAll.data.toList.drop 0 = dktX5_forAll_0 := by decide +kernel
theorem dksX5_forAll_1 : cX5_forAll.data.toList.drop 24 = dktX5_forAll_1 := dk_seg dksX5_forAll_0 24 rfl rfl
theorem dksX5_forAll_2 : cX5_forAll.data.toList.drop 47 = dktX5_forAll_2 := dk_seg dksX5_forAll_1 23 rfl rfl
theorem dksX5_forAll_3 : cX5_forAll.data.toList.drop 69 = dktX5_forAll_3 := dk_seg dksX5_forAll_2 22 rfl rfl
theorem dksX5_forAll_4 : cX5_forAll.data.toList.drop 92 = dktX5_forAll_4 := dk_seg dksX5_forAll_3 23 rfl rfl
theorem dX5_forAll_0 : decode cX5_forAll 0 = .ok (.aload_n 0, 1) := dk_42 (dk_at dksX5_forAll_0 0 rfl rfl)
theorem dX5_forAll_1 : decode cX5_forAll 1 = .ok (.iconst 0, 1) := dk_3 (dk_at dksX5_forAll_0 1 rfl rfl)
theorem dX5_forAll_2 : decode cX5_forAll 2 = .ok (.putfield 75, 3) := dk_181 0 75 (dk_at dksX5_forAll_0 2 rfl rfl)
theorem dX5_forAll_5 : decode cX5_forAll 5 = .ok (.aload_n 0, 1) := dk_42 (dk_at dksX5_forAll_0 5 rfl rfl)
theorem dX5_forAll_6 : decode cX5_forAll 6 = .ok (.getfield 394, 3) := dk_180 1 138 (dk_at dksX5_forAll_0 6 rfl rfl)
theorem dX5_forAll_9 : decode cX5_forAll 9 = .ok (.ifnonnull 9, 3) := dk_199 0 9 (dk_at dksX5_forAll_0 9 rfl rfl)
theorem dX5_forAll_12 : decode cX5_forAll 12 = .ok (.aload_n 0, 1) := dk_42 (dk_at dksX5_forAll_0 12 rfl rfl)
theorem dX5_forAll_13 : decode cX5_forAll 13 = .ok (.iconst 1, 1) := dk_4 (dk_at dksX5_forAll_0 13 rfl rfl)
theorem dX5_forAll_14 : decode cX5_forAll 14 = .ok (.invokevirtual 81, 3) := dk_182 0 81 (dk_at dksX5_forAll_0 14 rfl rfl)
theorem dX5_forAll_17 : decode cX5_forAll 17 = .ok (.ireturn, 1) := dk_172 (dk_at dksX5_forAll_0 17 rfl rfl)
theorem dX5_forAll_18 : decode cX5_forAll 18 = .ok (.iconst 0, 1) := dk_3 (dk_at dksX5_forAll_0 18 rfl rfl)
theorem dX5_forAll_19 : decode cX5_forAll 19 = .ok (.istore_n 1, 1) := dk_60 (dk_at dksX5_forAll_0 19 rfl rfl)
theorem dX5_forAll_20 : decode cX5_forAll 20 = .ok (.iconst 0, 1) := dk_3 (dk_at dksX5_forAll_0 20 rfl rfl)
theorem dX5_forAll_21 : decode cX5_forAll 21 = .ok (.istore_n 2, 1) := dk_61 (dk_at dksX5_forAll_0 21 rfl rfl)
theorem dX5_forAll_22 : decode cX5_forAll 22 = .ok (.iload_n 2, 1) := dk_28 (dk_at dksX5_forAll_0 22 rfl rfl)
theorem dX5_forAll_23 : decode cX5_forAll 23 = .ok (.aload_n 0, 1) := dk_42 (dk_at dksX5_forAll_0 23 rfl rfl)
theorem dX5_forAll_24 : decode cX5_forAll 24 = .ok (.getfield 394, 3) := dk_180 1 138 (dk_at dksX5_forAll_1 0 rfl rfl)
theorem dX5_forAll_27 : decode cX5_forAll 27 = .ok (.getfield 290, 3) := dk_180 1 34 (dk_at dksX5_forAll_1 3 rfl rfl)
theorem dX5_forAll_30 : decode cX5_forAll 30 = .ok (.if_icmp .ge 74, 3) := dk_162 0 74 (dk_at dksX5_forAll_1 6 rfl rfl)
theorem dX5_forAll_33 : decode cX5_forAll 33 = .ok (.iconst 1, 1) := dk_4 (dk_at dksX5_forAll_1 9 rfl rfl)
theorem dX5_forAll_34 : decode cX5_forAll 34 = .ok (.istore_n 3, 1) := dk_62 (dk_at dksX5_forAll_1 10 rfl rfl)
theorem dX5_forAll_35 : decode cX5_forAll 35 = .ok (.iconst 0, 1) := dk_3 (dk_at dksX5_forAll_1 11 rfl rfl)
theorem dX5_forAll_36 : decode cX5_forAll 36 = .ok (.istore 4, 2) := dk_54 4 (dk_at dksX5_forAll_1 12 rfl rfl)
theorem dX5_forAll_38 : decode cX5_forAll 38 = .ok (.iload 4, 2) := dk_21 4 (dk_at dksX5_forAll_1 14 rfl rfl)
theorem dX5_forAll_40 : decode cX5_forAll 40 = .ok (.aload_n 0, 1) := dk_42 (dk_at dksX5_forAll_1 16 rfl rfl)
theorem dX5_forAll_41 : decode cX5_forAll 41 = .ok (.getfield 394, 3) := dk_180 1 138 (dk_at dksX5_forAll_1 17 rfl rfl)
theorem dX5_forAll_44 : decode cX5_forAll 44 = .ok (.getfield 223, 3) := dk_180 0 223 (dk_at dksX5_forAll_1 20 rfl rfl)
theorem dX5_forAll_47 : decode cX5_forAll 47 = .ok (.if_icmp .ge 37, 3) := dk_162 0 37 (dk_at dksX5_forAll_2 0 rfl rfl)
theorem dX5_forAll_50 : decode cX5_forAll 50 = .ok (.iload_n 3, 1) := dk_29 (dk_at dksX5_forAll_2 3 rfl rfl)
theorem dX5_forAll_51 : decode cX5_forAll 51 = .ok (.ifCond .eq 25, 3) := dk_153 0 25 (dk_at dksX5_forAll_2 4 rfl rfl)
theorem dX5_forAll_54 : decode cX5_forAll 54 = .ok (.aload_n 0, 1) := dk_42 (dk_at dksX5_forAll_2 7 rfl rfl)
theorem dX5_forAll_55 : decode cX5_forAll 55 = .ok (.aload_n 0, 1) := dk_42 (dk_at dksX5_forAll_2 8 rfl rfl)
theorem dX5_forAll_56 : decode cX5_forAll 56 = .ok (.getfield 394, 3) := dk_180 1 138 (dk_at dksX5_forAll_2 9 rfl rfl)
theorem dX5_forAll_59 : decode cX5_forAll 59 = .ok (.getfield 332, 3) := dk_180 1 76 (dk_at dksX5_forAll_2 12 rfl rfl)
theorem dX5_forAll_62 : decode cX5_forAll 62 = .ok (.iload 4, 2) := dk_21 4 (dk_at dksX5_forAll_2 15 rfl rfl)
theorem dX5_forAll_64 : decode cX5_forAll 64 = .ok (.iaload, 1) := dk_46 (dk_at dksX5_forAll_2 17 rfl rfl)
theorem dX5_forAll_65 : decode cX5_forAll 65 = .ok (.iload_n 2, 1) := dk_28 (dk_at dksX5_forAll_2 18 rfl rfl)
theorem dX5_forAll_66 : decode cX5_forAll 66 = .ok (.invokevirtual 490, 3) := dk_182 1 234 (dk_at dksX5_forAll_2 19 rfl rfl)
theorem dX5_forAll_69 : decode cX5_forAll 69 = .ok (.ifCond .ne 7, 3) := dk_154 0 7 (dk_at dksX5_forAll_3 0 rfl rfl)
theorem dX5_forAll_72 : decode cX5_forAll 72 = .ok (.iconst 1, 1) := dk_4 (dk_at dksX5_forAll_3 3 rfl rfl)
theorem dX5_forAll_73 : decode cX5_forAll 73 = .ok (.goto 4, 3) := dk_167 0 4 (dk_at dksX5_forAll_3 4 rfl rfl)
theorem dX5_forAll_76 : decode cX5_forAll 76 = .ok (.iconst 0, 1) := dk_3 (dk_at dksX5_forAll_3 7 rfl rfl)
theorem dX5_forAll_77 : decode cX5_forAll 77 = .ok (.istore_n 3, 1) := dk_62 (dk_at dksX5_forAll_3 8 rfl rfl)
theorem dX5_forAll_78 : decode cX5_forAll 78 = .ok (.iinc 4 1, 3) := dk_132 4 1 (dk_at dksX5_forAll_3 9 rfl rfl)
theorem dX5_forAll_81 : decode cX5_forAll 81 = .ok (.goto (-43), 3) := dk_167 255 213 (dk_at dksX5_forAll_3 12 rfl rfl)
theorem dX5_forAll_84 : decode cX5_forAll 84 = .ok (.iload_n 1, 1) := dk_27 (dk_at dksX5_forAll_3 15 rfl rfl)
theorem dX5_forAll_85 : decode cX5_forAll 85 = .ok (.iload_n 3, 1) := dk_29 (dk_at dksX5_forAll_3 16 rfl rfl)
theorem dX5_forAll_86 : decode cX5_forAll 86 = .ok (.ifCond .eq 9, 3) := dk_153 0 9 (dk_at dksX5_forAll_3 17 rfl rfl)
theorem dX5_forAll_89 : decode cX5_forAll 89 = .ok (.iconst 1, 1) := dk_4 (dk_at dksX5_forAll_3 20 rfl rfl)
theorem dX5_forAll_90 : decode cX5_forAll 90 = .ok (.iload_n 2, 1) := dk_28 (dk_at dksX5_forAll_3 21 rfl rfl)
theorem dX5_forAll_91 : decode cX5_forAll 91 = .ok (.ishl, 1) := dk_120 (dk_at dksX5_forAll_3 22 rfl rfl)
theorem dX5_forAll_92 : decode cX5_forAll 92 = .ok (.goto 4, 3) := dk_167 0 4 (dk_at dksX5_forAll_4 0 rfl rfl)
theorem dX5_forAll_95 : decode cX5_forAll 95 = .ok (.iconst 0, 1) := dk_3 (dk_at dksX5_forAll_4 3 rfl rfl)
theorem dX5_forAll_96 : decode cX5_forAll 96 = .ok (.ior, 1) := dk_128 (dk_at dksX5_forAll_4 4 rfl rfl)
theorem dX5_forAll_97 : decode cX5_forAll 97 = .ok (.istore_n 1, 1) := dk_60 (dk_at dksX5_forAll_4 5 rfl rfl)
theorem dX5_forAll_98 : decode cX5_forAll 98 = .ok (.iinc 2 1, 3) := dk_132 2 1 (dk_at dksX5_forAll_4 6 rfl rfl)
theorem dX5_forAll_101 : decode cX5_forAll 101 = .ok (.goto (-79), 3) := dk_167 255 177 (dk_at dksX5_forAll_4 9 rfl rfl)
theorem dX5_forAll_104 : decode cX5_forAll 104 = .ok (.aload_n 0, 1) := dk_42 (dk_at dksX5_forAll_4 12 rfl rfl)
theorem dX5_forAll_105 : decode cX5_forAll 105 = .ok (.iload_n 1, 1) := dk_27 (dk_at dksX5_forAll_4 13 rfl rfl)
theorem dX5_forAll_106 : decode cX5_forAll 106 = .ok (.invokevirtual 416, 3) := dk_182 1 160 (dk_at dksX5_forAll_4 14 rfl rfl)
theorem dX5_forAll_109 : decode cX5_forAll 109 = .ok (.ireturn, 1) := dk_172 (dk_at dksX5_forAll_4 17 rfl rfl)
abbrev cX5_menu : ByteArray := prog_15_method_74_code
def yX5_menu : MethodName := ⟨RX5, "menu", "(II)I"⟩
def dkwX5_menu_6 : List UInt8 := [54, 4, 132, 5, 1, 167, 255, 190, 42, 29, 182, 1, 160, 172]
abbrev dktX5_menu_6 : List UInt8 := dkwX5_menu_6 ++ []
def dkwX5_menu_5 : List UInt8 := [46, 21, 6, 159, 0, 9, 132, 7, 1, 167, 255, 228, 42, 180, 0, 45, 21, 5, 21, 7, 79, 21, 7]
abbrev dktX5_menu_5 : List UInt8 := dkwX5_menu_5 ++ dktX5_menu_6
def dkwX5_menu_4 : List UInt8 := [54, 6, 3, 54, 7, 21, 7, 21, 4, 159, 0, 21, 42, 180, 0, 42, 16, 6, 21, 5, 104, 21, 7, 96]
abbrev dktX5_menu_4 : List UInt8 := dkwX5_menu_4 ++ dktX5_menu_5
def dkwX5_menu_3 : List UInt8 := [181, 1, 147, 2, 54, 4, 3, 54, 5, 21, 5, 28, 162, 0, 66, 42, 21, 5, 21, 4, 182, 1, 237]
abbrev dktX5_menu_3 : List UInt8 := dkwX5_menu_3 ++ dktX5_menu_4
def dkwX5_menu_2 : List UInt8 := [172, 42, 27, 28, 182, 1, 240, 62, 29, 2, 160, 0, 10, 42, 16, 6, 182, 0, 81, 172, 42, 28]
abbrev dktX5_menu_2 : List UInt8 := dkwX5_menu_2 ++ dktX5_menu_3
def dkwX5_menu_1 : List UInt8 := [161, 0, 9, 42, 4, 182, 0, 81, 172, 28, 4, 16, 14, 184, 0, 153, 154, 0, 9, 42, 5, 182, 0, 81]
abbrev dktX5_menu_1 : List UInt8 := dkwX5_menu_1 ++ dktX5_menu_2
def dkwX5_menu_0 : List UInt8 := [42, 3, 181, 0, 75, 42, 180, 1, 138, 198, 0, 18, 27, 155, 0, 14, 27, 42, 180, 1, 138, 180, 1, 50]
abbrev dktX5_menu_0 : List UInt8 := dkwX5_menu_0 ++ dktX5_menu_1
theorem dksX5_menu_0 : cX5_menu.data.toList.drop 0 = dktX5_menu_0 := by decide +kernel
theorem dksX5_menu_1 : cX5_menu.data.toList.drop 24 = dktX5_menu_1 := dk_seg dksX5_menu_0 24 rfl rfl
theorem dksX5_menu_2 : cX5_menu.data.toList.drop 48 = dktX5_menu_2 := dk_seg dksX5_menu_1 24 rfl rfl
theorem dksX5_menu_3 : cX5_menu.data.toList.drop 70 = dktX5_menu_3 := dk_seg dksX5_menu_2 22 rfl rfl
theorem dksX5_menu_4 : cX5_menu.data.toList.drop 93 = dktX5_menu_4 := dk_seg dksX5_menu_3 23 rfl rfl
theorem dksX5_menu_5 : cX5_menu.data.toList.drop 117 = dktX5_menu_5 := dk_seg dksX5_menu_4 24 rfl rfl
theorem dksX5_menu_6 : cX5_menu.data.toList.drop 140 = dktX5_menu_6 := dk_seg dksX5_menu_5 23 rfl rfl
theorem dX5_menu_0 : decode cX5_menu 0 = .ok (.aload_n 0, 1) := dk_42 (dk_at dksX5_menu_0 0 rfl rfl)
theorem dX5_menu_1 : decode cX5_menu 1 = .ok (.iconst 0, 1) := dk_3 (dk_at dksX5_menu_0 1 rfl rfl)
theorem dX5_menu_2 : decode cX5_menu 2 = .ok (.putfield 75, 3) := dk_181 0 75 (dk_at dksX5_menu_0 2 rfl rfl)
theorem dX5_menu_5 : decode cX5_menu 5 = .ok (.aload_n 0, 1) := dk_42 (dk_at dksX5_menu_0 5 rfl rfl)
theorem dX5_menu_6 : decode cX5_menu 6 = .ok (.getfield 394, 3) := dk_180 1 138 (dk_at dksX5_menu_0 6 rfl rfl)
theorem dX5_menu_9 : decode cX5_menu 9 = .ok (.ifnull 18, 3) := dk_198 0 18 (dk_at dksX5_menu_0 9 rfl rfl)
theorem dX5_menu_12 : decode cX5_menu 12 = .ok (.iload_n 1, 1) := dk_27 (dk_at dksX5_menu_0 12 rfl rfl)
theorem dX5_menu_13 : decode cX5_menu 13 = .ok (.ifCond .lt 14, 3) := dk_155 0 14 (dk_at dksX5_menu_0 13 rfl rfl)
theorem dX5_menu_16 : decode cX5_menu 16 = .ok (.iload_n 1, 1) := dk_27 (dk_at dksX5_menu_0 16 rfl rfl)
theorem dX5_menu_17 : decode cX5_menu 17 = .ok (.aload_n 0, 1) := dk_42 (dk_at dksX5_menu_0 17 rfl rfl)
theorem dX5_menu_18 : decode cX5_menu 18 = .ok (.getfield 394, 3) := dk_180 1 138 (dk_at dksX5_menu_0 18 rfl rfl)
theorem dX5_menu_21 : decode cX5_menu 21 = .ok (.getfield 306, 3) := dk_180 1 50 (dk_at dksX5_menu_0 21 rfl rfl)
theorem dX5_menu_24 : decode cX5_menu 24 = .ok (.if_icmp .lt 9, 3) := dk_161 0 9 (dk_at dksX5_menu_1 0 rfl rfl)
theorem dX5_menu_27 : decode cX5_menu 27 = .ok (.aload_n 0, 1) := dk_42 (dk_at dksX5_menu_1 3 rfl rfl)
theorem dX5_menu_28 : decode cX5_menu 28 = .ok (.iconst 1, 1) := dk_4 (dk_at dksX5_menu_1 4 rfl rfl)
theorem dX5_menu_29 : decode cX5_menu 29 = .ok (.invokevirtual 81, 3) := dk_182 0 81 (dk_at dksX5_menu_1 5 rfl rfl)
theorem dX5_menu_32 : decode cX5_menu 32 = .ok (.ireturn, 1) := dk_172 (dk_at dksX5_menu_1 8 rfl rfl)
theorem dX5_menu_33 : decode cX5_menu 33 = .ok (.iload_n 2, 1) := dk_28 (dk_at dksX5_menu_1 9 rfl rfl)
theorem dX5_menu_34 : decode cX5_menu 34 = .ok (.iconst 1, 1) := dk_4 (dk_at dksX5_menu_1 10 rfl rfl)
theorem dX5_menu_35 : decode cX5_menu 35 = .ok (.bipush 14, 2) := dk_16 14 (dk_at dksX5_menu_1 11 rfl rfl)
theorem dX5_menu_37 : decode cX5_menu 37 = .ok (.invokestatic 153, 3) := dk_184 0 153 (dk_at dksX5_menu_1 13 rfl rfl)
theorem dX5_menu_40 : decode cX5_menu 40 = .ok (.ifCond .ne 9, 3) := dk_154 0 9 (dk_at dksX5_menu_1 16 rfl rfl)
theorem dX5_menu_43 : decode cX5_menu 43 = .ok (.aload_n 0, 1) := dk_42 (dk_at dksX5_menu_1 19 rfl rfl)
theorem dX5_menu_44 : decode cX5_menu 44 = .ok (.iconst 2, 1) := dk_5 (dk_at dksX5_menu_1 20 rfl rfl)
theorem dX5_menu_45 : decode cX5_menu 45 = .ok (.invokevirtual 81, 3) := dk_182 0 81 (dk_at dksX5_menu_1 21 rfl rfl)
theorem dX5_menu_48 : decode cX5_menu 48 = .ok (.ireturn, 1) := dk_172 (dk_at dksX5_menu_2 0 rfl rfl)
theorem dX5_menu_49 : decode cX5_menu 49 = .ok (.aload_n 0, 1) := dk_42 (dk_at dksX5_menu_2 1 rfl rfl)
theorem dX5_menu_50 : decode cX5_menu 50 = .ok (.iload_n 1, 1) := dk_27 (dk_at dksX5_menu_2 2 rfl rfl)
theorem dX5_menu_51 : decode cX5_menu 51 = .ok (.iload_n 2, 1) := dk_28 (dk_at dksX5_menu_2 3 rfl rfl)
theorem dX5_menu_52 : decode cX5_menu 52 = .ok (.invokevirtual 496, 3) := dk_182 1 240 (dk_at dksX5_menu_2 4 rfl rfl)
theorem dX5_menu_55 : decode cX5_menu 55 = .ok (.istore_n 3, 1) := dk_62 (dk_at dksX5_menu_2 7 rfl rfl)
theorem dX5_menu_56 : decode cX5_menu 56 = .ok (.iload_n 3, 1) := dk_29 (dk_at dksX5_menu_2 8 rfl rfl)
theorem dX5_menu_57 : decode cX5_menu 57 = .ok (.iconst (-1), 1) := dk_2 (dk_at dksX5_menu_2 9 rfl rfl)
theorem dX5_menu_58 : decode cX5_menu 58 = .ok (.if_icmp .ne 10, 3) := dk_160 0 10 (dk_at dksX5_menu_2 10 rfl rfl)
theorem dX5_menu_61 : decode cX5_menu 61 = .ok (.aload_n 0, 1) := dk_42 (dk_at dksX5_menu_2 13 rfl rfl)
theorem dX5_menu_62 : decode cX5_menu 62 = .ok (.bipush 6, 2) := dk_16 6 (dk_at dksX5_menu_2 14 rfl rfl)
theorem dX5_menu_64 : decode cX5_menu 64 = .ok (.invokevirtual 81, 3) := dk_182 0 81 (dk_at dksX5_menu_2 16 rfl rfl)
theorem dX5_menu_67 : decode cX5_menu 67 = .ok (.ireturn, 1) := dk_172 (dk_at dksX5_menu_2 19 rfl rfl)
theorem dX5_menu_68 : decode cX5_menu 68 = .ok (.aload_n 0, 1) := dk_42 (dk_at dksX5_menu_2 20 rfl rfl)
theorem dX5_menu_69 : decode cX5_menu 69 = .ok (.iload_n 2, 1) := dk_28 (dk_at dksX5_menu_2 21 rfl rfl)
theorem dX5_menu_70 : decode cX5_menu 70 = .ok (.putfield 403, 3) := dk_181 1 147 (dk_at dksX5_menu_3 0 rfl rfl)
theorem dX5_menu_73 : decode cX5_menu 73 = .ok (.iconst (-1), 1) := dk_2 (dk_at dksX5_menu_3 3 rfl rfl)
theorem dX5_menu_74 : decode cX5_menu 74 = .ok (.istore 4, 2) := dk_54 4 (dk_at dksX5_menu_3 4 rfl rfl)
theorem dX5_menu_76 : decode cX5_menu 76 = .ok (.iconst 0, 1) := dk_3 (dk_at dksX5_menu_3 6 rfl rfl)
theorem dX5_menu_77 : decode cX5_menu 77 = .ok (.istore 5, 2) := dk_54 5 (dk_at dksX5_menu_3 7 rfl rfl)
theorem dX5_menu_79 : decode cX5_menu 79 = .ok (.iload 5, 2) := dk_21 5 (dk_at dksX5_menu_3 9 rfl rfl)
theorem dX5_menu_81 : decode cX5_menu 81 = .ok (.iload_n 2, 1) := dk_28 (dk_at dksX5_menu_3 11 rfl rfl)
theorem dX5_menu_82 : decode cX5_menu 82 = .ok (.if_icmp .ge 66, 3) := dk_162 0 66 (dk_at dksX5_menu_3 12 rfl rfl)
theorem dX5_menu_85 : decode cX5_menu 85 = .ok (.aload_n 0, 1) := dk_42 (dk_at dksX5_menu_3 15 rfl rfl)
theorem dX5_menu_86 : decode cX5_menu 86 = .ok (.iload 5, 2) := dk_21 5 (dk_at dksX5_menu_3 16 rfl rfl)
theorem dX5_menu_88 : decode cX5_menu 88 = .ok (.iload 4, 2) := dk_21 4 (dk_at dksX5_menu_3 18 rfl rfl)
theorem dX5_menu_90 : decode cX5_menu 90 = .ok (.invokevirtual 493, 3) := dk_182 1 237 (dk_at dksX5_menu_3 20 rfl rfl)
theorem dX5_menu_93 : decode cX5_menu 93 = .ok (.istore 6, 2) := dk_54 6 (dk_at dksX5_menu_4 0 rfl rfl)
theorem dX5_menu_95 : decode cX5_menu 95 = .ok (.iconst 0, 1) := dk_3 (dk_at dksX5_menu_4 2 rfl rfl)
theorem dX5_menu_96 : decode cX5_menu 96 = .ok (.istore 7, 2) := dk_54 7 (dk_at dksX5_menu_4 3 rfl rfl)
theorem dX5_menu_98 : decode cX5_menu 98 = .ok (.iload 7, 2) := dk_21 7 (dk_at dksX5_menu_4 5 rfl rfl)
theorem dX5_menu_100 : decode cX5_menu 100 = .ok (.iload 4, 2) := dk_21 4 (dk_at dksX5_menu_4 7 rfl rfl)
theorem dX5_menu_102 : decode cX5_menu 102 = .ok (.if_icmp .eq 21, 3) := dk_159 0 21 (dk_at dksX5_menu_4 9 rfl rfl)
theorem dX5_menu_105 : decode cX5_menu 105 = .ok (.aload_n 0, 1) := dk_42 (dk_at dksX5_menu_4 12 rfl rfl)
theorem dX5_menu_106 : decode cX5_menu 106 = .ok (.getfield 42, 3) := dk_180 0 42 (dk_at dksX5_menu_4 13 rfl rfl)
theorem dX5_menu_109 : decode cX5_menu 109 = .ok (.bipush 6, 2) := dk_16 6 (dk_at dksX5_menu_4 16 rfl rfl)
theorem dX5_menu_111 : decode cX5_menu 111 = .ok (.iload 5, 2) := dk_21 5 (dk_at dksX5_menu_4 18 rfl rfl)
theorem dX5_menu_113 : decode cX5_menu 113 = .ok (.imul, 1) := dk_104 (dk_at dksX5_menu_4 20 rfl rfl)
theorem dX5_menu_114 : decode cX5_menu 114 = .ok (.iload 7, 2) := dk_21 7 (dk_at dksX5_menu_4 21 rfl rfl)
theorem dX5_menu_116 : decode cX5_menu 116 = .ok (.iadd, 1) := dk_96 (dk_at dksX5_menu_4 23 rfl rfl)
theorem dX5_menu_117 : decode cX5_menu 117 = .ok (.iaload, 1) := dk_46 (dk_at dksX5_menu_5 0 rfl rfl)
theorem dX5_menu_118 : decode cX5_menu 118 = .ok (.iload 6, 2) := dk_21 6 (dk_at dksX5_menu_5 1 rfl rfl)
theorem dX5_menu_120 : decode cX5_menu 120 = .ok (.if_icmp .eq 9, 3) := dk_159 0 9 (dk_at dksX5_menu_5 3 rfl rfl)
theorem dX5_menu_123 : decode cX5_menu 123 = .ok (.iinc 7 1, 3) := dk_132 7 1 (dk_at dksX5_menu_5 6 rfl rfl)
theorem dX5_menu_126 : decode cX5_menu 126 = .ok (.goto (-28), 3) := dk_167 255 228 (dk_at dksX5_menu_5 9 rfl rfl)
theorem dX5_menu_129 : decode cX5_menu 129 = .ok (.aload_n 0, 1) := dk_42 (dk_at dksX5_menu_5 12 rfl rfl)
theorem dX5_menu_130 : decode cX5_menu 130 = .ok (.getfield 45, 3) := dk_180 0 45 (dk_at dksX5_menu_5 13 rfl rfl)
theorem dX5_menu_133 : decode cX5_menu 133 = .ok (.iload 5, 2) := dk_21 5 (dk_at dksX5_menu_5 16 rfl rfl)
theorem dX5_menu_135 : decode cX5_menu 135 = .ok (.iload 7, 2) := dk_21 7 (dk_at dksX5_menu_5 18 rfl rfl)
theorem dX5_menu_137 : decode cX5_menu 137 = .ok (.iastore, 1) := dk_79 (dk_at dksX5_menu_5 20 rfl rfl)
theorem dX5_menu_138 : decode cX5_menu 138 = .ok (.iload 7, 2) := dk_21 7 (dk_at dksX5_menu_5 21 rfl rfl)
theorem dX5_menu_140 : decode cX5_menu 140 = .ok (.istore 4, 2) := dk_54 4 (dk_at dksX5_menu_6 0 rfl rfl)
theorem dX5_menu_142 : decode cX5_menu 142 = .ok (.iinc 5 1, 3) := dk_132 5 1 (dk_at dksX5_menu_6 2 rfl rfl)
theorem dX5_menu_145 : decode cX5_menu 145 = .ok (.goto (-66), 3) := dk_167 255 190 (dk_at dksX5_menu_6 5 rfl rfl)
theorem dX5_menu_148 : decode cX5_menu 148 = .ok (.aload_n 0, 1) := dk_42 (dk_at dksX5_menu_6 8 rfl rfl)
theorem dX5_menu_149 : decode cX5_menu 149 = .ok (.iload_n 3, 1) := dk_29 (dk_at dksX5_menu_6 9 rfl rfl)
theorem dX5_menu_150 : decode cX5_menu 150 = .ok (.invokevirtual 416, 3) := dk_182 1 160 (dk_at dksX5_menu_6 10 rfl rfl)
theorem dX5_menu_153 : decode cX5_menu 153 = .ok (.ireturn, 1) := dk_172 (dk_at dksX5_menu_6 13 rfl rfl)
abbrev cX5_coinOf : ByteArray := prog_15_method_73_code
def yX5_coinOf : MethodName := ⟨RX5, "coinOf", "(II)I"⟩
def dkwX5_coinOf_4 : List UInt8 := [167, 255, 174, 132, 3, 255, 167, 255, 161, 42, 3, 2, 182, 1, 237, 172]
abbrev dktX5_coinOf_4 : List UInt8 := dkwX5_coinOf_4 ++ []
def dkwX5_coinOf_3 : List UInt8 := [160, 0, 7, 2, 167, 0, 16, 42, 180, 1, 138, 180, 1, 47, 21, 4, 46, 21, 5, 96, 79, 132, 4, 1]
abbrev dktX5_coinOf_3 : List UInt8 := dkwX5_coinOf_3 ++ dktX5_coinOf_4
def dkwX5_coinOf_2 : List UInt8 := [180, 0, 42, 16, 6, 29, 104, 21, 4, 96, 42, 27, 21, 4, 182, 1, 234, 154, 0, 9, 21, 5, 2]
abbrev dktX5_coinOf_2 : List UInt8 := dkwX5_coinOf_2 ++ dktX5_coinOf_3
def dkwX5_coinOf_1 : List UInt8 := [28, 4, 100, 160, 0, 7, 3, 167, 0, 12, 42, 29, 4, 96, 21, 4, 182, 1, 237, 54, 5, 42]
abbrev dktX5_coinOf_1 : List UInt8 := dkwX5_coinOf_1 ++ dktX5_coinOf_2
def dkwX5_coinOf_0 : List UInt8 := [28, 4, 100, 62, 29, 155, 0, 97, 3, 54, 4, 21, 4, 42, 180, 1, 138, 180, 1, 34, 162, 0, 76, 29]
abbrev dktX5_coinOf_0 : List UInt8 := dkwX5_coinOf_0 ++ dktX5_coinOf_1
theorem dksX5_coinOf_0 : cX5_coinOf.data.toList.drop 0 = dktX5_coinOf_0 := by decide +kernel
theorem dksX5_coinOf_1 : cX5_coinOf.data.toList.drop 24 = dktX5_coinOf_1 := dk_seg dksX5_coinOf_0 24 rfl rfl
theorem dksX5_coinOf_2 : cX5_coinOf.data.toList.drop 46 = dktX5_coinOf_2 := dk_seg dksX5_coinOf_1 22 rfl rfl
theorem dksX5_coinOf_3 : cX5_coinOf.data.toList.drop 69 = dktX5_coinOf_3 := dk_seg dksX5_coinOf_2 23 rfl rfl
theorem dksX5_coinOf_4 : cX5_coinOf.data.toList.drop 93 = dktX5_coinOf_4 := dk_seg dksX5_coinOf_3 24 rfl rfl
theorem dX5_coinOf_0 : decode cX5_coinOf 0 = .ok (.iload_n 2, 1) := dk_28 (dk_at dksX5_coinOf_0 0 rfl rfl)
theorem dX5_coinOf_1 : decode cX5_coinOf 1 = .ok (.iconst 1, 1) := dk_4 (dk_at dksX5_coinOf_0 1 rfl rfl)
theorem dX5_coinOf_2 : decode cX5_coinOf 2 = .ok (.isub, 1) := dk_100 (dk_at dksX5_coinOf_0 2 rfl rfl)
theorem dX5_coinOf_3 : decode cX5_coinOf 3 = .ok (.istore_n 3, 1) := dk_62 (dk_at dksX5_coinOf_0 3 rfl rfl)
theorem dX5_coinOf_4 : decode cX5_coinOf 4 = .ok (.iload_n 3, 1) := dk_29 (dk_at dksX5_coinOf_0 4 rfl rfl)
theorem dX5_coinOf_5 : decode cX5_coinOf 5 = .ok (.ifCond .lt 97, 3) := dk_155 0 97 (dk_at dksX5_coinOf_0 5 rfl rfl)
theorem dX5_coinOf_8 : decode cX5_coinOf 8 = .ok (.iconst 0, 1) := dk_3 (dk_at dksX5_coinOf_0 8 rfl rfl)
theorem dX5_coinOf_9 : decode cX5_coinOf 9 = .ok (.istore 4, 2) := dk_54 4 (dk_at dksX5_coinOf_0 9 rfl rfl)
theorem dX5_coinOf_11 : decode cX5_coinOf 11 = .ok (.iload 4, 2) := dk_21 4 (dk_at dksX5_coinOf_0 11 rfl rfl)
theorem dX5_coinOf_13 : decode cX5_coinOf 13 = .ok (.aload_n 0, 1) := dk_42 (dk_at dksX5_coinOf_0 13 rfl rfl)
theorem dX5_coinOf_14 : decode cX5_coinOf 14 = .ok (.getfield 394, 3) := dk_180 1 138 (dk_at dksX5_coinOf_0 14 rfl rfl)
theorem dX5_coinOf_17 : decode cX5_coinOf 17 = .ok (.getfield 290, 3) := dk_180 1 34 (dk_at dksX5_coinOf_0 17 rfl rfl)
theorem dX5_coinOf_20 : decode cX5_coinOf 20 = .ok (.if_icmp .ge 76, 3) := dk_162 0 76 (dk_at dksX5_coinOf_0 20 rfl rfl)
theorem dX5_coinOf_23 : decode cX5_coinOf 23 = .ok (.iload_n 3, 1) := dk_29 (dk_at dksX5_coinOf_0 23 rfl rfl)
theorem dX5_coinOf_24 : decode cX5_coinOf 24 = .ok (.iload_n 2, 1) := dk_28 (dk_at dksX5_coinOf_1 0 rfl rfl)
theorem dX5_coinOf_25 : decode cX5_coinOf 25 = .ok (.iconst 1, 1) := dk_4 (dk_at dksX5_coinOf_1 1 rfl rfl)
theorem dX5_coinOf_26 : decode cX5_coinOf 26 = .ok (.isub, 1) := dk_100 (dk_at dksX5_coinOf_1 2 rfl rfl)
theorem dX5_coinOf_27 : decode cX5_coinOf 27 = .ok (.if_icmp .ne 7, 3) := dk_160 0 7 (dk_at dksX5_coinOf_1 3 rfl rfl)
theorem dX5_coinOf_30 : decode cX5_coinOf 30 = .ok (.iconst 0, 1) := dk_3 (dk_at dksX5_coinOf_1 6 rfl rfl)
theorem dX5_coinOf_31 : decode cX5_coinOf 31 = .ok (.goto 12, 3) := dk_167 0 12 (dk_at dksX5_coinOf_1 7 rfl rfl)
theorem dX5_coinOf_34 : decode cX5_coinOf 34 = .ok (.aload_n 0, 1) := dk_42 (dk_at dksX5_coinOf_1 10 rfl rfl)
theorem dX5_coinOf_35 : decode cX5_coinOf 35 = .ok (.iload_n 3, 1) := dk_29 (dk_at dksX5_coinOf_1 11 rfl rfl)
theorem dX5_coinOf_36 : decode cX5_coinOf 36 = .ok (.iconst 1, 1) := dk_4 (dk_at dksX5_coinOf_1 12 rfl rfl)
theorem dX5_coinOf_37 : decode cX5_coinOf 37 = .ok (.iadd, 1) := dk_96 (dk_at dksX5_coinOf_1 13 rfl rfl)
theorem dX5_coinOf_38 : decode cX5_coinOf 38 = .ok (.iload 4, 2) := dk_21 4 (dk_at dksX5_coinOf_1 14 rfl rfl)
theorem dX5_coinOf_40 : decode cX5_coinOf 40 = .ok (.invokevirtual 493, 3) := dk_182 1 237 (dk_at dksX5_coinOf_1 16 rfl rfl)
theorem dX5_coinOf_43 : decode cX5_coinOf 43 = .ok (.istore 5, 2) := dk_54 5 (dk_at dksX5_coinOf_1 19 rfl rfl)
theorem dX5_coinOf_45 : decode cX5_coinOf 45 = .ok (.aload_n 0, 1) := dk_42 (dk_at dksX5_coinOf_1 21 rfl rfl)
theorem dX5_coinOf_46 : decode cX5_coinOf 46 = .ok (.getfield 42, 3) := dk_180 0 42 (dk_at dksX5_coinOf_2 0 rfl rfl)
theorem dX5_coinOf_49 : decode cX5_coinOf 49 = .ok (.bipush 6, 2) := dk_16 6 (dk_at dksX5_coinOf_2 3 rfl rfl)
theorem dX5_coinOf_51 : decode cX5_coinOf 51 = .ok (.iload_n 3, 1) := dk_29 (dk_at dksX5_coinOf_2 5 rfl rfl)
theorem dX5_coinOf_52 : decode cX5_coinOf 52 = .ok (.imul, 1) := dk_104 (dk_at dksX5_coinOf_2 6 rfl rfl)
theorem dX5_coinOf_53 : decode cX5_coinOf 53 = .ok (.iload 4, 2) := dk_21 4 (dk_at dksX5_coinOf_2 7 rfl rfl)
theorem dX5_coinOf_55 : decode cX5_coinOf 55 = .ok (.iadd, 1) := dk_96 (dk_at dksX5_coinOf_2 9 rfl rfl)
theorem dX5_coinOf_56 : decode cX5_coinOf 56 = .ok (.aload_n 0, 1) := dk_42 (dk_at dksX5_coinOf_2 10 rfl rfl)
theorem dX5_coinOf_57 : decode cX5_coinOf 57 = .ok (.iload_n 1, 1) := dk_27 (dk_at dksX5_coinOf_2 11 rfl rfl)
theorem dX5_coinOf_58 : decode cX5_coinOf 58 = .ok (.iload 4, 2) := dk_21 4 (dk_at dksX5_coinOf_2 12 rfl rfl)
theorem dX5_coinOf_60 : decode cX5_coinOf 60 = .ok (.invokevirtual 490, 3) := dk_182 1 234 (dk_at dksX5_coinOf_2 14 rfl rfl)
theorem dX5_coinOf_63 : decode cX5_coinOf 63 = .ok (.ifCond .ne 9, 3) := dk_154 0 9 (dk_at dksX5_coinOf_2 17 rfl rfl)
theorem dX5_coinOf_66 : decode cX5_coinOf 66 = .ok (.iload 5, 2) := dk_21 5 (dk_at dksX5_coinOf_2 20 rfl rfl)
theorem dX5_coinOf_68 : decode cX5_coinOf 68 = .ok (.iconst (-1), 1) := dk_2 (dk_at dksX5_coinOf_2 22 rfl rfl)
theorem dX5_coinOf_69 : decode cX5_coinOf 69 = .ok (.if_icmp .ne 7, 3) := dk_160 0 7 (dk_at dksX5_coinOf_3 0 rfl rfl)
theorem dX5_coinOf_72 : decode cX5_coinOf 72 = .ok (.iconst (-1), 1) := dk_2 (dk_at dksX5_coinOf_3 3 rfl rfl)
theorem dX5_coinOf_73 : decode cX5_coinOf 73 = .ok (.goto 16, 3) := dk_167 0 16 (dk_at dksX5_coinOf_3 4 rfl rfl)
theorem dX5_coinOf_76 : decode cX5_coinOf 76 = .ok (.aload_n 0, 1) := dk_42 (dk_at dksX5_coinOf_3 7 rfl rfl)
theorem dX5_coinOf_77 : decode cX5_coinOf 77 = .ok (.getfield 394, 3) := dk_180 1 138 (dk_at dksX5_coinOf_3 8 rfl rfl)
theorem dX5_coinOf_80 : decode cX5_coinOf 80 = .ok (.getfield 303, 3) := dk_180 1 47 (dk_at dksX5_coinOf_3 11 rfl rfl)
theorem dX5_coinOf_83 : decode cX5_coinOf 83 = .ok (.iload 4, 2) := dk_21 4 (dk_at dksX5_coinOf_3 14 rfl rfl)
theorem dX5_coinOf_85 : decode cX5_coinOf 85 = .ok (.iaload, 1) := dk_46 (dk_at dksX5_coinOf_3 16 rfl rfl)
theorem dX5_coinOf_86 : decode cX5_coinOf 86 = .ok (.iload 5, 2) := dk_21 5 (dk_at dksX5_coinOf_3 17 rfl rfl)
theorem dX5_coinOf_88 : decode cX5_coinOf 88 = .ok (.iadd, 1) := dk_96 (dk_at dksX5_coinOf_3 19 rfl rfl)
theorem dX5_coinOf_89 : decode cX5_coinOf 89 = .ok (.iastore, 1) := dk_79 (dk_at dksX5_coinOf_3 20 rfl rfl)
theorem dX5_coinOf_90 : decode cX5_coinOf 90 = .ok (.iinc 4 1, 3) := dk_132 4 1 (dk_at dksX5_coinOf_3 21 rfl rfl)
theorem dX5_coinOf_93 : decode cX5_coinOf 93 = .ok (.goto (-82), 3) := dk_167 255 174 (dk_at dksX5_coinOf_4 0 rfl rfl)
theorem dX5_coinOf_96 : decode cX5_coinOf 96 = .ok (.iinc 3 (-1), 3) := dk_132 3 255 (dk_at dksX5_coinOf_4 3 rfl rfl)
theorem dX5_coinOf_99 : decode cX5_coinOf 99 = .ok (.goto (-95), 3) := dk_167 255 161 (dk_at dksX5_coinOf_4 6 rfl rfl)
theorem dX5_coinOf_102 : decode cX5_coinOf 102 = .ok (.aload_n 0, 1) := dk_42 (dk_at dksX5_coinOf_4 9 rfl rfl)
theorem dX5_coinOf_103 : decode cX5_coinOf 103 = .ok (.iconst 0, 1) := dk_3 (dk_at dksX5_coinOf_4 10 rfl rfl)
theorem dX5_coinOf_104 : decode cX5_coinOf 104 = .ok (.iconst (-1), 1) := dk_2 (dk_at dksX5_coinOf_4 11 rfl rfl)
theorem dX5_coinOf_105 : decode cX5_coinOf 105 = .ok (.invokevirtual 493, 3) := dk_182 1 237 (dk_at dksX5_coinOf_4 12 rfl rfl)
theorem dX5_coinOf_108 : decode cX5_coinOf 108 = .ok (.ireturn, 1) := dk_172 (dk_at dksX5_coinOf_4 15 rfl rfl)
abbrev cX5_cheapest : ByteArray := prog_15_method_72_code
def yX5_cheapest : MethodName := ⟨RX5, "cheapest", "(II)I"⟩
def dkwX5_cheapest_2 : List UInt8 := [21, 5, 29, 162, 0, 6, 21, 5, 62, 132, 4, 1, 167, 255, 201, 29, 172]
abbrev dktX5_cheapest_2 : List UInt8 := dkwX5_cheapest_2 ++ []
def dkwX5_cheapest_1 : List UInt8 := [104, 21, 4, 96, 46, 54, 5, 21, 4, 28, 159, 0, 23, 21, 5, 2, 159, 0, 17, 29, 2, 159, 0, 9]
abbrev dktX5_cheapest_1 : List UInt8 := dkwX5_cheapest_1 ++ dktX5_cheapest_2
def dkwX5_cheapest_0 : List UInt8 := [2, 62, 3, 54, 4, 21, 4, 42, 180, 1, 138, 180, 1, 34, 162, 0, 49, 42, 180, 0, 42, 16, 6, 27]
abbrev dktX5_cheapest_0 : List UInt8 := dkwX5_cheapest_0 ++ dktX5_cheapest_1
theorem dksX5_cheapest_0 : cX5_cheapest.data.toList.drop 0 = dktX5_cheapest_0 := by decide +kernel
theorem dksX5_cheapest_1 : cX5_cheapest.data.toList.drop 24 = dktX5_cheapest_1 := dk_seg dksX5_cheapest_0 24 rfl rfl
theorem dksX5_cheapest_2 : cX5_cheapest.data.toList.drop 48 = dktX5_cheapest_2 := dk_seg dksX5_cheapest_1 24 rfl rfl
theorem dX5_cheapest_0 : decode cX5_cheapest 0 = .ok (.iconst (-1), 1) := dk_2 (dk_at dksX5_cheapest_0 0 rfl rfl)
theorem dX5_cheapest_1 : decode cX5_cheapest 1 = .ok (.istore_n 3, 1) := dk_62 (dk_at dksX5_cheapest_0 1 rfl rfl)
theorem dX5_cheapest_2 : decode cX5_cheapest 2 = .ok (.iconst 0, 1) := dk_3 (dk_at dksX5_cheapest_0 2 rfl rfl)
theorem dX5_cheapest_3 : decode cX5_cheapest 3 = .ok (.istore 4, 2) := dk_54 4 (dk_at dksX5_cheapest_0 3 rfl rfl)
theorem dX5_cheapest_5 : decode cX5_cheapest 5 = .ok (.iload 4, 2) := dk_21 4 (dk_at dksX5_cheapest_0 5 rfl rfl)
theorem dX5_cheapest_7 : decode cX5_cheapest 7 = .ok (.aload_n 0, 1) := dk_42 (dk_at dksX5_cheapest_0 7 rfl rfl)
theorem dX5_cheapest_8 : decode cX5_cheapest 8 = .ok (.getfield 394, 3) := dk_180 1 138 (dk_at dksX5_cheapest_0 8 rfl rfl)
theorem dX5_cheapest_11 : decode cX5_cheapest 11 = .ok (.getfield 290, 3) := dk_180 1 34 (dk_at dksX5_cheapest_0 11 rfl rfl)
theorem dX5_cheapest_14 : decode cX5_cheapest 14 = .ok (.if_icmp .ge 49, 3) := dk_162 0 49 (dk_at dksX5_cheapest_0 14 rfl rfl)
theorem dX5_cheapest_17 : decode cX5_cheapest 17 = .ok (.aload_n 0, 1) := dk_42 (dk_at dksX5_cheapest_0 17 rfl rfl)
theorem dX5_cheapest_18 : decode cX5_cheapest 18 = .ok (.getfield 42, 3) := dk_180 0 42 (dk_at dksX5_cheapest_0 18 rfl rfl)
theorem dX5_cheapest_21 : decode cX5_cheapest 21 = .ok (.bipush 6, 2) := dk_16 6 (dk_at dksX5_cheapest_0 21 rfl rfl)
theorem dX5_cheapest_23 : decode cX5_cheapest 23 = .ok (.iload_n 1, 1) := dk_27 (dk_at dksX5_cheapest_0 23 rfl rfl)
theorem dX5_cheapest_24 : decode cX5_cheapest 24 = .ok (.imul, 1) := dk_104 (dk_at dksX5_cheapest_1 0 rfl rfl)
theorem dX5_cheapest_25 : decode cX5_cheapest 25 = .ok (.iload 4, 2) := dk_21 4 (dk_at dksX5_cheapest_1 1 rfl rfl)
theorem dX5_cheapest_27 : decode cX5_cheapest 27 = .ok (.iadd, 1) := dk_96 (dk_at dksX5_cheapest_1 3 rfl rfl)
theorem dX5_cheapest_28 : decode cX5_cheapest 28 = .ok (.iaload, 1) := dk_46 (dk_at dksX5_cheapest_1 4 rfl rfl)
theorem dX5_cheapest_29 : decode cX5_cheapest 29 = .ok (.istore 5, 2) := dk_54 5 (dk_at dksX5_cheapest_1 5 rfl rfl)
theorem dX5_cheapest_31 : decode cX5_cheapest 31 = .ok (.iload 4, 2) := dk_21 4 (dk_at dksX5_cheapest_1 7 rfl rfl)
theorem dX5_cheapest_33 : decode cX5_cheapest 33 = .ok (.iload_n 2, 1) := dk_28 (dk_at dksX5_cheapest_1 9 rfl rfl)
theorem dX5_cheapest_34 : decode cX5_cheapest 34 = .ok (.if_icmp .eq 23, 3) := dk_159 0 23 (dk_at dksX5_cheapest_1 10 rfl rfl)
theorem dX5_cheapest_37 : decode cX5_cheapest 37 = .ok (.iload 5, 2) := dk_21 5 (dk_at dksX5_cheapest_1 13 rfl rfl)
theorem dX5_cheapest_39 : decode cX5_cheapest 39 = .ok (.iconst (-1), 1) := dk_2 (dk_at dksX5_cheapest_1 15 rfl rfl)
theorem dX5_cheapest_40 : decode cX5_cheapest 40 = .ok (.if_icmp .eq 17, 3) := dk_159 0 17 (dk_at dksX5_cheapest_1 16 rfl rfl)
theorem dX5_cheapest_43 : decode cX5_cheapest 43 = .ok (.iload_n 3, 1) := dk_29 (dk_at dksX5_cheapest_1 19 rfl rfl)
theorem dX5_cheapest_44 : decode cX5_cheapest 44 = .ok (.iconst (-1), 1) := dk_2 (dk_at dksX5_cheapest_1 20 rfl rfl)
theorem dX5_cheapest_45 : decode cX5_cheapest 45 = .ok (.if_icmp .eq 9, 3) := dk_159 0 9 (dk_at dksX5_cheapest_1 21 rfl rfl)
theorem dX5_cheapest_48 : decode cX5_cheapest 48 = .ok (.iload 5, 2) := dk_21 5 (dk_at dksX5_cheapest_2 0 rfl rfl)
theorem dX5_cheapest_50 : decode cX5_cheapest 50 = .ok (.iload_n 3, 1) := dk_29 (dk_at dksX5_cheapest_2 2 rfl rfl)
theorem dX5_cheapest_51 : decode cX5_cheapest 51 = .ok (.if_icmp .ge 6, 3) := dk_162 0 6 (dk_at dksX5_cheapest_2 3 rfl rfl)
theorem dX5_cheapest_54 : decode cX5_cheapest 54 = .ok (.iload 5, 2) := dk_21 5 (dk_at dksX5_cheapest_2 6 rfl rfl)
theorem dX5_cheapest_56 : decode cX5_cheapest 56 = .ok (.istore_n 3, 1) := dk_62 (dk_at dksX5_cheapest_2 8 rfl rfl)
theorem dX5_cheapest_57 : decode cX5_cheapest 57 = .ok (.iinc 4 1, 3) := dk_132 4 1 (dk_at dksX5_cheapest_2 9 rfl rfl)
theorem dX5_cheapest_60 : decode cX5_cheapest 60 = .ok (.goto (-55), 3) := dk_167 255 201 (dk_at dksX5_cheapest_2 12 rfl rfl)
theorem dX5_cheapest_63 : decode cX5_cheapest 63 = .ok (.iload_n 3, 1) := dk_29 (dk_at dksX5_cheapest_2 15 rfl rfl)
theorem dX5_cheapest_64 : decode cX5_cheapest 64 = .ok (.ireturn, 1) := dk_172 (dk_at dksX5_cheapest_2 16 rfl rfl)
abbrev cX5_menuAt : ByteArray := prog_15_method_75_code
def yX5_menuAt : MethodName := ⟨RX5, "menuAt", "(I)I"⟩
def dkwX5_menuAt_1 : List UInt8 := [167, 0, 4, 2, 172]
abbrev dktX5_menuAt_1 : List UInt8 := dkwX5_menuAt_1 ++ []
def dkwX5_menuAt_0 : List UInt8 := [42, 3, 181, 0, 75, 27, 155, 0, 20, 27, 42, 180, 1, 147, 162, 0, 12, 42, 180, 0, 45, 27, 46]
abbrev dktX5_menuAt_0 : List UInt8 := dkwX5_menuAt_0 ++ dktX5_menuAt_1
theorem dksX5_menuAt_0 : cX5_menuAt.data.toList.drop 0 = dktX5_menuAt_0 := by decide +kernel
theorem dksX5_menuAt_1 : cX5_menuAt.data.toList.drop 23 = dktX5_menuAt_1 := dk_seg dksX5_menuAt_0 23 rfl rfl
theorem dX5_menuAt_0 : decode cX5_menuAt 0 = .ok (.aload_n 0, 1) := dk_42 (dk_at dksX5_menuAt_0 0 rfl rfl)
theorem dX5_menuAt_1 : decode cX5_menuAt 1 = .ok (.iconst 0, 1) := dk_3 (dk_at dksX5_menuAt_0 1 rfl rfl)
theorem dX5_menuAt_2 : decode cX5_menuAt 2 = .ok (.putfield 75, 3) := dk_181 0 75 (dk_at dksX5_menuAt_0 2 rfl rfl)
theorem dX5_menuAt_5 : decode cX5_menuAt 5 = .ok (.iload_n 1, 1) := dk_27 (dk_at dksX5_menuAt_0 5 rfl rfl)
theorem dX5_menuAt_6 : decode cX5_menuAt 6 = .ok (.ifCond .lt 20, 3) := dk_155 0 20 (dk_at dksX5_menuAt_0 6 rfl rfl)
theorem dX5_menuAt_9 : decode cX5_menuAt 9 = .ok (.iload_n 1, 1) := dk_27 (dk_at dksX5_menuAt_0 9 rfl rfl)
theorem dX5_menuAt_10 : decode cX5_menuAt 10 = .ok (.aload_n 0, 1) := dk_42 (dk_at dksX5_menuAt_0 10 rfl rfl)
theorem dX5_menuAt_11 : decode cX5_menuAt 11 = .ok (.getfield 403, 3) := dk_180 1 147 (dk_at dksX5_menuAt_0 11 rfl rfl)
theorem dX5_menuAt_14 : decode cX5_menuAt 14 = .ok (.if_icmp .ge 12, 3) := dk_162 0 12 (dk_at dksX5_menuAt_0 14 rfl rfl)
theorem dX5_menuAt_17 : decode cX5_menuAt 17 = .ok (.aload_n 0, 1) := dk_42 (dk_at dksX5_menuAt_0 17 rfl rfl)
theorem dX5_menuAt_18 : decode cX5_menuAt 18 = .ok (.getfield 45, 3) := dk_180 0 45 (dk_at dksX5_menuAt_0 18 rfl rfl)
theorem dX5_menuAt_21 : decode cX5_menuAt 21 = .ok (.iload_n 1, 1) := dk_27 (dk_at dksX5_menuAt_0 21 rfl rfl)
theorem dX5_menuAt_22 : decode cX5_menuAt 22 = .ok (.iaload, 1) := dk_46 (dk_at dksX5_menuAt_0 22 rfl rfl)
theorem dX5_menuAt_23 : decode cX5_menuAt 23 = .ok (.goto 4, 3) := dk_167 0 4 (dk_at dksX5_menuAt_1 0 rfl rfl)
theorem dX5_menuAt_26 : decode cX5_menuAt 26 = .ok (.iconst (-1), 1) := dk_2 (dk_at dksX5_menuAt_1 3 rfl rfl)
theorem dX5_menuAt_27 : decode cX5_menuAt 27 = .ok (.ireturn, 1) := dk_172 (dk_at dksX5_menuAt_1 4 rfl rfl)
abbrev cX5_dropped : ByteArray := prog_15_method_76_code
def yX5_dropped : MethodName := ⟨RX5, "dropped", "(II)I"⟩
def dkwX5_dropped_9 : List UInt8 := [182, 1, 160, 172]
abbrev dktX5_dropped_9 : List UInt8 := dkwX5_dropped_9 ++ []
def dkwX5_dropped_8 : List UInt8 := [42, 180, 1, 138, 180, 1, 76, 21, 5, 46, 28, 182, 1, 240, 100, 62, 167, 255, 157, 42, 21, 4]
abbrev dktX5_dropped_8 : List UInt8 := dkwX5_dropped_8 ++ dktX5_dropped_9
def dkwX5_dropped_7 : List UInt8 := [163, 0, 7, 21, 6, 54, 5, 132, 6, 1, 167, 255, 198, 21, 4, 4, 21, 5, 120, 128, 54, 4, 29, 42]
abbrev dktX5_dropped_7 : List UInt8 := dkwX5_dropped_7 ++ dktX5_dropped_8
def dkwX5_dropped_6 : List UInt8 := [2, 159, 0, 26, 42, 180, 1, 138, 180, 1, 84, 21, 6, 46, 42, 180, 1, 138, 180, 1, 84, 21, 5, 46]
abbrev dktX5_dropped_6 : List UInt8 := dkwX5_dropped_6 ++ dktX5_dropped_7
def dkwX5_dropped_5 : List UInt8 := [21, 6, 42, 180, 1, 138, 180, 0, 223, 162, 0, 52, 21, 4, 21, 6, 184, 1, 184, 154, 0, 36, 21, 5]
abbrev dktX5_dropped_5 : List UInt8 := dkwX5_dropped_5 ++ dktX5_dropped_6
def dkwX5_dropped_4 : List UInt8 := [21, 5, 96, 62, 132, 4, 1, 167, 255, 206, 3, 54, 4, 29, 27, 164, 0, 100, 2, 54, 5, 3, 54, 6]
abbrev dktX5_dropped_4 : List UInt8 := dkwX5_dropped_4 ++ dktX5_dropped_5
def dkwX5_dropped_3 : List UInt8 := [21, 4, 46, 28, 182, 1, 240, 54, 5, 21, 5, 2, 160, 0, 10, 42, 16, 6, 182, 0, 81, 172, 29]
abbrev dktX5_dropped_3 : List UInt8 := dkwX5_dropped_3 ++ dktX5_dropped_4
def dkwX5_dropped_2 : List UInt8 := [62, 3, 54, 4, 21, 4, 42, 180, 1, 138, 180, 0, 223, 162, 0, 44, 42, 42, 180, 1, 138, 180, 1, 76]
abbrev dktX5_dropped_2 : List UInt8 := dkwX5_dropped_2 ++ dktX5_dropped_3
def dkwX5_dropped_1 : List UInt8 := [184, 0, 153, 153, 0, 14, 27, 3, 19, 1, 243, 184, 0, 153, 154, 0, 9, 42, 5, 182, 0, 81, 172, 3]
abbrev dktX5_dropped_1 : List UInt8 := dkwX5_dropped_1 ++ dktX5_dropped_2
def dkwX5_dropped_0 : List UInt8 := [42, 3, 181, 0, 75, 42, 180, 1, 138, 199, 0, 9, 42, 4, 182, 0, 81, 172, 28, 4, 16, 14]
abbrev dktX5_dropped_0 : List UInt8 := dkwX5_dropped_0 ++ dktX5_dropped_1
theorem dksX5_dropped_0 : cX5_dropped.data.toList.drop 0 = dktX5_dropped_0 := by decide +kernel
theorem dksX5_dropped_1 : cX5_dropped.data.toList.drop 22 = dktX5_dropped_1 := dk_seg dksX5_dropped_0 22 rfl rfl
theorem dksX5_dropped_2 : cX5_dropped.data.toList.drop 46 = dktX5_dropped_2 := dk_seg dksX5_dropped_1 24 rfl rfl
theorem dksX5_dropped_3 : cX5_dropped.data.toList.drop 70 = dktX5_dropped_3 := dk_seg dksX5_dropped_2 24 rfl rfl
theorem dksX5_dropped_4 : cX5_dropped.data.toList.drop 93 = dktX5_dropped_4 := dk_seg dksX5_dropped_3 23 rfl rfl
theorem dksX5_dropped_5 : cX5_dropped.data.toList.drop 117 = dktX5_dropped_5 := dk_seg dksX5_dropped_4 24 rfl rfl
theorem dksX5_dropped_6 : cX5_dropped.data.toList.drop 141 = dktX5_dropped_6 := dk_seg dksX5_dropped_5 24 rfl rfl
theorem dksX5_dropped_7 : cX5_dropped.data.toList.drop 165 = dktX5_dropped_7 := dk_seg dksX5_dropped_6 24 rfl rfl
theorem dksX5_dropped_8 : cX5_dropped.data.toList.drop 189 = dktX5_dropped_8 := dk_seg dksX5_dropped_7 24 rfl rfl
theorem dksX5_dropped_9 : cX5_dropped.data.toList.drop 211 = dktX5_dropped_9 := dk_seg dksX5_dropped_8 22 rfl rfl
theorem dX5_dropped_0 : decode cX5_dropped 0 = .ok (.aload_n 0, 1) := dk_42 (dk_at dksX5_dropped_0 0 rfl rfl)
theorem dX5_dropped_1 : decode cX5_dropped 1 = .ok (.iconst 0, 1) := dk_3 (dk_at dksX5_dropped_0 1 rfl rfl)
theorem dX5_dropped_2 : decode cX5_dropped 2 = .ok (.putfield 75, 3) := dk_181 0 75 (dk_at dksX5_dropped_0 2 rfl rfl)
theorem dX5_dropped_5 : decode cX5_dropped 5 = .ok (.aload_n 0, 1) := dk_42 (dk_at dksX5_dropped_0 5 rfl rfl)
theorem dX5_dropped_6 : decode cX5_dropped 6 = .ok (.getfield 394, 3) := dk_180 1 138 (dk_at dksX5_dropped_0 6 rfl rfl)
theorem dX5_dropped_9 : decode cX5_dropped 9 = .ok (.ifnonnull 9, 3) := dk_199 0 9 (dk_at dksX5_dropped_0 9 rfl rfl)
theorem dX5_dropped_12 : decode cX5_dropped 12 = .ok (.aload_n 0, 1) := dk_42 (dk_at dksX5_dropped_0 12 rfl rfl)
theorem dX5_dropped_13 : decode cX5_dropped 13 = .ok (.iconst 1, 1) := dk_4 (dk_at dksX5_dropped_0 13 rfl rfl)
theorem dX5_dropped_14 : decode cX5_dropped 14 = .ok (.invokevirtual 81, 3) := dk_182 0 81 (dk_at dksX5_dropped_0 14 rfl rfl)
theorem dX5_dropped_17 : decode cX5_dropped 17 = .ok (.ireturn, 1) := dk_172 (dk_at dksX5_dropped_0 17 rfl rfl)
theorem dX5_dropped_18 : decode cX5_dropped 18 = .ok (.iload_n 2, 1) := dk_28 (dk_at dksX5_dropped_0 18 rfl rfl)
theorem dX5_dropped_19 : decode cX5_dropped 19 = .ok (.iconst 1, 1) := dk_4 (dk_at dksX5_dropped_0 19 rfl rfl)
theorem dX5_dropped_20 : decode cX5_dropped 20 = .ok (.bipush 14, 2) := dk_16 14 (dk_at dksX5_dropped_0 20 rfl rfl)
theorem dX5_dropped_22 : decode cX5_dropped 22 = .ok (.invokestatic 153, 3) := dk_184 0 153 (dk_at dksX5_dropped_1 0 rfl rfl)
theorem dX5_dropped_25 : decode cX5_dropped 25 = .ok (.ifCond .eq 14, 3) := dk_153 0 14 (dk_at dksX5_dropped_1 3 rfl rfl)
theorem dX5_dropped_28 : decode cX5_dropped 28 = .ok (.iload_n 1, 1) := dk_27 (dk_at dksX5_dropped_1 6 rfl rfl)
theorem dX5_dropped_29 : decode cX5_dropped 29 = .ok (.iconst 0, 1) := dk_3 (dk_at dksX5_dropped_1 7 rfl rfl)
theorem dX5_dropped_30 : decode cX5_dropped 30 = .ok (.ldc_w 499, 3) := dk_19 1 243 (dk_at dksX5_dropped_1 8 rfl rfl)
theorem dX5_dropped_33 : decode cX5_dropped 33 = .ok (.invokestatic 153, 3) := dk_184 0 153 (dk_at dksX5_dropped_1 11 rfl rfl)
theorem dX5_dropped_36 : decode cX5_dropped 36 = .ok (.ifCond .ne 9, 3) := dk_154 0 9 (dk_at dksX5_dropped_1 14 rfl rfl)
theorem dX5_dropped_39 : decode cX5_dropped 39 = .ok (.aload_n 0, 1) := dk_42 (dk_at dksX5_dropped_1 17 rfl rfl)
theorem dX5_dropped_40 : decode cX5_dropped 40 = .ok (.iconst 2, 1) := dk_5 (dk_at dksX5_dropped_1 18 rfl rfl)
theorem dX5_dropped_41 : decode cX5_dropped 41 = .ok (.invokevirtual 81, 3) := dk_182 0 81 (dk_at dksX5_dropped_1 19 rfl rfl)
theorem dX5_dropped_44 : decode cX5_dropped 44 = .ok (.ireturn, 1) := dk_172 (dk_at dksX5_dropped_1 22 rfl rfl)
theorem dX5_dropped_45 : decode cX5_dropped 45 = .ok (.iconst 0, 1) := dk_3 (dk_at dksX5_dropped_1 23 rfl rfl)
theorem dX5_dropped_46 : decode cX5_dropped 46 = .ok (.istore_n 3, 1) := dk_62 (dk_at dksX5_dropped_2 0 rfl rfl)
theorem dX5_dropped_47 : decode cX5_dropped 47 = .ok (.iconst 0, 1) := dk_3 (dk_at dksX5_dropped_2 1 rfl rfl)
theorem dX5_dropped_48 : decode cX5_dropped 48 = .ok (.istore 4, 2) := dk_54 4 (dk_at dksX5_dropped_2 2 rfl rfl)
theorem dX5_dropped_50 : decode cX5_dropped 50 = .ok (.iload 4, 2) := dk_21 4 (dk_at dksX5_dropped_2 4 rfl rfl)
theorem dX5_dropped_52 : decode cX5_dropped 52 = .ok (.aload_n 0, 1) := dk_42 (dk_at dksX5_dropped_2 6 rfl rfl)
theorem dX5_dropped_53 : decode cX5_dropped 53 = .ok (.getfield 394, 3) := dk_180 1 138 (dk_at dksX5_dropped_2 7 rfl rfl)
theorem dX5_dropped_56 : decode cX5_dropped 56 = .ok (.getfield 223, 3) := dk_180 0 223 (dk_at dksX5_dropped_2 10 rfl rfl)
theorem dX5_dropped_59 : decode cX5_dropped 59 = .ok (.if_icmp .ge 44, 3) := dk_162 0 44 (dk_at dksX5_dropped_2 13 rfl rfl)
theorem dX5_dropped_62 : decode cX5_dropped 62 = .ok (.aload_n 0, 1) := dk_42 (dk_at dksX5_dropped_2 16 rfl rfl)
theorem dX5_dropped_63 : decode cX5_dropped 63 = .ok (.aload_n 0, 1) := dk_42 (dk_at dksX5_dropped_2 17 rfl rfl)
theorem dX5_dropped_64 : decode cX5_dropped 64 = .ok (.getfield 394, 3) := dk_180 1 138 (dk_at dksX5_dropped_2 18 rfl rfl)
theorem dX5_dropped_67 : decode cX5_dropped 67 = .ok (.getfield 332, 3) := dk_180 1 76 (dk_at dksX5_dropped_2 21 rfl rfl)
theorem dX5_dropped_70 : decode cX5_dropped 70 = .ok (.iload 4, 2) := dk_21 4 (dk_at dksX5_dropped_3 0 rfl rfl)
theorem dX5_dropped_72 : decode cX5_dropped 72 = .ok (.iaload, 1) := dk_46 (dk_at dksX5_dropped_3 2 rfl rfl)
theorem dX5_dropped_73 : decode cX5_dropped 73 = .ok (.iload_n 2, 1) := dk_28 (dk_at dksX5_dropped_3 3 rfl rfl)
theorem dX5_dropped_74 : decode cX5_dropped 74 = .ok (.invokevirtual 496, 3) := dk_182 1 240 (dk_at dksX5_dropped_3 4 rfl rfl)
theorem dX5_dropped_77 : decode cX5_dropped 77 = .ok (.istore 5, 2) := dk_54 5 (dk_at dksX5_dropped_3 7 rfl rfl)
theorem dX5_dropped_79 : decode cX5_dropped 79 = .ok (.iload 5, 2) := dk_21 5 (dk_at dksX5_dropped_3 9 rfl rfl)
theorem dX5_dropped_81 : decode cX5_dropped 81 = .ok (.iconst (-1), 1) := dk_2 (dk_at dksX5_dropped_3 11 rfl rfl)
theorem dX5_dropped_82 : decode cX5_dropped 82 = .ok (.if_icmp .ne 10, 3) := dk_160 0 10 (dk_at dksX5_dropped_3 12 rfl rfl)
theorem dX5_dropped_85 : decode cX5_dropped 85 = .ok (.aload_n 0, 1) := dk_42 (dk_at dksX5_dropped_3 15 rfl rfl)
theorem dX5_dropped_86 : decode cX5_dropped 86 = .ok (.bipush 6, 2) := dk_16 6 (dk_at dksX5_dropped_3 16 rfl rfl)
theorem dX5_dropped_88 : decode cX5_dropped 88 = .ok (.invokevirtual 81, 3) := dk_182 0 81 (dk_at dksX5_dropped_3 18 rfl rfl)
theorem dX5_dropped_91 : decode cX5_dropped 91 = .ok (.ireturn, 1) := dk_172 (dk_at dksX5_dropped_3 21 rfl rfl)
theorem dX5_dropped_92 : decode cX5_dropped 92 = .ok (.iload_n 3, 1) := dk_29 (dk_at dksX5_dropped_3 22 rfl rfl)
theorem dX5_dropped_93 : decode cX5_dropped 93 = .ok (.iload 5, 2) := dk_21 5 (dk_at dksX5_dropped_4 0 rfl rfl)
theorem dX5_dropped_95 : decode cX5_dropped 95 = .ok (.iadd, 1) := dk_96 (dk_at dksX5_dropped_4 2 rfl rfl)
theorem dX5_dropped_96 : decode cX5_dropped 96 = .ok (.istore_n 3, 1) := dk_62 (dk_at dksX5_dropped_4 3 rfl rfl)
theorem dX5_dropped_97 : decode cX5_dropped 97 = .ok (.iinc 4 1, 3) := dk_132 4 1 (dk_at dksX5_dropped_4 4 rfl rfl)
theorem dX5_dropped_100 : decode cX5_dropped 100 = .ok (.goto (-50), 3) := dk_167 255 206 (dk_at dksX5_dropped_4 7 rfl rfl)
theorem dX5_dropped_103 : decode cX5_dropped 103 = .ok (.iconst 0, 1) := dk_3 (dk_at dksX5_dropped_4 10 rfl rfl)
theorem dX5_dropped_104 : decode cX5_dropped 104 = .ok (.istore 4, 2) := dk_54 4 (dk_at dksX5_dropped_4 11 rfl rfl)
theorem dX5_dropped_106 : decode cX5_dropped 106 = .ok (.iload_n 3, 1) := dk_29 (dk_at dksX5_dropped_4 13 rfl rfl)
theorem dX5_dropped_107 : decode cX5_dropped 107 = .ok (.iload_n 1, 1) := dk_27 (dk_at dksX5_dropped_4 14 rfl rfl)
theorem dX5_dropped_108 : decode cX5_dropped 108 = .ok (.if_icmp .le 100, 3) := dk_164 0 100 (dk_at dksX5_dropped_4 15 rfl rfl)
theorem dX5_dropped_111 : decode cX5_dropped 111 = .ok (.iconst (-1), 1) := dk_2 (dk_at dksX5_dropped_4 18 rfl rfl)
theorem dX5_dropped_112 : decode cX5_dropped 112 = .ok (.istore 5, 2) := dk_54 5 (dk_at dksX5_dropped_4 19 rfl rfl)
theorem dX5_dropped_114 : decode cX5_dropped 114 = .ok (.iconst 0, 1) := dk_3 (dk_at dksX5_dropped_4 21 rfl rfl)
theorem dX5_dropped_115 : decode cX5_dropped 115 = .ok (.istore 6, 2) := dk_54 6 (dk_at dksX5_dropped_4 22 rfl rfl)
theorem dX5_dropped_117 : decode cX5_dropped 117 = .ok (.iload 6, 2) := dk_21 6 (dk_at dksX5_dropped_5 0 rfl rfl)
theorem dX5_dropped_119 : decode cX5_dropped 119 = .ok (.aload_n 0, 1) := dk_42 (dk_at dksX5_dropped_5 2 rfl rfl)
theorem dX5_dropped_120 : decode cX5_dropped 120 = .ok (.getfield 394, 3) := dk_180 1 138 (dk_at dksX5_dropped_5 3 rfl rfl)
theorem dX5_dropped_123 : decode cX5_dropped 123 = .ok (.getfield 223, 3) := dk_180 0 223 (dk_at dksX5_dropped_5 6 rfl rfl)
theorem dX5_dropped_126 : decode cX5_dropped 126 = .ok (.if_icmp .ge 52, 3) := dk_162 0 52 (dk_at dksX5_dropped_5 9 rfl rfl)
theorem dX5_dropped_129 : decode cX5_dropped 129 = .ok (.iload 4, 2) := dk_21 4 (dk_at dksX5_dropped_5 12 rfl rfl)
theorem dX5_dropped_131 : decode cX5_dropped 131 = .ok (.iload 6, 2) := dk_21 6 (dk_at dksX5_dropped_5 14 rfl rfl)
theorem dX5_dropped_133 : decode cX5_dropped 133 = .ok (.invokestatic 440, 3) := dk_184 1 184 (dk_at dksX5_dropped_5 16 rfl rfl)
theorem dX5_dropped_136 : decode cX5_dropped 136 = .ok (.ifCond .ne 36, 3) := dk_154 0 36 (dk_at dksX5_dropped_5 19 rfl rfl)
theorem dX5_dropped_139 : decode cX5_dropped 139 = .ok (.iload 5, 2) := dk_21 5 (dk_at dksX5_dropped_5 22 rfl rfl)
theorem dX5_dropped_141 : decode cX5_dropped 141 = .ok (.iconst (-1), 1) := dk_2 (dk_at dksX5_dropped_6 0 rfl rfl)
theorem dX5_dropped_142 : decode cX5_dropped 142 = .ok (.if_icmp .eq 26, 3) := dk_159 0 26 (dk_at dksX5_dropped_6 1 rfl rfl)
theorem dX5_dropped_145 : decode cX5_dropped 145 = .ok (.aload_n 0, 1) := dk_42 (dk_at dksX5_dropped_6 4 rfl rfl)
theorem dX5_dropped_146 : decode cX5_dropped 146 = .ok (.getfield 394, 3) := dk_180 1 138 (dk_at dksX5_dropped_6 5 rfl rfl)
theorem dX5_dropped_149 : decode cX5_dropped 149 = .ok (.getfield 340, 3) := dk_180 1 84 (dk_at dksX5_dropped_6 8 rfl rfl)
theorem dX5_dropped_152 : decode cX5_dropped 152 = .ok (.iload 6, 2) := dk_21 6 (dk_at dksX5_dropped_6 11 rfl rfl)
theorem dX5_dropped_154 : decode cX5_dropped 154 = .ok (.iaload, 1) := dk_46 (dk_at dksX5_dropped_6 13 rfl rfl)
theorem dX5_dropped_155 : decode cX5_dropped 155 = .ok (.aload_n 0, 1) := dk_42 (dk_at dksX5_dropped_6 14 rfl rfl)
theorem dX5_dropped_156 : decode cX5_dropped 156 = .ok (.getfield 394, 3) := dk_180 1 138 (dk_at dksX5_dropped_6 15 rfl rfl)
theorem dX5_dropped_159 : decode cX5_dropped 159 = .ok (.getfield 340, 3) := dk_180 1 84 (dk_at dksX5_dropped_6 18 rfl rfl)
theorem dX5_dropped_162 : decode cX5_dropped 162 = .ok (.iload 5, 2) := dk_21 5 (dk_at dksX5_dropped_6 21 rfl rfl)
theorem dX5_dropped_164 : decode cX5_dropped 164 = .ok (.iaload, 1) := dk_46 (dk_at dksX5_dropped_6 23 rfl rfl)
theorem dX5_dropped_165 : decode cX5_dropped 165 = .ok (.if_icmp .gt 7, 3) := dk_163 0 7 (dk_at dksX5_dropped_7 0 rfl rfl)
theorem dX5_dropped_168 : decode cX5_dropped 168 = .ok (.iload 6, 2) := dk_21 6 (dk_at dksX5_dropped_7 3 rfl rfl)
theorem dX5_dropped_170 : decode cX5_dropped 170 = .ok (.istore 5, 2) := dk_54 5 (dk_at dksX5_dropped_7 5 rfl rfl)
theorem dX5_dropped_172 : decode cX5_dropped 172 = .ok (.iinc 6 1, 3) := dk_132 6 1 (dk_at dksX5_dropped_7 7 rfl rfl)
theorem dX5_dropped_175 : decode cX5_dropped 175 = .ok (.goto (-58), 3) := dk_167 255 198 (dk_at dksX5_dropped_7 10 rfl rfl)
theorem dX5_dropped_178 : decode cX5_dropped 178 = .ok (.iload 4, 2) := dk_21 4 (dk_at dksX5_dropped_7 13 rfl rfl)
theorem dX5_dropped_180 : decode cX5_dropped 180 = .ok (.iconst 1, 1) := dk_4 (dk_at dksX5_dropped_7 15 rfl rfl)
theorem dX5_dropped_181 : decode cX5_dropped 181 = .ok (.iload 5, 2) := dk_21 5 (dk_at dksX5_dropped_7 16 rfl rfl)
theorem dX5_dropped_183 : decode cX5_dropped 183 = .ok (.ishl, 1) := dk_120 (dk_at dksX5_dropped_7 18 rfl rfl)
theorem dX5_dropped_184 : decode cX5_dropped 184 = .ok (.ior, 1) := dk_128 (dk_at dksX5_dropped_7 19 rfl rfl)
theorem dX5_dropped_185 : decode cX5_dropped 185 = .ok (.istore 4, 2) := dk_54 4 (dk_at dksX5_dropped_7 20 rfl rfl)
theorem dX5_dropped_187 : decode cX5_dropped 187 = .ok (.iload_n 3, 1) := dk_29 (dk_at dksX5_dropped_7 22 rfl rfl)
theorem dX5_dropped_188 : decode cX5_dropped 188 = .ok (.aload_n 0, 1) := dk_42 (dk_at dksX5_dropped_7 23 rfl rfl)
theorem dX5_dropped_189 : decode cX5_dropped 189 = .ok (.aload_n 0, 1) := dk_42 (dk_at dksX5_dropped_8 0 rfl rfl)
theorem dX5_dropped_190 : decode cX5_dropped 190 = .ok (.getfield 394, 3) := dk_180 1 138 (dk_at dksX5_dropped_8 1 rfl rfl)
theorem dX5_dropped_193 : decode cX5_dropped 193 = .ok (.getfield 332, 3) := dk_180 1 76 (dk_at dksX5_dropped_8 4 rfl rfl)
theorem dX5_dropped_196 : decode cX5_dropped 196 = .ok (.iload 5, 2) := dk_21 5 (dk_at dksX5_dropped_8 7 rfl rfl)
theorem dX5_dropped_198 : decode cX5_dropped 198 = .ok (.iaload, 1) := dk_46 (dk_at dksX5_dropped_8 9 rfl rfl)
theorem dX5_dropped_199 : decode cX5_dropped 199 = .ok (.iload_n 2, 1) := dk_28 (dk_at dksX5_dropped_8 10 rfl rfl)
theorem dX5_dropped_200 : decode cX5_dropped 200 = .ok (.invokevirtual 496, 3) := dk_182 1 240 (dk_at dksX5_dropped_8 11 rfl rfl)
theorem dX5_dropped_203 : decode cX5_dropped 203 = .ok (.isub, 1) := dk_100 (dk_at dksX5_dropped_8 14 rfl rfl)
theorem dX5_dropped_204 : decode cX5_dropped 204 = .ok (.istore_n 3, 1) := dk_62 (dk_at dksX5_dropped_8 15 rfl rfl)
theorem dX5_dropped_205 : decode cX5_dropped 205 = .ok (.goto (-99), 3) := dk_167 255 157 (dk_at dksX5_dropped_8 16 rfl rfl)
theorem dX5_dropped_208 : decode cX5_dropped 208 = .ok (.aload_n 0, 1) := dk_42 (dk_at dksX5_dropped_8 19 rfl rfl)
theorem dX5_dropped_209 : decode cX5_dropped 209 = .ok (.iload 4, 2) := dk_21 4 (dk_at dksX5_dropped_8 20 rfl rfl)
theorem dX5_dropped_211 : decode cX5_dropped 211 = .ok (.invokevirtual 416, 3) := dk_182 1 160 (dk_at dksX5_dropped_9 0 rfl rfl)
theorem dX5_dropped_214 : decode cX5_dropped 214 = .ok (.ireturn, 1) := dk_172 (dk_at dksX5_dropped_9 3 rfl rfl)
abbrev cX5_knock : ByteArray := prog_15_method_78_code
def yX5_knock : MethodName := ⟨RX5, "knock", "()J"⟩
def dkwX5_knock_8 : List UInt8 := [181, 1, 150, 42, 3, 182, 1, 160, 87, 31, 173]
abbrev dktX5_knock_8 : List UInt8 := dkwX5_knock_8 ++ []
def dkwX5_knock_7 : List UInt8 := [46, 79, 132, 6, 1, 167, 255, 227, 132, 3, 1, 167, 255, 124, 42, 42, 180, 1, 138, 180, 1, 109]
abbrev dktX5_knock_7 : List UInt8 := dkwX5_knock_7 ++ dktX5_knock_8
def dkwX5_knock_6 : List UInt8 := [21, 6, 42, 180, 1, 138, 180, 1, 109, 162, 0, 23, 42, 180, 0, 51, 21, 6, 42, 180, 0, 48, 21, 6]
abbrev dktX5_knock_6 : List UInt8 := dkwX5_knock_6 ++ dktX5_knock_7
def dkwX5_knock_5 : List UInt8 := [55, 4, 31, 9, 148, 155, 0, 13, 22, 4, 31, 148, 155, 0, 6, 167, 0, 41, 22, 4, 64, 3, 54, 6]
abbrev dktX5_knock_5 : List UInt8 := dkwX5_knock_5 ++ dktX5_knock_6
def dkwX5_knock_4 : List UInt8 := [21, 4, 42, 180, 0, 24, 21, 4, 46, 79, 132, 4, 1, 167, 255, 227, 42, 42, 180, 0, 48, 182, 1, 248]
abbrev dktX5_knock_4 : List UInt8 := dkwX5_knock_4 ++ dktX5_knock_5
def dkwX5_knock_3 : List UInt8 := [29, 182, 1, 213, 3, 54, 4, 21, 4, 42, 180, 1, 138, 180, 1, 109, 162, 0, 23, 42, 180, 0, 48]
abbrev dktX5_knock_3 : List UInt8 := dkwX5_knock_3 ++ dktX5_knock_4
def dkwX5_knock_2 : List UInt8 := [180, 1, 138, 180, 1, 109, 184, 1, 204, 162, 0, 124, 42, 4, 42, 180, 1, 138, 180, 1, 109, 120, 4, 100]
abbrev dktX5_knock_2 : List UInt8 := dkwX5_knock_2 ++ dktX5_knock_3
def dkwX5_knock_1 : List UInt8 := [180, 1, 109, 154, 0, 11, 42, 16, 6, 182, 0, 81, 133, 173, 20, 1, 246, 64, 3, 62, 29, 42]
abbrev dktX5_knock_1 : List UInt8 := dkwX5_knock_1 ++ dktX5_knock_2
def dkwX5_knock_0 : List UInt8 := [42, 3, 181, 0, 75, 42, 180, 1, 138, 199, 0, 10, 42, 4, 182, 0, 81, 133, 173, 42, 180, 1, 138]
abbrev dktX5_knock_0 : List UInt8 := dkwX5_knock_0 ++ dktX5_knock_1
theorem dksX5_knock_0 : cX5_knock.data.toList.drop 0 = dktX5_knock_0 := by decide +kernel
theorem dksX5_knock_1 : cX5_knock.data.toList.drop 23 = dktX5_knock_1 := dk_seg dksX5_knock_0 23 rfl rfl
theorem dksX5_knock_2 : cX5_knock.data.toList.drop 45 = dktX5_knock_2 := dk_seg dksX5_knock_1 22 rfl rfl
theorem dksX5_knock_3 : cX5_knock.data.toList.drop 69 = dktX5_knock_3 := dk_seg dksX5_knock_2 24 rfl rfl
theorem dksX5_knock_4 : cX5_knock.data.toList.drop 92 = dktX5_knock_4 := dk_seg dksX5_knock_3 23 rfl rfl
theorem dksX5_knock_5 : cX5_knock.data.toList.drop 116 = dktX5_knock_5 := dk_seg dksX5_knock_4 24 rfl rfl
theorem dksX5_knock_6 : cX5_knock.data.toList.drop 140 = dktX5_knock_6 := dk_seg dksX5_knock_5 24 rfl rfl
theorem dksX5_knock_7 : cX5_knock.data.toList.drop 164 = dktX5_knock_7 := dk_seg dksX5_knock_6 24 rfl rfl
theorem dksX5_knock_8 : cX5_knock.data.toList.drop 186 = dktX5_knock_8 := dk_seg dksX5_knock_7 22 rfl rfl
theorem dX5_knock_0 : decode cX5_knock 0 = .ok (.aload_n 0, 1) := dk_42 (dk_at dksX5_knock_0 0 rfl rfl)
theorem dX5_knock_1 : decode cX5_knock 1 = .ok (.iconst 0, 1) := dk_3 (dk_at dksX5_knock_0 1 rfl rfl)
theorem dX5_knock_2 : decode cX5_knock 2 = .ok (.putfield 75, 3) := dk_181 0 75 (dk_at dksX5_knock_0 2 rfl rfl)
theorem dX5_knock_5 : decode cX5_knock 5 = .ok (.aload_n 0, 1) := dk_42 (dk_at dksX5_knock_0 5 rfl rfl)
theorem dX5_knock_6 : decode cX5_knock 6 = .ok (.getfield 394, 3) := dk_180 1 138 (dk_at dksX5_knock_0 6 rfl rfl)
theorem dX5_knock_9 : decode cX5_knock 9 = .ok (.ifnonnull 10, 3) := dk_199 0 10 (dk_at dksX5_knock_0 9 rfl rfl)
theorem dX5_knock_12 : decode cX5_knock 12 = .ok (.aload_n 0, 1) := dk_42 (dk_at dksX5_knock_0 12 rfl rfl)
theorem dX5_knock_13 : decode cX5_knock 13 = .ok (.iconst 1, 1) := dk_4 (dk_at dksX5_knock_0 13 rfl rfl)
theorem dX5_knock_14 : decode cX5_knock 14 = .ok (.invokevirtual 81, 3) := dk_182 0 81 (dk_at dksX5_knock_0 14 rfl rfl)
theorem dX5_knock_17 : decode cX5_knock 17 = .ok (.i2l, 1) := dk_133 (dk_at dksX5_knock_0 17 rfl rfl)
theorem dX5_knock_18 : decode cX5_knock 18 = .ok (.lreturn, 1) := dk_173 (dk_at dksX5_knock_0 18 rfl rfl)
theorem dX5_knock_19 : decode cX5_knock 19 = .ok (.aload_n 0, 1) := dk_42 (dk_at dksX5_knock_0 19 rfl rfl)
theorem dX5_knock_20 : decode cX5_knock 20 = .ok (.getfield 394, 3) := dk_180 1 138 (dk_at dksX5_knock_0 20 rfl rfl)
theorem dX5_knock_23 : decode cX5_knock 23 = .ok (.getfield 365, 3) := dk_180 1 109 (dk_at dksX5_knock_1 0 rfl rfl)
theorem dX5_knock_26 : decode cX5_knock 26 = .ok (.ifCond .ne 11, 3) := dk_154 0 11 (dk_at dksX5_knock_1 3 rfl rfl)
theorem dX5_knock_29 : decode cX5_knock 29 = .ok (.aload_n 0, 1) := dk_42 (dk_at dksX5_knock_1 6 rfl rfl)
theorem dX5_knock_30 : decode cX5_knock 30 = .ok (.bipush 6, 2) := dk_16 6 (dk_at dksX5_knock_1 7 rfl rfl)
theorem dX5_knock_32 : decode cX5_knock 32 = .ok (.invokevirtual 81, 3) := dk_182 0 81 (dk_at dksX5_knock_1 9 rfl rfl)
theorem dX5_knock_35 : decode cX5_knock 35 = .ok (.i2l, 1) := dk_133 (dk_at dksX5_knock_1 12 rfl rfl)
theorem dX5_knock_36 : decode cX5_knock 36 = .ok (.lreturn, 1) := dk_173 (dk_at dksX5_knock_1 13 rfl rfl)
theorem dX5_knock_37 : decode cX5_knock 37 = .ok (.ldc2_w 502, 3) := dk_20 1 246 (dk_at dksX5_knock_1 14 rfl rfl)
theorem dX5_knock_40 : decode cX5_knock 40 = .ok (.lstore_n 1, 1) := dk_64 (dk_at dksX5_knock_1 17 rfl rfl)
theorem dX5_knock_41 : decode cX5_knock 41 = .ok (.iconst 0, 1) := dk_3 (dk_at dksX5_knock_1 18 rfl rfl)
theorem dX5_knock_42 : decode cX5_knock 42 = .ok (.istore_n 3, 1) := dk_62 (dk_at dksX5_knock_1 19 rfl rfl)
theorem dX5_knock_43 : decode cX5_knock 43 = .ok (.iload_n 3, 1) := dk_29 (dk_at dksX5_knock_1 20 rfl rfl)
theorem dX5_knock_44 : decode cX5_knock 44 = .ok (.aload_n 0, 1) := dk_42 (dk_at dksX5_knock_1 21 rfl rfl)
theorem dX5_knock_45 : decode cX5_knock 45 = .ok (.getfield 394, 3) := dk_180 1 138 (dk_at dksX5_knock_2 0 rfl rfl)
theorem dX5_knock_48 : decode cX5_knock 48 = .ok (.getfield 365, 3) := dk_180 1 109 (dk_at dksX5_knock_2 3 rfl rfl)
theorem dX5_knock_51 : decode cX5_knock 51 = .ok (.invokestatic 460, 3) := dk_184 1 204 (dk_at dksX5_knock_2 6 rfl rfl)
theorem dX5_knock_54 : decode cX5_knock 54 = .ok (.if_icmp .ge 124, 3) := dk_162 0 124 (dk_at dksX5_knock_2 9 rfl rfl)
theorem dX5_knock_57 : decode cX5_knock 57 = .ok (.aload_n 0, 1) := dk_42 (dk_at dksX5_knock_2 12 rfl rfl)
theorem dX5_knock_58 : decode cX5_knock 58 = .ok (.iconst 1, 1) := dk_4 (dk_at dksX5_knock_2 13 rfl rfl)
theorem dX5_knock_59 : decode cX5_knock 59 = .ok (.aload_n 0, 1) := dk_42 (dk_at dksX5_knock_2 14 rfl rfl)
theorem dX5_knock_60 : decode cX5_knock 60 = .ok (.getfield 394, 3) := dk_180 1 138 (dk_at dksX5_knock_2 15 rfl rfl)
theorem dX5_knock_63 : decode cX5_knock 63 = .ok (.getfield 365, 3) := dk_180 1 109 (dk_at dksX5_knock_2 18 rfl rfl)
theorem dX5_knock_66 : decode cX5_knock 66 = .ok (.ishl, 1) := dk_120 (dk_at dksX5_knock_2 21 rfl rfl)
theorem dX5_knock_67 : decode cX5_knock 67 = .ok (.iconst 1, 1) := dk_4 (dk_at dksX5_knock_2 22 rfl rfl)
theorem dX5_knock_68 : decode cX5_knock 68 = .ok (.isub, 1) := dk_100 (dk_at dksX5_knock_2 23 rfl rfl)
theorem dX5_knock_69 : decode cX5_knock 69 = .ok (.iload_n 3, 1) := dk_29 (dk_at dksX5_knock_3 0 rfl rfl)
theorem dX5_knock_70 : decode cX5_knock 70 = .ok (.invokevirtual 469, 3) := dk_182 1 213 (dk_at dksX5_knock_3 1 rfl rfl)
theorem dX5_knock_73 : decode cX5_knock 73 = .ok (.iconst 0, 1) := dk_3 (dk_at dksX5_knock_3 4 rfl rfl)
theorem dX5_knock_74 : decode cX5_knock 74 = .ok (.istore 4, 2) := dk_54 4 (dk_at dksX5_knock_3 5 rfl rfl)
theorem dX5_knock_76 : decode cX5_knock 76 = .ok (.iload 4, 2) := dk_21 4 (dk_at dksX5_knock_3 7 rfl rfl)
theorem dX5_knock_78 : decode cX5_knock 78 = .ok (.aload_n 0, 1) := dk_42 (dk_at dksX5_knock_3 9 rfl rfl)
theorem dX5_knock_79 : decode cX5_knock 79 = .ok (.getfield 394, 3) := dk_180 1 138 (dk_at dksX5_knock_3 10 rfl rfl)
theorem dX5_knock_82 : decode cX5_knock 82 = .ok (.getfield 365, 3) := dk_180 1 109 (dk_at dksX5_knock_3 13 rfl rfl)
theorem dX5_knock_85 : decode cX5_knock 85 = .ok (.if_icmp .ge 23, 3) := dk_162 0 23 (dk_at dksX5_knock_3 16 rfl rfl)
theorem dX5_knock_88 : decode cX5_knock 88 = .ok (.aload_n 0, 1) := dk_42 (dk_at dksX5_knock_3 19 rfl rfl)
theorem dX5_knock_89 : decode cX5_knock 89 = .ok (.getfield 48, 3) := dk_180 0 48 (dk_at dksX5_knock_3 20 rfl rfl)
theorem dX5_knock_92 : decode cX5_knock 92 = .ok (.iload 4, 2) := dk_21 4 (dk_at dksX5_knock_4 0 rfl rfl)
theorem dX5_knock_94 : decode cX5_knock 94 = .ok (.aload_n 0, 1) := dk_42 (dk_at dksX5_knock_4 2 rfl rfl)
theorem dX5_knock_95 : decode cX5_knock 95 = .ok (.getfield 24, 3) := dk_180 0 24 (dk_at dksX5_knock_4 3 rfl rfl)
theorem dX5_knock_98 : decode cX5_knock 98 = .ok (.iload 4, 2) := dk_21 4 (dk_at dksX5_knock_4 6 rfl rfl)
theorem dX5_knock_100 : decode cX5_knock 100 = .ok (.iaload, 1) := dk_46 (dk_at dksX5_knock_4 8 rfl rfl)
theorem dX5_knock_101 : decode cX5_knock 101 = .ok (.iastore, 1) := dk_79 (dk_at dksX5_knock_4 9 rfl rfl)
theorem dX5_knock_102 : decode cX5_knock 102 = .ok (.iinc 4 1, 3) := dk_132 4 1 (dk_at dksX5_knock_4 10 rfl rfl)
theorem dX5_knock_105 : decode cX5_knock 105 = .ok (.goto (-29), 3) := dk_167 255 227 (dk_at dksX5_knock_4 13 rfl rfl)
theorem dX5_knock_108 : decode cX5_knock 108 = .ok (.aload_n 0, 1) := dk_42 (dk_at dksX5_knock_4 16 rfl rfl)
theorem dX5_knock_109 : decode cX5_knock 109 = .ok (.aload_n 0, 1) := dk_42 (dk_at dksX5_knock_4 17 rfl rfl)
theorem dX5_knock_110 : decode cX5_knock 110 = .ok (.getfield 48, 3) := dk_180 0 48 (dk_at dksX5_knock_4 18 rfl rfl)
theorem dX5_knock_113 : decode cX5_knock 113 = .ok (.invokevirtual 504, 3) := dk_182 1 248 (dk_at dksX5_knock_4 21 rfl rfl)
theorem dX5_knock_116 : decode cX5_knock 116 = .ok (.lstore 4, 2) := dk_55 4 (dk_at dksX5_knock_5 0 rfl rfl)
theorem dX5_knock_118 : decode cX5_knock 118 = .ok (.lload_n 1, 1) := dk_31 (dk_at dksX5_knock_5 2 rfl rfl)
theorem dX5_knock_119 : decode cX5_knock 119 = .ok (.lconst 0, 1) := dk_9 (dk_at dksX5_knock_5 3 rfl rfl)
theorem dX5_knock_120 : decode cX5_knock 120 = .ok (.lcmp, 1) := dk_148 (dk_at dksX5_knock_5 4 rfl rfl)
theorem dX5_knock_121 : decode cX5_knock 121 = .ok (.ifCond .lt 13, 3) := dk_155 0 13 (dk_at dksX5_knock_5 5 rfl rfl)
theorem dX5_knock_124 : decode cX5_knock 124 = .ok (.lload 4, 2) := dk_22 4 (dk_at dksX5_knock_5 8 rfl rfl)
theorem dX5_knock_126 : decode cX5_knock 126 = .ok (.lload_n 1, 1) := dk_31 (dk_at dksX5_knock_5 10 rfl rfl)
theorem dX5_knock_127 : decode cX5_knock 127 = .ok (.lcmp, 1) := dk_148 (dk_at dksX5_knock_5 11 rfl rfl)
theorem dX5_knock_128 : decode cX5_knock 128 = .ok (.ifCond .lt 6, 3) := dk_155 0 6 (dk_at dksX5_knock_5 12 rfl rfl)
theorem dX5_knock_131 : decode cX5_knock 131 = .ok (.goto 41, 3) := dk_167 0 41 (dk_at dksX5_knock_5 15 rfl rfl)
theorem dX5_knock_134 : decode cX5_knock 134 = .ok (.lload 4, 2) := dk_22 4 (dk_at dksX5_knock_5 18 rfl rfl)
theorem dX5_knock_136 : decode cX5_knock 136 = .ok (.lstore_n 1, 1) := dk_64 (dk_at dksX5_knock_5 20 rfl rfl)
theorem dX5_knock_137 : decode cX5_knock 137 = .ok (.iconst 0, 1) := dk_3 (dk_at dksX5_knock_5 21 rfl rfl)
theorem dX5_knock_138 : decode cX5_knock 138 = .ok (.istore 6, 2) := dk_54 6 (dk_at dksX5_knock_5 22 rfl rfl)
theorem dX5_knock_140 : decode cX5_knock 140 = .ok (.iload 6, 2) := dk_21 6 (dk_at dksX5_knock_6 0 rfl rfl)
theorem dX5_knock_142 : decode cX5_knock 142 = .ok (.aload_n 0, 1) := dk_42 (dk_at dksX5_knock_6 2 rfl rfl)
theorem dX5_knock_143 : decode cX5_knock 143 = .ok (.getfield 394, 3) := dk_180 1 138 (dk_at dksX5_knock_6 3 rfl rfl)
theorem dX5_knock_146 : decode cX5_knock 146 = .ok (.getfield 365, 3) := dk_180 1 109 (dk_at dksX5_knock_6 6 rfl rfl)
theorem dX5_knock_149 : decode cX5_knock 149 = .ok (.if_icmp .ge 23, 3) := dk_162 0 23 (dk_at dksX5_knock_6 9 rfl rfl)
theorem dX5_knock_152 : decode cX5_knock 152 = .ok (.aload_n 0, 1) := dk_42 (dk_at dksX5_knock_6 12 rfl rfl)
theorem dX5_knock_153 : decode cX5_knock 153 = .ok (.getfield 51, 3) := dk_180 0 51 (dk_at dksX5_knock_6 13 rfl rfl)
theorem dX5_knock_156 : decode cX5_knock 156 = .ok (.iload 6, 2) := dk_21 6 (dk_at dksX5_knock_6 16 rfl rfl)
theorem dX5_knock_158 : decode cX5_knock 158 = .ok (.aload_n 0, 1) := dk_42 (dk_at dksX5_knock_6 18 rfl rfl)
theorem dX5_knock_159 : decode cX5_knock 159 = .ok (.getfield 48, 3) := dk_180 0 48 (dk_at dksX5_knock_6 19 rfl rfl)
theorem dX5_knock_162 : decode cX5_knock 162 = .ok (.iload 6, 2) := dk_21 6 (dk_at dksX5_knock_6 22 rfl rfl)
theorem dX5_knock_164 : decode cX5_knock 164 = .ok (.iaload, 1) := dk_46 (dk_at dksX5_knock_7 0 rfl rfl)
theorem dX5_knock_165 : decode cX5_knock 165 = .ok (.iastore, 1) := dk_79 (dk_at dksX5_knock_7 1 rfl rfl)
theorem dX5_knock_166 : decode cX5_knock 166 = .ok (.iinc 6 1, 3) := dk_132 6 1 (dk_at dksX5_knock_7 2 rfl rfl)
theorem dX5_knock_169 : decode cX5_knock 169 = .ok (.goto (-29), 3) := dk_167 255 227 (dk_at dksX5_knock_7 5 rfl rfl)
theorem dX5_knock_172 : decode cX5_knock 172 = .ok (.iinc 3 1, 3) := dk_132 3 1 (dk_at dksX5_knock_7 8 rfl rfl)
theorem dX5_knock_175 : decode cX5_knock 175 = .ok (.goto (-132), 3) := dk_167 255 124 (dk_at dksX5_knock_7 11 rfl rfl)
theorem dX5_knock_178 : decode cX5_knock 178 = .ok (.aload_n 0, 1) := dk_42 (dk_at dksX5_knock_7 14 rfl rfl)
theorem dX5_knock_179 : decode cX5_knock 179 = .ok (.aload_n 0, 1) := dk_42 (dk_at dksX5_knock_7 15 rfl rfl)
theorem dX5_knock_180 : decode cX5_knock 180 = .ok (.getfield 394, 3) := dk_180 1 138 (dk_at dksX5_knock_7 16 rfl rfl)
theorem dX5_knock_183 : decode cX5_knock 183 = .ok (.getfield 365, 3) := dk_180 1 109 (dk_at dksX5_knock_7 19 rfl rfl)
theorem dX5_knock_186 : decode cX5_knock 186 = .ok (.putfield 406, 3) := dk_181 1 150 (dk_at dksX5_knock_8 0 rfl rfl)
theorem dX5_knock_189 : decode cX5_knock 189 = .ok (.aload_n 0, 1) := dk_42 (dk_at dksX5_knock_8 3 rfl rfl)
theorem dX5_knock_190 : decode cX5_knock 190 = .ok (.iconst 0, 1) := dk_3 (dk_at dksX5_knock_8 4 rfl rfl)
theorem dX5_knock_191 : decode cX5_knock 191 = .ok (.invokevirtual 416, 3) := dk_182 1 160 (dk_at dksX5_knock_8 5 rfl rfl)
theorem dX5_knock_194 : decode cX5_knock 194 = .ok (.pop, 1) := dk_87 (dk_at dksX5_knock_8 8 rfl rfl)
theorem dX5_knock_195 : decode cX5_knock 195 = .ok (.lload_n 1, 1) := dk_31 (dk_at dksX5_knock_8 9 rfl rfl)
theorem dX5_knock_196 : decode cX5_knock 196 = .ok (.lreturn, 1) := dk_173 (dk_at dksX5_knock_8 10 rfl rfl)
abbrev cX5_expected : ByteArray := prog_15_method_77_code
def yX5_expected : MethodName := ⟨RX5, "expected", "([I)J"⟩
def dkwX5_expected_4 : List UInt8 := [167, 255, 166, 32, 173]
abbrev dktX5_expected_4 : List UInt8 := dkwX5_expected_4 ++ []
def dkwX5_expected_3 : List UInt8 := [133, 167, 0, 6, 20, 1, 244, 105, 55, 5, 132, 7, 1, 167, 255, 207, 32, 22, 5, 97, 65, 132, 4, 1]
abbrev dktX5_expected_3 : List UInt8 := dkwX5_expected_3 ++ dktX5_expected_4
def dkwX5_expected_2 : List UInt8 := [22, 5, 21, 7, 21, 4, 162, 0, 22, 16, 100, 42, 180, 1, 138, 180, 1, 116, 43, 21, 7, 46, 46, 100]
abbrev dktX5_expected_2 : List UInt8 := dkwX5_expected_2 ++ dktX5_expected_3
def dkwX5_expected_1 : List UInt8 := [43, 21, 4, 46, 46, 133, 55, 5, 3, 54, 7, 21, 7, 42, 180, 1, 138, 180, 1, 109, 162, 0, 43]
abbrev dktX5_expected_1 : List UInt8 := dkwX5_expected_1 ++ dktX5_expected_2
def dkwX5_expected_0 : List UInt8 := [9, 65, 3, 54, 4, 21, 4, 42, 180, 1, 138, 180, 1, 109, 162, 0, 84, 42, 180, 1, 138, 180, 1, 114]
abbrev dktX5_expected_0 : List UInt8 := dkwX5_expected_0 ++ dktX5_expected_1
theorem dksX5_expected_0 : cX5_expected.data.toList.drop 0 = dktX5_expected_0 := by decide +kernel
theorem dksX5_expected_1 : cX5_expected.data.toList.drop 24 = dktX5_expected_1 := dk_seg dksX5_expected_0 24 rfl rfl
theorem dksX5_expected_2 : cX5_expected.data.toList.drop 47 = dktX5_expected_2 := dk_seg dksX5_expected_1 23 rfl rfl
theorem dksX5_expected_3 : cX5_expected.data.toList.drop 71 = dktX5_expected_3 := dk_seg dksX5_expected_2 24 rfl rfl
theorem dksX5_expected_4 : cX5_expected.data.toList.drop 95 = dktX5_expected_4 := dk_seg dksX5_expected_3 24 rfl rfl
theorem dX5_expected_0 : decode cX5_expected 0 = .ok (.lconst 0, 1) := dk_9 (dk_at dksX5_expected_0 0 rfl rfl)
theorem dX5_expected_1 : decode cX5_expected 1 = .ok (.lstore_n 2, 1) := dk_65 (dk_at dksX5_expected_0 1 rfl rfl)
theorem dX5_expected_2 : decode cX5_expected 2 = .ok (.iconst 0, 1) := dk_3 (dk_at dksX5_expected_0 2 rfl rfl)
theorem dX5_expected_3 : decode cX5_expected 3 = .ok (.istore 4, 2) := dk_54 4 (dk_at dksX5_expected_0 3 rfl rfl)
theorem dX5_expected_5 : decode cX5_expected 5 = .ok (.iload 4, 2) := dk_21 4 (dk_at dksX5_expected_0 5 rfl rfl)
theorem dX5_expected_7 : decode cX5_expected 7 = .ok (.aload_n 0, 1) := dk_42 (dk_at dksX5_expected_0 7 rfl rfl)
theorem dX5_expected_8 : decode cX5_expected 8 = .ok (.getfield 394, 3) := dk_180 1 138 (dk_at dksX5_expected_0 8 rfl rfl)
theorem dX5_expected_11 : decode cX5_expected 11 = .ok (.getfield 365, 3) := dk_180 1 109 (dk_at dksX5_expected_0 11 rfl rfl)
theorem dX5_expected_14 : decode cX5_expected 14 = .ok (.if_icmp .ge 84, 3) := dk_162 0 84 (dk_at dksX5_expected_0 14 rfl rfl)
theorem dX5_expected_17 : decode cX5_expected 17 = .ok (.aload_n 0, 1) := dk_42 (dk_at dksX5_expected_0 17 rfl rfl)
theorem dX5_expected_18 : decode cX5_expected 18 = .ok (.getfield 394, 3) := dk_180 1 138 (dk_at dksX5_expected_0 18 rfl rfl)
theorem dX5_expected_21 : decode cX5_expected 21 = .ok (.getfield 370, 3) := dk_180 1 114 (dk_at dksX5_expected_0 21 rfl rfl)
theorem dX5_expected_24 : decode cX5_expected 24 = .ok (.aload_n 1, 1) := dk_43 (dk_at dksX5_expected_1 0 rfl rfl)
theorem dX5_expected_25 : decode cX5_expected 25 = .ok (.iload 4, 2) := dk_21 4 (dk_at dksX5_expected_1 1 rfl rfl)
theorem dX5_expected_27 : decode cX5_expected 27 = .ok (.iaload, 1) := dk_46 (dk_at dksX5_expected_1 3 rfl rfl)
theorem dX5_expected_28 : decode cX5_expected 28 = .ok (.iaload, 1) := dk_46 (dk_at dksX5_expected_1 4 rfl rfl)
theorem dX5_expected_29 : decode cX5_expected 29 = .ok (.i2l, 1) := dk_133 (dk_at dksX5_expected_1 5 rfl rfl)
theorem dX5_expected_30 : decode cX5_expected 30 = .ok (.lstore 5, 2) := dk_55 5 (dk_at dksX5_expected_1 6 rfl rfl)
theorem dX5_expected_32 : decode cX5_expected 32 = .ok (.iconst 0, 1) := dk_3 (dk_at dksX5_expected_1 8 rfl rfl)
theorem dX5_expected_33 : decode cX5_expected 33 = .ok (.istore 7, 2) := dk_54 7 (dk_at dksX5_expected_1 9 rfl rfl)
theorem dX5_expected_35 : decode cX5_expected 35 = .ok (.iload 7, 2) := dk_21 7 (dk_at dksX5_expected_1 11 rfl rfl)
theorem dX5_expected_37 : decode cX5_expected 37 = .ok (.aload_n 0, 1) := dk_42 (dk_at dksX5_expected_1 13 rfl rfl)
theorem dX5_expected_38 : decode cX5_expected 38 = .ok (.getfield 394, 3) := dk_180 1 138 (dk_at dksX5_expected_1 14 rfl rfl)
theorem dX5_expected_41 : decode cX5_expected 41 = .ok (.getfield 365, 3) := dk_180 1 109 (dk_at dksX5_expected_1 17 rfl rfl)
theorem dX5_expected_44 : decode cX5_expected 44 = .ok (.if_icmp .ge 43, 3) := dk_162 0 43 (dk_at dksX5_expected_1 20 rfl rfl)
theorem dX5_expected_47 : decode cX5_expected 47 = .ok (.lload 5, 2) := dk_22 5 (dk_at dksX5_expected_2 0 rfl rfl)
theorem dX5_expected_49 : decode cX5_expected 49 = .ok (.iload 7, 2) := dk_21 7 (dk_at dksX5_expected_2 2 rfl rfl)
theorem dX5_expected_51 : decode cX5_expected 51 = .ok (.iload 4, 2) := dk_21 4 (dk_at dksX5_expected_2 4 rfl rfl)
theorem dX5_expected_53 : decode cX5_expected 53 = .ok (.if_icmp .ge 22, 3) := dk_162 0 22 (dk_at dksX5_expected_2 6 rfl rfl)
theorem dX5_expected_56 : decode cX5_expected 56 = .ok (.bipush 100, 2) := dk_16 100 (dk_at dksX5_expected_2 9 rfl rfl)
theorem dX5_expected_58 : decode cX5_expected 58 = .ok (.aload_n 0, 1) := dk_42 (dk_at dksX5_expected_2 11 rfl rfl)
theorem dX5_expected_59 : decode cX5_expected 59 = .ok (.getfield 394, 3) := dk_180 1 138 (dk_at dksX5_expected_2 12 rfl rfl)
theorem dX5_expected_62 : decode cX5_expected 62 = .ok (.getfield 372, 3) := dk_180 1 116 (dk_at dksX5_expected_2 15 rfl rfl)
theorem dX5_expected_65 : decode cX5_expected 65 = .ok (.aload_n 1, 1) := dk_43 (dk_at dksX5_expected_2 18 rfl rfl)
theorem dX5_expected_66 : decode cX5_expected 66 = .ok (.iload 7, 2) := dk_21 7 (dk_at dksX5_expected_2 19 rfl rfl)
theorem dX5_expected_68 : decode cX5_expected 68 = .ok (.iaload, 1) := dk_46 (dk_at dksX5_expected_2 21 rfl rfl)
theorem dX5_expected_69 : decode cX5_expected 69 = .ok (.iaload, 1) := dk_46 (dk_at dksX5_expected_2 22 rfl rfl)
theorem dX5_expected_70 : decode cX5_expected 70 = .ok (.isub, 1) := dk_100 (dk_at dksX5_expected_2 23 rfl rfl)
theorem dX5_expected_71 : decode cX5_expected 71 = .ok (.i2l, 1) := dk_133 (dk_at dksX5_expected_3 0 rfl rfl)
theorem dX5_expected_72 : decode cX5_expected 72 = .ok (.goto 6, 3) := dk_167 0 6 (dk_at dksX5_expected_3 1 rfl rfl)
theorem dX5_expected_75 : decode cX5_expected 75 = .ok (.ldc2_w 500, 3) := dk_20 1 244 (dk_at dksX5_expected_3 4 rfl rfl)
theorem dX5_expected_78 : decode cX5_expected 78 = .ok (.lmul, 1) := dk_105 (dk_at dksX5_expected_3 7 rfl rfl)
theorem dX5_expected_79 : decode cX5_expected 79 = .ok (.lstore 5, 2) := dk_55 5 (dk_at dksX5_expected_3 8 rfl rfl)
theorem dX5_expected_81 : decode cX5_expected 81 = .ok (.iinc 7 1, 3) := dk_132 7 1 (dk_at dksX5_expected_3 10 rfl rfl)
theorem dX5_expected_84 : decode cX5_expected 84 = .ok (.goto (-49), 3) := dk_167 255 207 (dk_at dksX5_expected_3 13 rfl rfl)
theorem dX5_expected_87 : decode cX5_expected 87 = .ok (.lload_n 2, 1) := dk_32 (dk_at dksX5_expected_3 16 rfl rfl)
theorem dX5_expected_88 : decode cX5_expected 88 = .ok (.lload 5, 2) := dk_22 5 (dk_at dksX5_expected_3 17 rfl rfl)
theorem dX5_expected_90 : decode cX5_expected 90 = .ok (.ladd, 1) := dk_97 (dk_at dksX5_expected_3 19 rfl rfl)
theorem dX5_expected_91 : decode cX5_expected 91 = .ok (.lstore_n 2, 1) := dk_65 (dk_at dksX5_expected_3 20 rfl rfl)
theorem dX5_expected_92 : decode cX5_expected 92 = .ok (.iinc 4 1, 3) := dk_132 4 1 (dk_at dksX5_expected_3 21 rfl rfl)
theorem dX5_expected_95 : decode cX5_expected 95 = .ok (.goto (-90), 3) := dk_167 255 166 (dk_at dksX5_expected_4 0 rfl rfl)
theorem dX5_expected_98 : decode cX5_expected 98 = .ok (.lload_n 2, 1) := dk_32 (dk_at dksX5_expected_4 3 rfl rfl)
theorem dX5_expected_99 : decode cX5_expected 99 = .ok (.lreturn, 1) := dk_173 (dk_at dksX5_expected_4 4 rfl rfl)
abbrev cX5_callAt : ByteArray := prog_15_method_79_code
def yX5_callAt : MethodName := ⟨RX5, "callAt", "(I)I"⟩
def dkwX5_callAt_1 : List UInt8 := [167, 0, 4, 2, 172]
abbrev dktX5_callAt_1 : List UInt8 := dkwX5_callAt_1 ++ []
def dkwX5_callAt_0 : List UInt8 := [42, 3, 181, 0, 75, 27, 155, 0, 20, 27, 42, 180, 1, 150, 162, 0, 12, 42, 180, 0, 51, 27, 46]
abbrev dktX5_callAt_0 : List UInt8 := dkwX5_callAt_0 ++ dktX5_callAt_1
theorem dksX5_callAt_0 : cX5_callAt.data.toList.drop 0 = dktX5_callAt_0 := by decide +kernel
theorem dksX5_callAt_1 : cX5_callAt.data.toList.drop 23 = dktX5_callAt_1 := dk_seg dksX5_callAt_0 23 rfl rfl
theorem dX5_callAt_0 : decode cX5_callAt 0 = .ok (.aload_n 0, 1) := dk_42 (dk_at dksX5_callAt_0 0 rfl rfl)
theorem dX5_callAt_1 : decode cX5_callAt 1 = .ok (.iconst 0, 1) := dk_3 (dk_at dksX5_callAt_0 1 rfl rfl)
theorem dX5_callAt_2 : decode cX5_callAt 2 = .ok (.putfield 75, 3) := dk_181 0 75 (dk_at dksX5_callAt_0 2 rfl rfl)
theorem dX5_callAt_5 : decode cX5_callAt 5 = .ok (.iload_n 1, 1) := dk_27 (dk_at dksX5_callAt_0 5 rfl rfl)
theorem dX5_callAt_6 : decode cX5_callAt 6 = .ok (.ifCond .lt 20, 3) := dk_155 0 20 (dk_at dksX5_callAt_0 6 rfl rfl)
theorem dX5_callAt_9 : decode cX5_callAt 9 = .ok (.iload_n 1, 1) := dk_27 (dk_at dksX5_callAt_0 9 rfl rfl)
theorem dX5_callAt_10 : decode cX5_callAt 10 = .ok (.aload_n 0, 1) := dk_42 (dk_at dksX5_callAt_0 10 rfl rfl)
theorem dX5_callAt_11 : decode cX5_callAt 11 = .ok (.getfield 406, 3) := dk_180 1 150 (dk_at dksX5_callAt_0 11 rfl rfl)
theorem dX5_callAt_14 : decode cX5_callAt 14 = .ok (.if_icmp .ge 12, 3) := dk_162 0 12 (dk_at dksX5_callAt_0 14 rfl rfl)
theorem dX5_callAt_17 : decode cX5_callAt 17 = .ok (.aload_n 0, 1) := dk_42 (dk_at dksX5_callAt_0 17 rfl rfl)
theorem dX5_callAt_18 : decode cX5_callAt 18 = .ok (.getfield 51, 3) := dk_180 0 51 (dk_at dksX5_callAt_0 18 rfl rfl)
theorem dX5_callAt_21 : decode cX5_callAt 21 = .ok (.iload_n 1, 1) := dk_27 (dk_at dksX5_callAt_0 21 rfl rfl)
theorem dX5_callAt_22 : decode cX5_callAt 22 = .ok (.iaload, 1) := dk_46 (dk_at dksX5_callAt_0 22 rfl rfl)
theorem dX5_callAt_23 : decode cX5_callAt 23 = .ok (.goto 4, 3) := dk_167 0 4 (dk_at dksX5_callAt_1 0 rfl rfl)
theorem dX5_callAt_26 : decode cX5_callAt 26 = .ok (.iconst (-1), 1) := dk_2 (dk_at dksX5_callAt_1 3 rfl rfl)
theorem dX5_callAt_27 : decode cX5_callAt 27 = .ok (.ireturn, 1) := dk_172 (dk_at dksX5_callAt_1 4 rfl rfl)
abbrev cX5_asTold : ByteArray := prog_15_method_80_code
def yX5_asTold : MethodName := ⟨RX5, "asTold", "()J"⟩
def dkwX5_asTold_3 : List UInt8 := [180, 0, 48, 182, 1, 248, 173]
abbrev dktX5_asTold_3 : List UInt8 := dkwX5_asTold_3 ++ []
def dkwX5_asTold_2 : List UInt8 := [162, 0, 16, 42, 180, 0, 48, 27, 27, 79, 132, 1, 1, 167, 255, 235, 42, 3, 182, 1, 160, 87, 42, 42]
abbrev dktX5_asTold_2 : List UInt8 := dkwX5_asTold_2 ++ dktX5_asTold_3
def dkwX5_asTold_1 : List UInt8 := [180, 1, 109, 154, 0, 11, 42, 16, 6, 182, 0, 81, 133, 173, 3, 60, 27, 42, 180, 1, 138, 180, 1, 109]
abbrev dktX5_asTold_1 : List UInt8 := dkwX5_asTold_1 ++ dktX5_asTold_2
def dkwX5_asTold_0 : List UInt8 := [42, 3, 181, 0, 75, 42, 180, 1, 138, 199, 0, 10, 42, 4, 182, 0, 81, 133, 173, 42, 180, 1, 138]
abbrev dktX5_asTold_0 : List UInt8 := dkwX5_asTold_0 ++ dktX5_asTold_1
theorem dksX5_asTold_0 : cX5_asTold.data.toList.drop 0 = dktX5_asTold_0 := by decide +kernel
theorem dksX5_asTold_1 : cX5_asTold.data.toList.drop 23 = dktX5_asTold_1 := dk_seg dksX5_asTold_0 23 rfl rfl
theorem dksX5_asTold_2 : cX5_asTold.data.toList.drop 47 = dktX5_asTold_2 := dk_seg dksX5_asTold_1 24 rfl rfl
theorem dksX5_asTold_3 : cX5_asTold.data.toList.drop 71 = dktX5_asTold_3 := dk_seg dksX5_asTold_2 24 rfl rfl
theorem dX5_asTold_0 : decode cX5_asTold 0 = .ok (.aload_n 0, 1) := dk_42 (dk_at dksX5_asTold_0 0 rfl rfl)
theorem dX5_asTold_1 : decode cX5_asTold 1 = .ok (.iconst 0, 1) := dk_3 (dk_at dksX5_asTold_0 1 rfl rfl)
theorem dX5_asTold_2 : decode cX5_asTold 2 = .ok (.putfield 75, 3) := dk_181 0 75 (dk_at dksX5_asTold_0 2 rfl rfl)
theorem dX5_asTold_5 : decode cX5_asTold 5 = .ok (.aload_n 0, 1) := dk_42 (dk_at dksX5_asTold_0 5 rfl rfl)
theorem dX5_asTold_6 : decode cX5_asTold 6 = .ok (.getfield 394, 3) := dk_180 1 138 (dk_at dksX5_asTold_0 6 rfl rfl)
theorem dX5_asTold_9 : decode cX5_asTold 9 = .ok (.ifnonnull 10, 3) := dk_199 0 10 (dk_at dksX5_asTold_0 9 rfl rfl)
theorem dX5_asTold_12 : decode cX5_asTold 12 = .ok (.aload_n 0, 1) := dk_42 (dk_at dksX5_asTold_0 12 rfl rfl)
theorem dX5_asTold_13 : decode cX5_asTold 13 = .ok (.iconst 1, 1) := dk_4 (dk_at dksX5_asTold_0 13 rfl rfl)
theorem dX5_asTold_14 : decode cX5_asTold 14 = .ok (.invokevirtual 81, 3) := dk_182 0 81 (dk_at dksX5_asTold_0 14 rfl rfl)
theorem dX5_asTold_17 : decode cX5_asTold 17 = .ok (.i2l, 1) := dk_133 (dk_at dksX5_asTold_0 17 rfl rfl)
theorem dX5_asTold_18 : decode cX5_asTold 18 = .ok (.lreturn, 1) := dk_173 (dk_at dksX5_asTold_0 18 rfl rfl)
theorem dX5_asTold_19 : decode cX5_asTold 19 = .ok (.aload_n 0, 1) := dk_42 (dk_at dksX5_asTold_0 19 rfl rfl)
theorem dX5_asTold_20 : decode cX5_asTold 20 = .ok (.getfield 394, 3) := dk_180 1 138 (dk_at dksX5_asTold_0 20 rfl rfl)
theorem dX5_asTold_23 : decode cX5_asTold 23 = .ok (.getfield 365, 3) := dk_180 1 109 (dk_at dksX5_asTold_1 0 rfl rfl)
theorem dX5_asTold_26 : decode cX5_asTold 26 = .ok (.ifCond .ne 11, 3) := dk_154 0 11 (dk_at dksX5_asTold_1 3 rfl rfl)
theorem dX5_asTold_29 : decode cX5_asTold 29 = .ok (.aload_n 0, 1) := dk_42 (dk_at dksX5_asTold_1 6 rfl rfl)
theorem dX5_asTold_30 : decode cX5_asTold 30 = .ok (.bipush 6, 2) := dk_16 6 (dk_at dksX5_asTold_1 7 rfl rfl)
theorem dX5_asTold_32 : decode cX5_asTold 32 = .ok (.invokevirtual 81, 3) := dk_182 0 81 (dk_at dksX5_asTold_1 9 rfl rfl)
theorem dX5_asTold_35 : decode cX5_asTold 35 = .ok (.i2l, 1) := dk_133 (dk_at dksX5_asTold_1 12 rfl rfl)
theorem dX5_asTold_36 : decode cX5_asTold 36 = .ok (.lreturn, 1) := dk_173 (dk_at dksX5_asTold_1 13 rfl rfl)
theorem dX5_asTold_37 : decode cX5_asTold 37 = .ok (.iconst 0, 1) := dk_3 (dk_at dksX5_asTold_1 14 rfl rfl)
theorem dX5_asTold_38 : decode cX5_asTold 38 = .ok (.istore_n 1, 1) := dk_60 (dk_at dksX5_asTold_1 15 rfl rfl)
theorem dX5_asTold_39 : decode cX5_asTold 39 = .ok (.iload_n 1, 1) := dk_27 (dk_at dksX5_asTold_1 16 rfl rfl)
theorem dX5_asTold_40 : decode cX5_asTold 40 = .ok (.aload_n 0, 1) := dk_42 (dk_at dksX5_asTold_1 17 rfl rfl)
theorem dX5_asTold_41 : decode cX5_asTold 41 = .ok (.getfield 394, 3) := dk_180 1 138 (dk_at dksX5_asTold_1 18 rfl rfl)
theorem dX5_asTold_44 : decode cX5_asTold 44 = .ok (.getfield 365, 3) := dk_180 1 109 (dk_at dksX5_asTold_1 21 rfl rfl)
theorem dX5_asTold_47 : decode cX5_asTold 47 = .ok (.if_icmp .ge 16, 3) := dk_162 0 16 (dk_at dksX5_asTold_2 0 rfl rfl)
theorem dX5_asTold_50 : decode cX5_asTold 50 = .ok (.aload_n 0, 1) := dk_42 (dk_at dksX5_asTold_2 3 rfl rfl)
theorem dX5_asTold_51 : decode cX5_asTold 51 = .ok (.getfield 48, 3) := dk_180 0 48 (dk_at dksX5_asTold_2 4 rfl rfl)
theorem dX5_asTold_54 : decode cX5_asTold 54 = .ok (.iload_n 1, 1) := dk_27 (dk_at dksX5_asTold_2 7 rfl rfl)
theorem dX5_asTold_55 : decode cX5_asTold 55 = .ok (.iload_n 1, 1) := dk_27 (dk_at dksX5_asTold_2 8 rfl rfl)
theorem dX5_asTold_56 : decode cX5_asTold 56 = .ok (.iastore, 1) := dk_79 (dk_at dksX5_asTold_2 9 rfl rfl)
theorem dX5_asTold_57 : decode cX5_asTold 57 = .ok (.iinc 1 1, 3) := dk_132 1 1 (dk_at dksX5_asTold_2 10 rfl rfl)
theorem dX5_asTold_60 : decode cX5_asTold 60 = .ok (.goto (-21), 3) := dk_167 255 235 (dk_at dksX5_asTold_2 13 rfl rfl)
theorem dX5_asTold_63 : decode cX5_asTold 63 = .ok (.aload_n 0, 1) := dk_42 (dk_at dksX5_asTold_2 16 rfl rfl)
theorem dX5_asTold_64 : decode cX5_asTold 64 = .ok (.iconst 0, 1) := dk_3 (dk_at dksX5_asTold_2 17 rfl rfl)
theorem dX5_asTold_65 : decode cX5_asTold 65 = .ok (.invokevirtual 416, 3) := dk_182 1 160 (dk_at dksX5_asTold_2 18 rfl rfl)
theorem dX5_asTold_68 : decode cX5_asTold 68 = .ok (.pop, 1) := dk_87 (dk_at dksX5_asTold_2 21 rfl rfl)
theorem dX5_asTold_69 : decode cX5_asTold 69 = .ok (.aload_n 0, 1) := dk_42 (dk_at dksX5_asTold_2 22 rfl rfl)
theorem dX5_asTold_70 : decode cX5_asTold 70 = .ok (.aload_n 0, 1) := dk_42 (dk_at dksX5_asTold_2 23 rfl rfl)
theorem dX5_asTold_71 : decode cX5_asTold 71 = .ok (.getfield 48, 3) := dk_180 0 48 (dk_at dksX5_asTold_3 0 rfl rfl)
theorem dX5_asTold_74 : decode cX5_asTold 74 = .ok (.invokevirtual 504, 3) := dk_182 1 248 (dk_at dksX5_asTold_3 3 rfl rfl)
theorem dX5_asTold_77 : decode cX5_asTold 77 = .ok (.lreturn, 1) := dk_173 (dk_at dksX5_asTold_3 6 rfl rfl)
abbrev cX5_fill : ByteArray := prog_15_method_83_code
def yX5_fill : MethodName := ⟨RX5, "fill", "()I"⟩
def dkwX5_fill_6 : List UInt8 := [132, 4, 1, 167, 255, 210, 42, 28, 16, 8, 108, 182, 1, 160, 172]
abbrev dktX5_fill_6 : List UInt8 := dkwX5_fill_6 ++ []
def dkwX5_fill_5 : List UInt8 := [180, 1, 138, 180, 1, 119, 160, 0, 8, 16, 254, 167, 0, 10, 42, 29, 21, 4, 182, 1, 252, 79]
abbrev dktX5_fill_5 : List UInt8 := dkwX5_fill_5 ++ dktX5_fill_6
def dkwX5_fill_4 : List UInt8 := [54, 4, 21, 4, 16, 7, 162, 0, 45, 42, 180, 0, 54, 21, 4, 42, 29, 21, 4, 182, 1, 252, 42]
abbrev dktX5_fill_4 : List UInt8 := dkwX5_fill_4 ++ dktX5_fill_5
def dkwX5_fill_3 : List UInt8 := [163, 0, 6, 167, 0, 9, 21, 5, 61, 21, 4, 62, 132, 4, 1, 167, 255, 224, 42, 4, 181, 1, 153, 3]
abbrev dktX5_fill_3 : List UInt8 := dkwX5_fill_3 ++ dktX5_fill_4
def dkwX5_fill_2 : List UInt8 := [61, 3, 62, 3, 54, 4, 21, 4, 27, 162, 0, 32, 42, 21, 4, 182, 1, 255, 54, 5, 21, 5, 28]
abbrev dktX5_fill_2 : List UInt8 := dkwX5_fill_2 ++ dktX5_fill_3
def dkwX5_fill_1 : List UInt8 := [16, 7, 162, 0, 21, 27, 42, 180, 1, 138, 180, 1, 119, 4, 96, 104, 60, 132, 2, 1, 167, 255, 235, 2]
abbrev dktX5_fill_1 : List UInt8 := dkwX5_fill_1 ++ dktX5_fill_2
def dkwX5_fill_0 : List UInt8 := [42, 3, 181, 0, 75, 42, 180, 1, 138, 199, 0, 9, 42, 4, 182, 0, 81, 172, 4, 60, 3, 61, 28]
abbrev dktX5_fill_0 : List UInt8 := dkwX5_fill_0 ++ dktX5_fill_1
theorem dksX5_fill_0 : cX5_fill.data.toList.drop 0 = dktX5_fill_0 := by decide +kernel
theorem dksX5_fill_1 : cX5_fill.data.toList.drop 23 = dktX5_fill_1 := dk_seg dksX5_fill_0 23 rfl rfl
theorem dksX5_fill_2 : cX5_fill.data.toList.drop 47 = dktX5_fill_2 := dk_seg dksX5_fill_1 24 rfl rfl
theorem dksX5_fill_3 : cX5_fill.data.toList.drop 70 = dktX5_fill_3 := dk_seg dksX5_fill_2 23 rfl rfl
theorem dksX5_fill_4 : cX5_fill.data.toList.drop 94 = dktX5_fill_4 := dk_seg dksX5_fill_3 24 rfl rfl
theorem dksX5_fill_5 : cX5_fill.data.toList.drop 117 = dktX5_fill_5 := dk_seg dksX5_fill_4 23 rfl rfl
theorem dksX5_fill_6 : cX5_fill.data.toList.drop 139 = dktX5_fill_6 := dk_seg dksX5_fill_5 22 rfl rfl
theorem dX5_fill_0 : decode cX5_fill 0 = .ok (.aload_n 0, 1) := dk_42 (dk_at dksX5_fill_0 0 rfl rfl)
theorem dX5_fill_1 : decode cX5_fill 1 = .ok (.iconst 0, 1) := dk_3 (dk_at dksX5_fill_0 1 rfl rfl)
theorem dX5_fill_2 : decode cX5_fill 2 = .ok (.putfield 75, 3) := dk_181 0 75 (dk_at dksX5_fill_0 2 rfl rfl)
theorem dX5_fill_5 : decode cX5_fill 5 = .ok (.aload_n 0, 1) := dk_42 (dk_at dksX5_fill_0 5 rfl rfl)
theorem dX5_fill_6 : decode cX5_fill 6 = .ok (.getfield 394, 3) := dk_180 1 138 (dk_at dksX5_fill_0 6 rfl rfl)
theorem dX5_fill_9 : decode cX5_fill 9 = .ok (.ifnonnull 9, 3) := dk_199 0 9 (dk_at dksX5_fill_0 9 rfl rfl)
theorem dX5_fill_12 : decode cX5_fill 12 = .ok (.aload_n 0, 1) := dk_42 (dk_at dksX5_fill_0 12 rfl rfl)
theorem dX5_fill_13 : decode cX5_fill 13 = .ok (.iconst 1, 1) := dk_4 (dk_at dksX5_fill_0 13 rfl rfl)
theorem dX5_fill_14 : decode cX5_fill 14 = .ok (.invokevirtual 81, 3) := dk_182 0 81 (dk_at dksX5_fill_0 14 rfl rfl)
theorem dX5_fill_17 : decode cX5_fill 17 = .ok (.ireturn, 1) := dk_172 (dk_at dksX5_fill_0 17 rfl rfl)
theorem dX5_fill_18 : decode cX5_fill 18 = .ok (.iconst 1, 1) := dk_4 (dk_at dksX5_fill_0 18 rfl rfl)
theorem dX5_fill_19 : decode cX5_fill 19 = .ok (.istore_n 1, 1) := dk_60 (dk_at dksX5_fill_0 19 rfl rfl)
theorem dX5_fill_20 : decode cX5_fill 20 = .ok (.iconst 0, 1) := dk_3 (dk_at dksX5_fill_0 20 rfl rfl)
theorem dX5_fill_21 : decode cX5_fill 21 = .ok (.istore_n 2, 1) := dk_61 (dk_at dksX5_fill_0 21 rfl rfl)
theorem dX5_fill_22 : decode cX5_fill 22 = .ok (.iload_n 2, 1) := dk_28 (dk_at dksX5_fill_0 22 rfl rfl)
theorem dX5_fill_23 : decode cX5_fill 23 = .ok (.bipush 7, 2) := dk_16 7 (dk_at dksX5_fill_1 0 rfl rfl)
theorem dX5_fill_25 : decode cX5_fill 25 = .ok (.if_icmp .ge 21, 3) := dk_162 0 21 (dk_at dksX5_fill_1 2 rfl rfl)
theorem dX5_fill_28 : decode cX5_fill 28 = .ok (.iload_n 1, 1) := dk_27 (dk_at dksX5_fill_1 5 rfl rfl)
theorem dX5_fill_29 : decode cX5_fill 29 = .ok (.aload_n 0, 1) := dk_42 (dk_at dksX5_fill_1 6 rfl rfl)
theorem dX5_fill_30 : decode cX5_fill 30 = .ok (.getfield 394, 3) := dk_180 1 138 (dk_at dksX5_fill_1 7 rfl rfl)
theorem dX5_fill_33 : decode cX5_fill 33 = .ok (.getfield 375, 3) := dk_180 1 119 (dk_at dksX5_fill_1 10 rfl rfl)
theorem dX5_fill_36 : decode cX5_fill 36 = .ok (.iconst 1, 1) := dk_4 (dk_at dksX5_fill_1 13 rfl rfl)
theorem dX5_fill_37 : decode cX5_fill 37 = .ok (.iadd, 1) := dk_96 (dk_at dksX5_fill_1 14 rfl rfl)
theorem dX5_fill_38 : decode cX5_fill 38 = .ok (.imul, 1) := dk_104 (dk_at dksX5_fill_1 15 rfl rfl)
theorem dX5_fill_39 : decode cX5_fill 39 = .ok (.istore_n 1, 1) := dk_60 (dk_at dksX5_fill_1 16 rfl rfl)
theorem dX5_fill_40 : decode cX5_fill 40 = .ok (.iinc 2 1, 3) := dk_132 2 1 (dk_at dksX5_fill_1 17 rfl rfl)
theorem dX5_fill_43 : decode cX5_fill 43 = .ok (.goto (-21), 3) := dk_167 255 235 (dk_at dksX5_fill_1 20 rfl rfl)
theorem dX5_fill_46 : decode cX5_fill 46 = .ok (.iconst (-1), 1) := dk_2 (dk_at dksX5_fill_1 23 rfl rfl)
theorem dX5_fill_47 : decode cX5_fill 47 = .ok (.istore_n 2, 1) := dk_61 (dk_at dksX5_fill_2 0 rfl rfl)
theorem dX5_fill_48 : decode cX5_fill 48 = .ok (.iconst 0, 1) := dk_3 (dk_at dksX5_fill_2 1 rfl rfl)
theorem dX5_fill_49 : decode cX5_fill 49 = .ok (.istore_n 3, 1) := dk_62 (dk_at dksX5_fill_2 2 rfl rfl)
theorem dX5_fill_50 : decode cX5_fill 50 = .ok (.iconst 0, 1) := dk_3 (dk_at dksX5_fill_2 3 rfl rfl)
theorem dX5_fill_51 : decode cX5_fill 51 = .ok (.istore 4, 2) := dk_54 4 (dk_at dksX5_fill_2 4 rfl rfl)
theorem dX5_fill_53 : decode cX5_fill 53 = .ok (.iload 4, 2) := dk_21 4 (dk_at dksX5_fill_2 6 rfl rfl)
theorem dX5_fill_55 : decode cX5_fill 55 = .ok (.iload_n 1, 1) := dk_27 (dk_at dksX5_fill_2 8 rfl rfl)
theorem dX5_fill_56 : decode cX5_fill 56 = .ok (.if_icmp .ge 32, 3) := dk_162 0 32 (dk_at dksX5_fill_2 9 rfl rfl)
theorem dX5_fill_59 : decode cX5_fill 59 = .ok (.aload_n 0, 1) := dk_42 (dk_at dksX5_fill_2 12 rfl rfl)
theorem dX5_fill_60 : decode cX5_fill 60 = .ok (.iload 4, 2) := dk_21 4 (dk_at dksX5_fill_2 13 rfl rfl)
theorem dX5_fill_62 : decode cX5_fill 62 = .ok (.invokevirtual 511, 3) := dk_182 1 255 (dk_at dksX5_fill_2 15 rfl rfl)
theorem dX5_fill_65 : decode cX5_fill 65 = .ok (.istore 5, 2) := dk_54 5 (dk_at dksX5_fill_2 18 rfl rfl)
theorem dX5_fill_67 : decode cX5_fill 67 = .ok (.iload 5, 2) := dk_21 5 (dk_at dksX5_fill_2 20 rfl rfl)
theorem dX5_fill_69 : decode cX5_fill 69 = .ok (.iload_n 2, 1) := dk_28 (dk_at dksX5_fill_2 22 rfl rfl)
theorem dX5_fill_70 : decode cX5_fill 70 = .ok (.if_icmp .gt 6, 3) := dk_163 0 6 (dk_at dksX5_fill_3 0 rfl rfl)
theorem dX5_fill_73 : decode cX5_fill 73 = .ok (.goto 9, 3) := dk_167 0 9 (dk_at dksX5_fill_3 3 rfl rfl)
theorem dX5_fill_76 : decode cX5_fill 76 = .ok (.iload 5, 2) := dk_21 5 (dk_at dksX5_fill_3 6 rfl rfl)
theorem dX5_fill_78 : decode cX5_fill 78 = .ok (.istore_n 2, 1) := dk_61 (dk_at dksX5_fill_3 8 rfl rfl)
theorem dX5_fill_79 : decode cX5_fill 79 = .ok (.iload 4, 2) := dk_21 4 (dk_at dksX5_fill_3 9 rfl rfl)
theorem dX5_fill_81 : decode cX5_fill 81 = .ok (.istore_n 3, 1) := dk_62 (dk_at dksX5_fill_3 11 rfl rfl)
theorem dX5_fill_82 : decode cX5_fill 82 = .ok (.iinc 4 1, 3) := dk_132 4 1 (dk_at dksX5_fill_3 12 rfl rfl)
theorem dX5_fill_85 : decode cX5_fill 85 = .ok (.goto (-32), 3) := dk_167 255 224 (dk_at dksX5_fill_3 15 rfl rfl)
theorem dX5_fill_88 : decode cX5_fill 88 = .ok (.aload_n 0, 1) := dk_42 (dk_at dksX5_fill_3 18 rfl rfl)
theorem dX5_fill_89 : decode cX5_fill 89 = .ok (.iconst 1, 1) := dk_4 (dk_at dksX5_fill_3 19 rfl rfl)
theorem dX5_fill_90 : decode cX5_fill 90 = .ok (.putfield 409, 3) := dk_181 1 153 (dk_at dksX5_fill_3 20 rfl rfl)
theorem dX5_fill_93 : decode cX5_fill 93 = .ok (.iconst 0, 1) := dk_3 (dk_at dksX5_fill_3 23 rfl rfl)
theorem dX5_fill_94 : decode cX5_fill 94 = .ok (.istore 4, 2) := dk_54 4 (dk_at dksX5_fill_4 0 rfl rfl)
theorem dX5_fill_96 : decode cX5_fill 96 = .ok (.iload 4, 2) := dk_21 4 (dk_at dksX5_fill_4 2 rfl rfl)
theorem dX5_fill_98 : decode cX5_fill 98 = .ok (.bipush 7, 2) := dk_16 7 (dk_at dksX5_fill_4 4 rfl rfl)
theorem dX5_fill_100 : decode cX5_fill 100 = .ok (.if_icmp .ge 45, 3) := dk_162 0 45 (dk_at dksX5_fill_4 6 rfl rfl)
theorem dX5_fill_103 : decode cX5_fill 103 = .ok (.aload_n 0, 1) := dk_42 (dk_at dksX5_fill_4 9 rfl rfl)
theorem dX5_fill_104 : decode cX5_fill 104 = .ok (.getfield 54, 3) := dk_180 0 54 (dk_at dksX5_fill_4 10 rfl rfl)
theorem dX5_fill_107 : decode cX5_fill 107 = .ok (.iload 4, 2) := dk_21 4 (dk_at dksX5_fill_4 13 rfl rfl)
theorem dX5_fill_109 : decode cX5_fill 109 = .ok (.aload_n 0, 1) := dk_42 (dk_at dksX5_fill_4 15 rfl rfl)
theorem dX5_fill_110 : decode cX5_fill 110 = .ok (.iload_n 3, 1) := dk_29 (dk_at dksX5_fill_4 16 rfl rfl)
theorem dX5_fill_111 : decode cX5_fill 111 = .ok (.iload 4, 2) := dk_21 4 (dk_at dksX5_fill_4 17 rfl rfl)
theorem dX5_fill_113 : decode cX5_fill 113 = .ok (.invokevirtual 508, 3) := dk_182 1 252 (dk_at dksX5_fill_4 19 rfl rfl)
theorem dX5_fill_116 : decode cX5_fill 116 = .ok (.aload_n 0, 1) := dk_42 (dk_at dksX5_fill_4 22 rfl rfl)
theorem dX5_fill_117 : decode cX5_fill 117 = .ok (.getfield 394, 3) := dk_180 1 138 (dk_at dksX5_fill_5 0 rfl rfl)
theorem dX5_fill_120 : decode cX5_fill 120 = .ok (.getfield 375, 3) := dk_180 1 119 (dk_at dksX5_fill_5 3 rfl rfl)
theorem dX5_fill_123 : decode cX5_fill 123 = .ok (.if_icmp .ne 8, 3) := dk_160 0 8 (dk_at dksX5_fill_5 6 rfl rfl)
theorem dX5_fill_126 : decode cX5_fill 126 = .ok (.bipush (-2), 2) := dk_16 254 (dk_at dksX5_fill_5 9 rfl rfl)
theorem dX5_fill_128 : decode cX5_fill 128 = .ok (.goto 10, 3) := dk_167 0 10 (dk_at dksX5_fill_5 11 rfl rfl)
theorem dX5_fill_131 : decode cX5_fill 131 = .ok (.aload_n 0, 1) := dk_42 (dk_at dksX5_fill_5 14 rfl rfl)
theorem dX5_fill_132 : decode cX5_fill 132 = .ok (.iload_n 3, 1) := dk_29 (dk_at dksX5_fill_5 15 rfl rfl)
theorem dX5_fill_133 : decode cX5_fill 133 = .ok (.iload 4, 2) := dk_21 4 (dk_at dksX5_fill_5 16 rfl rfl)
theorem dX5_fill_135 : decode cX5_fill 135 = .ok (.invokevirtual 508, 3) := dk_182 1 252 (dk_at dksX5_fill_5 18 rfl rfl)
theorem dX5_fill_138 : decode cX5_fill 138 = .ok (.iastore, 1) := dk_79 (dk_at dksX5_fill_5 21 rfl rfl)
theorem dX5_fill_139 : decode cX5_fill 139 = .ok (.iinc 4 1, 3) := dk_132 4 1 (dk_at dksX5_fill_6 0 rfl rfl)
theorem dX5_fill_142 : decode cX5_fill 142 = .ok (.goto (-46), 3) := dk_167 255 210 (dk_at dksX5_fill_6 3 rfl rfl)
theorem dX5_fill_145 : decode cX5_fill 145 = .ok (.aload_n 0, 1) := dk_42 (dk_at dksX5_fill_6 6 rfl rfl)
theorem dX5_fill_146 : decode cX5_fill 146 = .ok (.iload_n 2, 1) := dk_28 (dk_at dksX5_fill_6 7 rfl rfl)
theorem dX5_fill_147 : decode cX5_fill 147 = .ok (.bipush 8, 2) := dk_16 8 (dk_at dksX5_fill_6 8 rfl rfl)
theorem dX5_fill_149 : decode cX5_fill 149 = .ok (.idiv, 1) := dk_108 (dk_at dksX5_fill_6 10 rfl rfl)
theorem dX5_fill_150 : decode cX5_fill 150 = .ok (.invokevirtual 416, 3) := dk_182 1 160 (dk_at dksX5_fill_6 11 rfl rfl)
theorem dX5_fill_153 : decode cX5_fill 153 = .ok (.ireturn, 1) := dk_172 (dk_at dksX5_fill_6 14 rfl rfl)
abbrev cX5_worthOf : ByteArray := prog_15_method_82_code
def yX5_worthOf : MethodName := ⟨RX5, "worthOf", "(I)I"⟩
def dkwX5_worthOf_6 : List UInt8 := [167, 0, 4, 29, 62, 132, 4, 1, 167, 255, 145, 16, 8, 28, 104, 16, 7, 96, 29, 100, 172]
abbrev dktX5_worthOf_6 : List UInt8 := dkwX5_worthOf_6 ++ []
def dkwX5_worthOf_5 : List UInt8 := [172, 132, 2, 1, 42, 180, 0, 57, 21, 5, 46, 29, 164, 0, 13, 42, 180, 0, 57, 21, 5, 46]
abbrev dktX5_worthOf_5 : List UInt8 := dkwX5_worthOf_5 ++ dktX5_worthOf_6
def dkwX5_worthOf_4 : List UInt8 := [153, 0, 23, 42, 180, 0, 57, 21, 5, 46, 42, 180, 1, 138, 180, 1, 129, 21, 5, 46, 164, 0, 5, 2]
abbrev dktX5_worthOf_4 : List UInt8 := dkwX5_worthOf_4 ++ dktX5_worthOf_5
def dkwX5_worthOf_3 : List UInt8 := [21, 5, 92, 46, 4, 96, 79, 42, 180, 1, 138, 180, 1, 126, 21, 5, 46, 21, 4, 184, 1, 184]
abbrev dktX5_worthOf_3 : List UInt8 := dkwX5_worthOf_3 ++ dktX5_worthOf_4
def dkwX5_worthOf_2 : List UInt8 := [182, 1, 252, 54, 5, 21, 5, 42, 180, 1, 138, 180, 1, 119, 160, 0, 6, 167, 0, 80, 42, 180, 0, 57]
abbrev dktX5_worthOf_2 : List UInt8 := dkwX5_worthOf_2 ++ dktX5_worthOf_3
def dkwX5_worthOf_1 : List UInt8 := [21, 4, 3, 79, 132, 4, 1, 167, 255, 233, 3, 54, 4, 21, 4, 16, 7, 162, 0, 110, 42, 27, 21, 4]
abbrev dktX5_worthOf_1 : List UInt8 := dkwX5_worthOf_1 ++ dktX5_worthOf_2
def dkwX5_worthOf_0 : List UInt8 := [3, 61, 3, 62, 3, 54, 4, 21, 4, 42, 180, 1, 138, 180, 1, 119, 163, 0, 17, 42, 180, 0, 57]
abbrev dktX5_worthOf_0 : List UInt8 := dkwX5_worthOf_0 ++ dktX5_worthOf_1
theorem dksX5_worthOf_0 : cX5_worthOf.data.toList.drop 0 = dktX5_worthOf_0 := by decide +kernel
theorem dksX5_worthOf_1 : cX5_worthOf.data.toList.drop 23 = dktX5_worthOf_1 := dk_seg dksX5_worthOf_0 23 rfl rfl
theorem dksX5_worthOf_2 : cX5_worthOf.data.toList.drop 47 = dktX5_worthOf_2 := dk_seg dksX5_worthOf_1 24 rfl rfl
theorem dksX5_worthOf_3 : cX5_worthOf.data.toList.drop 71 = dktX5_worthOf_3 := dk_seg dksX5_worthOf_2 24 rfl rfl
theorem dksX5_worthOf_4 : cX5_worthOf.data.toList.drop 93 = dktX5_worthOf_4 := dk_seg dksX5_worthOf_3 22 rfl rfl
theorem dksX5_worthOf_5 : cX5_worthOf.data.toList.drop 117 = dktX5_worthOf_5 := dk_seg dksX5_worthOf_4 24 rfl rfl
theorem dksX5_worthOf_6 : cX5_worthOf.data.toList.drop 139 = dktX5_worthOf_6 := dk_seg dksX5_worthOf_5 22 rfl rfl
theorem dX5_worthOf_0 : decode cX5_worthOf 0 = .ok (.iconst 0, 1) := dk_3 (dk_at dksX5_worthOf_0 0 rfl rfl)
theorem dX5_worthOf_1 : decode cX5_worthOf 1 = .ok (.istore_n 2, 1) := dk_61 (dk_at dksX5_worthOf_0 1 rfl rfl)
theorem dX5_worthOf_2 : decode cX5_worthOf 2 = .ok (.iconst 0, 1) := dk_3 (dk_at dksX5_worthOf_0 2 rfl rfl)
theorem dX5_worthOf_3 : decode cX5_worthOf 3 = .ok (.istore_n 3, 1) := dk_62 (dk_at dksX5_worthOf_0 3 rfl rfl)
theorem dX5_worthOf_4 : decode cX5_worthOf 4 = .ok (.iconst 0, 1) := dk_3 (dk_at dksX5_worthOf_0 4 rfl rfl)
theorem dX5_worthOf_5 : decode cX5_worthOf 5 = .ok (.istore 4, 2) := dk_54 4 (dk_at dksX5_worthOf_0 5 rfl rfl)
theorem dX5_worthOf_7 : decode cX5_worthOf 7 = .ok (.iload 4, 2) := dk_21 4 (dk_at dksX5_worthOf_0 7 rfl rfl)
theorem dX5_worthOf_9 : decode cX5_worthOf 9 = .ok (.aload_n 0, 1) := dk_42 (dk_at dksX5_worthOf_0 9 rfl rfl)
theorem dX5_worthOf_10 : decode cX5_worthOf 10 = .ok (.getfield 394, 3) := dk_180 1 138 (dk_at dksX5_worthOf_0 10 rfl rfl)
theorem dX5_worthOf_13 : decode cX5_worthOf 13 = .ok (.getfield 375, 3) := dk_180 1 119 (dk_at dksX5_worthOf_0 13 rfl rfl)
theorem dX5_worthOf_16 : decode cX5_worthOf 16 = .ok (.if_icmp .gt 17, 3) := dk_163 0 17 (dk_at dksX5_worthOf_0 16 rfl rfl)
theorem dX5_worthOf_19 : decode cX5_worthOf 19 = .ok (.aload_n 0, 1) := dk_42 (dk_at dksX5_worthOf_0 19 rfl rfl)
theorem dX5_worthOf_20 : decode cX5_worthOf 20 = .ok (.getfield 57, 3) := dk_180 0 57 (dk_at dksX5_worthOf_0 20 rfl rfl)
theorem dX5_worthOf_23 : decode cX5_worthOf 23 = .ok (.iload 4, 2) := dk_21 4 (dk_at dksX5_worthOf_1 0 rfl rfl)
theorem dX5_worthOf_25 : decode cX5_worthOf 25 = .ok (.iconst 0, 1) := dk_3 (dk_at dksX5_worthOf_1 2 rfl rfl)
theorem dX5_worthOf_26 : decode cX5_worthOf 26 = .ok (.iastore, 1) := dk_79 (dk_at dksX5_worthOf_1 3 rfl rfl)
theorem dX5_worthOf_27 : decode cX5_worthOf 27 = .ok (.iinc 4 1, 3) := dk_132 4 1 (dk_at dksX5_worthOf_1 4 rfl rfl)
theorem dX5_worthOf_30 : decode cX5_worthOf 30 = .ok (.goto (-23), 3) := dk_167 255 233 (dk_at dksX5_worthOf_1 7 rfl rfl)
theorem dX5_worthOf_33 : decode cX5_worthOf 33 = .ok (.iconst 0, 1) := dk_3 (dk_at dksX5_worthOf_1 10 rfl rfl)
theorem dX5_worthOf_34 : decode cX5_worthOf 34 = .ok (.istore 4, 2) := dk_54 4 (dk_at dksX5_worthOf_1 11 rfl rfl)
theorem dX5_worthOf_36 : decode cX5_worthOf 36 = .ok (.iload 4, 2) := dk_21 4 (dk_at dksX5_worthOf_1 13 rfl rfl)
theorem dX5_worthOf_38 : decode cX5_worthOf 38 = .ok (.bipush 7, 2) := dk_16 7 (dk_at dksX5_worthOf_1 15 rfl rfl)
theorem dX5_worthOf_40 : decode cX5_worthOf 40 = .ok (.if_icmp .ge 110, 3) := dk_162 0 110 (dk_at dksX5_worthOf_1 17 rfl rfl)
theorem dX5_worthOf_43 : decode cX5_worthOf 43 = .ok (.aload_n 0, 1) := dk_42 (dk_at dksX5_worthOf_1 20 rfl rfl)
theorem dX5_worthOf_44 : decode cX5_worthOf 44 = .ok (.iload_n 1, 1) := dk_27 (dk_at dksX5_worthOf_1 21 rfl rfl)
theorem dX5_worthOf_45 : decode cX5_worthOf 45 = .ok (.iload 4, 2) := dk_21 4 (dk_at dksX5_worthOf_1 22 rfl rfl)
theorem dX5_worthOf_47 : decode cX5_worthOf 47 = .ok (.invokevirtual 508, 3) := dk_182 1 252 (dk_at dksX5_worthOf_2 0 rfl rfl)
theorem dX5_worthOf_50 : decode cX5_worthOf 50 = .ok (.istore 5, 2) := dk_54 5 (dk_at dksX5_worthOf_2 3 rfl rfl)
theorem dX5_worthOf_52 : decode cX5_worthOf 52 = .ok (.iload 5, 2) := dk_21 5 (dk_at dksX5_worthOf_2 5 rfl rfl)
theorem dX5_worthOf_54 : decode cX5_worthOf 54 = .ok (.aload_n 0, 1) := dk_42 (dk_at dksX5_worthOf_2 7 rfl rfl)
theorem dX5_worthOf_55 : decode cX5_worthOf 55 = .ok (.getfield 394, 3) := dk_180 1 138 (dk_at dksX5_worthOf_2 8 rfl rfl)
theorem dX5_worthOf_58 : decode cX5_worthOf 58 = .ok (.getfield 375, 3) := dk_180 1 119 (dk_at dksX5_worthOf_2 11 rfl rfl)
theorem dX5_worthOf_61 : decode cX5_worthOf 61 = .ok (.if_icmp .ne 6, 3) := dk_160 0 6 (dk_at dksX5_worthOf_2 14 rfl rfl)
theorem dX5_worthOf_64 : decode cX5_worthOf 64 = .ok (.goto 80, 3) := dk_167 0 80 (dk_at dksX5_worthOf_2 17 rfl rfl)
theorem dX5_worthOf_67 : decode cX5_worthOf 67 = .ok (.aload_n 0, 1) := dk_42 (dk_at dksX5_worthOf_2 20 rfl rfl)
theorem dX5_worthOf_68 : decode cX5_worthOf 68 = .ok (.getfield 57, 3) := dk_180 0 57 (dk_at dksX5_worthOf_2 21 rfl rfl)
theorem dX5_worthOf_71 : decode cX5_worthOf 71 = .ok (.iload 5, 2) := dk_21 5 (dk_at dksX5_worthOf_3 0 rfl rfl)
theorem dX5_worthOf_73 : decode cX5_worthOf 73 = .ok (.dup2, 1) := dk_92 (dk_at dksX5_worthOf_3 2 rfl rfl)
theorem dX5_worthOf_74 : decode cX5_worthOf 74 = .ok (.iaload, 1) := dk_46 (dk_at dksX5_worthOf_3 3 rfl rfl)
theorem dX5_worthOf_75 : decode cX5_worthOf 75 = .ok (.iconst 1, 1) := dk_4 (dk_at dksX5_worthOf_3 4 rfl rfl)
theorem dX5_worthOf_76 : decode cX5_worthOf 76 = .ok (.iadd, 1) := dk_96 (dk_at dksX5_worthOf_3 5 rfl rfl)
theorem dX5_worthOf_77 : decode cX5_worthOf 77 = .ok (.iastore, 1) := dk_79 (dk_at dksX5_worthOf_3 6 rfl rfl)
theorem dX5_worthOf_78 : decode cX5_worthOf 78 = .ok (.aload_n 0, 1) := dk_42 (dk_at dksX5_worthOf_3 7 rfl rfl)
theorem dX5_worthOf_79 : decode cX5_worthOf 79 = .ok (.getfield 394, 3) := dk_180 1 138 (dk_at dksX5_worthOf_3 8 rfl rfl)
theorem dX5_worthOf_82 : decode cX5_worthOf 82 = .ok (.getfield 382, 3) := dk_180 1 126 (dk_at dksX5_worthOf_3 11 rfl rfl)
theorem dX5_worthOf_85 : decode cX5_worthOf 85 = .ok (.iload 5, 2) := dk_21 5 (dk_at dksX5_worthOf_3 14 rfl rfl)
theorem dX5_worthOf_87 : decode cX5_worthOf 87 = .ok (.iaload, 1) := dk_46 (dk_at dksX5_worthOf_3 16 rfl rfl)
theorem dX5_worthOf_88 : decode cX5_worthOf 88 = .ok (.iload 4, 2) := dk_21 4 (dk_at dksX5_worthOf_3 17 rfl rfl)
theorem dX5_worthOf_90 : decode cX5_worthOf 90 = .ok (.invokestatic 440, 3) := dk_184 1 184 (dk_at dksX5_worthOf_3 19 rfl rfl)
theorem dX5_worthOf_93 : decode cX5_worthOf 93 = .ok (.ifCond .eq 23, 3) := dk_153 0 23 (dk_at dksX5_worthOf_4 0 rfl rfl)
theorem dX5_worthOf_96 : decode cX5_worthOf 96 = .ok (.aload_n 0, 1) := dk_42 (dk_at dksX5_worthOf_4 3 rfl rfl)
theorem dX5_worthOf_97 : decode cX5_worthOf 97 = .ok (.getfield 57, 3) := dk_180 0 57 (dk_at dksX5_worthOf_4 4 rfl rfl)
theorem dX5_worthOf_100 : decode cX5_worthOf 100 = .ok (.iload 5, 2) := dk_21 5 (dk_at dksX5_worthOf_4 7 rfl rfl)
theorem dX5_worthOf_102 : decode cX5_worthOf 102 = .ok (.iaload, 1) := dk_46 (dk_at dksX5_worthOf_4 9 rfl rfl)
theorem dX5_worthOf_103 : decode cX5_worthOf 103 = .ok (.aload_n 0, 1) := dk_42 (dk_at dksX5_worthOf_4 10 rfl rfl)
theorem dX5_worthOf_104 : decode cX5_worthOf 104 = .ok (.getfield 394, 3) := dk_180 1 138 (dk_at dksX5_worthOf_4 11 rfl rfl)
theorem dX5_worthOf_107 : decode cX5_worthOf 107 = .ok (.getfield 385, 3) := dk_180 1 129 (dk_at dksX5_worthOf_4 14 rfl rfl)
theorem dX5_worthOf_110 : decode cX5_worthOf 110 = .ok (.iload 5, 2) := dk_21 5 (dk_at dksX5_worthOf_4 17 rfl rfl)
theorem dX5_worthOf_112 : decode cX5_worthOf 112 = .ok (.iaload, 1) := dk_46 (dk_at dksX5_worthOf_4 19 rfl rfl)
theorem dX5_worthOf_113 : decode cX5_worthOf 113 = .ok (.if_icmp .le 5, 3) := dk_164 0 5 (dk_at dksX5_worthOf_4 20 rfl rfl)
theorem dX5_worthOf_116 : decode cX5_worthOf 116 = .ok (.iconst (-1), 1) := dk_2 (dk_at dksX5_worthOf_4 23 rfl rfl)
theorem dX5_worthOf_117 : decode cX5_worthOf 117 = .ok (.ireturn, 1) := dk_172 (dk_at dksX5_worthOf_5 0 rfl rfl)
theorem dX5_worthOf_118 : decode cX5_worthOf 118 = .ok (.iinc 2 1, 3) := dk_132 2 1 (dk_at dksX5_worthOf_5 1 rfl rfl)
theorem dX5_worthOf_121 : decode cX5_worthOf 121 = .ok (.aload_n 0, 1) := dk_42 (dk_at dksX5_worthOf_5 4 rfl rfl)
theorem dX5_worthOf_122 : decode cX5_worthOf 122 = .ok (.getfield 57, 3) := dk_180 0 57 (dk_at dksX5_worthOf_5 5 rfl rfl)
theorem dX5_worthOf_125 : decode cX5_worthOf 125 = .ok (.iload 5, 2) := dk_21 5 (dk_at dksX5_worthOf_5 8 rfl rfl)
theorem dX5_worthOf_127 : decode cX5_worthOf 127 = .ok (.iaload, 1) := dk_46 (dk_at dksX5_worthOf_5 10 rfl rfl)
theorem dX5_worthOf_128 : decode cX5_worthOf 128 = .ok (.iload_n 3, 1) := dk_29 (dk_at dksX5_worthOf_5 11 rfl rfl)
theorem dX5_worthOf_129 : decode cX5_worthOf 129 = .ok (.if_icmp .le 13, 3) := dk_164 0 13 (dk_at dksX5_worthOf_5 12 rfl rfl)
theorem dX5_worthOf_132 : decode cX5_worthOf 132 = .ok (.aload_n 0, 1) := dk_42 (dk_at dksX5_worthOf_5 15 rfl rfl)
theorem dX5_worthOf_133 : decode cX5_worthOf 133 = .ok (.getfield 57, 3) := dk_180 0 57 (dk_at dksX5_worthOf_5 16 rfl rfl)
theorem dX5_worthOf_136 : decode cX5_worthOf 136 = .ok (.iload 5, 2) := dk_21 5 (dk_at dksX5_worthOf_5 19 rfl rfl)
theorem dX5_worthOf_138 : decode cX5_worthOf 138 = .ok (.iaload, 1) := dk_46 (dk_at dksX5_worthOf_5 21 rfl rfl)
theorem dX5_worthOf_139 : decode cX5_worthOf 139 = .ok (.goto 4, 3) := dk_167 0 4 (dk_at dksX5_worthOf_6 0 rfl rfl)
theorem dX5_worthOf_142 : decode cX5_worthOf 142 = .ok (.iload_n 3, 1) := dk_29 (dk_at dksX5_worthOf_6 3 rfl rfl)
theorem dX5_worthOf_143 : decode cX5_worthOf 143 = .ok (.istore_n 3, 1) := dk_62 (dk_at dksX5_worthOf_6 4 rfl rfl)
theorem dX5_worthOf_144 : decode cX5_worthOf 144 = .ok (.iinc 4 1, 3) := dk_132 4 1 (dk_at dksX5_worthOf_6 5 rfl rfl)
theorem dX5_worthOf_147 : decode cX5_worthOf 147 = .ok (.goto (-111), 3) := dk_167 255 145 (dk_at dksX5_worthOf_6 8 rfl rfl)
theorem dX5_worthOf_150 : decode cX5_worthOf 150 = .ok (.bipush 8, 2) := dk_16 8 (dk_at dksX5_worthOf_6 11 rfl rfl)
theorem dX5_worthOf_152 : decode cX5_worthOf 152 = .ok (.iload_n 2, 1) := dk_28 (dk_at dksX5_worthOf_6 13 rfl rfl)
theorem dX5_worthOf_153 : decode cX5_worthOf 153 = .ok (.imul, 1) := dk_104 (dk_at dksX5_worthOf_6 14 rfl rfl)
theorem dX5_worthOf_154 : decode cX5_worthOf 154 = .ok (.bipush 7, 2) := dk_16 7 (dk_at dksX5_worthOf_6 15 rfl rfl)
theorem dX5_worthOf_156 : decode cX5_worthOf 156 = .ok (.iadd, 1) := dk_96 (dk_at dksX5_worthOf_6 17 rfl rfl)
theorem dX5_worthOf_157 : decode cX5_worthOf 157 = .ok (.iload_n 3, 1) := dk_29 (dk_at dksX5_worthOf_6 18 rfl rfl)
theorem dX5_worthOf_158 : decode cX5_worthOf 158 = .ok (.isub, 1) := dk_100 (dk_at dksX5_worthOf_6 19 rfl rfl)
theorem dX5_worthOf_159 : decode cX5_worthOf 159 = .ok (.ireturn, 1) := dk_172 (dk_at dksX5_worthOf_6 20 rfl rfl)
abbrev cX5_whoOf : ByteArray := prog_15_method_81_code
def yX5_whoOf : MethodName := ⟨RX5, "whoOf", "(II)I"⟩
def dkwX5_whoOf_1 : List UInt8 := [132, 4, 255, 167, 255, 235, 29, 42, 180, 1, 138, 180, 1, 119, 4, 96, 112, 172]
abbrev dktX5_whoOf_1 : List UInt8 := dkwX5_whoOf_1 ++ []
def dkwX5_whoOf_0 : List UInt8 := [27, 62, 16, 6, 54, 4, 21, 4, 28, 164, 0, 21, 29, 42, 180, 1, 138, 180, 1, 119, 4, 96, 108, 62]
abbrev dktX5_whoOf_0 : List UInt8 := dkwX5_whoOf_0 ++ dktX5_whoOf_1
theorem dksX5_whoOf_0 : cX5_whoOf.data.toList.drop 0 = dktX5_whoOf_0 := by decide +kernel
theorem dksX5_whoOf_1 : cX5_whoOf.data.toList.drop 24 = dktX5_whoOf_1 := dk_seg dksX5_whoOf_0 24 rfl rfl
theorem dX5_whoOf_0 : decode cX5_whoOf 0 = .ok (.iload_n 1, 1) := dk_27 (dk_at dksX5_whoOf_0 0 rfl rfl)
theorem dX5_whoOf_1 : decode cX5_whoOf 1 = .ok (.istore_n 3, 1) := dk_62 (dk_at dksX5_whoOf_0 1 rfl rfl)
theorem dX5_whoOf_2 : decode cX5_whoOf 2 = .ok (.bipush 6, 2) := dk_16 6 (dk_at dksX5_whoOf_0 2 rfl rfl)
theorem dX5_whoOf_4 : decode cX5_whoOf 4 = .ok (.istore 4, 2) := dk_54 4 (dk_at dksX5_whoOf_0 4 rfl rfl)
theorem dX5_whoOf_6 : decode cX5_whoOf 6 = .ok (.iload 4, 2) := dk_21 4 (dk_at dksX5_whoOf_0 6 rfl rfl)
theorem dX5_whoOf_8 : decode cX5_whoOf 8 = .ok (.iload_n 2, 1) := dk_28 (dk_at dksX5_whoOf_0 8 rfl rfl)
theorem dX5_whoOf_9 : decode cX5_whoOf 9 = .ok (.if_icmp .le 21, 3) := dk_164 0 21 (dk_at dksX5_whoOf_0 9 rfl rfl)
theorem dX5_whoOf_12 : decode cX5_whoOf 12 = .ok (.iload_n 3, 1) := dk_29 (dk_at dksX5_whoOf_0 12 rfl rfl)
theorem dX5_whoOf_13 : decode cX5_whoOf 13 = .ok (.aload_n 0, 1) := dk_42 (dk_at dksX5_whoOf_0 13 rfl rfl)
theorem dX5_whoOf_14 : decode cX5_whoOf 14 = .ok (.getfield 394, 3) := dk_180 1 138 (dk_at dksX5_whoOf_0 14 rfl rfl)
theorem dX5_whoOf_17 : decode cX5_whoOf 17 = .ok (.getfield 375, 3) := dk_180 1 119 (dk_at dksX5_whoOf_0 17 rfl rfl)
theorem dX5_whoOf_20 : decode cX5_whoOf 20 = .ok (.iconst 1, 1) := dk_4 (dk_at dksX5_whoOf_0 20 rfl rfl)
theorem dX5_whoOf_21 : decode cX5_whoOf 21 = .ok (.iadd, 1) := dk_96 (dk_at dksX5_whoOf_0 21 rfl rfl)
theorem dX5_whoOf_22 : decode cX5_whoOf 22 = .ok (.idiv, 1) := dk_108 (dk_at dksX5_whoOf_0 22 rfl rfl)
theorem dX5_whoOf_23 : decode cX5_whoOf 23 = .ok (.istore_n 3, 1) := dk_62 (dk_at dksX5_whoOf_0 23 rfl rfl)
theorem dX5_whoOf_24 : decode cX5_whoOf 24 = .ok (.iinc 4 (-1), 3) := dk_132 4 255 (dk_at dksX5_whoOf_1 0 rfl rfl)
theorem dX5_whoOf_27 : decode cX5_whoOf 27 = .ok (.goto (-21), 3) := dk_167 255 235 (dk_at dksX5_whoOf_1 3 rfl rfl)
theorem dX5_whoOf_30 : decode cX5_whoOf 30 = .ok (.iload_n 3, 1) := dk_29 (dk_at dksX5_whoOf_1 6 rfl rfl)
theorem dX5_whoOf_31 : decode cX5_whoOf 31 = .ok (.aload_n 0, 1) := dk_42 (dk_at dksX5_whoOf_1 7 rfl rfl)
theorem dX5_whoOf_32 : decode cX5_whoOf 32 = .ok (.getfield 394, 3) := dk_180 1 138 (dk_at dksX5_whoOf_1 8 rfl rfl)
theorem dX5_whoOf_35 : decode cX5_whoOf 35 = .ok (.getfield 375, 3) := dk_180 1 119 (dk_at dksX5_whoOf_1 11 rfl rfl)
theorem dX5_whoOf_38 : decode cX5_whoOf 38 = .ok (.iconst 1, 1) := dk_4 (dk_at dksX5_whoOf_1 14 rfl rfl)
theorem dX5_whoOf_39 : decode cX5_whoOf 39 = .ok (.iadd, 1) := dk_96 (dk_at dksX5_whoOf_1 15 rfl rfl)
theorem dX5_whoOf_40 : decode cX5_whoOf 40 = .ok (.irem, 1) := dk_112 (dk_at dksX5_whoOf_1 16 rfl rfl)
theorem dX5_whoOf_41 : decode cX5_whoOf 41 = .ok (.ireturn, 1) := dk_172 (dk_at dksX5_whoOf_1 17 rfl rfl)
abbrev cX5_helper : ByteArray := prog_15_method_84_code
def yX5_helper : MethodName := ⟨RX5, "helper", "(I)I"⟩
def dkwX5_helper_1 : List UInt8 := [180, 0, 54, 27, 46, 167, 0, 4, 2, 172]
abbrev dktX5_helper_1 : List UInt8 := dkwX5_helper_1 ++ []
def dkwX5_helper_0 : List UInt8 := [42, 3, 181, 0, 75, 42, 180, 1, 153, 153, 0, 22, 27, 3, 16, 6, 184, 0, 153, 153, 0, 12, 42]
abbrev dktX5_helper_0 : List UInt8 := dkwX5_helper_0 ++ dktX5_helper_1
theorem dksX5_helper_0 : cX5_helper.data.toList.drop 0 = dktX5_helper_0 := by decide +kernel
theorem dksX5_helper_1 : cX5_helper.data.toList.drop 23 = dktX5_helper_1 := dk_seg dksX5_helper_0 23 rfl rfl
theorem dX5_helper_0 : decode cX5_helper 0 = .ok (.aload_n 0, 1) := dk_42 (dk_at dksX5_helper_0 0 rfl rfl)
theorem dX5_helper_1 : decode cX5_helper 1 = .ok (.iconst 0, 1) := dk_3 (dk_at dksX5_helper_0 1 rfl rfl)
theorem dX5_helper_2 : decode cX5_helper 2 = .ok (.putfield 75, 3) := dk_181 0 75 (dk_at dksX5_helper_0 2 rfl rfl)
theorem dX5_helper_5 : decode cX5_helper 5 = .ok (.aload_n 0, 1) := dk_42 (dk_at dksX5_helper_0 5 rfl rfl)
theorem dX5_helper_6 : decode cX5_helper 6 = .ok (.getfield 409, 3) := dk_180 1 153 (dk_at dksX5_helper_0 6 rfl rfl)
theorem dX5_helper_9 : decode cX5_helper 9 = .ok (.ifCond .eq 22, 3) := dk_153 0 22 (dk_at dksX5_helper_0 9 rfl rfl)
theorem dX5_helper_12 : decode cX5_helper 12 = .ok (.iload_n 1, 1) := dk_27 (dk_at dksX5_helper_0 12 rfl rfl)
theorem dX5_helper_13 : decode cX5_helper 13 = .ok (.iconst 0, 1) := dk_3 (dk_at dksX5_helper_0 13 rfl rfl)
theorem dX5_helper_14 : decode cX5_helper 14 = .ok (.bipush 6, 2) := dk_16 6 (dk_at dksX5_helper_0 14 rfl rfl)
theorem dX5_helper_16 : decode cX5_helper 16 = .ok (.invokestatic 153, 3) := dk_184 0 153 (dk_at dksX5_helper_0 16 rfl rfl)
theorem dX5_helper_19 : decode cX5_helper 19 = .ok (.ifCond .eq 12, 3) := dk_153 0 12 (dk_at dksX5_helper_0 19 rfl rfl)
theorem dX5_helper_22 : decode cX5_helper 22 = .ok (.aload_n 0, 1) := dk_42 (dk_at dksX5_helper_0 22 rfl rfl)
theorem dX5_helper_23 : decode cX5_helper 23 = .ok (.getfield 54, 3) := dk_180 0 54 (dk_at dksX5_helper_1 0 rfl rfl)
theorem dX5_helper_26 : decode cX5_helper 26 = .ok (.iload_n 1, 1) := dk_27 (dk_at dksX5_helper_1 3 rfl rfl)
theorem dX5_helper_27 : decode cX5_helper 27 = .ok (.iaload, 1) := dk_46 (dk_at dksX5_helper_1 4 rfl rfl)
theorem dX5_helper_28 : decode cX5_helper 28 = .ok (.goto 4, 3) := dk_167 0 4 (dk_at dksX5_helper_1 5 rfl rfl)
theorem dX5_helper_31 : decode cX5_helper 31 = .ok (.iconst (-1), 1) := dk_2 (dk_at dksX5_helper_1 8 rfl rfl)
theorem dX5_helper_32 : decode cX5_helper 32 = .ok (.ireturn, 1) := dk_172 (dk_at dksX5_helper_1 9 rfl rfl)
abbrev cX5_sign : ByteArray := prog_15_method_85_code
def yX5_sign : MethodName := ⟨RX5, "sign", "(II)I"⟩
def dkwX5_sign_3 : List UInt8 := [180, 0, 60, 27, 92, 46, 4, 96, 79, 42, 42, 180, 0, 60, 27, 46, 182, 1, 160, 172]
abbrev dktX5_sign_3 : List UInt8 := dkwX5_sign_3 ++ []
def dkwX5_sign_2 : List UInt8 := [6, 182, 0, 81, 172, 42, 180, 0, 63, 16, 10, 27, 104, 42, 180, 0, 60, 27, 46, 96, 28, 79, 42]
abbrev dktX5_sign_2 : List UInt8 := dkwX5_sign_2 ++ dktX5_sign_3
def dkwX5_sign_1 : List UInt8 := [184, 0, 153, 154, 0, 9, 42, 5, 182, 0, 81, 172, 42, 180, 0, 60, 27, 46, 16, 10, 160, 0, 9, 42]
abbrev dktX5_sign_1 : List UInt8 := dkwX5_sign_1 ++ dktX5_sign_2
def dkwX5_sign_0 : List UInt8 := [42, 3, 181, 0, 75, 42, 27, 182, 1, 166, 154, 0, 9, 42, 4, 182, 0, 81, 172, 28, 3, 16, 99]
abbrev dktX5_sign_0 : List UInt8 := dkwX5_sign_0 ++ dktX5_sign_1
theorem dksX5_sign_0 : cX5_sign.data.toList.drop 0 = dktX5_sign_0 := by decide +kernel
theorem dksX5_sign_1 : cX5_sign.data.toList.drop 23 = dktX5_sign_1 := dk_seg dksX5_sign_0 23 rfl rfl
theorem dksX5_sign_2 : cX5_sign.data.toList.drop 47 = dktX5_sign_2 := dk_seg dksX5_sign_1 24 rfl rfl
theorem dksX5_sign_3 : cX5_sign.data.toList.drop 70 = dktX5_sign_3 := dk_seg dksX5_sign_2 23 rfl rfl
theorem dX5_sign_0 : decode cX5_sign 0 = .ok (.aload_n 0, 1) := dk_42 (dk_at dksX5_sign_0 0 rfl rfl)
theorem dX5_sign_1 : decode cX5_sign 1 = .ok (.iconst 0, 1) := dk_3 (dk_at dksX5_sign_0 1 rfl rfl)
theorem dX5_sign_2 : decode cX5_sign 2 = .ok (.putfield 75, 3) := dk_181 0 75 (dk_at dksX5_sign_0 2 rfl rfl)
theorem dX5_sign_5 : decode cX5_sign 5 = .ok (.aload_n 0, 1) := dk_42 (dk_at dksX5_sign_0 5 rfl rfl)
theorem dX5_sign_6 : decode cX5_sign 6 = .ok (.iload_n 1, 1) := dk_27 (dk_at dksX5_sign_0 6 rfl rfl)
theorem dX5_sign_7 : decode cX5_sign 7 = .ok (.invokevirtual 422, 3) := dk_182 1 166 (dk_at dksX5_sign_0 7 rfl rfl)
theorem dX5_sign_10 : decode cX5_sign 10 = .ok (.ifCond .ne 9, 3) := dk_154 0 9 (dk_at dksX5_sign_0 10 rfl rfl)
theorem dX5_sign_13 : decode cX5_sign 13 = .ok (.aload_n 0, 1) := dk_42 (dk_at dksX5_sign_0 13 rfl rfl)
theorem dX5_sign_14 : decode cX5_sign 14 = .ok (.iconst 1, 1) := dk_4 (dk_at dksX5_sign_0 14 rfl rfl)
theorem dX5_sign_15 : decode cX5_sign 15 = .ok (.invokevirtual 81, 3) := dk_182 0 81 (dk_at dksX5_sign_0 15 rfl rfl)
theorem dX5_sign_18 : decode cX5_sign 18 = .ok (.ireturn, 1) := dk_172 (dk_at dksX5_sign_0 18 rfl rfl)
theorem dX5_sign_19 : decode cX5_sign 19 = .ok (.iload_n 2, 1) := dk_28 (dk_at dksX5_sign_0 19 rfl rfl)
theorem dX5_sign_20 : decode cX5_sign 20 = .ok (.iconst 0, 1) := dk_3 (dk_at dksX5_sign_0 20 rfl rfl)
theorem dX5_sign_21 : decode cX5_sign 21 = .ok (.bipush 99, 2) := dk_16 99 (dk_at dksX5_sign_0 21 rfl rfl)
theorem dX5_sign_23 : decode cX5_sign 23 = .ok (.invokestatic 153, 3) := dk_184 0 153 (dk_at dksX5_sign_1 0 rfl rfl)
theorem dX5_sign_26 : decode cX5_sign 26 = .ok (.ifCond .ne 9, 3) := dk_154 0 9 (dk_at dksX5_sign_1 3 rfl rfl)
theorem dX5_sign_29 : decode cX5_sign 29 = .ok (.aload_n 0, 1) := dk_42 (dk_at dksX5_sign_1 6 rfl rfl)
theorem dX5_sign_30 : decode cX5_sign 30 = .ok (.iconst 2, 1) := dk_5 (dk_at dksX5_sign_1 7 rfl rfl)
theorem dX5_sign_31 : decode cX5_sign 31 = .ok (.invokevirtual 81, 3) := dk_182 0 81 (dk_at dksX5_sign_1 8 rfl rfl)
theorem dX5_sign_34 : decode cX5_sign 34 = .ok (.ireturn, 1) := dk_172 (dk_at dksX5_sign_1 11 rfl rfl)
theorem dX5_sign_35 : decode cX5_sign 35 = .ok (.aload_n 0, 1) := dk_42 (dk_at dksX5_sign_1 12 rfl rfl)
theorem dX5_sign_36 : decode cX5_sign 36 = .ok (.getfield 60, 3) := dk_180 0 60 (dk_at dksX5_sign_1 13 rfl rfl)
theorem dX5_sign_39 : decode cX5_sign 39 = .ok (.iload_n 1, 1) := dk_27 (dk_at dksX5_sign_1 16 rfl rfl)
theorem dX5_sign_40 : decode cX5_sign 40 = .ok (.iaload, 1) := dk_46 (dk_at dksX5_sign_1 17 rfl rfl)
theorem dX5_sign_41 : decode cX5_sign 41 = .ok (.bipush 10, 2) := dk_16 10 (dk_at dksX5_sign_1 18 rfl rfl)
theorem dX5_sign_43 : decode cX5_sign 43 = .ok (.if_icmp .ne 9, 3) := dk_160 0 9 (dk_at dksX5_sign_1 20 rfl rfl)
theorem dX5_sign_46 : decode cX5_sign 46 = .ok (.aload_n 0, 1) := dk_42 (dk_at dksX5_sign_1 23 rfl rfl)
theorem dX5_sign_47 : decode cX5_sign 47 = .ok (.iconst 3, 1) := dk_6 (dk_at dksX5_sign_2 0 rfl rfl)
theorem dX5_sign_48 : decode cX5_sign 48 = .ok (.invokevirtual 81, 3) := dk_182 0 81 (dk_at dksX5_sign_2 1 rfl rfl)
theorem dX5_sign_51 : decode cX5_sign 51 = .ok (.ireturn, 1) := dk_172 (dk_at dksX5_sign_2 4 rfl rfl)
theorem dX5_sign_52 : decode cX5_sign 52 = .ok (.aload_n 0, 1) := dk_42 (dk_at dksX5_sign_2 5 rfl rfl)
theorem dX5_sign_53 : decode cX5_sign 53 = .ok (.getfield 63, 3) := dk_180 0 63 (dk_at dksX5_sign_2 6 rfl rfl)
theorem dX5_sign_56 : decode cX5_sign 56 = .ok (.bipush 10, 2) := dk_16 10 (dk_at dksX5_sign_2 9 rfl rfl)
theorem dX5_sign_58 : decode cX5_sign 58 = .ok (.iload_n 1, 1) := dk_27 (dk_at dksX5_sign_2 11 rfl rfl)
theorem dX5_sign_59 : decode cX5_sign 59 = .ok (.imul, 1) := dk_104 (dk_at dksX5_sign_2 12 rfl rfl)
theorem dX5_sign_60 : decode cX5_sign 60 = .ok (.aload_n 0, 1) := dk_42 (dk_at dksX5_sign_2 13 rfl rfl)
theorem dX5_sign_61 : decode cX5_sign 61 = .ok (.getfield 60, 3) := dk_180 0 60 (dk_at dksX5_sign_2 14 rfl rfl)
theorem dX5_sign_64 : decode cX5_sign 64 = .ok (.iload_n 1, 1) := dk_27 (dk_at dksX5_sign_2 17 rfl rfl)
theorem dX5_sign_65 : decode cX5_sign 65 = .ok (.iaload, 1) := dk_46 (dk_at dksX5_sign_2 18 rfl rfl)
theorem dX5_sign_66 : decode cX5_sign 66 = .ok (.iadd, 1) := dk_96 (dk_at dksX5_sign_2 19 rfl rfl)
theorem dX5_sign_67 : decode cX5_sign 67 = .ok (.iload_n 2, 1) := dk_28 (dk_at dksX5_sign_2 20 rfl rfl)
theorem dX5_sign_68 : decode cX5_sign 68 = .ok (.iastore, 1) := dk_79 (dk_at dksX5_sign_2 21 rfl rfl)
theorem dX5_sign_69 : decode cX5_sign 69 = .ok (.aload_n 0, 1) := dk_42 (dk_at dksX5_sign_2 22 rfl rfl)
theorem dX5_sign_70 : decode cX5_sign 70 = .ok (.getfield 60, 3) := dk_180 0 60 (dk_at dksX5_sign_3 0 rfl rfl)
theorem dX5_sign_73 : decode cX5_sign 73 = .ok (.iload_n 1, 1) := dk_27 (dk_at dksX5_sign_3 3 rfl rfl)
theorem dX5_sign_74 : decode cX5_sign 74 = .ok (.dup2, 1) := dk_92 (dk_at dksX5_sign_3 4 rfl rfl)
theorem dX5_sign_75 : decode cX5_sign 75 = .ok (.iaload, 1) := dk_46 (dk_at dksX5_sign_3 5 rfl rfl)
theorem dX5_sign_76 : decode cX5_sign 76 = .ok (.iconst 1, 1) := dk_4 (dk_at dksX5_sign_3 6 rfl rfl)
theorem dX5_sign_77 : decode cX5_sign 77 = .ok (.iadd, 1) := dk_96 (dk_at dksX5_sign_3 7 rfl rfl)
theorem dX5_sign_78 : decode cX5_sign 78 = .ok (.iastore, 1) := dk_79 (dk_at dksX5_sign_3 8 rfl rfl)
theorem dX5_sign_79 : decode cX5_sign 79 = .ok (.aload_n 0, 1) := dk_42 (dk_at dksX5_sign_3 9 rfl rfl)
theorem dX5_sign_80 : decode cX5_sign 80 = .ok (.aload_n 0, 1) := dk_42 (dk_at dksX5_sign_3 10 rfl rfl)
theorem dX5_sign_81 : decode cX5_sign 81 = .ok (.getfield 60, 3) := dk_180 0 60 (dk_at dksX5_sign_3 11 rfl rfl)
theorem dX5_sign_84 : decode cX5_sign 84 = .ok (.iload_n 1, 1) := dk_27 (dk_at dksX5_sign_3 14 rfl rfl)
theorem dX5_sign_85 : decode cX5_sign 85 = .ok (.iaload, 1) := dk_46 (dk_at dksX5_sign_3 15 rfl rfl)
theorem dX5_sign_86 : decode cX5_sign 86 = .ok (.invokevirtual 416, 3) := dk_182 1 160 (dk_at dksX5_sign_3 16 rfl rfl)
theorem dX5_sign_89 : decode cX5_sign 89 = .ok (.ireturn, 1) := dk_172 (dk_at dksX5_sign_3 19 rfl rfl)
abbrev cX5_fading : ByteArray := prog_15_method_86_code
def yX5_fading : MethodName := ⟨RX5, "fading", "(I)I"⟩
def dkwX5_fading_7 : List UInt8 := [167, 255, 185, 132, 6, 1, 167, 255, 167, 42, 21, 5, 182, 1, 160, 172]
abbrev dktX5_fading_7 : List UInt8 := dkwX5_fading_7 ++ []
def dkwX5_fading_6 : List UInt8 := [21, 4, 161, 0, 7, 4, 167, 0, 4, 3, 96, 54, 5, 132, 8, 1, 167, 255, 203, 132, 7, 1]
abbrev dktX5_fading_6 : List UInt8 := dkwX5_fading_6 ++ dktX5_fading_7
def dkwX5_fading_5 : List UInt8 := [21, 6, 96, 46, 42, 180, 0, 63, 29, 21, 7, 96, 46, 96, 42, 180, 0, 63, 29, 21, 8, 96, 46, 96]
abbrev dktX5_fading_5 : List UInt8 := dkwX5_fading_5 ++ dktX5_fading_6
def dkwX5_fading_4 : List UInt8 := [28, 162, 0, 71, 21, 7, 4, 96, 54, 8, 21, 8, 28, 162, 0, 53, 21, 5, 42, 180, 0, 63, 29]
abbrev dktX5_fading_4 : List UInt8 := dkwX5_fading_4 ++ dktX5_fading_5
def dkwX5_fading_3 : List UInt8 := [46, 96, 54, 4, 3, 54, 5, 3, 54, 6, 21, 6, 28, 162, 0, 89, 21, 6, 4, 96, 54, 7, 21, 7]
abbrev dktX5_fading_3 : List UInt8 := dkwX5_fading_3 ++ dktX5_fading_4
def dkwX5_fading_2 : List UInt8 := [96, 4, 100, 46, 42, 180, 0, 63, 29, 28, 96, 5, 100, 46, 96, 42, 180, 0, 63, 29, 28, 96, 6, 100]
abbrev dktX5_fading_2 : List UInt8 := dkwX5_fading_2 ++ dktX5_fading_3
def dkwX5_fading_1 : List UInt8 := [46, 61, 28, 7, 162, 0, 9, 42, 8, 182, 0, 81, 172, 16, 10, 27, 104, 62, 42, 180, 0, 63, 29, 28]
abbrev dktX5_fading_1 : List UInt8 := dkwX5_fading_1 ++ dktX5_fading_2
def dkwX5_fading_0 : List UInt8 := [42, 3, 181, 0, 75, 42, 27, 182, 1, 166, 154, 0, 9, 42, 4, 182, 0, 81, 172, 42, 180, 0, 60, 27]
abbrev dktX5_fading_0 : List UInt8 := dkwX5_fading_0 ++ dktX5_fading_1
theorem dksX5_fading_0 : cX5_fading.data.toList.drop 0 = dktX5_fading_0 := by decide +kernel
theorem dksX5_fading_1 : cX5_fading.data.toList.drop 24 = dktX5_fading_1 := dk_seg dksX5_fading_0 24 rfl rfl
theorem dksX5_fading_2 : cX5_fading.data.toList.drop 48 = dktX5_fading_2 := dk_seg dksX5_fading_1 24 rfl rfl
theorem dksX5_fading_3 : cX5_fading.data.toList.drop 72 = dktX5_fading_3 := dk_seg dksX5_fading_2 24 rfl rfl
theorem dksX5_fading_4 : cX5_fading.data.toList.drop 96 = dktX5_fading_4 := dk_seg dksX5_fading_3 24 rfl rfl
theorem dksX5_fading_5 : cX5_fading.data.toList.drop 119 = dktX5_fading_5 := dk_seg dksX5_fading_4 23 rfl rfl
theorem dksX5_fading_6 : cX5_fading.data.toList.drop 143 = dktX5_fading_6 := dk_seg dksX5_fading_5 24 rfl rfl
theorem dksX5_fading_7 : cX5_fading.data.toList.drop 165 = dktX5_fading_7 := dk_seg dksX5_fading_6 22 rfl rfl
theorem dX5_fading_0 : decode cX5_fading 0 = .ok (.aload_n 0, 1) := dk_42 (dk_at dksX5_fading_0 0 rfl rfl)
theorem dX5_fading_1 : decode cX5_fading 1 = .ok (.iconst 0, 1) := dk_3 (dk_at dksX5_fading_0 1 rfl rfl)
theorem dX5_fading_2 : decode cX5_fading 2 = .ok (.putfield 75, 3) := dk_181 0 75 (dk_at dksX5_fading_0 2 rfl rfl)
theorem dX5_fading_5 : decode cX5_fading 5 = .ok (.aload_n 0, 1) := dk_42 (dk_at dksX5_fading_0 5 rfl rfl)
theorem dX5_fading_6 : decode cX5_fading 6 = .ok (.iload_n 1, 1) := dk_27 (dk_at dksX5_fading_0 6 rfl rfl)
theorem dX5_fading_7 : decode cX5_fading 7 = .ok (.invokevirtual 422, 3) := dk_182 1 166 (dk_at dksX5_fading_0 7 rfl rfl)
theorem dX5_fading_10 : decode cX5_fading 10 = .ok (.ifCond .ne 9, 3) := dk_154 0 9 (dk_at dksX5_fading_0 10 rfl rfl)
theorem dX5_fading_13 : decode cX5_fading 13 = .ok (.aload_n 0, 1) := dk_42 (dk_at dksX5_fading_0 13 rfl rfl)
theorem dX5_fading_14 : decode cX5_fading 14 = .ok (.iconst 1, 1) := dk_4 (dk_at dksX5_fading_0 14 rfl rfl)
theorem dX5_fading_15 : decode cX5_fading 15 = .ok (.invokevirtual 81, 3) := dk_182 0 81 (dk_at dksX5_fading_0 15 rfl rfl)
theorem dX5_fading_18 : decode cX5_fading 18 = .ok (.ireturn, 1) := dk_172 (dk_at dksX5_fading_0 18 rfl rfl)
theorem dX5_fading_19 : decode cX5_fading 19 = .ok (.aload_n 0, 1) := dk_42 (dk_at dksX5_fading_0 19 rfl rfl)
theorem dX5_fading_20 : decode cX5_fading 20 = .ok (.getfield 60, 3) := dk_180 0 60 (dk_at dksX5_fading_0 20 rfl rfl)
theorem dX5_fading_23 : decode cX5_fading 23 = .ok (.iload_n 1, 1) := dk_27 (dk_at dksX5_fading_0 23 rfl rfl)
theorem dX5_fading_24 : decode cX5_fading 24 = .ok (.iaload, 1) := dk_46 (dk_at dksX5_fading_1 0 rfl rfl)
theorem dX5_fading_25 : decode cX5_fading 25 = .ok (.istore_n 2, 1) := dk_61 (dk_at dksX5_fading_1 1 rfl rfl)
theorem dX5_fading_26 : decode cX5_fading 26 = .ok (.iload_n 2, 1) := dk_28 (dk_at dksX5_fading_1 2 rfl rfl)
theorem dX5_fading_27 : decode cX5_fading 27 = .ok (.iconst 4, 1) := dk_7 (dk_at dksX5_fading_1 3 rfl rfl)
theorem dX5_fading_28 : decode cX5_fading 28 = .ok (.if_icmp .ge 9, 3) := dk_162 0 9 (dk_at dksX5_fading_1 4 rfl rfl)
theorem dX5_fading_31 : decode cX5_fading 31 = .ok (.aload_n 0, 1) := dk_42 (dk_at dksX5_fading_1 7 rfl rfl)
theorem dX5_fading_32 : decode cX5_fading 32 = .ok (.iconst 5, 1) := dk_8 (dk_at dksX5_fading_1 8 rfl rfl)
theorem dX5_fading_33 : decode cX5_fading 33 = .ok (.invokevirtual 81, 3) := dk_182 0 81 (dk_at dksX5_fading_1 9 rfl rfl)
theorem dX5_fading_36 : decode cX5_fading 36 = .ok (.ireturn, 1) := dk_172 (dk_at dksX5_fading_1 12 rfl rfl)
theorem dX5_fading_37 : decode cX5_fading 37 = .ok (.bipush 10, 2) := dk_16 10 (dk_at dksX5_fading_1 13 rfl rfl)
theorem dX5_fading_39 : decode cX5_fading 39 = .ok (.iload_n 1, 1) := dk_27 (dk_at dksX5_fading_1 15 rfl rfl)
theorem dX5_fading_40 : decode cX5_fading 40 = .ok (.imul, 1) := dk_104 (dk_at dksX5_fading_1 16 rfl rfl)
theorem dX5_fading_41 : decode cX5_fading 41 = .ok (.istore_n 3, 1) := dk_62 (dk_at dksX5_fading_1 17 rfl rfl)
theorem dX5_fading_42 : decode cX5_fading 42 = .ok (.aload_n 0, 1) := dk_42 (dk_at dksX5_fading_1 18 rfl rfl)
theorem dX5_fading_43 : decode cX5_fading 43 = .ok (.getfield 63, 3) := dk_180 0 63 (dk_at dksX5_fading_1 19 rfl rfl)
theorem dX5_fading_46 : decode cX5_fading 46 = .ok (.iload_n 3, 1) := dk_29 (dk_at dksX5_fading_1 22 rfl rfl)
theorem dX5_fading_47 : decode cX5_fading 47 = .ok (.iload_n 2, 1) := dk_28 (dk_at dksX5_fading_1 23 rfl rfl)
theorem dX5_fading_48 : decode cX5_fading 48 = .ok (.iadd, 1) := dk_96 (dk_at dksX5_fading_2 0 rfl rfl)
theorem dX5_fading_49 : decode cX5_fading 49 = .ok (.iconst 1, 1) := dk_4 (dk_at dksX5_fading_2 1 rfl rfl)
theorem dX5_fading_50 : decode cX5_fading 50 = .ok (.isub, 1) := dk_100 (dk_at dksX5_fading_2 2 rfl rfl)
theorem dX5_fading_51 : decode cX5_fading 51 = .ok (.iaload, 1) := dk_46 (dk_at dksX5_fading_2 3 rfl rfl)
theorem dX5_fading_52 : decode cX5_fading 52 = .ok (.aload_n 0, 1) := dk_42 (dk_at dksX5_fading_2 4 rfl rfl)
theorem dX5_fading_53 : decode cX5_fading 53 = .ok (.getfield 63, 3) := dk_180 0 63 (dk_at dksX5_fading_2 5 rfl rfl)
theorem dX5_fading_56 : decode cX5_fading 56 = .ok (.iload_n 3, 1) := dk_29 (dk_at dksX5_fading_2 8 rfl rfl)
theorem dX5_fading_57 : decode cX5_fading 57 = .ok (.iload_n 2, 1) := dk_28 (dk_at dksX5_fading_2 9 rfl rfl)
theorem dX5_fading_58 : decode cX5_fading 58 = .ok (.iadd, 1) := dk_96 (dk_at dksX5_fading_2 10 rfl rfl)
theorem dX5_fading_59 : decode cX5_fading 59 = .ok (.iconst 2, 1) := dk_5 (dk_at dksX5_fading_2 11 rfl rfl)
theorem dX5_fading_60 : decode cX5_fading 60 = .ok (.isub, 1) := dk_100 (dk_at dksX5_fading_2 12 rfl rfl)
theorem dX5_fading_61 : decode cX5_fading 61 = .ok (.iaload, 1) := dk_46 (dk_at dksX5_fading_2 13 rfl rfl)
theorem dX5_fading_62 : decode cX5_fading 62 = .ok (.iadd, 1) := dk_96 (dk_at dksX5_fading_2 14 rfl rfl)
theorem dX5_fading_63 : decode cX5_fading 63 = .ok (.aload_n 0, 1) := dk_42 (dk_at dksX5_fading_2 15 rfl rfl)
theorem dX5_fading_64 : decode cX5_fading 64 = .ok (.getfield 63, 3) := dk_180 0 63 (dk_at dksX5_fading_2 16 rfl rfl)
theorem dX5_fading_67 : decode cX5_fading 67 = .ok (.iload_n 3, 1) := dk_29 (dk_at dksX5_fading_2 19 rfl rfl)
theorem dX5_fading_68 : decode cX5_fading 68 = .ok (.iload_n 2, 1) := dk_28 (dk_at dksX5_fading_2 20 rfl rfl)
theorem dX5_fading_69 : decode cX5_fading 69 = .ok (.iadd, 1) := dk_96 (dk_at dksX5_fading_2 21 rfl rfl)
theorem dX5_fading_70 : decode cX5_fading 70 = .ok (.iconst 3, 1) := dk_6 (dk_at dksX5_fading_2 22 rfl rfl)
theorem dX5_fading_71 : decode cX5_fading 71 = .ok (.isub, 1) := dk_100 (dk_at dksX5_fading_2 23 rfl rfl)
theorem dX5_fading_72 : decode cX5_fading 72 = .ok (.iaload, 1) := dk_46 (dk_at dksX5_fading_3 0 rfl rfl)
theorem dX5_fading_73 : decode cX5_fading 73 = .ok (.iadd, 1) := dk_96 (dk_at dksX5_fading_3 1 rfl rfl)
theorem dX5_fading_74 : decode cX5_fading 74 = .ok (.istore 4, 2) := dk_54 4 (dk_at dksX5_fading_3 2 rfl rfl)
theorem dX5_fading_76 : decode cX5_fading 76 = .ok (.iconst 0, 1) := dk_3 (dk_at dksX5_fading_3 4 rfl rfl)
theorem dX5_fading_77 : decode cX5_fading 77 = .ok (.istore 5, 2) := dk_54 5 (dk_at dksX5_fading_3 5 rfl rfl)
theorem dX5_fading_79 : decode cX5_fading 79 = .ok (.iconst 0, 1) := dk_3 (dk_at dksX5_fading_3 7 rfl rfl)
theorem dX5_fading_80 : decode cX5_fading 80 = .ok (.istore 6, 2) := dk_54 6 (dk_at dksX5_fading_3 8 rfl rfl)
theorem dX5_fading_82 : decode cX5_fading 82 = .ok (.iload 6, 2) := dk_21 6 (dk_at dksX5_fading_3 10 rfl rfl)
theorem dX5_fading_84 : decode cX5_fading 84 = .ok (.iload_n 2, 1) := dk_28 (dk_at dksX5_fading_3 12 rfl rfl)
theorem dX5_fading_85 : decode cX5_fading 85 = .ok (.if_icmp .ge 89, 3) := dk_162 0 89 (dk_at dksX5_fading_3 13 rfl rfl)
theorem dX5_fading_88 : decode cX5_fading 88 = .ok (.iload 6, 2) := dk_21 6 (dk_at dksX5_fading_3 16 rfl rfl)
theorem dX5_fading_90 : decode cX5_fading 90 = .ok (.iconst 1, 1) := dk_4 (dk_at dksX5_fading_3 18 rfl rfl)
theorem dX5_fading_91 : decode cX5_fading 91 = .ok (.iadd, 1) := dk_96 (dk_at dksX5_fading_3 19 rfl rfl)
theorem dX5_fading_92 : decode cX5_fading 92 = .ok (.istore 7, 2) := dk_54 7 (dk_at dksX5_fading_3 20 rfl rfl)
theorem dX5_fading_94 : decode cX5_fading 94 = .ok (.iload 7, 2) := dk_21 7 (dk_at dksX5_fading_3 22 rfl rfl)
theorem dX5_fading_96 : decode cX5_fading 96 = .ok (.iload_n 2, 1) := dk_28 (dk_at dksX5_fading_4 0 rfl rfl)
theorem dX5_fading_97 : decode cX5_fading 97 = .ok (.if_icmp .ge 71, 3) := dk_162 0 71 (dk_at dksX5_fading_4 1 rfl rfl)
theorem dX5_fading_100 : decode cX5_fading 100 = .ok (.iload 7, 2) := dk_21 7 (dk_at dksX5_fading_4 4 rfl rfl)
theorem dX5_fading_102 : decode cX5_fading 102 = .ok (.iconst 1, 1) := dk_4 (dk_at dksX5_fading_4 6 rfl rfl)
theorem dX5_fading_103 : decode cX5_fading 103 = .ok (.iadd, 1) := dk_96 (dk_at dksX5_fading_4 7 rfl rfl)
theorem dX5_fading_104 : decode cX5_fading 104 = .ok (.istore 8, 2) := dk_54 8 (dk_at dksX5_fading_4 8 rfl rfl)
theorem dX5_fading_106 : decode cX5_fading 106 = .ok (.iload 8, 2) := dk_21 8 (dk_at dksX5_fading_4 10 rfl rfl)
theorem dX5_fading_108 : decode cX5_fading 108 = .ok (.iload_n 2, 1) := dk_28 (dk_at dksX5_fading_4 12 rfl rfl)
theorem dX5_fading_109 : decode cX5_fading 109 = .ok (.if_icmp .ge 53, 3) := dk_162 0 53 (dk_at dksX5_fading_4 13 rfl rfl)
theorem dX5_fading_112 : decode cX5_fading 112 = .ok (.iload 5, 2) := dk_21 5 (dk_at dksX5_fading_4 16 rfl rfl)
theorem dX5_fading_114 : decode cX5_fading 114 = .ok (.aload_n 0, 1) := dk_42 (dk_at dksX5_fading_4 18 rfl rfl)
theorem dX5_fading_115 : decode cX5_fading 115 = .ok (.getfield 63, 3) := dk_180 0 63 (dk_at dksX5_fading_4 19 rfl rfl)
theorem dX5_fading_118 : decode cX5_fading 118 = .ok (.iload_n 3, 1) := dk_29 (dk_at dksX5_fading_4 22 rfl rfl)
theorem dX5_fading_119 : decode cX5_fading 119 = .ok (.iload 6, 2) := dk_21 6 (dk_at dksX5_fading_5 0 rfl rfl)
theorem dX5_fading_121 : decode cX5_fading 121 = .ok (.iadd, 1) := dk_96 (dk_at dksX5_fading_5 2 rfl rfl)
theorem dX5_fading_122 : decode cX5_fading 122 = .ok (.iaload, 1) := dk_46 (dk_at dksX5_fading_5 3 rfl rfl)
theorem dX5_fading_123 : decode cX5_fading 123 = .ok (.aload_n 0, 1) := dk_42 (dk_at dksX5_fading_5 4 rfl rfl)
theorem dX5_fading_124 : decode cX5_fading 124 = .ok (.getfield 63, 3) := dk_180 0 63 (dk_at dksX5_fading_5 5 rfl rfl)
theorem dX5_fading_127 : decode cX5_fading 127 = .ok (.iload_n 3, 1) := dk_29 (dk_at dksX5_fading_5 8 rfl rfl)
theorem dX5_fading_128 : decode cX5_fading 128 = .ok (.iload 7, 2) := dk_21 7 (dk_at dksX5_fading_5 9 rfl rfl)
theorem dX5_fading_130 : decode cX5_fading 130 = .ok (.iadd, 1) := dk_96 (dk_at dksX5_fading_5 11 rfl rfl)
theorem dX5_fading_131 : decode cX5_fading 131 = .ok (.iaload, 1) := dk_46 (dk_at dksX5_fading_5 12 rfl rfl)
theorem dX5_fading_132 : decode cX5_fading 132 = .ok (.iadd, 1) := dk_96 (dk_at dksX5_fading_5 13 rfl rfl)
theorem dX5_fading_133 : decode cX5_fading 133 = .ok (.aload_n 0, 1) := dk_42 (dk_at dksX5_fading_5 14 rfl rfl)
theorem dX5_fading_134 : decode cX5_fading 134 = .ok (.getfield 63, 3) := dk_180 0 63 (dk_at dksX5_fading_5 15 rfl rfl)
theorem dX5_fading_137 : decode cX5_fading 137 = .ok (.iload_n 3, 1) := dk_29 (dk_at dksX5_fading_5 18 rfl rfl)
theorem dX5_fading_138 : decode cX5_fading 138 = .ok (.iload 8, 2) := dk_21 8 (dk_at dksX5_fading_5 19 rfl rfl)
theorem dX5_fading_140 : decode cX5_fading 140 = .ok (.iadd, 1) := dk_96 (dk_at dksX5_fading_5 21 rfl rfl)
theorem dX5_fading_141 : decode cX5_fading 141 = .ok (.iaload, 1) := dk_46 (dk_at dksX5_fading_5 22 rfl rfl)
theorem dX5_fading_142 : decode cX5_fading 142 = .ok (.iadd, 1) := dk_96 (dk_at dksX5_fading_5 23 rfl rfl)
theorem dX5_fading_143 : decode cX5_fading 143 = .ok (.iload 4, 2) := dk_21 4 (dk_at dksX5_fading_6 0 rfl rfl)
theorem dX5_fading_145 : decode cX5_fading 145 = .ok (.if_icmp .lt 7, 3) := dk_161 0 7 (dk_at dksX5_fading_6 2 rfl rfl)
theorem dX5_fading_148 : decode cX5_fading 148 = .ok (.iconst 1, 1) := dk_4 (dk_at dksX5_fading_6 5 rfl rfl)
theorem dX5_fading_149 : decode cX5_fading 149 = .ok (.goto 4, 3) := dk_167 0 4 (dk_at dksX5_fading_6 6 rfl rfl)
theorem dX5_fading_152 : decode cX5_fading 152 = .ok (.iconst 0, 1) := dk_3 (dk_at dksX5_fading_6 9 rfl rfl)
theorem dX5_fading_153 : decode cX5_fading 153 = .ok (.iadd, 1) := dk_96 (dk_at dksX5_fading_6 10 rfl rfl)
theorem dX5_fading_154 : decode cX5_fading 154 = .ok (.istore 5, 2) := dk_54 5 (dk_at dksX5_fading_6 11 rfl rfl)
theorem dX5_fading_156 : decode cX5_fading 156 = .ok (.iinc 8 1, 3) := dk_132 8 1 (dk_at dksX5_fading_6 13 rfl rfl)
theorem dX5_fading_159 : decode cX5_fading 159 = .ok (.goto (-53), 3) := dk_167 255 203 (dk_at dksX5_fading_6 16 rfl rfl)
theorem dX5_fading_162 : decode cX5_fading 162 = .ok (.iinc 7 1, 3) := dk_132 7 1 (dk_at dksX5_fading_6 19 rfl rfl)
theorem dX5_fading_165 : decode cX5_fading 165 = .ok (.goto (-71), 3) := dk_167 255 185 (dk_at dksX5_fading_7 0 rfl rfl)
theorem dX5_fading_168 : decode cX5_fading 168 = .ok (.iinc 6 1, 3) := dk_132 6 1 (dk_at dksX5_fading_7 3 rfl rfl)
theorem dX5_fading_171 : decode cX5_fading 171 = .ok (.goto (-89), 3) := dk_167 255 167 (dk_at dksX5_fading_7 6 rfl rfl)
theorem dX5_fading_174 : decode cX5_fading 174 = .ok (.aload_n 0, 1) := dk_42 (dk_at dksX5_fading_7 9 rfl rfl)
theorem dX5_fading_175 : decode cX5_fading 175 = .ok (.iload 5, 2) := dk_21 5 (dk_at dksX5_fading_7 10 rfl rfl)
theorem dX5_fading_177 : decode cX5_fading 177 = .ok (.invokevirtual 416, 3) := dk_182 1 160 (dk_at dksX5_fading_7 12 rfl rfl)
theorem dX5_fading_180 : decode cX5_fading 180 = .ok (.ireturn, 1) := dk_172 (dk_at dksX5_fading_7 15 rfl rfl)
abbrev cX5_probe : ByteArray := prog_15_method_87_code
def yX5_probe : MethodName := ⟨RX5, "probe", "(III)I"⟩
def dkwX5_probe_4 : List UInt8 := [180, 1, 144, 29, 79, 42, 89, 180, 1, 144, 4, 96, 181, 1, 144, 42, 42, 180, 1, 144, 182, 1, 160, 172]
abbrev dktX5_probe_4 : List UInt8 := dkwX5_probe_4 ++ []
def dkwX5_probe_3 : List UInt8 := [180, 0, 66, 42, 180, 1, 144, 27, 79, 42, 180, 0, 69, 42, 180, 1, 144, 28, 79, 42, 180, 0, 72, 42]
abbrev dktX5_probe_3 : List UInt8 := dkwX5_probe_3 ++ dktX5_probe_4
def dkwX5_probe_2 : List UInt8 := [42, 5, 182, 0, 81, 172, 42, 180, 1, 144, 16, 16, 160, 0, 9, 42, 6, 182, 0, 81, 172, 42]
abbrev dktX5_probe_2 : List UInt8 := dkwX5_probe_2 ++ dktX5_probe_3
def dkwX5_probe_1 : List UInt8 := [180, 1, 100, 27, 46, 17, 3, 231, 184, 0, 153, 153, 0, 13, 29, 3, 16, 99, 184, 0, 153, 154, 0, 9]
abbrev dktX5_probe_1 : List UInt8 := dkwX5_probe_1 ++ dktX5_probe_2
def dkwX5_probe_0 : List UInt8 := [42, 3, 181, 0, 75, 42, 27, 182, 1, 163, 154, 0, 9, 42, 4, 182, 0, 81, 172, 28, 42, 180, 1, 138]
abbrev dktX5_probe_0 : List UInt8 := dkwX5_probe_0 ++ dktX5_probe_1
theorem dksX5_probe_0 : cX5_probe.data.toList.drop 0 = dktX5_probe_0 := by decide +kernel
theorem dksX5_probe_1 : cX5_probe.data.toList.drop 24 = dktX5_probe_1 := dk_seg dksX5_probe_0 24 rfl rfl
theorem dksX5_probe_2 : cX5_probe.data.toList.drop 48 = dktX5_probe_2 := dk_seg dksX5_probe_1 24 rfl rfl
theorem dksX5_probe_3 : cX5_probe.data.toList.drop 70 = dktX5_probe_3 := dk_seg dksX5_probe_2 22 rfl rfl
theorem dksX5_probe_4 : cX5_probe.data.toList.drop 94 = dktX5_probe_4 := dk_seg dksX5_probe_3 24 rfl rfl
theorem dX5_probe_0 : decode cX5_probe 0 = .ok (.aload_n 0, 1) := dk_42 (dk_at dksX5_probe_0 0 rfl rfl)
theorem dX5_probe_1 : decode cX5_probe 1 = .ok (.iconst 0, 1) := dk_3 (dk_at dksX5_probe_0 1 rfl rfl)
theorem dX5_probe_2 : decode cX5_probe 2 = .ok (.putfield 75, 3) := dk_181 0 75 (dk_at dksX5_probe_0 2 rfl rfl)
theorem dX5_probe_5 : decode cX5_probe 5 = .ok (.aload_n 0, 1) := dk_42 (dk_at dksX5_probe_0 5 rfl rfl)
theorem dX5_probe_6 : decode cX5_probe 6 = .ok (.iload_n 1, 1) := dk_27 (dk_at dksX5_probe_0 6 rfl rfl)
theorem dX5_probe_7 : decode cX5_probe 7 = .ok (.invokevirtual 419, 3) := dk_182 1 163 (dk_at dksX5_probe_0 7 rfl rfl)
theorem dX5_probe_10 : decode cX5_probe 10 = .ok (.ifCond .ne 9, 3) := dk_154 0 9 (dk_at dksX5_probe_0 10 rfl rfl)
theorem dX5_probe_13 : decode cX5_probe 13 = .ok (.aload_n 0, 1) := dk_42 (dk_at dksX5_probe_0 13 rfl rfl)
theorem dX5_probe_14 : decode cX5_probe 14 = .ok (.iconst 1, 1) := dk_4 (dk_at dksX5_probe_0 14 rfl rfl)
theorem dX5_probe_15 : decode cX5_probe 15 = .ok (.invokevirtual 81, 3) := dk_182 0 81 (dk_at dksX5_probe_0 15 rfl rfl)
theorem dX5_probe_18 : decode cX5_probe 18 = .ok (.ireturn, 1) := dk_172 (dk_at dksX5_probe_0 18 rfl rfl)
theorem dX5_probe_19 : decode cX5_probe 19 = .ok (.iload_n 2, 1) := dk_28 (dk_at dksX5_probe_0 19 rfl rfl)
theorem dX5_probe_20 : decode cX5_probe 20 = .ok (.aload_n 0, 1) := dk_42 (dk_at dksX5_probe_0 20 rfl rfl)
theorem dX5_probe_21 : decode cX5_probe 21 = .ok (.getfield 394, 3) := dk_180 1 138 (dk_at dksX5_probe_0 21 rfl rfl)
theorem dX5_probe_24 : decode cX5_probe 24 = .ok (.getfield 356, 3) := dk_180 1 100 (dk_at dksX5_probe_1 0 rfl rfl)
theorem dX5_probe_27 : decode cX5_probe 27 = .ok (.iload_n 1, 1) := dk_27 (dk_at dksX5_probe_1 3 rfl rfl)
theorem dX5_probe_28 : decode cX5_probe 28 = .ok (.iaload, 1) := dk_46 (dk_at dksX5_probe_1 4 rfl rfl)
theorem dX5_probe_29 : decode cX5_probe 29 = .ok (.sipush 999, 3) := dk_17 3 231 (dk_at dksX5_probe_1 5 rfl rfl)
theorem dX5_probe_32 : decode cX5_probe 32 = .ok (.invokestatic 153, 3) := dk_184 0 153 (dk_at dksX5_probe_1 8 rfl rfl)
theorem dX5_probe_35 : decode cX5_probe 35 = .ok (.ifCond .eq 13, 3) := dk_153 0 13 (dk_at dksX5_probe_1 11 rfl rfl)
theorem dX5_probe_38 : decode cX5_probe 38 = .ok (.iload_n 3, 1) := dk_29 (dk_at dksX5_probe_1 14 rfl rfl)
theorem dX5_probe_39 : decode cX5_probe 39 = .ok (.iconst 0, 1) := dk_3 (dk_at dksX5_probe_1 15 rfl rfl)
theorem dX5_probe_40 : decode cX5_probe 40 = .ok (.bipush 99, 2) := dk_16 99 (dk_at dksX5_probe_1 16 rfl rfl)
theorem dX5_probe_42 : decode cX5_probe 42 = .ok (.invokestatic 153, 3) := dk_184 0 153 (dk_at dksX5_probe_1 18 rfl rfl)
theorem dX5_probe_45 : decode cX5_probe 45 = .ok (.ifCond .ne 9, 3) := dk_154 0 9 (dk_at dksX5_probe_1 21 rfl rfl)
theorem dX5_probe_48 : decode cX5_probe 48 = .ok (.aload_n 0, 1) := dk_42 (dk_at dksX5_probe_2 0 rfl rfl)
theorem dX5_probe_49 : decode cX5_probe 49 = .ok (.iconst 2, 1) := dk_5 (dk_at dksX5_probe_2 1 rfl rfl)
theorem dX5_probe_50 : decode cX5_probe 50 = .ok (.invokevirtual 81, 3) := dk_182 0 81 (dk_at dksX5_probe_2 2 rfl rfl)
theorem dX5_probe_53 : decode cX5_probe 53 = .ok (.ireturn, 1) := dk_172 (dk_at dksX5_probe_2 5 rfl rfl)
theorem dX5_probe_54 : decode cX5_probe 54 = .ok (.aload_n 0, 1) := dk_42 (dk_at dksX5_probe_2 6 rfl rfl)
theorem dX5_probe_55 : decode cX5_probe 55 = .ok (.getfield 400, 3) := dk_180 1 144 (dk_at dksX5_probe_2 7 rfl rfl)
theorem dX5_probe_58 : decode cX5_probe 58 = .ok (.bipush 16, 2) := dk_16 16 (dk_at dksX5_probe_2 10 rfl rfl)
theorem dX5_probe_60 : decode cX5_probe 60 = .ok (.if_icmp .ne 9, 3) := dk_160 0 9 (dk_at dksX5_probe_2 12 rfl rfl)
theorem dX5_probe_63 : decode cX5_probe 63 = .ok (.aload_n 0, 1) := dk_42 (dk_at dksX5_probe_2 15 rfl rfl)
theorem dX5_probe_64 : decode cX5_probe 64 = .ok (.iconst 3, 1) := dk_6 (dk_at dksX5_probe_2 16 rfl rfl)
theorem dX5_probe_65 : decode cX5_probe 65 = .ok (.invokevirtual 81, 3) := dk_182 0 81 (dk_at dksX5_probe_2 17 rfl rfl)
theorem dX5_probe_68 : decode cX5_probe 68 = .ok (.ireturn, 1) := dk_172 (dk_at dksX5_probe_2 20 rfl rfl)
theorem dX5_probe_69 : decode cX5_probe 69 = .ok (.aload_n 0, 1) := dk_42 (dk_at dksX5_probe_2 21 rfl rfl)
theorem dX5_probe_70 : decode cX5_probe 70 = .ok (.getfield 66, 3) := dk_180 0 66 (dk_at dksX5_probe_3 0 rfl rfl)
theorem dX5_probe_73 : decode cX5_probe 73 = .ok (.aload_n 0, 1) := dk_42 (dk_at dksX5_probe_3 3 rfl rfl)
theorem dX5_probe_74 : decode cX5_probe 74 = .ok (.getfield 400, 3) := dk_180 1 144 (dk_at dksX5_probe_3 4 rfl rfl)
theorem dX5_probe_77 : decode cX5_probe 77 = .ok (.iload_n 1, 1) := dk_27 (dk_at dksX5_probe_3 7 rfl rfl)
theorem dX5_probe_78 : decode cX5_probe 78 = .ok (.iastore, 1) := dk_79 (dk_at dksX5_probe_3 8 rfl rfl)
theorem dX5_probe_79 : decode cX5_probe 79 = .ok (.aload_n 0, 1) := dk_42 (dk_at dksX5_probe_3 9 rfl rfl)
theorem dX5_probe_80 : decode cX5_probe 80 = .ok (.getfield 69, 3) := dk_180 0 69 (dk_at dksX5_probe_3 10 rfl rfl)
theorem dX5_probe_83 : decode cX5_probe 83 = .ok (.aload_n 0, 1) := dk_42 (dk_at dksX5_probe_3 13 rfl rfl)
theorem dX5_probe_84 : decode cX5_probe 84 = .ok (.getfield 400, 3) := dk_180 1 144 (dk_at dksX5_probe_3 14 rfl rfl)
theorem dX5_probe_87 : decode cX5_probe 87 = .ok (.iload_n 2, 1) := dk_28 (dk_at dksX5_probe_3 17 rfl rfl)
theorem dX5_probe_88 : decode cX5_probe 88 = .ok (.iastore, 1) := dk_79 (dk_at dksX5_probe_3 18 rfl rfl)
theorem dX5_probe_89 : decode cX5_probe 89 = .ok (.aload_n 0, 1) := dk_42 (dk_at dksX5_probe_3 19 rfl rfl)
theorem dX5_probe_90 : decode cX5_probe 90 = .ok (.getfield 72, 3) := dk_180 0 72 (dk_at dksX5_probe_3 20 rfl rfl)
theorem dX5_probe_93 : decode cX5_probe 93 = .ok (.aload_n 0, 1) := dk_42 (dk_at dksX5_probe_3 23 rfl rfl)
theorem dX5_probe_94 : decode cX5_probe 94 = .ok (.getfield 400, 3) := dk_180 1 144 (dk_at dksX5_probe_4 0 rfl rfl)
theorem dX5_probe_97 : decode cX5_probe 97 = .ok (.iload_n 3, 1) := dk_29 (dk_at dksX5_probe_4 3 rfl rfl)
theorem dX5_probe_98 : decode cX5_probe 98 = .ok (.iastore, 1) := dk_79 (dk_at dksX5_probe_4 4 rfl rfl)
theorem dX5_probe_99 : decode cX5_probe 99 = .ok (.aload_n 0, 1) := dk_42 (dk_at dksX5_probe_4 5 rfl rfl)
theorem dX5_probe_100 : decode cX5_probe 100 = .ok (.dup, 1) := dk_89 (dk_at dksX5_probe_4 6 rfl rfl)
theorem dX5_probe_101 : decode cX5_probe 101 = .ok (.getfield 400, 3) := dk_180 1 144 (dk_at dksX5_probe_4 7 rfl rfl)
theorem dX5_probe_104 : decode cX5_probe 104 = .ok (.iconst 1, 1) := dk_4 (dk_at dksX5_probe_4 10 rfl rfl)
theorem dX5_probe_105 : decode cX5_probe 105 = .ok (.iadd, 1) := dk_96 (dk_at dksX5_probe_4 11 rfl rfl)
theorem dX5_probe_106 : decode cX5_probe 106 = .ok (.putfield 400, 3) := dk_181 1 144 (dk_at dksX5_probe_4 12 rfl rfl)
theorem dX5_probe_109 : decode cX5_probe 109 = .ok (.aload_n 0, 1) := dk_42 (dk_at dksX5_probe_4 15 rfl rfl)
theorem dX5_probe_110 : decode cX5_probe 110 = .ok (.aload_n 0, 1) := dk_42 (dk_at dksX5_probe_4 16 rfl rfl)
theorem dX5_probe_111 : decode cX5_probe 111 = .ok (.getfield 400, 3) := dk_180 1 144 (dk_at dksX5_probe_4 17 rfl rfl)
theorem dX5_probe_114 : decode cX5_probe 114 = .ok (.invokevirtual 416, 3) := dk_182 1 160 (dk_at dksX5_probe_4 20 rfl rfl)
theorem dX5_probe_117 : decode cX5_probe 117 = .ok (.ireturn, 1) := dk_172 (dk_at dksX5_probe_4 23 rfl rfl)
abbrev cX5_faulty : ByteArray := prog_15_method_88_code
def yX5_faulty : MethodName := ⟨RX5, "faulty", "(I)I"⟩
def dkwX5_faulty_4 : List UInt8 := [61, 132, 3, 1, 167, 255, 197, 42, 28, 182, 1, 160, 172]
abbrev dktX5_faulty_4 : List UInt8 := dkwX5_faulty_4 ++ []
def dkwX5_faulty_3 : List UInt8 := [54, 4, 28, 21, 4, 27, 163, 0, 10, 21, 4, 116, 27, 164, 0, 9, 4, 29, 120, 167, 0, 4, 3, 128]
abbrev dktX5_faulty_3 : List UInt8 := dkwX5_faulty_3 ++ dktX5_faulty_4
def dkwX5_faulty_2 : List UInt8 := [42, 180, 0, 72, 29, 46, 42, 42, 180, 0, 66, 29, 46, 42, 180, 0, 69, 29, 46, 182, 1, 181, 100]
abbrev dktX5_faulty_2 : List UInt8 := dkwX5_faulty_2 ++ dktX5_faulty_3
def dkwX5_faulty_1 : List UInt8 := [184, 0, 153, 154, 0, 9, 42, 5, 182, 0, 81, 172, 3, 61, 3, 62, 29, 42, 180, 1, 144, 162, 0, 57]
abbrev dktX5_faulty_1 : List UInt8 := dkwX5_faulty_1 ++ dktX5_faulty_2
def dkwX5_faulty_0 : List UInt8 := [42, 3, 181, 0, 75, 42, 180, 1, 138, 199, 0, 9, 42, 4, 182, 0, 81, 172, 27, 3, 16, 99]
abbrev dktX5_faulty_0 : List UInt8 := dkwX5_faulty_0 ++ dktX5_faulty_1
theorem dksX5_faulty_0 : cX5_faulty.data.toList.drop 0 = dktX5_faulty_0 := by decide +kernel
theorem dksX5_faulty_1 : cX5_faulty.data.toList.drop 22 = dktX5_faulty_1 := dk_seg dksX5_faulty_0 22 rfl rfl
theorem dksX5_faulty_2 : cX5_faulty.data.toList.drop 46 = dktX5_faulty_2 := dk_seg dksX5_faulty_1 24 rfl rfl
theorem dksX5_faulty_3 : cX5_faulty.data.toList.drop 69 = dktX5_faulty_3 := dk_seg dksX5_faulty_2 23 rfl rfl
theorem dksX5_faulty_4 : cX5_faulty.data.toList.drop 93 = dktX5_faulty_4 := dk_seg dksX5_faulty_3 24 rfl rfl
theorem dX5_faulty_0 : decode cX5_faulty 0 = .ok (.aload_n 0, 1) := dk_42 (dk_at dksX5_faulty_0 0 rfl rfl)
theorem dX5_faulty_1 : decode cX5_faulty 1 = .ok (.iconst 0, 1) := dk_3 (dk_at dksX5_faulty_0 1 rfl rfl)
theorem dX5_faulty_2 : decode cX5_faulty 2 = .ok (.putfield 75, 3) := dk_181 0 75 (dk_at dksX5_faulty_0 2 rfl rfl)
theorem dX5_faulty_5 : decode cX5_faulty 5 = .ok (.aload_n 0, 1) := dk_42 (dk_at dksX5_faulty_0 5 rfl rfl)
theorem dX5_faulty_6 : decode cX5_faulty 6 = .ok (.getfield 394, 3) := dk_180 1 138 (dk_at dksX5_faulty_0 6 rfl rfl)
theorem dX5_faulty_9 : decode cX5_faulty 9 = .ok (.ifnonnull 9, 3) := dk_199 0 9 (dk_at dksX5_faulty_0 9 rfl rfl)
theorem dX5_faulty_12 : decode cX5_faulty 12 = .ok (.aload_n 0, 1) := dk_42 (dk_at dksX5_faulty_0 12 rfl rfl)
theorem dX5_faulty_13 : decode cX5_faulty 13 = .ok (.iconst 1, 1) := dk_4 (dk_at dksX5_faulty_0 13 rfl rfl)
theorem dX5_faulty_14 : decode cX5_faulty 14 = .ok (.invokevirtual 81, 3) := dk_182 0 81 (dk_at dksX5_faulty_0 14 rfl rfl)
theorem dX5_faulty_17 : decode cX5_faulty 17 = .ok (.ireturn, 1) := dk_172 (dk_at dksX5_faulty_0 17 rfl rfl)
theorem dX5_faulty_18 : decode cX5_faulty 18 = .ok (.iload_n 1, 1) := dk_27 (dk_at dksX5_faulty_0 18 rfl rfl)
theorem dX5_faulty_19 : decode cX5_faulty 19 = .ok (.iconst 0, 1) := dk_3 (dk_at dksX5_faulty_0 19 rfl rfl)
theorem dX5_faulty_20 : decode cX5_faulty 20 = .ok (.bipush 99, 2) := dk_16 99 (dk_at dksX5_faulty_0 20 rfl rfl)
theorem dX5_faulty_22 : decode cX5_faulty 22 = .ok (.invokestatic 153, 3) := dk_184 0 153 (dk_at dksX5_faulty_1 0 rfl rfl)
theorem dX5_faulty_25 : decode cX5_faulty 25 = .ok (.ifCond .ne 9, 3) := dk_154 0 9 (dk_at dksX5_faulty_1 3 rfl rfl)
theorem dX5_faulty_28 : decode cX5_faulty 28 = .ok (.aload_n 0, 1) := dk_42 (dk_at dksX5_faulty_1 6 rfl rfl)
theorem dX5_faulty_29 : decode cX5_faulty 29 = .ok (.iconst 2, 1) := dk_5 (dk_at dksX5_faulty_1 7 rfl rfl)
theorem dX5_faulty_30 : decode cX5_faulty 30 = .ok (.invokevirtual 81, 3) := dk_182 0 81 (dk_at dksX5_faulty_1 8 rfl rfl)
theorem dX5_faulty_33 : decode cX5_faulty 33 = .ok (.ireturn, 1) := dk_172 (dk_at dksX5_faulty_1 11 rfl rfl)
theorem dX5_faulty_34 : decode cX5_faulty 34 = .ok (.iconst 0, 1) := dk_3 (dk_at dksX5_faulty_1 12 rfl rfl)
theorem dX5_faulty_35 : decode cX5_faulty 35 = .ok (.istore_n 2, 1) := dk_61 (dk_at dksX5_faulty_1 13 rfl rfl)
theorem dX5_faulty_36 : decode cX5_faulty 36 = .ok (.iconst 0, 1) := dk_3 (dk_at dksX5_faulty_1 14 rfl rfl)
theorem dX5_faulty_37 : decode cX5_faulty 37 = .ok (.istore_n 3, 1) := dk_62 (dk_at dksX5_faulty_1 15 rfl rfl)
theorem dX5_faulty_38 : decode cX5_faulty 38 = .ok (.iload_n 3, 1) := dk_29 (dk_at dksX5_faulty_1 16 rfl rfl)
theorem dX5_faulty_39 : decode cX5_faulty 39 = .ok (.aload_n 0, 1) := dk_42 (dk_at dksX5_faulty_1 17 rfl rfl)
theorem dX5_faulty_40 : decode cX5_faulty 40 = .ok (.getfield 400, 3) := dk_180 1 144 (dk_at dksX5_faulty_1 18 rfl rfl)
theorem dX5_faulty_43 : decode cX5_faulty 43 = .ok (.if_icmp .ge 57, 3) := dk_162 0 57 (dk_at dksX5_faulty_1 21 rfl rfl)
theorem dX5_faulty_46 : decode cX5_faulty 46 = .ok (.aload_n 0, 1) := dk_42 (dk_at dksX5_faulty_2 0 rfl rfl)
theorem dX5_faulty_47 : decode cX5_faulty 47 = .ok (.getfield 72, 3) := dk_180 0 72 (dk_at dksX5_faulty_2 1 rfl rfl)
theorem dX5_faulty_50 : decode cX5_faulty 50 = .ok (.iload_n 3, 1) := dk_29 (dk_at dksX5_faulty_2 4 rfl rfl)
theorem dX5_faulty_51 : decode cX5_faulty 51 = .ok (.iaload, 1) := dk_46 (dk_at dksX5_faulty_2 5 rfl rfl)
theorem dX5_faulty_52 : decode cX5_faulty 52 = .ok (.aload_n 0, 1) := dk_42 (dk_at dksX5_faulty_2 6 rfl rfl)
theorem dX5_faulty_53 : decode cX5_faulty 53 = .ok (.aload_n 0, 1) := dk_42 (dk_at dksX5_faulty_2 7 rfl rfl)
theorem dX5_faulty_54 : decode cX5_faulty 54 = .ok (.getfield 66, 3) := dk_180 0 66 (dk_at dksX5_faulty_2 8 rfl rfl)
theorem dX5_faulty_57 : decode cX5_faulty 57 = .ok (.iload_n 3, 1) := dk_29 (dk_at dksX5_faulty_2 11 rfl rfl)
theorem dX5_faulty_58 : decode cX5_faulty 58 = .ok (.iaload, 1) := dk_46 (dk_at dksX5_faulty_2 12 rfl rfl)
theorem dX5_faulty_59 : decode cX5_faulty 59 = .ok (.aload_n 0, 1) := dk_42 (dk_at dksX5_faulty_2 13 rfl rfl)
theorem dX5_faulty_60 : decode cX5_faulty 60 = .ok (.getfield 69, 3) := dk_180 0 69 (dk_at dksX5_faulty_2 14 rfl rfl)
theorem dX5_faulty_63 : decode cX5_faulty 63 = .ok (.iload_n 3, 1) := dk_29 (dk_at dksX5_faulty_2 17 rfl rfl)
theorem dX5_faulty_64 : decode cX5_faulty 64 = .ok (.iaload, 1) := dk_46 (dk_at dksX5_faulty_2 18 rfl rfl)
theorem dX5_faulty_65 : decode cX5_faulty 65 = .ok (.invokevirtual 437, 3) := dk_182 1 181 (dk_at dksX5_faulty_2 19 rfl rfl)
theorem dX5_faulty_68 : decode cX5_faulty 68 = .ok (.isub, 1) := dk_100 (dk_at dksX5_faulty_2 22 rfl rfl)
theorem dX5_faulty_69 : decode cX5_faulty 69 = .ok (.istore 4, 2) := dk_54 4 (dk_at dksX5_faulty_3 0 rfl rfl)
theorem dX5_faulty_71 : decode cX5_faulty 71 = .ok (.iload_n 2, 1) := dk_28 (dk_at dksX5_faulty_3 2 rfl rfl)
theorem dX5_faulty_72 : decode cX5_faulty 72 = .ok (.iload 4, 2) := dk_21 4 (dk_at dksX5_faulty_3 3 rfl rfl)
theorem dX5_faulty_74 : decode cX5_faulty 74 = .ok (.iload_n 1, 1) := dk_27 (dk_at dksX5_faulty_3 5 rfl rfl)
theorem dX5_faulty_75 : decode cX5_faulty 75 = .ok (.if_icmp .gt 10, 3) := dk_163 0 10 (dk_at dksX5_faulty_3 6 rfl rfl)
theorem dX5_faulty_78 : decode cX5_faulty 78 = .ok (.iload 4, 2) := dk_21 4 (dk_at dksX5_faulty_3 9 rfl rfl)
theorem dX5_faulty_80 : decode cX5_faulty 80 = .ok (.ineg, 1) := dk_116 (dk_at dksX5_faulty_3 11 rfl rfl)
theorem dX5_faulty_81 : decode cX5_faulty 81 = .ok (.iload_n 1, 1) := dk_27 (dk_at dksX5_faulty_3 12 rfl rfl)
theorem dX5_faulty_82 : decode cX5_faulty 82 = .ok (.if_icmp .le 9, 3) := dk_164 0 9 (dk_at dksX5_faulty_3 13 rfl rfl)
theorem dX5_faulty_85 : decode cX5_faulty 85 = .ok (.iconst 1, 1) := dk_4 (dk_at dksX5_faulty_3 16 rfl rfl)
theorem dX5_faulty_86 : decode cX5_faulty 86 = .ok (.iload_n 3, 1) := dk_29 (dk_at dksX5_faulty_3 17 rfl rfl)
theorem dX5_faulty_87 : decode cX5_faulty 87 = .ok (.ishl, 1) := dk_120 (dk_at dksX5_faulty_3 18 rfl rfl)
theorem dX5_faulty_88 : decode cX5_faulty 88 = .ok (.goto 4, 3) := dk_167 0 4 (dk_at dksX5_faulty_3 19 rfl rfl)
theorem dX5_faulty_91 : decode cX5_faulty 91 = .ok (.iconst 0, 1) := dk_3 (dk_at dksX5_faulty_3 22 rfl rfl)
theorem dX5_faulty_92 : decode cX5_faulty 92 = .ok (.ior, 1) := dk_128 (dk_at dksX5_faulty_3 23 rfl rfl)
theorem dX5_faulty_93 : decode cX5_faulty 93 = .ok (.istore_n 2, 1) := dk_61 (dk_at dksX5_faulty_4 0 rfl rfl)
theorem dX5_faulty_94 : decode cX5_faulty 94 = .ok (.iinc 3 1, 3) := dk_132 3 1 (dk_at dksX5_faulty_4 1 rfl rfl)
theorem dX5_faulty_97 : decode cX5_faulty 97 = .ok (.goto (-59), 3) := dk_167 255 197 (dk_at dksX5_faulty_4 4 rfl rfl)
theorem dX5_faulty_100 : decode cX5_faulty 100 = .ok (.aload_n 0, 1) := dk_42 (dk_at dksX5_faulty_4 7 rfl rfl)
theorem dX5_faulty_101 : decode cX5_faulty 101 = .ok (.iload_n 2, 1) := dk_28 (dk_at dksX5_faulty_4 8 rfl rfl)
theorem dX5_faulty_102 : decode cX5_faulty 102 = .ok (.invokevirtual 416, 3) := dk_182 1 160 (dk_at dksX5_faulty_4 9 rfl rfl)
theorem dX5_faulty_105 : decode cX5_faulty 105 = .ok (.ireturn, 1) := dk_172 (dk_at dksX5_faulty_4 12 rfl rfl)
abbrev cX5_firstCold : ByteArray := prog_15_method_89_code
def yX5_firstCold : MethodName := ⟨RX5, "firstCold", "()I"⟩
def dkwX5_firstCold_3 : List UInt8 := [132, 2, 1, 167, 255, 206, 42, 27, 182, 1, 160, 172]
abbrev dktX5_firstCold_3 : List UInt8 := dkwX5_firstCold_3 ++ []
def dkwX5_firstCold_2 : List UInt8 := [16, 254, 159, 0, 18, 42, 180, 0, 69, 28, 46, 42, 180, 0, 69, 27, 46, 162, 0, 5, 28, 60]
abbrev dktX5_firstCold_2 : List UInt8 := dkwX5_firstCold_2 ++ dktX5_firstCold_3
def dkwX5_firstCold_1 : List UInt8 := [42, 180, 1, 144, 162, 0, 48, 42, 180, 0, 72, 28, 46, 42, 180, 1, 138, 180, 0, 220, 162, 0, 26, 27]
abbrev dktX5_firstCold_1 : List UInt8 := dkwX5_firstCold_1 ++ dktX5_firstCold_2
def dkwX5_firstCold_0 : List UInt8 := [42, 3, 181, 0, 75, 42, 180, 1, 138, 199, 0, 9, 42, 4, 182, 0, 81, 172, 16, 254, 60, 3, 61, 28]
abbrev dktX5_firstCold_0 : List UInt8 := dkwX5_firstCold_0 ++ dktX5_firstCold_1
theorem dksX5_firstCold_0 : cX5_firstCold.data.toList.drop 0 = dktX5_firstCold_0 := by decide +kernel
theorem dksX5_firstCold_1 : cX5_firstCold.data.toList.drop 24 = dktX5_firstCold_1 := dk_seg dksX5_firstCold_0 24 rfl rfl
theorem dksX5_firstCold_2 : cX5_firstCold.data.toList.drop 48 = dktX5_firstCold_2 := dk_seg dksX5_firstCold_1 24 rfl rfl
theorem dksX5_firstCold_3 : cX5_firstCold.data.toList.drop 70 = dktX5_firstCold_3 := dk_seg dksX5_firstCold_2 22 rfl rfl
theorem dX5_firstCold_0 : decode cX5_firstCold 0 = .ok (.aload_n 0, 1) := dk_42 (dk_at dksX5_firstCold_0 0 rfl rfl)
theorem dX5_firstCold_1 : decode cX5_firstCold 1 = .ok (.iconst 0, 1) := dk_3 (dk_at dksX5_firstCold_0 1 rfl rfl)
theorem dX5_firstCold_2 : decode cX5_firstCold 2 = .ok (.putfield 75, 3) := dk_181 0 75 (dk_at dksX5_firstCold_0 2 rfl rfl)
theorem dX5_firstCold_5 : decode cX5_firstCold 5 = .ok (.aload_n 0, 1) := dk_42 (dk_at dksX5_firstCold_0 5 rfl rfl)
theorem dX5_firstCold_6 : decode cX5_firstCold 6 = .ok (.getfield 394, 3) := dk_180 1 138 (dk_at dksX5_firstCold_0 6 rfl rfl)
theorem dX5_firstCold_9 : decode cX5_firstCold 9 = .ok (.ifnonnull 9, 3) := dk_199 0 9 (dk_at dksX5_firstCold_0 9 rfl rfl)
theorem dX5_firstCold_12 : decode cX5_firstCold 12 = .ok (.aload_n 0, 1) := dk_42 (dk_at dksX5_firstCold_0 12 rfl rfl)
theorem dX5_firstCold_13 : decode cX5_firstCold 13 = .ok (.iconst 1, 1) := dk_4 (dk_at dksX5_firstCold_0 13 rfl rfl)
theorem dX5_firstCold_14 : decode cX5_firstCold 14 = .ok (.invokevirtual 81, 3) := dk_182 0 81 (dk_at dksX5_firstCold_0 14 rfl rfl)
theorem dX5_firstCold_17 : decode cX5_firstCold 17 = .ok (.ireturn, 1) := dk_172 (dk_at dksX5_firstCold_0 17 rfl rfl)
theorem dX5_firstCold_18 : decode cX5_firstCold 18 = .ok (.bipush (-2), 2) := dk_16 254 (dk_at dksX5_firstCold_0 18 rfl rfl)
theorem dX5_firstCold_20 : decode cX5_firstCold 20 = .ok (.istore_n 1, 1) := dk_60 (dk_at dksX5_firstCold_0 20 rfl rfl)
theorem dX5_firstCold_21 : decode cX5_firstCold 21 = .ok (.iconst 0, 1) := dk_3 (dk_at dksX5_firstCold_0 21 rfl rfl)
theorem dX5_firstCold_22 : decode cX5_firstCold 22 = .ok (.istore_n 2, 1) := dk_61 (dk_at dksX5_firstCold_0 22 rfl rfl)
theorem dX5_firstCold_23 : decode cX5_firstCold 23 = .ok (.iload_n 2, 1) := dk_28 (dk_at dksX5_firstCold_0 23 rfl rfl)
theorem dX5_firstCold_24 : decode cX5_firstCold 24 = .ok (.aload_n 0, 1) := dk_42 (dk_at dksX5_firstCold_1 0 rfl rfl)
theorem dX5_firstCold_25 : decode cX5_firstCold 25 = .ok (.getfield 400, 3) := dk_180 1 144 (dk_at dksX5_firstCold_1 1 rfl rfl)
theorem dX5_firstCold_28 : decode cX5_firstCold 28 = .ok (.if_icmp .ge 48, 3) := dk_162 0 48 (dk_at dksX5_firstCold_1 4 rfl rfl)
theorem dX5_firstCold_31 : decode cX5_firstCold 31 = .ok (.aload_n 0, 1) := dk_42 (dk_at dksX5_firstCold_1 7 rfl rfl)
theorem dX5_firstCold_32 : decode cX5_firstCold 32 = .ok (.getfield 72, 3) := dk_180 0 72 (dk_at dksX5_firstCold_1 8 rfl rfl)
theorem dX5_firstCold_35 : decode cX5_firstCold 35 = .ok (.iload_n 2, 1) := dk_28 (dk_at dksX5_firstCold_1 11 rfl rfl)
theorem dX5_firstCold_36 : decode cX5_firstCold 36 = .ok (.iaload, 1) := dk_46 (dk_at dksX5_firstCold_1 12 rfl rfl)
theorem dX5_firstCold_37 : decode cX5_firstCold 37 = .ok (.aload_n 0, 1) := dk_42 (dk_at dksX5_firstCold_1 13 rfl rfl)
theorem dX5_firstCold_38 : decode cX5_firstCold 38 = .ok (.getfield 394, 3) := dk_180 1 138 (dk_at dksX5_firstCold_1 14 rfl rfl)
theorem dX5_firstCold_41 : decode cX5_firstCold 41 = .ok (.getfield 220, 3) := dk_180 0 220 (dk_at dksX5_firstCold_1 17 rfl rfl)
theorem dX5_firstCold_44 : decode cX5_firstCold 44 = .ok (.if_icmp .ge 26, 3) := dk_162 0 26 (dk_at dksX5_firstCold_1 20 rfl rfl)
theorem dX5_firstCold_47 : decode cX5_firstCold 47 = .ok (.iload_n 1, 1) := dk_27 (dk_at dksX5_firstCold_1 23 rfl rfl)
theorem dX5_firstCold_48 : decode cX5_firstCold 48 = .ok (.bipush (-2), 2) := dk_16 254 (dk_at dksX5_firstCold_2 0 rfl rfl)
theorem dX5_firstCold_50 : decode cX5_firstCold 50 = .ok (.if_icmp .eq 18, 3) := dk_159 0 18 (dk_at dksX5_firstCold_2 2 rfl rfl)
theorem dX5_firstCold_53 : decode cX5_firstCold 53 = .ok (.aload_n 0, 1) := dk_42 (dk_at dksX5_firstCold_2 5 rfl rfl)
theorem dX5_firstCold_54 : decode cX5_firstCold 54 = .ok (.getfield 69, 3) := dk_180 0 69 (dk_at dksX5_firstCold_2 6 rfl rfl)
theorem dX5_firstCold_57 : decode cX5_firstCold 57 = .ok (.iload_n 2, 1) := dk_28 (dk_at dksX5_firstCold_2 9 rfl rfl)
theorem dX5_firstCold_58 : decode cX5_firstCold 58 = .ok (.iaload, 1) := dk_46 (dk_at dksX5_firstCold_2 10 rfl rfl)
theorem dX5_firstCold_59 : decode cX5_firstCold 59 = .ok (.aload_n 0, 1) := dk_42 (dk_at dksX5_firstCold_2 11 rfl rfl)
theorem dX5_firstCold_60 : decode cX5_firstCold 60 = .ok (.getfield 69, 3) := dk_180 0 69 (dk_at dksX5_firstCold_2 12 rfl rfl)
theorem dX5_firstCold_63 : decode cX5_firstCold 63 = .ok (.iload_n 1, 1) := dk_27 (dk_at dksX5_firstCold_2 15 rfl rfl)
theorem dX5_firstCold_64 : decode cX5_firstCold 64 = .ok (.iaload, 1) := dk_46 (dk_at dksX5_firstCold_2 16 rfl rfl)
theorem dX5_firstCold_65 : decode cX5_firstCold 65 = .ok (.if_icmp .ge 5, 3) := dk_162 0 5 (dk_at dksX5_firstCold_2 17 rfl rfl)
theorem dX5_firstCold_68 : decode cX5_firstCold 68 = .ok (.iload_n 2, 1) := dk_28 (dk_at dksX5_firstCold_2 20 rfl rfl)
theorem dX5_firstCold_69 : decode cX5_firstCold 69 = .ok (.istore_n 1, 1) := dk_60 (dk_at dksX5_firstCold_2 21 rfl rfl)
theorem dX5_firstCold_70 : decode cX5_firstCold 70 = .ok (.iinc 2 1, 3) := dk_132 2 1 (dk_at dksX5_firstCold_3 0 rfl rfl)
theorem dX5_firstCold_73 : decode cX5_firstCold 73 = .ok (.goto (-50), 3) := dk_167 255 206 (dk_at dksX5_firstCold_3 3 rfl rfl)
theorem dX5_firstCold_76 : decode cX5_firstCold 76 = .ok (.aload_n 0, 1) := dk_42 (dk_at dksX5_firstCold_3 6 rfl rfl)
theorem dX5_firstCold_77 : decode cX5_firstCold 77 = .ok (.iload_n 1, 1) := dk_27 (dk_at dksX5_firstCold_3 7 rfl rfl)
theorem dX5_firstCold_78 : decode cX5_firstCold 78 = .ok (.invokevirtual 416, 3) := dk_182 1 160 (dk_at dksX5_firstCold_3 8 rfl rfl)
theorem dX5_firstCold_81 : decode cX5_firstCold 81 = .ok (.ireturn, 1) := dk_172 (dk_at dksX5_firstCold_3 11 rfl rfl)
abbrev cX5_recall : ByteArray := prog_15_method_90_code
def yX5_recall : MethodName := ⟨RX5, "recall", "(I)I"⟩
def dkwX5_recall_4 : List UInt8 := [132, 4, 1, 167, 255, 208, 132, 3, 1, 167, 255, 188, 42, 28, 182, 1, 160, 172]
abbrev dktX5_recall_4 : List UInt8 := dkwX5_recall_4 ++ []
def dkwX5_recall_3 : List UInt8 := [27, 160, 0, 20, 4, 42, 180, 0, 21, 16, 6, 29, 104, 21, 4, 96, 46, 120, 167, 0, 4, 3, 128, 61]
abbrev dktX5_recall_3 : List UInt8 := dkwX5_recall_3 ++ dktX5_recall_4
def dkwX5_recall_2 : List UInt8 := [3, 54, 4, 21, 4, 42, 180, 0, 17, 29, 46, 162, 0, 43, 28, 42, 180, 1, 138, 180, 1, 98, 29, 46]
abbrev dktX5_recall_2 : List UInt8 := dkwX5_recall_2 ++ dktX5_recall_3
def dkwX5_recall_1 : List UInt8 := [161, 0, 9, 42, 4, 182, 0, 81, 172, 3, 61, 3, 62, 29, 42, 180, 1, 138, 180, 0, 226, 162, 0, 63]
abbrev dktX5_recall_1 : List UInt8 := dkwX5_recall_1 ++ dktX5_recall_2
def dkwX5_recall_0 : List UInt8 := [42, 3, 181, 0, 75, 42, 180, 1, 138, 198, 0, 18, 27, 155, 0, 14, 27, 42, 180, 1, 138, 180, 1, 9]
abbrev dktX5_recall_0 : List UInt8 := dkwX5_recall_0 ++ dktX5_recall_1
theorem dksX5_recall_0 : cX5_recall.data.toList.drop 0 = dktX5_recall_0 := by decide +kernel
theorem dksX5_recall_1 : cX5_recall.data.toList.drop 24 = dktX5_recall_1 := dk_seg dksX5_recall_0 24 rfl rfl
theorem dksX5_recall_2 : cX5_recall.data.toList.drop 48 = dktX5_recall_2 := dk_seg dksX5_recall_1 24 rfl rfl
theorem dksX5_recall_3 : cX5_recall.data.toList.drop 72 = dktX5_recall_3 := dk_seg dksX5_recall_2 24 rfl rfl
theorem dksX5_recall_4 : cX5_recall.data.toList.drop 96 = dktX5_recall_4 := dk_seg dksX5_recall_3 24 rfl rfl
theorem dX5_recall_0 : decode cX5_recall 0 = .ok (.aload_n 0, 1) := dk_42 (dk_at dksX5_recall_0 0 rfl rfl)
theorem dX5_recall_1 : decode cX5_recall 1 = .ok (.iconst 0, 1) := dk_3 (dk_at dksX5_recall_0 1 rfl rfl)
theorem dX5_recall_2 : decode cX5_recall 2 = .ok (.putfield 75, 3) := dk_181 0 75 (dk_at dksX5_recall_0 2 rfl rfl)
theorem dX5_recall_5 : decode cX5_recall 5 = .ok (.aload_n 0, 1) := dk_42 (dk_at dksX5_recall_0 5 rfl rfl)
theorem dX5_recall_6 : decode cX5_recall 6 = .ok (.getfield 394, 3) := dk_180 1 138 (dk_at dksX5_recall_0 6 rfl rfl)
theorem dX5_recall_9 : decode cX5_recall 9 = .ok (.ifnull 18, 3) := dk_198 0 18 (dk_at dksX5_recall_0 9 rfl rfl)
theorem dX5_recall_12 : decode cX5_recall 12 = .ok (.iload_n 1, 1) := dk_27 (dk_at dksX5_recall_0 12 rfl rfl)
theorem dX5_recall_13 : decode cX5_recall 13 = .ok (.ifCond .lt 14, 3) := dk_155 0 14 (dk_at dksX5_recall_0 13 rfl rfl)
theorem dX5_recall_16 : decode cX5_recall 16 = .ok (.iload_n 1, 1) := dk_27 (dk_at dksX5_recall_0 16 rfl rfl)
theorem dX5_recall_17 : decode cX5_recall 17 = .ok (.aload_n 0, 1) := dk_42 (dk_at dksX5_recall_0 17 rfl rfl)
theorem dX5_recall_18 : decode cX5_recall 18 = .ok (.getfield 394, 3) := dk_180 1 138 (dk_at dksX5_recall_0 18 rfl rfl)
theorem dX5_recall_21 : decode cX5_recall 21 = .ok (.getfield 265, 3) := dk_180 1 9 (dk_at dksX5_recall_0 21 rfl rfl)
theorem dX5_recall_24 : decode cX5_recall 24 = .ok (.if_icmp .lt 9, 3) := dk_161 0 9 (dk_at dksX5_recall_1 0 rfl rfl)
theorem dX5_recall_27 : decode cX5_recall 27 = .ok (.aload_n 0, 1) := dk_42 (dk_at dksX5_recall_1 3 rfl rfl)
theorem dX5_recall_28 : decode cX5_recall 28 = .ok (.iconst 1, 1) := dk_4 (dk_at dksX5_recall_1 4 rfl rfl)
theorem dX5_recall_29 : decode cX5_recall 29 = .ok (.invokevirtual 81, 3) := dk_182 0 81 (dk_at dksX5_recall_1 5 rfl rfl)
theorem dX5_recall_32 : decode cX5_recall 32 = .ok (.ireturn, 1) := dk_172 (dk_at dksX5_recall_1 8 rfl rfl)
theorem dX5_recall_33 : decode cX5_recall 33 = .ok (.iconst 0, 1) := dk_3 (dk_at dksX5_recall_1 9 rfl rfl)
theorem dX5_recall_34 : decode cX5_recall 34 = .ok (.istore_n 2, 1) := dk_61 (dk_at dksX5_recall_1 10 rfl rfl)
theorem dX5_recall_35 : decode cX5_recall 35 = .ok (.iconst 0, 1) := dk_3 (dk_at dksX5_recall_1 11 rfl rfl)
theorem dX5_recall_36 : decode cX5_recall 36 = .ok (.istore_n 3, 1) := dk_62 (dk_at dksX5_recall_1 12 rfl rfl)
theorem dX5_recall_37 : decode cX5_recall 37 = .ok (.iload_n 3, 1) := dk_29 (dk_at dksX5_recall_1 13 rfl rfl)
theorem dX5_recall_38 : decode cX5_recall 38 = .ok (.aload_n 0, 1) := dk_42 (dk_at dksX5_recall_1 14 rfl rfl)
theorem dX5_recall_39 : decode cX5_recall 39 = .ok (.getfield 394, 3) := dk_180 1 138 (dk_at dksX5_recall_1 15 rfl rfl)
theorem dX5_recall_42 : decode cX5_recall 42 = .ok (.getfield 226, 3) := dk_180 0 226 (dk_at dksX5_recall_1 18 rfl rfl)
theorem dX5_recall_45 : decode cX5_recall 45 = .ok (.if_icmp .ge 63, 3) := dk_162 0 63 (dk_at dksX5_recall_1 21 rfl rfl)
theorem dX5_recall_48 : decode cX5_recall 48 = .ok (.iconst 0, 1) := dk_3 (dk_at dksX5_recall_2 0 rfl rfl)
theorem dX5_recall_49 : decode cX5_recall 49 = .ok (.istore 4, 2) := dk_54 4 (dk_at dksX5_recall_2 1 rfl rfl)
theorem dX5_recall_51 : decode cX5_recall 51 = .ok (.iload 4, 2) := dk_21 4 (dk_at dksX5_recall_2 3 rfl rfl)
theorem dX5_recall_53 : decode cX5_recall 53 = .ok (.aload_n 0, 1) := dk_42 (dk_at dksX5_recall_2 5 rfl rfl)
theorem dX5_recall_54 : decode cX5_recall 54 = .ok (.getfield 17, 3) := dk_180 0 17 (dk_at dksX5_recall_2 6 rfl rfl)
theorem dX5_recall_57 : decode cX5_recall 57 = .ok (.iload_n 3, 1) := dk_29 (dk_at dksX5_recall_2 9 rfl rfl)
theorem dX5_recall_58 : decode cX5_recall 58 = .ok (.iaload, 1) := dk_46 (dk_at dksX5_recall_2 10 rfl rfl)
theorem dX5_recall_59 : decode cX5_recall 59 = .ok (.if_icmp .ge 43, 3) := dk_162 0 43 (dk_at dksX5_recall_2 11 rfl rfl)
theorem dX5_recall_62 : decode cX5_recall 62 = .ok (.iload_n 2, 1) := dk_28 (dk_at dksX5_recall_2 14 rfl rfl)
theorem dX5_recall_63 : decode cX5_recall 63 = .ok (.aload_n 0, 1) := dk_42 (dk_at dksX5_recall_2 15 rfl rfl)
theorem dX5_recall_64 : decode cX5_recall 64 = .ok (.getfield 394, 3) := dk_180 1 138 (dk_at dksX5_recall_2 16 rfl rfl)
theorem dX5_recall_67 : decode cX5_recall 67 = .ok (.getfield 354, 3) := dk_180 1 98 (dk_at dksX5_recall_2 19 rfl rfl)
theorem dX5_recall_70 : decode cX5_recall 70 = .ok (.iload_n 3, 1) := dk_29 (dk_at dksX5_recall_2 22 rfl rfl)
theorem dX5_recall_71 : decode cX5_recall 71 = .ok (.iaload, 1) := dk_46 (dk_at dksX5_recall_2 23 rfl rfl)
theorem dX5_recall_72 : decode cX5_recall 72 = .ok (.iload_n 1, 1) := dk_27 (dk_at dksX5_recall_3 0 rfl rfl)
theorem dX5_recall_73 : decode cX5_recall 73 = .ok (.if_icmp .ne 20, 3) := dk_160 0 20 (dk_at dksX5_recall_3 1 rfl rfl)
theorem dX5_recall_76 : decode cX5_recall 76 = .ok (.iconst 1, 1) := dk_4 (dk_at dksX5_recall_3 4 rfl rfl)
theorem dX5_recall_77 : decode cX5_recall 77 = .ok (.aload_n 0, 1) := dk_42 (dk_at dksX5_recall_3 5 rfl rfl)
theorem dX5_recall_78 : decode cX5_recall 78 = .ok (.getfield 21, 3) := dk_180 0 21 (dk_at dksX5_recall_3 6 rfl rfl)
theorem dX5_recall_81 : decode cX5_recall 81 = .ok (.bipush 6, 2) := dk_16 6 (dk_at dksX5_recall_3 9 rfl rfl)
theorem dX5_recall_83 : decode cX5_recall 83 = .ok (.iload_n 3, 1) := dk_29 (dk_at dksX5_recall_3 11 rfl rfl)
theorem dX5_recall_84 : decode cX5_recall 84 = .ok (.imul, 1) := dk_104 (dk_at dksX5_recall_3 12 rfl rfl)
theorem dX5_recall_85 : decode cX5_recall 85 = .ok (.iload 4, 2) := dk_21 4 (dk_at dksX5_recall_3 13 rfl rfl)
theorem dX5_recall_87 : decode cX5_recall 87 = .ok (.iadd, 1) := dk_96 (dk_at dksX5_recall_3 15 rfl rfl)
theorem dX5_recall_88 : decode cX5_recall 88 = .ok (.iaload, 1) := dk_46 (dk_at dksX5_recall_3 16 rfl rfl)
theorem dX5_recall_89 : decode cX5_recall 89 = .ok (.ishl, 1) := dk_120 (dk_at dksX5_recall_3 17 rfl rfl)
theorem dX5_recall_90 : decode cX5_recall 90 = .ok (.goto 4, 3) := dk_167 0 4 (dk_at dksX5_recall_3 18 rfl rfl)
theorem dX5_recall_93 : decode cX5_recall 93 = .ok (.iconst 0, 1) := dk_3 (dk_at dksX5_recall_3 21 rfl rfl)
theorem dX5_recall_94 : decode cX5_recall 94 = .ok (.ior, 1) := dk_128 (dk_at dksX5_recall_3 22 rfl rfl)
theorem dX5_recall_95 : decode cX5_recall 95 = .ok (.istore_n 2, 1) := dk_61 (dk_at dksX5_recall_3 23 rfl rfl)
theorem dX5_recall_96 : decode cX5_recall 96 = .ok (.iinc 4 1, 3) := dk_132 4 1 (dk_at dksX5_recall_4 0 rfl rfl)
theorem dX5_recall_99 : decode cX5_recall 99 = .ok (.goto (-48), 3) := dk_167 255 208 (dk_at dksX5_recall_4 3 rfl rfl)
theorem dX5_recall_102 : decode cX5_recall 102 = .ok (.iinc 3 1, 3) := dk_132 3 1 (dk_at dksX5_recall_4 6 rfl rfl)
theorem dX5_recall_105 : decode cX5_recall 105 = .ok (.goto (-68), 3) := dk_167 255 188 (dk_at dksX5_recall_4 9 rfl rfl)
theorem dX5_recall_108 : decode cX5_recall 108 = .ok (.aload_n 0, 1) := dk_42 (dk_at dksX5_recall_4 12 rfl rfl)
theorem dX5_recall_109 : decode cX5_recall 109 = .ok (.iload_n 2, 1) := dk_28 (dk_at dksX5_recall_4 13 rfl rfl)
theorem dX5_recall_110 : decode cX5_recall 110 = .ok (.invokevirtual 416, 3) := dk_182 1 160 (dk_at dksX5_recall_4 14 rfl rfl)
theorem dX5_recall_113 : decode cX5_recall 113 = .ok (.ireturn, 1) := dk_172 (dk_at dksX5_recall_4 17 rfl rfl)
abbrev cX5_led : ByteArray := prog_15_method_91_code
def yX5_led : MethodName := ⟨RX5, "led", "(II)I"⟩
def dkwX5_led_2 : List UInt8 := [27, 104, 28, 96, 46, 172]
abbrev dktX5_led_2 : List UInt8 := dkwX5_led_2 ++ []
def dkwX5_led_1 : List UInt8 := [167, 0, 4, 4, 181, 0, 75, 42, 180, 0, 75, 158, 0, 7, 3, 167, 0, 14, 42, 180, 0, 21, 16, 6]
abbrev dktX5_led_1 : List UInt8 := dkwX5_led_1 ++ dktX5_led_2
def dkwX5_led_0 : List UInt8 := [42, 42, 27, 182, 1, 163, 153, 0, 21, 28, 155, 0, 17, 28, 42, 180, 0, 17, 27, 46, 162, 0, 7, 3]
abbrev dktX5_led_0 : List UInt8 := dkwX5_led_0 ++ dktX5_led_1
theorem dksX5_led_0 : cX5_led.data.toList.drop 0 = dktX5_led_0 := by decide +kernel
theorem dksX5_led_1 : cX5_led.data.toList.drop 24 = dktX5_led_1 := dk_seg dksX5_led_0 24 rfl rfl
theorem dksX5_led_2 : cX5_led.data.toList.drop 48 = dktX5_led_2 := dk_seg dksX5_led_1 24 rfl rfl
theorem dX5_led_0 : decode cX5_led 0 = .ok (.aload_n 0, 1) := dk_42 (dk_at dksX5_led_0 0 rfl rfl)
theorem dX5_led_1 : decode cX5_led 1 = .ok (.aload_n 0, 1) := dk_42 (dk_at dksX5_led_0 1 rfl rfl)
theorem dX5_led_2 : decode cX5_led 2 = .ok (.iload_n 1, 1) := dk_27 (dk_at dksX5_led_0 2 rfl rfl)
theorem dX5_led_3 : decode cX5_led 3 = .ok (.invokevirtual 419, 3) := dk_182 1 163 (dk_at dksX5_led_0 3 rfl rfl)
theorem dX5_led_6 : decode cX5_led 6 = .ok (.ifCond .eq 21, 3) := dk_153 0 21 (dk_at dksX5_led_0 6 rfl rfl)
theorem dX5_led_9 : decode cX5_led 9 = .ok (.iload_n 2, 1) := dk_28 (dk_at dksX5_led_0 9 rfl rfl)
theorem dX5_led_10 : decode cX5_led 10 = .ok (.ifCond .lt 17, 3) := dk_155 0 17 (dk_at dksX5_led_0 10 rfl rfl)
theorem dX5_led_13 : decode cX5_led 13 = .ok (.iload_n 2, 1) := dk_28 (dk_at dksX5_led_0 13 rfl rfl)
theorem dX5_led_14 : decode cX5_led 14 = .ok (.aload_n 0, 1) := dk_42 (dk_at dksX5_led_0 14 rfl rfl)
theorem dX5_led_15 : decode cX5_led 15 = .ok (.getfield 17, 3) := dk_180 0 17 (dk_at dksX5_led_0 15 rfl rfl)
theorem dX5_led_18 : decode cX5_led 18 = .ok (.iload_n 1, 1) := dk_27 (dk_at dksX5_led_0 18 rfl rfl)
theorem dX5_led_19 : decode cX5_led 19 = .ok (.iaload, 1) := dk_46 (dk_at dksX5_led_0 19 rfl rfl)
theorem dX5_led_20 : decode cX5_led 20 = .ok (.if_icmp .ge 7, 3) := dk_162 0 7 (dk_at dksX5_led_0 20 rfl rfl)
theorem dX5_led_23 : decode cX5_led 23 = .ok (.iconst 0, 1) := dk_3 (dk_at dksX5_led_0 23 rfl rfl)
theorem dX5_led_24 : decode cX5_led 24 = .ok (.goto 4, 3) := dk_167 0 4 (dk_at dksX5_led_1 0 rfl rfl)
theorem dX5_led_27 : decode cX5_led 27 = .ok (.iconst 1, 1) := dk_4 (dk_at dksX5_led_1 3 rfl rfl)
theorem dX5_led_28 : decode cX5_led 28 = .ok (.putfield 75, 3) := dk_181 0 75 (dk_at dksX5_led_1 4 rfl rfl)
theorem dX5_led_31 : decode cX5_led 31 = .ok (.aload_n 0, 1) := dk_42 (dk_at dksX5_led_1 7 rfl rfl)
theorem dX5_led_32 : decode cX5_led 32 = .ok (.getfield 75, 3) := dk_180 0 75 (dk_at dksX5_led_1 8 rfl rfl)
theorem dX5_led_35 : decode cX5_led 35 = .ok (.ifCond .le 7, 3) := dk_158 0 7 (dk_at dksX5_led_1 11 rfl rfl)
theorem dX5_led_38 : decode cX5_led 38 = .ok (.iconst 0, 1) := dk_3 (dk_at dksX5_led_1 14 rfl rfl)
theorem dX5_led_39 : decode cX5_led 39 = .ok (.goto 14, 3) := dk_167 0 14 (dk_at dksX5_led_1 15 rfl rfl)
theorem dX5_led_42 : decode cX5_led 42 = .ok (.aload_n 0, 1) := dk_42 (dk_at dksX5_led_1 18 rfl rfl)
theorem dX5_led_43 : decode cX5_led 43 = .ok (.getfield 21, 3) := dk_180 0 21 (dk_at dksX5_led_1 19 rfl rfl)
theorem dX5_led_46 : decode cX5_led 46 = .ok (.bipush 6, 2) := dk_16 6 (dk_at dksX5_led_1 22 rfl rfl)
theorem dX5_led_48 : decode cX5_led 48 = .ok (.iload_n 1, 1) := dk_27 (dk_at dksX5_led_2 0 rfl rfl)
theorem dX5_led_49 : decode cX5_led 49 = .ok (.imul, 1) := dk_104 (dk_at dksX5_led_2 1 rfl rfl)
theorem dX5_led_50 : decode cX5_led 50 = .ok (.iload_n 2, 1) := dk_28 (dk_at dksX5_led_2 2 rfl rfl)
theorem dX5_led_51 : decode cX5_led 51 = .ok (.iadd, 1) := dk_96 (dk_at dksX5_led_2 3 rfl rfl)
theorem dX5_led_52 : decode cX5_led 52 = .ok (.iaload, 1) := dk_46 (dk_at dksX5_led_2 4 rfl rfl)
theorem dX5_led_53 : decode cX5_led 53 = .ok (.ireturn, 1) := dk_172 (dk_at dksX5_led_2 5 rfl rfl)
abbrev cX5_size : ByteArray := prog_15_method_92_code
def yX5_size : MethodName := ⟨RX5, "size", "(I)I"⟩
def dkwX5_size_6 : List UInt8 := [180, 1, 141, 172]
abbrev dktX5_size_6 : List UInt8 := dkwX5_size_6 ++ []
def dkwX5_size_5 : List UInt8 := [42, 180, 1, 138, 180, 1, 109, 172, 42, 180, 1, 138, 180, 1, 119, 172, 42, 180, 1, 144, 172, 42]
abbrev dktX5_size_5 : List UInt8 := dkwX5_size_5 ++ dktX5_size_6
def dkwX5_size_4 : List UInt8 := [42, 180, 1, 138, 180, 0, 223, 172, 42, 180, 1, 138, 180, 0, 226, 172, 42, 180, 1, 138, 180, 1, 23, 172]
abbrev dktX5_size_4 : List UInt8 := dkwX5_size_4 ++ dktX5_size_5
def dkwX5_size_3 : List UInt8 := [42, 180, 1, 138, 180, 1, 9, 172, 42, 180, 1, 138, 180, 1, 34, 172, 42, 180, 1, 138, 180, 1, 50, 172]
abbrev dktX5_size_3 : List UInt8 := dkwX5_size_3 ++ dktX5_size_4
def dkwX5_size_2 : List UInt8 := [170, 0, 0, 0, 0, 119, 0, 0, 0, 0, 0, 0, 0, 8, 0, 0, 0, 50, 0, 0, 0, 58, 0, 0, 0, 66, 0, 0, 0, 74, 0, 0, 0, 82, 0, 0, 0, 90, 0, 0, 0, 98, 0, 0, 0, 106, 0, 0, 0, 114]
abbrev dktX5_size_2 : List UInt8 := dkwX5_size_2 ++ dktX5_size_3
def dkwX5_size_1 : List UInt8 := [154, 0, 5, 2, 172, 42, 180, 1, 138, 199, 0, 5, 3, 172, 27]
abbrev dktX5_size_1 : List UInt8 := dkwX5_size_1 ++ dktX5_size_2
def dkwX5_size_0 : List UInt8 := [42, 3, 181, 0, 75, 27, 16, 10, 160, 0, 8, 42, 180, 1, 131, 172, 27, 3, 16, 9, 184, 0, 153]
abbrev dktX5_size_0 : List UInt8 := dkwX5_size_0 ++ dktX5_size_1
theorem dksX5_size_0 : cX5_size.data.toList.drop 0 = dktX5_size_0 := by decide +kernel
theorem dksX5_size_1 : cX5_size.data.toList.drop 23 = dktX5_size_1 := dk_seg dksX5_size_0 23 rfl rfl
theorem dksX5_size_2 : cX5_size.data.toList.drop 38 = dktX5_size_2 := dk_seg dksX5_size_1 15 rfl rfl
theorem dksX5_size_3 : cX5_size.data.toList.drop 88 = dktX5_size_3 := dk_seg dksX5_size_2 50 rfl rfl
theorem dksX5_size_4 : cX5_size.data.toList.drop 112 = dktX5_size_4 := dk_seg dksX5_size_3 24 rfl rfl
theorem dksX5_size_5 : cX5_size.data.toList.drop 136 = dktX5_size_5 := dk_seg dksX5_size_4 24 rfl rfl
theorem dksX5_size_6 : cX5_size.data.toList.drop 158 = dktX5_size_6 := dk_seg dksX5_size_5 22 rfl rfl
theorem dX5_size_0 : decode cX5_size 0 = .ok (.aload_n 0, 1) := dk_42 (dk_at dksX5_size_0 0 rfl rfl)
theorem dX5_size_1 : decode cX5_size 1 = .ok (.iconst 0, 1) := dk_3 (dk_at dksX5_size_0 1 rfl rfl)
theorem dX5_size_2 : decode cX5_size 2 = .ok (.putfield 75, 3) := dk_181 0 75 (dk_at dksX5_size_0 2 rfl rfl)
theorem dX5_size_5 : decode cX5_size 5 = .ok (.iload_n 1, 1) := dk_27 (dk_at dksX5_size_0 5 rfl rfl)
theorem dX5_size_6 : decode cX5_size 6 = .ok (.bipush 10, 2) := dk_16 10 (dk_at dksX5_size_0 6 rfl rfl)
theorem dX5_size_8 : decode cX5_size 8 = .ok (.if_icmp .ne 8, 3) := dk_160 0 8 (dk_at dksX5_size_0 8 rfl rfl)
theorem dX5_size_11 : decode cX5_size 11 = .ok (.aload_n 0, 1) := dk_42 (dk_at dksX5_size_0 11 rfl rfl)
theorem dX5_size_12 : decode cX5_size 12 = .ok (.getfield 387, 3) := dk_180 1 131 (dk_at dksX5_size_0 12 rfl rfl)
theorem dX5_size_15 : decode cX5_size 15 = .ok (.ireturn, 1) := dk_172 (dk_at dksX5_size_0 15 rfl rfl)
theorem dX5_size_16 : decode cX5_size 16 = .ok (.iload_n 1, 1) := dk_27 (dk_at dksX5_size_0 16 rfl rfl)
theorem dX5_size_17 : decode cX5_size 17 = .ok (.iconst 0, 1) := dk_3 (dk_at dksX5_size_0 17 rfl rfl)
theorem dX5_size_18 : decode cX5_size 18 = .ok (.bipush 9, 2) := dk_16 9 (dk_at dksX5_size_0 18 rfl rfl)
theorem dX5_size_20 : decode cX5_size 20 = .ok (.invokestatic 153, 3) := dk_184 0 153 (dk_at dksX5_size_0 20 rfl rfl)
theorem dX5_size_23 : decode cX5_size 23 = .ok (.ifCond .ne 5, 3) := dk_154 0 5 (dk_at dksX5_size_1 0 rfl rfl)
theorem dX5_size_26 : decode cX5_size 26 = .ok (.iconst (-1), 1) := dk_2 (dk_at dksX5_size_1 3 rfl rfl)
theorem dX5_size_27 : decode cX5_size 27 = .ok (.ireturn, 1) := dk_172 (dk_at dksX5_size_1 4 rfl rfl)
theorem dX5_size_28 : decode cX5_size 28 = .ok (.aload_n 0, 1) := dk_42 (dk_at dksX5_size_1 5 rfl rfl)
theorem dX5_size_29 : decode cX5_size 29 = .ok (.getfield 394, 3) := dk_180 1 138 (dk_at dksX5_size_1 6 rfl rfl)
theorem dX5_size_32 : decode cX5_size 32 = .ok (.ifnonnull 5, 3) := dk_199 0 5 (dk_at dksX5_size_1 9 rfl rfl)
theorem dX5_size_35 : decode cX5_size 35 = .ok (.iconst 0, 1) := dk_3 (dk_at dksX5_size_1 12 rfl rfl)
theorem dX5_size_36 : decode cX5_size 36 = .ok (.ireturn, 1) := dk_172 (dk_at dksX5_size_1 13 rfl rfl)
theorem dX5_size_37 : decode cX5_size 37 = .ok (.iload_n 1, 1) := dk_27 (dk_at dksX5_size_1 14 rfl rfl)
theorem dX5_size_38 : decode cX5_size 38 = .ok (.tableswitch 119 0 8 #[50, 58, 66, 74, 82, 90, 98, 106, 114], 50) := by decide +kernel
theorem dX5_size_88 : decode cX5_size 88 = .ok (.aload_n 0, 1) := dk_42 (dk_at dksX5_size_3 0 rfl rfl)
theorem dX5_size_89 : decode cX5_size 89 = .ok (.getfield 394, 3) := dk_180 1 138 (dk_at dksX5_size_3 1 rfl rfl)
theorem dX5_size_92 : decode cX5_size 92 = .ok (.getfield 265, 3) := dk_180 1 9 (dk_at dksX5_size_3 4 rfl rfl)
theorem dX5_size_95 : decode cX5_size 95 = .ok (.ireturn, 1) := dk_172 (dk_at dksX5_size_3 7 rfl rfl)
theorem dX5_size_96 : decode cX5_size 96 = .ok (.aload_n 0, 1) := dk_42 (dk_at dksX5_size_3 8 rfl rfl)
theorem dX5_size_97 : decode cX5_size 97 = .ok (.getfield 394, 3) := dk_180 1 138 (dk_at dksX5_size_3 9 rfl rfl)
theorem dX5_size_100 : decode cX5_size 100 = .ok (.getfield 290, 3) := dk_180 1 34 (dk_at dksX5_size_3 12 rfl rfl)
theorem dX5_size_103 : decode cX5_size 103 = .ok (.ireturn, 1) := dk_172 (dk_at dksX5_size_3 15 rfl rfl)
theorem dX5_size_104 : decode cX5_size 104 = .ok (.aload_n 0, 1) := dk_42 (dk_at dksX5_size_3 16 rfl rfl)
theorem dX5_size_105 : decode cX5_size 105 = .ok (.getfield 394, 3) := dk_180 1 138 (dk_at dksX5_size_3 17 rfl rfl)
theorem dX5_size_108 : decode cX5_size 108 = .ok (.getfield 306, 3) := dk_180 1 50 (dk_at dksX5_size_3 20 rfl rfl)
theorem dX5_size_111 : decode cX5_size 111 = .ok (.ireturn, 1) := dk_172 (dk_at dksX5_size_3 23 rfl rfl)
theorem dX5_size_112 : decode cX5_size 112 = .ok (.aload_n 0, 1) := dk_42 (dk_at dksX5_size_4 0 rfl rfl)
theorem dX5_size_113 : decode cX5_size 113 = .ok (.getfield 394, 3) := dk_180 1 138 (dk_at dksX5_size_4 1 rfl rfl)
theorem dX5_size_116 : decode cX5_size 116 = .ok (.getfield 223, 3) := dk_180 0 223 (dk_at dksX5_size_4 4 rfl rfl)
theorem dX5_size_119 : decode cX5_size 119 = .ok (.ireturn, 1) := dk_172 (dk_at dksX5_size_4 7 rfl rfl)
theorem dX5_size_120 : decode cX5_size 120 = .ok (.aload_n 0, 1) := dk_42 (dk_at dksX5_size_4 8 rfl rfl)
theorem dX5_size_121 : decode cX5_size 121 = .ok (.getfield 394, 3) := dk_180 1 138 (dk_at dksX5_size_4 9 rfl rfl)
theorem dX5_size_124 : decode cX5_size 124 = .ok (.getfield 226, 3) := dk_180 0 226 (dk_at dksX5_size_4 12 rfl rfl)
theorem dX5_size_127 : decode cX5_size 127 = .ok (.ireturn, 1) := dk_172 (dk_at dksX5_size_4 15 rfl rfl)
theorem dX5_size_128 : decode cX5_size 128 = .ok (.aload_n 0, 1) := dk_42 (dk_at dksX5_size_4 16 rfl rfl)
theorem dX5_size_129 : decode cX5_size 129 = .ok (.getfield 394, 3) := dk_180 1 138 (dk_at dksX5_size_4 17 rfl rfl)
theorem dX5_size_132 : decode cX5_size 132 = .ok (.getfield 279, 3) := dk_180 1 23 (dk_at dksX5_size_4 20 rfl rfl)
theorem dX5_size_135 : decode cX5_size 135 = .ok (.ireturn, 1) := dk_172 (dk_at dksX5_size_4 23 rfl rfl)
theorem dX5_size_136 : decode cX5_size 136 = .ok (.aload_n 0, 1) := dk_42 (dk_at dksX5_size_5 0 rfl rfl)
theorem dX5_size_137 : decode cX5_size 137 = .ok (.getfield 394, 3) := dk_180 1 138 (dk_at dksX5_size_5 1 rfl rfl)
theorem dX5_size_140 : decode cX5_size 140 = .ok (.getfield 365, 3) := dk_180 1 109 (dk_at dksX5_size_5 4 rfl rfl)
theorem dX5_size_143 : decode cX5_size 143 = .ok (.ireturn, 1) := dk_172 (dk_at dksX5_size_5 7 rfl rfl)
theorem dX5_size_144 : decode cX5_size 144 = .ok (.aload_n 0, 1) := dk_42 (dk_at dksX5_size_5 8 rfl rfl)
theorem dX5_size_145 : decode cX5_size 145 = .ok (.getfield 394, 3) := dk_180 1 138 (dk_at dksX5_size_5 9 rfl rfl)
theorem dX5_size_148 : decode cX5_size 148 = .ok (.getfield 375, 3) := dk_180 1 119 (dk_at dksX5_size_5 12 rfl rfl)
theorem dX5_size_151 : decode cX5_size 151 = .ok (.ireturn, 1) := dk_172 (dk_at dksX5_size_5 15 rfl rfl)
theorem dX5_size_152 : decode cX5_size 152 = .ok (.aload_n 0, 1) := dk_42 (dk_at dksX5_size_5 16 rfl rfl)
theorem dX5_size_153 : decode cX5_size 153 = .ok (.getfield 400, 3) := dk_180 1 144 (dk_at dksX5_size_5 17 rfl rfl)
theorem dX5_size_156 : decode cX5_size 156 = .ok (.ireturn, 1) := dk_172 (dk_at dksX5_size_5 20 rfl rfl)
theorem dX5_size_157 : decode cX5_size 157 = .ok (.aload_n 0, 1) := dk_42 (dk_at dksX5_size_5 21 rfl rfl)
theorem dX5_size_158 : decode cX5_size 158 = .ok (.getfield 397, 3) := dk_180 1 141 (dk_at dksX5_size_6 0 rfl rfl)
theorem dX5_size_161 : decode cX5_size 161 = .ok (.ireturn, 1) := dk_172 (dk_at dksX5_size_6 3 rfl rfl)
abbrev cX5_trouble : ByteArray := prog_15_method_93_code
def yX5_trouble : MethodName := ⟨RX5, "trouble", "()I"⟩
def dkwX5_trouble_0 : List UInt8 := [42, 3, 181, 0, 75, 42, 180, 0, 78, 172]
abbrev dktX5_trouble_0 : List UInt8 := dkwX5_trouble_0 ++ []
theorem dksX5_trouble_0 : cX5_trouble.data.toList.drop 0 = dktX5_trouble_0 := by decide +kernel
theorem dX5_trouble_0 : decode cX5_trouble 0 = .ok (.aload_n 0, 1) := dk_42 (dk_at dksX5_trouble_0 0 rfl rfl)
theorem dX5_trouble_1 : decode cX5_trouble 1 = .ok (.iconst 0, 1) := dk_3 (dk_at dksX5_trouble_0 1 rfl rfl)
theorem dX5_trouble_2 : decode cX5_trouble 2 = .ok (.putfield 75, 3) := dk_181 0 75 (dk_at dksX5_trouble_0 2 rfl rfl)
theorem dX5_trouble_5 : decode cX5_trouble 5 = .ok (.aload_n 0, 1) := dk_42 (dk_at dksX5_trouble_0 5 rfl rfl)
theorem dX5_trouble_6 : decode cX5_trouble 6 = .ok (.getfield 78, 3) := dk_180 0 78 (dk_at dksX5_trouble_0 6 rfl rfl)
theorem dX5_trouble_9 : decode cX5_trouble 9 = .ok (.ireturn, 1) := dk_172 (dk_at dksX5_trouble_0 9 rfl rfl)
theorem q99 : (Jvm.Cond.initialized "NoonMealsModel") ∈ lw_all := lw_g (lw_at lw_m1 8 rfl) rfl
theorem q1293 : (Jvm.Cond.instantiable "NoonMealsModel" (46 : Nat)) ∈ lw_all := lw_g (lw_at lw_m6 2 rfl) rfl
theorem q1295 : (Jvm.Cond.instanceMethod ({ cls := "NoonMealsModel", name := "<init>", desc := "()V" } : Jvm.MethodName)) ∈ lw_all := lw_g (lw_at lw_m6 4 rfl) rfl
theorem q1296 : (Jvm.Cond.code ({ cls := "NoonMealsModel", name := "<init>", desc := "()V" } : Jvm.MethodName) prog_15_method_1_code (1 : Nat) (Option.none : Option Jvm.ClassFile.FieldType)) ∈ lw_all := lw_g (lw_at lw_m6 5 rfl) rfl
theorem q1297 : (Jvm.Cond.methodLink "NoonMealsModel" (1 : Nat) ({ cls := "java/lang/Object", name := "<init>", desc := "()V" } : Jvm.MethodName)) ∈ lw_all := lw_g (lw_at lw_m6 6 rfl) rfl
theorem q1298 : (Jvm.Cond.fieldLink "NoonMealsModel" (75 : Nat) "NoonMealsModel" "thrown" "I") ∈ lw_all := lw_g (lw_at lw_m6 7 rfl) rfl
theorem q1299 : (Jvm.Cond.fieldLink "NoonMealsModel" (78 : Nat) "NoonMealsModel" "trouble" "I") ∈ lw_all := lw_g (lw_at lw_m6 8 rfl) rfl
theorem q1300 : (Jvm.Cond.fieldLink "NoonMealsModel" (9 : Nat) "NoonMealsModel" "where" "I") ∈ lw_all := lw_g (lw_at lw_m6 9 rfl) rfl
theorem q1301 : (Jvm.Cond.fieldLink "NoonMealsModel" (394 : Nat) "NoonMealsModel" "today" "LNoonMealsModel$Day;") ∈ lw_all := lw_g (lw_at lw_m6 10 rfl) rfl
theorem q1302 : (Jvm.Cond.fieldLink "NoonMealsModel" (191 : Nat) "NoonMealsModel" "reading" "LNoonMealsModel$Day;") ∈ lw_all := lw_g (lw_at lw_m6 11 rfl) rfl
theorem q1303 : (Jvm.Cond.fieldLink "NoonMealsModel" (13 : Nat) "NoonMealsModel" "tape" "[B") ∈ lw_all := lw_g (lw_at lw_m6 12 rfl) rfl
theorem q1304 : (Jvm.Cond.fieldLink "NoonMealsModel" (387 : Nat) "NoonMealsModel" "taped" "I") ∈ lw_all := lw_g (lw_at lw_m6 13 rfl) rfl
theorem q1305 : (Jvm.Cond.fieldLink "NoonMealsModel" (85 : Nat) "NoonMealsModel" "size" "I") ∈ lw_all := lw_g (lw_at lw_m6 14 rfl) rfl
theorem q1306 : (Jvm.Cond.fieldLink "NoonMealsModel" (103 : Nat) "NoonMealsModel" "at" "I") ∈ lw_all := lw_g (lw_at lw_m6 15 rfl) rfl
theorem q1307 : (Jvm.Cond.fieldLink "NoonMealsModel" (100 : Nat) "NoonMealsModel" "sort" "I") ∈ lw_all := lw_g (lw_at lw_m6 16 rfl) rfl
theorem q1308 : (Jvm.Cond.fieldLink "NoonMealsModel" (109 : Nat) "NoonMealsModel" "place" "I") ∈ lw_all := lw_g (lw_at lw_m6 17 rfl) rfl
theorem q1309 : (Jvm.Cond.fieldLink "NoonMealsModel" (112 : Nat) "NoonMealsModel" "mark" "I") ∈ lw_all := lw_g (lw_at lw_m6 18 rfl) rfl
theorem q1310 : (Jvm.Cond.fieldLink "NoonMealsModel" (129 : Nat) "NoonMealsModel" "number" "I") ∈ lw_all := lw_g (lw_at lw_m6 19 rfl) rfl
theorem q1311 : (Jvm.Cond.fieldLink "NoonMealsModel" (132 : Nat) "NoonMealsModel" "fault" "I") ∈ lw_all := lw_g (lw_at lw_m6 20 rfl) rfl
theorem q1312 : (Jvm.Cond.fieldLink "NoonMealsModel" (135 : Nat) "NoonMealsModel" "wrongAt" "I") ∈ lw_all := lw_g (lw_at lw_m6 21 rfl) rfl
theorem q1313 : (Jvm.Cond.fieldLink "NoonMealsModel" (123 : Nat) "NoonMealsModel" "wordBits" "I") ∈ lw_all := lw_g (lw_at lw_m6 22 rfl) rfl
theorem q1314 : (Jvm.Cond.fieldLink "NoonMealsModel" (119 : Nat) "NoonMealsModel" "word" "J") ∈ lw_all := lw_g (lw_at lw_m6 23 rfl) rfl
theorem q1315 : (Jvm.Cond.fieldLink "NoonMealsModel" (17 : Nat) "NoonMealsModel" "rounds" "[I") ∈ lw_all := lw_g (lw_at lw_m6 24 rfl) rfl
theorem q1316 : (Jvm.Cond.fieldLink "NoonMealsModel" (21 : Nat) "NoonMealsModel" "round" "[I") ∈ lw_all := lw_g (lw_at lw_m6 25 rfl) rfl
theorem q1317 : (Jvm.Cond.fieldLink "NoonMealsModel" (397 : Nat) "NoonMealsModel" "teas" "I") ∈ lw_all := lw_g (lw_at lw_m6 26 rfl) rfl
theorem q1318 : (Jvm.Cond.fieldLink "NoonMealsModel" (431 : Nat) "NoonMealsModel" "many" "I") ∈ lw_all := lw_g (lw_at lw_m6 27 rfl) rfl
theorem q1319 : (Jvm.Cond.fieldLink "NoonMealsModel" (428 : Nat) "NoonMealsModel" "badSet" "I") ∈ lw_all := lw_g (lw_at lw_m6 28 rfl) rfl
theorem q1320 : (Jvm.Cond.fieldLink "NoonMealsModel" (24 : Nat) "NoonMealsModel" "row" "[I") ∈ lw_all := lw_g (lw_at lw_m6 29 rfl) rfl
theorem q1321 : (Jvm.Cond.fieldLink "NoonMealsModel" (27 : Nat) "NoonMealsModel" "comesAt" "[I") ∈ lw_all := lw_g (lw_at lw_m6 30 rfl) rfl
theorem q1322 : (Jvm.Cond.fieldLink "NoonMealsModel" (463 : Nat) "NoonMealsModel" "bestBad" "I") ∈ lw_all := lw_g (lw_at lw_m6 31 rfl) rfl
theorem q1323 : (Jvm.Cond.fieldLink "NoonMealsModel" (466 : Nat) "NoonMealsModel" "bestLast" "I") ∈ lw_all := lw_g (lw_at lw_m6 32 rfl) rfl
theorem q1324 : (Jvm.Cond.fieldLink "NoonMealsModel" (30 : Nat) "NoonMealsModel" "bestRow" "[I") ∈ lw_all := lw_g (lw_at lw_m6 33 rfl) rfl
theorem q1325 : (Jvm.Cond.fieldLink "NoonMealsModel" (413 : Nat) "NoonMealsModel" "isShared" "Z") ∈ lw_all := lw_g (lw_at lw_m6 34 rfl) rfl
theorem q1326 : (Jvm.Cond.fieldLink "NoonMealsModel" (33 : Nat) "NoonMealsModel" "share" "[I") ∈ lw_all := lw_g (lw_at lw_m6 35 rfl) rfl
theorem q1327 : (Jvm.Cond.fieldLink "NoonMealsModel" (36 : Nat) "NoonMealsModel" "carBad" "[I") ∈ lw_all := lw_g (lw_at lw_m6 36 rfl) rfl
theorem q1328 : (Jvm.Cond.fieldLink "NoonMealsModel" (39 : Nat) "NoonMealsModel" "carLast" "[I") ∈ lw_all := lw_g (lw_at lw_m6 37 rfl) rfl
theorem q1329 : (Jvm.Cond.fieldLink "NoonMealsModel" (42 : Nat) "NoonMealsModel" "least" "[I") ∈ lw_all := lw_g (lw_at lw_m6 38 rfl) rfl
theorem q1330 : (Jvm.Cond.fieldLink "NoonMealsModel" (45 : Nat) "NoonMealsModel" "menu" "[I") ∈ lw_all := lw_g (lw_at lw_m6 39 rfl) rfl
theorem q1331 : (Jvm.Cond.fieldLink "NoonMealsModel" (403 : Nat) "NoonMealsModel" "menuDays" "I") ∈ lw_all := lw_g (lw_at lw_m6 40 rfl) rfl
theorem q1332 : (Jvm.Cond.fieldLink "NoonMealsModel" (406 : Nat) "NoonMealsModel" "called" "I") ∈ lw_all := lw_g (lw_at lw_m6 41 rfl) rfl
theorem q1333 : (Jvm.Cond.fieldLink "NoonMealsModel" (48 : Nat) "NoonMealsModel" "callRow" "[I") ∈ lw_all := lw_g (lw_at lw_m6 42 rfl) rfl
theorem q1334 : (Jvm.Cond.fieldLink "NoonMealsModel" (51 : Nat) "NoonMealsModel" "bestCalls" "[I") ∈ lw_all := lw_g (lw_at lw_m6 43 rfl) rfl
theorem q1335 : (Jvm.Cond.fieldLink "NoonMealsModel" (409 : Nat) "NoonMealsModel" "isFilled" "Z") ∈ lw_all := lw_g (lw_at lw_m6 44 rfl) rfl
theorem q1336 : (Jvm.Cond.fieldLink "NoonMealsModel" (54 : Nat) "NoonMealsModel" "filled" "[I") ∈ lw_all := lw_g (lw_at lw_m6 45 rfl) rfl
theorem q1337 : (Jvm.Cond.fieldLink "NoonMealsModel" (57 : Nat) "NoonMealsModel" "worked" "[I") ∈ lw_all := lw_g (lw_at lw_m6 46 rfl) rfl
theorem q1338 : (Jvm.Cond.fieldLink "NoonMealsModel" (60 : Nat) "NoonMealsModel" "signs" "[I") ∈ lw_all := lw_g (lw_at lw_m6 47 rfl) rfl
theorem q1339 : (Jvm.Cond.fieldLink "NoonMealsModel" (63 : Nat) "NoonMealsModel" "sign" "[I") ∈ lw_all := lw_g (lw_at lw_m6 48 rfl) rfl
theorem q1340 : (Jvm.Cond.fieldLink "NoonMealsModel" (400 : Nat) "NoonMealsModel" "probes" "I") ∈ lw_all := lw_g (lw_at lw_m6 49 rfl) rfl
theorem q1341 : (Jvm.Cond.fieldLink "NoonMealsModel" (66 : Nat) "NoonMealsModel" "probeCar" "[I") ∈ lw_all := lw_g (lw_at lw_m6 50 rfl) rfl
theorem q1342 : (Jvm.Cond.fieldLink "NoonMealsModel" (69 : Nat) "NoonMealsModel" "probeAt" "[I") ∈ lw_all := lw_g (lw_at lw_m6 51 rfl) rfl
theorem q1343 : (Jvm.Cond.fieldLink "NoonMealsModel" (72 : Nat) "NoonMealsModel" "probeHeat" "[I") ∈ lw_all := lw_g (lw_at lw_m6 52 rfl) rfl
theorem q1344 : (Jvm.Cond.lays "NoonMealsModel" "NoonMealsModel" "thrown" "I") ∈ lw_all := lw_g (lw_at lw_m6 53 rfl) rfl
theorem q1345 : (Jvm.Cond.soleField "NoonMealsModel" "thrown") ∈ lw_all := lw_g (lw_at lw_m6 54 rfl) rfl
theorem q1346 : (Jvm.Cond.lays "NoonMealsModel" "NoonMealsModel" "trouble" "I") ∈ lw_all := lw_g (lw_at lw_m6 55 rfl) rfl
theorem q1347 : (Jvm.Cond.soleField "NoonMealsModel" "trouble") ∈ lw_all := lw_g (lw_at lw_m6 56 rfl) rfl
theorem q1348 : (Jvm.Cond.lays "NoonMealsModel" "NoonMealsModel" "where" "I") ∈ lw_all := lw_g (lw_at lw_m6 57 rfl) rfl
theorem q1349 : (Jvm.Cond.soleField "NoonMealsModel" "where") ∈ lw_all := lw_g (lw_at lw_m6 58 rfl) rfl
theorem q1350 : (Jvm.Cond.lays "NoonMealsModel" "NoonMealsModel" "today" "LNoonMealsModel$Day;") ∈ lw_all := lw_g (lw_at lw_m6 59 rfl) rfl
theorem q1351 : (Jvm.Cond.soleField "NoonMealsModel" "today") ∈ lw_all := lw_g (lw_at lw_m6 60 rfl) rfl
theorem q1352 : (Jvm.Cond.lays "NoonMealsModel" "NoonMealsModel" "reading" "LNoonMealsModel$Day;") ∈ lw_all := lw_g (lw_at lw_m6 61 rfl) rfl
theorem q1353 : (Jvm.Cond.soleField "NoonMealsModel" "reading") ∈ lw_all := lw_g (lw_at lw_m6 62 rfl) rfl
theorem q1354 : (Jvm.Cond.laysFinal "NoonMealsModel" "NoonMealsModel" "tape" "[B") ∈ lw_all := lw_g (lw_at lw_m6 63 rfl) rfl
theorem q1355 : (Jvm.Cond.soleField "NoonMealsModel" "tape") ∈ lw_all := lw_g (lw_at lw_m6 64 rfl) rfl
theorem q1356 : (Jvm.Cond.lays "NoonMealsModel" "NoonMealsModel" "taped" "I") ∈ lw_all := lw_g (lw_at lw_m6 65 rfl) rfl
theorem q1357 : (Jvm.Cond.soleField "NoonMealsModel" "taped") ∈ lw_all := lw_g (lw_at lw_m6 66 rfl) rfl
theorem q1358 : (Jvm.Cond.lays "NoonMealsModel" "NoonMealsModel" "size" "I") ∈ lw_all := lw_g (lw_at lw_m6 67 rfl) rfl
theorem q1359 : (Jvm.Cond.soleField "NoonMealsModel" "size") ∈ lw_all := lw_g (lw_at lw_m6 68 rfl) rfl
theorem q1360 : (Jvm.Cond.lays "NoonMealsModel" "NoonMealsModel" "at" "I") ∈ lw_all := lw_g (lw_at lw_m6 69 rfl) rfl
theorem q1361 : (Jvm.Cond.soleField "NoonMealsModel" "at") ∈ lw_all := lw_g (lw_at lw_m6 70 rfl) rfl
theorem q1362 : (Jvm.Cond.lays "NoonMealsModel" "NoonMealsModel" "sort" "I") ∈ lw_all := lw_g (lw_at lw_m6 71 rfl) rfl
theorem q1363 : (Jvm.Cond.soleField "NoonMealsModel" "sort") ∈ lw_all := lw_g (lw_at lw_m6 72 rfl) rfl
theorem q1364 : (Jvm.Cond.lays "NoonMealsModel" "NoonMealsModel" "place" "I") ∈ lw_all := lw_g (lw_at lw_m6 73 rfl) rfl
theorem q1365 : (Jvm.Cond.soleField "NoonMealsModel" "place") ∈ lw_all := lw_g (lw_at lw_m6 74 rfl) rfl
theorem q1366 : (Jvm.Cond.lays "NoonMealsModel" "NoonMealsModel" "mark" "I") ∈ lw_all := lw_g (lw_at lw_m6 75 rfl) rfl
theorem q1367 : (Jvm.Cond.soleField "NoonMealsModel" "mark") ∈ lw_all := lw_g (lw_at lw_m6 76 rfl) rfl
theorem q1368 : (Jvm.Cond.lays "NoonMealsModel" "NoonMealsModel" "number" "I") ∈ lw_all := lw_g (lw_at lw_m6 77 rfl) rfl
theorem q1369 : (Jvm.Cond.soleField "NoonMealsModel" "number") ∈ lw_all := lw_g (lw_at lw_m6 78 rfl) rfl
theorem q1370 : (Jvm.Cond.lays "NoonMealsModel" "NoonMealsModel" "fault" "I") ∈ lw_all := lw_g (lw_at lw_m6 79 rfl) rfl
theorem q1371 : (Jvm.Cond.soleField "NoonMealsModel" "fault") ∈ lw_all := lw_g (lw_at lw_m6 80 rfl) rfl
theorem q1372 : (Jvm.Cond.lays "NoonMealsModel" "NoonMealsModel" "wrongAt" "I") ∈ lw_all := lw_g (lw_at lw_m6 81 rfl) rfl
theorem q1373 : (Jvm.Cond.soleField "NoonMealsModel" "wrongAt") ∈ lw_all := lw_g (lw_at lw_m6 82 rfl) rfl
theorem q1374 : (Jvm.Cond.lays "NoonMealsModel" "NoonMealsModel" "wordBits" "I") ∈ lw_all := lw_g (lw_at lw_m6 83 rfl) rfl
theorem q1375 : (Jvm.Cond.soleField "NoonMealsModel" "wordBits") ∈ lw_all := lw_g (lw_at lw_m6 84 rfl) rfl
theorem q1376 : (Jvm.Cond.lays "NoonMealsModel" "NoonMealsModel" "word" "J") ∈ lw_all := lw_g (lw_at lw_m6 85 rfl) rfl
theorem q1377 : (Jvm.Cond.soleField "NoonMealsModel" "word") ∈ lw_all := lw_g (lw_at lw_m6 86 rfl) rfl
theorem q1378 : (Jvm.Cond.laysFinal "NoonMealsModel" "NoonMealsModel" "rounds" "[I") ∈ lw_all := lw_g (lw_at lw_m6 87 rfl) rfl
theorem q1379 : (Jvm.Cond.soleField "NoonMealsModel" "rounds") ∈ lw_all := lw_g (lw_at lw_m6 88 rfl) rfl
theorem q1380 : (Jvm.Cond.laysFinal "NoonMealsModel" "NoonMealsModel" "round" "[I") ∈ lw_all := lw_g (lw_at lw_m6 89 rfl) rfl
theorem q1381 : (Jvm.Cond.soleField "NoonMealsModel" "round") ∈ lw_all := lw_g (lw_at lw_m6 90 rfl) rfl
theorem q1382 : (Jvm.Cond.lays "NoonMealsModel" "NoonMealsModel" "teas" "I") ∈ lw_all := lw_g (lw_at lw_m6 91 rfl) rfl
theorem q1383 : (Jvm.Cond.soleField "NoonMealsModel" "teas") ∈ lw_all := lw_g (lw_at lw_m6 92 rfl) rfl
theorem q1384 : (Jvm.Cond.lays "NoonMealsModel" "NoonMealsModel" "many" "I") ∈ lw_all := lw_g (lw_at lw_m6 93 rfl) rfl
theorem q1385 : (Jvm.Cond.soleField "NoonMealsModel" "many") ∈ lw_all := lw_g (lw_at lw_m6 94 rfl) rfl
theorem q1386 : (Jvm.Cond.lays "NoonMealsModel" "NoonMealsModel" "badSet" "I") ∈ lw_all := lw_g (lw_at lw_m6 95 rfl) rfl
theorem q1387 : (Jvm.Cond.soleField "NoonMealsModel" "badSet") ∈ lw_all := lw_g (lw_at lw_m6 96 rfl) rfl
theorem q1388 : (Jvm.Cond.laysFinal "NoonMealsModel" "NoonMealsModel" "row" "[I") ∈ lw_all := lw_g (lw_at lw_m6 97 rfl) rfl
theorem q1389 : (Jvm.Cond.soleField "NoonMealsModel" "row") ∈ lw_all := lw_g (lw_at lw_m6 98 rfl) rfl
theorem q1390 : (Jvm.Cond.laysFinal "NoonMealsModel" "NoonMealsModel" "comesAt" "[I") ∈ lw_all := lw_g (lw_at lw_m6 99 rfl) rfl
theorem q1391 : (Jvm.Cond.soleField "NoonMealsModel" "comesAt") ∈ lw_all := lw_g (lw_at lw_m6 100 rfl) rfl
theorem q1392 : (Jvm.Cond.lays "NoonMealsModel" "NoonMealsModel" "bestBad" "I") ∈ lw_all := lw_g (lw_at lw_m6 101 rfl) rfl
theorem q1393 : (Jvm.Cond.soleField "NoonMealsModel" "bestBad") ∈ lw_all := lw_g (lw_at lw_m6 102 rfl) rfl
theorem q1394 : (Jvm.Cond.lays "NoonMealsModel" "NoonMealsModel" "bestLast" "I") ∈ lw_all := lw_g (lw_at lw_m6 103 rfl) rfl
theorem q1395 : (Jvm.Cond.soleField "NoonMealsModel" "bestLast") ∈ lw_all := lw_g (lw_at lw_m6 104 rfl) rfl
theorem q1396 : (Jvm.Cond.laysFinal "NoonMealsModel" "NoonMealsModel" "bestRow" "[I") ∈ lw_all := lw_g (lw_at lw_m6 105 rfl) rfl
theorem q1397 : (Jvm.Cond.soleField "NoonMealsModel" "bestRow") ∈ lw_all := lw_g (lw_at lw_m6 106 rfl) rfl
theorem q1398 : (Jvm.Cond.lays "NoonMealsModel" "NoonMealsModel" "isShared" "Z") ∈ lw_all := lw_g (lw_at lw_m6 107 rfl) rfl
theorem q1399 : (Jvm.Cond.soleField "NoonMealsModel" "isShared") ∈ lw_all := lw_g (lw_at lw_m6 108 rfl) rfl
theorem q1400 : (Jvm.Cond.laysFinal "NoonMealsModel" "NoonMealsModel" "share" "[I") ∈ lw_all := lw_g (lw_at lw_m6 109 rfl) rfl
theorem q1401 : (Jvm.Cond.soleField "NoonMealsModel" "share") ∈ lw_all := lw_g (lw_at lw_m6 110 rfl) rfl
theorem q1402 : (Jvm.Cond.laysFinal "NoonMealsModel" "NoonMealsModel" "carBad" "[I") ∈ lw_all := lw_g (lw_at lw_m6 111 rfl) rfl
theorem q1403 : (Jvm.Cond.soleField "NoonMealsModel" "carBad") ∈ lw_all := lw_g (lw_at lw_m6 112 rfl) rfl
theorem q1404 : (Jvm.Cond.laysFinal "NoonMealsModel" "NoonMealsModel" "carLast" "[I") ∈ lw_all := lw_g (lw_at lw_m6 113 rfl) rfl
theorem q1405 : (Jvm.Cond.soleField "NoonMealsModel" "carLast") ∈ lw_all := lw_g (lw_at lw_m6 114 rfl) rfl
theorem q1406 : (Jvm.Cond.laysFinal "NoonMealsModel" "NoonMealsModel" "least" "[I") ∈ lw_all := lw_g (lw_at lw_m6 115 rfl) rfl
theorem q1407 : (Jvm.Cond.soleField "NoonMealsModel" "least") ∈ lw_all := lw_g (lw_at lw_m6 116 rfl) rfl
theorem q1408 : (Jvm.Cond.laysFinal "NoonMealsModel" "NoonMealsModel" "menu" "[I") ∈ lw_all := lw_g (lw_at lw_m6 117 rfl) rfl
theorem q1409 : (Jvm.Cond.soleField "NoonMealsModel" "menu") ∈ lw_all := lw_g (lw_at lw_m6 118 rfl) rfl
theorem q1410 : (Jvm.Cond.lays "NoonMealsModel" "NoonMealsModel" "menuDays" "I") ∈ lw_all := lw_g (lw_at lw_m6 119 rfl) rfl
theorem q1411 : (Jvm.Cond.soleField "NoonMealsModel" "menuDays") ∈ lw_all := lw_g (lw_at lw_m6 120 rfl) rfl
theorem q1412 : (Jvm.Cond.lays "NoonMealsModel" "NoonMealsModel" "called" "I") ∈ lw_all := lw_g (lw_at lw_m6 121 rfl) rfl
theorem q1413 : (Jvm.Cond.soleField "NoonMealsModel" "called") ∈ lw_all := lw_g (lw_at lw_m6 122 rfl) rfl
theorem q1414 : (Jvm.Cond.laysFinal "NoonMealsModel" "NoonMealsModel" "callRow" "[I") ∈ lw_all := lw_g (lw_at lw_m6 123 rfl) rfl
theorem q1415 : (Jvm.Cond.soleField "NoonMealsModel" "callRow") ∈ lw_all := lw_g (lw_at lw_m6 124 rfl) rfl
theorem q1416 : (Jvm.Cond.laysFinal "NoonMealsModel" "NoonMealsModel" "bestCalls" "[I") ∈ lw_all := lw_g (lw_at lw_m6 125 rfl) rfl
theorem q1417 : (Jvm.Cond.soleField "NoonMealsModel" "bestCalls") ∈ lw_all := lw_g (lw_at lw_m6 126 rfl) rfl
theorem q1418 : (Jvm.Cond.lays "NoonMealsModel" "NoonMealsModel" "isFilled" "Z") ∈ lw_all := lw_g (lw_at lw_m6 127 rfl) rfl
theorem q1419 : (Jvm.Cond.soleField "NoonMealsModel" "isFilled") ∈ lw_all := lw_g (lw_at lw_m6 128 rfl) rfl
theorem q1420 : (Jvm.Cond.laysFinal "NoonMealsModel" "NoonMealsModel" "filled" "[I") ∈ lw_all := lw_g (lw_at lw_m6 129 rfl) rfl
theorem q1421 : (Jvm.Cond.soleField "NoonMealsModel" "filled") ∈ lw_all := lw_g (lw_at lw_m6 130 rfl) rfl
theorem q1422 : (Jvm.Cond.laysFinal "NoonMealsModel" "NoonMealsModel" "worked" "[I") ∈ lw_all := lw_g (lw_at lw_m6 131 rfl) rfl
theorem q1423 : (Jvm.Cond.soleField "NoonMealsModel" "worked") ∈ lw_all := lw_g (lw_at lw_m6 132 rfl) rfl
theorem q1424 : (Jvm.Cond.laysFinal "NoonMealsModel" "NoonMealsModel" "signs" "[I") ∈ lw_all := lw_g (lw_at lw_m6 133 rfl) rfl
theorem q1425 : (Jvm.Cond.soleField "NoonMealsModel" "signs") ∈ lw_all := lw_g (lw_at lw_m6 134 rfl) rfl
theorem q1426 : (Jvm.Cond.laysFinal "NoonMealsModel" "NoonMealsModel" "sign" "[I") ∈ lw_all := lw_g (lw_at lw_m6 135 rfl) rfl
theorem q1427 : (Jvm.Cond.soleField "NoonMealsModel" "sign") ∈ lw_all := lw_g (lw_at lw_m6 136 rfl) rfl
theorem q1428 : (Jvm.Cond.lays "NoonMealsModel" "NoonMealsModel" "probes" "I") ∈ lw_all := lw_g (lw_at lw_m6 137 rfl) rfl
theorem q1429 : (Jvm.Cond.soleField "NoonMealsModel" "probes") ∈ lw_all := lw_g (lw_at lw_m6 138 rfl) rfl
theorem q1430 : (Jvm.Cond.laysFinal "NoonMealsModel" "NoonMealsModel" "probeCar" "[I") ∈ lw_all := lw_g (lw_at lw_m6 139 rfl) rfl
theorem q1431 : (Jvm.Cond.soleField "NoonMealsModel" "probeCar") ∈ lw_all := lw_g (lw_at lw_m6 140 rfl) rfl
theorem q1432 : (Jvm.Cond.laysFinal "NoonMealsModel" "NoonMealsModel" "probeAt" "[I") ∈ lw_all := lw_g (lw_at lw_m6 141 rfl) rfl
theorem q1433 : (Jvm.Cond.soleField "NoonMealsModel" "probeAt") ∈ lw_all := lw_g (lw_at lw_m6 142 rfl) rfl
theorem q1434 : (Jvm.Cond.laysFinal "NoonMealsModel" "NoonMealsModel" "probeHeat" "[I") ∈ lw_all := lw_g (lw_at lw_m6 143 rfl) rfl
theorem q1435 : (Jvm.Cond.soleField "NoonMealsModel" "probeHeat") ∈ lw_all := lw_g (lw_at lw_m6 144 rfl) rfl
theorem q1436 : (Jvm.Cond.superclass "NoonMealsModel" "java/lang/Object") ∈ lw_all := lw_g (lw_at lw_m6 145 rfl) rfl
theorem q1438 : (Jvm.Cond.instanceMethod ({ cls := "NoonMealsModel", name := "thrown", desc := "()I" } : Jvm.MethodName)) ∈ lw_all := lw_g (lw_at lw_m6 147 rfl) rfl
theorem q1439 : (Jvm.Cond.selects "NoonMealsModel" ({ cls := "NoonMealsModel", name := "thrown", desc := "()I" } : Jvm.MethodName) ({ cls := "NoonMealsModel", name := "thrown", desc := "()I" } : Jvm.MethodName)) ∈ lw_all := lw_g (lw_at lw_m6 148 rfl) rfl
theorem q1440 : (Jvm.Cond.code ({ cls := "NoonMealsModel", name := "thrown", desc := "()I" } : Jvm.MethodName) prog_15_method_2_code (1 : Nat) (Option.some Jvm.ClassFile.FieldType.int)) ∈ lw_all := lw_g (lw_at lw_m6 149 rfl) rfl
theorem q1442 : (Jvm.Cond.instanceMethod ({ cls := "NoonMealsModel", name := "feed", desc := "(IIIII)I" } : Jvm.MethodName)) ∈ lw_all := lw_g (lw_at lw_m6 151 rfl) rfl
theorem q1443 : (Jvm.Cond.selects "NoonMealsModel" ({ cls := "NoonMealsModel", name := "feed", desc := "(IIIII)I" } : Jvm.MethodName) ({ cls := "NoonMealsModel", name := "feed", desc := "(IIIII)I" } : Jvm.MethodName)) ∈ lw_all := lw_g (lw_at lw_m6 152 rfl) rfl
theorem q1444 : (Jvm.Cond.code ({ cls := "NoonMealsModel", name := "feed", desc := "(IIIII)I" } : Jvm.MethodName) prog_15_method_34_code (8 : Nat) (Option.some Jvm.ClassFile.FieldType.int)) ∈ lw_all := lw_g (lw_at lw_m6 153 rfl) rfl
theorem q1446 : (Jvm.Cond.instanceMethod ({ cls := "NoonMealsModel", name := "day", desc := "(I)I" } : Jvm.MethodName)) ∈ lw_all := lw_g (lw_at lw_m6 155 rfl) rfl
theorem q1447 : (Jvm.Cond.selects "NoonMealsModel" ({ cls := "NoonMealsModel", name := "day", desc := "(I)I" } : Jvm.MethodName) ({ cls := "NoonMealsModel", name := "day", desc := "(I)I" } : Jvm.MethodName)) ∈ lw_all := lw_g (lw_at lw_m6 156 rfl) rfl
theorem q1448 : (Jvm.Cond.code ({ cls := "NoonMealsModel", name := "day", desc := "(I)I" } : Jvm.MethodName) prog_15_method_35_code (3 : Nat) (Option.some Jvm.ClassFile.FieldType.int)) ∈ lw_all := lw_g (lw_at lw_m6 157 rfl) rfl
theorem q1449 : (Jvm.Cond.methodLink "NoonMealsModel" (81 : Nat) ({ cls := "NoonMealsModel", name := "refused", desc := "(I)I" } : Jvm.MethodName)) ∈ lw_all := lw_g (lw_at lw_m6 158 rfl) rfl
theorem q1450 : (Jvm.Cond.privateMethod ({ cls := "NoonMealsModel", name := "refused", desc := "(I)I" } : Jvm.MethodName)) ∈ lw_tbl := lw_at lw_m6 159 rfl
theorem q1451 : (Jvm.Cond.instanceMethod ({ cls := "NoonMealsModel", name := "refused", desc := "(I)I" } : Jvm.MethodName)) ∈ lw_all := lw_g (lw_at lw_m6 160 rfl) rfl
theorem q1452 : (Jvm.Cond.code ({ cls := "NoonMealsModel", name := "refused", desc := "(I)I" } : Jvm.MethodName) prog_15_method_3_code (2 : Nat) (Option.some Jvm.ClassFile.FieldType.int)) ∈ lw_all := lw_g (lw_at lw_m6 161 rfl) rfl
theorem q1453 : (Jvm.Cond.classLink "NoonMealsModel" (196 : Nat) "NoonMealsModel$Day") ∈ lw_all := lw_g (lw_at lw_m6 162 rfl) rfl
theorem q1455 : (Jvm.Cond.methodLinkNest "NoonMealsModel" (390 : Nat) ({ cls := "NoonMealsModel$Day", name := "<init>", desc := "()V" } : Jvm.MethodName) "NoonMealsModel") ∈ lw_tbl := lw_at lw_m6 164 rfl
theorem q1460 : (Jvm.Cond.fieldLinkNest "NoonMealsModel" (220 : Nat) "NoonMealsModel$Day" "hot" "I" "NoonMealsModel") ∈ lw_tbl := lw_at lw_m6 169 rfl
theorem q1461 : (Jvm.Cond.fieldLinkNest "NoonMealsModel" (263 : Nat) "NoonMealsModel$Day" "by" "I" "NoonMealsModel") ∈ lw_tbl := lw_at lw_m6 170 rfl
theorem q1462 : (Jvm.Cond.fieldLinkNest "NoonMealsModel" (265 : Nat) "NoonMealsModel$Day" "kitchens" "I" "NoonMealsModel") ∈ lw_tbl := lw_at lw_m6 171 rfl
theorem q1463 : (Jvm.Cond.fieldLinkNest "NoonMealsModel" (290 : Nat) "NoonMealsModel$Day" "dishes" "I" "NoonMealsModel") ∈ lw_tbl := lw_at lw_m6 172 rfl
theorem q1464 : (Jvm.Cond.fieldLinkNest "NoonMealsModel" (306 : Nat) "NoonMealsModel$Day" "diets" "I" "NoonMealsModel") ∈ lw_tbl := lw_at lw_m6 173 rfl
theorem q1465 : (Jvm.Cond.fieldLinkNest "NoonMealsModel" (223 : Nat) "NoonMealsModel$Day" "houses" "I" "NoonMealsModel") ∈ lw_tbl := lw_at lw_m6 174 rfl
theorem q1466 : (Jvm.Cond.fieldLinkNest "NoonMealsModel" (226 : Nat) "NoonMealsModel$Day" "cars" "I" "NoonMealsModel") ∈ lw_tbl := lw_at lw_m6 175 rfl
theorem q1468 : (Jvm.Cond.fieldLinkNest "NoonMealsModel" (279 : Nat) "NoonMealsModel$Day" "floods" "I" "NoonMealsModel") ∈ lw_tbl := lw_at lw_m6 177 rfl
theorem q1469 : (Jvm.Cond.fieldLinkNest "NoonMealsModel" (365 : Nat) "NoonMealsModel$Day" "calls" "I" "NoonMealsModel") ∈ lw_tbl := lw_at lw_m6 178 rfl
theorem q1470 : (Jvm.Cond.fieldLinkNest "NoonMealsModel" (375 : Nat) "NoonMealsModel$Day" "helpers" "I" "NoonMealsModel") ∈ lw_tbl := lw_at lw_m6 179 rfl
theorem q1472 : (Jvm.Cond.fieldLinkNest "NoonMealsModel" (205 : Nat) "NoonMealsModel$Day" "names" "I" "NoonMealsModel") ∈ lw_tbl := lw_at lw_m6 181 rfl
theorem q1474 : (Jvm.Cond.fieldLinkNest "NoonMealsModel" (273 : Nat) "NoonMealsModel$Day" "kitchenAt" "[I" "NoonMealsModel") ∈ lw_tbl := lw_at lw_m6 183 rfl
theorem q1476 : (Jvm.Cond.fieldLinkNest "NoonMealsModel" (276 : Nat) "NoonMealsModel$Day" "kitchenHot" "[I" "NoonMealsModel") ∈ lw_tbl := lw_at lw_m6 185 rfl
theorem q1478 : (Jvm.Cond.fieldLinkNest "NoonMealsModel" (300 : Nat) "NoonMealsModel$Day" "letters" "[I" "NoonMealsModel") ∈ lw_tbl := lw_at lw_m6 187 rfl
theorem q1480 : (Jvm.Cond.fieldLinkNest "NoonMealsModel" (303 : Nat) "NoonMealsModel$Day" "cost" "[I" "NoonMealsModel") ∈ lw_tbl := lw_at lw_m6 189 rfl
theorem q1482 : (Jvm.Cond.fieldLinkNest "NoonMealsModel" (311 : Nat) "NoonMealsModel$Day" "bars" "[I" "NoonMealsModel") ∈ lw_tbl := lw_at lw_m6 191 rfl
theorem q1484 : (Jvm.Cond.fieldLinkNest "NoonMealsModel" (284 : Nat) "NoonMealsModel$Day" "floodAt" "[I" "NoonMealsModel") ∈ lw_tbl := lw_at lw_m6 193 rfl
theorem q1486 : (Jvm.Cond.fieldLinkNest "NoonMealsModel" (287 : Nat) "NoonMealsModel$Day" "floodAdds" "[I" "NoonMealsModel") ∈ lw_tbl := lw_at lw_m6 195 rfl
theorem q1488 : (Jvm.Cond.fieldLinkNest "NoonMealsModel" (329 : Nat) "NoonMealsModel$Day" "houseAt" "[I" "NoonMealsModel") ∈ lw_tbl := lw_at lw_m6 197 rfl
theorem q1490 : (Jvm.Cond.fieldLinkNest "NoonMealsModel" (332 : Nat) "NoonMealsModel$Day" "eats" "[I" "NoonMealsModel") ∈ lw_tbl := lw_at lw_m6 199 rfl
theorem q1492 : (Jvm.Cond.fieldLinkNest "NoonMealsModel" (334 : Nat) "NoonMealsModel$Day" "doors" "[I" "NoonMealsModel") ∈ lw_tbl := lw_at lw_m6 201 rfl
theorem q1494 : (Jvm.Cond.fieldLinkNest "NoonMealsModel" (336 : Nat) "NoonMealsModel$Day" "tea" "[I" "NoonMealsModel") ∈ lw_tbl := lw_at lw_m6 203 rfl
theorem q1496 : (Jvm.Cond.fieldLinkNest "NoonMealsModel" (338 : Nat) "NoonMealsModel$Day" "chance" "[I" "NoonMealsModel") ∈ lw_tbl := lw_at lw_m6 205 rfl
theorem q1498 : (Jvm.Cond.fieldLinkNest "NoonMealsModel" (340 : Nat) "NoonMealsModel$Day" "need" "[I" "NoonMealsModel") ∈ lw_tbl := lw_at lw_m6 207 rfl
theorem q1500 : (Jvm.Cond.fieldLinkNest "NoonMealsModel" (342 : Nat) "NoonMealsModel$Day" "isDog" "[Z" "NoonMealsModel") ∈ lw_tbl := lw_at lw_m6 209 rfl
theorem q1502 : (Jvm.Cond.fieldLinkNest "NoonMealsModel" (362 : Nat) "NoonMealsModel$Day" "isAfraid" "[Z" "NoonMealsModel") ∈ lw_tbl := lw_at lw_m6 211 rfl
theorem q1504 : (Jvm.Cond.fieldLinkNest "NoonMealsModel" (354 : Nat) "NoonMealsModel$Day" "from" "[I" "NoonMealsModel") ∈ lw_tbl := lw_at lw_m6 213 rfl
theorem q1506 : (Jvm.Cond.fieldLinkNest "NoonMealsModel" (356 : Nat) "NoonMealsModel$Day" "starts" "[I" "NoonMealsModel") ∈ lw_tbl := lw_at lw_m6 215 rfl
theorem q1508 : (Jvm.Cond.fieldLinkNest "NoonMealsModel" (358 : Nat) "NoonMealsModel$Day" "holds" "[I" "NoonMealsModel") ∈ lw_tbl := lw_at lw_m6 217 rfl
theorem q1510 : (Jvm.Cond.fieldLinkNest "NoonMealsModel" (360 : Nat) "NoonMealsModel$Day" "cools" "[I" "NoonMealsModel") ∈ lw_tbl := lw_at lw_m6 219 rfl
theorem q1512 : (Jvm.Cond.fieldLinkNest "NoonMealsModel" (370 : Nat) "NoonMealsModel$Day" "takes" "[I" "NoonMealsModel") ∈ lw_tbl := lw_at lw_m6 221 rfl
theorem q1514 : (Jvm.Cond.fieldLinkNest "NoonMealsModel" (372 : Nat) "NoonMealsModel$Day" "answers" "[I" "NoonMealsModel") ∈ lw_tbl := lw_at lw_m6 223 rfl
theorem q1516 : (Jvm.Cond.fieldLinkNest "NoonMealsModel" (382 : Nat) "NoonMealsModel$Day" "wishes" "[I" "NoonMealsModel") ∈ lw_tbl := lw_at lw_m6 225 rfl
theorem q1518 : (Jvm.Cond.fieldLinkNest "NoonMealsModel" (385 : Nat) "NoonMealsModel$Day" "most" "[I" "NoonMealsModel") ∈ lw_tbl := lw_at lw_m6 227 rfl
theorem q1520 : (Jvm.Cond.fieldLinkNest "NoonMealsModel" (201 : Nat) "NoonMealsModel$Day" "name" "[J" "NoonMealsModel") ∈ lw_tbl := lw_at lw_m6 229 rfl
theorem q1522 : (Jvm.Cond.fieldLinkNest "NoonMealsModel" (208 : Nat) "NoonMealsModel$Day" "nameSort" "[I" "NoonMealsModel") ∈ lw_tbl := lw_at lw_m6 231 rfl
theorem q1524 : (Jvm.Cond.fieldLinkNest "NoonMealsModel" (211 : Nat) "NoonMealsModel$Day" "nameNumber" "[I" "NoonMealsModel") ∈ lw_tbl := lw_at lw_m6 233 rfl
theorem q1602 : (Jvm.Cond.methodLink "NoonMealsModel" (146 : Nat) ({ cls := "NoonMealsModel", name := "goesOn", desc := "()V" } : Jvm.MethodName)) ∈ lw_all := lw_g (lw_at lw_m7 71 rfl) rfl
theorem q1603 : (Jvm.Cond.privateMethod ({ cls := "NoonMealsModel", name := "goesOn", desc := "()V" } : Jvm.MethodName)) ∈ lw_tbl := lw_at lw_m7 72 rfl
theorem q1604 : (Jvm.Cond.instanceMethod ({ cls := "NoonMealsModel", name := "goesOn", desc := "()V" } : Jvm.MethodName)) ∈ lw_all := lw_g (lw_at lw_m7 73 rfl) rfl
theorem q1605 : (Jvm.Cond.code ({ cls := "NoonMealsModel", name := "goesOn", desc := "()V" } : Jvm.MethodName) prog_15_method_11_code (3 : Nat) (Option.none : Option Jvm.ClassFile.FieldType)) ∈ lw_all := lw_g (lw_at lw_m7 74 rfl) rfl
theorem q1606 : (Jvm.Cond.methodLink "NoonMealsModel" (106 : Nat) ({ cls := "NoonMealsModel", name := "byteAt", desc := "(I)I" } : Jvm.MethodName)) ∈ lw_all := lw_g (lw_at lw_m7 75 rfl) rfl
theorem q1607 : (Jvm.Cond.privateMethod ({ cls := "NoonMealsModel", name := "byteAt", desc := "(I)I" } : Jvm.MethodName)) ∈ lw_tbl := lw_at lw_m7 76 rfl
theorem q1608 : (Jvm.Cond.instanceMethod ({ cls := "NoonMealsModel", name := "byteAt", desc := "(I)I" } : Jvm.MethodName)) ∈ lw_all := lw_g (lw_at lw_m7 77 rfl) rfl
theorem q1609 : (Jvm.Cond.code ({ cls := "NoonMealsModel", name := "byteAt", desc := "(I)I" } : Jvm.MethodName) prog_15_method_7_code (2 : Nat) (Option.some Jvm.ClassFile.FieldType.int)) ∈ lw_all := lw_g (lw_at lw_m7 78 rfl) rfl
theorem q1610 : (Jvm.Cond.methodLink "NoonMealsModel" (115 : Nat) ({ cls := "NoonMealsModel", name := "isLetter", desc := "(I)Z" } : Jvm.MethodName)) ∈ lw_all := lw_g (lw_at lw_m7 79 rfl) rfl
theorem q1611 : (Jvm.Cond.static ({ cls := "NoonMealsModel", name := "isLetter", desc := "(I)Z" } : Jvm.MethodName)) ∈ lw_all := lw_g (lw_at lw_m7 80 rfl) rfl
theorem q1612 : (Jvm.Cond.code ({ cls := "NoonMealsModel", name := "isLetter", desc := "(I)Z" } : Jvm.MethodName) prog_15_method_8_code (1 : Nat) (Option.some Jvm.ClassFile.FieldType.boolean)) ∈ lw_all := lw_g (lw_at lw_m7 81 rfl) rfl
theorem q1613 : (Jvm.Cond.constantLong "NoonMealsModel" (94 : Nat) (32 : Int64)) ∈ lw_all := lw_g (lw_at lw_m7 82 rfl) rfl
theorem q1614 : (Jvm.Cond.methodLink "NoonMealsModel" (126 : Nat) ({ cls := "NoonMealsModel", name := "isDigit", desc := "(I)Z" } : Jvm.MethodName)) ∈ lw_all := lw_g (lw_at lw_m7 83 rfl) rfl
theorem q1615 : (Jvm.Cond.static ({ cls := "NoonMealsModel", name := "isDigit", desc := "(I)Z" } : Jvm.MethodName)) ∈ lw_all := lw_g (lw_at lw_m7 84 rfl) rfl
theorem q1616 : (Jvm.Cond.code ({ cls := "NoonMealsModel", name := "isDigit", desc := "(I)Z" } : Jvm.MethodName) prog_15_method_9_code (1 : Nat) (Option.some Jvm.ClassFile.FieldType.boolean)) ∈ lw_all := lw_g (lw_at lw_m7 85 rfl) rfl
theorem q1617 : (Jvm.Cond.methodLink "NoonMealsModel" (391 : Nat) ({ cls := "NoonMealsModel", name := "readDay", desc := "()V" } : Jvm.MethodName)) ∈ lw_all := lw_g (lw_at lw_m7 86 rfl) rfl
theorem q1618 : (Jvm.Cond.privateMethod ({ cls := "NoonMealsModel", name := "readDay", desc := "()V" } : Jvm.MethodName)) ∈ lw_tbl := lw_at lw_m7 87 rfl
theorem q1619 : (Jvm.Cond.instanceMethod ({ cls := "NoonMealsModel", name := "readDay", desc := "()V" } : Jvm.MethodName)) ∈ lw_all := lw_g (lw_at lw_m7 88 rfl) rfl
theorem q1620 : (Jvm.Cond.code ({ cls := "NoonMealsModel", name := "readDay", desc := "()V" } : Jvm.MethodName) prog_15_method_23_code (2 : Nat) (Option.none : Option Jvm.ClassFile.FieldType)) ∈ lw_all := lw_g (lw_at lw_m7 89 rfl) rfl
theorem q1621 : (Jvm.Cond.methodLink "NoonMealsModel" (214 : Nat) ({ cls := "NoonMealsModel", name := "readLine", desc := "()V" } : Jvm.MethodName)) ∈ lw_all := lw_g (lw_at lw_m7 90 rfl) rfl
theorem q1622 : (Jvm.Cond.privateMethod ({ cls := "NoonMealsModel", name := "readLine", desc := "()V" } : Jvm.MethodName)) ∈ lw_tbl := lw_at lw_m7 91 rfl
theorem q1623 : (Jvm.Cond.instanceMethod ({ cls := "NoonMealsModel", name := "readLine", desc := "()V" } : Jvm.MethodName)) ∈ lw_all := lw_g (lw_at lw_m7 92 rfl) rfl
theorem q1624 : (Jvm.Cond.code ({ cls := "NoonMealsModel", name := "readLine", desc := "()V" } : Jvm.MethodName) prog_15_method_24_code (1 : Nat) (Option.none : Option Jvm.ClassFile.FieldType)) ∈ lw_all := lw_g (lw_at lw_m7 93 rfl) rfl
theorem q1625 : (Jvm.Cond.stringRef "NoonMealsModel" (165 : Nat) "law") ∈ lw_tbl := lw_at lw_m7 94 rfl
theorem q1626 : (Jvm.Cond.methodLink "NoonMealsModel" (142 : Nat) ({ cls := "NoonMealsModel", name := "isWord", desc := "(Ljava/lang/String;)Z" } : Jvm.MethodName)) ∈ lw_all := lw_g (lw_at lw_m7 95 rfl) rfl
theorem q1627 : (Jvm.Cond.privateMethod ({ cls := "NoonMealsModel", name := "isWord", desc := "(Ljava/lang/String;)Z" } : Jvm.MethodName)) ∈ lw_tbl := lw_at lw_m7 96 rfl
theorem q1628 : (Jvm.Cond.instanceMethod ({ cls := "NoonMealsModel", name := "isWord", desc := "(Ljava/lang/String;)Z" } : Jvm.MethodName)) ∈ lw_all := lw_g (lw_at lw_m7 97 rfl) rfl
theorem q1629 : (Jvm.Cond.code ({ cls := "NoonMealsModel", name := "isWord", desc := "(Ljava/lang/String;)Z" } : Jvm.MethodName) prog_15_method_13_code (2 : Nat) (Option.some Jvm.ClassFile.FieldType.boolean)) ∈ lw_all := lw_g (lw_at lw_m7 98 rfl) rfl
theorem q1630 : (Jvm.Cond.methodLink "NoonMealsModel" (138 : Nat) ({ cls := "NoonMealsModel", name := "wordOf", desc := "(Ljava/lang/String;)J" } : Jvm.MethodName)) ∈ lw_all := lw_g (lw_at lw_m7 99 rfl) rfl
theorem q1631 : (Jvm.Cond.static ({ cls := "NoonMealsModel", name := "wordOf", desc := "(Ljava/lang/String;)J" } : Jvm.MethodName)) ∈ lw_all := lw_g (lw_at lw_m7 100 rfl) rfl
theorem q1632 : (Jvm.Cond.code ({ cls := "NoonMealsModel", name := "wordOf", desc := "(Ljava/lang/String;)J" } : Jvm.MethodName) prog_15_method_10_code (4 : Nat) (Option.some Jvm.ClassFile.FieldType.long)) ∈ lw_all := lw_g (lw_at lw_m7 101 rfl) rfl
theorem q1633 : (Jvm.Cond.methodLink "NoonMealsModel" (88 : Nat) ({ cls := "java/lang/String", name := "length", desc := "()I" } : Jvm.MethodName)) ∈ lw_all := lw_g (lw_at lw_m7 102 rfl) rfl
theorem q1634 : (Jvm.Cond.methodLink "NoonMealsModel" (96 : Nat) ({ cls := "java/lang/String", name := "charAt", desc := "(I)C" } : Jvm.MethodName)) ∈ lw_all := lw_g (lw_at lw_m7 103 rfl) rfl
theorem q1635 : (Jvm.Cond.methodLink "NoonMealsModel" (229 : Nat) ({ cls := "NoonMealsModel", name := "readLaw", desc := "()V" } : Jvm.MethodName)) ∈ lw_all := lw_g (lw_at lw_m7 104 rfl) rfl
theorem q1636 : (Jvm.Cond.privateMethod ({ cls := "NoonMealsModel", name := "readLaw", desc := "()V" } : Jvm.MethodName)) ∈ lw_tbl := lw_at lw_m7 105 rfl
theorem q1637 : (Jvm.Cond.instanceMethod ({ cls := "NoonMealsModel", name := "readLaw", desc := "()V" } : Jvm.MethodName)) ∈ lw_all := lw_g (lw_at lw_m7 106 rfl) rfl
theorem q1638 : (Jvm.Cond.code ({ cls := "NoonMealsModel", name := "readLaw", desc := "()V" } : Jvm.MethodName) prog_15_method_25_code (3 : Nat) (Option.none : Option Jvm.ClassFile.FieldType)) ∈ lw_all := lw_g (lw_at lw_m7 107 rfl) rfl
theorem q1639 : (Jvm.Cond.methodLink "NoonMealsModel" (149 : Nat) ({ cls := "NoonMealsModel", name := "wrong", desc := "(I)V" } : Jvm.MethodName)) ∈ lw_all := lw_g (lw_at lw_m7 108 rfl) rfl
theorem q1640 : (Jvm.Cond.privateMethod ({ cls := "NoonMealsModel", name := "wrong", desc := "(I)V" } : Jvm.MethodName)) ∈ lw_tbl := lw_at lw_m7 109 rfl
theorem q1641 : (Jvm.Cond.instanceMethod ({ cls := "NoonMealsModel", name := "wrong", desc := "(I)V" } : Jvm.MethodName)) ∈ lw_all := lw_g (lw_at lw_m7 110 rfl) rfl
theorem q1642 : (Jvm.Cond.code ({ cls := "NoonMealsModel", name := "wrong", desc := "(I)V" } : Jvm.MethodName) prog_15_method_12_code (2 : Nat) (Option.none : Option Jvm.ClassFile.FieldType)) ∈ lw_all := lw_g (lw_at lw_m7 111 rfl) rfl
theorem q1643 : (Jvm.Cond.stringRef "NoonMealsModel" (256 : Nat) "hot") ∈ lw_tbl := lw_at lw_m7 112 rfl
theorem q1644 : (Jvm.Cond.methodLink "NoonMealsModel" (257 : Nat) ({ cls := "NoonMealsModel", name := "readPart", desc := "(Ljava/lang/String;II)I" } : Jvm.MethodName)) ∈ lw_all := lw_g (lw_at lw_m7 113 rfl) rfl
theorem q1645 : (Jvm.Cond.privateMethod ({ cls := "NoonMealsModel", name := "readPart", desc := "(Ljava/lang/String;II)I" } : Jvm.MethodName)) ∈ lw_tbl := lw_at lw_m7 114 rfl
theorem q1646 : (Jvm.Cond.instanceMethod ({ cls := "NoonMealsModel", name := "readPart", desc := "(Ljava/lang/String;II)I" } : Jvm.MethodName)) ∈ lw_all := lw_g (lw_at lw_m7 115 rfl) rfl
theorem q1647 : (Jvm.Cond.code ({ cls := "NoonMealsModel", name := "readPart", desc := "(Ljava/lang/String;II)I" } : Jvm.MethodName) prog_15_method_18_code (4 : Nat) (Option.some Jvm.ClassFile.FieldType.int)) ∈ lw_all := lw_g (lw_at lw_m7 116 rfl) rfl
theorem q1648 : (Jvm.Cond.methodLink "NoonMealsModel" (157 : Nat) ({ cls := "NoonMealsModel", name := "needs", desc := "(Ljava/lang/String;)V" } : Jvm.MethodName)) ∈ lw_all := lw_g (lw_at lw_m7 117 rfl) rfl
theorem q1649 : (Jvm.Cond.privateMethod ({ cls := "NoonMealsModel", name := "needs", desc := "(Ljava/lang/String;)V" } : Jvm.MethodName)) ∈ lw_tbl := lw_at lw_m7 118 rfl
theorem q1650 : (Jvm.Cond.instanceMethod ({ cls := "NoonMealsModel", name := "needs", desc := "(Ljava/lang/String;)V" } : Jvm.MethodName)) ∈ lw_all := lw_g (lw_at lw_m7 119 rfl) rfl
theorem q1651 : (Jvm.Cond.code ({ cls := "NoonMealsModel", name := "needs", desc := "(Ljava/lang/String;)V" } : Jvm.MethodName) prog_15_method_16_code (2 : Nat) (Option.none : Option Jvm.ClassFile.FieldType)) ∈ lw_all := lw_g (lw_at lw_m7 120 rfl) rfl
theorem q1652 : (Jvm.Cond.methodLink "NoonMealsModel" (161 : Nat) ({ cls := "NoonMealsModel", name := "readWhole", desc := "(II)I" } : Jvm.MethodName)) ∈ lw_all := lw_g (lw_at lw_m7 121 rfl) rfl
theorem q1653 : (Jvm.Cond.privateMethod ({ cls := "NoonMealsModel", name := "readWhole", desc := "(II)I" } : Jvm.MethodName)) ∈ lw_tbl := lw_at lw_m7 122 rfl
theorem q1654 : (Jvm.Cond.instanceMethod ({ cls := "NoonMealsModel", name := "readWhole", desc := "(II)I" } : Jvm.MethodName)) ∈ lw_all := lw_g (lw_at lw_m7 123 rfl) rfl
theorem q1655 : (Jvm.Cond.code ({ cls := "NoonMealsModel", name := "readWhole", desc := "(II)I" } : Jvm.MethodName) prog_15_method_17_code (4 : Nat) (Option.some Jvm.ClassFile.FieldType.int)) ∈ lw_all := lw_g (lw_at lw_m7 124 rfl) rfl
theorem q1656 : (Jvm.Cond.methodLink "NoonMealsModel" (153 : Nat) ({ cls := "NoonMealsModel", name := "in", desc := "(III)Z" } : Jvm.MethodName)) ∈ lw_all := lw_g (lw_at lw_m7 125 rfl) rfl
theorem q1657 : (Jvm.Cond.static ({ cls := "NoonMealsModel", name := "in", desc := "(III)Z" } : Jvm.MethodName)) ∈ lw_all := lw_g (lw_at lw_m7 126 rfl) rfl
theorem q1658 : (Jvm.Cond.code ({ cls := "NoonMealsModel", name := "in", desc := "(III)Z" } : Jvm.MethodName) prog_15_method_6_code (3 : Nat) (Option.some Jvm.ClassFile.FieldType.boolean)) ∈ lw_all := lw_g (lw_at lw_m7 127 rfl) rfl
theorem q1659 : (Jvm.Cond.stringRef "NoonMealsModel" (261 : Nat) "by") ∈ lw_tbl := lw_at lw_m7 128 rfl
theorem q1660 : (Jvm.Cond.stringRef "NoonMealsModel" (167 : Nat) "kitchen") ∈ lw_tbl := lw_at lw_m7 129 rfl
theorem q1661 : (Jvm.Cond.methodLink "NoonMealsModel" (232 : Nat) ({ cls := "NoonMealsModel", name := "readKitchen", desc := "()V" } : Jvm.MethodName)) ∈ lw_all := lw_g (lw_at lw_m7 130 rfl) rfl
theorem q1662 : (Jvm.Cond.privateMethod ({ cls := "NoonMealsModel", name := "readKitchen", desc := "()V" } : Jvm.MethodName)) ∈ lw_tbl := lw_at lw_m7 131 rfl
theorem q1663 : (Jvm.Cond.instanceMethod ({ cls := "NoonMealsModel", name := "readKitchen", desc := "()V" } : Jvm.MethodName)) ∈ lw_all := lw_g (lw_at lw_m7 132 rfl) rfl
theorem q1664 : (Jvm.Cond.code ({ cls := "NoonMealsModel", name := "readKitchen", desc := "()V" } : Jvm.MethodName) prog_15_method_26_code (3 : Nat) (Option.none : Option Jvm.ClassFile.FieldType)) ∈ lw_all := lw_g (lw_at lw_m7 133 rfl) rfl
theorem q1665 : (Jvm.Cond.methodLink "NoonMealsModel" (268 : Nat) ({ cls := "NoonMealsModel", name := "readNamed", desc := "(III)V" } : Jvm.MethodName)) ∈ lw_all := lw_g (lw_at lw_m7 134 rfl) rfl
theorem q1666 : (Jvm.Cond.privateMethod ({ cls := "NoonMealsModel", name := "readNamed", desc := "(III)V" } : Jvm.MethodName)) ∈ lw_tbl := lw_at lw_m7 135 rfl
theorem q1667 : (Jvm.Cond.instanceMethod ({ cls := "NoonMealsModel", name := "readNamed", desc := "(III)V" } : Jvm.MethodName)) ∈ lw_all := lw_g (lw_at lw_m7 136 rfl) rfl
theorem q1668 : (Jvm.Cond.code ({ cls := "NoonMealsModel", name := "readNamed", desc := "(III)V" } : Jvm.MethodName) prog_15_method_21_code (4 : Nat) (Option.none : Option Jvm.ClassFile.FieldType)) ∈ lw_all := lw_g (lw_at lw_m7 137 rfl) rfl
theorem q1669 : (Jvm.Cond.methodLink "NoonMealsModel" (187 : Nat) ({ cls := "NoonMealsModel", name := "isName", desc := "()Z" } : Jvm.MethodName)) ∈ lw_all := lw_g (lw_at lw_m7 138 rfl) rfl
theorem q1670 : (Jvm.Cond.privateMethod ({ cls := "NoonMealsModel", name := "isName", desc := "()Z" } : Jvm.MethodName)) ∈ lw_tbl := lw_at lw_m7 139 rfl
theorem q1671 : (Jvm.Cond.instanceMethod ({ cls := "NoonMealsModel", name := "isName", desc := "()Z" } : Jvm.MethodName)) ∈ lw_all := lw_g (lw_at lw_m7 140 rfl) rfl
theorem q1672 : (Jvm.Cond.code ({ cls := "NoonMealsModel", name := "isName", desc := "()Z" } : Jvm.MethodName) prog_15_method_20_code (1 : Nat) (Option.some Jvm.ClassFile.FieldType.boolean)) ∈ lw_all := lw_g (lw_at lw_m7 141 rfl) rfl
theorem q1673 : (Jvm.Cond.stringRef "NoonMealsModel" (169 : Nat) "flood") ∈ lw_tbl := lw_at lw_m7 142 rfl
theorem q1674 : (Jvm.Cond.stringRef "NoonMealsModel" (171 : Nat) "dish") ∈ lw_tbl := lw_at lw_m7 143 rfl
theorem q1675 : (Jvm.Cond.stringRef "NoonMealsModel" (173 : Nat) "diet") ∈ lw_tbl := lw_at lw_m7 144 rfl
theorem q1676 : (Jvm.Cond.stringRef "NoonMealsModel" (175 : Nat) "house") ∈ lw_tbl := lw_at lw_m7 145 rfl
theorem q1677 : (Jvm.Cond.stringRef "NoonMealsModel" (177 : Nat) "car") ∈ lw_tbl := lw_at lw_m7 146 rfl
theorem q1678 : (Jvm.Cond.stringRef "NoonMealsModel" (179 : Nat) "call") ∈ lw_tbl := lw_at lw_m7 147 rfl
theorem q1679 : (Jvm.Cond.stringRef "NoonMealsModel" (181 : Nat) "helper") ∈ lw_tbl := lw_at lw_m7 148 rfl
theorem q1680 : (Jvm.Cond.stringRef "NoonMealsModel" (183 : Nat) "dog") ∈ lw_tbl := lw_at lw_m7 149 rfl
theorem q1681 : (Jvm.Cond.stringRef "NoonMealsModel" (185 : Nat) "afraid") ∈ lw_tbl := lw_at lw_m7 150 rfl
theorem q1682 : (Jvm.Cond.methodLink "NoonMealsModel" (195 : Nat) ({ cls := "NoonMealsModel$Day", name := "find", desc := "(J)I" } : Jvm.MethodName)) ∈ lw_all := lw_g (lw_at lw_m7 151 rfl) rfl
theorem q1686 : (Jvm.Cond.stringRef "NoonMealsModel" (272 : Nat) "at") ∈ lw_tbl := lw_at lw_m7 155 rfl
theorem q1687 : (Jvm.Cond.methodLink "NoonMealsModel" (235 : Nat) ({ cls := "NoonMealsModel", name := "readFlood", desc := "()V" } : Jvm.MethodName)) ∈ lw_all := lw_g (lw_at lw_m7 156 rfl) rfl
theorem q1688 : (Jvm.Cond.privateMethod ({ cls := "NoonMealsModel", name := "readFlood", desc := "()V" } : Jvm.MethodName)) ∈ lw_tbl := lw_at lw_m7 157 rfl
theorem q1689 : (Jvm.Cond.instanceMethod ({ cls := "NoonMealsModel", name := "readFlood", desc := "()V" } : Jvm.MethodName)) ∈ lw_all := lw_g (lw_at lw_m7 158 rfl) rfl
theorem q1690 : (Jvm.Cond.code ({ cls := "NoonMealsModel", name := "readFlood", desc := "()V" } : Jvm.MethodName) prog_15_method_27_code (3 : Nat) (Option.none : Option Jvm.ClassFile.FieldType)) ∈ lw_all := lw_g (lw_at lw_m7 159 rfl) rfl
theorem q1691 : (Jvm.Cond.stringRef "NoonMealsModel" (282 : Nat) "adds") ∈ lw_tbl := lw_at lw_m7 160 rfl
theorem q1692 : (Jvm.Cond.methodLink "NoonMealsModel" (238 : Nat) ({ cls := "NoonMealsModel", name := "readDish", desc := "()V" } : Jvm.MethodName)) ∈ lw_all := lw_g (lw_at lw_m7 161 rfl) rfl
theorem q1693 : (Jvm.Cond.privateMethod ({ cls := "NoonMealsModel", name := "readDish", desc := "()V" } : Jvm.MethodName)) ∈ lw_tbl := lw_at lw_m7 162 rfl
theorem q1694 : (Jvm.Cond.instanceMethod ({ cls := "NoonMealsModel", name := "readDish", desc := "()V" } : Jvm.MethodName)) ∈ lw_all := lw_g (lw_at lw_m7 163 rfl) rfl
theorem q1695 : (Jvm.Cond.code ({ cls := "NoonMealsModel", name := "readDish", desc := "()V" } : Jvm.MethodName) prog_15_method_28_code (3 : Nat) (Option.none : Option Jvm.ClassFile.FieldType)) ∈ lw_all := lw_g (lw_at lw_m7 164 rfl) rfl
theorem q1696 : (Jvm.Cond.stringRef "NoonMealsModel" (293 : Nat) "of") ∈ lw_tbl := lw_at lw_m7 165 rfl
theorem q1697 : (Jvm.Cond.methodLink "NoonMealsModel" (295 : Nat) ({ cls := "NoonMealsModel", name := "readLetters", desc := "()I" } : Jvm.MethodName)) ∈ lw_all := lw_g (lw_at lw_m7 166 rfl) rfl
theorem q1698 : (Jvm.Cond.privateMethod ({ cls := "NoonMealsModel", name := "readLetters", desc := "()I" } : Jvm.MethodName)) ∈ lw_tbl := lw_at lw_m7 167 rfl
theorem q1699 : (Jvm.Cond.instanceMethod ({ cls := "NoonMealsModel", name := "readLetters", desc := "()I" } : Jvm.MethodName)) ∈ lw_all := lw_g (lw_at lw_m7 168 rfl) rfl
theorem q1700 : (Jvm.Cond.code ({ cls := "NoonMealsModel", name := "readLetters", desc := "()I" } : Jvm.MethodName) prog_15_method_19_code (2 : Nat) (Option.some Jvm.ClassFile.FieldType.int)) ∈ lw_all := lw_g (lw_at lw_m7 169 rfl) rfl
theorem q1701 : (Jvm.Cond.stringRef "NoonMealsModel" (298 : Nat) "costs") ∈ lw_tbl := lw_at lw_m7 170 rfl
theorem q1702 : (Jvm.Cond.methodLink "NoonMealsModel" (241 : Nat) ({ cls := "NoonMealsModel", name := "readDiet", desc := "()V" } : Jvm.MethodName)) ∈ lw_all := lw_g (lw_at lw_m7 171 rfl) rfl
theorem q1703 : (Jvm.Cond.privateMethod ({ cls := "NoonMealsModel", name := "readDiet", desc := "()V" } : Jvm.MethodName)) ∈ lw_tbl := lw_at lw_m7 172 rfl
theorem q1704 : (Jvm.Cond.instanceMethod ({ cls := "NoonMealsModel", name := "readDiet", desc := "()V" } : Jvm.MethodName)) ∈ lw_all := lw_g (lw_at lw_m7 173 rfl) rfl
theorem q1705 : (Jvm.Cond.code ({ cls := "NoonMealsModel", name := "readDiet", desc := "()V" } : Jvm.MethodName) prog_15_method_29_code (2 : Nat) (Option.none : Option Jvm.ClassFile.FieldType)) ∈ lw_all := lw_g (lw_at lw_m7 174 rfl) rfl
theorem q1706 : (Jvm.Cond.stringRef "NoonMealsModel" (309 : Nat) "bars") ∈ lw_tbl := lw_at lw_m7 175 rfl
theorem q1707 : (Jvm.Cond.methodLink "NoonMealsModel" (244 : Nat) ({ cls := "NoonMealsModel", name := "readHouse", desc := "()V" } : Jvm.MethodName)) ∈ lw_all := lw_g (lw_at lw_m7 176 rfl) rfl
theorem q1708 : (Jvm.Cond.privateMethod ({ cls := "NoonMealsModel", name := "readHouse", desc := "()V" } : Jvm.MethodName)) ∈ lw_tbl := lw_at lw_m7 177 rfl
theorem q1709 : (Jvm.Cond.instanceMethod ({ cls := "NoonMealsModel", name := "readHouse", desc := "()V" } : Jvm.MethodName)) ∈ lw_all := lw_g (lw_at lw_m7 178 rfl) rfl
theorem q1710 : (Jvm.Cond.code ({ cls := "NoonMealsModel", name := "readHouse", desc := "()V" } : Jvm.MethodName) prog_15_method_30_code (9 : Nat) (Option.none : Option Jvm.ClassFile.FieldType)) ∈ lw_all := lw_g (lw_at lw_m7 179 rfl) rfl
theorem q1711 : (Jvm.Cond.stringRef "NoonMealsModel" (313 : Nat) "eats") ∈ lw_tbl := lw_at lw_m7 180 rfl
theorem q1712 : (Jvm.Cond.methodLink "NoonMealsModel" (315 : Nat) ({ cls := "NoonMealsModel", name := "readKnown", desc := "(I)I" } : Jvm.MethodName)) ∈ lw_all := lw_g (lw_at lw_m7 181 rfl) rfl
theorem q1713 : (Jvm.Cond.privateMethod ({ cls := "NoonMealsModel", name := "readKnown", desc := "(I)I" } : Jvm.MethodName)) ∈ lw_tbl := lw_at lw_m7 182 rfl
theorem q1714 : (Jvm.Cond.instanceMethod ({ cls := "NoonMealsModel", name := "readKnown", desc := "(I)I" } : Jvm.MethodName)) ∈ lw_all := lw_g (lw_at lw_m7 183 rfl) rfl
theorem q1715 : (Jvm.Cond.code ({ cls := "NoonMealsModel", name := "readKnown", desc := "(I)I" } : Jvm.MethodName) prog_15_method_22_code (4 : Nat) (Option.some Jvm.ClassFile.FieldType.int)) ∈ lw_all := lw_g (lw_at lw_m7 184 rfl) rfl
theorem q1716 : (Jvm.Cond.stringRef "NoonMealsModel" (318 : Nat) "doors") ∈ lw_tbl := lw_at lw_m7 185 rfl
theorem q1717 : (Jvm.Cond.stringRef "NoonMealsModel" (320 : Nat) "tea") ∈ lw_tbl := lw_at lw_m7 186 rfl
theorem q1718 : (Jvm.Cond.stringRef "NoonMealsModel" (322 : Nat) "chance") ∈ lw_tbl := lw_at lw_m7 187 rfl
theorem q1719 : (Jvm.Cond.stringRef "NoonMealsModel" (324 : Nat) "need") ∈ lw_tbl := lw_at lw_m7 188 rfl
theorem q1720 : (Jvm.Cond.methodLink "NoonMealsModel" (326 : Nat) ({ cls := "NoonMealsModel", name := "eatsWord", desc := "(Ljava/lang/String;)Z" } : Jvm.MethodName)) ∈ lw_all := lw_g (lw_at lw_m7 189 rfl) rfl
theorem q1721 : (Jvm.Cond.privateMethod ({ cls := "NoonMealsModel", name := "eatsWord", desc := "(Ljava/lang/String;)Z" } : Jvm.MethodName)) ∈ lw_tbl := lw_at lw_m7 190 rfl
theorem q1722 : (Jvm.Cond.instanceMethod ({ cls := "NoonMealsModel", name := "eatsWord", desc := "(Ljava/lang/String;)Z" } : Jvm.MethodName)) ∈ lw_all := lw_g (lw_at lw_m7 191 rfl) rfl
theorem q1723 : (Jvm.Cond.code ({ cls := "NoonMealsModel", name := "eatsWord", desc := "(Ljava/lang/String;)Z" } : Jvm.MethodName) prog_15_method_14_code (3 : Nat) (Option.some Jvm.ClassFile.FieldType.boolean)) ∈ lw_all := lw_g (lw_at lw_m7 192 rfl) rfl
theorem q1724 : (Jvm.Cond.methodLink "NoonMealsModel" (247 : Nat) ({ cls := "NoonMealsModel", name := "readCar", desc := "()V" } : Jvm.MethodName)) ∈ lw_all := lw_g (lw_at lw_m7 193 rfl) rfl
theorem q1725 : (Jvm.Cond.privateMethod ({ cls := "NoonMealsModel", name := "readCar", desc := "()V" } : Jvm.MethodName)) ∈ lw_tbl := lw_at lw_m7 194 rfl
theorem q1726 : (Jvm.Cond.instanceMethod ({ cls := "NoonMealsModel", name := "readCar", desc := "()V" } : Jvm.MethodName)) ∈ lw_all := lw_g (lw_at lw_m7 195 rfl) rfl
theorem q1727 : (Jvm.Cond.code ({ cls := "NoonMealsModel", name := "readCar", desc := "()V" } : Jvm.MethodName) prog_15_method_31_code (7 : Nat) (Option.none : Option Jvm.ClassFile.FieldType)) ∈ lw_all := lw_g (lw_at lw_m7 196 rfl) rfl
theorem q1728 : (Jvm.Cond.stringRef "NoonMealsModel" (346 : Nat) "from") ∈ lw_tbl := lw_at lw_m7 197 rfl
theorem q1729 : (Jvm.Cond.stringRef "NoonMealsModel" (348 : Nat) "starts") ∈ lw_tbl := lw_at lw_m7 198 rfl
theorem q1730 : (Jvm.Cond.stringRef "NoonMealsModel" (350 : Nat) "holds") ∈ lw_tbl := lw_at lw_m7 199 rfl
theorem q1731 : (Jvm.Cond.stringRef "NoonMealsModel" (352 : Nat) "cools") ∈ lw_tbl := lw_at lw_m7 200 rfl
theorem q1732 : (Jvm.Cond.methodLink "NoonMealsModel" (250 : Nat) ({ cls := "NoonMealsModel", name := "readCall", desc := "()V" } : Jvm.MethodName)) ∈ lw_all := lw_g (lw_at lw_m7 201 rfl) rfl
theorem q1733 : (Jvm.Cond.privateMethod ({ cls := "NoonMealsModel", name := "readCall", desc := "()V" } : Jvm.MethodName)) ∈ lw_tbl := lw_at lw_m7 202 rfl
theorem q1734 : (Jvm.Cond.instanceMethod ({ cls := "NoonMealsModel", name := "readCall", desc := "()V" } : Jvm.MethodName)) ∈ lw_all := lw_g (lw_at lw_m7 203 rfl) rfl
theorem q1735 : (Jvm.Cond.code ({ cls := "NoonMealsModel", name := "readCall", desc := "()V" } : Jvm.MethodName) prog_15_method_32_code (3 : Nat) (Option.none : Option Jvm.ClassFile.FieldType)) ∈ lw_all := lw_g (lw_at lw_m7 204 rfl) rfl
theorem q1736 : (Jvm.Cond.stringRef "NoonMealsModel" (368 : Nat) "takes") ∈ lw_tbl := lw_at lw_m7 205 rfl
theorem q1737 : (Jvm.Cond.methodLink "NoonMealsModel" (253 : Nat) ({ cls := "NoonMealsModel", name := "readHelper", desc := "()V" } : Jvm.MethodName)) ∈ lw_all := lw_g (lw_at lw_m7 206 rfl) rfl
theorem q1738 : (Jvm.Cond.privateMethod ({ cls := "NoonMealsModel", name := "readHelper", desc := "()V" } : Jvm.MethodName)) ∈ lw_tbl := lw_at lw_m7 207 rfl
theorem q1739 : (Jvm.Cond.instanceMethod ({ cls := "NoonMealsModel", name := "readHelper", desc := "()V" } : Jvm.MethodName)) ∈ lw_all := lw_g (lw_at lw_m7 208 rfl) rfl
theorem q1740 : (Jvm.Cond.code ({ cls := "NoonMealsModel", name := "readHelper", desc := "()V" } : Jvm.MethodName) prog_15_method_33_code (4 : Nat) (Option.none : Option Jvm.ClassFile.FieldType)) ∈ lw_all := lw_g (lw_at lw_m7 209 rfl) rfl
theorem q1741 : (Jvm.Cond.stringRef "NoonMealsModel" (378 : Nat) "days") ∈ lw_tbl := lw_at lw_m7 210 rfl
theorem q1742 : (Jvm.Cond.methodLink "NoonMealsModel" (217 : Nat) ({ cls := "NoonMealsModel", name := "eatsSign", desc := "(I)Z" } : Jvm.MethodName)) ∈ lw_all := lw_g (lw_at lw_m7 211 rfl) rfl
theorem q1743 : (Jvm.Cond.privateMethod ({ cls := "NoonMealsModel", name := "eatsSign", desc := "(I)Z" } : Jvm.MethodName)) ∈ lw_tbl := lw_at lw_m7 212 rfl
theorem q1744 : (Jvm.Cond.instanceMethod ({ cls := "NoonMealsModel", name := "eatsSign", desc := "(I)Z" } : Jvm.MethodName)) ∈ lw_all := lw_g (lw_at lw_m7 213 rfl) rfl
theorem q1745 : (Jvm.Cond.code ({ cls := "NoonMealsModel", name := "eatsSign", desc := "(I)Z" } : Jvm.MethodName) prog_15_method_15_code (3 : Nat) (Option.some Jvm.ClassFile.FieldType.boolean)) ∈ lw_all := lw_g (lw_at lw_m7 214 rfl) rfl
theorem q1746 : (Jvm.Cond.stringRef "NoonMealsModel" (380 : Nat) "most") ∈ lw_tbl := lw_at lw_m7 215 rfl
theorem q1747 : (Jvm.Cond.methodLink "NoonMealsModel" (416 : Nat) ({ cls := "NoonMealsModel", name := "done", desc := "(I)I" } : Jvm.MethodName)) ∈ lw_all := lw_g (lw_at lw_m7 216 rfl) rfl
theorem q1748 : (Jvm.Cond.privateMethod ({ cls := "NoonMealsModel", name := "done", desc := "(I)I" } : Jvm.MethodName)) ∈ lw_tbl := lw_at lw_m7 217 rfl
theorem q1749 : (Jvm.Cond.instanceMethod ({ cls := "NoonMealsModel", name := "done", desc := "(I)I" } : Jvm.MethodName)) ∈ lw_all := lw_g (lw_at lw_m7 218 rfl) rfl
theorem q1750 : (Jvm.Cond.code ({ cls := "NoonMealsModel", name := "done", desc := "(I)I" } : Jvm.MethodName) prog_15_method_5_code (2 : Nat) (Option.some Jvm.ClassFile.FieldType.int)) ∈ lw_all := lw_g (lw_at lw_m7 219 rfl) rfl
theorem q1752 : (Jvm.Cond.instanceMethod ({ cls := "NoonMealsModel", name := "fault", desc := "()I" } : Jvm.MethodName)) ∈ lw_all := lw_g (lw_at lw_m7 221 rfl) rfl
theorem q1753 : (Jvm.Cond.selects "NoonMealsModel" ({ cls := "NoonMealsModel", name := "fault", desc := "()I" } : Jvm.MethodName) ({ cls := "NoonMealsModel", name := "fault", desc := "()I" } : Jvm.MethodName)) ∈ lw_all := lw_g (lw_at lw_m7 222 rfl) rfl
theorem q1754 : (Jvm.Cond.code ({ cls := "NoonMealsModel", name := "fault", desc := "()I" } : Jvm.MethodName) prog_15_method_36_code (1 : Nat) (Option.some Jvm.ClassFile.FieldType.int)) ∈ lw_all := lw_g (lw_at lw_m7 223 rfl) rfl
theorem q1756 : (Jvm.Cond.instanceMethod ({ cls := "NoonMealsModel", name := "where", desc := "()I" } : Jvm.MethodName)) ∈ lw_all := lw_g (lw_at lw_m7 225 rfl) rfl
theorem q1757 : (Jvm.Cond.selects "NoonMealsModel" ({ cls := "NoonMealsModel", name := "where", desc := "()I" } : Jvm.MethodName) ({ cls := "NoonMealsModel", name := "where", desc := "()I" } : Jvm.MethodName)) ∈ lw_all := lw_g (lw_at lw_m7 226 rfl) rfl
theorem q1758 : (Jvm.Cond.code ({ cls := "NoonMealsModel", name := "where", desc := "()I" } : Jvm.MethodName) prog_15_method_37_code (1 : Nat) (Option.some Jvm.ClassFile.FieldType.int)) ∈ lw_all := lw_g (lw_at lw_m7 227 rfl) rfl
theorem q1760 : (Jvm.Cond.instanceMethod ({ cls := "NoonMealsModel", name := "drive", desc := "(II)I" } : Jvm.MethodName)) ∈ lw_all := lw_g (lw_at lw_m7 229 rfl) rfl
theorem q1761 : (Jvm.Cond.selects "NoonMealsModel" ({ cls := "NoonMealsModel", name := "drive", desc := "(II)I" } : Jvm.MethodName) ({ cls := "NoonMealsModel", name := "drive", desc := "(II)I" } : Jvm.MethodName)) ∈ lw_all := lw_g (lw_at lw_m7 230 rfl) rfl
theorem q1762 : (Jvm.Cond.code ({ cls := "NoonMealsModel", name := "drive", desc := "(II)I" } : Jvm.MethodName) prog_15_method_42_code (3 : Nat) (Option.some Jvm.ClassFile.FieldType.int)) ∈ lw_all := lw_g (lw_at lw_m7 231 rfl) rfl
theorem q1763 : (Jvm.Cond.methodLink "NoonMealsModel" (419 : Nat) ({ cls := "NoonMealsModel", name := "isCar", desc := "(I)Z" } : Jvm.MethodName)) ∈ lw_all := lw_g (lw_at lw_m7 232 rfl) rfl
theorem q1764 : (Jvm.Cond.privateMethod ({ cls := "NoonMealsModel", name := "isCar", desc := "(I)Z" } : Jvm.MethodName)) ∈ lw_tbl := lw_at lw_m7 233 rfl
theorem q1765 : (Jvm.Cond.instanceMethod ({ cls := "NoonMealsModel", name := "isCar", desc := "(I)Z" } : Jvm.MethodName)) ∈ lw_all := lw_g (lw_at lw_m7 234 rfl) rfl
theorem q1766 : (Jvm.Cond.code ({ cls := "NoonMealsModel", name := "isCar", desc := "(I)Z" } : Jvm.MethodName) prog_15_method_38_code (2 : Nat) (Option.some Jvm.ClassFile.FieldType.boolean)) ∈ lw_all := lw_g (lw_at lw_m7 235 rfl) rfl
theorem q1767 : (Jvm.Cond.methodLink "NoonMealsModel" (422 : Nat) ({ cls := "NoonMealsModel", name := "isHouse", desc := "(I)Z" } : Jvm.MethodName)) ∈ lw_all := lw_g (lw_at lw_m7 236 rfl) rfl
theorem q1768 : (Jvm.Cond.privateMethod ({ cls := "NoonMealsModel", name := "isHouse", desc := "(I)Z" } : Jvm.MethodName)) ∈ lw_tbl := lw_at lw_m7 237 rfl
theorem q1769 : (Jvm.Cond.instanceMethod ({ cls := "NoonMealsModel", name := "isHouse", desc := "(I)Z" } : Jvm.MethodName)) ∈ lw_all := lw_g (lw_at lw_m7 238 rfl) rfl
theorem q1770 : (Jvm.Cond.code ({ cls := "NoonMealsModel", name := "isHouse", desc := "(I)Z" } : Jvm.MethodName) prog_15_method_39_code (2 : Nat) (Option.some Jvm.ClassFile.FieldType.boolean)) ∈ lw_all := lw_g (lw_at lw_m7 239 rfl) rfl
theorem q1771 : (Jvm.Cond.methodLink "NoonMealsModel" (425 : Nat) ({ cls := "NoonMealsModel", name := "carOf", desc := "(I)I" } : Jvm.MethodName)) ∈ lw_all := lw_g (lw_at lw_m8 0 rfl) rfl
theorem q1772 : (Jvm.Cond.privateMethod ({ cls := "NoonMealsModel", name := "carOf", desc := "(I)I" } : Jvm.MethodName)) ∈ lw_tbl := lw_at lw_m8 1 rfl
theorem q1773 : (Jvm.Cond.instanceMethod ({ cls := "NoonMealsModel", name := "carOf", desc := "(I)I" } : Jvm.MethodName)) ∈ lw_all := lw_g (lw_at lw_m8 2 rfl) rfl
theorem q1774 : (Jvm.Cond.code ({ cls := "NoonMealsModel", name := "carOf", desc := "(I)I" } : Jvm.MethodName) prog_15_method_41_code (4 : Nat) (Option.some Jvm.ClassFile.FieldType.int)) ∈ lw_all := lw_g (lw_at lw_m8 3 rfl) rfl
theorem q1776 : (Jvm.Cond.instanceMethod ({ cls := "NoonMealsModel", name := "unload", desc := "(I)I" } : Jvm.MethodName)) ∈ lw_all := lw_g (lw_at lw_m8 5 rfl) rfl
theorem q1777 : (Jvm.Cond.selects "NoonMealsModel" ({ cls := "NoonMealsModel", name := "unload", desc := "(I)I" } : Jvm.MethodName) ({ cls := "NoonMealsModel", name := "unload", desc := "(I)I" } : Jvm.MethodName)) ∈ lw_all := lw_g (lw_at lw_m8 6 rfl) rfl
theorem q1778 : (Jvm.Cond.code ({ cls := "NoonMealsModel", name := "unload", desc := "(I)I" } : Jvm.MethodName) prog_15_method_43_code (3 : Nat) (Option.some Jvm.ClassFile.FieldType.int)) ∈ lw_all := lw_g (lw_at lw_m8 7 rfl) rfl
theorem q1780 : (Jvm.Cond.instanceMethod ({ cls := "NoonMealsModel", name := "tea", desc := "(I)Z" } : Jvm.MethodName)) ∈ lw_all := lw_g (lw_at lw_m8 9 rfl) rfl
theorem q1781 : (Jvm.Cond.selects "NoonMealsModel" ({ cls := "NoonMealsModel", name := "tea", desc := "(I)Z" } : Jvm.MethodName) ({ cls := "NoonMealsModel", name := "tea", desc := "(I)Z" } : Jvm.MethodName)) ∈ lw_all := lw_g (lw_at lw_m8 10 rfl) rfl
theorem q1782 : (Jvm.Cond.code ({ cls := "NoonMealsModel", name := "tea", desc := "(I)Z" } : Jvm.MethodName) prog_15_method_44_code (2 : Nat) (Option.some Jvm.ClassFile.FieldType.boolean)) ∈ lw_all := lw_g (lw_at lw_m8 11 rfl) rfl
theorem q1784 : (Jvm.Cond.instanceMethod ({ cls := "NoonMealsModel", name := "comes", desc := "(I)I" } : Jvm.MethodName)) ∈ lw_all := lw_g (lw_at lw_m8 13 rfl) rfl
theorem q1785 : (Jvm.Cond.selects "NoonMealsModel" ({ cls := "NoonMealsModel", name := "comes", desc := "(I)I" } : Jvm.MethodName) ({ cls := "NoonMealsModel", name := "comes", desc := "(I)I" } : Jvm.MethodName)) ∈ lw_all := lw_g (lw_at lw_m8 14 rfl) rfl
theorem q1786 : (Jvm.Cond.code ({ cls := "NoonMealsModel", name := "comes", desc := "(I)I" } : Jvm.MethodName) prog_15_method_49_code (3 : Nat) (Option.some Jvm.ClassFile.FieldType.int)) ∈ lw_all := lw_g (lw_at lw_m8 15 rfl) rfl
theorem q1787 : (Jvm.Cond.methodLink "NoonMealsModel" (448 : Nat) ({ cls := "NoonMealsModel", name := "goesAsDriven", desc := "(II)V" } : Jvm.MethodName)) ∈ lw_all := lw_g (lw_at lw_m8 16 rfl) rfl
theorem q1788 : (Jvm.Cond.privateMethod ({ cls := "NoonMealsModel", name := "goesAsDriven", desc := "(II)V" } : Jvm.MethodName)) ∈ lw_tbl := lw_at lw_m8 17 rfl
theorem q1789 : (Jvm.Cond.instanceMethod ({ cls := "NoonMealsModel", name := "goesAsDriven", desc := "(II)V" } : Jvm.MethodName)) ∈ lw_all := lw_g (lw_at lw_m8 18 rfl) rfl
theorem q1790 : (Jvm.Cond.code ({ cls := "NoonMealsModel", name := "goesAsDriven", desc := "(II)V" } : Jvm.MethodName) prog_15_method_47_code (4 : Nat) (Option.none : Option Jvm.ClassFile.FieldType)) ∈ lw_all := lw_g (lw_at lw_m8 19 rfl) rfl
theorem q1791 : (Jvm.Cond.methodLink "NoonMealsModel" (444 : Nat) ({ cls := "NoonMealsModel", name := "goes", desc := "(II)V" } : Jvm.MethodName)) ∈ lw_all := lw_g (lw_at lw_m8 20 rfl) rfl
theorem q1792 : (Jvm.Cond.privateMethod ({ cls := "NoonMealsModel", name := "goes", desc := "(II)V" } : Jvm.MethodName)) ∈ lw_tbl := lw_at lw_m8 21 rfl
theorem q1793 : (Jvm.Cond.instanceMethod ({ cls := "NoonMealsModel", name := "goes", desc := "(II)V" } : Jvm.MethodName)) ∈ lw_all := lw_g (lw_at lw_m8 22 rfl) rfl
theorem q1794 : (Jvm.Cond.code ({ cls := "NoonMealsModel", name := "goes", desc := "(II)V" } : Jvm.MethodName) prog_15_method_45_code (7 : Nat) (Option.none : Option Jvm.ClassFile.FieldType)) ∈ lw_all := lw_g (lw_at lw_m8 23 rfl) rfl
theorem q1795 : (Jvm.Cond.methodLink "NoonMealsModel" (434 : Nat) ({ cls := "NoonMealsModel$Day", name := "way", desc := "(II)I" } : Jvm.MethodName)) ∈ lw_all := lw_g (lw_at lw_m8 24 rfl) rfl
theorem q1799 : (Jvm.Cond.methodLink "NoonMealsModel" (437 : Nat) ({ cls := "NoonMealsModel", name := "heatBy", desc := "(II)I" } : Jvm.MethodName)) ∈ lw_all := lw_g (lw_at lw_m8 28 rfl) rfl
theorem q1800 : (Jvm.Cond.privateMethod ({ cls := "NoonMealsModel", name := "heatBy", desc := "(II)I" } : Jvm.MethodName)) ∈ lw_tbl := lw_at lw_m8 29 rfl
theorem q1801 : (Jvm.Cond.instanceMethod ({ cls := "NoonMealsModel", name := "heatBy", desc := "(II)I" } : Jvm.MethodName)) ∈ lw_all := lw_g (lw_at lw_m8 30 rfl) rfl
theorem q1802 : (Jvm.Cond.code ({ cls := "NoonMealsModel", name := "heatBy", desc := "(II)I" } : Jvm.MethodName) prog_15_method_46_code (3 : Nat) (Option.some Jvm.ClassFile.FieldType.int)) ∈ lw_all := lw_g (lw_at lw_m8 31 rfl) rfl
theorem q1803 : (Jvm.Cond.methodLink "NoonMealsModel" (440 : Nat) ({ cls := "NoonMealsModel", name := "has", desc := "(II)Z" } : Jvm.MethodName)) ∈ lw_all := lw_g (lw_at lw_m8 32 rfl) rfl
theorem q1804 : (Jvm.Cond.static ({ cls := "NoonMealsModel", name := "has", desc := "(II)Z" } : Jvm.MethodName)) ∈ lw_all := lw_g (lw_at lw_m8 33 rfl) rfl
theorem q1805 : (Jvm.Cond.code ({ cls := "NoonMealsModel", name := "has", desc := "(II)Z" } : Jvm.MethodName) prog_15_method_40_code (2 : Nat) (Option.some Jvm.ClassFile.FieldType.boolean)) ∈ lw_all := lw_g (lw_at lw_m8 34 rfl) rfl
theorem q1806 : (Jvm.Cond.methodLink "NoonMealsModel" (451 : Nat) ({ cls := "NoonMealsModel", name := "comesTo", desc := "(I)I" } : Jvm.MethodName)) ∈ lw_all := lw_g (lw_at lw_m8 35 rfl) rfl
theorem q1807 : (Jvm.Cond.privateMethod ({ cls := "NoonMealsModel", name := "comesTo", desc := "(I)I" } : Jvm.MethodName)) ∈ lw_tbl := lw_at lw_m8 36 rfl
theorem q1808 : (Jvm.Cond.instanceMethod ({ cls := "NoonMealsModel", name := "comesTo", desc := "(I)I" } : Jvm.MethodName)) ∈ lw_all := lw_g (lw_at lw_m8 37 rfl) rfl
theorem q1809 : (Jvm.Cond.code ({ cls := "NoonMealsModel", name := "comesTo", desc := "(I)I" } : Jvm.MethodName) prog_15_method_48_code (3 : Nat) (Option.some Jvm.ClassFile.FieldType.int)) ∈ lw_all := lw_g (lw_at lw_m8 38 rfl) rfl
theorem q1811 : (Jvm.Cond.instanceMethod ({ cls := "NoonMealsModel", name := "heat", desc := "(I)I" } : Jvm.MethodName)) ∈ lw_all := lw_g (lw_at lw_m8 40 rfl) rfl
theorem q1812 : (Jvm.Cond.selects "NoonMealsModel" ({ cls := "NoonMealsModel", name := "heat", desc := "(I)I" } : Jvm.MethodName) ({ cls := "NoonMealsModel", name := "heat", desc := "(I)I" } : Jvm.MethodName)) ∈ lw_all := lw_g (lw_at lw_m8 41 rfl) rfl
theorem q1813 : (Jvm.Cond.code ({ cls := "NoonMealsModel", name := "heat", desc := "(I)I" } : Jvm.MethodName) prog_15_method_50_code (3 : Nat) (Option.some Jvm.ClassFile.FieldType.int)) ∈ lw_all := lw_g (lw_at lw_m8 42 rfl) rfl
theorem q1814 : (Jvm.Cond.methodLink "NoonMealsModel" (454 : Nat) ({ cls := "NoonMealsModel", name := "lost", desc := "(I)I" } : Jvm.MethodName)) ∈ lw_all := lw_g (lw_at lw_m8 43 rfl) rfl
theorem q1815 : (Jvm.Cond.privateMethod ({ cls := "NoonMealsModel", name := "lost", desc := "(I)I" } : Jvm.MethodName)) ∈ lw_tbl := lw_at lw_m8 44 rfl
theorem q1816 : (Jvm.Cond.instanceMethod ({ cls := "NoonMealsModel", name := "lost", desc := "(I)I" } : Jvm.MethodName)) ∈ lw_all := lw_g (lw_at lw_m8 45 rfl) rfl
theorem q1817 : (Jvm.Cond.code ({ cls := "NoonMealsModel", name := "lost", desc := "(I)I" } : Jvm.MethodName) prog_15_method_4_code (2 : Nat) (Option.some Jvm.ClassFile.FieldType.int)) ∈ lw_all := lw_g (lw_at lw_m8 46 rfl) rfl
theorem q1819 : (Jvm.Cond.instanceMethod ({ cls := "NoonMealsModel", name := "bad", desc := "(I)I" } : Jvm.MethodName)) ∈ lw_all := lw_g (lw_at lw_m8 48 rfl) rfl
theorem q1820 : (Jvm.Cond.selects "NoonMealsModel" ({ cls := "NoonMealsModel", name := "bad", desc := "(I)I" } : Jvm.MethodName) ({ cls := "NoonMealsModel", name := "bad", desc := "(I)I" } : Jvm.MethodName)) ∈ lw_all := lw_g (lw_at lw_m8 49 rfl) rfl
theorem q1821 : (Jvm.Cond.code ({ cls := "NoonMealsModel", name := "bad", desc := "(I)I" } : Jvm.MethodName) prog_15_method_51_code (2 : Nat) (Option.some Jvm.ClassFile.FieldType.int)) ∈ lw_all := lw_g (lw_at lw_m8 50 rfl) rfl
theorem q1823 : (Jvm.Cond.instanceMethod ({ cls := "NoonMealsModel", name := "way", desc := "(II)I" } : Jvm.MethodName)) ∈ lw_all := lw_g (lw_at lw_m8 52 rfl) rfl
theorem q1824 : (Jvm.Cond.selects "NoonMealsModel" ({ cls := "NoonMealsModel", name := "way", desc := "(II)I" } : Jvm.MethodName) ({ cls := "NoonMealsModel", name := "way", desc := "(II)I" } : Jvm.MethodName)) ∈ lw_all := lw_g (lw_at lw_m8 53 rfl) rfl
theorem q1825 : (Jvm.Cond.code ({ cls := "NoonMealsModel", name := "way", desc := "(II)I" } : Jvm.MethodName) prog_15_method_52_code (3 : Nat) (Option.some Jvm.ClassFile.FieldType.int)) ∈ lw_all := lw_g (lw_at lw_m8 54 rfl) rfl
theorem q1827 : (Jvm.Cond.instanceMethod ({ cls := "NoonMealsModel", name := "best", desc := "(II)I" } : Jvm.MethodName)) ∈ lw_all := lw_g (lw_at lw_m8 56 rfl) rfl
theorem q1828 : (Jvm.Cond.selects "NoonMealsModel" ({ cls := "NoonMealsModel", name := "best", desc := "(II)I" } : Jvm.MethodName) ({ cls := "NoonMealsModel", name := "best", desc := "(II)I" } : Jvm.MethodName)) ∈ lw_all := lw_g (lw_at lw_m8 57 rfl) rfl
theorem q1829 : (Jvm.Cond.code ({ cls := "NoonMealsModel", name := "best", desc := "(II)I" } : Jvm.MethodName) prog_15_method_58_code (4 : Nat) (Option.some Jvm.ClassFile.FieldType.int)) ∈ lw_all := lw_g (lw_at lw_m8 58 rfl) rfl
theorem q1830 : (Jvm.Cond.methodLink "NoonMealsModel" (472 : Nat) ({ cls := "NoonMealsModel", name := "refusesBest", desc := "(II)I" } : Jvm.MethodName)) ∈ lw_all := lw_g (lw_at lw_m8 59 rfl) rfl
theorem q1831 : (Jvm.Cond.privateMethod ({ cls := "NoonMealsModel", name := "refusesBest", desc := "(II)I" } : Jvm.MethodName)) ∈ lw_tbl := lw_at lw_m8 60 rfl
theorem q1832 : (Jvm.Cond.instanceMethod ({ cls := "NoonMealsModel", name := "refusesBest", desc := "(II)I" } : Jvm.MethodName)) ∈ lw_all := lw_g (lw_at lw_m8 61 rfl) rfl
theorem q1833 : (Jvm.Cond.code ({ cls := "NoonMealsModel", name := "refusesBest", desc := "(II)I" } : Jvm.MethodName) prog_15_method_57_code (3 : Nat) (Option.some Jvm.ClassFile.FieldType.int)) ∈ lw_all := lw_g (lw_at lw_m8 62 rfl) rfl
theorem q1834 : (Jvm.Cond.methodLink "NoonMealsModel" (457 : Nat) ({ cls := "NoonMealsModel", name := "bits", desc := "(I)I" } : Jvm.MethodName)) ∈ lw_all := lw_g (lw_at lw_m8 63 rfl) rfl
theorem q1835 : (Jvm.Cond.static ({ cls := "NoonMealsModel", name := "bits", desc := "(I)I" } : Jvm.MethodName)) ∈ lw_all := lw_g (lw_at lw_m8 64 rfl) rfl
theorem q1836 : (Jvm.Cond.code ({ cls := "NoonMealsModel", name := "bits", desc := "(I)I" } : Jvm.MethodName) prog_15_method_53_code (3 : Nat) (Option.some Jvm.ClassFile.FieldType.int)) ∈ lw_all := lw_g (lw_at lw_m8 65 rfl) rfl
theorem q1837 : (Jvm.Cond.methodLink "NoonMealsModel" (475 : Nat) ({ cls := "NoonMealsModel", name := "bests", desc := "(II)V" } : Jvm.MethodName)) ∈ lw_all := lw_g (lw_at lw_m8 66 rfl) rfl
theorem q1838 : (Jvm.Cond.privateMethod ({ cls := "NoonMealsModel", name := "bests", desc := "(II)V" } : Jvm.MethodName)) ∈ lw_tbl := lw_at lw_m8 67 rfl
theorem q1839 : (Jvm.Cond.instanceMethod ({ cls := "NoonMealsModel", name := "bests", desc := "(II)V" } : Jvm.MethodName)) ∈ lw_all := lw_g (lw_at lw_m8 68 rfl) rfl
theorem q1840 : (Jvm.Cond.code ({ cls := "NoonMealsModel", name := "bests", desc := "(II)V" } : Jvm.MethodName) prog_15_method_56_code (8 : Nat) (Option.none : Option Jvm.ClassFile.FieldType)) ∈ lw_all := lw_g (lw_at lw_m8 69 rfl) rfl
theorem q1841 : (Jvm.Cond.methodLink "NoonMealsModel" (460 : Nat) ({ cls := "NoonMealsModel", name := "orders", desc := "(I)I" } : Jvm.MethodName)) ∈ lw_all := lw_g (lw_at lw_m8 70 rfl) rfl
theorem q1842 : (Jvm.Cond.static ({ cls := "NoonMealsModel", name := "orders", desc := "(I)I" } : Jvm.MethodName)) ∈ lw_all := lw_g (lw_at lw_m8 71 rfl) rfl
theorem q1843 : (Jvm.Cond.code ({ cls := "NoonMealsModel", name := "orders", desc := "(I)I" } : Jvm.MethodName) prog_15_method_54_code (3 : Nat) (Option.some Jvm.ClassFile.FieldType.int)) ∈ lw_all := lw_g (lw_at lw_m8 72 rfl) rfl
theorem q1844 : (Jvm.Cond.methodLink "NoonMealsModel" (469 : Nat) ({ cls := "NoonMealsModel", name := "ordered", desc := "(II)V" } : Jvm.MethodName)) ∈ lw_all := lw_g (lw_at lw_m8 73 rfl) rfl
theorem q1845 : (Jvm.Cond.privateMethod ({ cls := "NoonMealsModel", name := "ordered", desc := "(II)V" } : Jvm.MethodName)) ∈ lw_tbl := lw_at lw_m8 74 rfl
theorem q1846 : (Jvm.Cond.instanceMethod ({ cls := "NoonMealsModel", name := "ordered", desc := "(II)V" } : Jvm.MethodName)) ∈ lw_all := lw_g (lw_at lw_m8 75 rfl) rfl
theorem q1847 : (Jvm.Cond.code ({ cls := "NoonMealsModel", name := "ordered", desc := "(II)V" } : Jvm.MethodName) prog_15_method_55_code (9 : Nat) (Option.none : Option Jvm.ClassFile.FieldType)) ∈ lw_all := lw_g (lw_at lw_m8 76 rfl) rfl
theorem q1849 : (Jvm.Cond.instanceMethod ({ cls := "NoonMealsModel", name := "bestAt", desc := "(III)I" } : Jvm.MethodName)) ∈ lw_all := lw_g (lw_at lw_m8 78 rfl) rfl
theorem q1850 : (Jvm.Cond.selects "NoonMealsModel" ({ cls := "NoonMealsModel", name := "bestAt", desc := "(III)I" } : Jvm.MethodName) ({ cls := "NoonMealsModel", name := "bestAt", desc := "(III)I" } : Jvm.MethodName)) ∈ lw_all := lw_g (lw_at lw_m8 79 rfl) rfl
theorem q1851 : (Jvm.Cond.code ({ cls := "NoonMealsModel", name := "bestAt", desc := "(III)I" } : Jvm.MethodName) prog_15_method_59_code (5 : Nat) (Option.some Jvm.ClassFile.FieldType.int)) ∈ lw_all := lw_g (lw_at lw_m8 80 rfl) rfl
theorem q1853 : (Jvm.Cond.instanceMethod ({ cls := "NoonMealsModel", name := "share", desc := "()I" } : Jvm.MethodName)) ∈ lw_all := lw_g (lw_at lw_m8 82 rfl) rfl
theorem q1854 : (Jvm.Cond.selects "NoonMealsModel" ({ cls := "NoonMealsModel", name := "share", desc := "()I" } : Jvm.MethodName) ({ cls := "NoonMealsModel", name := "share", desc := "()I" } : Jvm.MethodName)) ∈ lw_all := lw_g (lw_at lw_m8 83 rfl) rfl
theorem q1855 : (Jvm.Cond.code ({ cls := "NoonMealsModel", name := "share", desc := "()I" } : Jvm.MethodName) prog_15_method_63_code (10 : Nat) (Option.some Jvm.ClassFile.FieldType.int)) ∈ lw_all := lw_g (lw_at lw_m8 84 rfl) rfl
theorem q1856 : (Jvm.Cond.methodLink "NoonMealsModel" (478 : Nat) ({ cls := "NoonMealsModel", name := "weighsCars", desc := "()V" } : Jvm.MethodName)) ∈ lw_all := lw_g (lw_at lw_m8 85 rfl) rfl
theorem q1857 : (Jvm.Cond.privateMethod ({ cls := "NoonMealsModel", name := "weighsCars", desc := "()V" } : Jvm.MethodName)) ∈ lw_tbl := lw_at lw_m8 86 rfl
theorem q1858 : (Jvm.Cond.instanceMethod ({ cls := "NoonMealsModel", name := "weighsCars", desc := "()V" } : Jvm.MethodName)) ∈ lw_all := lw_g (lw_at lw_m8 87 rfl) rfl
theorem q1859 : (Jvm.Cond.code ({ cls := "NoonMealsModel", name := "weighsCars", desc := "()V" } : Jvm.MethodName) prog_15_method_62_code (3 : Nat) (Option.none : Option Jvm.ClassFile.FieldType)) ∈ lw_all := lw_g (lw_at lw_m8 88 rfl) rfl
theorem q1860 : (Jvm.Cond.methodLink "NoonMealsModel" (481 : Nat) ({ cls := "NoonMealsModel", name := "shares", desc := "()I" } : Jvm.MethodName)) ∈ lw_all := lw_g (lw_at lw_m8 89 rfl) rfl
theorem q1861 : (Jvm.Cond.privateMethod ({ cls := "NoonMealsModel", name := "shares", desc := "()I" } : Jvm.MethodName)) ∈ lw_tbl := lw_at lw_m8 90 rfl
theorem q1862 : (Jvm.Cond.instanceMethod ({ cls := "NoonMealsModel", name := "shares", desc := "()I" } : Jvm.MethodName)) ∈ lw_all := lw_g (lw_at lw_m8 91 rfl) rfl
theorem q1863 : (Jvm.Cond.code ({ cls := "NoonMealsModel", name := "shares", desc := "()I" } : Jvm.MethodName) prog_15_method_61_code (3 : Nat) (Option.some Jvm.ClassFile.FieldType.int)) ∈ lw_all := lw_g (lw_at lw_m8 92 rfl) rfl
theorem q1864 : (Jvm.Cond.methodLink "NoonMealsModel" (484 : Nat) ({ cls := "NoonMealsModel", name := "housesOf", desc := "(II)I" } : Jvm.MethodName)) ∈ lw_all := lw_g (lw_at lw_m8 93 rfl) rfl
theorem q1865 : (Jvm.Cond.privateMethod ({ cls := "NoonMealsModel", name := "housesOf", desc := "(II)I" } : Jvm.MethodName)) ∈ lw_tbl := lw_at lw_m8 94 rfl
theorem q1866 : (Jvm.Cond.instanceMethod ({ cls := "NoonMealsModel", name := "housesOf", desc := "(II)I" } : Jvm.MethodName)) ∈ lw_all := lw_g (lw_at lw_m8 95 rfl) rfl
theorem q1867 : (Jvm.Cond.code ({ cls := "NoonMealsModel", name := "housesOf", desc := "(II)I" } : Jvm.MethodName) prog_15_method_60_code (6 : Nat) (Option.some Jvm.ClassFile.FieldType.int)) ∈ lw_all := lw_g (lw_at lw_m8 96 rfl) rfl
theorem q1869 : (Jvm.Cond.instanceMethod ({ cls := "NoonMealsModel", name := "shared", desc := "(I)I" } : Jvm.MethodName)) ∈ lw_all := lw_g (lw_at lw_m8 98 rfl) rfl
theorem q1870 : (Jvm.Cond.selects "NoonMealsModel" ({ cls := "NoonMealsModel", name := "shared", desc := "(I)I" } : Jvm.MethodName) ({ cls := "NoonMealsModel", name := "shared", desc := "(I)I" } : Jvm.MethodName)) ∈ lw_all := lw_g (lw_at lw_m8 99 rfl) rfl
theorem q1871 : (Jvm.Cond.code ({ cls := "NoonMealsModel", name := "shared", desc := "(I)I" } : Jvm.MethodName) prog_15_method_64_code (2 : Nat) (Option.some Jvm.ClassFile.FieldType.int)) ∈ lw_all := lw_g (lw_at lw_m8 100 rfl) rfl
theorem q1873 : (Jvm.Cond.instanceMethod ({ cls := "NoonMealsModel", name := "odds", desc := "(I)J" } : Jvm.MethodName)) ∈ lw_all := lw_g (lw_at lw_m8 102 rfl) rfl
theorem q1874 : (Jvm.Cond.selects "NoonMealsModel" ({ cls := "NoonMealsModel", name := "odds", desc := "(I)J" } : Jvm.MethodName) ({ cls := "NoonMealsModel", name := "odds", desc := "(I)J" } : Jvm.MethodName)) ∈ lw_all := lw_g (lw_at lw_m8 103 rfl) rfl
theorem q1875 : (Jvm.Cond.code ({ cls := "NoonMealsModel", name := "odds", desc := "(I)J" } : Jvm.MethodName) prog_15_method_65_code (10 : Nat) (Option.some Jvm.ClassFile.FieldType.long)) ∈ lw_all := lw_g (lw_at lw_m8 104 rfl) rfl
theorem q1877 : (Jvm.Cond.instanceMethod ({ cls := "NoonMealsModel", name := "costs", desc := "(I)I" } : Jvm.MethodName)) ∈ lw_all := lw_g (lw_at lw_m8 106 rfl) rfl
theorem q1878 : (Jvm.Cond.selects "NoonMealsModel" ({ cls := "NoonMealsModel", name := "costs", desc := "(I)I" } : Jvm.MethodName) ({ cls := "NoonMealsModel", name := "costs", desc := "(I)I" } : Jvm.MethodName)) ∈ lw_all := lw_g (lw_at lw_m8 107 rfl) rfl
theorem q1879 : (Jvm.Cond.code ({ cls := "NoonMealsModel", name := "costs", desc := "(I)I" } : Jvm.MethodName) prog_15_method_66_code (4 : Nat) (Option.some Jvm.ClassFile.FieldType.int)) ∈ lw_all := lw_g (lw_at lw_m8 108 rfl) rfl
theorem q1881 : (Jvm.Cond.instanceMethod ({ cls := "NoonMealsModel", name := "fits", desc := "(II)I" } : Jvm.MethodName)) ∈ lw_all := lw_g (lw_at lw_m8 110 rfl) rfl
theorem q1882 : (Jvm.Cond.selects "NoonMealsModel" ({ cls := "NoonMealsModel", name := "fits", desc := "(II)I" } : Jvm.MethodName) ({ cls := "NoonMealsModel", name := "fits", desc := "(II)I" } : Jvm.MethodName)) ∈ lw_all := lw_g (lw_at lw_m8 111 rfl) rfl
theorem q1883 : (Jvm.Cond.code ({ cls := "NoonMealsModel", name := "fits", desc := "(II)I" } : Jvm.MethodName) prog_15_method_69_code (3 : Nat) (Option.some Jvm.ClassFile.FieldType.int)) ∈ lw_all := lw_g (lw_at lw_m8 112 rfl) rfl
theorem q1884 : (Jvm.Cond.methodLink "NoonMealsModel" (487 : Nat) ({ cls := "NoonMealsModel", name := "isDish", desc := "(I)Z" } : Jvm.MethodName)) ∈ lw_all := lw_g (lw_at lw_m8 113 rfl) rfl
theorem q1885 : (Jvm.Cond.privateMethod ({ cls := "NoonMealsModel", name := "isDish", desc := "(I)Z" } : Jvm.MethodName)) ∈ lw_tbl := lw_at lw_m8 114 rfl
theorem q1886 : (Jvm.Cond.instanceMethod ({ cls := "NoonMealsModel", name := "isDish", desc := "(I)Z" } : Jvm.MethodName)) ∈ lw_all := lw_g (lw_at lw_m8 115 rfl) rfl
theorem q1887 : (Jvm.Cond.code ({ cls := "NoonMealsModel", name := "isDish", desc := "(I)Z" } : Jvm.MethodName) prog_15_method_67_code (2 : Nat) (Option.some Jvm.ClassFile.FieldType.boolean)) ∈ lw_all := lw_g (lw_at lw_m8 116 rfl) rfl
theorem q1888 : (Jvm.Cond.methodLink "NoonMealsModel" (490 : Nat) ({ cls := "NoonMealsModel", name := "barred", desc := "(II)I" } : Jvm.MethodName)) ∈ lw_all := lw_g (lw_at lw_m8 117 rfl) rfl
theorem q1889 : (Jvm.Cond.privateMethod ({ cls := "NoonMealsModel", name := "barred", desc := "(II)I" } : Jvm.MethodName)) ∈ lw_tbl := lw_at lw_m8 118 rfl
theorem q1890 : (Jvm.Cond.instanceMethod ({ cls := "NoonMealsModel", name := "barred", desc := "(II)I" } : Jvm.MethodName)) ∈ lw_all := lw_g (lw_at lw_m8 119 rfl) rfl
theorem q1891 : (Jvm.Cond.code ({ cls := "NoonMealsModel", name := "barred", desc := "(II)I" } : Jvm.MethodName) prog_15_method_68_code (3 : Nat) (Option.some Jvm.ClassFile.FieldType.int)) ∈ lw_all := lw_g (lw_at lw_m8 120 rfl) rfl
theorem q1893 : (Jvm.Cond.instanceMethod ({ cls := "NoonMealsModel", name := "breach", desc := "(II)I" } : Jvm.MethodName)) ∈ lw_all := lw_g (lw_at lw_m8 122 rfl) rfl
theorem q1894 : (Jvm.Cond.selects "NoonMealsModel" ({ cls := "NoonMealsModel", name := "breach", desc := "(II)I" } : Jvm.MethodName) ({ cls := "NoonMealsModel", name := "breach", desc := "(II)I" } : Jvm.MethodName)) ∈ lw_all := lw_g (lw_at lw_m8 123 rfl) rfl
theorem q1895 : (Jvm.Cond.code ({ cls := "NoonMealsModel", name := "breach", desc := "(II)I" } : Jvm.MethodName) prog_15_method_70_code (3 : Nat) (Option.some Jvm.ClassFile.FieldType.int)) ∈ lw_all := lw_g (lw_at lw_m8 124 rfl) rfl
theorem q1897 : (Jvm.Cond.instanceMethod ({ cls := "NoonMealsModel", name := "forAll", desc := "()I" } : Jvm.MethodName)) ∈ lw_all := lw_g (lw_at lw_m8 126 rfl) rfl
theorem q1898 : (Jvm.Cond.selects "NoonMealsModel" ({ cls := "NoonMealsModel", name := "forAll", desc := "()I" } : Jvm.MethodName) ({ cls := "NoonMealsModel", name := "forAll", desc := "()I" } : Jvm.MethodName)) ∈ lw_all := lw_g (lw_at lw_m8 127 rfl) rfl
theorem q1899 : (Jvm.Cond.code ({ cls := "NoonMealsModel", name := "forAll", desc := "()I" } : Jvm.MethodName) prog_15_method_71_code (5 : Nat) (Option.some Jvm.ClassFile.FieldType.int)) ∈ lw_all := lw_g (lw_at lw_m8 128 rfl) rfl
theorem q1901 : (Jvm.Cond.instanceMethod ({ cls := "NoonMealsModel", name := "menu", desc := "(II)I" } : Jvm.MethodName)) ∈ lw_all := lw_g (lw_at lw_m8 130 rfl) rfl
theorem q1902 : (Jvm.Cond.selects "NoonMealsModel" ({ cls := "NoonMealsModel", name := "menu", desc := "(II)I" } : Jvm.MethodName) ({ cls := "NoonMealsModel", name := "menu", desc := "(II)I" } : Jvm.MethodName)) ∈ lw_all := lw_g (lw_at lw_m8 131 rfl) rfl
theorem q1903 : (Jvm.Cond.code ({ cls := "NoonMealsModel", name := "menu", desc := "(II)I" } : Jvm.MethodName) prog_15_method_74_code (8 : Nat) (Option.some Jvm.ClassFile.FieldType.int)) ∈ lw_all := lw_g (lw_at lw_m8 132 rfl) rfl
theorem q1904 : (Jvm.Cond.methodLink "NoonMealsModel" (496 : Nat) ({ cls := "NoonMealsModel", name := "coinOf", desc := "(II)I" } : Jvm.MethodName)) ∈ lw_all := lw_g (lw_at lw_m8 133 rfl) rfl
theorem q1905 : (Jvm.Cond.privateMethod ({ cls := "NoonMealsModel", name := "coinOf", desc := "(II)I" } : Jvm.MethodName)) ∈ lw_tbl := lw_at lw_m8 134 rfl
theorem q1906 : (Jvm.Cond.instanceMethod ({ cls := "NoonMealsModel", name := "coinOf", desc := "(II)I" } : Jvm.MethodName)) ∈ lw_all := lw_g (lw_at lw_m8 135 rfl) rfl
theorem q1907 : (Jvm.Cond.code ({ cls := "NoonMealsModel", name := "coinOf", desc := "(II)I" } : Jvm.MethodName) prog_15_method_73_code (6 : Nat) (Option.some Jvm.ClassFile.FieldType.int)) ∈ lw_all := lw_g (lw_at lw_m8 136 rfl) rfl
theorem q1908 : (Jvm.Cond.methodLink "NoonMealsModel" (493 : Nat) ({ cls := "NoonMealsModel", name := "cheapest", desc := "(II)I" } : Jvm.MethodName)) ∈ lw_all := lw_g (lw_at lw_m8 137 rfl) rfl
theorem q1909 : (Jvm.Cond.privateMethod ({ cls := "NoonMealsModel", name := "cheapest", desc := "(II)I" } : Jvm.MethodName)) ∈ lw_tbl := lw_at lw_m8 138 rfl
theorem q1910 : (Jvm.Cond.instanceMethod ({ cls := "NoonMealsModel", name := "cheapest", desc := "(II)I" } : Jvm.MethodName)) ∈ lw_all := lw_g (lw_at lw_m8 139 rfl) rfl
theorem q1911 : (Jvm.Cond.code ({ cls := "NoonMealsModel", name := "cheapest", desc := "(II)I" } : Jvm.MethodName) prog_15_method_72_code (6 : Nat) (Option.some Jvm.ClassFile.FieldType.int)) ∈ lw_all := lw_g (lw_at lw_m8 140 rfl) rfl
theorem q1913 : (Jvm.Cond.instanceMethod ({ cls := "NoonMealsModel", name := "menuAt", desc := "(I)I" } : Jvm.MethodName)) ∈ lw_all := lw_g (lw_at lw_m8 142 rfl) rfl
theorem q1914 : (Jvm.Cond.selects "NoonMealsModel" ({ cls := "NoonMealsModel", name := "menuAt", desc := "(I)I" } : Jvm.MethodName) ({ cls := "NoonMealsModel", name := "menuAt", desc := "(I)I" } : Jvm.MethodName)) ∈ lw_all := lw_g (lw_at lw_m8 143 rfl) rfl
theorem q1915 : (Jvm.Cond.code ({ cls := "NoonMealsModel", name := "menuAt", desc := "(I)I" } : Jvm.MethodName) prog_15_method_75_code (2 : Nat) (Option.some Jvm.ClassFile.FieldType.int)) ∈ lw_all := lw_g (lw_at lw_m8 144 rfl) rfl
theorem q1917 : (Jvm.Cond.instanceMethod ({ cls := "NoonMealsModel", name := "dropped", desc := "(II)I" } : Jvm.MethodName)) ∈ lw_all := lw_g (lw_at lw_m8 146 rfl) rfl
theorem q1918 : (Jvm.Cond.selects "NoonMealsModel" ({ cls := "NoonMealsModel", name := "dropped", desc := "(II)I" } : Jvm.MethodName) ({ cls := "NoonMealsModel", name := "dropped", desc := "(II)I" } : Jvm.MethodName)) ∈ lw_all := lw_g (lw_at lw_m8 147 rfl) rfl
theorem q1919 : (Jvm.Cond.code ({ cls := "NoonMealsModel", name := "dropped", desc := "(II)I" } : Jvm.MethodName) prog_15_method_76_code (7 : Nat) (Option.some Jvm.ClassFile.FieldType.int)) ∈ lw_all := lw_g (lw_at lw_m8 148 rfl) rfl
theorem q1920 : (Jvm.Cond.constant "NoonMealsModel" (499 : Nat) (99999 : Int32)) ∈ lw_all := lw_g (lw_at lw_m8 149 rfl) rfl
theorem q1922 : (Jvm.Cond.instanceMethod ({ cls := "NoonMealsModel", name := "knock", desc := "()J" } : Jvm.MethodName)) ∈ lw_all := lw_g (lw_at lw_m8 151 rfl) rfl
theorem q1923 : (Jvm.Cond.selects "NoonMealsModel" ({ cls := "NoonMealsModel", name := "knock", desc := "()J" } : Jvm.MethodName) ({ cls := "NoonMealsModel", name := "knock", desc := "()J" } : Jvm.MethodName)) ∈ lw_all := lw_g (lw_at lw_m8 152 rfl) rfl
theorem q1924 : (Jvm.Cond.code ({ cls := "NoonMealsModel", name := "knock", desc := "()J" } : Jvm.MethodName) prog_15_method_78_code (7 : Nat) (Option.some Jvm.ClassFile.FieldType.long)) ∈ lw_all := lw_g (lw_at lw_m8 153 rfl) rfl
theorem q1925 : (Jvm.Cond.constantLong "NoonMealsModel" (502 : Nat) (-1 : Int64)) ∈ lw_all := lw_g (lw_at lw_m8 154 rfl) rfl
theorem q1926 : (Jvm.Cond.methodLink "NoonMealsModel" (504 : Nat) ({ cls := "NoonMealsModel", name := "expected", desc := "([I)J" } : Jvm.MethodName)) ∈ lw_all := lw_g (lw_at lw_m8 155 rfl) rfl
theorem q1927 : (Jvm.Cond.privateMethod ({ cls := "NoonMealsModel", name := "expected", desc := "([I)J" } : Jvm.MethodName)) ∈ lw_tbl := lw_at lw_m8 156 rfl
theorem q1928 : (Jvm.Cond.instanceMethod ({ cls := "NoonMealsModel", name := "expected", desc := "([I)J" } : Jvm.MethodName)) ∈ lw_all := lw_g (lw_at lw_m8 157 rfl) rfl
theorem q1929 : (Jvm.Cond.code ({ cls := "NoonMealsModel", name := "expected", desc := "([I)J" } : Jvm.MethodName) prog_15_method_77_code (8 : Nat) (Option.some Jvm.ClassFile.FieldType.long)) ∈ lw_all := lw_g (lw_at lw_m8 158 rfl) rfl
theorem q1930 : (Jvm.Cond.constantLong "NoonMealsModel" (500 : Nat) (100 : Int64)) ∈ lw_all := lw_g (lw_at lw_m8 159 rfl) rfl
theorem q1932 : (Jvm.Cond.instanceMethod ({ cls := "NoonMealsModel", name := "callAt", desc := "(I)I" } : Jvm.MethodName)) ∈ lw_all := lw_g (lw_at lw_m8 161 rfl) rfl
theorem q1933 : (Jvm.Cond.selects "NoonMealsModel" ({ cls := "NoonMealsModel", name := "callAt", desc := "(I)I" } : Jvm.MethodName) ({ cls := "NoonMealsModel", name := "callAt", desc := "(I)I" } : Jvm.MethodName)) ∈ lw_all := lw_g (lw_at lw_m8 162 rfl) rfl
theorem q1934 : (Jvm.Cond.code ({ cls := "NoonMealsModel", name := "callAt", desc := "(I)I" } : Jvm.MethodName) prog_15_method_79_code (2 : Nat) (Option.some Jvm.ClassFile.FieldType.int)) ∈ lw_all := lw_g (lw_at lw_m8 163 rfl) rfl
theorem q1936 : (Jvm.Cond.instanceMethod ({ cls := "NoonMealsModel", name := "asTold", desc := "()J" } : Jvm.MethodName)) ∈ lw_all := lw_g (lw_at lw_m8 165 rfl) rfl
theorem q1937 : (Jvm.Cond.selects "NoonMealsModel" ({ cls := "NoonMealsModel", name := "asTold", desc := "()J" } : Jvm.MethodName) ({ cls := "NoonMealsModel", name := "asTold", desc := "()J" } : Jvm.MethodName)) ∈ lw_all := lw_g (lw_at lw_m8 166 rfl) rfl
theorem q1938 : (Jvm.Cond.code ({ cls := "NoonMealsModel", name := "asTold", desc := "()J" } : Jvm.MethodName) prog_15_method_80_code (2 : Nat) (Option.some Jvm.ClassFile.FieldType.long)) ∈ lw_all := lw_g (lw_at lw_m8 167 rfl) rfl
theorem q1940 : (Jvm.Cond.instanceMethod ({ cls := "NoonMealsModel", name := "fill", desc := "()I" } : Jvm.MethodName)) ∈ lw_all := lw_g (lw_at lw_m8 169 rfl) rfl
theorem q1941 : (Jvm.Cond.selects "NoonMealsModel" ({ cls := "NoonMealsModel", name := "fill", desc := "()I" } : Jvm.MethodName) ({ cls := "NoonMealsModel", name := "fill", desc := "()I" } : Jvm.MethodName)) ∈ lw_all := lw_g (lw_at lw_m8 170 rfl) rfl
theorem q1942 : (Jvm.Cond.code ({ cls := "NoonMealsModel", name := "fill", desc := "()I" } : Jvm.MethodName) prog_15_method_83_code (6 : Nat) (Option.some Jvm.ClassFile.FieldType.int)) ∈ lw_all := lw_g (lw_at lw_m8 171 rfl) rfl
theorem q1943 : (Jvm.Cond.methodLink "NoonMealsModel" (511 : Nat) ({ cls := "NoonMealsModel", name := "worthOf", desc := "(I)I" } : Jvm.MethodName)) ∈ lw_all := lw_g (lw_at lw_m8 172 rfl) rfl
theorem q1944 : (Jvm.Cond.privateMethod ({ cls := "NoonMealsModel", name := "worthOf", desc := "(I)I" } : Jvm.MethodName)) ∈ lw_tbl := lw_at lw_m8 173 rfl
theorem q1945 : (Jvm.Cond.instanceMethod ({ cls := "NoonMealsModel", name := "worthOf", desc := "(I)I" } : Jvm.MethodName)) ∈ lw_all := lw_g (lw_at lw_m8 174 rfl) rfl
theorem q1946 : (Jvm.Cond.code ({ cls := "NoonMealsModel", name := "worthOf", desc := "(I)I" } : Jvm.MethodName) prog_15_method_82_code (6 : Nat) (Option.some Jvm.ClassFile.FieldType.int)) ∈ lw_all := lw_g (lw_at lw_m8 175 rfl) rfl
theorem q1947 : (Jvm.Cond.methodLink "NoonMealsModel" (508 : Nat) ({ cls := "NoonMealsModel", name := "whoOf", desc := "(II)I" } : Jvm.MethodName)) ∈ lw_all := lw_g (lw_at lw_m8 176 rfl) rfl
theorem q1948 : (Jvm.Cond.privateMethod ({ cls := "NoonMealsModel", name := "whoOf", desc := "(II)I" } : Jvm.MethodName)) ∈ lw_tbl := lw_at lw_m8 177 rfl
theorem q1949 : (Jvm.Cond.instanceMethod ({ cls := "NoonMealsModel", name := "whoOf", desc := "(II)I" } : Jvm.MethodName)) ∈ lw_all := lw_g (lw_at lw_m8 178 rfl) rfl
theorem q1950 : (Jvm.Cond.code ({ cls := "NoonMealsModel", name := "whoOf", desc := "(II)I" } : Jvm.MethodName) prog_15_method_81_code (5 : Nat) (Option.some Jvm.ClassFile.FieldType.int)) ∈ lw_all := lw_g (lw_at lw_m8 179 rfl) rfl
theorem q1952 : (Jvm.Cond.instanceMethod ({ cls := "NoonMealsModel", name := "helper", desc := "(I)I" } : Jvm.MethodName)) ∈ lw_all := lw_g (lw_at lw_m8 181 rfl) rfl
theorem q1953 : (Jvm.Cond.selects "NoonMealsModel" ({ cls := "NoonMealsModel", name := "helper", desc := "(I)I" } : Jvm.MethodName) ({ cls := "NoonMealsModel", name := "helper", desc := "(I)I" } : Jvm.MethodName)) ∈ lw_all := lw_g (lw_at lw_m8 182 rfl) rfl
theorem q1954 : (Jvm.Cond.code ({ cls := "NoonMealsModel", name := "helper", desc := "(I)I" } : Jvm.MethodName) prog_15_method_84_code (2 : Nat) (Option.some Jvm.ClassFile.FieldType.int)) ∈ lw_all := lw_g (lw_at lw_m8 183 rfl) rfl
theorem q1956 : (Jvm.Cond.instanceMethod ({ cls := "NoonMealsModel", name := "sign", desc := "(II)I" } : Jvm.MethodName)) ∈ lw_all := lw_g (lw_at lw_m8 185 rfl) rfl
theorem q1957 : (Jvm.Cond.selects "NoonMealsModel" ({ cls := "NoonMealsModel", name := "sign", desc := "(II)I" } : Jvm.MethodName) ({ cls := "NoonMealsModel", name := "sign", desc := "(II)I" } : Jvm.MethodName)) ∈ lw_all := lw_g (lw_at lw_m8 186 rfl) rfl
theorem q1958 : (Jvm.Cond.code ({ cls := "NoonMealsModel", name := "sign", desc := "(II)I" } : Jvm.MethodName) prog_15_method_85_code (3 : Nat) (Option.some Jvm.ClassFile.FieldType.int)) ∈ lw_all := lw_g (lw_at lw_m8 187 rfl) rfl
theorem q1960 : (Jvm.Cond.instanceMethod ({ cls := "NoonMealsModel", name := "fading", desc := "(I)I" } : Jvm.MethodName)) ∈ lw_all := lw_g (lw_at lw_m8 189 rfl) rfl
theorem q1961 : (Jvm.Cond.selects "NoonMealsModel" ({ cls := "NoonMealsModel", name := "fading", desc := "(I)I" } : Jvm.MethodName) ({ cls := "NoonMealsModel", name := "fading", desc := "(I)I" } : Jvm.MethodName)) ∈ lw_all := lw_g (lw_at lw_m8 190 rfl) rfl
theorem q1962 : (Jvm.Cond.code ({ cls := "NoonMealsModel", name := "fading", desc := "(I)I" } : Jvm.MethodName) prog_15_method_86_code (9 : Nat) (Option.some Jvm.ClassFile.FieldType.int)) ∈ lw_all := lw_g (lw_at lw_m8 191 rfl) rfl
theorem q1964 : (Jvm.Cond.instanceMethod ({ cls := "NoonMealsModel", name := "probe", desc := "(III)I" } : Jvm.MethodName)) ∈ lw_all := lw_g (lw_at lw_m8 193 rfl) rfl
theorem q1965 : (Jvm.Cond.selects "NoonMealsModel" ({ cls := "NoonMealsModel", name := "probe", desc := "(III)I" } : Jvm.MethodName) ({ cls := "NoonMealsModel", name := "probe", desc := "(III)I" } : Jvm.MethodName)) ∈ lw_all := lw_g (lw_at lw_m8 194 rfl) rfl
theorem q1966 : (Jvm.Cond.code ({ cls := "NoonMealsModel", name := "probe", desc := "(III)I" } : Jvm.MethodName) prog_15_method_87_code (4 : Nat) (Option.some Jvm.ClassFile.FieldType.int)) ∈ lw_all := lw_g (lw_at lw_m8 195 rfl) rfl
theorem q1968 : (Jvm.Cond.instanceMethod ({ cls := "NoonMealsModel", name := "faulty", desc := "(I)I" } : Jvm.MethodName)) ∈ lw_all := lw_g (lw_at lw_m8 197 rfl) rfl
theorem q1969 : (Jvm.Cond.selects "NoonMealsModel" ({ cls := "NoonMealsModel", name := "faulty", desc := "(I)I" } : Jvm.MethodName) ({ cls := "NoonMealsModel", name := "faulty", desc := "(I)I" } : Jvm.MethodName)) ∈ lw_all := lw_g (lw_at lw_m8 198 rfl) rfl
theorem q1970 : (Jvm.Cond.code ({ cls := "NoonMealsModel", name := "faulty", desc := "(I)I" } : Jvm.MethodName) prog_15_method_88_code (5 : Nat) (Option.some Jvm.ClassFile.FieldType.int)) ∈ lw_all := lw_g (lw_at lw_m8 199 rfl) rfl
theorem q1972 : (Jvm.Cond.instanceMethod ({ cls := "NoonMealsModel", name := "firstCold", desc := "()I" } : Jvm.MethodName)) ∈ lw_all := lw_g (lw_at lw_m8 201 rfl) rfl
theorem q1973 : (Jvm.Cond.selects "NoonMealsModel" ({ cls := "NoonMealsModel", name := "firstCold", desc := "()I" } : Jvm.MethodName) ({ cls := "NoonMealsModel", name := "firstCold", desc := "()I" } : Jvm.MethodName)) ∈ lw_all := lw_g (lw_at lw_m8 202 rfl) rfl
theorem q1974 : (Jvm.Cond.code ({ cls := "NoonMealsModel", name := "firstCold", desc := "()I" } : Jvm.MethodName) prog_15_method_89_code (3 : Nat) (Option.some Jvm.ClassFile.FieldType.int)) ∈ lw_all := lw_g (lw_at lw_m8 203 rfl) rfl
theorem q1976 : (Jvm.Cond.instanceMethod ({ cls := "NoonMealsModel", name := "recall", desc := "(I)I" } : Jvm.MethodName)) ∈ lw_all := lw_g (lw_at lw_m8 205 rfl) rfl
theorem q1977 : (Jvm.Cond.selects "NoonMealsModel" ({ cls := "NoonMealsModel", name := "recall", desc := "(I)I" } : Jvm.MethodName) ({ cls := "NoonMealsModel", name := "recall", desc := "(I)I" } : Jvm.MethodName)) ∈ lw_all := lw_g (lw_at lw_m8 206 rfl) rfl
theorem q1978 : (Jvm.Cond.code ({ cls := "NoonMealsModel", name := "recall", desc := "(I)I" } : Jvm.MethodName) prog_15_method_90_code (5 : Nat) (Option.some Jvm.ClassFile.FieldType.int)) ∈ lw_all := lw_g (lw_at lw_m8 207 rfl) rfl
theorem q1980 : (Jvm.Cond.instanceMethod ({ cls := "NoonMealsModel", name := "led", desc := "(II)I" } : Jvm.MethodName)) ∈ lw_all := lw_g (lw_at lw_m8 209 rfl) rfl
theorem q1981 : (Jvm.Cond.selects "NoonMealsModel" ({ cls := "NoonMealsModel", name := "led", desc := "(II)I" } : Jvm.MethodName) ({ cls := "NoonMealsModel", name := "led", desc := "(II)I" } : Jvm.MethodName)) ∈ lw_all := lw_g (lw_at lw_m8 210 rfl) rfl
theorem q1982 : (Jvm.Cond.code ({ cls := "NoonMealsModel", name := "led", desc := "(II)I" } : Jvm.MethodName) prog_15_method_91_code (3 : Nat) (Option.some Jvm.ClassFile.FieldType.int)) ∈ lw_all := lw_g (lw_at lw_m8 211 rfl) rfl
theorem q1984 : (Jvm.Cond.instanceMethod ({ cls := "NoonMealsModel", name := "size", desc := "(I)I" } : Jvm.MethodName)) ∈ lw_all := lw_g (lw_at lw_m8 213 rfl) rfl
theorem q1985 : (Jvm.Cond.selects "NoonMealsModel" ({ cls := "NoonMealsModel", name := "size", desc := "(I)I" } : Jvm.MethodName) ({ cls := "NoonMealsModel", name := "size", desc := "(I)I" } : Jvm.MethodName)) ∈ lw_all := lw_g (lw_at lw_m8 214 rfl) rfl
theorem q1986 : (Jvm.Cond.code ({ cls := "NoonMealsModel", name := "size", desc := "(I)I" } : Jvm.MethodName) prog_15_method_92_code (2 : Nat) (Option.some Jvm.ClassFile.FieldType.int)) ∈ lw_all := lw_g (lw_at lw_m8 215 rfl) rfl
theorem q1988 : (Jvm.Cond.instanceMethod ({ cls := "NoonMealsModel", name := "trouble", desc := "()I" } : Jvm.MethodName)) ∈ lw_all := lw_g (lw_at lw_m8 217 rfl) rfl
theorem q1989 : (Jvm.Cond.selects "NoonMealsModel" ({ cls := "NoonMealsModel", name := "trouble", desc := "()I" } : Jvm.MethodName) ({ cls := "NoonMealsModel", name := "trouble", desc := "()I" } : Jvm.MethodName)) ∈ lw_all := lw_g (lw_at lw_m8 218 rfl) rfl
theorem q1990 : (Jvm.Cond.code ({ cls := "NoonMealsModel", name := "trouble", desc := "()I" } : Jvm.MethodName) prog_15_method_93_code (1 : Nat) (Option.some Jvm.ClassFile.FieldType.int)) ∈ lw_all := lw_g (lw_at lw_m8 219 rfl) rfl
theorem q1996 : (Jvm.Cond.castable "NoonMealsModel" "java/lang/Object") ∈ lw_tbl := lw_at lw_m8 225 rfl
theorem in_X5 : ∀ w ∈ wsX50, w ∈ lw_all := lw_in wsX50 [1344, 1346, 1348, 1350, 1352, 1354, 1356, 1358, 1360, 1362, 1364, 1366, 1368, 1370, 1372, 1374, 1376, 1378, 1380, 1382, 1384, 1386, 1388, 1390, 1392, 1394, 1396, 1398, 1400, 1402, 1404, 1406, 1408, 1410, 1412, 1414, 1416, 1418, 1420, 1422, 1424, 1426, 1428, 1430, 1432, 1434] (by decide +kernel) (by decide +kernel)
