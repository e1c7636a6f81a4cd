/-! NoonMeals -/
set_option maxRecDepth 100000
def RX1 : String := "NoonMeals"
def TX1 : u_T := fun k => match k with
  | 0 => ("NoonMeals", "tape", "[B", true)
  | 1 => ("NoonMeals", "taped", "I", false)
  | 2 => ("NoonMeals", "reader", "LNoonMeals$Reader;", true)
  | 3 => ("NoonMeals", "day", "LNoonMeals$Day;", false)
  | 4 => ("NoonMeals", "trouble", "I", false)
  | 5 => ("NoonMeals", "fault", "I", false)
  | 6 => ("NoonMeals", "where", "I", false)
  | 7 => ("NoonMeals", "tea", "I", false)
  | 8 => ("NoonMeals", "driven", "[LNoonMeals$Round;", true)
  | 9 => ("NoonMeals", "tried", "LNoonMeals$Round;", true)
  | 10 => ("NoonMeals", "best", "LNoonMeals$Round;", true)
  | 11 => ("NoonMeals", "bestWorth", "I", false)
  | 12 => ("NoonMeals", "worths", "[I", true)
  | 13 => ("NoonMeals", "loads", "[I", true)
  | 14 => ("NoonMeals", "cars", "[I", true)
  | 15 => ("NoonMeals", "sharedCars", "[I", true)
  | 16 => ("NoonMeals", "isShared", "Z", false)
  | 17 => ("NoonMeals", "leastShare", "I", false)
  | 18 => ("NoonMeals", "bestCars", "[I", true)
  | 19 => ("NoonMeals", "coin", "[I", true)
  | 20 => ("NoonMeals", "menu", "[I", true)
  | 21 => ("NoonMeals", "menuDays", "I", false)
  | 22 => ("NoonMeals", "each", "[I", true)
  | 23 => ("NoonMeals", "calls", "[I", true)
  | 24 => ("NoonMeals", "bestCalls", "[I", true)
  | 25 => ("NoonMeals", "told", "[I", true)
  | 26 => ("NoonMeals", "ordered", "I", false)
  | 27 => ("NoonMeals", "leastExpected", "J", false)
  | 28 => ("NoonMeals", "who", "[I", true)
  | 29 => ("NoonMeals", "bestWho", "[I", true)
  | 30 => ("NoonMeals", "filledWho", "[I", true)
  | 31 => ("NoonMeals", "busy", "[I", true)
  | 32 => ("NoonMeals", "isFilled", "Z", false)
  | 33 => ("NoonMeals", "mostFilled", "I", false)
  | 34 => ("NoonMeals", "leastBusy", "I", false)
  | 35 => ("NoonMeals", "signs", "[I", true)
  | 36 => ("NoonMeals", "signMany", "[I", true)
  | 37 => ("NoonMeals", "probeCar", "[I", true)
  | 38 => ("NoonMeals", "probeMinute", "[I", true)
  | 39 => ("NoonMeals", "probeHeat", "[I", true)
  | _ => ("NoonMeals", "probeMany", "I", false)
def tyX1 : Nat → FieldType := fun k => match k with
  | 0 => .array .byte
  | 1 => .int
  | 2 => .object "NoonMeals$Reader"
  | 3 => .object "NoonMeals$Day"
  | 4 => .int
  | 5 => .int
  | 6 => .int
  | 7 => .int
  | 8 => .array (.object "NoonMeals$Round")
  | 9 => .object "NoonMeals$Round"
  | 10 => .object "NoonMeals$Round"
  | 11 => .int
  | 12 => .array .int
  | 13 => .array .int
  | 14 => .array .int
  | 15 => .array .int
  | 16 => .boolean
  | 17 => .int
  | 18 => .array .int
  | 19 => .array .int
  | 20 => .array .int
  | 21 => .int
  | 22 => .array .int
  | 23 => .array .int
  | 24 => .array .int
  | 25 => .array .int
  | 26 => .int
  | 27 => .long
  | 28 => .array .int
  | 29 => .array .int
  | 30 => .array .int
  | 31 => .array .int
  | 32 => .boolean
  | 33 => .int
  | 34 => .int
  | 35 => .array .int
  | 36 => .array .int
  | 37 => .array .int
  | 38 => .array .int
  | 39 => .array .int
  | _ => .int
abbrev wsX10 : List Cond := u_ws RX1 TX1 41
set_option maxRecDepth 100000 in
theorem nmX1 : ∀ a, a < 41 → ∀ b, b < 41 → a ≠ b → (TX1 a).2.1 ≠ (TX1 b).2.1 := by decide +kernel
set_option maxRecDepth 100000 in
theorem tyX1_ok : ∀ k, k < 41 → parseFieldDescriptor (TX1 k).2.2.1 = some (tyX1 k) := by decide +kernel
abbrev cX1_init : ByteArray := prog_1_method_4_code
def yX1_init : MethodName := ⟨RX1, "<init>", "()V"⟩
def dkwX1_init_10 : List UInt8 := [187, 0, 26, 89, 183, 0, 32, 83, 132, 1, 1, 167, 255, 235, 177]
abbrev dktX1_init_10 : List UInt8 := dkwX1_init_10 ++ []
def dkwX1_init_9 : List UInt8 := [181, 0, 95, 42, 16, 16, 188, 10, 181, 0, 98, 3, 60, 27, 6, 162, 0, 22, 42, 180, 0, 28, 27]
abbrev dktX1_init_9 : List UInt8 := dkwX1_init_9 ++ dktX1_init_10
def dkwX1_init_8 : List UInt8 := [181, 0, 86, 42, 16, 6, 188, 10, 181, 0, 89, 42, 16, 16, 188, 10, 181, 0, 92, 42, 16, 16, 188, 10]
abbrev dktX1_init_8 : List UInt8 := dkwX1_init_8 ++ dktX1_init_9
def dkwX1_init_7 : List UInt8 := [181, 0, 77, 42, 16, 7, 188, 10, 181, 0, 80, 42, 8, 188, 10, 181, 0, 83, 42, 16, 60, 188, 10]
abbrev dktX1_init_7 : List UInt8 := dkwX1_init_7 ++ dktX1_init_8
def dkwX1_init_6 : List UInt8 := [181, 0, 68, 42, 8, 188, 10, 181, 0, 71, 42, 16, 7, 188, 10, 181, 0, 74, 42, 16, 7, 188, 10]
abbrev dktX1_init_6 : List UInt8 := dkwX1_init_6 ++ dktX1_init_7
def dkwX1_init_5 : List UInt8 := [181, 0, 59, 42, 16, 6, 188, 10, 181, 0, 62, 42, 8, 188, 10, 181, 0, 65, 42, 8, 188, 10]
abbrev dktX1_init_5 : List UInt8 := dkwX1_init_5 ++ dktX1_init_6
def dkwX1_init_4 : List UInt8 := [181, 0, 50, 42, 16, 6, 188, 10, 181, 0, 53, 42, 16, 84, 188, 10, 181, 0, 56, 42, 16, 14, 188, 10]
abbrev dktX1_init_4 : List UInt8 := dkwX1_init_4 ++ dktX1_init_5
def dkwX1_init_3 : List UInt8 := [181, 0, 40, 42, 6, 188, 10, 181, 0, 44, 42, 16, 6, 188, 10, 181, 0, 47, 42, 16, 6, 188, 10]
abbrev dktX1_init_3 : List UInt8 := dkwX1_init_3 ++ dktX1_init_4
def dkwX1_init_2 : List UInt8 := [183, 0, 32, 181, 0, 33, 42, 187, 0, 26, 89, 183, 0, 32, 181, 0, 37, 42, 17, 0, 192, 188, 10]
abbrev dktX1_init_2 : List UInt8 := dkwX1_init_2 ++ dktX1_init_3
def dkwX1_init_1 : List UInt8 := [183, 0, 15, 181, 0, 18, 42, 2, 181, 0, 22, 42, 6, 189, 0, 26, 181, 0, 28, 42, 187, 0, 26, 89]
abbrev dktX1_init_1 : List UInt8 := dkwX1_init_1 ++ dktX1_init_2
def dkwX1_init_0 : List UInt8 := [42, 183, 0, 1, 42, 17, 3, 132, 188, 8, 181, 0, 9, 42, 187, 0, 13, 89, 42, 180, 0, 9]
abbrev dktX1_init_0 : List UInt8 := dkwX1_init_0 ++ dktX1_init_1
theorem dksX1_init_0 : cX1_init.data.toList.drop 0 = dktX1_init_0 := by decide +kernel
theorem dksX1_init_1 : cX1_init.data.toList.drop 22 = dktX1_init_1 := dk_seg dksX1_init_0 22 rfl rfl
theorem dksX1_init_2 : cX1_init.data.toList.drop 46 = dktX1_init_2 := dk_seg dksX1_init_1 24 rfl rfl
theorem dksX1_init_3 : cX1_init.data.toList.drop 69 = dktX1_init_3 := dk_seg dksX1_init_2 23 rfl rfl
theorem dksX1_init_4 : cX1_init.data.toList.drop 92 = dktX1_init_4 := dk_seg dksX1_init_3 23 rfl rfl
theorem dksX1_init_5 : cX1_init.data.toList.drop 116 = dktX1_init_5 := dk_seg dksX1_init_4 24 rfl rfl
theorem dksX1_init_6 : cX1_init.data.toList.drop 138 = dktX1_init_6 := dk_seg dksX1_init_5 22 rfl rfl
theorem dksX1_init_7 : cX1_init.data.toList.drop 161 = dktX1_init_7 := dk_seg dksX1_init_6 23 rfl rfl
theorem dksX1_init_8 : cX1_init.data.toList.drop 184 = dktX1_init_8 := dk_seg dksX1_init_7 23 rfl rfl
theorem dksX1_init_9 : cX1_init.data.toList.drop 208 = dktX1_init_9 := dk_seg dksX1_init_8 24 rfl rfl
theorem dksX1_init_10 : cX1_init.data.toList.drop 231 = dktX1_init_10 := dk_seg dksX1_init_9 23 rfl rfl
theorem dX1_init_0 : decode cX1_init 0 = .ok (.aload_n 0, 1) := dk_42 (dk_at dksX1_init_0 0 rfl rfl)
theorem dX1_init_1 : decode cX1_init 1 = .ok (.invokespecial 1, 3) := dk_183 0 1 (dk_at dksX1_init_0 1 rfl rfl)
theorem dX1_init_4 : decode cX1_init 4 = .ok (.aload_n 0, 1) := dk_42 (dk_at dksX1_init_0 4 rfl rfl)
theorem dX1_init_5 : decode cX1_init 5 = .ok (.sipush 900, 3) := dk_17 3 132 (dk_at dksX1_init_0 5 rfl rfl)
theorem dX1_init_8 : decode cX1_init 8 = .ok (.newarray .byte, 2) := dk_188_8 (dk_at dksX1_init_0 8 rfl rfl)
theorem dX1_init_10 : decode cX1_init 10 = .ok (.putfield 9, 3) := dk_181 0 9 (dk_at dksX1_init_0 10 rfl rfl)
theorem dX1_init_13 : decode cX1_init 13 = .ok (.aload_n 0, 1) := dk_42 (dk_at dksX1_init_0 13 rfl rfl)
theorem dX1_init_14 : decode cX1_init 14 = .ok (.new 13, 3) := dk_187 0 13 (dk_at dksX1_init_0 14 rfl rfl)
theorem dX1_init_17 : decode cX1_init 17 = .ok (.dup, 1) := dk_89 (dk_at dksX1_init_0 17 rfl rfl)
theorem dX1_init_18 : decode cX1_init 18 = .ok (.aload_n 0, 1) := dk_42 (dk_at dksX1_init_0 18 rfl rfl)
theorem dX1_init_19 : decode cX1_init 19 = .ok (.getfield 9, 3) := dk_180 0 9 (dk_at dksX1_init_0 19 rfl rfl)
theorem dX1_init_22 : decode cX1_init 22 = .ok (.invokespecial 15, 3) := dk_183 0 15 (dk_at dksX1_init_1 0 rfl rfl)
theorem dX1_init_25 : decode cX1_init 25 = .ok (.putfield 18, 3) := dk_181 0 18 (dk_at dksX1_init_1 3 rfl rfl)
theorem dX1_init_28 : decode cX1_init 28 = .ok (.aload_n 0, 1) := dk_42 (dk_at dksX1_init_1 6 rfl rfl)
theorem dX1_init_29 : decode cX1_init 29 = .ok (.iconst (-1), 1) := dk_2 (dk_at dksX1_init_1 7 rfl rfl)
theorem dX1_init_30 : decode cX1_init 30 = .ok (.putfield 22, 3) := dk_181 0 22 (dk_at dksX1_init_1 8 rfl rfl)
theorem dX1_init_33 : decode cX1_init 33 = .ok (.aload_n 0, 1) := dk_42 (dk_at dksX1_init_1 11 rfl rfl)
theorem dX1_init_34 : decode cX1_init 34 = .ok (.iconst 3, 1) := dk_6 (dk_at dksX1_init_1 12 rfl rfl)
theorem dX1_init_35 : decode cX1_init 35 = .ok (.anewarray 26, 3) := dk_189 0 26 (dk_at dksX1_init_1 13 rfl rfl)
theorem dX1_init_38 : decode cX1_init 38 = .ok (.putfield 28, 3) := dk_181 0 28 (dk_at dksX1_init_1 16 rfl rfl)
theorem dX1_init_41 : decode cX1_init 41 = .ok (.aload_n 0, 1) := dk_42 (dk_at dksX1_init_1 19 rfl rfl)
theorem dX1_init_42 : decode cX1_init 42 = .ok (.new 26, 3) := dk_187 0 26 (dk_at dksX1_init_1 20 rfl rfl)
theorem dX1_init_45 : decode cX1_init 45 = .ok (.dup, 1) := dk_89 (dk_at dksX1_init_1 23 rfl rfl)
theorem dX1_init_46 : decode cX1_init 46 = .ok (.invokespecial 32, 3) := dk_183 0 32 (dk_at dksX1_init_2 0 rfl rfl)
theorem dX1_init_49 : decode cX1_init 49 = .ok (.putfield 33, 3) := dk_181 0 33 (dk_at dksX1_init_2 3 rfl rfl)
theorem dX1_init_52 : decode cX1_init 52 = .ok (.aload_n 0, 1) := dk_42 (dk_at dksX1_init_2 6 rfl rfl)
theorem dX1_init_53 : decode cX1_init 53 = .ok (.new 26, 3) := dk_187 0 26 (dk_at dksX1_init_2 7 rfl rfl)
theorem dX1_init_56 : decode cX1_init 56 = .ok (.dup, 1) := dk_89 (dk_at dksX1_init_2 10 rfl rfl)
theorem dX1_init_57 : decode cX1_init 57 = .ok (.invokespecial 32, 3) := dk_183 0 32 (dk_at dksX1_init_2 11 rfl rfl)
theorem dX1_init_60 : decode cX1_init 60 = .ok (.putfield 37, 3) := dk_181 0 37 (dk_at dksX1_init_2 14 rfl rfl)
theorem dX1_init_63 : decode cX1_init 63 = .ok (.aload_n 0, 1) := dk_42 (dk_at dksX1_init_2 17 rfl rfl)
theorem dX1_init_64 : decode cX1_init 64 = .ok (.sipush 192, 3) := dk_17 0 192 (dk_at dksX1_init_2 18 rfl rfl)
theorem dX1_init_67 : decode cX1_init 67 = .ok (.newarray .int, 2) := dk_188_10 (dk_at dksX1_init_2 21 rfl rfl)
theorem dX1_init_69 : decode cX1_init 69 = .ok (.putfield 40, 3) := dk_181 0 40 (dk_at dksX1_init_3 0 rfl rfl)
theorem dX1_init_72 : decode cX1_init 72 = .ok (.aload_n 0, 1) := dk_42 (dk_at dksX1_init_3 3 rfl rfl)
theorem dX1_init_73 : decode cX1_init 73 = .ok (.iconst 3, 1) := dk_6 (dk_at dksX1_init_3 4 rfl rfl)
theorem dX1_init_74 : decode cX1_init 74 = .ok (.newarray .int, 2) := dk_188_10 (dk_at dksX1_init_3 5 rfl rfl)
theorem dX1_init_76 : decode cX1_init 76 = .ok (.putfield 44, 3) := dk_181 0 44 (dk_at dksX1_init_3 7 rfl rfl)
theorem dX1_init_79 : decode cX1_init 79 = .ok (.aload_n 0, 1) := dk_42 (dk_at dksX1_init_3 10 rfl rfl)
theorem dX1_init_80 : decode cX1_init 80 = .ok (.bipush 6, 2) := dk_16 6 (dk_at dksX1_init_3 11 rfl rfl)
theorem dX1_init_82 : decode cX1_init 82 = .ok (.newarray .int, 2) := dk_188_10 (dk_at dksX1_init_3 13 rfl rfl)
theorem dX1_init_84 : decode cX1_init 84 = .ok (.putfield 47, 3) := dk_181 0 47 (dk_at dksX1_init_3 15 rfl rfl)
theorem dX1_init_87 : decode cX1_init 87 = .ok (.aload_n 0, 1) := dk_42 (dk_at dksX1_init_3 18 rfl rfl)
theorem dX1_init_88 : decode cX1_init 88 = .ok (.bipush 6, 2) := dk_16 6 (dk_at dksX1_init_3 19 rfl rfl)
theorem dX1_init_90 : decode cX1_init 90 = .ok (.newarray .int, 2) := dk_188_10 (dk_at dksX1_init_3 21 rfl rfl)
theorem dX1_init_92 : decode cX1_init 92 = .ok (.putfield 50, 3) := dk_181 0 50 (dk_at dksX1_init_4 0 rfl rfl)
theorem dX1_init_95 : decode cX1_init 95 = .ok (.aload_n 0, 1) := dk_42 (dk_at dksX1_init_4 3 rfl rfl)
theorem dX1_init_96 : decode cX1_init 96 = .ok (.bipush 6, 2) := dk_16 6 (dk_at dksX1_init_4 4 rfl rfl)
theorem dX1_init_98 : decode cX1_init 98 = .ok (.newarray .int, 2) := dk_188_10 (dk_at dksX1_init_4 6 rfl rfl)
theorem dX1_init_100 : decode cX1_init 100 = .ok (.putfield 53, 3) := dk_181 0 53 (dk_at dksX1_init_4 8 rfl rfl)
theorem dX1_init_103 : decode cX1_init 103 = .ok (.aload_n 0, 1) := dk_42 (dk_at dksX1_init_4 11 rfl rfl)
theorem dX1_init_104 : decode cX1_init 104 = .ok (.bipush 84, 2) := dk_16 84 (dk_at dksX1_init_4 12 rfl rfl)
theorem dX1_init_106 : decode cX1_init 106 = .ok (.newarray .int, 2) := dk_188_10 (dk_at dksX1_init_4 14 rfl rfl)
theorem dX1_init_108 : decode cX1_init 108 = .ok (.putfield 56, 3) := dk_181 0 56 (dk_at dksX1_init_4 16 rfl rfl)
theorem dX1_init_111 : decode cX1_init 111 = .ok (.aload_n 0, 1) := dk_42 (dk_at dksX1_init_4 19 rfl rfl)
theorem dX1_init_112 : decode cX1_init 112 = .ok (.bipush 14, 2) := dk_16 14 (dk_at dksX1_init_4 20 rfl rfl)
theorem dX1_init_114 : decode cX1_init 114 = .ok (.newarray .int, 2) := dk_188_10 (dk_at dksX1_init_4 22 rfl rfl)
theorem dX1_init_116 : decode cX1_init 116 = .ok (.putfield 59, 3) := dk_181 0 59 (dk_at dksX1_init_5 0 rfl rfl)
theorem dX1_init_119 : decode cX1_init 119 = .ok (.aload_n 0, 1) := dk_42 (dk_at dksX1_init_5 3 rfl rfl)
theorem dX1_init_120 : decode cX1_init 120 = .ok (.bipush 6, 2) := dk_16 6 (dk_at dksX1_init_5 4 rfl rfl)
theorem dX1_init_122 : decode cX1_init 122 = .ok (.newarray .int, 2) := dk_188_10 (dk_at dksX1_init_5 6 rfl rfl)
theorem dX1_init_124 : decode cX1_init 124 = .ok (.putfield 62, 3) := dk_181 0 62 (dk_at dksX1_init_5 8 rfl rfl)
theorem dX1_init_127 : decode cX1_init 127 = .ok (.aload_n 0, 1) := dk_42 (dk_at dksX1_init_5 11 rfl rfl)
theorem dX1_init_128 : decode cX1_init 128 = .ok (.iconst 5, 1) := dk_8 (dk_at dksX1_init_5 12 rfl rfl)
theorem dX1_init_129 : decode cX1_init 129 = .ok (.newarray .int, 2) := dk_188_10 (dk_at dksX1_init_5 13 rfl rfl)
theorem dX1_init_131 : decode cX1_init 131 = .ok (.putfield 65, 3) := dk_181 0 65 (dk_at dksX1_init_5 15 rfl rfl)
theorem dX1_init_134 : decode cX1_init 134 = .ok (.aload_n 0, 1) := dk_42 (dk_at dksX1_init_5 18 rfl rfl)
theorem dX1_init_135 : decode cX1_init 135 = .ok (.iconst 5, 1) := dk_8 (dk_at dksX1_init_5 19 rfl rfl)
theorem dX1_init_136 : decode cX1_init 136 = .ok (.newarray .int, 2) := dk_188_10 (dk_at dksX1_init_5 20 rfl rfl)
theorem dX1_init_138 : decode cX1_init 138 = .ok (.putfield 68, 3) := dk_181 0 68 (dk_at dksX1_init_6 0 rfl rfl)
theorem dX1_init_141 : decode cX1_init 141 = .ok (.aload_n 0, 1) := dk_42 (dk_at dksX1_init_6 3 rfl rfl)
theorem dX1_init_142 : decode cX1_init 142 = .ok (.iconst 5, 1) := dk_8 (dk_at dksX1_init_6 4 rfl rfl)
theorem dX1_init_143 : decode cX1_init 143 = .ok (.newarray .int, 2) := dk_188_10 (dk_at dksX1_init_6 5 rfl rfl)
theorem dX1_init_145 : decode cX1_init 145 = .ok (.putfield 71, 3) := dk_181 0 71 (dk_at dksX1_init_6 7 rfl rfl)
theorem dX1_init_148 : decode cX1_init 148 = .ok (.aload_n 0, 1) := dk_42 (dk_at dksX1_init_6 10 rfl rfl)
theorem dX1_init_149 : decode cX1_init 149 = .ok (.bipush 7, 2) := dk_16 7 (dk_at dksX1_init_6 11 rfl rfl)
theorem dX1_init_151 : decode cX1_init 151 = .ok (.newarray .int, 2) := dk_188_10 (dk_at dksX1_init_6 13 rfl rfl)
theorem dX1_init_153 : decode cX1_init 153 = .ok (.putfield 74, 3) := dk_181 0 74 (dk_at dksX1_init_6 15 rfl rfl)
theorem dX1_init_156 : decode cX1_init 156 = .ok (.aload_n 0, 1) := dk_42 (dk_at dksX1_init_6 18 rfl rfl)
theorem dX1_init_157 : decode cX1_init 157 = .ok (.bipush 7, 2) := dk_16 7 (dk_at dksX1_init_6 19 rfl rfl)
theorem dX1_init_159 : decode cX1_init 159 = .ok (.newarray .int, 2) := dk_188_10 (dk_at dksX1_init_6 21 rfl rfl)
theorem dX1_init_161 : decode cX1_init 161 = .ok (.putfield 77, 3) := dk_181 0 77 (dk_at dksX1_init_7 0 rfl rfl)
theorem dX1_init_164 : decode cX1_init 164 = .ok (.aload_n 0, 1) := dk_42 (dk_at dksX1_init_7 3 rfl rfl)
theorem dX1_init_165 : decode cX1_init 165 = .ok (.bipush 7, 2) := dk_16 7 (dk_at dksX1_init_7 4 rfl rfl)
theorem dX1_init_167 : decode cX1_init 167 = .ok (.newarray .int, 2) := dk_188_10 (dk_at dksX1_init_7 6 rfl rfl)
theorem dX1_init_169 : decode cX1_init 169 = .ok (.putfield 80, 3) := dk_181 0 80 (dk_at dksX1_init_7 8 rfl rfl)
theorem dX1_init_172 : decode cX1_init 172 = .ok (.aload_n 0, 1) := dk_42 (dk_at dksX1_init_7 11 rfl rfl)
theorem dX1_init_173 : decode cX1_init 173 = .ok (.iconst 5, 1) := dk_8 (dk_at dksX1_init_7 12 rfl rfl)
theorem dX1_init_174 : decode cX1_init 174 = .ok (.newarray .int, 2) := dk_188_10 (dk_at dksX1_init_7 13 rfl rfl)
theorem dX1_init_176 : decode cX1_init 176 = .ok (.putfield 83, 3) := dk_181 0 83 (dk_at dksX1_init_7 15 rfl rfl)
theorem dX1_init_179 : decode cX1_init 179 = .ok (.aload_n 0, 1) := dk_42 (dk_at dksX1_init_7 18 rfl rfl)
theorem dX1_init_180 : decode cX1_init 180 = .ok (.bipush 60, 2) := dk_16 60 (dk_at dksX1_init_7 19 rfl rfl)
theorem dX1_init_182 : decode cX1_init 182 = .ok (.newarray .int, 2) := dk_188_10 (dk_at dksX1_init_7 21 rfl rfl)
theorem dX1_init_184 : decode cX1_init 184 = .ok (.putfield 86, 3) := dk_181 0 86 (dk_at dksX1_init_8 0 rfl rfl)
theorem dX1_init_187 : decode cX1_init 187 = .ok (.aload_n 0, 1) := dk_42 (dk_at dksX1_init_8 3 rfl rfl)
theorem dX1_init_188 : decode cX1_init 188 = .ok (.bipush 6, 2) := dk_16 6 (dk_at dksX1_init_8 4 rfl rfl)
theorem dX1_init_190 : decode cX1_init 190 = .ok (.newarray .int, 2) := dk_188_10 (dk_at dksX1_init_8 6 rfl rfl)
theorem dX1_init_192 : decode cX1_init 192 = .ok (.putfield 89, 3) := dk_181 0 89 (dk_at dksX1_init_8 8 rfl rfl)
theorem dX1_init_195 : decode cX1_init 195 = .ok (.aload_n 0, 1) := dk_42 (dk_at dksX1_init_8 11 rfl rfl)
theorem dX1_init_196 : decode cX1_init 196 = .ok (.bipush 16, 2) := dk_16 16 (dk_at dksX1_init_8 12 rfl rfl)
theorem dX1_init_198 : decode cX1_init 198 = .ok (.newarray .int, 2) := dk_188_10 (dk_at dksX1_init_8 14 rfl rfl)
theorem dX1_init_200 : decode cX1_init 200 = .ok (.putfield 92, 3) := dk_181 0 92 (dk_at dksX1_init_8 16 rfl rfl)
theorem dX1_init_203 : decode cX1_init 203 = .ok (.aload_n 0, 1) := dk_42 (dk_at dksX1_init_8 19 rfl rfl)
theorem dX1_init_204 : decode cX1_init 204 = .ok (.bipush 16, 2) := dk_16 16 (dk_at dksX1_init_8 20 rfl rfl)
theorem dX1_init_206 : decode cX1_init 206 = .ok (.newarray .int, 2) := dk_188_10 (dk_at dksX1_init_8 22 rfl rfl)
theorem dX1_init_208 : decode cX1_init 208 = .ok (.putfield 95, 3) := dk_181 0 95 (dk_at dksX1_init_9 0 rfl rfl)
theorem dX1_init_211 : decode cX1_init 211 = .ok (.aload_n 0, 1) := dk_42 (dk_at dksX1_init_9 3 rfl rfl)
theorem dX1_init_212 : decode cX1_init 212 = .ok (.bipush 16, 2) := dk_16 16 (dk_at dksX1_init_9 4 rfl rfl)
theorem dX1_init_214 : decode cX1_init 214 = .ok (.newarray .int, 2) := dk_188_10 (dk_at dksX1_init_9 6 rfl rfl)
theorem dX1_init_216 : decode cX1_init 216 = .ok (.putfield 98, 3) := dk_181 0 98 (dk_at dksX1_init_9 8 rfl rfl)
theorem dX1_init_219 : decode cX1_init 219 = .ok (.iconst 0, 1) := dk_3 (dk_at dksX1_init_9 11 rfl rfl)
theorem dX1_init_220 : decode cX1_init 220 = .ok (.istore_n 1, 1) := dk_60 (dk_at dksX1_init_9 12 rfl rfl)
theorem dX1_init_221 : decode cX1_init 221 = .ok (.iload_n 1, 1) := dk_27 (dk_at dksX1_init_9 13 rfl rfl)
theorem dX1_init_222 : decode cX1_init 222 = .ok (.iconst 3, 1) := dk_6 (dk_at dksX1_init_9 14 rfl rfl)
theorem dX1_init_223 : decode cX1_init 223 = .ok (.if_icmp .ge 22, 3) := dk_162 0 22 (dk_at dksX1_init_9 15 rfl rfl)
theorem dX1_init_226 : decode cX1_init 226 = .ok (.aload_n 0, 1) := dk_42 (dk_at dksX1_init_9 18 rfl rfl)
theorem dX1_init_227 : decode cX1_init 227 = .ok (.getfield 28, 3) := dk_180 0 28 (dk_at dksX1_init_9 19 rfl rfl)
theorem dX1_init_230 : decode cX1_init 230 = .ok (.iload_n 1, 1) := dk_27 (dk_at dksX1_init_9 22 rfl rfl)
theorem dX1_init_231 : decode cX1_init 231 = .ok (.new 26, 3) := dk_187 0 26 (dk_at dksX1_init_10 0 rfl rfl)
theorem dX1_init_234 : decode cX1_init 234 = .ok (.dup, 1) := dk_89 (dk_at dksX1_init_10 3 rfl rfl)
theorem dX1_init_235 : decode cX1_init 235 = .ok (.invokespecial 32, 3) := dk_183 0 32 (dk_at dksX1_init_10 4 rfl rfl)
theorem dX1_init_238 : decode cX1_init 238 = .ok (.aastore, 1) := dk_83 (dk_at dksX1_init_10 7 rfl rfl)
theorem dX1_init_239 : decode cX1_init 239 = .ok (.iinc 1 1, 3) := dk_132 1 1 (dk_at dksX1_init_10 8 rfl rfl)
theorem dX1_init_242 : decode cX1_init 242 = .ok (.goto (-21), 3) := dk_167 255 235 (dk_at dksX1_init_10 11 rfl rfl)
theorem dX1_init_245 : decode cX1_init 245 = .ok (.return_, 1) := dk_177 (dk_at dksX1_init_10 14 rfl rfl)
abbrev cX1_feed : ByteArray := prog_1_method_8_code
def yX1_feed : MethodName := ⟨RX1, "feed", "(IIIII)I"⟩
def dkwX1_feed_2 : List UInt8 := [172]
abbrev dktX1_feed_2 : List UInt8 := dkwX1_feed_2 ++ []
def dkwX1_feed_1 : List UInt8 := [182, 0, 110, 42, 29, 182, 0, 110, 42, 21, 4, 182, 0, 110, 42, 21, 5, 182, 0, 110, 42, 180, 0, 107]
abbrev dktX1_feed_1 : List UInt8 := dkwX1_feed_1 ++ dktX1_feed_2
def dkwX1_feed_0 : List UInt8 := [42, 180, 0, 107, 16, 20, 96, 17, 3, 132, 164, 0, 5, 2, 172, 42, 27, 182, 0, 110, 42, 28]
abbrev dktX1_feed_0 : List UInt8 := dkwX1_feed_0 ++ dktX1_feed_1
theorem dksX1_feed_0 : cX1_feed.data.toList.drop 0 = dktX1_feed_0 := by decide +kernel
theorem dksX1_feed_1 : cX1_feed.data.toList.drop 22 = dktX1_feed_1 := dk_seg dksX1_feed_0 22 rfl rfl
theorem dksX1_feed_2 : cX1_feed.data.toList.drop 46 = dktX1_feed_2 := dk_seg dksX1_feed_1 24 rfl rfl
theorem dX1_feed_0 : decode cX1_feed 0 = .ok (.aload_n 0, 1) := dk_42 (dk_at dksX1_feed_0 0 rfl rfl)
theorem dX1_feed_1 : decode cX1_feed 1 = .ok (.getfield 107, 3) := dk_180 0 107 (dk_at dksX1_feed_0 1 rfl rfl)
theorem dX1_feed_4 : decode cX1_feed 4 = .ok (.bipush 20, 2) := dk_16 20 (dk_at dksX1_feed_0 4 rfl rfl)
theorem dX1_feed_6 : decode cX1_feed 6 = .ok (.iadd, 1) := dk_96 (dk_at dksX1_feed_0 6 rfl rfl)
theorem dX1_feed_7 : decode cX1_feed 7 = .ok (.sipush 900, 3) := dk_17 3 132 (dk_at dksX1_feed_0 7 rfl rfl)
theorem dX1_feed_10 : decode cX1_feed 10 = .ok (.if_icmp .le 5, 3) := dk_164 0 5 (dk_at dksX1_feed_0 10 rfl rfl)
theorem dX1_feed_13 : decode cX1_feed 13 = .ok (.iconst (-1), 1) := dk_2 (dk_at dksX1_feed_0 13 rfl rfl)
theorem dX1_feed_14 : decode cX1_feed 14 = .ok (.ireturn, 1) := dk_172 (dk_at dksX1_feed_0 14 rfl rfl)
theorem dX1_feed_15 : decode cX1_feed 15 = .ok (.aload_n 0, 1) := dk_42 (dk_at dksX1_feed_0 15 rfl rfl)
theorem dX1_feed_16 : decode cX1_feed 16 = .ok (.iload_n 1, 1) := dk_27 (dk_at dksX1_feed_0 16 rfl rfl)
theorem dX1_feed_17 : decode cX1_feed 17 = .ok (.invokevirtual 110, 3) := dk_182 0 110 (dk_at dksX1_feed_0 17 rfl rfl)
theorem dX1_feed_20 : decode cX1_feed 20 = .ok (.aload_n 0, 1) := dk_42 (dk_at dksX1_feed_0 20 rfl rfl)
theorem dX1_feed_21 : decode cX1_feed 21 = .ok (.iload_n 2, 1) := dk_28 (dk_at dksX1_feed_0 21 rfl rfl)
theorem dX1_feed_22 : decode cX1_feed 22 = .ok (.invokevirtual 110, 3) := dk_182 0 110 (dk_at dksX1_feed_1 0 rfl rfl)
theorem dX1_feed_25 : decode cX1_feed 25 = .ok (.aload_n 0, 1) := dk_42 (dk_at dksX1_feed_1 3 rfl rfl)
theorem dX1_feed_26 : decode cX1_feed 26 = .ok (.iload_n 3, 1) := dk_29 (dk_at dksX1_feed_1 4 rfl rfl)
theorem dX1_feed_27 : decode cX1_feed 27 = .ok (.invokevirtual 110, 3) := dk_182 0 110 (dk_at dksX1_feed_1 5 rfl rfl)
theorem dX1_feed_30 : decode cX1_feed 30 = .ok (.aload_n 0, 1) := dk_42 (dk_at dksX1_feed_1 8 rfl rfl)
theorem dX1_feed_31 : decode cX1_feed 31 = .ok (.iload 4, 2) := dk_21 4 (dk_at dksX1_feed_1 9 rfl rfl)
theorem dX1_feed_33 : decode cX1_feed 33 = .ok (.invokevirtual 110, 3) := dk_182 0 110 (dk_at dksX1_feed_1 11 rfl rfl)
theorem dX1_feed_36 : decode cX1_feed 36 = .ok (.aload_n 0, 1) := dk_42 (dk_at dksX1_feed_1 14 rfl rfl)
theorem dX1_feed_37 : decode cX1_feed 37 = .ok (.iload 5, 2) := dk_21 5 (dk_at dksX1_feed_1 15 rfl rfl)
theorem dX1_feed_39 : decode cX1_feed 39 = .ok (.invokevirtual 110, 3) := dk_182 0 110 (dk_at dksX1_feed_1 17 rfl rfl)
theorem dX1_feed_42 : decode cX1_feed 42 = .ok (.aload_n 0, 1) := dk_42 (dk_at dksX1_feed_1 20 rfl rfl)
theorem dX1_feed_43 : decode cX1_feed 43 = .ok (.getfield 107, 3) := dk_180 0 107 (dk_at dksX1_feed_1 21 rfl rfl)
theorem dX1_feed_46 : decode cX1_feed 46 = .ok (.ireturn, 1) := dk_172 (dk_at dksX1_feed_2 0 rfl rfl)
abbrev cX1_bytes : ByteArray := prog_1_method_9_code
def yX1_bytes : MethodName := ⟨RX1, "bytes", "(I)V"⟩
def dkwX1_bytes_1 : List UInt8 := [180, 0, 107, 4, 96, 181, 0, 107, 132, 2, 248, 167, 255, 226, 177]
abbrev dktX1_bytes_1 : List UInt8 := dkwX1_bytes_1 ++ []
def dkwX1_bytes_0 : List UInt8 := [16, 24, 61, 28, 155, 0, 32, 42, 180, 0, 9, 42, 180, 0, 107, 27, 28, 122, 145, 84, 42, 89]
abbrev dktX1_bytes_0 : List UInt8 := dkwX1_bytes_0 ++ dktX1_bytes_1
theorem dksX1_bytes_0 : cX1_bytes.data.toList.drop 0 = dktX1_bytes_0 := by decide +kernel
theorem dksX1_bytes_1 : cX1_bytes.data.toList.drop 22 = dktX1_bytes_1 := dk_seg dksX1_bytes_0 22 rfl rfl
theorem dX1_bytes_0 : decode cX1_bytes 0 = .ok (.bipush 24, 2) := dk_16 24 (dk_at dksX1_bytes_0 0 rfl rfl)
theorem dX1_bytes_2 : decode cX1_bytes 2 = .ok (.istore_n 2, 1) := dk_61 (dk_at dksX1_bytes_0 2 rfl rfl)
theorem dX1_bytes_3 : decode cX1_bytes 3 = .ok (.iload_n 2, 1) := dk_28 (dk_at dksX1_bytes_0 3 rfl rfl)
theorem dX1_bytes_4 : decode cX1_bytes 4 = .ok (.ifCond .lt 32, 3) := dk_155 0 32 (dk_at dksX1_bytes_0 4 rfl rfl)
theorem dX1_bytes_7 : decode cX1_bytes 7 = .ok (.aload_n 0, 1) := dk_42 (dk_at dksX1_bytes_0 7 rfl rfl)
theorem dX1_bytes_8 : decode cX1_bytes 8 = .ok (.getfield 9, 3) := dk_180 0 9 (dk_at dksX1_bytes_0 8 rfl rfl)
theorem dX1_bytes_11 : decode cX1_bytes 11 = .ok (.aload_n 0, 1) := dk_42 (dk_at dksX1_bytes_0 11 rfl rfl)
theorem dX1_bytes_12 : decode cX1_bytes 12 = .ok (.getfield 107, 3) := dk_180 0 107 (dk_at dksX1_bytes_0 12 rfl rfl)
theorem dX1_bytes_15 : decode cX1_bytes 15 = .ok (.iload_n 1, 1) := dk_27 (dk_at dksX1_bytes_0 15 rfl rfl)
theorem dX1_bytes_16 : decode cX1_bytes 16 = .ok (.iload_n 2, 1) := dk_28 (dk_at dksX1_bytes_0 16 rfl rfl)
theorem dX1_bytes_17 : decode cX1_bytes 17 = .ok (.ishr, 1) := dk_122 (dk_at dksX1_bytes_0 17 rfl rfl)
theorem dX1_bytes_18 : decode cX1_bytes 18 = .ok (.i2b, 1) := dk_145 (dk_at dksX1_bytes_0 18 rfl rfl)
theorem dX1_bytes_19 : decode cX1_bytes 19 = .ok (.bastore, 1) := dk_84 (dk_at dksX1_bytes_0 19 rfl rfl)
theorem dX1_bytes_20 : decode cX1_bytes 20 = .ok (.aload_n 0, 1) := dk_42 (dk_at dksX1_bytes_0 20 rfl rfl)
theorem dX1_bytes_21 : decode cX1_bytes 21 = .ok (.dup, 1) := dk_89 (dk_at dksX1_bytes_0 21 rfl rfl)
theorem dX1_bytes_22 : decode cX1_bytes 22 = .ok (.getfield 107, 3) := dk_180 0 107 (dk_at dksX1_bytes_1 0 rfl rfl)
theorem dX1_bytes_25 : decode cX1_bytes 25 = .ok (.iconst 1, 1) := dk_4 (dk_at dksX1_bytes_1 3 rfl rfl)
theorem dX1_bytes_26 : decode cX1_bytes 26 = .ok (.iadd, 1) := dk_96 (dk_at dksX1_bytes_1 4 rfl rfl)
theorem dX1_bytes_27 : decode cX1_bytes 27 = .ok (.putfield 107, 3) := dk_181 0 107 (dk_at dksX1_bytes_1 5 rfl rfl)
theorem dX1_bytes_30 : decode cX1_bytes 30 = .ok (.iinc 2 (-8), 3) := dk_132 2 248 (dk_at dksX1_bytes_1 8 rfl rfl)
theorem dX1_bytes_33 : decode cX1_bytes 33 = .ok (.goto (-30), 3) := dk_167 255 226 (dk_at dksX1_bytes_1 11 rfl rfl)
theorem dX1_bytes_36 : decode cX1_bytes 36 = .ok (.return_, 1) := dk_177 (dk_at dksX1_bytes_1 14 rfl rfl)
abbrev cX1_day : ByteArray := prog_1_method_10_code
def yX1_day : MethodName := ⟨RX1, "day", "(I)I"⟩
def dkwX1_day_6 : List UInt8 := [181, 0, 151, 42, 3, 181, 0, 154, 42, 3, 181, 0, 158, 42, 180, 0, 129, 180, 0, 161, 172]
abbrev dktX1_day_6 : List UInt8 := dkwX1_day_6 ++ []
def dkwX1_day_5 : List UInt8 := [180, 0, 89, 28, 3, 79, 132, 2, 1, 167, 255, 240, 42, 3, 181, 0, 145, 42, 3, 181, 0, 148, 42, 3]
abbrev dktX1_day_5 : List UInt8 := dkwX1_day_5 ++ dktX1_day_6
def dkwX1_day_4 : List UInt8 := [58, 5, 25, 5, 3, 181, 0, 142, 132, 4, 1, 167, 255, 235, 3, 61, 28, 16, 6, 162, 0, 16, 42]
abbrev dktX1_day_4 : List UInt8 := dkwX1_day_4 ++ dktX1_day_5
def dkwX1_day_3 : List UInt8 := [181, 0, 139, 42, 180, 0, 28, 77, 44, 190, 62, 3, 54, 4, 21, 4, 29, 162, 0, 21, 44, 21, 4, 50]
abbrev dktX1_day_3 : List UInt8 := dkwX1_day_3 ++ dktX1_day_4
def dkwX1_day_2 : List UInt8 := [42, 44, 180, 0, 135, 181, 0, 122, 42, 44, 180, 0, 136, 181, 0, 22, 42, 7, 182, 0, 118, 172, 42, 3]
abbrev dktX1_day_2 : List UInt8 := dkwX1_day_2 ++ dktX1_day_3
def dkwX1_day_1 : List UInt8 := [181, 0, 107, 42, 3, 181, 0, 122, 42, 42, 180, 0, 18, 27, 182, 0, 125, 181, 0, 129, 167, 0, 26, 77]
abbrev dktX1_day_1 : List UInt8 := dkwX1_day_1 ++ dktX1_day_2
def dkwX1_day_0 : List UInt8 := [42, 182, 0, 104, 27, 3, 42, 180, 0, 107, 184, 0, 114, 154, 0, 9, 42, 5, 182, 0, 118, 172, 42, 3]
abbrev dktX1_day_0 : List UInt8 := dkwX1_day_0 ++ dktX1_day_1
theorem dksX1_day_0 : cX1_day.data.toList.drop 0 = dktX1_day_0 := by decide +kernel
theorem dksX1_day_1 : cX1_day.data.toList.drop 24 = dktX1_day_1 := dk_seg dksX1_day_0 24 rfl rfl
theorem dksX1_day_2 : cX1_day.data.toList.drop 48 = dktX1_day_2 := dk_seg dksX1_day_1 24 rfl rfl
theorem dksX1_day_3 : cX1_day.data.toList.drop 72 = dktX1_day_3 := dk_seg dksX1_day_2 24 rfl rfl
theorem dksX1_day_4 : cX1_day.data.toList.drop 96 = dktX1_day_4 := dk_seg dksX1_day_3 24 rfl rfl
theorem dksX1_day_5 : cX1_day.data.toList.drop 119 = dktX1_day_5 := dk_seg dksX1_day_4 23 rfl rfl
theorem dksX1_day_6 : cX1_day.data.toList.drop 143 = dktX1_day_6 := dk_seg dksX1_day_5 24 rfl rfl
theorem dX1_day_0 : decode cX1_day 0 = .ok (.aload_n 0, 1) := dk_42 (dk_at dksX1_day_0 0 rfl rfl)
theorem dX1_day_1 : decode cX1_day 1 = .ok (.invokevirtual 104, 3) := dk_182 0 104 (dk_at dksX1_day_0 1 rfl rfl)
theorem dX1_day_4 : decode cX1_day 4 = .ok (.iload_n 1, 1) := dk_27 (dk_at dksX1_day_0 4 rfl rfl)
theorem dX1_day_5 : decode cX1_day 5 = .ok (.iconst 0, 1) := dk_3 (dk_at dksX1_day_0 5 rfl rfl)
theorem dX1_day_6 : decode cX1_day 6 = .ok (.aload_n 0, 1) := dk_42 (dk_at dksX1_day_0 6 rfl rfl)
theorem dX1_day_7 : decode cX1_day 7 = .ok (.getfield 107, 3) := dk_180 0 107 (dk_at dksX1_day_0 7 rfl rfl)
theorem dX1_day_10 : decode cX1_day 10 = .ok (.invokestatic 114, 3) := dk_184 0 114 (dk_at dksX1_day_0 10 rfl rfl)
theorem dX1_day_13 : decode cX1_day 13 = .ok (.ifCond .ne 9, 3) := dk_154 0 9 (dk_at dksX1_day_0 13 rfl rfl)
theorem dX1_day_16 : decode cX1_day 16 = .ok (.aload_n 0, 1) := dk_42 (dk_at dksX1_day_0 16 rfl rfl)
theorem dX1_day_17 : decode cX1_day 17 = .ok (.iconst 2, 1) := dk_5 (dk_at dksX1_day_0 17 rfl rfl)
theorem dX1_day_18 : decode cX1_day 18 = .ok (.invokevirtual 118, 3) := dk_182 0 118 (dk_at dksX1_day_0 18 rfl rfl)
theorem dX1_day_21 : decode cX1_day 21 = .ok (.ireturn, 1) := dk_172 (dk_at dksX1_day_0 21 rfl rfl)
theorem dX1_day_22 : decode cX1_day 22 = .ok (.aload_n 0, 1) := dk_42 (dk_at dksX1_day_0 22 rfl rfl)
theorem dX1_day_23 : decode cX1_day 23 = .ok (.iconst 0, 1) := dk_3 (dk_at dksX1_day_0 23 rfl rfl)
theorem dX1_day_24 : decode cX1_day 24 = .ok (.putfield 107, 3) := dk_181 0 107 (dk_at dksX1_day_1 0 rfl rfl)
theorem dX1_day_27 : decode cX1_day 27 = .ok (.aload_n 0, 1) := dk_42 (dk_at dksX1_day_1 3 rfl rfl)
theorem dX1_day_28 : decode cX1_day 28 = .ok (.iconst 0, 1) := dk_3 (dk_at dksX1_day_1 4 rfl rfl)
theorem dX1_day_29 : decode cX1_day 29 = .ok (.putfield 122, 3) := dk_181 0 122 (dk_at dksX1_day_1 5 rfl rfl)
theorem dX1_day_32 : decode cX1_day 32 = .ok (.aload_n 0, 1) := dk_42 (dk_at dksX1_day_1 8 rfl rfl)
theorem dX1_day_33 : decode cX1_day 33 = .ok (.aload_n 0, 1) := dk_42 (dk_at dksX1_day_1 9 rfl rfl)
theorem dX1_day_34 : decode cX1_day 34 = .ok (.getfield 18, 3) := dk_180 0 18 (dk_at dksX1_day_1 10 rfl rfl)
theorem dX1_day_37 : decode cX1_day 37 = .ok (.iload_n 1, 1) := dk_27 (dk_at dksX1_day_1 13 rfl rfl)
theorem dX1_day_38 : decode cX1_day 38 = .ok (.invokevirtual 125, 3) := dk_182 0 125 (dk_at dksX1_day_1 14 rfl rfl)
theorem dX1_day_41 : decode cX1_day 41 = .ok (.putfield 129, 3) := dk_181 0 129 (dk_at dksX1_day_1 17 rfl rfl)
theorem dX1_day_44 : decode cX1_day 44 = .ok (.goto 26, 3) := dk_167 0 26 (dk_at dksX1_day_1 20 rfl rfl)
theorem dX1_day_47 : decode cX1_day 47 = .ok (.astore_n 2, 1) := dk_77 (dk_at dksX1_day_1 23 rfl rfl)
theorem dX1_day_48 : decode cX1_day 48 = .ok (.aload_n 0, 1) := dk_42 (dk_at dksX1_day_2 0 rfl rfl)
theorem dX1_day_49 : decode cX1_day 49 = .ok (.aload_n 2, 1) := dk_44 (dk_at dksX1_day_2 1 rfl rfl)
theorem dX1_day_50 : decode cX1_day 50 = .ok (.getfield 135, 3) := dk_180 0 135 (dk_at dksX1_day_2 2 rfl rfl)
theorem dX1_day_53 : decode cX1_day 53 = .ok (.putfield 122, 3) := dk_181 0 122 (dk_at dksX1_day_2 5 rfl rfl)
theorem dX1_day_56 : decode cX1_day 56 = .ok (.aload_n 0, 1) := dk_42 (dk_at dksX1_day_2 8 rfl rfl)
theorem dX1_day_57 : decode cX1_day 57 = .ok (.aload_n 2, 1) := dk_44 (dk_at dksX1_day_2 9 rfl rfl)
theorem dX1_day_58 : decode cX1_day 58 = .ok (.getfield 136, 3) := dk_180 0 136 (dk_at dksX1_day_2 10 rfl rfl)
theorem dX1_day_61 : decode cX1_day 61 = .ok (.putfield 22, 3) := dk_181 0 22 (dk_at dksX1_day_2 13 rfl rfl)
theorem dX1_day_64 : decode cX1_day 64 = .ok (.aload_n 0, 1) := dk_42 (dk_at dksX1_day_2 16 rfl rfl)
theorem dX1_day_65 : decode cX1_day 65 = .ok (.iconst 4, 1) := dk_7 (dk_at dksX1_day_2 17 rfl rfl)
theorem dX1_day_66 : decode cX1_day 66 = .ok (.invokevirtual 118, 3) := dk_182 0 118 (dk_at dksX1_day_2 18 rfl rfl)
theorem dX1_day_69 : decode cX1_day 69 = .ok (.ireturn, 1) := dk_172 (dk_at dksX1_day_2 21 rfl rfl)
theorem dX1_day_70 : decode cX1_day 70 = .ok (.aload_n 0, 1) := dk_42 (dk_at dksX1_day_2 22 rfl rfl)
theorem dX1_day_71 : decode cX1_day 71 = .ok (.iconst 0, 1) := dk_3 (dk_at dksX1_day_2 23 rfl rfl)
theorem dX1_day_72 : decode cX1_day 72 = .ok (.putfield 139, 3) := dk_181 0 139 (dk_at dksX1_day_3 0 rfl rfl)
theorem dX1_day_75 : decode cX1_day 75 = .ok (.aload_n 0, 1) := dk_42 (dk_at dksX1_day_3 3 rfl rfl)
theorem dX1_day_76 : decode cX1_day 76 = .ok (.getfield 28, 3) := dk_180 0 28 (dk_at dksX1_day_3 4 rfl rfl)
theorem dX1_day_79 : decode cX1_day 79 = .ok (.astore_n 2, 1) := dk_77 (dk_at dksX1_day_3 7 rfl rfl)
theorem dX1_day_80 : decode cX1_day 80 = .ok (.aload_n 2, 1) := dk_44 (dk_at dksX1_day_3 8 rfl rfl)
theorem dX1_day_81 : decode cX1_day 81 = .ok (.arraylength, 1) := dk_190 (dk_at dksX1_day_3 9 rfl rfl)
theorem dX1_day_82 : decode cX1_day 82 = .ok (.istore_n 3, 1) := dk_62 (dk_at dksX1_day_3 10 rfl rfl)
theorem dX1_day_83 : decode cX1_day 83 = .ok (.iconst 0, 1) := dk_3 (dk_at dksX1_day_3 11 rfl rfl)
theorem dX1_day_84 : decode cX1_day 84 = .ok (.istore 4, 2) := dk_54 4 (dk_at dksX1_day_3 12 rfl rfl)
theorem dX1_day_86 : decode cX1_day 86 = .ok (.iload 4, 2) := dk_21 4 (dk_at dksX1_day_3 14 rfl rfl)
theorem dX1_day_88 : decode cX1_day 88 = .ok (.iload_n 3, 1) := dk_29 (dk_at dksX1_day_3 16 rfl rfl)
theorem dX1_day_89 : decode cX1_day 89 = .ok (.if_icmp .ge 21, 3) := dk_162 0 21 (dk_at dksX1_day_3 17 rfl rfl)
theorem dX1_day_92 : decode cX1_day 92 = .ok (.aload_n 2, 1) := dk_44 (dk_at dksX1_day_3 20 rfl rfl)
theorem dX1_day_93 : decode cX1_day 93 = .ok (.iload 4, 2) := dk_21 4 (dk_at dksX1_day_3 21 rfl rfl)
theorem dX1_day_95 : decode cX1_day 95 = .ok (.aaload, 1) := dk_50 (dk_at dksX1_day_3 23 rfl rfl)
theorem dX1_day_96 : decode cX1_day 96 = .ok (.astore 5, 2) := dk_58 5 (dk_at dksX1_day_4 0 rfl rfl)
theorem dX1_day_98 : decode cX1_day 98 = .ok (.aload 5, 2) := dk_25 5 (dk_at dksX1_day_4 2 rfl rfl)
theorem dX1_day_100 : decode cX1_day 100 = .ok (.iconst 0, 1) := dk_3 (dk_at dksX1_day_4 4 rfl rfl)
theorem dX1_day_101 : decode cX1_day 101 = .ok (.putfield 142, 3) := dk_181 0 142 (dk_at dksX1_day_4 5 rfl rfl)
theorem dX1_day_104 : decode cX1_day 104 = .ok (.iinc 4 1, 3) := dk_132 4 1 (dk_at dksX1_day_4 8 rfl rfl)
theorem dX1_day_107 : decode cX1_day 107 = .ok (.goto (-21), 3) := dk_167 255 235 (dk_at dksX1_day_4 11 rfl rfl)
theorem dX1_day_110 : decode cX1_day 110 = .ok (.iconst 0, 1) := dk_3 (dk_at dksX1_day_4 14 rfl rfl)
theorem dX1_day_111 : decode cX1_day 111 = .ok (.istore_n 2, 1) := dk_61 (dk_at dksX1_day_4 15 rfl rfl)
theorem dX1_day_112 : decode cX1_day 112 = .ok (.iload_n 2, 1) := dk_28 (dk_at dksX1_day_4 16 rfl rfl)
theorem dX1_day_113 : decode cX1_day 113 = .ok (.bipush 6, 2) := dk_16 6 (dk_at dksX1_day_4 17 rfl rfl)
theorem dX1_day_115 : decode cX1_day 115 = .ok (.if_icmp .ge 16, 3) := dk_162 0 16 (dk_at dksX1_day_4 19 rfl rfl)
theorem dX1_day_118 : decode cX1_day 118 = .ok (.aload_n 0, 1) := dk_42 (dk_at dksX1_day_4 22 rfl rfl)
theorem dX1_day_119 : decode cX1_day 119 = .ok (.getfield 89, 3) := dk_180 0 89 (dk_at dksX1_day_5 0 rfl rfl)
theorem dX1_day_122 : decode cX1_day 122 = .ok (.iload_n 2, 1) := dk_28 (dk_at dksX1_day_5 3 rfl rfl)
theorem dX1_day_123 : decode cX1_day 123 = .ok (.iconst 0, 1) := dk_3 (dk_at dksX1_day_5 4 rfl rfl)
theorem dX1_day_124 : decode cX1_day 124 = .ok (.iastore, 1) := dk_79 (dk_at dksX1_day_5 5 rfl rfl)
theorem dX1_day_125 : decode cX1_day 125 = .ok (.iinc 2 1, 3) := dk_132 2 1 (dk_at dksX1_day_5 6 rfl rfl)
theorem dX1_day_128 : decode cX1_day 128 = .ok (.goto (-16), 3) := dk_167 255 240 (dk_at dksX1_day_5 9 rfl rfl)
theorem dX1_day_131 : decode cX1_day 131 = .ok (.aload_n 0, 1) := dk_42 (dk_at dksX1_day_5 12 rfl rfl)
theorem dX1_day_132 : decode cX1_day 132 = .ok (.iconst 0, 1) := dk_3 (dk_at dksX1_day_5 13 rfl rfl)
theorem dX1_day_133 : decode cX1_day 133 = .ok (.putfield 145, 3) := dk_181 0 145 (dk_at dksX1_day_5 14 rfl rfl)
theorem dX1_day_136 : decode cX1_day 136 = .ok (.aload_n 0, 1) := dk_42 (dk_at dksX1_day_5 17 rfl rfl)
theorem dX1_day_137 : decode cX1_day 137 = .ok (.iconst 0, 1) := dk_3 (dk_at dksX1_day_5 18 rfl rfl)
theorem dX1_day_138 : decode cX1_day 138 = .ok (.putfield 148, 3) := dk_181 0 148 (dk_at dksX1_day_5 19 rfl rfl)
theorem dX1_day_141 : decode cX1_day 141 = .ok (.aload_n 0, 1) := dk_42 (dk_at dksX1_day_5 22 rfl rfl)
theorem dX1_day_142 : decode cX1_day 142 = .ok (.iconst 0, 1) := dk_3 (dk_at dksX1_day_5 23 rfl rfl)
theorem dX1_day_143 : decode cX1_day 143 = .ok (.putfield 151, 3) := dk_181 0 151 (dk_at dksX1_day_6 0 rfl rfl)
theorem dX1_day_146 : decode cX1_day 146 = .ok (.aload_n 0, 1) := dk_42 (dk_at dksX1_day_6 3 rfl rfl)
theorem dX1_day_147 : decode cX1_day 147 = .ok (.iconst 0, 1) := dk_3 (dk_at dksX1_day_6 4 rfl rfl)
theorem dX1_day_148 : decode cX1_day 148 = .ok (.putfield 154, 3) := dk_181 0 154 (dk_at dksX1_day_6 5 rfl rfl)
theorem dX1_day_151 : decode cX1_day 151 = .ok (.aload_n 0, 1) := dk_42 (dk_at dksX1_day_6 8 rfl rfl)
theorem dX1_day_152 : decode cX1_day 152 = .ok (.iconst 0, 1) := dk_3 (dk_at dksX1_day_6 9 rfl rfl)
theorem dX1_day_153 : decode cX1_day 153 = .ok (.putfield 158, 3) := dk_181 0 158 (dk_at dksX1_day_6 10 rfl rfl)
theorem dX1_day_156 : decode cX1_day 156 = .ok (.aload_n 0, 1) := dk_42 (dk_at dksX1_day_6 13 rfl rfl)
theorem dX1_day_157 : decode cX1_day 157 = .ok (.getfield 129, 3) := dk_180 0 129 (dk_at dksX1_day_6 14 rfl rfl)
theorem dX1_day_160 : decode cX1_day 160 = .ok (.getfield 161, 3) := dk_180 0 161 (dk_at dksX1_day_6 17 rfl rfl)
theorem dX1_day_163 : decode cX1_day 163 = .ok (.ireturn, 1) := dk_172 (dk_at dksX1_day_6 20 rfl rfl)
abbrev cX1_anew : ByteArray := prog_1_method_5_code
def yX1_anew : MethodName := ⟨RX1, "anew", "()V"⟩
def dkwX1_anew_0 : List UInt8 := [42, 3, 181, 0, 101, 42, 2, 181, 0, 22, 177]
abbrev dktX1_anew_0 : List UInt8 := dkwX1_anew_0 ++ []
theorem dksX1_anew_0 : cX1_anew.data.toList.drop 0 = dktX1_anew_0 := by decide +kernel
theorem dX1_anew_0 : decode cX1_anew 0 = .ok (.aload_n 0, 1) := dk_42 (dk_at dksX1_anew_0 0 rfl rfl)
theorem dX1_anew_1 : decode cX1_anew 1 = .ok (.iconst 0, 1) := dk_3 (dk_at dksX1_anew_0 1 rfl rfl)
theorem dX1_anew_2 : decode cX1_anew 2 = .ok (.putfield 101, 3) := dk_181 0 101 (dk_at dksX1_anew_0 2 rfl rfl)
theorem dX1_anew_5 : decode cX1_anew 5 = .ok (.aload_n 0, 1) := dk_42 (dk_at dksX1_anew_0 5 rfl rfl)
theorem dX1_anew_6 : decode cX1_anew 6 = .ok (.iconst (-1), 1) := dk_2 (dk_at dksX1_anew_0 6 rfl rfl)
theorem dX1_anew_7 : decode cX1_anew 7 = .ok (.putfield 22, 3) := dk_181 0 22 (dk_at dksX1_anew_0 7 rfl rfl)
theorem dX1_anew_10 : decode cX1_anew 10 = .ok (.return_, 1) := dk_177 (dk_at dksX1_anew_0 10 rfl rfl)
abbrev cX1_in : ByteArray := prog_1_method_1_code
def yX1_in : MethodName := ⟨RX1, "in", "(III)Z"⟩
def dkwX1_in_0 : List UInt8 := [26, 27, 161, 0, 12, 26, 28, 163, 0, 7, 4, 167, 0, 4, 3, 172]
abbrev dktX1_in_0 : List UInt8 := dkwX1_in_0 ++ []
theorem dksX1_in_0 : cX1_in.data.toList.drop 0 = dktX1_in_0 := by decide +kernel
theorem dX1_in_0 : decode cX1_in 0 = .ok (.iload_n 0, 1) := dk_26 (dk_at dksX1_in_0 0 rfl rfl)
theorem dX1_in_1 : decode cX1_in 1 = .ok (.iload_n 1, 1) := dk_27 (dk_at dksX1_in_0 1 rfl rfl)
theorem dX1_in_2 : decode cX1_in 2 = .ok (.if_icmp .lt 12, 3) := dk_161 0 12 (dk_at dksX1_in_0 2 rfl rfl)
theorem dX1_in_5 : decode cX1_in 5 = .ok (.iload_n 0, 1) := dk_26 (dk_at dksX1_in_0 5 rfl rfl)
theorem dX1_in_6 : decode cX1_in 6 = .ok (.iload_n 2, 1) := dk_28 (dk_at dksX1_in_0 6 rfl rfl)
theorem dX1_in_7 : decode cX1_in 7 = .ok (.if_icmp .gt 7, 3) := dk_163 0 7 (dk_at dksX1_in_0 7 rfl rfl)
theorem dX1_in_10 : decode cX1_in 10 = .ok (.iconst 1, 1) := dk_4 (dk_at dksX1_in_0 10 rfl rfl)
theorem dX1_in_11 : decode cX1_in 11 = .ok (.goto 4, 3) := dk_167 0 4 (dk_at dksX1_in_0 11 rfl rfl)
theorem dX1_in_14 : decode cX1_in 14 = .ok (.iconst 0, 1) := dk_3 (dk_at dksX1_in_0 14 rfl rfl)
theorem dX1_in_15 : decode cX1_in 15 = .ok (.ireturn, 1) := dk_172 (dk_at dksX1_in_0 15 rfl rfl)
abbrev cX1_no : ByteArray := prog_1_method_6_code
def yX1_no : MethodName := ⟨RX1, "no", "(I)I"⟩
def dkwX1_no_0 : List UInt8 := [42, 27, 181, 0, 101, 2, 172]
abbrev dktX1_no_0 : List UInt8 := dkwX1_no_0 ++ []
theorem dksX1_no_0 : cX1_no.data.toList.drop 0 = dktX1_no_0 := by decide +kernel
theorem dX1_no_0 : decode cX1_no 0 = .ok (.aload_n 0, 1) := dk_42 (dk_at dksX1_no_0 0 rfl rfl)
theorem dX1_no_1 : decode cX1_no 1 = .ok (.iload_n 1, 1) := dk_27 (dk_at dksX1_no_0 1 rfl rfl)
theorem dX1_no_2 : decode cX1_no 2 = .ok (.putfield 101, 3) := dk_181 0 101 (dk_at dksX1_no_0 2 rfl rfl)
theorem dX1_no_5 : decode cX1_no 5 = .ok (.iconst (-1), 1) := dk_2 (dk_at dksX1_no_0 5 rfl rfl)
theorem dX1_no_6 : decode cX1_no 6 = .ok (.ireturn, 1) := dk_172 (dk_at dksX1_no_0 6 rfl rfl)
abbrev cX1_lies : ByteArray := prog_1_method_2_code
def yX1_lies : MethodName := ⟨RX1, "lies", "(II)Z"⟩
def dkwX1_lies_0 : List UInt8 := [26, 27, 122, 4, 126, 4, 160, 0, 7, 4, 167, 0, 4, 3, 172]
abbrev dktX1_lies_0 : List UInt8 := dkwX1_lies_0 ++ []
theorem dksX1_lies_0 : cX1_lies.data.toList.drop 0 = dktX1_lies_0 := by decide +kernel
theorem dX1_lies_0 : decode cX1_lies 0 = .ok (.iload_n 0, 1) := dk_26 (dk_at dksX1_lies_0 0 rfl rfl)
theorem dX1_lies_1 : decode cX1_lies 1 = .ok (.iload_n 1, 1) := dk_27 (dk_at dksX1_lies_0 1 rfl rfl)
theorem dX1_lies_2 : decode cX1_lies 2 = .ok (.ishr, 1) := dk_122 (dk_at dksX1_lies_0 2 rfl rfl)
theorem dX1_lies_3 : decode cX1_lies 3 = .ok (.iconst 1, 1) := dk_4 (dk_at dksX1_lies_0 3 rfl rfl)
theorem dX1_lies_4 : decode cX1_lies 4 = .ok (.iand, 1) := dk_126 (dk_at dksX1_lies_0 4 rfl rfl)
theorem dX1_lies_5 : decode cX1_lies 5 = .ok (.iconst 1, 1) := dk_4 (dk_at dksX1_lies_0 5 rfl rfl)
theorem dX1_lies_6 : decode cX1_lies 6 = .ok (.if_icmp .ne 7, 3) := dk_160 0 7 (dk_at dksX1_lies_0 6 rfl rfl)
theorem dX1_lies_9 : decode cX1_lies 9 = .ok (.iconst 1, 1) := dk_4 (dk_at dksX1_lies_0 9 rfl rfl)
theorem dX1_lies_10 : decode cX1_lies 10 = .ok (.goto 4, 3) := dk_167 0 4 (dk_at dksX1_lies_0 10 rfl rfl)
theorem dX1_lies_13 : decode cX1_lies 13 = .ok (.iconst 0, 1) := dk_3 (dk_at dksX1_lies_0 13 rfl rfl)
theorem dX1_lies_14 : decode cX1_lies 14 = .ok (.ireturn, 1) := dk_172 (dk_at dksX1_lies_0 14 rfl rfl)
abbrev cX1_fault : ByteArray := prog_1_method_11_code
def yX1_fault : MethodName := ⟨RX1, "fault", "()I"⟩
theorem dX1_fault_0 : decode cX1_fault 0 = .ok (.aload_n 0, 1) := by decide +kernel
theorem dX1_fault_1 : decode cX1_fault 1 = .ok (.getfield 122, 3) := by decide +kernel
theorem dX1_fault_4 : decode cX1_fault 4 = .ok (.ireturn, 1) := by decide +kernel
abbrev cX1_where : ByteArray := prog_1_method_12_code
def yX1_where : MethodName := ⟨RX1, "where", "()I"⟩
def dkwX1_where_0 : List UInt8 := [42, 180, 0, 101, 7, 160, 0, 10, 42, 180, 0, 22, 167, 0, 4, 2, 172]
abbrev dktX1_where_0 : List UInt8 := dkwX1_where_0 ++ []
theorem dksX1_where_0 : cX1_where.data.toList.drop 0 = dktX1_where_0 := by decide +kernel
theorem dX1_where_0 : decode cX1_where 0 = .ok (.aload_n 0, 1) := dk_42 (dk_at dksX1_where_0 0 rfl rfl)
theorem dX1_where_1 : decode cX1_where 1 = .ok (.getfield 101, 3) := dk_180 0 101 (dk_at dksX1_where_0 1 rfl rfl)
theorem dX1_where_4 : decode cX1_where 4 = .ok (.iconst 4, 1) := dk_7 (dk_at dksX1_where_0 4 rfl rfl)
theorem dX1_where_5 : decode cX1_where 5 = .ok (.if_icmp .ne 10, 3) := dk_160 0 10 (dk_at dksX1_where_0 5 rfl rfl)
theorem dX1_where_8 : decode cX1_where 8 = .ok (.aload_n 0, 1) := dk_42 (dk_at dksX1_where_0 8 rfl rfl)
theorem dX1_where_9 : decode cX1_where 9 = .ok (.getfield 22, 3) := dk_180 0 22 (dk_at dksX1_where_0 9 rfl rfl)
theorem dX1_where_12 : decode cX1_where 12 = .ok (.goto 4, 3) := dk_167 0 4 (dk_at dksX1_where_0 12 rfl rfl)
theorem dX1_where_15 : decode cX1_where 15 = .ok (.iconst (-1), 1) := dk_2 (dk_at dksX1_where_0 15 rfl rfl)
theorem dX1_where_16 : decode cX1_where 16 = .ok (.ireturn, 1) := dk_172 (dk_at dksX1_where_0 16 rfl rfl)
abbrev cX1_drive : ByteArray := prog_1_method_17_code
def yX1_drive : MethodName := ⟨RX1, "drive", "(II)I"⟩
def dkwX1_drive_4 : List UInt8 := [45, 180, 0, 142, 172]
abbrev dktX1_drive_4 : List UInt8 := dkwX1_drive_4 ++ []
def dkwX1_drive_3 : List UInt8 := [182, 0, 118, 172, 45, 180, 0, 190, 45, 180, 0, 142, 28, 79, 45, 89, 180, 0, 142, 4, 96, 181, 0, 142]
abbrev dktX1_drive_3 : List UInt8 := dkwX1_drive_3 ++ dktX1_drive_4
def dkwX1_drive_2 : List UInt8 := [50, 78, 45, 180, 0, 142, 42, 180, 0, 129, 180, 0, 182, 27, 50, 180, 0, 185, 160, 0, 9, 42, 6]
abbrev dktX1_drive_2 : List UInt8 := dkwX1_drive_2 ++ dktX1_drive_3
def dkwX1_drive_1 : List UInt8 := [182, 0, 118, 172, 42, 28, 182, 0, 179, 2, 159, 0, 9, 42, 8, 182, 0, 118, 172, 42, 180, 0, 28, 27]
abbrev dktX1_drive_1 : List UInt8 := dkwX1_drive_1 ++ dktX1_drive_2
def dkwX1_drive_0 : List UInt8 := [42, 182, 0, 104, 42, 27, 182, 0, 172, 153, 0, 11, 42, 28, 182, 0, 176, 154, 0, 9, 42, 4]
abbrev dktX1_drive_0 : List UInt8 := dkwX1_drive_0 ++ dktX1_drive_1
theorem dksX1_drive_0 : cX1_drive.data.toList.drop 0 = dktX1_drive_0 := by decide +kernel
theorem dksX1_drive_1 : cX1_drive.data.toList.drop 22 = dktX1_drive_1 := dk_seg dksX1_drive_0 22 rfl rfl
theorem dksX1_drive_2 : cX1_drive.data.toList.drop 46 = dktX1_drive_2 := dk_seg dksX1_drive_1 24 rfl rfl
theorem dksX1_drive_3 : cX1_drive.data.toList.drop 69 = dktX1_drive_3 := dk_seg dksX1_drive_2 23 rfl rfl
theorem dksX1_drive_4 : cX1_drive.data.toList.drop 93 = dktX1_drive_4 := dk_seg dksX1_drive_3 24 rfl rfl
theorem dX1_drive_0 : decode cX1_drive 0 = .ok (.aload_n 0, 1) := dk_42 (dk_at dksX1_drive_0 0 rfl rfl)
theorem dX1_drive_1 : decode cX1_drive 1 = .ok (.invokevirtual 104, 3) := dk_182 0 104 (dk_at dksX1_drive_0 1 rfl rfl)
theorem dX1_drive_4 : decode cX1_drive 4 = .ok (.aload_n 0, 1) := dk_42 (dk_at dksX1_drive_0 4 rfl rfl)
theorem dX1_drive_5 : decode cX1_drive 5 = .ok (.iload_n 1, 1) := dk_27 (dk_at dksX1_drive_0 5 rfl rfl)
theorem dX1_drive_6 : decode cX1_drive 6 = .ok (.invokevirtual 172, 3) := dk_182 0 172 (dk_at dksX1_drive_0 6 rfl rfl)
theorem dX1_drive_9 : decode cX1_drive 9 = .ok (.ifCond .eq 11, 3) := dk_153 0 11 (dk_at dksX1_drive_0 9 rfl rfl)
theorem dX1_drive_12 : decode cX1_drive 12 = .ok (.aload_n 0, 1) := dk_42 (dk_at dksX1_drive_0 12 rfl rfl)
theorem dX1_drive_13 : decode cX1_drive 13 = .ok (.iload_n 2, 1) := dk_28 (dk_at dksX1_drive_0 13 rfl rfl)
theorem dX1_drive_14 : decode cX1_drive 14 = .ok (.invokevirtual 176, 3) := dk_182 0 176 (dk_at dksX1_drive_0 14 rfl rfl)
theorem dX1_drive_17 : decode cX1_drive 17 = .ok (.ifCond .ne 9, 3) := dk_154 0 9 (dk_at dksX1_drive_0 17 rfl rfl)
theorem dX1_drive_20 : decode cX1_drive 20 = .ok (.aload_n 0, 1) := dk_42 (dk_at dksX1_drive_0 20 rfl rfl)
theorem dX1_drive_21 : decode cX1_drive 21 = .ok (.iconst 1, 1) := dk_4 (dk_at dksX1_drive_0 21 rfl rfl)
theorem dX1_drive_22 : decode cX1_drive 22 = .ok (.invokevirtual 118, 3) := dk_182 0 118 (dk_at dksX1_drive_1 0 rfl rfl)
theorem dX1_drive_25 : decode cX1_drive 25 = .ok (.ireturn, 1) := dk_172 (dk_at dksX1_drive_1 3 rfl rfl)
theorem dX1_drive_26 : decode cX1_drive 26 = .ok (.aload_n 0, 1) := dk_42 (dk_at dksX1_drive_1 4 rfl rfl)
theorem dX1_drive_27 : decode cX1_drive 27 = .ok (.iload_n 2, 1) := dk_28 (dk_at dksX1_drive_1 5 rfl rfl)
theorem dX1_drive_28 : decode cX1_drive 28 = .ok (.invokevirtual 179, 3) := dk_182 0 179 (dk_at dksX1_drive_1 6 rfl rfl)
theorem dX1_drive_31 : decode cX1_drive 31 = .ok (.iconst (-1), 1) := dk_2 (dk_at dksX1_drive_1 9 rfl rfl)
theorem dX1_drive_32 : decode cX1_drive 32 = .ok (.if_icmp .eq 9, 3) := dk_159 0 9 (dk_at dksX1_drive_1 10 rfl rfl)
theorem dX1_drive_35 : decode cX1_drive 35 = .ok (.aload_n 0, 1) := dk_42 (dk_at dksX1_drive_1 13 rfl rfl)
theorem dX1_drive_36 : decode cX1_drive 36 = .ok (.iconst 5, 1) := dk_8 (dk_at dksX1_drive_1 14 rfl rfl)
theorem dX1_drive_37 : decode cX1_drive 37 = .ok (.invokevirtual 118, 3) := dk_182 0 118 (dk_at dksX1_drive_1 15 rfl rfl)
theorem dX1_drive_40 : decode cX1_drive 40 = .ok (.ireturn, 1) := dk_172 (dk_at dksX1_drive_1 18 rfl rfl)
theorem dX1_drive_41 : decode cX1_drive 41 = .ok (.aload_n 0, 1) := dk_42 (dk_at dksX1_drive_1 19 rfl rfl)
theorem dX1_drive_42 : decode cX1_drive 42 = .ok (.getfield 28, 3) := dk_180 0 28 (dk_at dksX1_drive_1 20 rfl rfl)
theorem dX1_drive_45 : decode cX1_drive 45 = .ok (.iload_n 1, 1) := dk_27 (dk_at dksX1_drive_1 23 rfl rfl)
theorem dX1_drive_46 : decode cX1_drive 46 = .ok (.aaload, 1) := dk_50 (dk_at dksX1_drive_2 0 rfl rfl)
theorem dX1_drive_47 : decode cX1_drive 47 = .ok (.astore_n 3, 1) := dk_78 (dk_at dksX1_drive_2 1 rfl rfl)
theorem dX1_drive_48 : decode cX1_drive 48 = .ok (.aload_n 3, 1) := dk_45 (dk_at dksX1_drive_2 2 rfl rfl)
theorem dX1_drive_49 : decode cX1_drive 49 = .ok (.getfield 142, 3) := dk_180 0 142 (dk_at dksX1_drive_2 3 rfl rfl)
theorem dX1_drive_52 : decode cX1_drive 52 = .ok (.aload_n 0, 1) := dk_42 (dk_at dksX1_drive_2 6 rfl rfl)
theorem dX1_drive_53 : decode cX1_drive 53 = .ok (.getfield 129, 3) := dk_180 0 129 (dk_at dksX1_drive_2 7 rfl rfl)
theorem dX1_drive_56 : decode cX1_drive 56 = .ok (.getfield 182, 3) := dk_180 0 182 (dk_at dksX1_drive_2 10 rfl rfl)
theorem dX1_drive_59 : decode cX1_drive 59 = .ok (.iload_n 1, 1) := dk_27 (dk_at dksX1_drive_2 13 rfl rfl)
theorem dX1_drive_60 : decode cX1_drive 60 = .ok (.aaload, 1) := dk_50 (dk_at dksX1_drive_2 14 rfl rfl)
theorem dX1_drive_61 : decode cX1_drive 61 = .ok (.getfield 185, 3) := dk_180 0 185 (dk_at dksX1_drive_2 15 rfl rfl)
theorem dX1_drive_64 : decode cX1_drive 64 = .ok (.if_icmp .ne 9, 3) := dk_160 0 9 (dk_at dksX1_drive_2 18 rfl rfl)
theorem dX1_drive_67 : decode cX1_drive 67 = .ok (.aload_n 0, 1) := dk_42 (dk_at dksX1_drive_2 21 rfl rfl)
theorem dX1_drive_68 : decode cX1_drive 68 = .ok (.iconst 3, 1) := dk_6 (dk_at dksX1_drive_2 22 rfl rfl)
theorem dX1_drive_69 : decode cX1_drive 69 = .ok (.invokevirtual 118, 3) := dk_182 0 118 (dk_at dksX1_drive_3 0 rfl rfl)
theorem dX1_drive_72 : decode cX1_drive 72 = .ok (.ireturn, 1) := dk_172 (dk_at dksX1_drive_3 3 rfl rfl)
theorem dX1_drive_73 : decode cX1_drive 73 = .ok (.aload_n 3, 1) := dk_45 (dk_at dksX1_drive_3 4 rfl rfl)
theorem dX1_drive_74 : decode cX1_drive 74 = .ok (.getfield 190, 3) := dk_180 0 190 (dk_at dksX1_drive_3 5 rfl rfl)
theorem dX1_drive_77 : decode cX1_drive 77 = .ok (.aload_n 3, 1) := dk_45 (dk_at dksX1_drive_3 8 rfl rfl)
theorem dX1_drive_78 : decode cX1_drive 78 = .ok (.getfield 142, 3) := dk_180 0 142 (dk_at dksX1_drive_3 9 rfl rfl)
theorem dX1_drive_81 : decode cX1_drive 81 = .ok (.iload_n 2, 1) := dk_28 (dk_at dksX1_drive_3 12 rfl rfl)
theorem dX1_drive_82 : decode cX1_drive 82 = .ok (.iastore, 1) := dk_79 (dk_at dksX1_drive_3 13 rfl rfl)
theorem dX1_drive_83 : decode cX1_drive 83 = .ok (.aload_n 3, 1) := dk_45 (dk_at dksX1_drive_3 14 rfl rfl)
theorem dX1_drive_84 : decode cX1_drive 84 = .ok (.dup, 1) := dk_89 (dk_at dksX1_drive_3 15 rfl rfl)
theorem dX1_drive_85 : decode cX1_drive 85 = .ok (.getfield 142, 3) := dk_180 0 142 (dk_at dksX1_drive_3 16 rfl rfl)
theorem dX1_drive_88 : decode cX1_drive 88 = .ok (.iconst 1, 1) := dk_4 (dk_at dksX1_drive_3 19 rfl rfl)
theorem dX1_drive_89 : decode cX1_drive 89 = .ok (.iadd, 1) := dk_96 (dk_at dksX1_drive_3 20 rfl rfl)
theorem dX1_drive_90 : decode cX1_drive 90 = .ok (.putfield 142, 3) := dk_181 0 142 (dk_at dksX1_drive_3 21 rfl rfl)
theorem dX1_drive_93 : decode cX1_drive 93 = .ok (.aload_n 3, 1) := dk_45 (dk_at dksX1_drive_4 0 rfl rfl)
theorem dX1_drive_94 : decode cX1_drive 94 = .ok (.getfield 142, 3) := dk_180 0 142 (dk_at dksX1_drive_4 1 rfl rfl)
theorem dX1_drive_97 : decode cX1_drive 97 = .ok (.ireturn, 1) := dk_172 (dk_at dksX1_drive_4 4 rfl rfl)
abbrev cX1_isCar : ByteArray := prog_1_method_13_code
def yX1_isCar : MethodName := ⟨RX1, "isCar", "(I)Z"⟩
def dkwX1_isCar_1 : List UInt8 := [4, 167, 0, 4, 3, 172]
abbrev dktX1_isCar_1 : List UInt8 := dkwX1_isCar_1 ++ []
def dkwX1_isCar_0 : List UInt8 := [42, 180, 0, 129, 198, 0, 24, 27, 3, 42, 180, 0, 129, 180, 0, 166, 4, 100, 184, 0, 114, 153, 0, 7]
abbrev dktX1_isCar_0 : List UInt8 := dkwX1_isCar_0 ++ dktX1_isCar_1
theorem dksX1_isCar_0 : cX1_isCar.data.toList.drop 0 = dktX1_isCar_0 := by decide +kernel
theorem dksX1_isCar_1 : cX1_isCar.data.toList.drop 24 = dktX1_isCar_1 := dk_seg dksX1_isCar_0 24 rfl rfl
theorem dX1_isCar_0 : decode cX1_isCar 0 = .ok (.aload_n 0, 1) := dk_42 (dk_at dksX1_isCar_0 0 rfl rfl)
theorem dX1_isCar_1 : decode cX1_isCar 1 = .ok (.getfield 129, 3) := dk_180 0 129 (dk_at dksX1_isCar_0 1 rfl rfl)
theorem dX1_isCar_4 : decode cX1_isCar 4 = .ok (.ifnull 24, 3) := dk_198 0 24 (dk_at dksX1_isCar_0 4 rfl rfl)
theorem dX1_isCar_7 : decode cX1_isCar 7 = .ok (.iload_n 1, 1) := dk_27 (dk_at dksX1_isCar_0 7 rfl rfl)
theorem dX1_isCar_8 : decode cX1_isCar 8 = .ok (.iconst 0, 1) := dk_3 (dk_at dksX1_isCar_0 8 rfl rfl)
theorem dX1_isCar_9 : decode cX1_isCar 9 = .ok (.aload_n 0, 1) := dk_42 (dk_at dksX1_isCar_0 9 rfl rfl)
theorem dX1_isCar_10 : decode cX1_isCar 10 = .ok (.getfield 129, 3) := dk_180 0 129 (dk_at dksX1_isCar_0 10 rfl rfl)
theorem dX1_isCar_13 : decode cX1_isCar 13 = .ok (.getfield 166, 3) := dk_180 0 166 (dk_at dksX1_isCar_0 13 rfl rfl)
theorem dX1_isCar_16 : decode cX1_isCar 16 = .ok (.iconst 1, 1) := dk_4 (dk_at dksX1_isCar_0 16 rfl rfl)
theorem dX1_isCar_17 : decode cX1_isCar 17 = .ok (.isub, 1) := dk_100 (dk_at dksX1_isCar_0 17 rfl rfl)
theorem dX1_isCar_18 : decode cX1_isCar 18 = .ok (.invokestatic 114, 3) := dk_184 0 114 (dk_at dksX1_isCar_0 18 rfl rfl)
theorem dX1_isCar_21 : decode cX1_isCar 21 = .ok (.ifCond .eq 7, 3) := dk_153 0 7 (dk_at dksX1_isCar_0 21 rfl rfl)
theorem dX1_isCar_24 : decode cX1_isCar 24 = .ok (.iconst 1, 1) := dk_4 (dk_at dksX1_isCar_1 0 rfl rfl)
theorem dX1_isCar_25 : decode cX1_isCar 25 = .ok (.goto 4, 3) := dk_167 0 4 (dk_at dksX1_isCar_1 1 rfl rfl)
theorem dX1_isCar_28 : decode cX1_isCar 28 = .ok (.iconst 0, 1) := dk_3 (dk_at dksX1_isCar_1 4 rfl rfl)
theorem dX1_isCar_29 : decode cX1_isCar 29 = .ok (.ireturn, 1) := dk_172 (dk_at dksX1_isCar_1 5 rfl rfl)
abbrev cX1_isHouse : ByteArray := prog_1_method_14_code
def yX1_isHouse : MethodName := ⟨RX1, "isHouse", "(I)Z"⟩
def dkwX1_isHouse_1 : List UInt8 := [4, 167, 0, 4, 3, 172]
abbrev dktX1_isHouse_1 : List UInt8 := dkwX1_isHouse_1 ++ []
def dkwX1_isHouse_0 : List UInt8 := [42, 180, 0, 129, 198, 0, 24, 27, 3, 42, 180, 0, 129, 180, 0, 161, 4, 100, 184, 0, 114, 153, 0, 7]
abbrev dktX1_isHouse_0 : List UInt8 := dkwX1_isHouse_0 ++ dktX1_isHouse_1
theorem dksX1_isHouse_0 : cX1_isHouse.data.toList.drop 0 = dktX1_isHouse_0 := by decide +kernel
theorem dksX1_isHouse_1 : cX1_isHouse.data.toList.drop 24 = dktX1_isHouse_1 := dk_seg dksX1_isHouse_0 24 rfl rfl
theorem dX1_isHouse_0 : decode cX1_isHouse 0 = .ok (.aload_n 0, 1) := dk_42 (dk_at dksX1_isHouse_0 0 rfl rfl)
theorem dX1_isHouse_1 : decode cX1_isHouse 1 = .ok (.getfield 129, 3) := dk_180 0 129 (dk_at dksX1_isHouse_0 1 rfl rfl)
theorem dX1_isHouse_4 : decode cX1_isHouse 4 = .ok (.ifnull 24, 3) := dk_198 0 24 (dk_at dksX1_isHouse_0 4 rfl rfl)
theorem dX1_isHouse_7 : decode cX1_isHouse 7 = .ok (.iload_n 1, 1) := dk_27 (dk_at dksX1_isHouse_0 7 rfl rfl)
theorem dX1_isHouse_8 : decode cX1_isHouse 8 = .ok (.iconst 0, 1) := dk_3 (dk_at dksX1_isHouse_0 8 rfl rfl)
theorem dX1_isHouse_9 : decode cX1_isHouse 9 = .ok (.aload_n 0, 1) := dk_42 (dk_at dksX1_isHouse_0 9 rfl rfl)
theorem dX1_isHouse_10 : decode cX1_isHouse 10 = .ok (.getfield 129, 3) := dk_180 0 129 (dk_at dksX1_isHouse_0 10 rfl rfl)
theorem dX1_isHouse_13 : decode cX1_isHouse 13 = .ok (.getfield 161, 3) := dk_180 0 161 (dk_at dksX1_isHouse_0 13 rfl rfl)
theorem dX1_isHouse_16 : decode cX1_isHouse 16 = .ok (.iconst 1, 1) := dk_4 (dk_at dksX1_isHouse_0 16 rfl rfl)
theorem dX1_isHouse_17 : decode cX1_isHouse 17 = .ok (.isub, 1) := dk_100 (dk_at dksX1_isHouse_0 17 rfl rfl)
theorem dX1_isHouse_18 : decode cX1_isHouse 18 = .ok (.invokestatic 114, 3) := dk_184 0 114 (dk_at dksX1_isHouse_0 18 rfl rfl)
theorem dX1_isHouse_21 : decode cX1_isHouse 21 = .ok (.ifCond .eq 7, 3) := dk_153 0 7 (dk_at dksX1_isHouse_0 21 rfl rfl)
theorem dX1_isHouse_24 : decode cX1_isHouse 24 = .ok (.iconst 1, 1) := dk_4 (dk_at dksX1_isHouse_1 0 rfl rfl)
theorem dX1_isHouse_25 : decode cX1_isHouse 25 = .ok (.goto 4, 3) := dk_167 0 4 (dk_at dksX1_isHouse_1 1 rfl rfl)
theorem dX1_isHouse_28 : decode cX1_isHouse 28 = .ok (.iconst 0, 1) := dk_3 (dk_at dksX1_isHouse_1 4 rfl rfl)
theorem dX1_isHouse_29 : decode cX1_isHouse 29 = .ok (.ireturn, 1) := dk_172 (dk_at dksX1_isHouse_1 5 rfl rfl)
abbrev cX1_carOf : ByteArray := prog_1_method_16_code
def yX1_carOf : MethodName := ⟨RX1, "carOf", "(I)I"⟩
def dkwX1_carOf_2 : List UInt8 := [2, 172]
abbrev dktX1_carOf_2 : List UInt8 := dkwX1_carOf_2 ++ []
def dkwX1_carOf_1 : List UInt8 := [160, 0, 9, 132, 2, 1, 167, 255, 228, 28, 42, 180, 0, 129, 180, 0, 166, 162, 0, 7, 28, 167, 0, 4]
abbrev dktX1_carOf_1 : List UInt8 := dkwX1_carOf_1 ++ dktX1_carOf_2
def dkwX1_carOf_0 : List UInt8 := [3, 61, 28, 42, 180, 0, 129, 180, 0, 166, 162, 0, 23, 42, 180, 0, 28, 28, 50, 27, 182, 0, 169, 2]
abbrev dktX1_carOf_0 : List UInt8 := dkwX1_carOf_0 ++ dktX1_carOf_1
theorem dksX1_carOf_0 : cX1_carOf.data.toList.drop 0 = dktX1_carOf_0 := by decide +kernel
theorem dksX1_carOf_1 : cX1_carOf.data.toList.drop 24 = dktX1_carOf_1 := dk_seg dksX1_carOf_0 24 rfl rfl
theorem dksX1_carOf_2 : cX1_carOf.data.toList.drop 48 = dktX1_carOf_2 := dk_seg dksX1_carOf_1 24 rfl rfl
theorem dX1_carOf_0 : decode cX1_carOf 0 = .ok (.iconst 0, 1) := dk_3 (dk_at dksX1_carOf_0 0 rfl rfl)
theorem dX1_carOf_1 : decode cX1_carOf 1 = .ok (.istore_n 2, 1) := dk_61 (dk_at dksX1_carOf_0 1 rfl rfl)
theorem dX1_carOf_2 : decode cX1_carOf 2 = .ok (.iload_n 2, 1) := dk_28 (dk_at dksX1_carOf_0 2 rfl rfl)
theorem dX1_carOf_3 : decode cX1_carOf 3 = .ok (.aload_n 0, 1) := dk_42 (dk_at dksX1_carOf_0 3 rfl rfl)
theorem dX1_carOf_4 : decode cX1_carOf 4 = .ok (.getfield 129, 3) := dk_180 0 129 (dk_at dksX1_carOf_0 4 rfl rfl)
theorem dX1_carOf_7 : decode cX1_carOf 7 = .ok (.getfield 166, 3) := dk_180 0 166 (dk_at dksX1_carOf_0 7 rfl rfl)
theorem dX1_carOf_10 : decode cX1_carOf 10 = .ok (.if_icmp .ge 23, 3) := dk_162 0 23 (dk_at dksX1_carOf_0 10 rfl rfl)
theorem dX1_carOf_13 : decode cX1_carOf 13 = .ok (.aload_n 0, 1) := dk_42 (dk_at dksX1_carOf_0 13 rfl rfl)
theorem dX1_carOf_14 : decode cX1_carOf 14 = .ok (.getfield 28, 3) := dk_180 0 28 (dk_at dksX1_carOf_0 14 rfl rfl)
theorem dX1_carOf_17 : decode cX1_carOf 17 = .ok (.iload_n 2, 1) := dk_28 (dk_at dksX1_carOf_0 17 rfl rfl)
theorem dX1_carOf_18 : decode cX1_carOf 18 = .ok (.aaload, 1) := dk_50 (dk_at dksX1_carOf_0 18 rfl rfl)
theorem dX1_carOf_19 : decode cX1_carOf 19 = .ok (.iload_n 1, 1) := dk_27 (dk_at dksX1_carOf_0 19 rfl rfl)
theorem dX1_carOf_20 : decode cX1_carOf 20 = .ok (.invokevirtual 169, 3) := dk_182 0 169 (dk_at dksX1_carOf_0 20 rfl rfl)
theorem dX1_carOf_23 : decode cX1_carOf 23 = .ok (.iconst (-1), 1) := dk_2 (dk_at dksX1_carOf_0 23 rfl rfl)
theorem dX1_carOf_24 : decode cX1_carOf 24 = .ok (.if_icmp .ne 9, 3) := dk_160 0 9 (dk_at dksX1_carOf_1 0 rfl rfl)
theorem dX1_carOf_27 : decode cX1_carOf 27 = .ok (.iinc 2 1, 3) := dk_132 2 1 (dk_at dksX1_carOf_1 3 rfl rfl)
theorem dX1_carOf_30 : decode cX1_carOf 30 = .ok (.goto (-28), 3) := dk_167 255 228 (dk_at dksX1_carOf_1 6 rfl rfl)
theorem dX1_carOf_33 : decode cX1_carOf 33 = .ok (.iload_n 2, 1) := dk_28 (dk_at dksX1_carOf_1 9 rfl rfl)
theorem dX1_carOf_34 : decode cX1_carOf 34 = .ok (.aload_n 0, 1) := dk_42 (dk_at dksX1_carOf_1 10 rfl rfl)
theorem dX1_carOf_35 : decode cX1_carOf 35 = .ok (.getfield 129, 3) := dk_180 0 129 (dk_at dksX1_carOf_1 11 rfl rfl)
theorem dX1_carOf_38 : decode cX1_carOf 38 = .ok (.getfield 166, 3) := dk_180 0 166 (dk_at dksX1_carOf_1 14 rfl rfl)
theorem dX1_carOf_41 : decode cX1_carOf 41 = .ok (.if_icmp .ge 7, 3) := dk_162 0 7 (dk_at dksX1_carOf_1 17 rfl rfl)
theorem dX1_carOf_44 : decode cX1_carOf 44 = .ok (.iload_n 2, 1) := dk_28 (dk_at dksX1_carOf_1 20 rfl rfl)
theorem dX1_carOf_45 : decode cX1_carOf 45 = .ok (.goto 4, 3) := dk_167 0 4 (dk_at dksX1_carOf_1 21 rfl rfl)
theorem dX1_carOf_48 : decode cX1_carOf 48 = .ok (.iconst (-1), 1) := dk_2 (dk_at dksX1_carOf_2 0 rfl rfl)
theorem dX1_carOf_49 : decode cX1_carOf 49 = .ok (.ireturn, 1) := dk_172 (dk_at dksX1_carOf_2 1 rfl rfl)
abbrev cX1_unload : ByteArray := prog_1_method_18_code
def yX1_unload : MethodName := ⟨RX1, "unload", "(I)I"⟩
def dkwX1_unload_1 : List UInt8 := [180, 0, 142, 61, 42, 180, 0, 28, 27, 50, 3, 181, 0, 142, 28, 172]
abbrev dktX1_unload_1 : List UInt8 := dkwX1_unload_1 ++ []
def dkwX1_unload_0 : List UInt8 := [42, 182, 0, 104, 42, 27, 182, 0, 172, 154, 0, 9, 42, 4, 182, 0, 118, 172, 42, 180, 0, 28, 27, 50]
abbrev dktX1_unload_0 : List UInt8 := dkwX1_unload_0 ++ dktX1_unload_1
theorem dksX1_unload_0 : cX1_unload.data.toList.drop 0 = dktX1_unload_0 := by decide +kernel
theorem dksX1_unload_1 : cX1_unload.data.toList.drop 24 = dktX1_unload_1 := dk_seg dksX1_unload_0 24 rfl rfl
theorem dX1_unload_0 : decode cX1_unload 0 = .ok (.aload_n 0, 1) := dk_42 (dk_at dksX1_unload_0 0 rfl rfl)
theorem dX1_unload_1 : decode cX1_unload 1 = .ok (.invokevirtual 104, 3) := dk_182 0 104 (dk_at dksX1_unload_0 1 rfl rfl)
theorem dX1_unload_4 : decode cX1_unload 4 = .ok (.aload_n 0, 1) := dk_42 (dk_at dksX1_unload_0 4 rfl rfl)
theorem dX1_unload_5 : decode cX1_unload 5 = .ok (.iload_n 1, 1) := dk_27 (dk_at dksX1_unload_0 5 rfl rfl)
theorem dX1_unload_6 : decode cX1_unload 6 = .ok (.invokevirtual 172, 3) := dk_182 0 172 (dk_at dksX1_unload_0 6 rfl rfl)
theorem dX1_unload_9 : decode cX1_unload 9 = .ok (.ifCond .ne 9, 3) := dk_154 0 9 (dk_at dksX1_unload_0 9 rfl rfl)
theorem dX1_unload_12 : decode cX1_unload 12 = .ok (.aload_n 0, 1) := dk_42 (dk_at dksX1_unload_0 12 rfl rfl)
theorem dX1_unload_13 : decode cX1_unload 13 = .ok (.iconst 1, 1) := dk_4 (dk_at dksX1_unload_0 13 rfl rfl)
theorem dX1_unload_14 : decode cX1_unload 14 = .ok (.invokevirtual 118, 3) := dk_182 0 118 (dk_at dksX1_unload_0 14 rfl rfl)
theorem dX1_unload_17 : decode cX1_unload 17 = .ok (.ireturn, 1) := dk_172 (dk_at dksX1_unload_0 17 rfl rfl)
theorem dX1_unload_18 : decode cX1_unload 18 = .ok (.aload_n 0, 1) := dk_42 (dk_at dksX1_unload_0 18 rfl rfl)
theorem dX1_unload_19 : decode cX1_unload 19 = .ok (.getfield 28, 3) := dk_180 0 28 (dk_at dksX1_unload_0 19 rfl rfl)
theorem dX1_unload_22 : decode cX1_unload 22 = .ok (.iload_n 1, 1) := dk_27 (dk_at dksX1_unload_0 22 rfl rfl)
theorem dX1_unload_23 : decode cX1_unload 23 = .ok (.aaload, 1) := dk_50 (dk_at dksX1_unload_0 23 rfl rfl)
theorem dX1_unload_24 : decode cX1_unload 24 = .ok (.getfield 142, 3) := dk_180 0 142 (dk_at dksX1_unload_1 0 rfl rfl)
theorem dX1_unload_27 : decode cX1_unload 27 = .ok (.istore_n 2, 1) := dk_61 (dk_at dksX1_unload_1 3 rfl rfl)
theorem dX1_unload_28 : decode cX1_unload 28 = .ok (.aload_n 0, 1) := dk_42 (dk_at dksX1_unload_1 4 rfl rfl)
theorem dX1_unload_29 : decode cX1_unload 29 = .ok (.getfield 28, 3) := dk_180 0 28 (dk_at dksX1_unload_1 5 rfl rfl)
theorem dX1_unload_32 : decode cX1_unload 32 = .ok (.iload_n 1, 1) := dk_27 (dk_at dksX1_unload_1 8 rfl rfl)
theorem dX1_unload_33 : decode cX1_unload 33 = .ok (.aaload, 1) := dk_50 (dk_at dksX1_unload_1 9 rfl rfl)
theorem dX1_unload_34 : decode cX1_unload 34 = .ok (.iconst 0, 1) := dk_3 (dk_at dksX1_unload_1 10 rfl rfl)
theorem dX1_unload_35 : decode cX1_unload 35 = .ok (.putfield 142, 3) := dk_181 0 142 (dk_at dksX1_unload_1 11 rfl rfl)
theorem dX1_unload_38 : decode cX1_unload 38 = .ok (.iload_n 2, 1) := dk_28 (dk_at dksX1_unload_1 14 rfl rfl)
theorem dX1_unload_39 : decode cX1_unload 39 = .ok (.ireturn, 1) := dk_172 (dk_at dksX1_unload_1 15 rfl rfl)
abbrev cX1_tea : ByteArray := prog_1_method_19_code
def yX1_tea : MethodName := ⟨RX1, "tea", "(I)Z"⟩
def dkwX1_tea_1 : List UInt8 := [5, 182, 0, 196, 154, 0, 5, 3, 172, 42, 27, 181, 0, 139, 4, 172]
abbrev dktX1_tea_1 : List UInt8 := dkwX1_tea_1 ++ []
def dkwX1_tea_0 : List UInt8 := [42, 42, 180, 0, 129, 199, 0, 7, 4, 167, 0, 16, 42, 27, 182, 0, 193, 153, 0, 7, 3, 167, 0, 4]
abbrev dktX1_tea_0 : List UInt8 := dkwX1_tea_0 ++ dktX1_tea_1
theorem dksX1_tea_0 : cX1_tea.data.toList.drop 0 = dktX1_tea_0 := by decide +kernel
theorem dksX1_tea_1 : cX1_tea.data.toList.drop 24 = dktX1_tea_1 := dk_seg dksX1_tea_0 24 rfl rfl
theorem dX1_tea_0 : decode cX1_tea 0 = .ok (.aload_n 0, 1) := dk_42 (dk_at dksX1_tea_0 0 rfl rfl)
theorem dX1_tea_1 : decode cX1_tea 1 = .ok (.aload_n 0, 1) := dk_42 (dk_at dksX1_tea_0 1 rfl rfl)
theorem dX1_tea_2 : decode cX1_tea 2 = .ok (.getfield 129, 3) := dk_180 0 129 (dk_at dksX1_tea_0 2 rfl rfl)
theorem dX1_tea_5 : decode cX1_tea 5 = .ok (.ifnonnull 7, 3) := dk_199 0 7 (dk_at dksX1_tea_0 5 rfl rfl)
theorem dX1_tea_8 : decode cX1_tea 8 = .ok (.iconst 1, 1) := dk_4 (dk_at dksX1_tea_0 8 rfl rfl)
theorem dX1_tea_9 : decode cX1_tea 9 = .ok (.goto 16, 3) := dk_167 0 16 (dk_at dksX1_tea_0 9 rfl rfl)
theorem dX1_tea_12 : decode cX1_tea 12 = .ok (.aload_n 0, 1) := dk_42 (dk_at dksX1_tea_0 12 rfl rfl)
theorem dX1_tea_13 : decode cX1_tea 13 = .ok (.iload_n 1, 1) := dk_27 (dk_at dksX1_tea_0 13 rfl rfl)
theorem dX1_tea_14 : decode cX1_tea 14 = .ok (.invokevirtual 193, 3) := dk_182 0 193 (dk_at dksX1_tea_0 14 rfl rfl)
theorem dX1_tea_17 : decode cX1_tea 17 = .ok (.ifCond .eq 7, 3) := dk_153 0 7 (dk_at dksX1_tea_0 17 rfl rfl)
theorem dX1_tea_20 : decode cX1_tea 20 = .ok (.iconst 0, 1) := dk_3 (dk_at dksX1_tea_0 20 rfl rfl)
theorem dX1_tea_21 : decode cX1_tea 21 = .ok (.goto 4, 3) := dk_167 0 4 (dk_at dksX1_tea_0 21 rfl rfl)
theorem dX1_tea_24 : decode cX1_tea 24 = .ok (.iconst 2, 1) := dk_5 (dk_at dksX1_tea_1 0 rfl rfl)
theorem dX1_tea_25 : decode cX1_tea 25 = .ok (.invokevirtual 196, 3) := dk_182 0 196 (dk_at dksX1_tea_1 1 rfl rfl)
theorem dX1_tea_28 : decode cX1_tea 28 = .ok (.ifCond .ne 5, 3) := dk_154 0 5 (dk_at dksX1_tea_1 4 rfl rfl)
theorem dX1_tea_31 : decode cX1_tea 31 = .ok (.iconst 0, 1) := dk_3 (dk_at dksX1_tea_1 7 rfl rfl)
theorem dX1_tea_32 : decode cX1_tea 32 = .ok (.ireturn, 1) := dk_172 (dk_at dksX1_tea_1 8 rfl rfl)
theorem dX1_tea_33 : decode cX1_tea 33 = .ok (.aload_n 0, 1) := dk_42 (dk_at dksX1_tea_1 9 rfl rfl)
theorem dX1_tea_34 : decode cX1_tea 34 = .ok (.iload_n 1, 1) := dk_27 (dk_at dksX1_tea_1 10 rfl rfl)
theorem dX1_tea_35 : decode cX1_tea 35 = .ok (.putfield 139, 3) := dk_181 0 139 (dk_at dksX1_tea_1 11 rfl rfl)
theorem dX1_tea_38 : decode cX1_tea 38 = .ok (.iconst 1, 1) := dk_4 (dk_at dksX1_tea_1 14 rfl rfl)
theorem dX1_tea_39 : decode cX1_tea 39 = .ok (.ireturn, 1) := dk_172 (dk_at dksX1_tea_1 15 rfl rfl)
abbrev cX1_isSet : ByteArray := prog_1_method_15_code
def yX1_isSet : MethodName := ⟨RX1, "isSet", "(I)Z"⟩
def dkwX1_isSet_1 : List UInt8 := [153, 0, 7, 4, 167, 0, 4, 3, 172]
abbrev dktX1_isSet_1 : List UInt8 := dkwX1_isSet_1 ++ []
def dkwX1_isSet_0 : List UInt8 := [42, 180, 0, 129, 198, 0, 26, 27, 3, 4, 42, 180, 0, 129, 180, 0, 161, 120, 4, 100, 184, 0, 114]
abbrev dktX1_isSet_0 : List UInt8 := dkwX1_isSet_0 ++ dktX1_isSet_1
theorem dksX1_isSet_0 : cX1_isSet.data.toList.drop 0 = dktX1_isSet_0 := by decide +kernel
theorem dksX1_isSet_1 : cX1_isSet.data.toList.drop 23 = dktX1_isSet_1 := dk_seg dksX1_isSet_0 23 rfl rfl
theorem dX1_isSet_0 : decode cX1_isSet 0 = .ok (.aload_n 0, 1) := dk_42 (dk_at dksX1_isSet_0 0 rfl rfl)
theorem dX1_isSet_1 : decode cX1_isSet 1 = .ok (.getfield 129, 3) := dk_180 0 129 (dk_at dksX1_isSet_0 1 rfl rfl)
theorem dX1_isSet_4 : decode cX1_isSet 4 = .ok (.ifnull 26, 3) := dk_198 0 26 (dk_at dksX1_isSet_0 4 rfl rfl)
theorem dX1_isSet_7 : decode cX1_isSet 7 = .ok (.iload_n 1, 1) := dk_27 (dk_at dksX1_isSet_0 7 rfl rfl)
theorem dX1_isSet_8 : decode cX1_isSet 8 = .ok (.iconst 0, 1) := dk_3 (dk_at dksX1_isSet_0 8 rfl rfl)
theorem dX1_isSet_9 : decode cX1_isSet 9 = .ok (.iconst 1, 1) := dk_4 (dk_at dksX1_isSet_0 9 rfl rfl)
theorem dX1_isSet_10 : decode cX1_isSet 10 = .ok (.aload_n 0, 1) := dk_42 (dk_at dksX1_isSet_0 10 rfl rfl)
theorem dX1_isSet_11 : decode cX1_isSet 11 = .ok (.getfield 129, 3) := dk_180 0 129 (dk_at dksX1_isSet_0 11 rfl rfl)
theorem dX1_isSet_14 : decode cX1_isSet 14 = .ok (.getfield 161, 3) := dk_180 0 161 (dk_at dksX1_isSet_0 14 rfl rfl)
theorem dX1_isSet_17 : decode cX1_isSet 17 = .ok (.ishl, 1) := dk_120 (dk_at dksX1_isSet_0 17 rfl rfl)
theorem dX1_isSet_18 : decode cX1_isSet 18 = .ok (.iconst 1, 1) := dk_4 (dk_at dksX1_isSet_0 18 rfl rfl)
theorem dX1_isSet_19 : decode cX1_isSet 19 = .ok (.isub, 1) := dk_100 (dk_at dksX1_isSet_0 19 rfl rfl)
theorem dX1_isSet_20 : decode cX1_isSet 20 = .ok (.invokestatic 114, 3) := dk_184 0 114 (dk_at dksX1_isSet_0 20 rfl rfl)
theorem dX1_isSet_23 : decode cX1_isSet 23 = .ok (.ifCond .eq 7, 3) := dk_153 0 7 (dk_at dksX1_isSet_1 0 rfl rfl)
theorem dX1_isSet_26 : decode cX1_isSet 26 = .ok (.iconst 1, 1) := dk_4 (dk_at dksX1_isSet_1 3 rfl rfl)
theorem dX1_isSet_27 : decode cX1_isSet 27 = .ok (.goto 4, 3) := dk_167 0 4 (dk_at dksX1_isSet_1 4 rfl rfl)
theorem dX1_isSet_30 : decode cX1_isSet 30 = .ok (.iconst 0, 1) := dk_3 (dk_at dksX1_isSet_1 7 rfl rfl)
theorem dX1_isSet_31 : decode cX1_isSet 31 = .ok (.ireturn, 1) := dk_172 (dk_at dksX1_isSet_1 8 rfl rfl)
abbrev cX1_yes : ByteArray := prog_1_method_7_code
def yX1_yes : MethodName := ⟨RX1, "yes", "(I)Z"⟩
def dkwX1_yes_0 : List UInt8 := [42, 182, 0, 104, 42, 27, 181, 0, 101, 27, 154, 0, 7, 4, 167, 0, 4, 3, 172]
abbrev dktX1_yes_0 : List UInt8 := dkwX1_yes_0 ++ []
theorem dksX1_yes_0 : cX1_yes.data.toList.drop 0 = dktX1_yes_0 := by decide +kernel
theorem dX1_yes_0 : decode cX1_yes 0 = .ok (.aload_n 0, 1) := dk_42 (dk_at dksX1_yes_0 0 rfl rfl)
theorem dX1_yes_1 : decode cX1_yes 1 = .ok (.invokevirtual 104, 3) := dk_182 0 104 (dk_at dksX1_yes_0 1 rfl rfl)
theorem dX1_yes_4 : decode cX1_yes 4 = .ok (.aload_n 0, 1) := dk_42 (dk_at dksX1_yes_0 4 rfl rfl)
theorem dX1_yes_5 : decode cX1_yes 5 = .ok (.iload_n 1, 1) := dk_27 (dk_at dksX1_yes_0 5 rfl rfl)
theorem dX1_yes_6 : decode cX1_yes 6 = .ok (.putfield 101, 3) := dk_181 0 101 (dk_at dksX1_yes_0 6 rfl rfl)
theorem dX1_yes_9 : decode cX1_yes 9 = .ok (.iload_n 1, 1) := dk_27 (dk_at dksX1_yes_0 9 rfl rfl)
theorem dX1_yes_10 : decode cX1_yes 10 = .ok (.ifCond .ne 7, 3) := dk_154 0 7 (dk_at dksX1_yes_0 10 rfl rfl)
theorem dX1_yes_13 : decode cX1_yes 13 = .ok (.iconst 1, 1) := dk_4 (dk_at dksX1_yes_0 13 rfl rfl)
theorem dX1_yes_14 : decode cX1_yes 14 = .ok (.goto 4, 3) := dk_167 0 4 (dk_at dksX1_yes_0 14 rfl rfl)
theorem dX1_yes_17 : decode cX1_yes 17 = .ok (.iconst 0, 1) := dk_3 (dk_at dksX1_yes_0 17 rfl rfl)
theorem dX1_yes_18 : decode cX1_yes 18 = .ok (.ireturn, 1) := dk_172 (dk_at dksX1_yes_0 18 rfl rfl)
abbrev cX1_comes : ByteArray := prog_1_method_23_code
def yX1_comes : MethodName := ⟨RX1, "comes", "(I)I"⟩
def dkwX1_comes_1 : List UInt8 := [27, 182, 0, 179, 27, 182, 0, 213, 172]
abbrev dktX1_comes_1 : List UInt8 := dkwX1_comes_1 ++ []
def dkwX1_comes_0 : List UInt8 := [42, 182, 0, 104, 42, 27, 182, 0, 210, 61, 28, 153, 0, 11, 42, 28, 182, 0, 118, 167, 0, 13, 42, 42]
abbrev dktX1_comes_0 : List UInt8 := dkwX1_comes_0 ++ dktX1_comes_1
theorem dksX1_comes_0 : cX1_comes.data.toList.drop 0 = dktX1_comes_0 := by decide +kernel
theorem dksX1_comes_1 : cX1_comes.data.toList.drop 24 = dktX1_comes_1 := dk_seg dksX1_comes_0 24 rfl rfl
theorem dX1_comes_0 : decode cX1_comes 0 = .ok (.aload_n 0, 1) := dk_42 (dk_at dksX1_comes_0 0 rfl rfl)
theorem dX1_comes_1 : decode cX1_comes 1 = .ok (.invokevirtual 104, 3) := dk_182 0 104 (dk_at dksX1_comes_0 1 rfl rfl)
theorem dX1_comes_4 : decode cX1_comes 4 = .ok (.aload_n 0, 1) := dk_42 (dk_at dksX1_comes_0 4 rfl rfl)
theorem dX1_comes_5 : decode cX1_comes 5 = .ok (.iload_n 1, 1) := dk_27 (dk_at dksX1_comes_0 5 rfl rfl)
theorem dX1_comes_6 : decode cX1_comes 6 = .ok (.invokevirtual 210, 3) := dk_182 0 210 (dk_at dksX1_comes_0 6 rfl rfl)
theorem dX1_comes_9 : decode cX1_comes 9 = .ok (.istore_n 2, 1) := dk_61 (dk_at dksX1_comes_0 9 rfl rfl)
theorem dX1_comes_10 : decode cX1_comes 10 = .ok (.iload_n 2, 1) := dk_28 (dk_at dksX1_comes_0 10 rfl rfl)
theorem dX1_comes_11 : decode cX1_comes 11 = .ok (.ifCond .eq 11, 3) := dk_153 0 11 (dk_at dksX1_comes_0 11 rfl rfl)
theorem dX1_comes_14 : decode cX1_comes 14 = .ok (.aload_n 0, 1) := dk_42 (dk_at dksX1_comes_0 14 rfl rfl)
theorem dX1_comes_15 : decode cX1_comes 15 = .ok (.iload_n 2, 1) := dk_28 (dk_at dksX1_comes_0 15 rfl rfl)
theorem dX1_comes_16 : decode cX1_comes 16 = .ok (.invokevirtual 118, 3) := dk_182 0 118 (dk_at dksX1_comes_0 16 rfl rfl)
theorem dX1_comes_19 : decode cX1_comes 19 = .ok (.goto 13, 3) := dk_167 0 13 (dk_at dksX1_comes_0 19 rfl rfl)
theorem dX1_comes_22 : decode cX1_comes 22 = .ok (.aload_n 0, 1) := dk_42 (dk_at dksX1_comes_0 22 rfl rfl)
theorem dX1_comes_23 : decode cX1_comes 23 = .ok (.aload_n 0, 1) := dk_42 (dk_at dksX1_comes_0 23 rfl rfl)
theorem dX1_comes_24 : decode cX1_comes 24 = .ok (.iload_n 1, 1) := dk_27 (dk_at dksX1_comes_1 0 rfl rfl)
theorem dX1_comes_25 : decode cX1_comes 25 = .ok (.invokevirtual 179, 3) := dk_182 0 179 (dk_at dksX1_comes_1 1 rfl rfl)
theorem dX1_comes_28 : decode cX1_comes 28 = .ok (.iload_n 1, 1) := dk_27 (dk_at dksX1_comes_1 4 rfl rfl)
theorem dX1_comes_29 : decode cX1_comes 29 = .ok (.invokevirtual 213, 3) := dk_182 0 213 (dk_at dksX1_comes_1 5 rfl rfl)
theorem dX1_comes_32 : decode cX1_comes 32 = .ok (.ireturn, 1) := dk_172 (dk_at dksX1_comes_1 8 rfl rfl)
abbrev cX1_drivenWhy : ByteArray := prog_1_method_22_code
def yX1_drivenWhy : MethodName := ⟨RX1, "drivenWhy", "(I)I"⟩
def dkwX1_drivenWhy_1 : List UInt8 := [167, 0, 4, 3, 172]
abbrev dktX1_drivenWhy_1 : List UInt8 := dkwX1_drivenWhy_1 ++ []
def dkwX1_drivenWhy_0 : List UInt8 := [42, 27, 182, 0, 176, 154, 0, 7, 4, 167, 0, 18, 42, 27, 182, 0, 179, 2, 160, 0, 8, 16, 6]
abbrev dktX1_drivenWhy_0 : List UInt8 := dkwX1_drivenWhy_0 ++ dktX1_drivenWhy_1
theorem dksX1_drivenWhy_0 : cX1_drivenWhy.data.toList.drop 0 = dktX1_drivenWhy_0 := by decide +kernel
theorem dksX1_drivenWhy_1 : cX1_drivenWhy.data.toList.drop 23 = dktX1_drivenWhy_1 := dk_seg dksX1_drivenWhy_0 23 rfl rfl
theorem dX1_drivenWhy_0 : decode cX1_drivenWhy 0 = .ok (.aload_n 0, 1) := dk_42 (dk_at dksX1_drivenWhy_0 0 rfl rfl)
theorem dX1_drivenWhy_1 : decode cX1_drivenWhy 1 = .ok (.iload_n 1, 1) := dk_27 (dk_at dksX1_drivenWhy_0 1 rfl rfl)
theorem dX1_drivenWhy_2 : decode cX1_drivenWhy 2 = .ok (.invokevirtual 176, 3) := dk_182 0 176 (dk_at dksX1_drivenWhy_0 2 rfl rfl)
theorem dX1_drivenWhy_5 : decode cX1_drivenWhy 5 = .ok (.ifCond .ne 7, 3) := dk_154 0 7 (dk_at dksX1_drivenWhy_0 5 rfl rfl)
theorem dX1_drivenWhy_8 : decode cX1_drivenWhy 8 = .ok (.iconst 1, 1) := dk_4 (dk_at dksX1_drivenWhy_0 8 rfl rfl)
theorem dX1_drivenWhy_9 : decode cX1_drivenWhy 9 = .ok (.goto 18, 3) := dk_167 0 18 (dk_at dksX1_drivenWhy_0 9 rfl rfl)
theorem dX1_drivenWhy_12 : decode cX1_drivenWhy 12 = .ok (.aload_n 0, 1) := dk_42 (dk_at dksX1_drivenWhy_0 12 rfl rfl)
theorem dX1_drivenWhy_13 : decode cX1_drivenWhy 13 = .ok (.iload_n 1, 1) := dk_27 (dk_at dksX1_drivenWhy_0 13 rfl rfl)
theorem dX1_drivenWhy_14 : decode cX1_drivenWhy 14 = .ok (.invokevirtual 179, 3) := dk_182 0 179 (dk_at dksX1_drivenWhy_0 14 rfl rfl)
theorem dX1_drivenWhy_17 : decode cX1_drivenWhy 17 = .ok (.iconst (-1), 1) := dk_2 (dk_at dksX1_drivenWhy_0 17 rfl rfl)
theorem dX1_drivenWhy_18 : decode cX1_drivenWhy 18 = .ok (.if_icmp .ne 8, 3) := dk_160 0 8 (dk_at dksX1_drivenWhy_0 18 rfl rfl)
theorem dX1_drivenWhy_21 : decode cX1_drivenWhy 21 = .ok (.bipush 6, 2) := dk_16 6 (dk_at dksX1_drivenWhy_0 21 rfl rfl)
theorem dX1_drivenWhy_23 : decode cX1_drivenWhy 23 = .ok (.goto 4, 3) := dk_167 0 4 (dk_at dksX1_drivenWhy_1 0 rfl rfl)
theorem dX1_drivenWhy_26 : decode cX1_drivenWhy 26 = .ok (.iconst 0, 1) := dk_3 (dk_at dksX1_drivenWhy_1 3 rfl rfl)
theorem dX1_drivenWhy_27 : decode cX1_drivenWhy 27 = .ok (.ireturn, 1) := dk_172 (dk_at dksX1_drivenWhy_1 4 rfl rfl)
abbrev cX1_comesTo : ByteArray := prog_1_method_21_code
def yX1_comesTo : MethodName := ⟨RX1, "comesTo", "(II)I"⟩
def dkwX1_comesTo_0 : List UInt8 := [42, 27, 42, 180, 0, 139, 182, 0, 203, 78, 45, 180, 0, 207, 45, 28, 182, 0, 169, 46, 172]
abbrev dktX1_comesTo_0 : List UInt8 := dkwX1_comesTo_0 ++ []
theorem dksX1_comesTo_0 : cX1_comesTo.data.toList.drop 0 = dktX1_comesTo_0 := by decide +kernel
theorem dX1_comesTo_0 : decode cX1_comesTo 0 = .ok (.aload_n 0, 1) := dk_42 (dk_at dksX1_comesTo_0 0 rfl rfl)
theorem dX1_comesTo_1 : decode cX1_comesTo 1 = .ok (.iload_n 1, 1) := dk_27 (dk_at dksX1_comesTo_0 1 rfl rfl)
theorem dX1_comesTo_2 : decode cX1_comesTo 2 = .ok (.aload_n 0, 1) := dk_42 (dk_at dksX1_comesTo_0 2 rfl rfl)
theorem dX1_comesTo_3 : decode cX1_comesTo 3 = .ok (.getfield 139, 3) := dk_180 0 139 (dk_at dksX1_comesTo_0 3 rfl rfl)
theorem dX1_comesTo_6 : decode cX1_comesTo 6 = .ok (.invokevirtual 203, 3) := dk_182 0 203 (dk_at dksX1_comesTo_0 6 rfl rfl)
theorem dX1_comesTo_9 : decode cX1_comesTo 9 = .ok (.astore_n 3, 1) := dk_78 (dk_at dksX1_comesTo_0 9 rfl rfl)
theorem dX1_comesTo_10 : decode cX1_comesTo 10 = .ok (.aload_n 3, 1) := dk_45 (dk_at dksX1_comesTo_0 10 rfl rfl)
theorem dX1_comesTo_11 : decode cX1_comesTo 11 = .ok (.getfield 207, 3) := dk_180 0 207 (dk_at dksX1_comesTo_0 11 rfl rfl)
theorem dX1_comesTo_14 : decode cX1_comesTo 14 = .ok (.aload_n 3, 1) := dk_45 (dk_at dksX1_comesTo_0 14 rfl rfl)
theorem dX1_comesTo_15 : decode cX1_comesTo 15 = .ok (.iload_n 2, 1) := dk_28 (dk_at dksX1_comesTo_0 15 rfl rfl)
theorem dX1_comesTo_16 : decode cX1_comesTo 16 = .ok (.invokevirtual 169, 3) := dk_182 0 169 (dk_at dksX1_comesTo_0 16 rfl rfl)
theorem dX1_comesTo_19 : decode cX1_comesTo 19 = .ok (.iaload, 1) := dk_46 (dk_at dksX1_comesTo_0 19 rfl rfl)
theorem dX1_comesTo_20 : decode cX1_comesTo 20 = .ok (.ireturn, 1) := dk_172 (dk_at dksX1_comesTo_0 20 rfl rfl)
abbrev cX1_walked : ByteArray := prog_1_method_20_code
def yX1_walked : MethodName := ⟨RX1, "walked", "(II)LNoonMeals$Round;"⟩
def dkwX1_walked_0 : List UInt8 := [42, 180, 0, 28, 27, 50, 42, 180, 0, 129, 42, 180, 0, 129, 180, 0, 182, 27, 50, 28, 182, 0, 199, 176]
abbrev dktX1_walked_0 : List UInt8 := dkwX1_walked_0 ++ []
theorem dksX1_walked_0 : cX1_walked.data.toList.drop 0 = dktX1_walked_0 := by decide +kernel
theorem dX1_walked_0 : decode cX1_walked 0 = .ok (.aload_n 0, 1) := dk_42 (dk_at dksX1_walked_0 0 rfl rfl)
theorem dX1_walked_1 : decode cX1_walked 1 = .ok (.getfield 28, 3) := dk_180 0 28 (dk_at dksX1_walked_0 1 rfl rfl)
theorem dX1_walked_4 : decode cX1_walked 4 = .ok (.iload_n 1, 1) := dk_27 (dk_at dksX1_walked_0 4 rfl rfl)
theorem dX1_walked_5 : decode cX1_walked 5 = .ok (.aaload, 1) := dk_50 (dk_at dksX1_walked_0 5 rfl rfl)
theorem dX1_walked_6 : decode cX1_walked 6 = .ok (.aload_n 0, 1) := dk_42 (dk_at dksX1_walked_0 6 rfl rfl)
theorem dX1_walked_7 : decode cX1_walked 7 = .ok (.getfield 129, 3) := dk_180 0 129 (dk_at dksX1_walked_0 7 rfl rfl)
theorem dX1_walked_10 : decode cX1_walked 10 = .ok (.aload_n 0, 1) := dk_42 (dk_at dksX1_walked_0 10 rfl rfl)
theorem dX1_walked_11 : decode cX1_walked 11 = .ok (.getfield 129, 3) := dk_180 0 129 (dk_at dksX1_walked_0 11 rfl rfl)
theorem dX1_walked_14 : decode cX1_walked 14 = .ok (.getfield 182, 3) := dk_180 0 182 (dk_at dksX1_walked_0 14 rfl rfl)
theorem dX1_walked_17 : decode cX1_walked 17 = .ok (.iload_n 1, 1) := dk_27 (dk_at dksX1_walked_0 17 rfl rfl)
theorem dX1_walked_18 : decode cX1_walked 18 = .ok (.aaload, 1) := dk_50 (dk_at dksX1_walked_0 18 rfl rfl)
theorem dX1_walked_19 : decode cX1_walked 19 = .ok (.iload_n 2, 1) := dk_28 (dk_at dksX1_walked_0 19 rfl rfl)
theorem dX1_walked_20 : decode cX1_walked 20 = .ok (.invokevirtual 199, 3) := dk_182 0 199 (dk_at dksX1_walked_0 20 rfl rfl)
theorem dX1_walked_23 : decode cX1_walked 23 = .ok (.areturn, 1) := dk_176 (dk_at dksX1_walked_0 23 rfl rfl)
abbrev cX1_heat : ByteArray := prog_1_method_24_code
def yX1_heat : MethodName := ⟨RX1, "heat", "(I)I"⟩
def dkwX1_heat_2 : List UInt8 := [182, 0, 213, 182, 0, 217, 172]
abbrev dktX1_heat_2 : List UInt8 := dkwX1_heat_2 ++ []
def dkwX1_heat_1 : List UInt8 := [167, 0, 29, 42, 180, 0, 129, 180, 0, 182, 42, 27, 182, 0, 179, 50, 42, 42, 27, 182, 0, 179, 27]
abbrev dktX1_heat_1 : List UInt8 := dkwX1_heat_1 ++ dktX1_heat_2
def dkwX1_heat_0 : List UInt8 := [42, 182, 0, 104, 42, 42, 27, 182, 0, 210, 181, 0, 101, 42, 180, 0, 101, 153, 0, 9, 17, 252, 24]
abbrev dktX1_heat_0 : List UInt8 := dkwX1_heat_0 ++ dktX1_heat_1
theorem dksX1_heat_0 : cX1_heat.data.toList.drop 0 = dktX1_heat_0 := by decide +kernel
theorem dksX1_heat_1 : cX1_heat.data.toList.drop 23 = dktX1_heat_1 := dk_seg dksX1_heat_0 23 rfl rfl
theorem dksX1_heat_2 : cX1_heat.data.toList.drop 46 = dktX1_heat_2 := dk_seg dksX1_heat_1 23 rfl rfl
theorem dX1_heat_0 : decode cX1_heat 0 = .ok (.aload_n 0, 1) := dk_42 (dk_at dksX1_heat_0 0 rfl rfl)
theorem dX1_heat_1 : decode cX1_heat 1 = .ok (.invokevirtual 104, 3) := dk_182 0 104 (dk_at dksX1_heat_0 1 rfl rfl)
theorem dX1_heat_4 : decode cX1_heat 4 = .ok (.aload_n 0, 1) := dk_42 (dk_at dksX1_heat_0 4 rfl rfl)
theorem dX1_heat_5 : decode cX1_heat 5 = .ok (.aload_n 0, 1) := dk_42 (dk_at dksX1_heat_0 5 rfl rfl)
theorem dX1_heat_6 : decode cX1_heat 6 = .ok (.iload_n 1, 1) := dk_27 (dk_at dksX1_heat_0 6 rfl rfl)
theorem dX1_heat_7 : decode cX1_heat 7 = .ok (.invokevirtual 210, 3) := dk_182 0 210 (dk_at dksX1_heat_0 7 rfl rfl)
theorem dX1_heat_10 : decode cX1_heat 10 = .ok (.putfield 101, 3) := dk_181 0 101 (dk_at dksX1_heat_0 10 rfl rfl)
theorem dX1_heat_13 : decode cX1_heat 13 = .ok (.aload_n 0, 1) := dk_42 (dk_at dksX1_heat_0 13 rfl rfl)
theorem dX1_heat_14 : decode cX1_heat 14 = .ok (.getfield 101, 3) := dk_180 0 101 (dk_at dksX1_heat_0 14 rfl rfl)
theorem dX1_heat_17 : decode cX1_heat 17 = .ok (.ifCond .eq 9, 3) := dk_153 0 9 (dk_at dksX1_heat_0 17 rfl rfl)
theorem dX1_heat_20 : decode cX1_heat 20 = .ok (.sipush (-1000), 3) := dk_17 252 24 (dk_at dksX1_heat_0 20 rfl rfl)
theorem dX1_heat_23 : decode cX1_heat 23 = .ok (.goto 29, 3) := dk_167 0 29 (dk_at dksX1_heat_1 0 rfl rfl)
theorem dX1_heat_26 : decode cX1_heat 26 = .ok (.aload_n 0, 1) := dk_42 (dk_at dksX1_heat_1 3 rfl rfl)
theorem dX1_heat_27 : decode cX1_heat 27 = .ok (.getfield 129, 3) := dk_180 0 129 (dk_at dksX1_heat_1 4 rfl rfl)
theorem dX1_heat_30 : decode cX1_heat 30 = .ok (.getfield 182, 3) := dk_180 0 182 (dk_at dksX1_heat_1 7 rfl rfl)
theorem dX1_heat_33 : decode cX1_heat 33 = .ok (.aload_n 0, 1) := dk_42 (dk_at dksX1_heat_1 10 rfl rfl)
theorem dX1_heat_34 : decode cX1_heat 34 = .ok (.iload_n 1, 1) := dk_27 (dk_at dksX1_heat_1 11 rfl rfl)
theorem dX1_heat_35 : decode cX1_heat 35 = .ok (.invokevirtual 179, 3) := dk_182 0 179 (dk_at dksX1_heat_1 12 rfl rfl)
theorem dX1_heat_38 : decode cX1_heat 38 = .ok (.aaload, 1) := dk_50 (dk_at dksX1_heat_1 15 rfl rfl)
theorem dX1_heat_39 : decode cX1_heat 39 = .ok (.aload_n 0, 1) := dk_42 (dk_at dksX1_heat_1 16 rfl rfl)
theorem dX1_heat_40 : decode cX1_heat 40 = .ok (.aload_n 0, 1) := dk_42 (dk_at dksX1_heat_1 17 rfl rfl)
theorem dX1_heat_41 : decode cX1_heat 41 = .ok (.iload_n 1, 1) := dk_27 (dk_at dksX1_heat_1 18 rfl rfl)
theorem dX1_heat_42 : decode cX1_heat 42 = .ok (.invokevirtual 179, 3) := dk_182 0 179 (dk_at dksX1_heat_1 19 rfl rfl)
theorem dX1_heat_45 : decode cX1_heat 45 = .ok (.iload_n 1, 1) := dk_27 (dk_at dksX1_heat_1 22 rfl rfl)
theorem dX1_heat_46 : decode cX1_heat 46 = .ok (.invokevirtual 213, 3) := dk_182 0 213 (dk_at dksX1_heat_2 0 rfl rfl)
theorem dX1_heat_49 : decode cX1_heat 49 = .ok (.invokevirtual 217, 3) := dk_182 0 217 (dk_at dksX1_heat_2 3 rfl rfl)
theorem dX1_heat_52 : decode cX1_heat 52 = .ok (.ireturn, 1) := dk_172 (dk_at dksX1_heat_2 6 rfl rfl)
abbrev cX1_bad : ByteArray := prog_1_method_25_code
def yX1_bad : MethodName := ⟨RX1, "bad", "(I)I"⟩
def dkwX1_bad_1 : List UInt8 := [167, 0, 8, 42, 4, 182, 0, 118, 172]
abbrev dktX1_bad_1 : List UInt8 := dkwX1_bad_1 ++ []
def dkwX1_bad_0 : List UInt8 := [42, 182, 0, 104, 42, 27, 182, 0, 172, 153, 0, 18, 42, 27, 42, 180, 0, 139, 182, 0, 203, 180, 0, 220]
abbrev dktX1_bad_0 : List UInt8 := dkwX1_bad_0 ++ dktX1_bad_1
theorem dksX1_bad_0 : cX1_bad.data.toList.drop 0 = dktX1_bad_0 := by decide +kernel
theorem dksX1_bad_1 : cX1_bad.data.toList.drop 24 = dktX1_bad_1 := dk_seg dksX1_bad_0 24 rfl rfl
theorem dX1_bad_0 : decode cX1_bad 0 = .ok (.aload_n 0, 1) := dk_42 (dk_at dksX1_bad_0 0 rfl rfl)
theorem dX1_bad_1 : decode cX1_bad 1 = .ok (.invokevirtual 104, 3) := dk_182 0 104 (dk_at dksX1_bad_0 1 rfl rfl)
theorem dX1_bad_4 : decode cX1_bad 4 = .ok (.aload_n 0, 1) := dk_42 (dk_at dksX1_bad_0 4 rfl rfl)
theorem dX1_bad_5 : decode cX1_bad 5 = .ok (.iload_n 1, 1) := dk_27 (dk_at dksX1_bad_0 5 rfl rfl)
theorem dX1_bad_6 : decode cX1_bad 6 = .ok (.invokevirtual 172, 3) := dk_182 0 172 (dk_at dksX1_bad_0 6 rfl rfl)
theorem dX1_bad_9 : decode cX1_bad 9 = .ok (.ifCond .eq 18, 3) := dk_153 0 18 (dk_at dksX1_bad_0 9 rfl rfl)
theorem dX1_bad_12 : decode cX1_bad 12 = .ok (.aload_n 0, 1) := dk_42 (dk_at dksX1_bad_0 12 rfl rfl)
theorem dX1_bad_13 : decode cX1_bad 13 = .ok (.iload_n 1, 1) := dk_27 (dk_at dksX1_bad_0 13 rfl rfl)
theorem dX1_bad_14 : decode cX1_bad 14 = .ok (.aload_n 0, 1) := dk_42 (dk_at dksX1_bad_0 14 rfl rfl)
theorem dX1_bad_15 : decode cX1_bad 15 = .ok (.getfield 139, 3) := dk_180 0 139 (dk_at dksX1_bad_0 15 rfl rfl)
theorem dX1_bad_18 : decode cX1_bad 18 = .ok (.invokevirtual 203, 3) := dk_182 0 203 (dk_at dksX1_bad_0 18 rfl rfl)
theorem dX1_bad_21 : decode cX1_bad 21 = .ok (.getfield 220, 3) := dk_180 0 220 (dk_at dksX1_bad_0 21 rfl rfl)
theorem dX1_bad_24 : decode cX1_bad 24 = .ok (.goto 8, 3) := dk_167 0 8 (dk_at dksX1_bad_1 0 rfl rfl)
theorem dX1_bad_27 : decode cX1_bad 27 = .ok (.aload_n 0, 1) := dk_42 (dk_at dksX1_bad_1 3 rfl rfl)
theorem dX1_bad_28 : decode cX1_bad 28 = .ok (.iconst 1, 1) := dk_4 (dk_at dksX1_bad_1 4 rfl rfl)
theorem dX1_bad_29 : decode cX1_bad 29 = .ok (.invokevirtual 118, 3) := dk_182 0 118 (dk_at dksX1_bad_1 5 rfl rfl)
theorem dX1_bad_32 : decode cX1_bad 32 = .ok (.ireturn, 1) := dk_172 (dk_at dksX1_bad_1 8 rfl rfl)
abbrev cX1_way : ByteArray := prog_1_method_26_code
def yX1_way : MethodName := ⟨RX1, "way", "(II)I"⟩
def dkwX1_way_2 : List UInt8 := [167, 0, 8, 42, 5, 182, 0, 118, 172]
abbrev dktX1_way_2 : List UInt8 := dkwX1_way_2 ++ []
def dkwX1_way_1 : List UInt8 := [153, 0, 25, 28, 3, 16, 99, 184, 0, 114, 153, 0, 15, 42, 180, 0, 129, 27, 28, 182, 0, 223]
abbrev dktX1_way_1 : List UInt8 := dkwX1_way_1 ++ dktX1_way_2
def dkwX1_way_0 : List UInt8 := [42, 182, 0, 104, 42, 180, 0, 129, 199, 0, 9, 42, 4, 182, 0, 118, 172, 27, 3, 16, 99, 184, 0, 114]
abbrev dktX1_way_0 : List UInt8 := dkwX1_way_0 ++ dktX1_way_1
theorem dksX1_way_0 : cX1_way.data.toList.drop 0 = dktX1_way_0 := by decide +kernel
theorem dksX1_way_1 : cX1_way.data.toList.drop 24 = dktX1_way_1 := dk_seg dksX1_way_0 24 rfl rfl
theorem dksX1_way_2 : cX1_way.data.toList.drop 46 = dktX1_way_2 := dk_seg dksX1_way_1 22 rfl rfl
theorem dX1_way_0 : decode cX1_way 0 = .ok (.aload_n 0, 1) := dk_42 (dk_at dksX1_way_0 0 rfl rfl)
theorem dX1_way_1 : decode cX1_way 1 = .ok (.invokevirtual 104, 3) := dk_182 0 104 (dk_at dksX1_way_0 1 rfl rfl)
theorem dX1_way_4 : decode cX1_way 4 = .ok (.aload_n 0, 1) := dk_42 (dk_at dksX1_way_0 4 rfl rfl)
theorem dX1_way_5 : decode cX1_way 5 = .ok (.getfield 129, 3) := dk_180 0 129 (dk_at dksX1_way_0 5 rfl rfl)
theorem dX1_way_8 : decode cX1_way 8 = .ok (.ifnonnull 9, 3) := dk_199 0 9 (dk_at dksX1_way_0 8 rfl rfl)
theorem dX1_way_11 : decode cX1_way 11 = .ok (.aload_n 0, 1) := dk_42 (dk_at dksX1_way_0 11 rfl rfl)
theorem dX1_way_12 : decode cX1_way 12 = .ok (.iconst 1, 1) := dk_4 (dk_at dksX1_way_0 12 rfl rfl)
theorem dX1_way_13 : decode cX1_way 13 = .ok (.invokevirtual 118, 3) := dk_182 0 118 (dk_at dksX1_way_0 13 rfl rfl)
theorem dX1_way_16 : decode cX1_way 16 = .ok (.ireturn, 1) := dk_172 (dk_at dksX1_way_0 16 rfl rfl)
theorem dX1_way_17 : decode cX1_way 17 = .ok (.iload_n 1, 1) := dk_27 (dk_at dksX1_way_0 17 rfl rfl)
theorem dX1_way_18 : decode cX1_way 18 = .ok (.iconst 0, 1) := dk_3 (dk_at dksX1_way_0 18 rfl rfl)
theorem dX1_way_19 : decode cX1_way 19 = .ok (.bipush 99, 2) := dk_16 99 (dk_at dksX1_way_0 19 rfl rfl)
theorem dX1_way_21 : decode cX1_way 21 = .ok (.invokestatic 114, 3) := dk_184 0 114 (dk_at dksX1_way_0 21 rfl rfl)
theorem dX1_way_24 : decode cX1_way 24 = .ok (.ifCond .eq 25, 3) := dk_153 0 25 (dk_at dksX1_way_1 0 rfl rfl)
theorem dX1_way_27 : decode cX1_way 27 = .ok (.iload_n 2, 1) := dk_28 (dk_at dksX1_way_1 3 rfl rfl)
theorem dX1_way_28 : decode cX1_way 28 = .ok (.iconst 0, 1) := dk_3 (dk_at dksX1_way_1 4 rfl rfl)
theorem dX1_way_29 : decode cX1_way 29 = .ok (.bipush 99, 2) := dk_16 99 (dk_at dksX1_way_1 5 rfl rfl)
theorem dX1_way_31 : decode cX1_way 31 = .ok (.invokestatic 114, 3) := dk_184 0 114 (dk_at dksX1_way_1 7 rfl rfl)
theorem dX1_way_34 : decode cX1_way 34 = .ok (.ifCond .eq 15, 3) := dk_153 0 15 (dk_at dksX1_way_1 10 rfl rfl)
theorem dX1_way_37 : decode cX1_way 37 = .ok (.aload_n 0, 1) := dk_42 (dk_at dksX1_way_1 13 rfl rfl)
theorem dX1_way_38 : decode cX1_way 38 = .ok (.getfield 129, 3) := dk_180 0 129 (dk_at dksX1_way_1 14 rfl rfl)
theorem dX1_way_41 : decode cX1_way 41 = .ok (.iload_n 1, 1) := dk_27 (dk_at dksX1_way_1 17 rfl rfl)
theorem dX1_way_42 : decode cX1_way 42 = .ok (.iload_n 2, 1) := dk_28 (dk_at dksX1_way_1 18 rfl rfl)
theorem dX1_way_43 : decode cX1_way 43 = .ok (.invokevirtual 223, 3) := dk_182 0 223 (dk_at dksX1_way_1 19 rfl rfl)
theorem dX1_way_46 : decode cX1_way 46 = .ok (.goto 8, 3) := dk_167 0 8 (dk_at dksX1_way_2 0 rfl rfl)
theorem dX1_way_49 : decode cX1_way 49 = .ok (.aload_n 0, 1) := dk_42 (dk_at dksX1_way_2 3 rfl rfl)
theorem dX1_way_50 : decode cX1_way 50 = .ok (.iconst 2, 1) := dk_5 (dk_at dksX1_way_2 4 rfl rfl)
theorem dX1_way_51 : decode cX1_way 51 = .ok (.invokevirtual 118, 3) := dk_182 0 118 (dk_at dksX1_way_2 5 rfl rfl)
theorem dX1_way_54 : decode cX1_way 54 = .ok (.ireturn, 1) := dk_172 (dk_at dksX1_way_2 8 rfl rfl)
abbrev cX1_best : ByteArray := prog_1_method_30_code
def yX1_best : MethodName := ⟨RX1, "best", "(II)I"⟩
def dkwX1_best_1 : List UInt8 := [27, 28, 182, 0, 251, 172]
abbrev dktX1_best_1 : List UInt8 := dkwX1_best_1 ++ []
def dkwX1_best_0 : List UInt8 := [42, 182, 0, 104, 42, 27, 28, 182, 0, 248, 62, 29, 153, 0, 11, 42, 29, 182, 0, 118, 167, 0, 9, 42]
abbrev dktX1_best_0 : List UInt8 := dkwX1_best_0 ++ dktX1_best_1
theorem dksX1_best_0 : cX1_best.data.toList.drop 0 = dktX1_best_0 := by decide +kernel
theorem dksX1_best_1 : cX1_best.data.toList.drop 24 = dktX1_best_1 := dk_seg dksX1_best_0 24 rfl rfl
theorem dX1_best_0 : decode cX1_best 0 = .ok (.aload_n 0, 1) := dk_42 (dk_at dksX1_best_0 0 rfl rfl)
theorem dX1_best_1 : decode cX1_best 1 = .ok (.invokevirtual 104, 3) := dk_182 0 104 (dk_at dksX1_best_0 1 rfl rfl)
theorem dX1_best_4 : decode cX1_best 4 = .ok (.aload_n 0, 1) := dk_42 (dk_at dksX1_best_0 4 rfl rfl)
theorem dX1_best_5 : decode cX1_best 5 = .ok (.iload_n 1, 1) := dk_27 (dk_at dksX1_best_0 5 rfl rfl)
theorem dX1_best_6 : decode cX1_best 6 = .ok (.iload_n 2, 1) := dk_28 (dk_at dksX1_best_0 6 rfl rfl)
theorem dX1_best_7 : decode cX1_best 7 = .ok (.invokevirtual 248, 3) := dk_182 0 248 (dk_at dksX1_best_0 7 rfl rfl)
theorem dX1_best_10 : decode cX1_best 10 = .ok (.istore_n 3, 1) := dk_62 (dk_at dksX1_best_0 10 rfl rfl)
theorem dX1_best_11 : decode cX1_best 11 = .ok (.iload_n 3, 1) := dk_29 (dk_at dksX1_best_0 11 rfl rfl)
theorem dX1_best_12 : decode cX1_best 12 = .ok (.ifCond .eq 11, 3) := dk_153 0 11 (dk_at dksX1_best_0 12 rfl rfl)
theorem dX1_best_15 : decode cX1_best 15 = .ok (.aload_n 0, 1) := dk_42 (dk_at dksX1_best_0 15 rfl rfl)
theorem dX1_best_16 : decode cX1_best 16 = .ok (.iload_n 3, 1) := dk_29 (dk_at dksX1_best_0 16 rfl rfl)
theorem dX1_best_17 : decode cX1_best 17 = .ok (.invokevirtual 118, 3) := dk_182 0 118 (dk_at dksX1_best_0 17 rfl rfl)
theorem dX1_best_20 : decode cX1_best 20 = .ok (.goto 9, 3) := dk_167 0 9 (dk_at dksX1_best_0 20 rfl rfl)
theorem dX1_best_23 : decode cX1_best 23 = .ok (.aload_n 0, 1) := dk_42 (dk_at dksX1_best_0 23 rfl rfl)
theorem dX1_best_24 : decode cX1_best 24 = .ok (.iload_n 1, 1) := dk_27 (dk_at dksX1_best_1 0 rfl rfl)
theorem dX1_best_25 : decode cX1_best 25 = .ok (.iload_n 2, 1) := dk_28 (dk_at dksX1_best_1 1 rfl rfl)
theorem dX1_best_26 : decode cX1_best 26 = .ok (.invokevirtual 251, 3) := dk_182 0 251 (dk_at dksX1_best_1 2 rfl rfl)
theorem dX1_best_29 : decode cX1_best 29 = .ok (.ireturn, 1) := dk_172 (dk_at dksX1_best_1 5 rfl rfl)
abbrev cX1_bestWhy : ByteArray := prog_1_method_29_code
def yX1_bestWhy : MethodName := ⟨RX1, "bestWhy", "(II)I"⟩
def dkwX1_bestWhy_1 : List UInt8 := [42, 180, 0, 129, 180, 0, 182, 27, 50, 180, 0, 185, 164, 0, 7, 6, 167, 0, 4, 3, 172]
abbrev dktX1_bestWhy_1 : List UInt8 := dkwX1_bestWhy_1 ++ []
def dkwX1_bestWhy_0 : List UInt8 := [42, 27, 182, 0, 172, 153, 0, 11, 42, 28, 182, 0, 193, 154, 0, 7, 4, 167, 0, 27, 28, 184, 0, 245]
abbrev dktX1_bestWhy_0 : List UInt8 := dkwX1_bestWhy_0 ++ dktX1_bestWhy_1
theorem dksX1_bestWhy_0 : cX1_bestWhy.data.toList.drop 0 = dktX1_bestWhy_0 := by decide +kernel
theorem dksX1_bestWhy_1 : cX1_bestWhy.data.toList.drop 24 = dktX1_bestWhy_1 := dk_seg dksX1_bestWhy_0 24 rfl rfl
theorem dX1_bestWhy_0 : decode cX1_bestWhy 0 = .ok (.aload_n 0, 1) := dk_42 (dk_at dksX1_bestWhy_0 0 rfl rfl)
theorem dX1_bestWhy_1 : decode cX1_bestWhy 1 = .ok (.iload_n 1, 1) := dk_27 (dk_at dksX1_bestWhy_0 1 rfl rfl)
theorem dX1_bestWhy_2 : decode cX1_bestWhy 2 = .ok (.invokevirtual 172, 3) := dk_182 0 172 (dk_at dksX1_bestWhy_0 2 rfl rfl)
theorem dX1_bestWhy_5 : decode cX1_bestWhy 5 = .ok (.ifCond .eq 11, 3) := dk_153 0 11 (dk_at dksX1_bestWhy_0 5 rfl rfl)
theorem dX1_bestWhy_8 : decode cX1_bestWhy 8 = .ok (.aload_n 0, 1) := dk_42 (dk_at dksX1_bestWhy_0 8 rfl rfl)
theorem dX1_bestWhy_9 : decode cX1_bestWhy 9 = .ok (.iload_n 2, 1) := dk_28 (dk_at dksX1_bestWhy_0 9 rfl rfl)
theorem dX1_bestWhy_10 : decode cX1_bestWhy 10 = .ok (.invokevirtual 193, 3) := dk_182 0 193 (dk_at dksX1_bestWhy_0 10 rfl rfl)
theorem dX1_bestWhy_13 : decode cX1_bestWhy 13 = .ok (.ifCond .ne 7, 3) := dk_154 0 7 (dk_at dksX1_bestWhy_0 13 rfl rfl)
theorem dX1_bestWhy_16 : decode cX1_bestWhy 16 = .ok (.iconst 1, 1) := dk_4 (dk_at dksX1_bestWhy_0 16 rfl rfl)
theorem dX1_bestWhy_17 : decode cX1_bestWhy 17 = .ok (.goto 27, 3) := dk_167 0 27 (dk_at dksX1_bestWhy_0 17 rfl rfl)
theorem dX1_bestWhy_20 : decode cX1_bestWhy 20 = .ok (.iload_n 2, 1) := dk_28 (dk_at dksX1_bestWhy_0 20 rfl rfl)
theorem dX1_bestWhy_21 : decode cX1_bestWhy 21 = .ok (.invokestatic 245, 3) := dk_184 0 245 (dk_at dksX1_bestWhy_0 21 rfl rfl)
theorem dX1_bestWhy_24 : decode cX1_bestWhy 24 = .ok (.aload_n 0, 1) := dk_42 (dk_at dksX1_bestWhy_1 0 rfl rfl)
theorem dX1_bestWhy_25 : decode cX1_bestWhy 25 = .ok (.getfield 129, 3) := dk_180 0 129 (dk_at dksX1_bestWhy_1 1 rfl rfl)
theorem dX1_bestWhy_28 : decode cX1_bestWhy 28 = .ok (.getfield 182, 3) := dk_180 0 182 (dk_at dksX1_bestWhy_1 4 rfl rfl)
theorem dX1_bestWhy_31 : decode cX1_bestWhy 31 = .ok (.iload_n 1, 1) := dk_27 (dk_at dksX1_bestWhy_1 7 rfl rfl)
theorem dX1_bestWhy_32 : decode cX1_bestWhy 32 = .ok (.aaload, 1) := dk_50 (dk_at dksX1_bestWhy_1 8 rfl rfl)
theorem dX1_bestWhy_33 : decode cX1_bestWhy 33 = .ok (.getfield 185, 3) := dk_180 0 185 (dk_at dksX1_bestWhy_1 9 rfl rfl)
theorem dX1_bestWhy_36 : decode cX1_bestWhy 36 = .ok (.if_icmp .le 7, 3) := dk_164 0 7 (dk_at dksX1_bestWhy_1 12 rfl rfl)
theorem dX1_bestWhy_39 : decode cX1_bestWhy 39 = .ok (.iconst 3, 1) := dk_6 (dk_at dksX1_bestWhy_1 15 rfl rfl)
theorem dX1_bestWhy_40 : decode cX1_bestWhy 40 = .ok (.goto 4, 3) := dk_167 0 4 (dk_at dksX1_bestWhy_1 16 rfl rfl)
theorem dX1_bestWhy_43 : decode cX1_bestWhy 43 = .ok (.iconst 0, 1) := dk_3 (dk_at dksX1_bestWhy_1 19 rfl rfl)
theorem dX1_bestWhy_44 : decode cX1_bestWhy 44 = .ok (.ireturn, 1) := dk_172 (dk_at dksX1_bestWhy_1 20 rfl rfl)
abbrev cX1_ones : ByteArray := prog_1_method_3_code
def yX1_ones : MethodName := ⟨RX1, "ones", "(I)I"⟩
def dkwX1_ones_0 : List UInt8 := [3, 60, 26, 61, 28, 153, 0, 15, 132, 1, 1, 28, 28, 4, 100, 126, 61, 167, 255, 243, 27, 172]
abbrev dktX1_ones_0 : List UInt8 := dkwX1_ones_0 ++ []
theorem dksX1_ones_0 : cX1_ones.data.toList.drop 0 = dktX1_ones_0 := by decide +kernel
theorem dX1_ones_0 : decode cX1_ones 0 = .ok (.iconst 0, 1) := dk_3 (dk_at dksX1_ones_0 0 rfl rfl)
theorem dX1_ones_1 : decode cX1_ones 1 = .ok (.istore_n 1, 1) := dk_60 (dk_at dksX1_ones_0 1 rfl rfl)
theorem dX1_ones_2 : decode cX1_ones 2 = .ok (.iload_n 0, 1) := dk_26 (dk_at dksX1_ones_0 2 rfl rfl)
theorem dX1_ones_3 : decode cX1_ones 3 = .ok (.istore_n 2, 1) := dk_61 (dk_at dksX1_ones_0 3 rfl rfl)
theorem dX1_ones_4 : decode cX1_ones 4 = .ok (.iload_n 2, 1) := dk_28 (dk_at dksX1_ones_0 4 rfl rfl)
theorem dX1_ones_5 : decode cX1_ones 5 = .ok (.ifCond .eq 15, 3) := dk_153 0 15 (dk_at dksX1_ones_0 5 rfl rfl)
theorem dX1_ones_8 : decode cX1_ones 8 = .ok (.iinc 1 1, 3) := dk_132 1 1 (dk_at dksX1_ones_0 8 rfl rfl)
theorem dX1_ones_11 : decode cX1_ones 11 = .ok (.iload_n 2, 1) := dk_28 (dk_at dksX1_ones_0 11 rfl rfl)
theorem dX1_ones_12 : decode cX1_ones 12 = .ok (.iload_n 2, 1) := dk_28 (dk_at dksX1_ones_0 12 rfl rfl)
theorem dX1_ones_13 : decode cX1_ones 13 = .ok (.iconst 1, 1) := dk_4 (dk_at dksX1_ones_0 13 rfl rfl)
theorem dX1_ones_14 : decode cX1_ones 14 = .ok (.isub, 1) := dk_100 (dk_at dksX1_ones_0 14 rfl rfl)
theorem dX1_ones_15 : decode cX1_ones 15 = .ok (.iand, 1) := dk_126 (dk_at dksX1_ones_0 15 rfl rfl)
theorem dX1_ones_16 : decode cX1_ones 16 = .ok (.istore_n 2, 1) := dk_61 (dk_at dksX1_ones_0 16 rfl rfl)
theorem dX1_ones_17 : decode cX1_ones 17 = .ok (.goto (-13), 3) := dk_167 255 243 (dk_at dksX1_ones_0 17 rfl rfl)
theorem dX1_ones_20 : decode cX1_ones 20 = .ok (.iload_n 1, 1) := dk_27 (dk_at dksX1_ones_0 20 rfl rfl)
theorem dX1_ones_21 : decode cX1_ones 21 = .ok (.ireturn, 1) := dk_172 (dk_at dksX1_ones_0 21 rfl rfl)
abbrev cX1_bestOf : ByteArray := prog_1_method_28_code
def yX1_bestOf : MethodName := ⟨RX1, "bestOf", "(II)I"⟩
def dkwX1_bestOf_1 : List UInt8 := [182, 0, 241, 42, 180, 0, 230, 172]
abbrev dktX1_bestOf_1 : List UInt8 := dkwX1_bestOf_1 ++ []
def dkwX1_bestOf_0 : List UInt8 := [42, 180, 0, 33, 3, 181, 0, 142, 42, 2, 181, 0, 230, 42, 42, 180, 0, 129, 180, 0, 182, 27, 50, 28]
abbrev dktX1_bestOf_0 : List UInt8 := dkwX1_bestOf_0 ++ dktX1_bestOf_1
theorem dksX1_bestOf_0 : cX1_bestOf.data.toList.drop 0 = dktX1_bestOf_0 := by decide +kernel
theorem dksX1_bestOf_1 : cX1_bestOf.data.toList.drop 24 = dktX1_bestOf_1 := dk_seg dksX1_bestOf_0 24 rfl rfl
theorem dX1_bestOf_0 : decode cX1_bestOf 0 = .ok (.aload_n 0, 1) := dk_42 (dk_at dksX1_bestOf_0 0 rfl rfl)
theorem dX1_bestOf_1 : decode cX1_bestOf 1 = .ok (.getfield 33, 3) := dk_180 0 33 (dk_at dksX1_bestOf_0 1 rfl rfl)
theorem dX1_bestOf_4 : decode cX1_bestOf 4 = .ok (.iconst 0, 1) := dk_3 (dk_at dksX1_bestOf_0 4 rfl rfl)
theorem dX1_bestOf_5 : decode cX1_bestOf 5 = .ok (.putfield 142, 3) := dk_181 0 142 (dk_at dksX1_bestOf_0 5 rfl rfl)
theorem dX1_bestOf_8 : decode cX1_bestOf 8 = .ok (.aload_n 0, 1) := dk_42 (dk_at dksX1_bestOf_0 8 rfl rfl)
theorem dX1_bestOf_9 : decode cX1_bestOf 9 = .ok (.iconst (-1), 1) := dk_2 (dk_at dksX1_bestOf_0 9 rfl rfl)
theorem dX1_bestOf_10 : decode cX1_bestOf 10 = .ok (.putfield 230, 3) := dk_181 0 230 (dk_at dksX1_bestOf_0 10 rfl rfl)
theorem dX1_bestOf_13 : decode cX1_bestOf 13 = .ok (.aload_n 0, 1) := dk_42 (dk_at dksX1_bestOf_0 13 rfl rfl)
theorem dX1_bestOf_14 : decode cX1_bestOf 14 = .ok (.aload_n 0, 1) := dk_42 (dk_at dksX1_bestOf_0 14 rfl rfl)
theorem dX1_bestOf_15 : decode cX1_bestOf 15 = .ok (.getfield 129, 3) := dk_180 0 129 (dk_at dksX1_bestOf_0 15 rfl rfl)
theorem dX1_bestOf_18 : decode cX1_bestOf 18 = .ok (.getfield 182, 3) := dk_180 0 182 (dk_at dksX1_bestOf_0 18 rfl rfl)
theorem dX1_bestOf_21 : decode cX1_bestOf 21 = .ok (.iload_n 1, 1) := dk_27 (dk_at dksX1_bestOf_0 21 rfl rfl)
theorem dX1_bestOf_22 : decode cX1_bestOf 22 = .ok (.aaload, 1) := dk_50 (dk_at dksX1_bestOf_0 22 rfl rfl)
theorem dX1_bestOf_23 : decode cX1_bestOf 23 = .ok (.iload_n 2, 1) := dk_28 (dk_at dksX1_bestOf_0 23 rfl rfl)
theorem dX1_bestOf_24 : decode cX1_bestOf 24 = .ok (.invokevirtual 241, 3) := dk_182 0 241 (dk_at dksX1_bestOf_1 0 rfl rfl)
theorem dX1_bestOf_27 : decode cX1_bestOf 27 = .ok (.aload_n 0, 1) := dk_42 (dk_at dksX1_bestOf_1 3 rfl rfl)
theorem dX1_bestOf_28 : decode cX1_bestOf 28 = .ok (.getfield 230, 3) := dk_180 0 230 (dk_at dksX1_bestOf_1 4 rfl rfl)
theorem dX1_bestOf_31 : decode cX1_bestOf 31 = .ok (.ireturn, 1) := dk_172 (dk_at dksX1_bestOf_1 7 rfl rfl)
abbrev cX1_orders : ByteArray := prog_1_method_27_code
def yX1_orders : MethodName := ⟨RX1, "orders", "(LNoonMeals$Car;I)V"⟩
def dkwX1_orders_6 : List UInt8 := [167, 255, 177, 177]
abbrev dktX1_orders_6 : List UInt8 := dkwX1_orders_6 ++ []
def dkwX1_orders_5 : List UInt8 := [2, 130, 126, 182, 0, 241, 42, 180, 0, 33, 89, 180, 0, 142, 4, 100, 181, 0, 142, 132, 3, 1]
abbrev dktX1_orders_5 : List UInt8 := dkwX1_orders_5 ++ dktX1_orders_6
def dkwX1_orders_4 : List UInt8 := [180, 0, 142, 29, 79, 42, 180, 0, 33, 89, 180, 0, 142, 4, 96, 181, 0, 142, 42, 43, 28, 4, 29, 120]
abbrev dktX1_orders_4 : List UInt8 := dkwX1_orders_4 ++ dktX1_orders_5
def dkwX1_orders_3 : List UInt8 := [28, 29, 184, 0, 237, 154, 0, 6, 167, 0, 57, 42, 180, 0, 33, 180, 0, 190, 42, 180, 0, 33]
abbrev dktX1_orders_3 : List UInt8 := dkwX1_orders_3 ++ dktX1_orders_4
def dkwX1_orders_2 : List UInt8 := [180, 0, 37, 42, 180, 0, 33, 182, 0, 233, 177, 3, 62, 29, 42, 180, 0, 129, 180, 0, 161, 162, 0, 74]
abbrev dktX1_orders_2 : List UInt8 := dkwX1_orders_2 ++ dktX1_orders_3
def dkwX1_orders_1 : List UInt8 := [180, 0, 230, 2, 159, 0, 12, 29, 42, 180, 0, 230, 161, 0, 4, 177, 42, 29, 181, 0, 230, 42]
abbrev dktX1_orders_1 : List UInt8 := dkwX1_orders_1 ++ dktX1_orders_2
def dkwX1_orders_0 : List UInt8 := [28, 154, 0, 55, 42, 180, 0, 33, 42, 180, 0, 129, 43, 3, 182, 0, 199, 43, 182, 0, 226, 62, 42]
abbrev dktX1_orders_0 : List UInt8 := dkwX1_orders_0 ++ dktX1_orders_1
theorem dksX1_orders_0 : cX1_orders.data.toList.drop 0 = dktX1_orders_0 := by decide +kernel
theorem dksX1_orders_1 : cX1_orders.data.toList.drop 23 = dktX1_orders_1 := dk_seg dksX1_orders_0 23 rfl rfl
theorem dksX1_orders_2 : cX1_orders.data.toList.drop 45 = dktX1_orders_2 := dk_seg dksX1_orders_1 22 rfl rfl
theorem dksX1_orders_3 : cX1_orders.data.toList.drop 69 = dktX1_orders_3 := dk_seg dksX1_orders_2 24 rfl rfl
theorem dksX1_orders_4 : cX1_orders.data.toList.drop 91 = dktX1_orders_4 := dk_seg dksX1_orders_3 22 rfl rfl
theorem dksX1_orders_5 : cX1_orders.data.toList.drop 115 = dktX1_orders_5 := dk_seg dksX1_orders_4 24 rfl rfl
theorem dksX1_orders_6 : cX1_orders.data.toList.drop 137 = dktX1_orders_6 := dk_seg dksX1_orders_5 22 rfl rfl
theorem dX1_orders_0 : decode cX1_orders 0 = .ok (.iload_n 2, 1) := dk_28 (dk_at dksX1_orders_0 0 rfl rfl)
theorem dX1_orders_1 : decode cX1_orders 1 = .ok (.ifCond .ne 55, 3) := dk_154 0 55 (dk_at dksX1_orders_0 1 rfl rfl)
theorem dX1_orders_4 : decode cX1_orders 4 = .ok (.aload_n 0, 1) := dk_42 (dk_at dksX1_orders_0 4 rfl rfl)
theorem dX1_orders_5 : decode cX1_orders 5 = .ok (.getfield 33, 3) := dk_180 0 33 (dk_at dksX1_orders_0 5 rfl rfl)
theorem dX1_orders_8 : decode cX1_orders 8 = .ok (.aload_n 0, 1) := dk_42 (dk_at dksX1_orders_0 8 rfl rfl)
theorem dX1_orders_9 : decode cX1_orders 9 = .ok (.getfield 129, 3) := dk_180 0 129 (dk_at dksX1_orders_0 9 rfl rfl)
theorem dX1_orders_12 : decode cX1_orders 12 = .ok (.aload_n 1, 1) := dk_43 (dk_at dksX1_orders_0 12 rfl rfl)
theorem dX1_orders_13 : decode cX1_orders 13 = .ok (.iconst 0, 1) := dk_3 (dk_at dksX1_orders_0 13 rfl rfl)
theorem dX1_orders_14 : decode cX1_orders 14 = .ok (.invokevirtual 199, 3) := dk_182 0 199 (dk_at dksX1_orders_0 14 rfl rfl)
theorem dX1_orders_17 : decode cX1_orders 17 = .ok (.aload_n 1, 1) := dk_43 (dk_at dksX1_orders_0 17 rfl rfl)
theorem dX1_orders_18 : decode cX1_orders 18 = .ok (.invokevirtual 226, 3) := dk_182 0 226 (dk_at dksX1_orders_0 18 rfl rfl)
theorem dX1_orders_21 : decode cX1_orders 21 = .ok (.istore_n 3, 1) := dk_62 (dk_at dksX1_orders_0 21 rfl rfl)
theorem dX1_orders_22 : decode cX1_orders 22 = .ok (.aload_n 0, 1) := dk_42 (dk_at dksX1_orders_0 22 rfl rfl)
theorem dX1_orders_23 : decode cX1_orders 23 = .ok (.getfield 230, 3) := dk_180 0 230 (dk_at dksX1_orders_1 0 rfl rfl)
theorem dX1_orders_26 : decode cX1_orders 26 = .ok (.iconst (-1), 1) := dk_2 (dk_at dksX1_orders_1 3 rfl rfl)
theorem dX1_orders_27 : decode cX1_orders 27 = .ok (.if_icmp .eq 12, 3) := dk_159 0 12 (dk_at dksX1_orders_1 4 rfl rfl)
theorem dX1_orders_30 : decode cX1_orders 30 = .ok (.iload_n 3, 1) := dk_29 (dk_at dksX1_orders_1 7 rfl rfl)
theorem dX1_orders_31 : decode cX1_orders 31 = .ok (.aload_n 0, 1) := dk_42 (dk_at dksX1_orders_1 8 rfl rfl)
theorem dX1_orders_32 : decode cX1_orders 32 = .ok (.getfield 230, 3) := dk_180 0 230 (dk_at dksX1_orders_1 9 rfl rfl)
theorem dX1_orders_35 : decode cX1_orders 35 = .ok (.if_icmp .lt 4, 3) := dk_161 0 4 (dk_at dksX1_orders_1 12 rfl rfl)
theorem dX1_orders_38 : decode cX1_orders 38 = .ok (.return_, 1) := dk_177 (dk_at dksX1_orders_1 15 rfl rfl)
theorem dX1_orders_39 : decode cX1_orders 39 = .ok (.aload_n 0, 1) := dk_42 (dk_at dksX1_orders_1 16 rfl rfl)
theorem dX1_orders_40 : decode cX1_orders 40 = .ok (.iload_n 3, 1) := dk_29 (dk_at dksX1_orders_1 17 rfl rfl)
theorem dX1_orders_41 : decode cX1_orders 41 = .ok (.putfield 230, 3) := dk_181 0 230 (dk_at dksX1_orders_1 18 rfl rfl)
theorem dX1_orders_44 : decode cX1_orders 44 = .ok (.aload_n 0, 1) := dk_42 (dk_at dksX1_orders_1 21 rfl rfl)
theorem dX1_orders_45 : decode cX1_orders 45 = .ok (.getfield 37, 3) := dk_180 0 37 (dk_at dksX1_orders_2 0 rfl rfl)
theorem dX1_orders_48 : decode cX1_orders 48 = .ok (.aload_n 0, 1) := dk_42 (dk_at dksX1_orders_2 3 rfl rfl)
theorem dX1_orders_49 : decode cX1_orders 49 = .ok (.getfield 33, 3) := dk_180 0 33 (dk_at dksX1_orders_2 4 rfl rfl)
theorem dX1_orders_52 : decode cX1_orders 52 = .ok (.invokevirtual 233, 3) := dk_182 0 233 (dk_at dksX1_orders_2 7 rfl rfl)
theorem dX1_orders_55 : decode cX1_orders 55 = .ok (.return_, 1) := dk_177 (dk_at dksX1_orders_2 10 rfl rfl)
theorem dX1_orders_56 : decode cX1_orders 56 = .ok (.iconst 0, 1) := dk_3 (dk_at dksX1_orders_2 11 rfl rfl)
theorem dX1_orders_57 : decode cX1_orders 57 = .ok (.istore_n 3, 1) := dk_62 (dk_at dksX1_orders_2 12 rfl rfl)
theorem dX1_orders_58 : decode cX1_orders 58 = .ok (.iload_n 3, 1) := dk_29 (dk_at dksX1_orders_2 13 rfl rfl)
theorem dX1_orders_59 : decode cX1_orders 59 = .ok (.aload_n 0, 1) := dk_42 (dk_at dksX1_orders_2 14 rfl rfl)
theorem dX1_orders_60 : decode cX1_orders 60 = .ok (.getfield 129, 3) := dk_180 0 129 (dk_at dksX1_orders_2 15 rfl rfl)
theorem dX1_orders_63 : decode cX1_orders 63 = .ok (.getfield 161, 3) := dk_180 0 161 (dk_at dksX1_orders_2 18 rfl rfl)
theorem dX1_orders_66 : decode cX1_orders 66 = .ok (.if_icmp .ge 74, 3) := dk_162 0 74 (dk_at dksX1_orders_2 21 rfl rfl)
theorem dX1_orders_69 : decode cX1_orders 69 = .ok (.iload_n 2, 1) := dk_28 (dk_at dksX1_orders_3 0 rfl rfl)
theorem dX1_orders_70 : decode cX1_orders 70 = .ok (.iload_n 3, 1) := dk_29 (dk_at dksX1_orders_3 1 rfl rfl)
theorem dX1_orders_71 : decode cX1_orders 71 = .ok (.invokestatic 237, 3) := dk_184 0 237 (dk_at dksX1_orders_3 2 rfl rfl)
theorem dX1_orders_74 : decode cX1_orders 74 = .ok (.ifCond .ne 6, 3) := dk_154 0 6 (dk_at dksX1_orders_3 5 rfl rfl)
theorem dX1_orders_77 : decode cX1_orders 77 = .ok (.goto 57, 3) := dk_167 0 57 (dk_at dksX1_orders_3 8 rfl rfl)
theorem dX1_orders_80 : decode cX1_orders 80 = .ok (.aload_n 0, 1) := dk_42 (dk_at dksX1_orders_3 11 rfl rfl)
theorem dX1_orders_81 : decode cX1_orders 81 = .ok (.getfield 33, 3) := dk_180 0 33 (dk_at dksX1_orders_3 12 rfl rfl)
theorem dX1_orders_84 : decode cX1_orders 84 = .ok (.getfield 190, 3) := dk_180 0 190 (dk_at dksX1_orders_3 15 rfl rfl)
theorem dX1_orders_87 : decode cX1_orders 87 = .ok (.aload_n 0, 1) := dk_42 (dk_at dksX1_orders_3 18 rfl rfl)
theorem dX1_orders_88 : decode cX1_orders 88 = .ok (.getfield 33, 3) := dk_180 0 33 (dk_at dksX1_orders_3 19 rfl rfl)
theorem dX1_orders_91 : decode cX1_orders 91 = .ok (.getfield 142, 3) := dk_180 0 142 (dk_at dksX1_orders_4 0 rfl rfl)
theorem dX1_orders_94 : decode cX1_orders 94 = .ok (.iload_n 3, 1) := dk_29 (dk_at dksX1_orders_4 3 rfl rfl)
theorem dX1_orders_95 : decode cX1_orders 95 = .ok (.iastore, 1) := dk_79 (dk_at dksX1_orders_4 4 rfl rfl)
theorem dX1_orders_96 : decode cX1_orders 96 = .ok (.aload_n 0, 1) := dk_42 (dk_at dksX1_orders_4 5 rfl rfl)
theorem dX1_orders_97 : decode cX1_orders 97 = .ok (.getfield 33, 3) := dk_180 0 33 (dk_at dksX1_orders_4 6 rfl rfl)
theorem dX1_orders_100 : decode cX1_orders 100 = .ok (.dup, 1) := dk_89 (dk_at dksX1_orders_4 9 rfl rfl)
theorem dX1_orders_101 : decode cX1_orders 101 = .ok (.getfield 142, 3) := dk_180 0 142 (dk_at dksX1_orders_4 10 rfl rfl)
theorem dX1_orders_104 : decode cX1_orders 104 = .ok (.iconst 1, 1) := dk_4 (dk_at dksX1_orders_4 13 rfl rfl)
theorem dX1_orders_105 : decode cX1_orders 105 = .ok (.iadd, 1) := dk_96 (dk_at dksX1_orders_4 14 rfl rfl)
theorem dX1_orders_106 : decode cX1_orders 106 = .ok (.putfield 142, 3) := dk_181 0 142 (dk_at dksX1_orders_4 15 rfl rfl)
theorem dX1_orders_109 : decode cX1_orders 109 = .ok (.aload_n 0, 1) := dk_42 (dk_at dksX1_orders_4 18 rfl rfl)
theorem dX1_orders_110 : decode cX1_orders 110 = .ok (.aload_n 1, 1) := dk_43 (dk_at dksX1_orders_4 19 rfl rfl)
theorem dX1_orders_111 : decode cX1_orders 111 = .ok (.iload_n 2, 1) := dk_28 (dk_at dksX1_orders_4 20 rfl rfl)
theorem dX1_orders_112 : decode cX1_orders 112 = .ok (.iconst 1, 1) := dk_4 (dk_at dksX1_orders_4 21 rfl rfl)
theorem dX1_orders_113 : decode cX1_orders 113 = .ok (.iload_n 3, 1) := dk_29 (dk_at dksX1_orders_4 22 rfl rfl)
theorem dX1_orders_114 : decode cX1_orders 114 = .ok (.ishl, 1) := dk_120 (dk_at dksX1_orders_4 23 rfl rfl)
theorem dX1_orders_115 : decode cX1_orders 115 = .ok (.iconst (-1), 1) := dk_2 (dk_at dksX1_orders_5 0 rfl rfl)
theorem dX1_orders_116 : decode cX1_orders 116 = .ok (.ixor, 1) := dk_130 (dk_at dksX1_orders_5 1 rfl rfl)
theorem dX1_orders_117 : decode cX1_orders 117 = .ok (.iand, 1) := dk_126 (dk_at dksX1_orders_5 2 rfl rfl)
theorem dX1_orders_118 : decode cX1_orders 118 = .ok (.invokevirtual 241, 3) := dk_182 0 241 (dk_at dksX1_orders_5 3 rfl rfl)
theorem dX1_orders_121 : decode cX1_orders 121 = .ok (.aload_n 0, 1) := dk_42 (dk_at dksX1_orders_5 6 rfl rfl)
theorem dX1_orders_122 : decode cX1_orders 122 = .ok (.getfield 33, 3) := dk_180 0 33 (dk_at dksX1_orders_5 7 rfl rfl)
theorem dX1_orders_125 : decode cX1_orders 125 = .ok (.dup, 1) := dk_89 (dk_at dksX1_orders_5 10 rfl rfl)
theorem dX1_orders_126 : decode cX1_orders 126 = .ok (.getfield 142, 3) := dk_180 0 142 (dk_at dksX1_orders_5 11 rfl rfl)
theorem dX1_orders_129 : decode cX1_orders 129 = .ok (.iconst 1, 1) := dk_4 (dk_at dksX1_orders_5 14 rfl rfl)
theorem dX1_orders_130 : decode cX1_orders 130 = .ok (.isub, 1) := dk_100 (dk_at dksX1_orders_5 15 rfl rfl)
theorem dX1_orders_131 : decode cX1_orders 131 = .ok (.putfield 142, 3) := dk_181 0 142 (dk_at dksX1_orders_5 16 rfl rfl)
theorem dX1_orders_134 : decode cX1_orders 134 = .ok (.iinc 3 1, 3) := dk_132 3 1 (dk_at dksX1_orders_5 19 rfl rfl)
theorem dX1_orders_137 : decode cX1_orders 137 = .ok (.goto (-79), 3) := dk_167 255 177 (dk_at dksX1_orders_6 0 rfl rfl)
theorem dX1_orders_140 : decode cX1_orders 140 = .ok (.return_, 1) := dk_177 (dk_at dksX1_orders_6 3 rfl rfl)
abbrev cX1_bestAt : ByteArray := prog_1_method_31_code
def yX1_bestAt : MethodName := ⟨RX1, "bestAt", "(III)I"⟩
def dkwX1_bestAt_2 : List UInt8 := [182, 0, 251, 87, 42, 180, 0, 37, 180, 0, 190, 29, 46, 172]
abbrev dktX1_bestAt_2 : List UInt8 := dkwX1_bestAt_2 ++ []
def dkwX1_bestAt_1 : List UInt8 := [29, 3, 28, 184, 0, 245, 4, 100, 184, 0, 114, 154, 0, 9, 42, 4, 182, 0, 118, 172, 42, 27, 28]
abbrev dktX1_bestAt_1 : List UInt8 := dkwX1_bestAt_1 ++ dktX1_bestAt_2
def dkwX1_bestAt_0 : List UInt8 := [42, 182, 0, 104, 42, 27, 28, 182, 0, 248, 54, 4, 21, 4, 153, 0, 10, 42, 21, 4, 182, 0, 118, 172]
abbrev dktX1_bestAt_0 : List UInt8 := dkwX1_bestAt_0 ++ dktX1_bestAt_1
theorem dksX1_bestAt_0 : cX1_bestAt.data.toList.drop 0 = dktX1_bestAt_0 := by decide +kernel
theorem dksX1_bestAt_1 : cX1_bestAt.data.toList.drop 24 = dktX1_bestAt_1 := dk_seg dksX1_bestAt_0 24 rfl rfl
theorem dksX1_bestAt_2 : cX1_bestAt.data.toList.drop 47 = dktX1_bestAt_2 := dk_seg dksX1_bestAt_1 23 rfl rfl
theorem dX1_bestAt_0 : decode cX1_bestAt 0 = .ok (.aload_n 0, 1) := dk_42 (dk_at dksX1_bestAt_0 0 rfl rfl)
theorem dX1_bestAt_1 : decode cX1_bestAt 1 = .ok (.invokevirtual 104, 3) := dk_182 0 104 (dk_at dksX1_bestAt_0 1 rfl rfl)
theorem dX1_bestAt_4 : decode cX1_bestAt 4 = .ok (.aload_n 0, 1) := dk_42 (dk_at dksX1_bestAt_0 4 rfl rfl)
theorem dX1_bestAt_5 : decode cX1_bestAt 5 = .ok (.iload_n 1, 1) := dk_27 (dk_at dksX1_bestAt_0 5 rfl rfl)
theorem dX1_bestAt_6 : decode cX1_bestAt 6 = .ok (.iload_n 2, 1) := dk_28 (dk_at dksX1_bestAt_0 6 rfl rfl)
theorem dX1_bestAt_7 : decode cX1_bestAt 7 = .ok (.invokevirtual 248, 3) := dk_182 0 248 (dk_at dksX1_bestAt_0 7 rfl rfl)
theorem dX1_bestAt_10 : decode cX1_bestAt 10 = .ok (.istore 4, 2) := dk_54 4 (dk_at dksX1_bestAt_0 10 rfl rfl)
theorem dX1_bestAt_12 : decode cX1_bestAt 12 = .ok (.iload 4, 2) := dk_21 4 (dk_at dksX1_bestAt_0 12 rfl rfl)
theorem dX1_bestAt_14 : decode cX1_bestAt 14 = .ok (.ifCond .eq 10, 3) := dk_153 0 10 (dk_at dksX1_bestAt_0 14 rfl rfl)
theorem dX1_bestAt_17 : decode cX1_bestAt 17 = .ok (.aload_n 0, 1) := dk_42 (dk_at dksX1_bestAt_0 17 rfl rfl)
theorem dX1_bestAt_18 : decode cX1_bestAt 18 = .ok (.iload 4, 2) := dk_21 4 (dk_at dksX1_bestAt_0 18 rfl rfl)
theorem dX1_bestAt_20 : decode cX1_bestAt 20 = .ok (.invokevirtual 118, 3) := dk_182 0 118 (dk_at dksX1_bestAt_0 20 rfl rfl)
theorem dX1_bestAt_23 : decode cX1_bestAt 23 = .ok (.ireturn, 1) := dk_172 (dk_at dksX1_bestAt_0 23 rfl rfl)
theorem dX1_bestAt_24 : decode cX1_bestAt 24 = .ok (.iload_n 3, 1) := dk_29 (dk_at dksX1_bestAt_1 0 rfl rfl)
theorem dX1_bestAt_25 : decode cX1_bestAt 25 = .ok (.iconst 0, 1) := dk_3 (dk_at dksX1_bestAt_1 1 rfl rfl)
theorem dX1_bestAt_26 : decode cX1_bestAt 26 = .ok (.iload_n 2, 1) := dk_28 (dk_at dksX1_bestAt_1 2 rfl rfl)
theorem dX1_bestAt_27 : decode cX1_bestAt 27 = .ok (.invokestatic 245, 3) := dk_184 0 245 (dk_at dksX1_bestAt_1 3 rfl rfl)
theorem dX1_bestAt_30 : decode cX1_bestAt 30 = .ok (.iconst 1, 1) := dk_4 (dk_at dksX1_bestAt_1 6 rfl rfl)
theorem dX1_bestAt_31 : decode cX1_bestAt 31 = .ok (.isub, 1) := dk_100 (dk_at dksX1_bestAt_1 7 rfl rfl)
theorem dX1_bestAt_32 : decode cX1_bestAt 32 = .ok (.invokestatic 114, 3) := dk_184 0 114 (dk_at dksX1_bestAt_1 8 rfl rfl)
theorem dX1_bestAt_35 : decode cX1_bestAt 35 = .ok (.ifCond .ne 9, 3) := dk_154 0 9 (dk_at dksX1_bestAt_1 11 rfl rfl)
theorem dX1_bestAt_38 : decode cX1_bestAt 38 = .ok (.aload_n 0, 1) := dk_42 (dk_at dksX1_bestAt_1 14 rfl rfl)
theorem dX1_bestAt_39 : decode cX1_bestAt 39 = .ok (.iconst 1, 1) := dk_4 (dk_at dksX1_bestAt_1 15 rfl rfl)
theorem dX1_bestAt_40 : decode cX1_bestAt 40 = .ok (.invokevirtual 118, 3) := dk_182 0 118 (dk_at dksX1_bestAt_1 16 rfl rfl)
theorem dX1_bestAt_43 : decode cX1_bestAt 43 = .ok (.ireturn, 1) := dk_172 (dk_at dksX1_bestAt_1 19 rfl rfl)
theorem dX1_bestAt_44 : decode cX1_bestAt 44 = .ok (.aload_n 0, 1) := dk_42 (dk_at dksX1_bestAt_1 20 rfl rfl)
theorem dX1_bestAt_45 : decode cX1_bestAt 45 = .ok (.iload_n 1, 1) := dk_27 (dk_at dksX1_bestAt_1 21 rfl rfl)
theorem dX1_bestAt_46 : decode cX1_bestAt 46 = .ok (.iload_n 2, 1) := dk_28 (dk_at dksX1_bestAt_1 22 rfl rfl)
theorem dX1_bestAt_47 : decode cX1_bestAt 47 = .ok (.invokevirtual 251, 3) := dk_182 0 251 (dk_at dksX1_bestAt_2 0 rfl rfl)
theorem dX1_bestAt_50 : decode cX1_bestAt 50 = .ok (.pop, 1) := dk_87 (dk_at dksX1_bestAt_2 3 rfl rfl)
theorem dX1_bestAt_51 : decode cX1_bestAt 51 = .ok (.aload_n 0, 1) := dk_42 (dk_at dksX1_bestAt_2 4 rfl rfl)
theorem dX1_bestAt_52 : decode cX1_bestAt 52 = .ok (.getfield 37, 3) := dk_180 0 37 (dk_at dksX1_bestAt_2 5 rfl rfl)
theorem dX1_bestAt_55 : decode cX1_bestAt 55 = .ok (.getfield 190, 3) := dk_180 0 190 (dk_at dksX1_bestAt_2 8 rfl rfl)
theorem dX1_bestAt_58 : decode cX1_bestAt 58 = .ok (.iload_n 3, 1) := dk_29 (dk_at dksX1_bestAt_2 11 rfl rfl)
theorem dX1_bestAt_59 : decode cX1_bestAt 59 = .ok (.iaload, 1) := dk_46 (dk_at dksX1_bestAt_2 12 rfl rfl)
theorem dX1_bestAt_60 : decode cX1_bestAt 60 = .ok (.ireturn, 1) := dk_172 (dk_at dksX1_bestAt_2 13 rfl rfl)
abbrev cX1_share : ByteArray := prog_1_method_33_code
def yX1_share : MethodName := ⟨RX1, "share", "()I"⟩
def dkwX1_share_6 : List UInt8 := [184, 1, 1, 42, 180, 0, 254, 17, 39, 16, 108, 172]
abbrev dktX1_share_6 : List UInt8 := dkwX1_share_6 ++ []
def dkwX1_share_5 : List UInt8 := [42, 16, 6, 182, 0, 118, 172, 42, 4, 181, 0, 154, 42, 180, 0, 53, 3, 42, 180, 0, 50, 3, 16, 6]
abbrev dktX1_share_5 : List UInt8 := dkwX1_share_5 ++ dktX1_share_6
def dkwX1_share_4 : List UInt8 := [132, 1, 1, 167, 255, 178, 42, 2, 181, 0, 254, 42, 3, 182, 1, 7, 42, 180, 0, 254, 2, 160, 0, 10]
abbrev dktX1_share_4 : List UInt8 := dkwX1_share_4 ++ dktX1_share_5
def dkwX1_share_3 : List UInt8 := [180, 0, 40, 27, 16, 6, 120, 28, 96, 42, 27, 28, 182, 0, 251, 79, 132, 2, 1, 167, 255, 204]
abbrev dktX1_share_3 : List UInt8 := dkwX1_share_3 ++ dktX1_share_4
def dkwX1_share_2 : List UInt8 := [120, 162, 0, 45, 28, 184, 0, 245, 42, 180, 0, 129, 180, 0, 182, 27, 50, 180, 0, 185, 163, 0, 20, 42]
abbrev dktX1_share_2 : List UInt8 := dkwX1_share_2 ++ dktX1_share_3
def dkwX1_share_1 : List UInt8 := [180, 0, 166, 162, 0, 73, 42, 180, 0, 44, 27, 3, 79, 4, 61, 28, 4, 42, 180, 0, 129, 180, 0, 161]
abbrev dktX1_share_1 : List UInt8 := dkwX1_share_1 ++ dktX1_share_2
def dkwX1_share_0 : List UInt8 := [42, 182, 0, 104, 42, 180, 0, 129, 199, 0, 9, 42, 4, 182, 0, 118, 172, 3, 60, 27, 42, 180, 0, 129]
abbrev dktX1_share_0 : List UInt8 := dkwX1_share_0 ++ dktX1_share_1
theorem dksX1_share_0 : cX1_share.data.toList.drop 0 = dktX1_share_0 := by decide +kernel
theorem dksX1_share_1 : cX1_share.data.toList.drop 24 = dktX1_share_1 := dk_seg dksX1_share_0 24 rfl rfl
theorem dksX1_share_2 : cX1_share.data.toList.drop 48 = dktX1_share_2 := dk_seg dksX1_share_1 24 rfl rfl
theorem dksX1_share_3 : cX1_share.data.toList.drop 72 = dktX1_share_3 := dk_seg dksX1_share_2 24 rfl rfl
theorem dksX1_share_4 : cX1_share.data.toList.drop 94 = dktX1_share_4 := dk_seg dksX1_share_3 22 rfl rfl
theorem dksX1_share_5 : cX1_share.data.toList.drop 118 = dktX1_share_5 := dk_seg dksX1_share_4 24 rfl rfl
theorem dksX1_share_6 : cX1_share.data.toList.drop 142 = dktX1_share_6 := dk_seg dksX1_share_5 24 rfl rfl
theorem dX1_share_0 : decode cX1_share 0 = .ok (.aload_n 0, 1) := dk_42 (dk_at dksX1_share_0 0 rfl rfl)
theorem dX1_share_1 : decode cX1_share 1 = .ok (.invokevirtual 104, 3) := dk_182 0 104 (dk_at dksX1_share_0 1 rfl rfl)
theorem dX1_share_4 : decode cX1_share 4 = .ok (.aload_n 0, 1) := dk_42 (dk_at dksX1_share_0 4 rfl rfl)
theorem dX1_share_5 : decode cX1_share 5 = .ok (.getfield 129, 3) := dk_180 0 129 (dk_at dksX1_share_0 5 rfl rfl)
theorem dX1_share_8 : decode cX1_share 8 = .ok (.ifnonnull 9, 3) := dk_199 0 9 (dk_at dksX1_share_0 8 rfl rfl)
theorem dX1_share_11 : decode cX1_share 11 = .ok (.aload_n 0, 1) := dk_42 (dk_at dksX1_share_0 11 rfl rfl)
theorem dX1_share_12 : decode cX1_share 12 = .ok (.iconst 1, 1) := dk_4 (dk_at dksX1_share_0 12 rfl rfl)
theorem dX1_share_13 : decode cX1_share 13 = .ok (.invokevirtual 118, 3) := dk_182 0 118 (dk_at dksX1_share_0 13 rfl rfl)
theorem dX1_share_16 : decode cX1_share 16 = .ok (.ireturn, 1) := dk_172 (dk_at dksX1_share_0 16 rfl rfl)
theorem dX1_share_17 : decode cX1_share 17 = .ok (.iconst 0, 1) := dk_3 (dk_at dksX1_share_0 17 rfl rfl)
theorem dX1_share_18 : decode cX1_share 18 = .ok (.istore_n 1, 1) := dk_60 (dk_at dksX1_share_0 18 rfl rfl)
theorem dX1_share_19 : decode cX1_share 19 = .ok (.iload_n 1, 1) := dk_27 (dk_at dksX1_share_0 19 rfl rfl)
theorem dX1_share_20 : decode cX1_share 20 = .ok (.aload_n 0, 1) := dk_42 (dk_at dksX1_share_0 20 rfl rfl)
theorem dX1_share_21 : decode cX1_share 21 = .ok (.getfield 129, 3) := dk_180 0 129 (dk_at dksX1_share_0 21 rfl rfl)
theorem dX1_share_24 : decode cX1_share 24 = .ok (.getfield 166, 3) := dk_180 0 166 (dk_at dksX1_share_1 0 rfl rfl)
theorem dX1_share_27 : decode cX1_share 27 = .ok (.if_icmp .ge 73, 3) := dk_162 0 73 (dk_at dksX1_share_1 3 rfl rfl)
theorem dX1_share_30 : decode cX1_share 30 = .ok (.aload_n 0, 1) := dk_42 (dk_at dksX1_share_1 6 rfl rfl)
theorem dX1_share_31 : decode cX1_share 31 = .ok (.getfield 44, 3) := dk_180 0 44 (dk_at dksX1_share_1 7 rfl rfl)
theorem dX1_share_34 : decode cX1_share 34 = .ok (.iload_n 1, 1) := dk_27 (dk_at dksX1_share_1 10 rfl rfl)
theorem dX1_share_35 : decode cX1_share 35 = .ok (.iconst 0, 1) := dk_3 (dk_at dksX1_share_1 11 rfl rfl)
theorem dX1_share_36 : decode cX1_share 36 = .ok (.iastore, 1) := dk_79 (dk_at dksX1_share_1 12 rfl rfl)
theorem dX1_share_37 : decode cX1_share 37 = .ok (.iconst 1, 1) := dk_4 (dk_at dksX1_share_1 13 rfl rfl)
theorem dX1_share_38 : decode cX1_share 38 = .ok (.istore_n 2, 1) := dk_61 (dk_at dksX1_share_1 14 rfl rfl)
theorem dX1_share_39 : decode cX1_share 39 = .ok (.iload_n 2, 1) := dk_28 (dk_at dksX1_share_1 15 rfl rfl)
theorem dX1_share_40 : decode cX1_share 40 = .ok (.iconst 1, 1) := dk_4 (dk_at dksX1_share_1 16 rfl rfl)
theorem dX1_share_41 : decode cX1_share 41 = .ok (.aload_n 0, 1) := dk_42 (dk_at dksX1_share_1 17 rfl rfl)
theorem dX1_share_42 : decode cX1_share 42 = .ok (.getfield 129, 3) := dk_180 0 129 (dk_at dksX1_share_1 18 rfl rfl)
theorem dX1_share_45 : decode cX1_share 45 = .ok (.getfield 161, 3) := dk_180 0 161 (dk_at dksX1_share_1 21 rfl rfl)
theorem dX1_share_48 : decode cX1_share 48 = .ok (.ishl, 1) := dk_120 (dk_at dksX1_share_2 0 rfl rfl)
theorem dX1_share_49 : decode cX1_share 49 = .ok (.if_icmp .ge 45, 3) := dk_162 0 45 (dk_at dksX1_share_2 1 rfl rfl)
theorem dX1_share_52 : decode cX1_share 52 = .ok (.iload_n 2, 1) := dk_28 (dk_at dksX1_share_2 4 rfl rfl)
theorem dX1_share_53 : decode cX1_share 53 = .ok (.invokestatic 245, 3) := dk_184 0 245 (dk_at dksX1_share_2 5 rfl rfl)
theorem dX1_share_56 : decode cX1_share 56 = .ok (.aload_n 0, 1) := dk_42 (dk_at dksX1_share_2 8 rfl rfl)
theorem dX1_share_57 : decode cX1_share 57 = .ok (.getfield 129, 3) := dk_180 0 129 (dk_at dksX1_share_2 9 rfl rfl)
theorem dX1_share_60 : decode cX1_share 60 = .ok (.getfield 182, 3) := dk_180 0 182 (dk_at dksX1_share_2 12 rfl rfl)
theorem dX1_share_63 : decode cX1_share 63 = .ok (.iload_n 1, 1) := dk_27 (dk_at dksX1_share_2 15 rfl rfl)
theorem dX1_share_64 : decode cX1_share 64 = .ok (.aaload, 1) := dk_50 (dk_at dksX1_share_2 16 rfl rfl)
theorem dX1_share_65 : decode cX1_share 65 = .ok (.getfield 185, 3) := dk_180 0 185 (dk_at dksX1_share_2 17 rfl rfl)
theorem dX1_share_68 : decode cX1_share 68 = .ok (.if_icmp .gt 20, 3) := dk_163 0 20 (dk_at dksX1_share_2 20 rfl rfl)
theorem dX1_share_71 : decode cX1_share 71 = .ok (.aload_n 0, 1) := dk_42 (dk_at dksX1_share_2 23 rfl rfl)
theorem dX1_share_72 : decode cX1_share 72 = .ok (.getfield 40, 3) := dk_180 0 40 (dk_at dksX1_share_3 0 rfl rfl)
theorem dX1_share_75 : decode cX1_share 75 = .ok (.iload_n 1, 1) := dk_27 (dk_at dksX1_share_3 3 rfl rfl)
theorem dX1_share_76 : decode cX1_share 76 = .ok (.bipush 6, 2) := dk_16 6 (dk_at dksX1_share_3 4 rfl rfl)
theorem dX1_share_78 : decode cX1_share 78 = .ok (.ishl, 1) := dk_120 (dk_at dksX1_share_3 6 rfl rfl)
theorem dX1_share_79 : decode cX1_share 79 = .ok (.iload_n 2, 1) := dk_28 (dk_at dksX1_share_3 7 rfl rfl)
theorem dX1_share_80 : decode cX1_share 80 = .ok (.iadd, 1) := dk_96 (dk_at dksX1_share_3 8 rfl rfl)
theorem dX1_share_81 : decode cX1_share 81 = .ok (.aload_n 0, 1) := dk_42 (dk_at dksX1_share_3 9 rfl rfl)
theorem dX1_share_82 : decode cX1_share 82 = .ok (.iload_n 1, 1) := dk_27 (dk_at dksX1_share_3 10 rfl rfl)
theorem dX1_share_83 : decode cX1_share 83 = .ok (.iload_n 2, 1) := dk_28 (dk_at dksX1_share_3 11 rfl rfl)
theorem dX1_share_84 : decode cX1_share 84 = .ok (.invokevirtual 251, 3) := dk_182 0 251 (dk_at dksX1_share_3 12 rfl rfl)
theorem dX1_share_87 : decode cX1_share 87 = .ok (.iastore, 1) := dk_79 (dk_at dksX1_share_3 15 rfl rfl)
theorem dX1_share_88 : decode cX1_share 88 = .ok (.iinc 2 1, 3) := dk_132 2 1 (dk_at dksX1_share_3 16 rfl rfl)
theorem dX1_share_91 : decode cX1_share 91 = .ok (.goto (-52), 3) := dk_167 255 204 (dk_at dksX1_share_3 19 rfl rfl)
theorem dX1_share_94 : decode cX1_share 94 = .ok (.iinc 1 1, 3) := dk_132 1 1 (dk_at dksX1_share_4 0 rfl rfl)
theorem dX1_share_97 : decode cX1_share 97 = .ok (.goto (-78), 3) := dk_167 255 178 (dk_at dksX1_share_4 3 rfl rfl)
theorem dX1_share_100 : decode cX1_share 100 = .ok (.aload_n 0, 1) := dk_42 (dk_at dksX1_share_4 6 rfl rfl)
theorem dX1_share_101 : decode cX1_share 101 = .ok (.iconst (-1), 1) := dk_2 (dk_at dksX1_share_4 7 rfl rfl)
theorem dX1_share_102 : decode cX1_share 102 = .ok (.putfield 254, 3) := dk_181 0 254 (dk_at dksX1_share_4 8 rfl rfl)
theorem dX1_share_105 : decode cX1_share 105 = .ok (.aload_n 0, 1) := dk_42 (dk_at dksX1_share_4 11 rfl rfl)
theorem dX1_share_106 : decode cX1_share 106 = .ok (.iconst 0, 1) := dk_3 (dk_at dksX1_share_4 12 rfl rfl)
theorem dX1_share_107 : decode cX1_share 107 = .ok (.invokevirtual 263, 3) := dk_182 1 7 (dk_at dksX1_share_4 13 rfl rfl)
theorem dX1_share_110 : decode cX1_share 110 = .ok (.aload_n 0, 1) := dk_42 (dk_at dksX1_share_4 16 rfl rfl)
theorem dX1_share_111 : decode cX1_share 111 = .ok (.getfield 254, 3) := dk_180 0 254 (dk_at dksX1_share_4 17 rfl rfl)
theorem dX1_share_114 : decode cX1_share 114 = .ok (.iconst (-1), 1) := dk_2 (dk_at dksX1_share_4 20 rfl rfl)
theorem dX1_share_115 : decode cX1_share 115 = .ok (.if_icmp .ne 10, 3) := dk_160 0 10 (dk_at dksX1_share_4 21 rfl rfl)
theorem dX1_share_118 : decode cX1_share 118 = .ok (.aload_n 0, 1) := dk_42 (dk_at dksX1_share_5 0 rfl rfl)
theorem dX1_share_119 : decode cX1_share 119 = .ok (.bipush 6, 2) := dk_16 6 (dk_at dksX1_share_5 1 rfl rfl)
theorem dX1_share_121 : decode cX1_share 121 = .ok (.invokevirtual 118, 3) := dk_182 0 118 (dk_at dksX1_share_5 3 rfl rfl)
theorem dX1_share_124 : decode cX1_share 124 = .ok (.ireturn, 1) := dk_172 (dk_at dksX1_share_5 6 rfl rfl)
theorem dX1_share_125 : decode cX1_share 125 = .ok (.aload_n 0, 1) := dk_42 (dk_at dksX1_share_5 7 rfl rfl)
theorem dX1_share_126 : decode cX1_share 126 = .ok (.iconst 1, 1) := dk_4 (dk_at dksX1_share_5 8 rfl rfl)
theorem dX1_share_127 : decode cX1_share 127 = .ok (.putfield 154, 3) := dk_181 0 154 (dk_at dksX1_share_5 9 rfl rfl)
theorem dX1_share_130 : decode cX1_share 130 = .ok (.aload_n 0, 1) := dk_42 (dk_at dksX1_share_5 12 rfl rfl)
theorem dX1_share_131 : decode cX1_share 131 = .ok (.getfield 53, 3) := dk_180 0 53 (dk_at dksX1_share_5 13 rfl rfl)
theorem dX1_share_134 : decode cX1_share 134 = .ok (.iconst 0, 1) := dk_3 (dk_at dksX1_share_5 16 rfl rfl)
theorem dX1_share_135 : decode cX1_share 135 = .ok (.aload_n 0, 1) := dk_42 (dk_at dksX1_share_5 17 rfl rfl)
theorem dX1_share_136 : decode cX1_share 136 = .ok (.getfield 50, 3) := dk_180 0 50 (dk_at dksX1_share_5 18 rfl rfl)
theorem dX1_share_139 : decode cX1_share 139 = .ok (.iconst 0, 1) := dk_3 (dk_at dksX1_share_5 21 rfl rfl)
theorem dX1_share_140 : decode cX1_share 140 = .ok (.bipush 6, 2) := dk_16 6 (dk_at dksX1_share_5 22 rfl rfl)
theorem dX1_share_142 : decode cX1_share 142 = .ok (.invokestatic 257, 3) := dk_184 1 1 (dk_at dksX1_share_6 0 rfl rfl)
theorem dX1_share_145 : decode cX1_share 145 = .ok (.aload_n 0, 1) := dk_42 (dk_at dksX1_share_6 3 rfl rfl)
theorem dX1_share_146 : decode cX1_share 146 = .ok (.getfield 254, 3) := dk_180 0 254 (dk_at dksX1_share_6 4 rfl rfl)
theorem dX1_share_149 : decode cX1_share 149 = .ok (.sipush 10000, 3) := dk_17 39 16 (dk_at dksX1_share_6 7 rfl rfl)
theorem dX1_share_152 : decode cX1_share 152 = .ok (.idiv, 1) := dk_108 (dk_at dksX1_share_6 10 rfl rfl)
theorem dX1_share_153 : decode cX1_share 153 = .ok (.ireturn, 1) := dk_172 (dk_at dksX1_share_6 11 rfl rfl)
abbrev cX1_shares : ByteArray := prog_1_method_32_code
def yX1_shares : MethodName := ⟨RX1, "shares", "(I)V"⟩
def dkwX1_shares_8 : List UInt8 := [167, 255, 175, 177]
abbrev dktX1_shares_8 : List UInt8 := dkwX1_shares_8 ++ []
def dkwX1_shares_7 : List UInt8 := [4, 96, 182, 1, 7, 42, 180, 0, 44, 28, 92, 46, 4, 27, 120, 2, 130, 126, 79, 132, 2, 1]
abbrev dktX1_shares_7 : List UInt8 := dkwX1_shares_7 ++ dktX1_shares_8
def dkwX1_shares_6 : List UInt8 := [167, 0, 43, 42, 180, 0, 44, 28, 92, 46, 4, 27, 120, 128, 79, 42, 180, 0, 47, 27, 28, 79, 42, 27]
abbrev dktX1_shares_6 : List UInt8 := dkwX1_shares_6 ++ dktX1_shares_7
def dkwX1_shares_5 : List UInt8 := [180, 0, 44, 28, 46, 184, 0, 245, 42, 180, 0, 129, 180, 0, 182, 28, 50, 180, 0, 185, 160, 0, 6]
abbrev dktX1_shares_5 : List UInt8 := dkwX1_shares_5 ++ dktX1_shares_6
def dkwX1_shares_4 : List UInt8 := [180, 0, 53, 3, 27, 184, 1, 1, 177, 3, 61, 28, 42, 180, 0, 129, 180, 0, 166, 162, 0, 76, 42]
abbrev dktX1_shares_4 : List UInt8 := dkwX1_shares_4 ++ dktX1_shares_5
def dkwX1_shares_3 : List UInt8 := [159, 0, 12, 28, 42, 180, 0, 254, 161, 0, 4, 177, 42, 28, 181, 0, 254, 42, 180, 0, 47, 3, 42]
abbrev dktX1_shares_3 : List UInt8 := dkwX1_shares_3 ++ dktX1_shares_4
def dkwX1_shares_2 : List UInt8 := [120, 42, 180, 0, 44, 29, 46, 96, 46, 96, 61, 132, 3, 1, 167, 255, 210, 42, 180, 0, 254, 2]
abbrev dktX1_shares_2 : List UInt8 := dkwX1_shares_2 ++ dktX1_shares_3
def dkwX1_shares_1 : List UInt8 := [162, 0, 41, 28, 42, 180, 0, 44, 29, 46, 154, 0, 7, 3, 167, 0, 19, 42, 180, 0, 40, 29, 16, 6]
abbrev dktX1_shares_1 : List UInt8 := dkwX1_shares_1 ++ dktX1_shares_2
def dkwX1_shares_0 : List UInt8 := [27, 42, 180, 0, 129, 180, 0, 161, 160, 0, 93, 3, 61, 3, 62, 29, 42, 180, 0, 129, 180, 0, 166]
abbrev dktX1_shares_0 : List UInt8 := dkwX1_shares_0 ++ dktX1_shares_1
theorem dksX1_shares_0 : cX1_shares.data.toList.drop 0 = dktX1_shares_0 := by decide +kernel
theorem dksX1_shares_1 : cX1_shares.data.toList.drop 23 = dktX1_shares_1 := dk_seg dksX1_shares_0 23 rfl rfl
theorem dksX1_shares_2 : cX1_shares.data.toList.drop 47 = dktX1_shares_2 := dk_seg dksX1_shares_1 24 rfl rfl
theorem dksX1_shares_3 : cX1_shares.data.toList.drop 69 = dktX1_shares_3 := dk_seg dksX1_shares_2 22 rfl rfl
theorem dksX1_shares_4 : cX1_shares.data.toList.drop 92 = dktX1_shares_4 := dk_seg dksX1_shares_3 23 rfl rfl
theorem dksX1_shares_5 : cX1_shares.data.toList.drop 115 = dktX1_shares_5 := dk_seg dksX1_shares_4 23 rfl rfl
theorem dksX1_shares_6 : cX1_shares.data.toList.drop 138 = dktX1_shares_6 := dk_seg dksX1_shares_5 23 rfl rfl
theorem dksX1_shares_7 : cX1_shares.data.toList.drop 162 = dktX1_shares_7 := dk_seg dksX1_shares_6 24 rfl rfl
theorem dksX1_shares_8 : cX1_shares.data.toList.drop 184 = dktX1_shares_8 := dk_seg dksX1_shares_7 22 rfl rfl
theorem dX1_shares_0 : decode cX1_shares 0 = .ok (.iload_n 1, 1) := dk_27 (dk_at dksX1_shares_0 0 rfl rfl)
theorem dX1_shares_1 : decode cX1_shares 1 = .ok (.aload_n 0, 1) := dk_42 (dk_at dksX1_shares_0 1 rfl rfl)
theorem dX1_shares_2 : decode cX1_shares 2 = .ok (.getfield 129, 3) := dk_180 0 129 (dk_at dksX1_shares_0 2 rfl rfl)
theorem dX1_shares_5 : decode cX1_shares 5 = .ok (.getfield 161, 3) := dk_180 0 161 (dk_at dksX1_shares_0 5 rfl rfl)
theorem dX1_shares_8 : decode cX1_shares 8 = .ok (.if_icmp .ne 93, 3) := dk_160 0 93 (dk_at dksX1_shares_0 8 rfl rfl)
theorem dX1_shares_11 : decode cX1_shares 11 = .ok (.iconst 0, 1) := dk_3 (dk_at dksX1_shares_0 11 rfl rfl)
theorem dX1_shares_12 : decode cX1_shares 12 = .ok (.istore_n 2, 1) := dk_61 (dk_at dksX1_shares_0 12 rfl rfl)
theorem dX1_shares_13 : decode cX1_shares 13 = .ok (.iconst 0, 1) := dk_3 (dk_at dksX1_shares_0 13 rfl rfl)
theorem dX1_shares_14 : decode cX1_shares 14 = .ok (.istore_n 3, 1) := dk_62 (dk_at dksX1_shares_0 14 rfl rfl)
theorem dX1_shares_15 : decode cX1_shares 15 = .ok (.iload_n 3, 1) := dk_29 (dk_at dksX1_shares_0 15 rfl rfl)
theorem dX1_shares_16 : decode cX1_shares 16 = .ok (.aload_n 0, 1) := dk_42 (dk_at dksX1_shares_0 16 rfl rfl)
theorem dX1_shares_17 : decode cX1_shares 17 = .ok (.getfield 129, 3) := dk_180 0 129 (dk_at dksX1_shares_0 17 rfl rfl)
theorem dX1_shares_20 : decode cX1_shares 20 = .ok (.getfield 166, 3) := dk_180 0 166 (dk_at dksX1_shares_0 20 rfl rfl)
theorem dX1_shares_23 : decode cX1_shares 23 = .ok (.if_icmp .ge 41, 3) := dk_162 0 41 (dk_at dksX1_shares_1 0 rfl rfl)
theorem dX1_shares_26 : decode cX1_shares 26 = .ok (.iload_n 2, 1) := dk_28 (dk_at dksX1_shares_1 3 rfl rfl)
theorem dX1_shares_27 : decode cX1_shares 27 = .ok (.aload_n 0, 1) := dk_42 (dk_at dksX1_shares_1 4 rfl rfl)
theorem dX1_shares_28 : decode cX1_shares 28 = .ok (.getfield 44, 3) := dk_180 0 44 (dk_at dksX1_shares_1 5 rfl rfl)
theorem dX1_shares_31 : decode cX1_shares 31 = .ok (.iload_n 3, 1) := dk_29 (dk_at dksX1_shares_1 8 rfl rfl)
theorem dX1_shares_32 : decode cX1_shares 32 = .ok (.iaload, 1) := dk_46 (dk_at dksX1_shares_1 9 rfl rfl)
theorem dX1_shares_33 : decode cX1_shares 33 = .ok (.ifCond .ne 7, 3) := dk_154 0 7 (dk_at dksX1_shares_1 10 rfl rfl)
theorem dX1_shares_36 : decode cX1_shares 36 = .ok (.iconst 0, 1) := dk_3 (dk_at dksX1_shares_1 13 rfl rfl)
theorem dX1_shares_37 : decode cX1_shares 37 = .ok (.goto 19, 3) := dk_167 0 19 (dk_at dksX1_shares_1 14 rfl rfl)
theorem dX1_shares_40 : decode cX1_shares 40 = .ok (.aload_n 0, 1) := dk_42 (dk_at dksX1_shares_1 17 rfl rfl)
theorem dX1_shares_41 : decode cX1_shares 41 = .ok (.getfield 40, 3) := dk_180 0 40 (dk_at dksX1_shares_1 18 rfl rfl)
theorem dX1_shares_44 : decode cX1_shares 44 = .ok (.iload_n 3, 1) := dk_29 (dk_at dksX1_shares_1 21 rfl rfl)
theorem dX1_shares_45 : decode cX1_shares 45 = .ok (.bipush 6, 2) := dk_16 6 (dk_at dksX1_shares_1 22 rfl rfl)
theorem dX1_shares_47 : decode cX1_shares 47 = .ok (.ishl, 1) := dk_120 (dk_at dksX1_shares_2 0 rfl rfl)
theorem dX1_shares_48 : decode cX1_shares 48 = .ok (.aload_n 0, 1) := dk_42 (dk_at dksX1_shares_2 1 rfl rfl)
theorem dX1_shares_49 : decode cX1_shares 49 = .ok (.getfield 44, 3) := dk_180 0 44 (dk_at dksX1_shares_2 2 rfl rfl)
theorem dX1_shares_52 : decode cX1_shares 52 = .ok (.iload_n 3, 1) := dk_29 (dk_at dksX1_shares_2 5 rfl rfl)
theorem dX1_shares_53 : decode cX1_shares 53 = .ok (.iaload, 1) := dk_46 (dk_at dksX1_shares_2 6 rfl rfl)
theorem dX1_shares_54 : decode cX1_shares 54 = .ok (.iadd, 1) := dk_96 (dk_at dksX1_shares_2 7 rfl rfl)
theorem dX1_shares_55 : decode cX1_shares 55 = .ok (.iaload, 1) := dk_46 (dk_at dksX1_shares_2 8 rfl rfl)
theorem dX1_shares_56 : decode cX1_shares 56 = .ok (.iadd, 1) := dk_96 (dk_at dksX1_shares_2 9 rfl rfl)
theorem dX1_shares_57 : decode cX1_shares 57 = .ok (.istore_n 2, 1) := dk_61 (dk_at dksX1_shares_2 10 rfl rfl)
theorem dX1_shares_58 : decode cX1_shares 58 = .ok (.iinc 3 1, 3) := dk_132 3 1 (dk_at dksX1_shares_2 11 rfl rfl)
theorem dX1_shares_61 : decode cX1_shares 61 = .ok (.goto (-46), 3) := dk_167 255 210 (dk_at dksX1_shares_2 14 rfl rfl)
theorem dX1_shares_64 : decode cX1_shares 64 = .ok (.aload_n 0, 1) := dk_42 (dk_at dksX1_shares_2 17 rfl rfl)
theorem dX1_shares_65 : decode cX1_shares 65 = .ok (.getfield 254, 3) := dk_180 0 254 (dk_at dksX1_shares_2 18 rfl rfl)
theorem dX1_shares_68 : decode cX1_shares 68 = .ok (.iconst (-1), 1) := dk_2 (dk_at dksX1_shares_2 21 rfl rfl)
theorem dX1_shares_69 : decode cX1_shares 69 = .ok (.if_icmp .eq 12, 3) := dk_159 0 12 (dk_at dksX1_shares_3 0 rfl rfl)
theorem dX1_shares_72 : decode cX1_shares 72 = .ok (.iload_n 2, 1) := dk_28 (dk_at dksX1_shares_3 3 rfl rfl)
theorem dX1_shares_73 : decode cX1_shares 73 = .ok (.aload_n 0, 1) := dk_42 (dk_at dksX1_shares_3 4 rfl rfl)
theorem dX1_shares_74 : decode cX1_shares 74 = .ok (.getfield 254, 3) := dk_180 0 254 (dk_at dksX1_shares_3 5 rfl rfl)
theorem dX1_shares_77 : decode cX1_shares 77 = .ok (.if_icmp .lt 4, 3) := dk_161 0 4 (dk_at dksX1_shares_3 8 rfl rfl)
theorem dX1_shares_80 : decode cX1_shares 80 = .ok (.return_, 1) := dk_177 (dk_at dksX1_shares_3 11 rfl rfl)
theorem dX1_shares_81 : decode cX1_shares 81 = .ok (.aload_n 0, 1) := dk_42 (dk_at dksX1_shares_3 12 rfl rfl)
theorem dX1_shares_82 : decode cX1_shares 82 = .ok (.iload_n 2, 1) := dk_28 (dk_at dksX1_shares_3 13 rfl rfl)
theorem dX1_shares_83 : decode cX1_shares 83 = .ok (.putfield 254, 3) := dk_181 0 254 (dk_at dksX1_shares_3 14 rfl rfl)
theorem dX1_shares_86 : decode cX1_shares 86 = .ok (.aload_n 0, 1) := dk_42 (dk_at dksX1_shares_3 17 rfl rfl)
theorem dX1_shares_87 : decode cX1_shares 87 = .ok (.getfield 47, 3) := dk_180 0 47 (dk_at dksX1_shares_3 18 rfl rfl)
theorem dX1_shares_90 : decode cX1_shares 90 = .ok (.iconst 0, 1) := dk_3 (dk_at dksX1_shares_3 21 rfl rfl)
theorem dX1_shares_91 : decode cX1_shares 91 = .ok (.aload_n 0, 1) := dk_42 (dk_at dksX1_shares_3 22 rfl rfl)
theorem dX1_shares_92 : decode cX1_shares 92 = .ok (.getfield 53, 3) := dk_180 0 53 (dk_at dksX1_shares_4 0 rfl rfl)
theorem dX1_shares_95 : decode cX1_shares 95 = .ok (.iconst 0, 1) := dk_3 (dk_at dksX1_shares_4 3 rfl rfl)
theorem dX1_shares_96 : decode cX1_shares 96 = .ok (.iload_n 1, 1) := dk_27 (dk_at dksX1_shares_4 4 rfl rfl)
theorem dX1_shares_97 : decode cX1_shares 97 = .ok (.invokestatic 257, 3) := dk_184 1 1 (dk_at dksX1_shares_4 5 rfl rfl)
theorem dX1_shares_100 : decode cX1_shares 100 = .ok (.return_, 1) := dk_177 (dk_at dksX1_shares_4 8 rfl rfl)
theorem dX1_shares_101 : decode cX1_shares 101 = .ok (.iconst 0, 1) := dk_3 (dk_at dksX1_shares_4 9 rfl rfl)
theorem dX1_shares_102 : decode cX1_shares 102 = .ok (.istore_n 2, 1) := dk_61 (dk_at dksX1_shares_4 10 rfl rfl)
theorem dX1_shares_103 : decode cX1_shares 103 = .ok (.iload_n 2, 1) := dk_28 (dk_at dksX1_shares_4 11 rfl rfl)
theorem dX1_shares_104 : decode cX1_shares 104 = .ok (.aload_n 0, 1) := dk_42 (dk_at dksX1_shares_4 12 rfl rfl)
theorem dX1_shares_105 : decode cX1_shares 105 = .ok (.getfield 129, 3) := dk_180 0 129 (dk_at dksX1_shares_4 13 rfl rfl)
theorem dX1_shares_108 : decode cX1_shares 108 = .ok (.getfield 166, 3) := dk_180 0 166 (dk_at dksX1_shares_4 16 rfl rfl)
theorem dX1_shares_111 : decode cX1_shares 111 = .ok (.if_icmp .ge 76, 3) := dk_162 0 76 (dk_at dksX1_shares_4 19 rfl rfl)
theorem dX1_shares_114 : decode cX1_shares 114 = .ok (.aload_n 0, 1) := dk_42 (dk_at dksX1_shares_4 22 rfl rfl)
theorem dX1_shares_115 : decode cX1_shares 115 = .ok (.getfield 44, 3) := dk_180 0 44 (dk_at dksX1_shares_5 0 rfl rfl)
theorem dX1_shares_118 : decode cX1_shares 118 = .ok (.iload_n 2, 1) := dk_28 (dk_at dksX1_shares_5 3 rfl rfl)
theorem dX1_shares_119 : decode cX1_shares 119 = .ok (.iaload, 1) := dk_46 (dk_at dksX1_shares_5 4 rfl rfl)
theorem dX1_shares_120 : decode cX1_shares 120 = .ok (.invokestatic 245, 3) := dk_184 0 245 (dk_at dksX1_shares_5 5 rfl rfl)
theorem dX1_shares_123 : decode cX1_shares 123 = .ok (.aload_n 0, 1) := dk_42 (dk_at dksX1_shares_5 8 rfl rfl)
theorem dX1_shares_124 : decode cX1_shares 124 = .ok (.getfield 129, 3) := dk_180 0 129 (dk_at dksX1_shares_5 9 rfl rfl)
theorem dX1_shares_127 : decode cX1_shares 127 = .ok (.getfield 182, 3) := dk_180 0 182 (dk_at dksX1_shares_5 12 rfl rfl)
theorem dX1_shares_130 : decode cX1_shares 130 = .ok (.iload_n 2, 1) := dk_28 (dk_at dksX1_shares_5 15 rfl rfl)
theorem dX1_shares_131 : decode cX1_shares 131 = .ok (.aaload, 1) := dk_50 (dk_at dksX1_shares_5 16 rfl rfl)
theorem dX1_shares_132 : decode cX1_shares 132 = .ok (.getfield 185, 3) := dk_180 0 185 (dk_at dksX1_shares_5 17 rfl rfl)
theorem dX1_shares_135 : decode cX1_shares 135 = .ok (.if_icmp .ne 6, 3) := dk_160 0 6 (dk_at dksX1_shares_5 20 rfl rfl)
theorem dX1_shares_138 : decode cX1_shares 138 = .ok (.goto 43, 3) := dk_167 0 43 (dk_at dksX1_shares_6 0 rfl rfl)
theorem dX1_shares_141 : decode cX1_shares 141 = .ok (.aload_n 0, 1) := dk_42 (dk_at dksX1_shares_6 3 rfl rfl)
theorem dX1_shares_142 : decode cX1_shares 142 = .ok (.getfield 44, 3) := dk_180 0 44 (dk_at dksX1_shares_6 4 rfl rfl)
theorem dX1_shares_145 : decode cX1_shares 145 = .ok (.iload_n 2, 1) := dk_28 (dk_at dksX1_shares_6 7 rfl rfl)
theorem dX1_shares_146 : decode cX1_shares 146 = .ok (.dup2, 1) := dk_92 (dk_at dksX1_shares_6 8 rfl rfl)
theorem dX1_shares_147 : decode cX1_shares 147 = .ok (.iaload, 1) := dk_46 (dk_at dksX1_shares_6 9 rfl rfl)
theorem dX1_shares_148 : decode cX1_shares 148 = .ok (.iconst 1, 1) := dk_4 (dk_at dksX1_shares_6 10 rfl rfl)
theorem dX1_shares_149 : decode cX1_shares 149 = .ok (.iload_n 1, 1) := dk_27 (dk_at dksX1_shares_6 11 rfl rfl)
theorem dX1_shares_150 : decode cX1_shares 150 = .ok (.ishl, 1) := dk_120 (dk_at dksX1_shares_6 12 rfl rfl)
theorem dX1_shares_151 : decode cX1_shares 151 = .ok (.ior, 1) := dk_128 (dk_at dksX1_shares_6 13 rfl rfl)
theorem dX1_shares_152 : decode cX1_shares 152 = .ok (.iastore, 1) := dk_79 (dk_at dksX1_shares_6 14 rfl rfl)
theorem dX1_shares_153 : decode cX1_shares 153 = .ok (.aload_n 0, 1) := dk_42 (dk_at dksX1_shares_6 15 rfl rfl)
theorem dX1_shares_154 : decode cX1_shares 154 = .ok (.getfield 47, 3) := dk_180 0 47 (dk_at dksX1_shares_6 16 rfl rfl)
theorem dX1_shares_157 : decode cX1_shares 157 = .ok (.iload_n 1, 1) := dk_27 (dk_at dksX1_shares_6 19 rfl rfl)
theorem dX1_shares_158 : decode cX1_shares 158 = .ok (.iload_n 2, 1) := dk_28 (dk_at dksX1_shares_6 20 rfl rfl)
theorem dX1_shares_159 : decode cX1_shares 159 = .ok (.iastore, 1) := dk_79 (dk_at dksX1_shares_6 21 rfl rfl)
theorem dX1_shares_160 : decode cX1_shares 160 = .ok (.aload_n 0, 1) := dk_42 (dk_at dksX1_shares_6 22 rfl rfl)
theorem dX1_shares_161 : decode cX1_shares 161 = .ok (.iload_n 1, 1) := dk_27 (dk_at dksX1_shares_6 23 rfl rfl)
theorem dX1_shares_162 : decode cX1_shares 162 = .ok (.iconst 1, 1) := dk_4 (dk_at dksX1_shares_7 0 rfl rfl)
theorem dX1_shares_163 : decode cX1_shares 163 = .ok (.iadd, 1) := dk_96 (dk_at dksX1_shares_7 1 rfl rfl)
theorem dX1_shares_164 : decode cX1_shares 164 = .ok (.invokevirtual 263, 3) := dk_182 1 7 (dk_at dksX1_shares_7 2 rfl rfl)
theorem dX1_shares_167 : decode cX1_shares 167 = .ok (.aload_n 0, 1) := dk_42 (dk_at dksX1_shares_7 5 rfl rfl)
theorem dX1_shares_168 : decode cX1_shares 168 = .ok (.getfield 44, 3) := dk_180 0 44 (dk_at dksX1_shares_7 6 rfl rfl)
theorem dX1_shares_171 : decode cX1_shares 171 = .ok (.iload_n 2, 1) := dk_28 (dk_at dksX1_shares_7 9 rfl rfl)
theorem dX1_shares_172 : decode cX1_shares 172 = .ok (.dup2, 1) := dk_92 (dk_at dksX1_shares_7 10 rfl rfl)
theorem dX1_shares_173 : decode cX1_shares 173 = .ok (.iaload, 1) := dk_46 (dk_at dksX1_shares_7 11 rfl rfl)
theorem dX1_shares_174 : decode cX1_shares 174 = .ok (.iconst 1, 1) := dk_4 (dk_at dksX1_shares_7 12 rfl rfl)
theorem dX1_shares_175 : decode cX1_shares 175 = .ok (.iload_n 1, 1) := dk_27 (dk_at dksX1_shares_7 13 rfl rfl)
theorem dX1_shares_176 : decode cX1_shares 176 = .ok (.ishl, 1) := dk_120 (dk_at dksX1_shares_7 14 rfl rfl)
theorem dX1_shares_177 : decode cX1_shares 177 = .ok (.iconst (-1), 1) := dk_2 (dk_at dksX1_shares_7 15 rfl rfl)
theorem dX1_shares_178 : decode cX1_shares 178 = .ok (.ixor, 1) := dk_130 (dk_at dksX1_shares_7 16 rfl rfl)
theorem dX1_shares_179 : decode cX1_shares 179 = .ok (.iand, 1) := dk_126 (dk_at dksX1_shares_7 17 rfl rfl)
theorem dX1_shares_180 : decode cX1_shares 180 = .ok (.iastore, 1) := dk_79 (dk_at dksX1_shares_7 18 rfl rfl)
theorem dX1_shares_181 : decode cX1_shares 181 = .ok (.iinc 2 1, 3) := dk_132 2 1 (dk_at dksX1_shares_7 19 rfl rfl)
theorem dX1_shares_184 : decode cX1_shares 184 = .ok (.goto (-81), 3) := dk_167 255 175 (dk_at dksX1_shares_8 0 rfl rfl)
theorem dX1_shares_187 : decode cX1_shares 187 = .ok (.return_, 1) := dk_177 (dk_at dksX1_shares_8 3 rfl rfl)
abbrev cX1_shared : ByteArray := prog_1_method_34_code
def yX1_shared : MethodName := ⟨RX1, "shared", "(I)I"⟩
def dkwX1_shared_1 : List UInt8 := [2, 172]
abbrev dktX1_shared_1 : List UInt8 := dkwX1_shared_1 ++ []
def dkwX1_shared_0 : List UInt8 := [42, 27, 182, 0, 176, 153, 0, 19, 42, 180, 0, 154, 153, 0, 12, 42, 180, 0, 50, 27, 46, 167, 0, 4]
abbrev dktX1_shared_0 : List UInt8 := dkwX1_shared_0 ++ dktX1_shared_1
theorem dksX1_shared_0 : cX1_shared.data.toList.drop 0 = dktX1_shared_0 := by decide +kernel
theorem dksX1_shared_1 : cX1_shared.data.toList.drop 24 = dktX1_shared_1 := dk_seg dksX1_shared_0 24 rfl rfl
theorem dX1_shared_0 : decode cX1_shared 0 = .ok (.aload_n 0, 1) := dk_42 (dk_at dksX1_shared_0 0 rfl rfl)
theorem dX1_shared_1 : decode cX1_shared 1 = .ok (.iload_n 1, 1) := dk_27 (dk_at dksX1_shared_0 1 rfl rfl)
theorem dX1_shared_2 : decode cX1_shared 2 = .ok (.invokevirtual 176, 3) := dk_182 0 176 (dk_at dksX1_shared_0 2 rfl rfl)
theorem dX1_shared_5 : decode cX1_shared 5 = .ok (.ifCond .eq 19, 3) := dk_153 0 19 (dk_at dksX1_shared_0 5 rfl rfl)
theorem dX1_shared_8 : decode cX1_shared 8 = .ok (.aload_n 0, 1) := dk_42 (dk_at dksX1_shared_0 8 rfl rfl)
theorem dX1_shared_9 : decode cX1_shared 9 = .ok (.getfield 154, 3) := dk_180 0 154 (dk_at dksX1_shared_0 9 rfl rfl)
theorem dX1_shared_12 : decode cX1_shared 12 = .ok (.ifCond .eq 12, 3) := dk_153 0 12 (dk_at dksX1_shared_0 12 rfl rfl)
theorem dX1_shared_15 : decode cX1_shared 15 = .ok (.aload_n 0, 1) := dk_42 (dk_at dksX1_shared_0 15 rfl rfl)
theorem dX1_shared_16 : decode cX1_shared 16 = .ok (.getfield 50, 3) := dk_180 0 50 (dk_at dksX1_shared_0 16 rfl rfl)
theorem dX1_shared_19 : decode cX1_shared 19 = .ok (.iload_n 1, 1) := dk_27 (dk_at dksX1_shared_0 19 rfl rfl)
theorem dX1_shared_20 : decode cX1_shared 20 = .ok (.iaload, 1) := dk_46 (dk_at dksX1_shared_0 20 rfl rfl)
theorem dX1_shared_21 : decode cX1_shared 21 = .ok (.goto 4, 3) := dk_167 0 4 (dk_at dksX1_shared_0 21 rfl rfl)
theorem dX1_shared_24 : decode cX1_shared 24 = .ok (.iconst (-1), 1) := dk_2 (dk_at dksX1_shared_1 0 rfl rfl)
theorem dX1_shared_25 : decode cX1_shared 25 = .ok (.ireturn, 1) := dk_172 (dk_at dksX1_shared_1 1 rfl rfl)
abbrev cX1_odds : ByteArray := prog_1_method_35_code
def yX1_odds : MethodName := ⟨RX1, "odds", "(I)J"⟩
def dkwX1_odds_6 : List UInt8 := [167, 255, 186, 33, 22, 6, 97, 66, 132, 5, 1, 167, 255, 138, 33, 173]
abbrev dktX1_odds_6 : List UInt8 := dkwX1_odds_6 ++ []
def dkwX1_odds_5 : List UInt8 := [184, 0, 237, 153, 0, 9, 21, 9, 133, 167, 0, 9, 16, 100, 21, 9, 100, 133, 105, 55, 6, 132, 8, 1]
abbrev dktX1_odds_5 : List UInt8 := dkwX1_odds_5 ++ dktX1_odds_6
def dkwX1_odds_4 : List UInt8 := [180, 1, 17, 54, 9, 22, 6, 28, 21, 8, 184, 0, 237, 154, 0, 7, 10, 167, 0, 25, 21, 5, 21, 8]
abbrev dktX1_odds_4 : List UInt8 := dkwX1_odds_4 ++ dktX1_odds_5
def dkwX1_odds_3 : List UInt8 := [54, 8, 21, 8, 42, 180, 0, 129, 180, 0, 161, 162, 0, 64, 42, 180, 0, 129, 180, 1, 14, 21, 8, 50]
abbrev dktX1_odds_3 : List UInt8 := dkwX1_odds_3 ++ dktX1_odds_4
def dkwX1_odds_2 : List UInt8 := [154, 0, 103, 42, 27, 21, 5, 182, 0, 203, 180, 0, 220, 153, 0, 6, 167, 0, 87, 10, 55, 6, 3]
abbrev dktX1_odds_2 : List UInt8 := dkwX1_odds_2 ++ dktX1_odds_3
def dkwX1_odds_1 : List UInt8 := [50, 182, 1, 10, 61, 9, 66, 3, 54, 5, 21, 5, 28, 163, 0, 118, 21, 5, 28, 2, 130, 126]
abbrev dktX1_odds_1 : List UInt8 := dkwX1_odds_1 ++ dktX1_odds_2
def dkwX1_odds_0 : List UInt8 := [42, 182, 0, 104, 42, 27, 182, 0, 172, 154, 0, 10, 42, 4, 182, 0, 118, 133, 173, 42, 180, 0, 28, 27]
abbrev dktX1_odds_0 : List UInt8 := dkwX1_odds_0 ++ dktX1_odds_1
theorem dksX1_odds_0 : cX1_odds.data.toList.drop 0 = dktX1_odds_0 := by decide +kernel
theorem dksX1_odds_1 : cX1_odds.data.toList.drop 24 = dktX1_odds_1 := dk_seg dksX1_odds_0 24 rfl rfl
theorem dksX1_odds_2 : cX1_odds.data.toList.drop 46 = dktX1_odds_2 := dk_seg dksX1_odds_1 22 rfl rfl
theorem dksX1_odds_3 : cX1_odds.data.toList.drop 69 = dktX1_odds_3 := dk_seg dksX1_odds_2 23 rfl rfl
theorem dksX1_odds_4 : cX1_odds.data.toList.drop 93 = dktX1_odds_4 := dk_seg dksX1_odds_3 24 rfl rfl
theorem dksX1_odds_5 : cX1_odds.data.toList.drop 117 = dktX1_odds_5 := dk_seg dksX1_odds_4 24 rfl rfl
theorem dksX1_odds_6 : cX1_odds.data.toList.drop 141 = dktX1_odds_6 := dk_seg dksX1_odds_5 24 rfl rfl
theorem dX1_odds_0 : decode cX1_odds 0 = .ok (.aload_n 0, 1) := dk_42 (dk_at dksX1_odds_0 0 rfl rfl)
theorem dX1_odds_1 : decode cX1_odds 1 = .ok (.invokevirtual 104, 3) := dk_182 0 104 (dk_at dksX1_odds_0 1 rfl rfl)
theorem dX1_odds_4 : decode cX1_odds 4 = .ok (.aload_n 0, 1) := dk_42 (dk_at dksX1_odds_0 4 rfl rfl)
theorem dX1_odds_5 : decode cX1_odds 5 = .ok (.iload_n 1, 1) := dk_27 (dk_at dksX1_odds_0 5 rfl rfl)
theorem dX1_odds_6 : decode cX1_odds 6 = .ok (.invokevirtual 172, 3) := dk_182 0 172 (dk_at dksX1_odds_0 6 rfl rfl)
theorem dX1_odds_9 : decode cX1_odds 9 = .ok (.ifCond .ne 10, 3) := dk_154 0 10 (dk_at dksX1_odds_0 9 rfl rfl)
theorem dX1_odds_12 : decode cX1_odds 12 = .ok (.aload_n 0, 1) := dk_42 (dk_at dksX1_odds_0 12 rfl rfl)
theorem dX1_odds_13 : decode cX1_odds 13 = .ok (.iconst 1, 1) := dk_4 (dk_at dksX1_odds_0 13 rfl rfl)
theorem dX1_odds_14 : decode cX1_odds 14 = .ok (.invokevirtual 118, 3) := dk_182 0 118 (dk_at dksX1_odds_0 14 rfl rfl)
theorem dX1_odds_17 : decode cX1_odds 17 = .ok (.i2l, 1) := dk_133 (dk_at dksX1_odds_0 17 rfl rfl)
theorem dX1_odds_18 : decode cX1_odds 18 = .ok (.lreturn, 1) := dk_173 (dk_at dksX1_odds_0 18 rfl rfl)
theorem dX1_odds_19 : decode cX1_odds 19 = .ok (.aload_n 0, 1) := dk_42 (dk_at dksX1_odds_0 19 rfl rfl)
theorem dX1_odds_20 : decode cX1_odds 20 = .ok (.getfield 28, 3) := dk_180 0 28 (dk_at dksX1_odds_0 20 rfl rfl)
theorem dX1_odds_23 : decode cX1_odds 23 = .ok (.iload_n 1, 1) := dk_27 (dk_at dksX1_odds_0 23 rfl rfl)
theorem dX1_odds_24 : decode cX1_odds 24 = .ok (.aaload, 1) := dk_50 (dk_at dksX1_odds_1 0 rfl rfl)
theorem dX1_odds_25 : decode cX1_odds 25 = .ok (.invokevirtual 266, 3) := dk_182 1 10 (dk_at dksX1_odds_1 1 rfl rfl)
theorem dX1_odds_28 : decode cX1_odds 28 = .ok (.istore_n 2, 1) := dk_61 (dk_at dksX1_odds_1 4 rfl rfl)
theorem dX1_odds_29 : decode cX1_odds 29 = .ok (.lconst 0, 1) := dk_9 (dk_at dksX1_odds_1 5 rfl rfl)
theorem dX1_odds_30 : decode cX1_odds 30 = .ok (.lstore_n 3, 1) := dk_66 (dk_at dksX1_odds_1 6 rfl rfl)
theorem dX1_odds_31 : decode cX1_odds 31 = .ok (.iconst 0, 1) := dk_3 (dk_at dksX1_odds_1 7 rfl rfl)
theorem dX1_odds_32 : decode cX1_odds 32 = .ok (.istore 5, 2) := dk_54 5 (dk_at dksX1_odds_1 8 rfl rfl)
theorem dX1_odds_34 : decode cX1_odds 34 = .ok (.iload 5, 2) := dk_21 5 (dk_at dksX1_odds_1 10 rfl rfl)
theorem dX1_odds_36 : decode cX1_odds 36 = .ok (.iload_n 2, 1) := dk_28 (dk_at dksX1_odds_1 12 rfl rfl)
theorem dX1_odds_37 : decode cX1_odds 37 = .ok (.if_icmp .gt 118, 3) := dk_163 0 118 (dk_at dksX1_odds_1 13 rfl rfl)
theorem dX1_odds_40 : decode cX1_odds 40 = .ok (.iload 5, 2) := dk_21 5 (dk_at dksX1_odds_1 16 rfl rfl)
theorem dX1_odds_42 : decode cX1_odds 42 = .ok (.iload_n 2, 1) := dk_28 (dk_at dksX1_odds_1 18 rfl rfl)
theorem dX1_odds_43 : decode cX1_odds 43 = .ok (.iconst (-1), 1) := dk_2 (dk_at dksX1_odds_1 19 rfl rfl)
theorem dX1_odds_44 : decode cX1_odds 44 = .ok (.ixor, 1) := dk_130 (dk_at dksX1_odds_1 20 rfl rfl)
theorem dX1_odds_45 : decode cX1_odds 45 = .ok (.iand, 1) := dk_126 (dk_at dksX1_odds_1 21 rfl rfl)
theorem dX1_odds_46 : decode cX1_odds 46 = .ok (.ifCond .ne 103, 3) := dk_154 0 103 (dk_at dksX1_odds_2 0 rfl rfl)
theorem dX1_odds_49 : decode cX1_odds 49 = .ok (.aload_n 0, 1) := dk_42 (dk_at dksX1_odds_2 3 rfl rfl)
theorem dX1_odds_50 : decode cX1_odds 50 = .ok (.iload_n 1, 1) := dk_27 (dk_at dksX1_odds_2 4 rfl rfl)
theorem dX1_odds_51 : decode cX1_odds 51 = .ok (.iload 5, 2) := dk_21 5 (dk_at dksX1_odds_2 5 rfl rfl)
theorem dX1_odds_53 : decode cX1_odds 53 = .ok (.invokevirtual 203, 3) := dk_182 0 203 (dk_at dksX1_odds_2 7 rfl rfl)
theorem dX1_odds_56 : decode cX1_odds 56 = .ok (.getfield 220, 3) := dk_180 0 220 (dk_at dksX1_odds_2 10 rfl rfl)
theorem dX1_odds_59 : decode cX1_odds 59 = .ok (.ifCond .eq 6, 3) := dk_153 0 6 (dk_at dksX1_odds_2 13 rfl rfl)
theorem dX1_odds_62 : decode cX1_odds 62 = .ok (.goto 87, 3) := dk_167 0 87 (dk_at dksX1_odds_2 16 rfl rfl)
theorem dX1_odds_65 : decode cX1_odds 65 = .ok (.lconst 1, 1) := dk_10 (dk_at dksX1_odds_2 19 rfl rfl)
theorem dX1_odds_66 : decode cX1_odds 66 = .ok (.lstore 6, 2) := dk_55 6 (dk_at dksX1_odds_2 20 rfl rfl)
theorem dX1_odds_68 : decode cX1_odds 68 = .ok (.iconst 0, 1) := dk_3 (dk_at dksX1_odds_2 22 rfl rfl)
theorem dX1_odds_69 : decode cX1_odds 69 = .ok (.istore 8, 2) := dk_54 8 (dk_at dksX1_odds_3 0 rfl rfl)
theorem dX1_odds_71 : decode cX1_odds 71 = .ok (.iload 8, 2) := dk_21 8 (dk_at dksX1_odds_3 2 rfl rfl)
theorem dX1_odds_73 : decode cX1_odds 73 = .ok (.aload_n 0, 1) := dk_42 (dk_at dksX1_odds_3 4 rfl rfl)
theorem dX1_odds_74 : decode cX1_odds 74 = .ok (.getfield 129, 3) := dk_180 0 129 (dk_at dksX1_odds_3 5 rfl rfl)
theorem dX1_odds_77 : decode cX1_odds 77 = .ok (.getfield 161, 3) := dk_180 0 161 (dk_at dksX1_odds_3 8 rfl rfl)
theorem dX1_odds_80 : decode cX1_odds 80 = .ok (.if_icmp .ge 64, 3) := dk_162 0 64 (dk_at dksX1_odds_3 11 rfl rfl)
theorem dX1_odds_83 : decode cX1_odds 83 = .ok (.aload_n 0, 1) := dk_42 (dk_at dksX1_odds_3 14 rfl rfl)
theorem dX1_odds_84 : decode cX1_odds 84 = .ok (.getfield 129, 3) := dk_180 0 129 (dk_at dksX1_odds_3 15 rfl rfl)
theorem dX1_odds_87 : decode cX1_odds 87 = .ok (.getfield 270, 3) := dk_180 1 14 (dk_at dksX1_odds_3 18 rfl rfl)
theorem dX1_odds_90 : decode cX1_odds 90 = .ok (.iload 8, 2) := dk_21 8 (dk_at dksX1_odds_3 21 rfl rfl)
theorem dX1_odds_92 : decode cX1_odds 92 = .ok (.aaload, 1) := dk_50 (dk_at dksX1_odds_3 23 rfl rfl)
theorem dX1_odds_93 : decode cX1_odds 93 = .ok (.getfield 273, 3) := dk_180 1 17 (dk_at dksX1_odds_4 0 rfl rfl)
theorem dX1_odds_96 : decode cX1_odds 96 = .ok (.istore 9, 2) := dk_54 9 (dk_at dksX1_odds_4 3 rfl rfl)
theorem dX1_odds_98 : decode cX1_odds 98 = .ok (.lload 6, 2) := dk_22 6 (dk_at dksX1_odds_4 5 rfl rfl)
theorem dX1_odds_100 : decode cX1_odds 100 = .ok (.iload_n 2, 1) := dk_28 (dk_at dksX1_odds_4 7 rfl rfl)
theorem dX1_odds_101 : decode cX1_odds 101 = .ok (.iload 8, 2) := dk_21 8 (dk_at dksX1_odds_4 8 rfl rfl)
theorem dX1_odds_103 : decode cX1_odds 103 = .ok (.invokestatic 237, 3) := dk_184 0 237 (dk_at dksX1_odds_4 10 rfl rfl)
theorem dX1_odds_106 : decode cX1_odds 106 = .ok (.ifCond .ne 7, 3) := dk_154 0 7 (dk_at dksX1_odds_4 13 rfl rfl)
theorem dX1_odds_109 : decode cX1_odds 109 = .ok (.lconst 1, 1) := dk_10 (dk_at dksX1_odds_4 16 rfl rfl)
theorem dX1_odds_110 : decode cX1_odds 110 = .ok (.goto 25, 3) := dk_167 0 25 (dk_at dksX1_odds_4 17 rfl rfl)
theorem dX1_odds_113 : decode cX1_odds 113 = .ok (.iload 5, 2) := dk_21 5 (dk_at dksX1_odds_4 20 rfl rfl)
theorem dX1_odds_115 : decode cX1_odds 115 = .ok (.iload 8, 2) := dk_21 8 (dk_at dksX1_odds_4 22 rfl rfl)
theorem dX1_odds_117 : decode cX1_odds 117 = .ok (.invokestatic 237, 3) := dk_184 0 237 (dk_at dksX1_odds_5 0 rfl rfl)
theorem dX1_odds_120 : decode cX1_odds 120 = .ok (.ifCond .eq 9, 3) := dk_153 0 9 (dk_at dksX1_odds_5 3 rfl rfl)
theorem dX1_odds_123 : decode cX1_odds 123 = .ok (.iload 9, 2) := dk_21 9 (dk_at dksX1_odds_5 6 rfl rfl)
theorem dX1_odds_125 : decode cX1_odds 125 = .ok (.i2l, 1) := dk_133 (dk_at dksX1_odds_5 8 rfl rfl)
theorem dX1_odds_126 : decode cX1_odds 126 = .ok (.goto 9, 3) := dk_167 0 9 (dk_at dksX1_odds_5 9 rfl rfl)
theorem dX1_odds_129 : decode cX1_odds 129 = .ok (.bipush 100, 2) := dk_16 100 (dk_at dksX1_odds_5 12 rfl rfl)
theorem dX1_odds_131 : decode cX1_odds 131 = .ok (.iload 9, 2) := dk_21 9 (dk_at dksX1_odds_5 14 rfl rfl)
theorem dX1_odds_133 : decode cX1_odds 133 = .ok (.isub, 1) := dk_100 (dk_at dksX1_odds_5 16 rfl rfl)
theorem dX1_odds_134 : decode cX1_odds 134 = .ok (.i2l, 1) := dk_133 (dk_at dksX1_odds_5 17 rfl rfl)
theorem dX1_odds_135 : decode cX1_odds 135 = .ok (.lmul, 1) := dk_105 (dk_at dksX1_odds_5 18 rfl rfl)
theorem dX1_odds_136 : decode cX1_odds 136 = .ok (.lstore 6, 2) := dk_55 6 (dk_at dksX1_odds_5 19 rfl rfl)
theorem dX1_odds_138 : decode cX1_odds 138 = .ok (.iinc 8 1, 3) := dk_132 8 1 (dk_at dksX1_odds_5 21 rfl rfl)
theorem dX1_odds_141 : decode cX1_odds 141 = .ok (.goto (-70), 3) := dk_167 255 186 (dk_at dksX1_odds_6 0 rfl rfl)
theorem dX1_odds_144 : decode cX1_odds 144 = .ok (.lload_n 3, 1) := dk_33 (dk_at dksX1_odds_6 3 rfl rfl)
theorem dX1_odds_145 : decode cX1_odds 145 = .ok (.lload 6, 2) := dk_22 6 (dk_at dksX1_odds_6 4 rfl rfl)
theorem dX1_odds_147 : decode cX1_odds 147 = .ok (.ladd, 1) := dk_97 (dk_at dksX1_odds_6 6 rfl rfl)
theorem dX1_odds_148 : decode cX1_odds 148 = .ok (.lstore_n 3, 1) := dk_66 (dk_at dksX1_odds_6 7 rfl rfl)
theorem dX1_odds_149 : decode cX1_odds 149 = .ok (.iinc 5 1, 3) := dk_132 5 1 (dk_at dksX1_odds_6 8 rfl rfl)
theorem dX1_odds_152 : decode cX1_odds 152 = .ok (.goto (-118), 3) := dk_167 255 138 (dk_at dksX1_odds_6 11 rfl rfl)
theorem dX1_odds_155 : decode cX1_odds 155 = .ok (.lload_n 3, 1) := dk_33 (dk_at dksX1_odds_6 14 rfl rfl)
theorem dX1_odds_156 : decode cX1_odds 156 = .ok (.lreturn, 1) := dk_173 (dk_at dksX1_odds_6 15 rfl rfl)
abbrev cX1_costs : ByteArray := prog_1_method_36_code
def yX1_costs : MethodName := ⟨RX1, "costs", "(I)I"⟩
def dkwX1_costs_2 : List UInt8 := [3, 182, 0, 203, 180, 0, 220, 184, 0, 245, 100, 172]
abbrev dktX1_costs_2 : List UInt8 := dkwX1_costs_2 ++ []
def dkwX1_costs_1 : List UInt8 := [42, 27, 182, 0, 179, 61, 42, 28, 4, 27, 120, 182, 0, 203, 180, 0, 220, 184, 0, 245, 62, 29, 42, 28]
abbrev dktX1_costs_1 : List UInt8 := dkwX1_costs_1 ++ dktX1_costs_2
def dkwX1_costs_0 : List UInt8 := [42, 182, 0, 104, 42, 42, 27, 182, 0, 210, 181, 0, 101, 42, 180, 0, 101, 153, 0, 7, 17, 252, 24, 172]
abbrev dktX1_costs_0 : List UInt8 := dkwX1_costs_0 ++ dktX1_costs_1
theorem dksX1_costs_0 : cX1_costs.data.toList.drop 0 = dktX1_costs_0 := by decide +kernel
theorem dksX1_costs_1 : cX1_costs.data.toList.drop 24 = dktX1_costs_1 := dk_seg dksX1_costs_0 24 rfl rfl
theorem dksX1_costs_2 : cX1_costs.data.toList.drop 48 = dktX1_costs_2 := dk_seg dksX1_costs_1 24 rfl rfl
theorem dX1_costs_0 : decode cX1_costs 0 = .ok (.aload_n 0, 1) := dk_42 (dk_at dksX1_costs_0 0 rfl rfl)
theorem dX1_costs_1 : decode cX1_costs 1 = .ok (.invokevirtual 104, 3) := dk_182 0 104 (dk_at dksX1_costs_0 1 rfl rfl)
theorem dX1_costs_4 : decode cX1_costs 4 = .ok (.aload_n 0, 1) := dk_42 (dk_at dksX1_costs_0 4 rfl rfl)
theorem dX1_costs_5 : decode cX1_costs 5 = .ok (.aload_n 0, 1) := dk_42 (dk_at dksX1_costs_0 5 rfl rfl)
theorem dX1_costs_6 : decode cX1_costs 6 = .ok (.iload_n 1, 1) := dk_27 (dk_at dksX1_costs_0 6 rfl rfl)
theorem dX1_costs_7 : decode cX1_costs 7 = .ok (.invokevirtual 210, 3) := dk_182 0 210 (dk_at dksX1_costs_0 7 rfl rfl)
theorem dX1_costs_10 : decode cX1_costs 10 = .ok (.putfield 101, 3) := dk_181 0 101 (dk_at dksX1_costs_0 10 rfl rfl)
theorem dX1_costs_13 : decode cX1_costs 13 = .ok (.aload_n 0, 1) := dk_42 (dk_at dksX1_costs_0 13 rfl rfl)
theorem dX1_costs_14 : decode cX1_costs 14 = .ok (.getfield 101, 3) := dk_180 0 101 (dk_at dksX1_costs_0 14 rfl rfl)
theorem dX1_costs_17 : decode cX1_costs 17 = .ok (.ifCond .eq 7, 3) := dk_153 0 7 (dk_at dksX1_costs_0 17 rfl rfl)
theorem dX1_costs_20 : decode cX1_costs 20 = .ok (.sipush (-1000), 3) := dk_17 252 24 (dk_at dksX1_costs_0 20 rfl rfl)
theorem dX1_costs_23 : decode cX1_costs 23 = .ok (.ireturn, 1) := dk_172 (dk_at dksX1_costs_0 23 rfl rfl)
theorem dX1_costs_24 : decode cX1_costs 24 = .ok (.aload_n 0, 1) := dk_42 (dk_at dksX1_costs_1 0 rfl rfl)
theorem dX1_costs_25 : decode cX1_costs 25 = .ok (.iload_n 1, 1) := dk_27 (dk_at dksX1_costs_1 1 rfl rfl)
theorem dX1_costs_26 : decode cX1_costs 26 = .ok (.invokevirtual 179, 3) := dk_182 0 179 (dk_at dksX1_costs_1 2 rfl rfl)
theorem dX1_costs_29 : decode cX1_costs 29 = .ok (.istore_n 2, 1) := dk_61 (dk_at dksX1_costs_1 5 rfl rfl)
theorem dX1_costs_30 : decode cX1_costs 30 = .ok (.aload_n 0, 1) := dk_42 (dk_at dksX1_costs_1 6 rfl rfl)
theorem dX1_costs_31 : decode cX1_costs 31 = .ok (.iload_n 2, 1) := dk_28 (dk_at dksX1_costs_1 7 rfl rfl)
theorem dX1_costs_32 : decode cX1_costs 32 = .ok (.iconst 1, 1) := dk_4 (dk_at dksX1_costs_1 8 rfl rfl)
theorem dX1_costs_33 : decode cX1_costs 33 = .ok (.iload_n 1, 1) := dk_27 (dk_at dksX1_costs_1 9 rfl rfl)
theorem dX1_costs_34 : decode cX1_costs 34 = .ok (.ishl, 1) := dk_120 (dk_at dksX1_costs_1 10 rfl rfl)
theorem dX1_costs_35 : decode cX1_costs 35 = .ok (.invokevirtual 203, 3) := dk_182 0 203 (dk_at dksX1_costs_1 11 rfl rfl)
theorem dX1_costs_38 : decode cX1_costs 38 = .ok (.getfield 220, 3) := dk_180 0 220 (dk_at dksX1_costs_1 14 rfl rfl)
theorem dX1_costs_41 : decode cX1_costs 41 = .ok (.invokestatic 245, 3) := dk_184 0 245 (dk_at dksX1_costs_1 17 rfl rfl)
theorem dX1_costs_44 : decode cX1_costs 44 = .ok (.istore_n 3, 1) := dk_62 (dk_at dksX1_costs_1 20 rfl rfl)
theorem dX1_costs_45 : decode cX1_costs 45 = .ok (.iload_n 3, 1) := dk_29 (dk_at dksX1_costs_1 21 rfl rfl)
theorem dX1_costs_46 : decode cX1_costs 46 = .ok (.aload_n 0, 1) := dk_42 (dk_at dksX1_costs_1 22 rfl rfl)
theorem dX1_costs_47 : decode cX1_costs 47 = .ok (.iload_n 2, 1) := dk_28 (dk_at dksX1_costs_1 23 rfl rfl)
theorem dX1_costs_48 : decode cX1_costs 48 = .ok (.iconst 0, 1) := dk_3 (dk_at dksX1_costs_2 0 rfl rfl)
theorem dX1_costs_49 : decode cX1_costs 49 = .ok (.invokevirtual 203, 3) := dk_182 0 203 (dk_at dksX1_costs_2 1 rfl rfl)
theorem dX1_costs_52 : decode cX1_costs 52 = .ok (.getfield 220, 3) := dk_180 0 220 (dk_at dksX1_costs_2 4 rfl rfl)
theorem dX1_costs_55 : decode cX1_costs 55 = .ok (.invokestatic 245, 3) := dk_184 0 245 (dk_at dksX1_costs_2 7 rfl rfl)
theorem dX1_costs_58 : decode cX1_costs 58 = .ok (.isub, 1) := dk_100 (dk_at dksX1_costs_2 10 rfl rfl)
theorem dX1_costs_59 : decode cX1_costs 59 = .ok (.ireturn, 1) := dk_172 (dk_at dksX1_costs_2 11 rfl rfl)
abbrev cX1_fits : ByteArray := prog_1_method_39_code
def yX1_fits : MethodName := ⟨RX1, "fits", "(II)I"⟩
def dkwX1_fits_2 : List UInt8 := [167, 0, 8, 42, 4, 182, 0, 118, 172]
abbrev dktX1_fits_2 : List UInt8 := dkwX1_fits_2 ++ []
def dkwX1_fits_1 : List UInt8 := [180, 0, 129, 180, 1, 14, 27, 50, 180, 1, 42, 28, 182, 1, 46, 154, 0, 7, 4, 167, 0, 12, 3]
abbrev dktX1_fits_1 : List UInt8 := dkwX1_fits_1 ++ dktX1_fits_2
def dkwX1_fits_0 : List UInt8 := [42, 182, 0, 104, 42, 27, 182, 0, 176, 153, 0, 39, 42, 28, 182, 1, 39, 153, 0, 31, 42, 42]
abbrev dktX1_fits_0 : List UInt8 := dkwX1_fits_0 ++ dktX1_fits_1
theorem dksX1_fits_0 : cX1_fits.data.toList.drop 0 = dktX1_fits_0 := by decide +kernel
theorem dksX1_fits_1 : cX1_fits.data.toList.drop 22 = dktX1_fits_1 := dk_seg dksX1_fits_0 22 rfl rfl
theorem dksX1_fits_2 : cX1_fits.data.toList.drop 45 = dktX1_fits_2 := dk_seg dksX1_fits_1 23 rfl rfl
theorem dX1_fits_0 : decode cX1_fits 0 = .ok (.aload_n 0, 1) := dk_42 (dk_at dksX1_fits_0 0 rfl rfl)
theorem dX1_fits_1 : decode cX1_fits 1 = .ok (.invokevirtual 104, 3) := dk_182 0 104 (dk_at dksX1_fits_0 1 rfl rfl)
theorem dX1_fits_4 : decode cX1_fits 4 = .ok (.aload_n 0, 1) := dk_42 (dk_at dksX1_fits_0 4 rfl rfl)
theorem dX1_fits_5 : decode cX1_fits 5 = .ok (.iload_n 1, 1) := dk_27 (dk_at dksX1_fits_0 5 rfl rfl)
theorem dX1_fits_6 : decode cX1_fits 6 = .ok (.invokevirtual 176, 3) := dk_182 0 176 (dk_at dksX1_fits_0 6 rfl rfl)
theorem dX1_fits_9 : decode cX1_fits 9 = .ok (.ifCond .eq 39, 3) := dk_153 0 39 (dk_at dksX1_fits_0 9 rfl rfl)
theorem dX1_fits_12 : decode cX1_fits 12 = .ok (.aload_n 0, 1) := dk_42 (dk_at dksX1_fits_0 12 rfl rfl)
theorem dX1_fits_13 : decode cX1_fits 13 = .ok (.iload_n 2, 1) := dk_28 (dk_at dksX1_fits_0 13 rfl rfl)
theorem dX1_fits_14 : decode cX1_fits 14 = .ok (.invokevirtual 295, 3) := dk_182 1 39 (dk_at dksX1_fits_0 14 rfl rfl)
theorem dX1_fits_17 : decode cX1_fits 17 = .ok (.ifCond .eq 31, 3) := dk_153 0 31 (dk_at dksX1_fits_0 17 rfl rfl)
theorem dX1_fits_20 : decode cX1_fits 20 = .ok (.aload_n 0, 1) := dk_42 (dk_at dksX1_fits_0 20 rfl rfl)
theorem dX1_fits_21 : decode cX1_fits 21 = .ok (.aload_n 0, 1) := dk_42 (dk_at dksX1_fits_0 21 rfl rfl)
theorem dX1_fits_22 : decode cX1_fits 22 = .ok (.getfield 129, 3) := dk_180 0 129 (dk_at dksX1_fits_1 0 rfl rfl)
theorem dX1_fits_25 : decode cX1_fits 25 = .ok (.getfield 270, 3) := dk_180 1 14 (dk_at dksX1_fits_1 3 rfl rfl)
theorem dX1_fits_28 : decode cX1_fits 28 = .ok (.iload_n 1, 1) := dk_27 (dk_at dksX1_fits_1 6 rfl rfl)
theorem dX1_fits_29 : decode cX1_fits 29 = .ok (.aaload, 1) := dk_50 (dk_at dksX1_fits_1 7 rfl rfl)
theorem dX1_fits_30 : decode cX1_fits 30 = .ok (.getfield 298, 3) := dk_180 1 42 (dk_at dksX1_fits_1 8 rfl rfl)
theorem dX1_fits_33 : decode cX1_fits 33 = .ok (.iload_n 2, 1) := dk_28 (dk_at dksX1_fits_1 11 rfl rfl)
theorem dX1_fits_34 : decode cX1_fits 34 = .ok (.invokevirtual 302, 3) := dk_182 1 46 (dk_at dksX1_fits_1 12 rfl rfl)
theorem dX1_fits_37 : decode cX1_fits 37 = .ok (.ifCond .ne 7, 3) := dk_154 0 7 (dk_at dksX1_fits_1 15 rfl rfl)
theorem dX1_fits_40 : decode cX1_fits 40 = .ok (.iconst 1, 1) := dk_4 (dk_at dksX1_fits_1 18 rfl rfl)
theorem dX1_fits_41 : decode cX1_fits 41 = .ok (.goto 12, 3) := dk_167 0 12 (dk_at dksX1_fits_1 19 rfl rfl)
theorem dX1_fits_44 : decode cX1_fits 44 = .ok (.iconst 0, 1) := dk_3 (dk_at dksX1_fits_1 22 rfl rfl)
theorem dX1_fits_45 : decode cX1_fits 45 = .ok (.goto 8, 3) := dk_167 0 8 (dk_at dksX1_fits_2 0 rfl rfl)
theorem dX1_fits_48 : decode cX1_fits 48 = .ok (.aload_n 0, 1) := dk_42 (dk_at dksX1_fits_2 3 rfl rfl)
theorem dX1_fits_49 : decode cX1_fits 49 = .ok (.iconst 1, 1) := dk_4 (dk_at dksX1_fits_2 4 rfl rfl)
theorem dX1_fits_50 : decode cX1_fits 50 = .ok (.invokevirtual 118, 3) := dk_182 0 118 (dk_at dksX1_fits_2 5 rfl rfl)
theorem dX1_fits_53 : decode cX1_fits 53 = .ok (.ireturn, 1) := dk_172 (dk_at dksX1_fits_2 8 rfl rfl)
abbrev cX1_isDish : ByteArray := prog_1_method_37_code
def yX1_isDish : MethodName := ⟨RX1, "isDish", "(I)Z"⟩
def dkwX1_isDish_1 : List UInt8 := [4, 167, 0, 4, 3, 172]
abbrev dktX1_isDish_1 : List UInt8 := dkwX1_isDish_1 ++ []
def dkwX1_isDish_0 : List UInt8 := [42, 180, 0, 129, 198, 0, 24, 27, 3, 42, 180, 0, 129, 180, 1, 22, 4, 100, 184, 0, 114, 153, 0, 7]
abbrev dktX1_isDish_0 : List UInt8 := dkwX1_isDish_0 ++ dktX1_isDish_1
theorem dksX1_isDish_0 : cX1_isDish.data.toList.drop 0 = dktX1_isDish_0 := by decide +kernel
theorem dksX1_isDish_1 : cX1_isDish.data.toList.drop 24 = dktX1_isDish_1 := dk_seg dksX1_isDish_0 24 rfl rfl
theorem dX1_isDish_0 : decode cX1_isDish 0 = .ok (.aload_n 0, 1) := dk_42 (dk_at dksX1_isDish_0 0 rfl rfl)
theorem dX1_isDish_1 : decode cX1_isDish 1 = .ok (.getfield 129, 3) := dk_180 0 129 (dk_at dksX1_isDish_0 1 rfl rfl)
theorem dX1_isDish_4 : decode cX1_isDish 4 = .ok (.ifnull 24, 3) := dk_198 0 24 (dk_at dksX1_isDish_0 4 rfl rfl)
theorem dX1_isDish_7 : decode cX1_isDish 7 = .ok (.iload_n 1, 1) := dk_27 (dk_at dksX1_isDish_0 7 rfl rfl)
theorem dX1_isDish_8 : decode cX1_isDish 8 = .ok (.iconst 0, 1) := dk_3 (dk_at dksX1_isDish_0 8 rfl rfl)
theorem dX1_isDish_9 : decode cX1_isDish 9 = .ok (.aload_n 0, 1) := dk_42 (dk_at dksX1_isDish_0 9 rfl rfl)
theorem dX1_isDish_10 : decode cX1_isDish 10 = .ok (.getfield 129, 3) := dk_180 0 129 (dk_at dksX1_isDish_0 10 rfl rfl)
theorem dX1_isDish_13 : decode cX1_isDish 13 = .ok (.getfield 278, 3) := dk_180 1 22 (dk_at dksX1_isDish_0 13 rfl rfl)
theorem dX1_isDish_16 : decode cX1_isDish 16 = .ok (.iconst 1, 1) := dk_4 (dk_at dksX1_isDish_0 16 rfl rfl)
theorem dX1_isDish_17 : decode cX1_isDish 17 = .ok (.isub, 1) := dk_100 (dk_at dksX1_isDish_0 17 rfl rfl)
theorem dX1_isDish_18 : decode cX1_isDish 18 = .ok (.invokestatic 114, 3) := dk_184 0 114 (dk_at dksX1_isDish_0 18 rfl rfl)
theorem dX1_isDish_21 : decode cX1_isDish 21 = .ok (.ifCond .eq 7, 3) := dk_153 0 7 (dk_at dksX1_isDish_0 21 rfl rfl)
theorem dX1_isDish_24 : decode cX1_isDish 24 = .ok (.iconst 1, 1) := dk_4 (dk_at dksX1_isDish_1 0 rfl rfl)
theorem dX1_isDish_25 : decode cX1_isDish 25 = .ok (.goto 4, 3) := dk_167 0 4 (dk_at dksX1_isDish_1 1 rfl rfl)
theorem dX1_isDish_28 : decode cX1_isDish 28 = .ok (.iconst 0, 1) := dk_3 (dk_at dksX1_isDish_1 4 rfl rfl)
theorem dX1_isDish_29 : decode cX1_isDish 29 = .ok (.ireturn, 1) := dk_172 (dk_at dksX1_isDish_1 5 rfl rfl)
abbrev cX1_barred : ByteArray := prog_1_method_38_code
def yX1_barred : MethodName := ⟨RX1, "barred", "(LNoonMeals$Diet;I)I"⟩
def dkwX1_barred_0 : List UInt8 := [43, 180, 1, 25, 42, 180, 0, 129, 180, 1, 30, 28, 50, 180, 1, 34, 126, 172]
abbrev dktX1_barred_0 : List UInt8 := dkwX1_barred_0 ++ []
theorem dksX1_barred_0 : cX1_barred.data.toList.drop 0 = dktX1_barred_0 := by decide +kernel
theorem dX1_barred_0 : decode cX1_barred 0 = .ok (.aload_n 1, 1) := dk_43 (dk_at dksX1_barred_0 0 rfl rfl)
theorem dX1_barred_1 : decode cX1_barred 1 = .ok (.getfield 281, 3) := dk_180 1 25 (dk_at dksX1_barred_0 1 rfl rfl)
theorem dX1_barred_4 : decode cX1_barred 4 = .ok (.aload_n 0, 1) := dk_42 (dk_at dksX1_barred_0 4 rfl rfl)
theorem dX1_barred_5 : decode cX1_barred 5 = .ok (.getfield 129, 3) := dk_180 0 129 (dk_at dksX1_barred_0 5 rfl rfl)
theorem dX1_barred_8 : decode cX1_barred 8 = .ok (.getfield 286, 3) := dk_180 1 30 (dk_at dksX1_barred_0 8 rfl rfl)
theorem dX1_barred_11 : decode cX1_barred 11 = .ok (.iload_n 2, 1) := dk_28 (dk_at dksX1_barred_0 11 rfl rfl)
theorem dX1_barred_12 : decode cX1_barred 12 = .ok (.aaload, 1) := dk_50 (dk_at dksX1_barred_0 12 rfl rfl)
theorem dX1_barred_13 : decode cX1_barred 13 = .ok (.getfield 290, 3) := dk_180 1 34 (dk_at dksX1_barred_0 13 rfl rfl)
theorem dX1_barred_16 : decode cX1_barred 16 = .ok (.iand, 1) := dk_126 (dk_at dksX1_barred_0 16 rfl rfl)
theorem dX1_barred_17 : decode cX1_barred 17 = .ok (.ireturn, 1) := dk_172 (dk_at dksX1_barred_0 17 rfl rfl)
abbrev cX1_breach : ByteArray := prog_1_method_40_code
def yX1_breach : MethodName := ⟨RX1, "breach", "(II)I"⟩
def dkwX1_breach_1 : List UInt8 := [180, 0, 129, 180, 1, 14, 27, 50, 180, 1, 42, 28, 182, 1, 46, 167, 0, 8, 42, 4, 182, 0, 118, 172]
abbrev dktX1_breach_1 : List UInt8 := dkwX1_breach_1 ++ []
def dkwX1_breach_0 : List UInt8 := [42, 182, 0, 104, 42, 27, 182, 0, 176, 153, 0, 31, 42, 28, 182, 1, 39, 153, 0, 23, 42, 42]
abbrev dktX1_breach_0 : List UInt8 := dkwX1_breach_0 ++ dktX1_breach_1
theorem dksX1_breach_0 : cX1_breach.data.toList.drop 0 = dktX1_breach_0 := by decide +kernel
theorem dksX1_breach_1 : cX1_breach.data.toList.drop 22 = dktX1_breach_1 := dk_seg dksX1_breach_0 22 rfl rfl
theorem dX1_breach_0 : decode cX1_breach 0 = .ok (.aload_n 0, 1) := dk_42 (dk_at dksX1_breach_0 0 rfl rfl)
theorem dX1_breach_1 : decode cX1_breach 1 = .ok (.invokevirtual 104, 3) := dk_182 0 104 (dk_at dksX1_breach_0 1 rfl rfl)
theorem dX1_breach_4 : decode cX1_breach 4 = .ok (.aload_n 0, 1) := dk_42 (dk_at dksX1_breach_0 4 rfl rfl)
theorem dX1_breach_5 : decode cX1_breach 5 = .ok (.iload_n 1, 1) := dk_27 (dk_at dksX1_breach_0 5 rfl rfl)
theorem dX1_breach_6 : decode cX1_breach 6 = .ok (.invokevirtual 176, 3) := dk_182 0 176 (dk_at dksX1_breach_0 6 rfl rfl)
theorem dX1_breach_9 : decode cX1_breach 9 = .ok (.ifCond .eq 31, 3) := dk_153 0 31 (dk_at dksX1_breach_0 9 rfl rfl)
theorem dX1_breach_12 : decode cX1_breach 12 = .ok (.aload_n 0, 1) := dk_42 (dk_at dksX1_breach_0 12 rfl rfl)
theorem dX1_breach_13 : decode cX1_breach 13 = .ok (.iload_n 2, 1) := dk_28 (dk_at dksX1_breach_0 13 rfl rfl)
theorem dX1_breach_14 : decode cX1_breach 14 = .ok (.invokevirtual 295, 3) := dk_182 1 39 (dk_at dksX1_breach_0 14 rfl rfl)
theorem dX1_breach_17 : decode cX1_breach 17 = .ok (.ifCond .eq 23, 3) := dk_153 0 23 (dk_at dksX1_breach_0 17 rfl rfl)
theorem dX1_breach_20 : decode cX1_breach 20 = .ok (.aload_n 0, 1) := dk_42 (dk_at dksX1_breach_0 20 rfl rfl)
theorem dX1_breach_21 : decode cX1_breach 21 = .ok (.aload_n 0, 1) := dk_42 (dk_at dksX1_breach_0 21 rfl rfl)
theorem dX1_breach_22 : decode cX1_breach 22 = .ok (.getfield 129, 3) := dk_180 0 129 (dk_at dksX1_breach_1 0 rfl rfl)
theorem dX1_breach_25 : decode cX1_breach 25 = .ok (.getfield 270, 3) := dk_180 1 14 (dk_at dksX1_breach_1 3 rfl rfl)
theorem dX1_breach_28 : decode cX1_breach 28 = .ok (.iload_n 1, 1) := dk_27 (dk_at dksX1_breach_1 6 rfl rfl)
theorem dX1_breach_29 : decode cX1_breach 29 = .ok (.aaload, 1) := dk_50 (dk_at dksX1_breach_1 7 rfl rfl)
theorem dX1_breach_30 : decode cX1_breach 30 = .ok (.getfield 298, 3) := dk_180 1 42 (dk_at dksX1_breach_1 8 rfl rfl)
theorem dX1_breach_33 : decode cX1_breach 33 = .ok (.iload_n 2, 1) := dk_28 (dk_at dksX1_breach_1 11 rfl rfl)
theorem dX1_breach_34 : decode cX1_breach 34 = .ok (.invokevirtual 302, 3) := dk_182 1 46 (dk_at dksX1_breach_1 12 rfl rfl)
theorem dX1_breach_37 : decode cX1_breach 37 = .ok (.goto 8, 3) := dk_167 0 8 (dk_at dksX1_breach_1 15 rfl rfl)
theorem dX1_breach_40 : decode cX1_breach 40 = .ok (.aload_n 0, 1) := dk_42 (dk_at dksX1_breach_1 18 rfl rfl)
theorem dX1_breach_41 : decode cX1_breach 41 = .ok (.iconst 1, 1) := dk_4 (dk_at dksX1_breach_1 19 rfl rfl)
theorem dX1_breach_42 : decode cX1_breach 42 = .ok (.invokevirtual 118, 3) := dk_182 0 118 (dk_at dksX1_breach_1 20 rfl rfl)
theorem dX1_breach_45 : decode cX1_breach 45 = .ok (.ireturn, 1) := dk_172 (dk_at dksX1_breach_1 23 rfl rfl)
abbrev cX1_forAll : ByteArray := prog_1_method_41_code
def yX1_forAll : MethodName := ⟨RX1, "forAll", "()I"⟩
def dkwX1_forAll_4 : List UInt8 := [28, 120, 167, 0, 4, 3, 128, 60, 132, 2, 1, 167, 255, 174, 27, 172]
abbrev dktX1_forAll_4 : List UInt8 := dkwX1_forAll_4 ++ []
def dkwX1_forAll_3 : List UInt8 := [182, 1, 46, 154, 0, 7, 4, 167, 0, 4, 3, 62, 132, 4, 1, 167, 255, 210, 27, 29, 153, 0, 9, 4]
abbrev dktX1_forAll_3 : List UInt8 := dkwX1_forAll_3 ++ dktX1_forAll_4
def dkwX1_forAll_2 : List UInt8 := [162, 0, 40, 29, 153, 0, 28, 42, 42, 180, 0, 129, 180, 1, 14, 21, 4, 50, 180, 1, 42, 28]
abbrev dktX1_forAll_2 : List UInt8 := dkwX1_forAll_2 ++ dktX1_forAll_3
def dkwX1_forAll_1 : List UInt8 := [180, 0, 129, 180, 1, 22, 162, 0, 77, 4, 62, 3, 54, 4, 21, 4, 42, 180, 0, 129, 180, 0, 161]
abbrev dktX1_forAll_1 : List UInt8 := dkwX1_forAll_1 ++ dktX1_forAll_2
def dkwX1_forAll_0 : List UInt8 := [42, 182, 0, 104, 42, 180, 0, 129, 199, 0, 9, 42, 4, 182, 0, 118, 172, 3, 60, 3, 61, 28, 42]
abbrev dktX1_forAll_0 : List UInt8 := dkwX1_forAll_0 ++ dktX1_forAll_1
theorem dksX1_forAll_0 : cX1_forAll.data.toList.drop 0 = dktX1_forAll_0 := by decide +kernel
theorem dksX1_forAll_1 : cX1_forAll.data.toList.drop 23 = dktX1_forAll_1 := dk_seg dksX1_forAll_0 23 rfl rfl
theorem dksX1_forAll_2 : cX1_forAll.data.toList.drop 46 = dktX1_forAll_2 := dk_seg dksX1_forAll_1 23 rfl rfl
theorem dksX1_forAll_3 : cX1_forAll.data.toList.drop 68 = dktX1_forAll_3 := dk_seg dksX1_forAll_2 22 rfl rfl
theorem dksX1_forAll_4 : cX1_forAll.data.toList.drop 92 = dktX1_forAll_4 := dk_seg dksX1_forAll_3 24 rfl rfl
theorem dX1_forAll_0 : decode cX1_forAll 0 = .ok (.aload_n 0, 1) := dk_42 (dk_at dksX1_forAll_0 0 rfl rfl)
theorem dX1_forAll_1 : decode cX1_forAll 1 = .ok (.invokevirtual 104, 3) := dk_182 0 104 (dk_at dksX1_forAll_0 1 rfl rfl)
theorem dX1_forAll_4 : decode cX1_forAll 4 = .ok (.aload_n 0, 1) := dk_42 (dk_at dksX1_forAll_0 4 rfl rfl)
theorem dX1_forAll_5 : decode cX1_forAll 5 = .ok (.getfield 129, 3) := dk_180 0 129 (dk_at dksX1_forAll_0 5 rfl rfl)
theorem dX1_forAll_8 : decode cX1_forAll 8 = .ok (.ifnonnull 9, 3) := dk_199 0 9 (dk_at dksX1_forAll_0 8 rfl rfl)
theorem dX1_forAll_11 : decode cX1_forAll 11 = .ok (.aload_n 0, 1) := dk_42 (dk_at dksX1_forAll_0 11 rfl rfl)
theorem dX1_forAll_12 : decode cX1_forAll 12 = .ok (.iconst 1, 1) := dk_4 (dk_at dksX1_forAll_0 12 rfl rfl)
theorem dX1_forAll_13 : decode cX1_forAll 13 = .ok (.invokevirtual 118, 3) := dk_182 0 118 (dk_at dksX1_forAll_0 13 rfl rfl)
theorem dX1_forAll_16 : decode cX1_forAll 16 = .ok (.ireturn, 1) := dk_172 (dk_at dksX1_forAll_0 16 rfl rfl)
theorem dX1_forAll_17 : decode cX1_forAll 17 = .ok (.iconst 0, 1) := dk_3 (dk_at dksX1_forAll_0 17 rfl rfl)
theorem dX1_forAll_18 : decode cX1_forAll 18 = .ok (.istore_n 1, 1) := dk_60 (dk_at dksX1_forAll_0 18 rfl rfl)
theorem dX1_forAll_19 : decode cX1_forAll 19 = .ok (.iconst 0, 1) := dk_3 (dk_at dksX1_forAll_0 19 rfl rfl)
theorem dX1_forAll_20 : decode cX1_forAll 20 = .ok (.istore_n 2, 1) := dk_61 (dk_at dksX1_forAll_0 20 rfl rfl)
theorem dX1_forAll_21 : decode cX1_forAll 21 = .ok (.iload_n 2, 1) := dk_28 (dk_at dksX1_forAll_0 21 rfl rfl)
theorem dX1_forAll_22 : decode cX1_forAll 22 = .ok (.aload_n 0, 1) := dk_42 (dk_at dksX1_forAll_0 22 rfl rfl)
theorem dX1_forAll_23 : decode cX1_forAll 23 = .ok (.getfield 129, 3) := dk_180 0 129 (dk_at dksX1_forAll_1 0 rfl rfl)
theorem dX1_forAll_26 : decode cX1_forAll 26 = .ok (.getfield 278, 3) := dk_180 1 22 (dk_at dksX1_forAll_1 3 rfl rfl)
theorem dX1_forAll_29 : decode cX1_forAll 29 = .ok (.if_icmp .ge 77, 3) := dk_162 0 77 (dk_at dksX1_forAll_1 6 rfl rfl)
theorem dX1_forAll_32 : decode cX1_forAll 32 = .ok (.iconst 1, 1) := dk_4 (dk_at dksX1_forAll_1 9 rfl rfl)
theorem dX1_forAll_33 : decode cX1_forAll 33 = .ok (.istore_n 3, 1) := dk_62 (dk_at dksX1_forAll_1 10 rfl rfl)
theorem dX1_forAll_34 : decode cX1_forAll 34 = .ok (.iconst 0, 1) := dk_3 (dk_at dksX1_forAll_1 11 rfl rfl)
theorem dX1_forAll_35 : decode cX1_forAll 35 = .ok (.istore 4, 2) := dk_54 4 (dk_at dksX1_forAll_1 12 rfl rfl)
theorem dX1_forAll_37 : decode cX1_forAll 37 = .ok (.iload 4, 2) := dk_21 4 (dk_at dksX1_forAll_1 14 rfl rfl)
theorem dX1_forAll_39 : decode cX1_forAll 39 = .ok (.aload_n 0, 1) := dk_42 (dk_at dksX1_forAll_1 16 rfl rfl)
theorem dX1_forAll_40 : decode cX1_forAll 40 = .ok (.getfield 129, 3) := dk_180 0 129 (dk_at dksX1_forAll_1 17 rfl rfl)
theorem dX1_forAll_43 : decode cX1_forAll 43 = .ok (.getfield 161, 3) := dk_180 0 161 (dk_at dksX1_forAll_1 20 rfl rfl)
theorem dX1_forAll_46 : decode cX1_forAll 46 = .ok (.if_icmp .ge 40, 3) := dk_162 0 40 (dk_at dksX1_forAll_2 0 rfl rfl)
theorem dX1_forAll_49 : decode cX1_forAll 49 = .ok (.iload_n 3, 1) := dk_29 (dk_at dksX1_forAll_2 3 rfl rfl)
theorem dX1_forAll_50 : decode cX1_forAll 50 = .ok (.ifCond .eq 28, 3) := dk_153 0 28 (dk_at dksX1_forAll_2 4 rfl rfl)
theorem dX1_forAll_53 : decode cX1_forAll 53 = .ok (.aload_n 0, 1) := dk_42 (dk_at dksX1_forAll_2 7 rfl rfl)
theorem dX1_forAll_54 : decode cX1_forAll 54 = .ok (.aload_n 0, 1) := dk_42 (dk_at dksX1_forAll_2 8 rfl rfl)
theorem dX1_forAll_55 : decode cX1_forAll 55 = .ok (.getfield 129, 3) := dk_180 0 129 (dk_at dksX1_forAll_2 9 rfl rfl)
theorem dX1_forAll_58 : decode cX1_forAll 58 = .ok (.getfield 270, 3) := dk_180 1 14 (dk_at dksX1_forAll_2 12 rfl rfl)
theorem dX1_forAll_61 : decode cX1_forAll 61 = .ok (.iload 4, 2) := dk_21 4 (dk_at dksX1_forAll_2 15 rfl rfl)
theorem dX1_forAll_63 : decode cX1_forAll 63 = .ok (.aaload, 1) := dk_50 (dk_at dksX1_forAll_2 17 rfl rfl)
theorem dX1_forAll_64 : decode cX1_forAll 64 = .ok (.getfield 298, 3) := dk_180 1 42 (dk_at dksX1_forAll_2 18 rfl rfl)
theorem dX1_forAll_67 : decode cX1_forAll 67 = .ok (.iload_n 2, 1) := dk_28 (dk_at dksX1_forAll_2 21 rfl rfl)
theorem dX1_forAll_68 : decode cX1_forAll 68 = .ok (.invokevirtual 302, 3) := dk_182 1 46 (dk_at dksX1_forAll_3 0 rfl rfl)
theorem dX1_forAll_71 : decode cX1_forAll 71 = .ok (.ifCond .ne 7, 3) := dk_154 0 7 (dk_at dksX1_forAll_3 3 rfl rfl)
theorem dX1_forAll_74 : decode cX1_forAll 74 = .ok (.iconst 1, 1) := dk_4 (dk_at dksX1_forAll_3 6 rfl rfl)
theorem dX1_forAll_75 : decode cX1_forAll 75 = .ok (.goto 4, 3) := dk_167 0 4 (dk_at dksX1_forAll_3 7 rfl rfl)
theorem dX1_forAll_78 : decode cX1_forAll 78 = .ok (.iconst 0, 1) := dk_3 (dk_at dksX1_forAll_3 10 rfl rfl)
theorem dX1_forAll_79 : decode cX1_forAll 79 = .ok (.istore_n 3, 1) := dk_62 (dk_at dksX1_forAll_3 11 rfl rfl)
theorem dX1_forAll_80 : decode cX1_forAll 80 = .ok (.iinc 4 1, 3) := dk_132 4 1 (dk_at dksX1_forAll_3 12 rfl rfl)
theorem dX1_forAll_83 : decode cX1_forAll 83 = .ok (.goto (-46), 3) := dk_167 255 210 (dk_at dksX1_forAll_3 15 rfl rfl)
theorem dX1_forAll_86 : decode cX1_forAll 86 = .ok (.iload_n 1, 1) := dk_27 (dk_at dksX1_forAll_3 18 rfl rfl)
theorem dX1_forAll_87 : decode cX1_forAll 87 = .ok (.iload_n 3, 1) := dk_29 (dk_at dksX1_forAll_3 19 rfl rfl)
theorem dX1_forAll_88 : decode cX1_forAll 88 = .ok (.ifCond .eq 9, 3) := dk_153 0 9 (dk_at dksX1_forAll_3 20 rfl rfl)
theorem dX1_forAll_91 : decode cX1_forAll 91 = .ok (.iconst 1, 1) := dk_4 (dk_at dksX1_forAll_3 23 rfl rfl)
theorem dX1_forAll_92 : decode cX1_forAll 92 = .ok (.iload_n 2, 1) := dk_28 (dk_at dksX1_forAll_4 0 rfl rfl)
theorem dX1_forAll_93 : decode cX1_forAll 93 = .ok (.ishl, 1) := dk_120 (dk_at dksX1_forAll_4 1 rfl rfl)
theorem dX1_forAll_94 : decode cX1_forAll 94 = .ok (.goto 4, 3) := dk_167 0 4 (dk_at dksX1_forAll_4 2 rfl rfl)
theorem dX1_forAll_97 : decode cX1_forAll 97 = .ok (.iconst 0, 1) := dk_3 (dk_at dksX1_forAll_4 5 rfl rfl)
theorem dX1_forAll_98 : decode cX1_forAll 98 = .ok (.ior, 1) := dk_128 (dk_at dksX1_forAll_4 6 rfl rfl)
theorem dX1_forAll_99 : decode cX1_forAll 99 = .ok (.istore_n 1, 1) := dk_60 (dk_at dksX1_forAll_4 7 rfl rfl)
theorem dX1_forAll_100 : decode cX1_forAll 100 = .ok (.iinc 2 1, 3) := dk_132 2 1 (dk_at dksX1_forAll_4 8 rfl rfl)
theorem dX1_forAll_103 : decode cX1_forAll 103 = .ok (.goto (-82), 3) := dk_167 255 174 (dk_at dksX1_forAll_4 11 rfl rfl)
theorem dX1_forAll_106 : decode cX1_forAll 106 = .ok (.iload_n 1, 1) := dk_27 (dk_at dksX1_forAll_4 14 rfl rfl)
theorem dX1_forAll_107 : decode cX1_forAll 107 = .ok (.ireturn, 1) := dk_172 (dk_at dksX1_forAll_4 15 rfl rfl)
abbrev cX1_menu : ByteArray := prog_1_method_44_code
def yX1_menu : MethodName := ⟨RX1, "menu", "(II)I"⟩
def dkwX1_menu_5 : List UInt8 := [100, 46, 182, 1, 50, 79, 132, 4, 1, 167, 255, 216, 29, 172]
abbrev dktX1_menu_5 : List UInt8 := dkwX1_menu_5 ++ []
def dkwX1_menu_4 : List UInt8 := [180, 0, 59, 21, 4, 42, 21, 4, 21, 4, 154, 0, 7, 2, 167, 0, 12, 42, 180, 0, 59, 21, 4, 4]
abbrev dktX1_menu_4 : List UInt8 := dkwX1_menu_4 ++ dktX1_menu_5
def dkwX1_menu_3 : List UInt8 := [42, 16, 6, 182, 0, 118, 172, 42, 28, 181, 0, 148, 3, 54, 4, 21, 4, 28, 162, 0, 40, 42]
abbrev dktX1_menu_3 : List UInt8 := dkwX1_menu_3 ++ dktX1_menu_4
def dkwX1_menu_2 : List UInt8 := [182, 0, 118, 172, 42, 42, 180, 0, 129, 180, 1, 59, 27, 50, 28, 182, 1, 63, 62, 29, 2, 160, 0, 10]
abbrev dktX1_menu_2 : List UInt8 := dkwX1_menu_2 ++ dktX1_menu_3
def dkwX1_menu_1 : List UInt8 := [184, 0, 114, 154, 0, 9, 42, 4, 182, 0, 118, 172, 28, 4, 16, 14, 184, 0, 114, 154, 0, 9, 42, 5]
abbrev dktX1_menu_1 : List UInt8 := dkwX1_menu_1 ++ dktX1_menu_2
def dkwX1_menu_0 : List UInt8 := [42, 182, 0, 104, 42, 180, 0, 129, 198, 0, 20, 27, 3, 42, 180, 0, 129, 180, 1, 56, 4, 100]
abbrev dktX1_menu_0 : List UInt8 := dkwX1_menu_0 ++ dktX1_menu_1
theorem dksX1_menu_0 : cX1_menu.data.toList.drop 0 = dktX1_menu_0 := by decide +kernel
theorem dksX1_menu_1 : cX1_menu.data.toList.drop 22 = dktX1_menu_1 := dk_seg dksX1_menu_0 22 rfl rfl
theorem dksX1_menu_2 : cX1_menu.data.toList.drop 46 = dktX1_menu_2 := dk_seg dksX1_menu_1 24 rfl rfl
theorem dksX1_menu_3 : cX1_menu.data.toList.drop 70 = dktX1_menu_3 := dk_seg dksX1_menu_2 24 rfl rfl
theorem dksX1_menu_4 : cX1_menu.data.toList.drop 92 = dktX1_menu_4 := dk_seg dksX1_menu_3 22 rfl rfl
theorem dksX1_menu_5 : cX1_menu.data.toList.drop 116 = dktX1_menu_5 := dk_seg dksX1_menu_4 24 rfl rfl
theorem dX1_menu_0 : decode cX1_menu 0 = .ok (.aload_n 0, 1) := dk_42 (dk_at dksX1_menu_0 0 rfl rfl)
theorem dX1_menu_1 : decode cX1_menu 1 = .ok (.invokevirtual 104, 3) := dk_182 0 104 (dk_at dksX1_menu_0 1 rfl rfl)
theorem dX1_menu_4 : decode cX1_menu 4 = .ok (.aload_n 0, 1) := dk_42 (dk_at dksX1_menu_0 4 rfl rfl)
theorem dX1_menu_5 : decode cX1_menu 5 = .ok (.getfield 129, 3) := dk_180 0 129 (dk_at dksX1_menu_0 5 rfl rfl)
theorem dX1_menu_8 : decode cX1_menu 8 = .ok (.ifnull 20, 3) := dk_198 0 20 (dk_at dksX1_menu_0 8 rfl rfl)
theorem dX1_menu_11 : decode cX1_menu 11 = .ok (.iload_n 1, 1) := dk_27 (dk_at dksX1_menu_0 11 rfl rfl)
theorem dX1_menu_12 : decode cX1_menu 12 = .ok (.iconst 0, 1) := dk_3 (dk_at dksX1_menu_0 12 rfl rfl)
theorem dX1_menu_13 : decode cX1_menu 13 = .ok (.aload_n 0, 1) := dk_42 (dk_at dksX1_menu_0 13 rfl rfl)
theorem dX1_menu_14 : decode cX1_menu 14 = .ok (.getfield 129, 3) := dk_180 0 129 (dk_at dksX1_menu_0 14 rfl rfl)
theorem dX1_menu_17 : decode cX1_menu 17 = .ok (.getfield 312, 3) := dk_180 1 56 (dk_at dksX1_menu_0 17 rfl rfl)
theorem dX1_menu_20 : decode cX1_menu 20 = .ok (.iconst 1, 1) := dk_4 (dk_at dksX1_menu_0 20 rfl rfl)
theorem dX1_menu_21 : decode cX1_menu 21 = .ok (.isub, 1) := dk_100 (dk_at dksX1_menu_0 21 rfl rfl)
theorem dX1_menu_22 : decode cX1_menu 22 = .ok (.invokestatic 114, 3) := dk_184 0 114 (dk_at dksX1_menu_1 0 rfl rfl)
theorem dX1_menu_25 : decode cX1_menu 25 = .ok (.ifCond .ne 9, 3) := dk_154 0 9 (dk_at dksX1_menu_1 3 rfl rfl)
theorem dX1_menu_28 : decode cX1_menu 28 = .ok (.aload_n 0, 1) := dk_42 (dk_at dksX1_menu_1 6 rfl rfl)
theorem dX1_menu_29 : decode cX1_menu 29 = .ok (.iconst 1, 1) := dk_4 (dk_at dksX1_menu_1 7 rfl rfl)
theorem dX1_menu_30 : decode cX1_menu 30 = .ok (.invokevirtual 118, 3) := dk_182 0 118 (dk_at dksX1_menu_1 8 rfl rfl)
theorem dX1_menu_33 : decode cX1_menu 33 = .ok (.ireturn, 1) := dk_172 (dk_at dksX1_menu_1 11 rfl rfl)
theorem dX1_menu_34 : decode cX1_menu 34 = .ok (.iload_n 2, 1) := dk_28 (dk_at dksX1_menu_1 12 rfl rfl)
theorem dX1_menu_35 : decode cX1_menu 35 = .ok (.iconst 1, 1) := dk_4 (dk_at dksX1_menu_1 13 rfl rfl)
theorem dX1_menu_36 : decode cX1_menu 36 = .ok (.bipush 14, 2) := dk_16 14 (dk_at dksX1_menu_1 14 rfl rfl)
theorem dX1_menu_38 : decode cX1_menu 38 = .ok (.invokestatic 114, 3) := dk_184 0 114 (dk_at dksX1_menu_1 16 rfl rfl)
theorem dX1_menu_41 : decode cX1_menu 41 = .ok (.ifCond .ne 9, 3) := dk_154 0 9 (dk_at dksX1_menu_1 19 rfl rfl)
theorem dX1_menu_44 : decode cX1_menu 44 = .ok (.aload_n 0, 1) := dk_42 (dk_at dksX1_menu_1 22 rfl rfl)
theorem dX1_menu_45 : decode cX1_menu 45 = .ok (.iconst 2, 1) := dk_5 (dk_at dksX1_menu_1 23 rfl rfl)
theorem dX1_menu_46 : decode cX1_menu 46 = .ok (.invokevirtual 118, 3) := dk_182 0 118 (dk_at dksX1_menu_2 0 rfl rfl)
theorem dX1_menu_49 : decode cX1_menu 49 = .ok (.ireturn, 1) := dk_172 (dk_at dksX1_menu_2 3 rfl rfl)
theorem dX1_menu_50 : decode cX1_menu 50 = .ok (.aload_n 0, 1) := dk_42 (dk_at dksX1_menu_2 4 rfl rfl)
theorem dX1_menu_51 : decode cX1_menu 51 = .ok (.aload_n 0, 1) := dk_42 (dk_at dksX1_menu_2 5 rfl rfl)
theorem dX1_menu_52 : decode cX1_menu 52 = .ok (.getfield 129, 3) := dk_180 0 129 (dk_at dksX1_menu_2 6 rfl rfl)
theorem dX1_menu_55 : decode cX1_menu 55 = .ok (.getfield 315, 3) := dk_180 1 59 (dk_at dksX1_menu_2 9 rfl rfl)
theorem dX1_menu_58 : decode cX1_menu 58 = .ok (.iload_n 1, 1) := dk_27 (dk_at dksX1_menu_2 12 rfl rfl)
theorem dX1_menu_59 : decode cX1_menu 59 = .ok (.aaload, 1) := dk_50 (dk_at dksX1_menu_2 13 rfl rfl)
theorem dX1_menu_60 : decode cX1_menu 60 = .ok (.iload_n 2, 1) := dk_28 (dk_at dksX1_menu_2 14 rfl rfl)
theorem dX1_menu_61 : decode cX1_menu 61 = .ok (.invokevirtual 319, 3) := dk_182 1 63 (dk_at dksX1_menu_2 15 rfl rfl)
theorem dX1_menu_64 : decode cX1_menu 64 = .ok (.istore_n 3, 1) := dk_62 (dk_at dksX1_menu_2 18 rfl rfl)
theorem dX1_menu_65 : decode cX1_menu 65 = .ok (.iload_n 3, 1) := dk_29 (dk_at dksX1_menu_2 19 rfl rfl)
theorem dX1_menu_66 : decode cX1_menu 66 = .ok (.iconst (-1), 1) := dk_2 (dk_at dksX1_menu_2 20 rfl rfl)
theorem dX1_menu_67 : decode cX1_menu 67 = .ok (.if_icmp .ne 10, 3) := dk_160 0 10 (dk_at dksX1_menu_2 21 rfl rfl)
theorem dX1_menu_70 : decode cX1_menu 70 = .ok (.aload_n 0, 1) := dk_42 (dk_at dksX1_menu_3 0 rfl rfl)
theorem dX1_menu_71 : decode cX1_menu 71 = .ok (.bipush 6, 2) := dk_16 6 (dk_at dksX1_menu_3 1 rfl rfl)
theorem dX1_menu_73 : decode cX1_menu 73 = .ok (.invokevirtual 118, 3) := dk_182 0 118 (dk_at dksX1_menu_3 3 rfl rfl)
theorem dX1_menu_76 : decode cX1_menu 76 = .ok (.ireturn, 1) := dk_172 (dk_at dksX1_menu_3 6 rfl rfl)
theorem dX1_menu_77 : decode cX1_menu 77 = .ok (.aload_n 0, 1) := dk_42 (dk_at dksX1_menu_3 7 rfl rfl)
theorem dX1_menu_78 : decode cX1_menu 78 = .ok (.iload_n 2, 1) := dk_28 (dk_at dksX1_menu_3 8 rfl rfl)
theorem dX1_menu_79 : decode cX1_menu 79 = .ok (.putfield 148, 3) := dk_181 0 148 (dk_at dksX1_menu_3 9 rfl rfl)
theorem dX1_menu_82 : decode cX1_menu 82 = .ok (.iconst 0, 1) := dk_3 (dk_at dksX1_menu_3 12 rfl rfl)
theorem dX1_menu_83 : decode cX1_menu 83 = .ok (.istore 4, 2) := dk_54 4 (dk_at dksX1_menu_3 13 rfl rfl)
theorem dX1_menu_85 : decode cX1_menu 85 = .ok (.iload 4, 2) := dk_21 4 (dk_at dksX1_menu_3 15 rfl rfl)
theorem dX1_menu_87 : decode cX1_menu 87 = .ok (.iload_n 2, 1) := dk_28 (dk_at dksX1_menu_3 17 rfl rfl)
theorem dX1_menu_88 : decode cX1_menu 88 = .ok (.if_icmp .ge 40, 3) := dk_162 0 40 (dk_at dksX1_menu_3 18 rfl rfl)
theorem dX1_menu_91 : decode cX1_menu 91 = .ok (.aload_n 0, 1) := dk_42 (dk_at dksX1_menu_3 21 rfl rfl)
theorem dX1_menu_92 : decode cX1_menu 92 = .ok (.getfield 59, 3) := dk_180 0 59 (dk_at dksX1_menu_4 0 rfl rfl)
theorem dX1_menu_95 : decode cX1_menu 95 = .ok (.iload 4, 2) := dk_21 4 (dk_at dksX1_menu_4 3 rfl rfl)
theorem dX1_menu_97 : decode cX1_menu 97 = .ok (.aload_n 0, 1) := dk_42 (dk_at dksX1_menu_4 5 rfl rfl)
theorem dX1_menu_98 : decode cX1_menu 98 = .ok (.iload 4, 2) := dk_21 4 (dk_at dksX1_menu_4 6 rfl rfl)
theorem dX1_menu_100 : decode cX1_menu 100 = .ok (.iload 4, 2) := dk_21 4 (dk_at dksX1_menu_4 8 rfl rfl)
theorem dX1_menu_102 : decode cX1_menu 102 = .ok (.ifCond .ne 7, 3) := dk_154 0 7 (dk_at dksX1_menu_4 10 rfl rfl)
theorem dX1_menu_105 : decode cX1_menu 105 = .ok (.iconst (-1), 1) := dk_2 (dk_at dksX1_menu_4 13 rfl rfl)
theorem dX1_menu_106 : decode cX1_menu 106 = .ok (.goto 12, 3) := dk_167 0 12 (dk_at dksX1_menu_4 14 rfl rfl)
theorem dX1_menu_109 : decode cX1_menu 109 = .ok (.aload_n 0, 1) := dk_42 (dk_at dksX1_menu_4 17 rfl rfl)
theorem dX1_menu_110 : decode cX1_menu 110 = .ok (.getfield 59, 3) := dk_180 0 59 (dk_at dksX1_menu_4 18 rfl rfl)
theorem dX1_menu_113 : decode cX1_menu 113 = .ok (.iload 4, 2) := dk_21 4 (dk_at dksX1_menu_4 21 rfl rfl)
theorem dX1_menu_115 : decode cX1_menu 115 = .ok (.iconst 1, 1) := dk_4 (dk_at dksX1_menu_4 23 rfl rfl)
theorem dX1_menu_116 : decode cX1_menu 116 = .ok (.isub, 1) := dk_100 (dk_at dksX1_menu_5 0 rfl rfl)
theorem dX1_menu_117 : decode cX1_menu 117 = .ok (.iaload, 1) := dk_46 (dk_at dksX1_menu_5 1 rfl rfl)
theorem dX1_menu_118 : decode cX1_menu 118 = .ok (.invokevirtual 306, 3) := dk_182 1 50 (dk_at dksX1_menu_5 2 rfl rfl)
theorem dX1_menu_121 : decode cX1_menu 121 = .ok (.iastore, 1) := dk_79 (dk_at dksX1_menu_5 5 rfl rfl)
theorem dX1_menu_122 : decode cX1_menu 122 = .ok (.iinc 4 1, 3) := dk_132 4 1 (dk_at dksX1_menu_5 6 rfl rfl)
theorem dX1_menu_125 : decode cX1_menu 125 = .ok (.goto (-40), 3) := dk_167 255 216 (dk_at dksX1_menu_5 9 rfl rfl)
theorem dX1_menu_128 : decode cX1_menu 128 = .ok (.iload_n 3, 1) := dk_29 (dk_at dksX1_menu_5 12 rfl rfl)
theorem dX1_menu_129 : decode cX1_menu 129 = .ok (.ireturn, 1) := dk_172 (dk_at dksX1_menu_5 13 rfl rfl)
abbrev cX1_lays : ByteArray := prog_1_method_43_code
def yX1_lays : MethodName := ⟨RX1, "lays", "(LNoonMeals$Diet;I)I"⟩
def dkwX1_lays_7 : List UInt8 := [167, 0, 9, 42, 180, 0, 56, 29, 46, 172]
abbrev dktX1_lays_7 : List UInt8 := dkwX1_lays_7 ++ []
def dkwX1_lays_6 : List UInt8 := [167, 255, 130, 132, 3, 255, 167, 255, 117, 42, 3, 2, 182, 1, 50, 62, 29, 2, 160, 0, 7, 2]
abbrev dktX1_lays_6 : List UInt8 := dkwX1_lays_6 ++ dktX1_lays_7
def dkwX1_lays_5 : List UInt8 := [167, 0, 17, 42, 180, 0, 56, 16, 6, 29, 4, 96, 104, 21, 5, 96, 46, 96, 79, 132, 4, 1]
abbrev dktX1_lays_5 : List UInt8 := dkwX1_lays_5 ++ dktX1_lays_6
def dkwX1_lays_4 : List UInt8 := [167, 0, 41, 42, 180, 0, 129, 180, 1, 30, 21, 4, 50, 180, 1, 53, 21, 5, 2, 160, 0, 7, 3]
abbrev dktX1_lays_4 : List UInt8 := dkwX1_lays_4 ++ dktX1_lays_5
def dkwX1_lays_3 : List UInt8 := [167, 0, 4, 3, 54, 6, 42, 180, 0, 56, 16, 6, 29, 104, 21, 4, 96, 21, 6, 154, 0, 7, 2]
abbrev dktX1_lays_3 : List UInt8 := dkwX1_lays_3 ++ dktX1_lays_4
def dkwX1_lays_2 : List UInt8 := [21, 4, 182, 1, 46, 154, 0, 20, 29, 28, 4, 100, 159, 0, 9, 21, 5, 2, 159, 0, 7, 4]
abbrev dktX1_lays_2 : List UInt8 := dkwX1_lays_2 ++ dktX1_lays_3
def dkwX1_lays_1 : List UInt8 := [28, 4, 100, 160, 0, 7, 2, 167, 0, 12, 42, 29, 4, 96, 21, 4, 182, 1, 50, 54, 5, 42, 43]
abbrev dktX1_lays_1 : List UInt8 := dkwX1_lays_1 ++ dktX1_lays_2
def dkwX1_lays_0 : List UInt8 := [28, 4, 100, 62, 29, 155, 0, 141, 3, 54, 4, 21, 4, 42, 180, 0, 129, 180, 1, 22, 162, 0, 120, 29]
abbrev dktX1_lays_0 : List UInt8 := dkwX1_lays_0 ++ dktX1_lays_1
theorem dksX1_lays_0 : cX1_lays.data.toList.drop 0 = dktX1_lays_0 := by decide +kernel
theorem dksX1_lays_1 : cX1_lays.data.toList.drop 24 = dktX1_lays_1 := dk_seg dksX1_lays_0 24 rfl rfl
theorem dksX1_lays_2 : cX1_lays.data.toList.drop 47 = dktX1_lays_2 := dk_seg dksX1_lays_1 23 rfl rfl
theorem dksX1_lays_3 : cX1_lays.data.toList.drop 69 = dktX1_lays_3 := dk_seg dksX1_lays_2 22 rfl rfl
theorem dksX1_lays_4 : cX1_lays.data.toList.drop 92 = dktX1_lays_4 := dk_seg dksX1_lays_3 23 rfl rfl
theorem dksX1_lays_5 : cX1_lays.data.toList.drop 115 = dktX1_lays_5 := dk_seg dksX1_lays_4 23 rfl rfl
theorem dksX1_lays_6 : cX1_lays.data.toList.drop 137 = dktX1_lays_6 := dk_seg dksX1_lays_5 22 rfl rfl
theorem dksX1_lays_7 : cX1_lays.data.toList.drop 159 = dktX1_lays_7 := dk_seg dksX1_lays_6 22 rfl rfl
theorem dX1_lays_0 : decode cX1_lays 0 = .ok (.iload_n 2, 1) := dk_28 (dk_at dksX1_lays_0 0 rfl rfl)
theorem dX1_lays_1 : decode cX1_lays 1 = .ok (.iconst 1, 1) := dk_4 (dk_at dksX1_lays_0 1 rfl rfl)
theorem dX1_lays_2 : decode cX1_lays 2 = .ok (.isub, 1) := dk_100 (dk_at dksX1_lays_0 2 rfl rfl)
theorem dX1_lays_3 : decode cX1_lays 3 = .ok (.istore_n 3, 1) := dk_62 (dk_at dksX1_lays_0 3 rfl rfl)
theorem dX1_lays_4 : decode cX1_lays 4 = .ok (.iload_n 3, 1) := dk_29 (dk_at dksX1_lays_0 4 rfl rfl)
theorem dX1_lays_5 : decode cX1_lays 5 = .ok (.ifCond .lt 141, 3) := dk_155 0 141 (dk_at dksX1_lays_0 5 rfl rfl)
theorem dX1_lays_8 : decode cX1_lays 8 = .ok (.iconst 0, 1) := dk_3 (dk_at dksX1_lays_0 8 rfl rfl)
theorem dX1_lays_9 : decode cX1_lays 9 = .ok (.istore 4, 2) := dk_54 4 (dk_at dksX1_lays_0 9 rfl rfl)
theorem dX1_lays_11 : decode cX1_lays 11 = .ok (.iload 4, 2) := dk_21 4 (dk_at dksX1_lays_0 11 rfl rfl)
theorem dX1_lays_13 : decode cX1_lays 13 = .ok (.aload_n 0, 1) := dk_42 (dk_at dksX1_lays_0 13 rfl rfl)
theorem dX1_lays_14 : decode cX1_lays 14 = .ok (.getfield 129, 3) := dk_180 0 129 (dk_at dksX1_lays_0 14 rfl rfl)
theorem dX1_lays_17 : decode cX1_lays 17 = .ok (.getfield 278, 3) := dk_180 1 22 (dk_at dksX1_lays_0 17 rfl rfl)
theorem dX1_lays_20 : decode cX1_lays 20 = .ok (.if_icmp .ge 120, 3) := dk_162 0 120 (dk_at dksX1_lays_0 20 rfl rfl)
theorem dX1_lays_23 : decode cX1_lays 23 = .ok (.iload_n 3, 1) := dk_29 (dk_at dksX1_lays_0 23 rfl rfl)
theorem dX1_lays_24 : decode cX1_lays 24 = .ok (.iload_n 2, 1) := dk_28 (dk_at dksX1_lays_1 0 rfl rfl)
theorem dX1_lays_25 : decode cX1_lays 25 = .ok (.iconst 1, 1) := dk_4 (dk_at dksX1_lays_1 1 rfl rfl)
theorem dX1_lays_26 : decode cX1_lays 26 = .ok (.isub, 1) := dk_100 (dk_at dksX1_lays_1 2 rfl rfl)
theorem dX1_lays_27 : decode cX1_lays 27 = .ok (.if_icmp .ne 7, 3) := dk_160 0 7 (dk_at dksX1_lays_1 3 rfl rfl)
theorem dX1_lays_30 : decode cX1_lays 30 = .ok (.iconst (-1), 1) := dk_2 (dk_at dksX1_lays_1 6 rfl rfl)
theorem dX1_lays_31 : decode cX1_lays 31 = .ok (.goto 12, 3) := dk_167 0 12 (dk_at dksX1_lays_1 7 rfl rfl)
theorem dX1_lays_34 : decode cX1_lays 34 = .ok (.aload_n 0, 1) := dk_42 (dk_at dksX1_lays_1 10 rfl rfl)
theorem dX1_lays_35 : decode cX1_lays 35 = .ok (.iload_n 3, 1) := dk_29 (dk_at dksX1_lays_1 11 rfl rfl)
theorem dX1_lays_36 : decode cX1_lays 36 = .ok (.iconst 1, 1) := dk_4 (dk_at dksX1_lays_1 12 rfl rfl)
theorem dX1_lays_37 : decode cX1_lays 37 = .ok (.iadd, 1) := dk_96 (dk_at dksX1_lays_1 13 rfl rfl)
theorem dX1_lays_38 : decode cX1_lays 38 = .ok (.iload 4, 2) := dk_21 4 (dk_at dksX1_lays_1 14 rfl rfl)
theorem dX1_lays_40 : decode cX1_lays 40 = .ok (.invokevirtual 306, 3) := dk_182 1 50 (dk_at dksX1_lays_1 16 rfl rfl)
theorem dX1_lays_43 : decode cX1_lays 43 = .ok (.istore 5, 2) := dk_54 5 (dk_at dksX1_lays_1 19 rfl rfl)
theorem dX1_lays_45 : decode cX1_lays 45 = .ok (.aload_n 0, 1) := dk_42 (dk_at dksX1_lays_1 21 rfl rfl)
theorem dX1_lays_46 : decode cX1_lays 46 = .ok (.aload_n 1, 1) := dk_43 (dk_at dksX1_lays_1 22 rfl rfl)
theorem dX1_lays_47 : decode cX1_lays 47 = .ok (.iload 4, 2) := dk_21 4 (dk_at dksX1_lays_2 0 rfl rfl)
theorem dX1_lays_49 : decode cX1_lays 49 = .ok (.invokevirtual 302, 3) := dk_182 1 46 (dk_at dksX1_lays_2 2 rfl rfl)
theorem dX1_lays_52 : decode cX1_lays 52 = .ok (.ifCond .ne 20, 3) := dk_154 0 20 (dk_at dksX1_lays_2 5 rfl rfl)
theorem dX1_lays_55 : decode cX1_lays 55 = .ok (.iload_n 3, 1) := dk_29 (dk_at dksX1_lays_2 8 rfl rfl)
theorem dX1_lays_56 : decode cX1_lays 56 = .ok (.iload_n 2, 1) := dk_28 (dk_at dksX1_lays_2 9 rfl rfl)
theorem dX1_lays_57 : decode cX1_lays 57 = .ok (.iconst 1, 1) := dk_4 (dk_at dksX1_lays_2 10 rfl rfl)
theorem dX1_lays_58 : decode cX1_lays 58 = .ok (.isub, 1) := dk_100 (dk_at dksX1_lays_2 11 rfl rfl)
theorem dX1_lays_59 : decode cX1_lays 59 = .ok (.if_icmp .eq 9, 3) := dk_159 0 9 (dk_at dksX1_lays_2 12 rfl rfl)
theorem dX1_lays_62 : decode cX1_lays 62 = .ok (.iload 5, 2) := dk_21 5 (dk_at dksX1_lays_2 15 rfl rfl)
theorem dX1_lays_64 : decode cX1_lays 64 = .ok (.iconst (-1), 1) := dk_2 (dk_at dksX1_lays_2 17 rfl rfl)
theorem dX1_lays_65 : decode cX1_lays 65 = .ok (.if_icmp .eq 7, 3) := dk_159 0 7 (dk_at dksX1_lays_2 18 rfl rfl)
theorem dX1_lays_68 : decode cX1_lays 68 = .ok (.iconst 1, 1) := dk_4 (dk_at dksX1_lays_2 21 rfl rfl)
theorem dX1_lays_69 : decode cX1_lays 69 = .ok (.goto 4, 3) := dk_167 0 4 (dk_at dksX1_lays_3 0 rfl rfl)
theorem dX1_lays_72 : decode cX1_lays 72 = .ok (.iconst 0, 1) := dk_3 (dk_at dksX1_lays_3 3 rfl rfl)
theorem dX1_lays_73 : decode cX1_lays 73 = .ok (.istore 6, 2) := dk_54 6 (dk_at dksX1_lays_3 4 rfl rfl)
theorem dX1_lays_75 : decode cX1_lays 75 = .ok (.aload_n 0, 1) := dk_42 (dk_at dksX1_lays_3 6 rfl rfl)
theorem dX1_lays_76 : decode cX1_lays 76 = .ok (.getfield 56, 3) := dk_180 0 56 (dk_at dksX1_lays_3 7 rfl rfl)
theorem dX1_lays_79 : decode cX1_lays 79 = .ok (.bipush 6, 2) := dk_16 6 (dk_at dksX1_lays_3 10 rfl rfl)
theorem dX1_lays_81 : decode cX1_lays 81 = .ok (.iload_n 3, 1) := dk_29 (dk_at dksX1_lays_3 12 rfl rfl)
theorem dX1_lays_82 : decode cX1_lays 82 = .ok (.imul, 1) := dk_104 (dk_at dksX1_lays_3 13 rfl rfl)
theorem dX1_lays_83 : decode cX1_lays 83 = .ok (.iload 4, 2) := dk_21 4 (dk_at dksX1_lays_3 14 rfl rfl)
theorem dX1_lays_85 : decode cX1_lays 85 = .ok (.iadd, 1) := dk_96 (dk_at dksX1_lays_3 16 rfl rfl)
theorem dX1_lays_86 : decode cX1_lays 86 = .ok (.iload 6, 2) := dk_21 6 (dk_at dksX1_lays_3 17 rfl rfl)
theorem dX1_lays_88 : decode cX1_lays 88 = .ok (.ifCond .ne 7, 3) := dk_154 0 7 (dk_at dksX1_lays_3 19 rfl rfl)
theorem dX1_lays_91 : decode cX1_lays 91 = .ok (.iconst (-1), 1) := dk_2 (dk_at dksX1_lays_3 22 rfl rfl)
theorem dX1_lays_92 : decode cX1_lays 92 = .ok (.goto 41, 3) := dk_167 0 41 (dk_at dksX1_lays_4 0 rfl rfl)
theorem dX1_lays_95 : decode cX1_lays 95 = .ok (.aload_n 0, 1) := dk_42 (dk_at dksX1_lays_4 3 rfl rfl)
theorem dX1_lays_96 : decode cX1_lays 96 = .ok (.getfield 129, 3) := dk_180 0 129 (dk_at dksX1_lays_4 4 rfl rfl)
theorem dX1_lays_99 : decode cX1_lays 99 = .ok (.getfield 286, 3) := dk_180 1 30 (dk_at dksX1_lays_4 7 rfl rfl)
theorem dX1_lays_102 : decode cX1_lays 102 = .ok (.iload 4, 2) := dk_21 4 (dk_at dksX1_lays_4 10 rfl rfl)
theorem dX1_lays_104 : decode cX1_lays 104 = .ok (.aaload, 1) := dk_50 (dk_at dksX1_lays_4 12 rfl rfl)
theorem dX1_lays_105 : decode cX1_lays 105 = .ok (.getfield 309, 3) := dk_180 1 53 (dk_at dksX1_lays_4 13 rfl rfl)
theorem dX1_lays_108 : decode cX1_lays 108 = .ok (.iload 5, 2) := dk_21 5 (dk_at dksX1_lays_4 16 rfl rfl)
theorem dX1_lays_110 : decode cX1_lays 110 = .ok (.iconst (-1), 1) := dk_2 (dk_at dksX1_lays_4 18 rfl rfl)
theorem dX1_lays_111 : decode cX1_lays 111 = .ok (.if_icmp .ne 7, 3) := dk_160 0 7 (dk_at dksX1_lays_4 19 rfl rfl)
theorem dX1_lays_114 : decode cX1_lays 114 = .ok (.iconst 0, 1) := dk_3 (dk_at dksX1_lays_4 22 rfl rfl)
theorem dX1_lays_115 : decode cX1_lays 115 = .ok (.goto 17, 3) := dk_167 0 17 (dk_at dksX1_lays_5 0 rfl rfl)
theorem dX1_lays_118 : decode cX1_lays 118 = .ok (.aload_n 0, 1) := dk_42 (dk_at dksX1_lays_5 3 rfl rfl)
theorem dX1_lays_119 : decode cX1_lays 119 = .ok (.getfield 56, 3) := dk_180 0 56 (dk_at dksX1_lays_5 4 rfl rfl)
theorem dX1_lays_122 : decode cX1_lays 122 = .ok (.bipush 6, 2) := dk_16 6 (dk_at dksX1_lays_5 7 rfl rfl)
theorem dX1_lays_124 : decode cX1_lays 124 = .ok (.iload_n 3, 1) := dk_29 (dk_at dksX1_lays_5 9 rfl rfl)
theorem dX1_lays_125 : decode cX1_lays 125 = .ok (.iconst 1, 1) := dk_4 (dk_at dksX1_lays_5 10 rfl rfl)
theorem dX1_lays_126 : decode cX1_lays 126 = .ok (.iadd, 1) := dk_96 (dk_at dksX1_lays_5 11 rfl rfl)
theorem dX1_lays_127 : decode cX1_lays 127 = .ok (.imul, 1) := dk_104 (dk_at dksX1_lays_5 12 rfl rfl)
theorem dX1_lays_128 : decode cX1_lays 128 = .ok (.iload 5, 2) := dk_21 5 (dk_at dksX1_lays_5 13 rfl rfl)
theorem dX1_lays_130 : decode cX1_lays 130 = .ok (.iadd, 1) := dk_96 (dk_at dksX1_lays_5 15 rfl rfl)
theorem dX1_lays_131 : decode cX1_lays 131 = .ok (.iaload, 1) := dk_46 (dk_at dksX1_lays_5 16 rfl rfl)
theorem dX1_lays_132 : decode cX1_lays 132 = .ok (.iadd, 1) := dk_96 (dk_at dksX1_lays_5 17 rfl rfl)
theorem dX1_lays_133 : decode cX1_lays 133 = .ok (.iastore, 1) := dk_79 (dk_at dksX1_lays_5 18 rfl rfl)
theorem dX1_lays_134 : decode cX1_lays 134 = .ok (.iinc 4 1, 3) := dk_132 4 1 (dk_at dksX1_lays_5 19 rfl rfl)
theorem dX1_lays_137 : decode cX1_lays 137 = .ok (.goto (-126), 3) := dk_167 255 130 (dk_at dksX1_lays_6 0 rfl rfl)
theorem dX1_lays_140 : decode cX1_lays 140 = .ok (.iinc 3 (-1), 3) := dk_132 3 255 (dk_at dksX1_lays_6 3 rfl rfl)
theorem dX1_lays_143 : decode cX1_lays 143 = .ok (.goto (-139), 3) := dk_167 255 117 (dk_at dksX1_lays_6 6 rfl rfl)
theorem dX1_lays_146 : decode cX1_lays 146 = .ok (.aload_n 0, 1) := dk_42 (dk_at dksX1_lays_6 9 rfl rfl)
theorem dX1_lays_147 : decode cX1_lays 147 = .ok (.iconst 0, 1) := dk_3 (dk_at dksX1_lays_6 10 rfl rfl)
theorem dX1_lays_148 : decode cX1_lays 148 = .ok (.iconst (-1), 1) := dk_2 (dk_at dksX1_lays_6 11 rfl rfl)
theorem dX1_lays_149 : decode cX1_lays 149 = .ok (.invokevirtual 306, 3) := dk_182 1 50 (dk_at dksX1_lays_6 12 rfl rfl)
theorem dX1_lays_152 : decode cX1_lays 152 = .ok (.istore_n 3, 1) := dk_62 (dk_at dksX1_lays_6 15 rfl rfl)
theorem dX1_lays_153 : decode cX1_lays 153 = .ok (.iload_n 3, 1) := dk_29 (dk_at dksX1_lays_6 16 rfl rfl)
theorem dX1_lays_154 : decode cX1_lays 154 = .ok (.iconst (-1), 1) := dk_2 (dk_at dksX1_lays_6 17 rfl rfl)
theorem dX1_lays_155 : decode cX1_lays 155 = .ok (.if_icmp .ne 7, 3) := dk_160 0 7 (dk_at dksX1_lays_6 18 rfl rfl)
theorem dX1_lays_158 : decode cX1_lays 158 = .ok (.iconst (-1), 1) := dk_2 (dk_at dksX1_lays_6 21 rfl rfl)
theorem dX1_lays_159 : decode cX1_lays 159 = .ok (.goto 9, 3) := dk_167 0 9 (dk_at dksX1_lays_7 0 rfl rfl)
theorem dX1_lays_162 : decode cX1_lays 162 = .ok (.aload_n 0, 1) := dk_42 (dk_at dksX1_lays_7 3 rfl rfl)
theorem dX1_lays_163 : decode cX1_lays 163 = .ok (.getfield 56, 3) := dk_180 0 56 (dk_at dksX1_lays_7 4 rfl rfl)
theorem dX1_lays_166 : decode cX1_lays 166 = .ok (.iload_n 3, 1) := dk_29 (dk_at dksX1_lays_7 7 rfl rfl)
theorem dX1_lays_167 : decode cX1_lays 167 = .ok (.iaload, 1) := dk_46 (dk_at dksX1_lays_7 8 rfl rfl)
theorem dX1_lays_168 : decode cX1_lays 168 = .ok (.ireturn, 1) := dk_172 (dk_at dksX1_lays_7 9 rfl rfl)
abbrev cX1_cheapest : ByteArray := prog_1_method_42_code
def yX1_cheapest : MethodName := ⟨RX1, "cheapest", "(II)I"⟩
def dkwX1_cheapest_3 : List UInt8 := [167, 255, 191, 29, 172]
abbrev dktX1_cheapest_3 : List UInt8 := dkwX1_cheapest_3 ++ []
def dkwX1_cheapest_2 : List UInt8 := [21, 5, 42, 180, 0, 56, 16, 6, 27, 104, 29, 96, 46, 162, 0, 6, 21, 4, 62, 132, 4, 1]
abbrev dktX1_cheapest_2 : List UInt8 := dkwX1_cheapest_2 ++ dktX1_cheapest_3
def dkwX1_cheapest_1 : List UInt8 := [104, 21, 4, 96, 46, 54, 5, 21, 4, 28, 159, 0, 33, 21, 5, 2, 159, 0, 27, 29, 2, 159, 0, 19]
abbrev dktX1_cheapest_1 : List UInt8 := dkwX1_cheapest_1 ++ dktX1_cheapest_2
def dkwX1_cheapest_0 : List UInt8 := [2, 62, 3, 54, 4, 21, 4, 42, 180, 0, 129, 180, 1, 22, 162, 0, 59, 42, 180, 0, 56, 16, 6, 27]
abbrev dktX1_cheapest_0 : List UInt8 := dkwX1_cheapest_0 ++ dktX1_cheapest_1
theorem dksX1_cheapest_0 : cX1_cheapest.data.toList.drop 0 = dktX1_cheapest_0 := by decide +kernel
theorem dksX1_cheapest_1 : cX1_cheapest.data.toList.drop 24 = dktX1_cheapest_1 := dk_seg dksX1_cheapest_0 24 rfl rfl
theorem dksX1_cheapest_2 : cX1_cheapest.data.toList.drop 48 = dktX1_cheapest_2 := dk_seg dksX1_cheapest_1 24 rfl rfl
theorem dksX1_cheapest_3 : cX1_cheapest.data.toList.drop 70 = dktX1_cheapest_3 := dk_seg dksX1_cheapest_2 22 rfl rfl
theorem dX1_cheapest_0 : decode cX1_cheapest 0 = .ok (.iconst (-1), 1) := dk_2 (dk_at dksX1_cheapest_0 0 rfl rfl)
theorem dX1_cheapest_1 : decode cX1_cheapest 1 = .ok (.istore_n 3, 1) := dk_62 (dk_at dksX1_cheapest_0 1 rfl rfl)
theorem dX1_cheapest_2 : decode cX1_cheapest 2 = .ok (.iconst 0, 1) := dk_3 (dk_at dksX1_cheapest_0 2 rfl rfl)
theorem dX1_cheapest_3 : decode cX1_cheapest 3 = .ok (.istore 4, 2) := dk_54 4 (dk_at dksX1_cheapest_0 3 rfl rfl)
theorem dX1_cheapest_5 : decode cX1_cheapest 5 = .ok (.iload 4, 2) := dk_21 4 (dk_at dksX1_cheapest_0 5 rfl rfl)
theorem dX1_cheapest_7 : decode cX1_cheapest 7 = .ok (.aload_n 0, 1) := dk_42 (dk_at dksX1_cheapest_0 7 rfl rfl)
theorem dX1_cheapest_8 : decode cX1_cheapest 8 = .ok (.getfield 129, 3) := dk_180 0 129 (dk_at dksX1_cheapest_0 8 rfl rfl)
theorem dX1_cheapest_11 : decode cX1_cheapest 11 = .ok (.getfield 278, 3) := dk_180 1 22 (dk_at dksX1_cheapest_0 11 rfl rfl)
theorem dX1_cheapest_14 : decode cX1_cheapest 14 = .ok (.if_icmp .ge 59, 3) := dk_162 0 59 (dk_at dksX1_cheapest_0 14 rfl rfl)
theorem dX1_cheapest_17 : decode cX1_cheapest 17 = .ok (.aload_n 0, 1) := dk_42 (dk_at dksX1_cheapest_0 17 rfl rfl)
theorem dX1_cheapest_18 : decode cX1_cheapest 18 = .ok (.getfield 56, 3) := dk_180 0 56 (dk_at dksX1_cheapest_0 18 rfl rfl)
theorem dX1_cheapest_21 : decode cX1_cheapest 21 = .ok (.bipush 6, 2) := dk_16 6 (dk_at dksX1_cheapest_0 21 rfl rfl)
theorem dX1_cheapest_23 : decode cX1_cheapest 23 = .ok (.iload_n 1, 1) := dk_27 (dk_at dksX1_cheapest_0 23 rfl rfl)
theorem dX1_cheapest_24 : decode cX1_cheapest 24 = .ok (.imul, 1) := dk_104 (dk_at dksX1_cheapest_1 0 rfl rfl)
theorem dX1_cheapest_25 : decode cX1_cheapest 25 = .ok (.iload 4, 2) := dk_21 4 (dk_at dksX1_cheapest_1 1 rfl rfl)
theorem dX1_cheapest_27 : decode cX1_cheapest 27 = .ok (.iadd, 1) := dk_96 (dk_at dksX1_cheapest_1 3 rfl rfl)
theorem dX1_cheapest_28 : decode cX1_cheapest 28 = .ok (.iaload, 1) := dk_46 (dk_at dksX1_cheapest_1 4 rfl rfl)
theorem dX1_cheapest_29 : decode cX1_cheapest 29 = .ok (.istore 5, 2) := dk_54 5 (dk_at dksX1_cheapest_1 5 rfl rfl)
theorem dX1_cheapest_31 : decode cX1_cheapest 31 = .ok (.iload 4, 2) := dk_21 4 (dk_at dksX1_cheapest_1 7 rfl rfl)
theorem dX1_cheapest_33 : decode cX1_cheapest 33 = .ok (.iload_n 2, 1) := dk_28 (dk_at dksX1_cheapest_1 9 rfl rfl)
theorem dX1_cheapest_34 : decode cX1_cheapest 34 = .ok (.if_icmp .eq 33, 3) := dk_159 0 33 (dk_at dksX1_cheapest_1 10 rfl rfl)
theorem dX1_cheapest_37 : decode cX1_cheapest 37 = .ok (.iload 5, 2) := dk_21 5 (dk_at dksX1_cheapest_1 13 rfl rfl)
theorem dX1_cheapest_39 : decode cX1_cheapest 39 = .ok (.iconst (-1), 1) := dk_2 (dk_at dksX1_cheapest_1 15 rfl rfl)
theorem dX1_cheapest_40 : decode cX1_cheapest 40 = .ok (.if_icmp .eq 27, 3) := dk_159 0 27 (dk_at dksX1_cheapest_1 16 rfl rfl)
theorem dX1_cheapest_43 : decode cX1_cheapest 43 = .ok (.iload_n 3, 1) := dk_29 (dk_at dksX1_cheapest_1 19 rfl rfl)
theorem dX1_cheapest_44 : decode cX1_cheapest 44 = .ok (.iconst (-1), 1) := dk_2 (dk_at dksX1_cheapest_1 20 rfl rfl)
theorem dX1_cheapest_45 : decode cX1_cheapest 45 = .ok (.if_icmp .eq 19, 3) := dk_159 0 19 (dk_at dksX1_cheapest_1 21 rfl rfl)
theorem dX1_cheapest_48 : decode cX1_cheapest 48 = .ok (.iload 5, 2) := dk_21 5 (dk_at dksX1_cheapest_2 0 rfl rfl)
theorem dX1_cheapest_50 : decode cX1_cheapest 50 = .ok (.aload_n 0, 1) := dk_42 (dk_at dksX1_cheapest_2 2 rfl rfl)
theorem dX1_cheapest_51 : decode cX1_cheapest 51 = .ok (.getfield 56, 3) := dk_180 0 56 (dk_at dksX1_cheapest_2 3 rfl rfl)
theorem dX1_cheapest_54 : decode cX1_cheapest 54 = .ok (.bipush 6, 2) := dk_16 6 (dk_at dksX1_cheapest_2 6 rfl rfl)
theorem dX1_cheapest_56 : decode cX1_cheapest 56 = .ok (.iload_n 1, 1) := dk_27 (dk_at dksX1_cheapest_2 8 rfl rfl)
theorem dX1_cheapest_57 : decode cX1_cheapest 57 = .ok (.imul, 1) := dk_104 (dk_at dksX1_cheapest_2 9 rfl rfl)
theorem dX1_cheapest_58 : decode cX1_cheapest 58 = .ok (.iload_n 3, 1) := dk_29 (dk_at dksX1_cheapest_2 10 rfl rfl)
theorem dX1_cheapest_59 : decode cX1_cheapest 59 = .ok (.iadd, 1) := dk_96 (dk_at dksX1_cheapest_2 11 rfl rfl)
theorem dX1_cheapest_60 : decode cX1_cheapest 60 = .ok (.iaload, 1) := dk_46 (dk_at dksX1_cheapest_2 12 rfl rfl)
theorem dX1_cheapest_61 : decode cX1_cheapest 61 = .ok (.if_icmp .ge 6, 3) := dk_162 0 6 (dk_at dksX1_cheapest_2 13 rfl rfl)
theorem dX1_cheapest_64 : decode cX1_cheapest 64 = .ok (.iload 4, 2) := dk_21 4 (dk_at dksX1_cheapest_2 16 rfl rfl)
theorem dX1_cheapest_66 : decode cX1_cheapest 66 = .ok (.istore_n 3, 1) := dk_62 (dk_at dksX1_cheapest_2 18 rfl rfl)
theorem dX1_cheapest_67 : decode cX1_cheapest 67 = .ok (.iinc 4 1, 3) := dk_132 4 1 (dk_at dksX1_cheapest_2 19 rfl rfl)
theorem dX1_cheapest_70 : decode cX1_cheapest 70 = .ok (.goto (-65), 3) := dk_167 255 191 (dk_at dksX1_cheapest_3 0 rfl rfl)
theorem dX1_cheapest_73 : decode cX1_cheapest 73 = .ok (.iload_n 3, 1) := dk_29 (dk_at dksX1_cheapest_3 3 rfl rfl)
theorem dX1_cheapest_74 : decode cX1_cheapest 74 = .ok (.ireturn, 1) := dk_172 (dk_at dksX1_cheapest_3 4 rfl rfl)
abbrev cX1_menuAt : ByteArray := prog_1_method_45_code
def yX1_menuAt : MethodName := ⟨RX1, "menuAt", "(I)I"⟩
def dkwX1_menuAt_1 : List UInt8 := [172]
abbrev dktX1_menuAt_1 : List UInt8 := dkwX1_menuAt_1 ++ []
def dkwX1_menuAt_0 : List UInt8 := [27, 3, 42, 180, 0, 148, 4, 100, 184, 0, 114, 153, 0, 12, 42, 180, 0, 59, 27, 46, 167, 0, 4, 2]
abbrev dktX1_menuAt_0 : List UInt8 := dkwX1_menuAt_0 ++ dktX1_menuAt_1
theorem dksX1_menuAt_0 : cX1_menuAt.data.toList.drop 0 = dktX1_menuAt_0 := by decide +kernel
theorem dksX1_menuAt_1 : cX1_menuAt.data.toList.drop 24 = dktX1_menuAt_1 := dk_seg dksX1_menuAt_0 24 rfl rfl
theorem dX1_menuAt_0 : decode cX1_menuAt 0 = .ok (.iload_n 1, 1) := dk_27 (dk_at dksX1_menuAt_0 0 rfl rfl)
theorem dX1_menuAt_1 : decode cX1_menuAt 1 = .ok (.iconst 0, 1) := dk_3 (dk_at dksX1_menuAt_0 1 rfl rfl)
theorem dX1_menuAt_2 : decode cX1_menuAt 2 = .ok (.aload_n 0, 1) := dk_42 (dk_at dksX1_menuAt_0 2 rfl rfl)
theorem dX1_menuAt_3 : decode cX1_menuAt 3 = .ok (.getfield 148, 3) := dk_180 0 148 (dk_at dksX1_menuAt_0 3 rfl rfl)
theorem dX1_menuAt_6 : decode cX1_menuAt 6 = .ok (.iconst 1, 1) := dk_4 (dk_at dksX1_menuAt_0 6 rfl rfl)
theorem dX1_menuAt_7 : decode cX1_menuAt 7 = .ok (.isub, 1) := dk_100 (dk_at dksX1_menuAt_0 7 rfl rfl)
theorem dX1_menuAt_8 : decode cX1_menuAt 8 = .ok (.invokestatic 114, 3) := dk_184 0 114 (dk_at dksX1_menuAt_0 8 rfl rfl)
theorem dX1_menuAt_11 : decode cX1_menuAt 11 = .ok (.ifCond .eq 12, 3) := dk_153 0 12 (dk_at dksX1_menuAt_0 11 rfl rfl)
theorem dX1_menuAt_14 : decode cX1_menuAt 14 = .ok (.aload_n 0, 1) := dk_42 (dk_at dksX1_menuAt_0 14 rfl rfl)
theorem dX1_menuAt_15 : decode cX1_menuAt 15 = .ok (.getfield 59, 3) := dk_180 0 59 (dk_at dksX1_menuAt_0 15 rfl rfl)
theorem dX1_menuAt_18 : decode cX1_menuAt 18 = .ok (.iload_n 1, 1) := dk_27 (dk_at dksX1_menuAt_0 18 rfl rfl)
theorem dX1_menuAt_19 : decode cX1_menuAt 19 = .ok (.iaload, 1) := dk_46 (dk_at dksX1_menuAt_0 19 rfl rfl)
theorem dX1_menuAt_20 : decode cX1_menuAt 20 = .ok (.goto 4, 3) := dk_167 0 4 (dk_at dksX1_menuAt_0 20 rfl rfl)
theorem dX1_menuAt_23 : decode cX1_menuAt 23 = .ok (.iconst (-1), 1) := dk_2 (dk_at dksX1_menuAt_0 23 rfl rfl)
theorem dX1_menuAt_24 : decode cX1_menuAt 24 = .ok (.ireturn, 1) := dk_172 (dk_at dksX1_menuAt_1 0 rfl rfl)
abbrev cX1_dropped : ByteArray := prog_1_method_46_code
def yX1_dropped : MethodName := ⟨RX1, "dropped", "(II)I"⟩
def dkwX1_dropped_9 : List UInt8 := [54, 4, 29, 42, 180, 0, 62, 21, 5, 46, 100, 62, 167, 255, 159, 21, 4, 172]
abbrev dktX1_dropped_9 : List UInt8 := dkwX1_dropped_9 ++ []
def dkwX1_dropped_8 : List UInt8 := [180, 1, 67, 163, 0, 7, 21, 6, 54, 5, 132, 6, 1, 167, 255, 192, 21, 4, 4, 21, 5, 120, 128]
abbrev dktX1_dropped_8 : List UInt8 := dkwX1_dropped_8 ++ dktX1_dropped_9
def dkwX1_dropped_7 : List UInt8 := [180, 0, 129, 180, 1, 14, 21, 6, 50, 180, 1, 67, 42, 180, 0, 129, 180, 1, 14, 21, 5, 50]
abbrev dktX1_dropped_7 : List UInt8 := dkwX1_dropped_7 ++ dktX1_dropped_8
def dkwX1_dropped_6 : List UInt8 := [180, 0, 161, 162, 0, 58, 21, 4, 21, 6, 184, 0, 237, 154, 0, 42, 21, 5, 2, 159, 0, 32, 42]
abbrev dktX1_dropped_6 : List UInt8 := dkwX1_dropped_6 ++ dktX1_dropped_7
def dkwX1_dropped_5 : List UInt8 := [167, 255, 188, 3, 54, 4, 29, 27, 164, 0, 98, 2, 54, 5, 3, 54, 6, 21, 6, 42, 180, 0, 129]
abbrev dktX1_dropped_5 : List UInt8 := dkwX1_dropped_5 ++ dktX1_dropped_6
def dkwX1_dropped_4 : List UInt8 := [2, 160, 0, 10, 42, 16, 6, 182, 0, 118, 172, 29, 42, 180, 0, 62, 21, 4, 46, 96, 62, 132, 4, 1]
abbrev dktX1_dropped_4 : List UInt8 := dkwX1_dropped_4 ++ dktX1_dropped_5
def dkwX1_dropped_3 : List UInt8 := [180, 0, 129, 180, 1, 14, 21, 4, 50, 180, 1, 42, 28, 182, 1, 63, 79, 42, 180, 0, 62, 21, 4, 46]
abbrev dktX1_dropped_3 : List UInt8 := dkwX1_dropped_3 ++ dktX1_dropped_4
def dkwX1_dropped_2 : List UInt8 := [54, 4, 21, 4, 42, 180, 0, 129, 180, 0, 161, 162, 0, 62, 42, 180, 0, 62, 21, 4, 42, 42]
abbrev dktX1_dropped_2 : List UInt8 := dkwX1_dropped_2 ++ dktX1_dropped_3
def dkwX1_dropped_1 : List UInt8 := [153, 0, 14, 27, 3, 19, 1, 66, 184, 0, 114, 154, 0, 9, 42, 5, 182, 0, 118, 172, 3, 62, 3]
abbrev dktX1_dropped_1 : List UInt8 := dkwX1_dropped_1 ++ dktX1_dropped_2
def dkwX1_dropped_0 : List UInt8 := [42, 182, 0, 104, 42, 180, 0, 129, 199, 0, 9, 42, 4, 182, 0, 118, 172, 28, 4, 16, 14, 184, 0, 114]
abbrev dktX1_dropped_0 : List UInt8 := dkwX1_dropped_0 ++ dktX1_dropped_1
theorem dksX1_dropped_0 : cX1_dropped.data.toList.drop 0 = dktX1_dropped_0 := by decide +kernel
theorem dksX1_dropped_1 : cX1_dropped.data.toList.drop 24 = dktX1_dropped_1 := dk_seg dksX1_dropped_0 24 rfl rfl
theorem dksX1_dropped_2 : cX1_dropped.data.toList.drop 47 = dktX1_dropped_2 := dk_seg dksX1_dropped_1 23 rfl rfl
theorem dksX1_dropped_3 : cX1_dropped.data.toList.drop 69 = dktX1_dropped_3 := dk_seg dksX1_dropped_2 22 rfl rfl
theorem dksX1_dropped_4 : cX1_dropped.data.toList.drop 93 = dktX1_dropped_4 := dk_seg dksX1_dropped_3 24 rfl rfl
theorem dksX1_dropped_5 : cX1_dropped.data.toList.drop 117 = dktX1_dropped_5 := dk_seg dksX1_dropped_4 24 rfl rfl
theorem dksX1_dropped_6 : cX1_dropped.data.toList.drop 140 = dktX1_dropped_6 := dk_seg dksX1_dropped_5 23 rfl rfl
theorem dksX1_dropped_7 : cX1_dropped.data.toList.drop 163 = dktX1_dropped_7 := dk_seg dksX1_dropped_6 23 rfl rfl
theorem dksX1_dropped_8 : cX1_dropped.data.toList.drop 185 = dktX1_dropped_8 := dk_seg dksX1_dropped_7 22 rfl rfl
theorem dksX1_dropped_9 : cX1_dropped.data.toList.drop 208 = dktX1_dropped_9 := dk_seg dksX1_dropped_8 23 rfl rfl
theorem dX1_dropped_0 : decode cX1_dropped 0 = .ok (.aload_n 0, 1) := dk_42 (dk_at dksX1_dropped_0 0 rfl rfl)
theorem dX1_dropped_1 : decode cX1_dropped 1 = .ok (.invokevirtual 104, 3) := dk_182 0 104 (dk_at dksX1_dropped_0 1 rfl rfl)
theorem dX1_dropped_4 : decode cX1_dropped 4 = .ok (.aload_n 0, 1) := dk_42 (dk_at dksX1_dropped_0 4 rfl rfl)
theorem dX1_dropped_5 : decode cX1_dropped 5 = .ok (.getfield 129, 3) := dk_180 0 129 (dk_at dksX1_dropped_0 5 rfl rfl)
theorem dX1_dropped_8 : decode cX1_dropped 8 = .ok (.ifnonnull 9, 3) := dk_199 0 9 (dk_at dksX1_dropped_0 8 rfl rfl)
theorem dX1_dropped_11 : decode cX1_dropped 11 = .ok (.aload_n 0, 1) := dk_42 (dk_at dksX1_dropped_0 11 rfl rfl)
theorem dX1_dropped_12 : decode cX1_dropped 12 = .ok (.iconst 1, 1) := dk_4 (dk_at dksX1_dropped_0 12 rfl rfl)
theorem dX1_dropped_13 : decode cX1_dropped 13 = .ok (.invokevirtual 118, 3) := dk_182 0 118 (dk_at dksX1_dropped_0 13 rfl rfl)
theorem dX1_dropped_16 : decode cX1_dropped 16 = .ok (.ireturn, 1) := dk_172 (dk_at dksX1_dropped_0 16 rfl rfl)
theorem dX1_dropped_17 : decode cX1_dropped 17 = .ok (.iload_n 2, 1) := dk_28 (dk_at dksX1_dropped_0 17 rfl rfl)
theorem dX1_dropped_18 : decode cX1_dropped 18 = .ok (.iconst 1, 1) := dk_4 (dk_at dksX1_dropped_0 18 rfl rfl)
theorem dX1_dropped_19 : decode cX1_dropped 19 = .ok (.bipush 14, 2) := dk_16 14 (dk_at dksX1_dropped_0 19 rfl rfl)
theorem dX1_dropped_21 : decode cX1_dropped 21 = .ok (.invokestatic 114, 3) := dk_184 0 114 (dk_at dksX1_dropped_0 21 rfl rfl)
theorem dX1_dropped_24 : decode cX1_dropped 24 = .ok (.ifCond .eq 14, 3) := dk_153 0 14 (dk_at dksX1_dropped_1 0 rfl rfl)
theorem dX1_dropped_27 : decode cX1_dropped 27 = .ok (.iload_n 1, 1) := dk_27 (dk_at dksX1_dropped_1 3 rfl rfl)
theorem dX1_dropped_28 : decode cX1_dropped 28 = .ok (.iconst 0, 1) := dk_3 (dk_at dksX1_dropped_1 4 rfl rfl)
theorem dX1_dropped_29 : decode cX1_dropped 29 = .ok (.ldc_w 322, 3) := dk_19 1 66 (dk_at dksX1_dropped_1 5 rfl rfl)
theorem dX1_dropped_32 : decode cX1_dropped 32 = .ok (.invokestatic 114, 3) := dk_184 0 114 (dk_at dksX1_dropped_1 8 rfl rfl)
theorem dX1_dropped_35 : decode cX1_dropped 35 = .ok (.ifCond .ne 9, 3) := dk_154 0 9 (dk_at dksX1_dropped_1 11 rfl rfl)
theorem dX1_dropped_38 : decode cX1_dropped 38 = .ok (.aload_n 0, 1) := dk_42 (dk_at dksX1_dropped_1 14 rfl rfl)
theorem dX1_dropped_39 : decode cX1_dropped 39 = .ok (.iconst 2, 1) := dk_5 (dk_at dksX1_dropped_1 15 rfl rfl)
theorem dX1_dropped_40 : decode cX1_dropped 40 = .ok (.invokevirtual 118, 3) := dk_182 0 118 (dk_at dksX1_dropped_1 16 rfl rfl)
theorem dX1_dropped_43 : decode cX1_dropped 43 = .ok (.ireturn, 1) := dk_172 (dk_at dksX1_dropped_1 19 rfl rfl)
theorem dX1_dropped_44 : decode cX1_dropped 44 = .ok (.iconst 0, 1) := dk_3 (dk_at dksX1_dropped_1 20 rfl rfl)
theorem dX1_dropped_45 : decode cX1_dropped 45 = .ok (.istore_n 3, 1) := dk_62 (dk_at dksX1_dropped_1 21 rfl rfl)
theorem dX1_dropped_46 : decode cX1_dropped 46 = .ok (.iconst 0, 1) := dk_3 (dk_at dksX1_dropped_1 22 rfl rfl)
theorem dX1_dropped_47 : decode cX1_dropped 47 = .ok (.istore 4, 2) := dk_54 4 (dk_at dksX1_dropped_2 0 rfl rfl)
theorem dX1_dropped_49 : decode cX1_dropped 49 = .ok (.iload 4, 2) := dk_21 4 (dk_at dksX1_dropped_2 2 rfl rfl)
theorem dX1_dropped_51 : decode cX1_dropped 51 = .ok (.aload_n 0, 1) := dk_42 (dk_at dksX1_dropped_2 4 rfl rfl)
theorem dX1_dropped_52 : decode cX1_dropped 52 = .ok (.getfield 129, 3) := dk_180 0 129 (dk_at dksX1_dropped_2 5 rfl rfl)
theorem dX1_dropped_55 : decode cX1_dropped 55 = .ok (.getfield 161, 3) := dk_180 0 161 (dk_at dksX1_dropped_2 8 rfl rfl)
theorem dX1_dropped_58 : decode cX1_dropped 58 = .ok (.if_icmp .ge 62, 3) := dk_162 0 62 (dk_at dksX1_dropped_2 11 rfl rfl)
theorem dX1_dropped_61 : decode cX1_dropped 61 = .ok (.aload_n 0, 1) := dk_42 (dk_at dksX1_dropped_2 14 rfl rfl)
theorem dX1_dropped_62 : decode cX1_dropped 62 = .ok (.getfield 62, 3) := dk_180 0 62 (dk_at dksX1_dropped_2 15 rfl rfl)
theorem dX1_dropped_65 : decode cX1_dropped 65 = .ok (.iload 4, 2) := dk_21 4 (dk_at dksX1_dropped_2 18 rfl rfl)
theorem dX1_dropped_67 : decode cX1_dropped 67 = .ok (.aload_n 0, 1) := dk_42 (dk_at dksX1_dropped_2 20 rfl rfl)
theorem dX1_dropped_68 : decode cX1_dropped 68 = .ok (.aload_n 0, 1) := dk_42 (dk_at dksX1_dropped_2 21 rfl rfl)
theorem dX1_dropped_69 : decode cX1_dropped 69 = .ok (.getfield 129, 3) := dk_180 0 129 (dk_at dksX1_dropped_3 0 rfl rfl)
theorem dX1_dropped_72 : decode cX1_dropped 72 = .ok (.getfield 270, 3) := dk_180 1 14 (dk_at dksX1_dropped_3 3 rfl rfl)
theorem dX1_dropped_75 : decode cX1_dropped 75 = .ok (.iload 4, 2) := dk_21 4 (dk_at dksX1_dropped_3 6 rfl rfl)
theorem dX1_dropped_77 : decode cX1_dropped 77 = .ok (.aaload, 1) := dk_50 (dk_at dksX1_dropped_3 8 rfl rfl)
theorem dX1_dropped_78 : decode cX1_dropped 78 = .ok (.getfield 298, 3) := dk_180 1 42 (dk_at dksX1_dropped_3 9 rfl rfl)
theorem dX1_dropped_81 : decode cX1_dropped 81 = .ok (.iload_n 2, 1) := dk_28 (dk_at dksX1_dropped_3 12 rfl rfl)
theorem dX1_dropped_82 : decode cX1_dropped 82 = .ok (.invokevirtual 319, 3) := dk_182 1 63 (dk_at dksX1_dropped_3 13 rfl rfl)
theorem dX1_dropped_85 : decode cX1_dropped 85 = .ok (.iastore, 1) := dk_79 (dk_at dksX1_dropped_3 16 rfl rfl)
theorem dX1_dropped_86 : decode cX1_dropped 86 = .ok (.aload_n 0, 1) := dk_42 (dk_at dksX1_dropped_3 17 rfl rfl)
theorem dX1_dropped_87 : decode cX1_dropped 87 = .ok (.getfield 62, 3) := dk_180 0 62 (dk_at dksX1_dropped_3 18 rfl rfl)
theorem dX1_dropped_90 : decode cX1_dropped 90 = .ok (.iload 4, 2) := dk_21 4 (dk_at dksX1_dropped_3 21 rfl rfl)
theorem dX1_dropped_92 : decode cX1_dropped 92 = .ok (.iaload, 1) := dk_46 (dk_at dksX1_dropped_3 23 rfl rfl)
theorem dX1_dropped_93 : decode cX1_dropped 93 = .ok (.iconst (-1), 1) := dk_2 (dk_at dksX1_dropped_4 0 rfl rfl)
theorem dX1_dropped_94 : decode cX1_dropped 94 = .ok (.if_icmp .ne 10, 3) := dk_160 0 10 (dk_at dksX1_dropped_4 1 rfl rfl)
theorem dX1_dropped_97 : decode cX1_dropped 97 = .ok (.aload_n 0, 1) := dk_42 (dk_at dksX1_dropped_4 4 rfl rfl)
theorem dX1_dropped_98 : decode cX1_dropped 98 = .ok (.bipush 6, 2) := dk_16 6 (dk_at dksX1_dropped_4 5 rfl rfl)
theorem dX1_dropped_100 : decode cX1_dropped 100 = .ok (.invokevirtual 118, 3) := dk_182 0 118 (dk_at dksX1_dropped_4 7 rfl rfl)
theorem dX1_dropped_103 : decode cX1_dropped 103 = .ok (.ireturn, 1) := dk_172 (dk_at dksX1_dropped_4 10 rfl rfl)
theorem dX1_dropped_104 : decode cX1_dropped 104 = .ok (.iload_n 3, 1) := dk_29 (dk_at dksX1_dropped_4 11 rfl rfl)
theorem dX1_dropped_105 : decode cX1_dropped 105 = .ok (.aload_n 0, 1) := dk_42 (dk_at dksX1_dropped_4 12 rfl rfl)
theorem dX1_dropped_106 : decode cX1_dropped 106 = .ok (.getfield 62, 3) := dk_180 0 62 (dk_at dksX1_dropped_4 13 rfl rfl)
theorem dX1_dropped_109 : decode cX1_dropped 109 = .ok (.iload 4, 2) := dk_21 4 (dk_at dksX1_dropped_4 16 rfl rfl)
theorem dX1_dropped_111 : decode cX1_dropped 111 = .ok (.iaload, 1) := dk_46 (dk_at dksX1_dropped_4 18 rfl rfl)
theorem dX1_dropped_112 : decode cX1_dropped 112 = .ok (.iadd, 1) := dk_96 (dk_at dksX1_dropped_4 19 rfl rfl)
theorem dX1_dropped_113 : decode cX1_dropped 113 = .ok (.istore_n 3, 1) := dk_62 (dk_at dksX1_dropped_4 20 rfl rfl)
theorem dX1_dropped_114 : decode cX1_dropped 114 = .ok (.iinc 4 1, 3) := dk_132 4 1 (dk_at dksX1_dropped_4 21 rfl rfl)
theorem dX1_dropped_117 : decode cX1_dropped 117 = .ok (.goto (-68), 3) := dk_167 255 188 (dk_at dksX1_dropped_5 0 rfl rfl)
theorem dX1_dropped_120 : decode cX1_dropped 120 = .ok (.iconst 0, 1) := dk_3 (dk_at dksX1_dropped_5 3 rfl rfl)
theorem dX1_dropped_121 : decode cX1_dropped 121 = .ok (.istore 4, 2) := dk_54 4 (dk_at dksX1_dropped_5 4 rfl rfl)
theorem dX1_dropped_123 : decode cX1_dropped 123 = .ok (.iload_n 3, 1) := dk_29 (dk_at dksX1_dropped_5 6 rfl rfl)
theorem dX1_dropped_124 : decode cX1_dropped 124 = .ok (.iload_n 1, 1) := dk_27 (dk_at dksX1_dropped_5 7 rfl rfl)
theorem dX1_dropped_125 : decode cX1_dropped 125 = .ok (.if_icmp .le 98, 3) := dk_164 0 98 (dk_at dksX1_dropped_5 8 rfl rfl)
theorem dX1_dropped_128 : decode cX1_dropped 128 = .ok (.iconst (-1), 1) := dk_2 (dk_at dksX1_dropped_5 11 rfl rfl)
theorem dX1_dropped_129 : decode cX1_dropped 129 = .ok (.istore 5, 2) := dk_54 5 (dk_at dksX1_dropped_5 12 rfl rfl)
theorem dX1_dropped_131 : decode cX1_dropped 131 = .ok (.iconst 0, 1) := dk_3 (dk_at dksX1_dropped_5 14 rfl rfl)
theorem dX1_dropped_132 : decode cX1_dropped 132 = .ok (.istore 6, 2) := dk_54 6 (dk_at dksX1_dropped_5 15 rfl rfl)
theorem dX1_dropped_134 : decode cX1_dropped 134 = .ok (.iload 6, 2) := dk_21 6 (dk_at dksX1_dropped_5 17 rfl rfl)
theorem dX1_dropped_136 : decode cX1_dropped 136 = .ok (.aload_n 0, 1) := dk_42 (dk_at dksX1_dropped_5 19 rfl rfl)
theorem dX1_dropped_137 : decode cX1_dropped 137 = .ok (.getfield 129, 3) := dk_180 0 129 (dk_at dksX1_dropped_5 20 rfl rfl)
theorem dX1_dropped_140 : decode cX1_dropped 140 = .ok (.getfield 161, 3) := dk_180 0 161 (dk_at dksX1_dropped_6 0 rfl rfl)
theorem dX1_dropped_143 : decode cX1_dropped 143 = .ok (.if_icmp .ge 58, 3) := dk_162 0 58 (dk_at dksX1_dropped_6 3 rfl rfl)
theorem dX1_dropped_146 : decode cX1_dropped 146 = .ok (.iload 4, 2) := dk_21 4 (dk_at dksX1_dropped_6 6 rfl rfl)
theorem dX1_dropped_148 : decode cX1_dropped 148 = .ok (.iload 6, 2) := dk_21 6 (dk_at dksX1_dropped_6 8 rfl rfl)
theorem dX1_dropped_150 : decode cX1_dropped 150 = .ok (.invokestatic 237, 3) := dk_184 0 237 (dk_at dksX1_dropped_6 10 rfl rfl)
theorem dX1_dropped_153 : decode cX1_dropped 153 = .ok (.ifCond .ne 42, 3) := dk_154 0 42 (dk_at dksX1_dropped_6 13 rfl rfl)
theorem dX1_dropped_156 : decode cX1_dropped 156 = .ok (.iload 5, 2) := dk_21 5 (dk_at dksX1_dropped_6 16 rfl rfl)
theorem dX1_dropped_158 : decode cX1_dropped 158 = .ok (.iconst (-1), 1) := dk_2 (dk_at dksX1_dropped_6 18 rfl rfl)
theorem dX1_dropped_159 : decode cX1_dropped 159 = .ok (.if_icmp .eq 32, 3) := dk_159 0 32 (dk_at dksX1_dropped_6 19 rfl rfl)
theorem dX1_dropped_162 : decode cX1_dropped 162 = .ok (.aload_n 0, 1) := dk_42 (dk_at dksX1_dropped_6 22 rfl rfl)
theorem dX1_dropped_163 : decode cX1_dropped 163 = .ok (.getfield 129, 3) := dk_180 0 129 (dk_at dksX1_dropped_7 0 rfl rfl)
theorem dX1_dropped_166 : decode cX1_dropped 166 = .ok (.getfield 270, 3) := dk_180 1 14 (dk_at dksX1_dropped_7 3 rfl rfl)
theorem dX1_dropped_169 : decode cX1_dropped 169 = .ok (.iload 6, 2) := dk_21 6 (dk_at dksX1_dropped_7 6 rfl rfl)
theorem dX1_dropped_171 : decode cX1_dropped 171 = .ok (.aaload, 1) := dk_50 (dk_at dksX1_dropped_7 8 rfl rfl)
theorem dX1_dropped_172 : decode cX1_dropped 172 = .ok (.getfield 323, 3) := dk_180 1 67 (dk_at dksX1_dropped_7 9 rfl rfl)
theorem dX1_dropped_175 : decode cX1_dropped 175 = .ok (.aload_n 0, 1) := dk_42 (dk_at dksX1_dropped_7 12 rfl rfl)
theorem dX1_dropped_176 : decode cX1_dropped 176 = .ok (.getfield 129, 3) := dk_180 0 129 (dk_at dksX1_dropped_7 13 rfl rfl)
theorem dX1_dropped_179 : decode cX1_dropped 179 = .ok (.getfield 270, 3) := dk_180 1 14 (dk_at dksX1_dropped_7 16 rfl rfl)
theorem dX1_dropped_182 : decode cX1_dropped 182 = .ok (.iload 5, 2) := dk_21 5 (dk_at dksX1_dropped_7 19 rfl rfl)
theorem dX1_dropped_184 : decode cX1_dropped 184 = .ok (.aaload, 1) := dk_50 (dk_at dksX1_dropped_7 21 rfl rfl)
theorem dX1_dropped_185 : decode cX1_dropped 185 = .ok (.getfield 323, 3) := dk_180 1 67 (dk_at dksX1_dropped_8 0 rfl rfl)
theorem dX1_dropped_188 : decode cX1_dropped 188 = .ok (.if_icmp .gt 7, 3) := dk_163 0 7 (dk_at dksX1_dropped_8 3 rfl rfl)
theorem dX1_dropped_191 : decode cX1_dropped 191 = .ok (.iload 6, 2) := dk_21 6 (dk_at dksX1_dropped_8 6 rfl rfl)
theorem dX1_dropped_193 : decode cX1_dropped 193 = .ok (.istore 5, 2) := dk_54 5 (dk_at dksX1_dropped_8 8 rfl rfl)
theorem dX1_dropped_195 : decode cX1_dropped 195 = .ok (.iinc 6 1, 3) := dk_132 6 1 (dk_at dksX1_dropped_8 10 rfl rfl)
theorem dX1_dropped_198 : decode cX1_dropped 198 = .ok (.goto (-64), 3) := dk_167 255 192 (dk_at dksX1_dropped_8 13 rfl rfl)
theorem dX1_dropped_201 : decode cX1_dropped 201 = .ok (.iload 4, 2) := dk_21 4 (dk_at dksX1_dropped_8 16 rfl rfl)
theorem dX1_dropped_203 : decode cX1_dropped 203 = .ok (.iconst 1, 1) := dk_4 (dk_at dksX1_dropped_8 18 rfl rfl)
theorem dX1_dropped_204 : decode cX1_dropped 204 = .ok (.iload 5, 2) := dk_21 5 (dk_at dksX1_dropped_8 19 rfl rfl)
theorem dX1_dropped_206 : decode cX1_dropped 206 = .ok (.ishl, 1) := dk_120 (dk_at dksX1_dropped_8 21 rfl rfl)
theorem dX1_dropped_207 : decode cX1_dropped 207 = .ok (.ior, 1) := dk_128 (dk_at dksX1_dropped_8 22 rfl rfl)
theorem dX1_dropped_208 : decode cX1_dropped 208 = .ok (.istore 4, 2) := dk_54 4 (dk_at dksX1_dropped_9 0 rfl rfl)
theorem dX1_dropped_210 : decode cX1_dropped 210 = .ok (.iload_n 3, 1) := dk_29 (dk_at dksX1_dropped_9 2 rfl rfl)
theorem dX1_dropped_211 : decode cX1_dropped 211 = .ok (.aload_n 0, 1) := dk_42 (dk_at dksX1_dropped_9 3 rfl rfl)
theorem dX1_dropped_212 : decode cX1_dropped 212 = .ok (.getfield 62, 3) := dk_180 0 62 (dk_at dksX1_dropped_9 4 rfl rfl)
theorem dX1_dropped_215 : decode cX1_dropped 215 = .ok (.iload 5, 2) := dk_21 5 (dk_at dksX1_dropped_9 7 rfl rfl)
theorem dX1_dropped_217 : decode cX1_dropped 217 = .ok (.iaload, 1) := dk_46 (dk_at dksX1_dropped_9 9 rfl rfl)
theorem dX1_dropped_218 : decode cX1_dropped 218 = .ok (.isub, 1) := dk_100 (dk_at dksX1_dropped_9 10 rfl rfl)
theorem dX1_dropped_219 : decode cX1_dropped 219 = .ok (.istore_n 3, 1) := dk_62 (dk_at dksX1_dropped_9 11 rfl rfl)
theorem dX1_dropped_220 : decode cX1_dropped 220 = .ok (.goto (-97), 3) := dk_167 255 159 (dk_at dksX1_dropped_9 12 rfl rfl)
theorem dX1_dropped_223 : decode cX1_dropped 223 = .ok (.iload 4, 2) := dk_21 4 (dk_at dksX1_dropped_9 15 rfl rfl)
theorem dX1_dropped_225 : decode cX1_dropped 225 = .ok (.ireturn, 1) := dk_172 (dk_at dksX1_dropped_9 17 rfl rfl)
abbrev cX1_knock : ByteArray := prog_1_method_50_code
def yX1_knock : MethodName := ⟨RX1, "knock", "()J"⟩
def dkwX1_knock_3 : List UInt8 := [180, 1, 88, 173]
abbrev dktX1_knock_3 : List UInt8 := dkwX1_knock_3 ++ []
def dkwX1_knock_2 : List UInt8 := [180, 1, 70, 181, 0, 151, 42, 180, 0, 68, 3, 42, 180, 0, 71, 3, 42, 180, 0, 151, 184, 1, 1, 42]
abbrev dktX1_knock_2 : List UInt8 := dkwX1_knock_2 ++ dktX1_knock_3
def dkwX1_knock_1 : List UInt8 := [181, 1, 88, 42, 3, 4, 42, 180, 0, 129, 180, 1, 70, 120, 4, 100, 182, 1, 92, 42, 42, 180, 0, 129]
abbrev dktX1_knock_1 : List UInt8 := dkwX1_knock_1 ++ dktX1_knock_2
def dkwX1_knock_0 : List UInt8 := [42, 182, 0, 104, 42, 182, 1, 96, 60, 27, 153, 0, 10, 42, 27, 182, 0, 118, 133, 173, 42, 20, 1, 99]
abbrev dktX1_knock_0 : List UInt8 := dkwX1_knock_0 ++ dktX1_knock_1
theorem dksX1_knock_0 : cX1_knock.data.toList.drop 0 = dktX1_knock_0 := by decide +kernel
theorem dksX1_knock_1 : cX1_knock.data.toList.drop 24 = dktX1_knock_1 := dk_seg dksX1_knock_0 24 rfl rfl
theorem dksX1_knock_2 : cX1_knock.data.toList.drop 48 = dktX1_knock_2 := dk_seg dksX1_knock_1 24 rfl rfl
theorem dksX1_knock_3 : cX1_knock.data.toList.drop 72 = dktX1_knock_3 := dk_seg dksX1_knock_2 24 rfl rfl
theorem dX1_knock_0 : decode cX1_knock 0 = .ok (.aload_n 0, 1) := dk_42 (dk_at dksX1_knock_0 0 rfl rfl)
theorem dX1_knock_1 : decode cX1_knock 1 = .ok (.invokevirtual 104, 3) := dk_182 0 104 (dk_at dksX1_knock_0 1 rfl rfl)
theorem dX1_knock_4 : decode cX1_knock 4 = .ok (.aload_n 0, 1) := dk_42 (dk_at dksX1_knock_0 4 rfl rfl)
theorem dX1_knock_5 : decode cX1_knock 5 = .ok (.invokevirtual 352, 3) := dk_182 1 96 (dk_at dksX1_knock_0 5 rfl rfl)
theorem dX1_knock_8 : decode cX1_knock 8 = .ok (.istore_n 1, 1) := dk_60 (dk_at dksX1_knock_0 8 rfl rfl)
theorem dX1_knock_9 : decode cX1_knock 9 = .ok (.iload_n 1, 1) := dk_27 (dk_at dksX1_knock_0 9 rfl rfl)
theorem dX1_knock_10 : decode cX1_knock 10 = .ok (.ifCond .eq 10, 3) := dk_153 0 10 (dk_at dksX1_knock_0 10 rfl rfl)
theorem dX1_knock_13 : decode cX1_knock 13 = .ok (.aload_n 0, 1) := dk_42 (dk_at dksX1_knock_0 13 rfl rfl)
theorem dX1_knock_14 : decode cX1_knock 14 = .ok (.iload_n 1, 1) := dk_27 (dk_at dksX1_knock_0 14 rfl rfl)
theorem dX1_knock_15 : decode cX1_knock 15 = .ok (.invokevirtual 118, 3) := dk_182 0 118 (dk_at dksX1_knock_0 15 rfl rfl)
theorem dX1_knock_18 : decode cX1_knock 18 = .ok (.i2l, 1) := dk_133 (dk_at dksX1_knock_0 18 rfl rfl)
theorem dX1_knock_19 : decode cX1_knock 19 = .ok (.lreturn, 1) := dk_173 (dk_at dksX1_knock_0 19 rfl rfl)
theorem dX1_knock_20 : decode cX1_knock 20 = .ok (.aload_n 0, 1) := dk_42 (dk_at dksX1_knock_0 20 rfl rfl)
theorem dX1_knock_21 : decode cX1_knock 21 = .ok (.ldc2_w 355, 3) := dk_20 1 99 (dk_at dksX1_knock_0 21 rfl rfl)
theorem dX1_knock_24 : decode cX1_knock 24 = .ok (.putfield 344, 3) := dk_181 1 88 (dk_at dksX1_knock_1 0 rfl rfl)
theorem dX1_knock_27 : decode cX1_knock 27 = .ok (.aload_n 0, 1) := dk_42 (dk_at dksX1_knock_1 3 rfl rfl)
theorem dX1_knock_28 : decode cX1_knock 28 = .ok (.iconst 0, 1) := dk_3 (dk_at dksX1_knock_1 4 rfl rfl)
theorem dX1_knock_29 : decode cX1_knock 29 = .ok (.iconst 1, 1) := dk_4 (dk_at dksX1_knock_1 5 rfl rfl)
theorem dX1_knock_30 : decode cX1_knock 30 = .ok (.aload_n 0, 1) := dk_42 (dk_at dksX1_knock_1 6 rfl rfl)
theorem dX1_knock_31 : decode cX1_knock 31 = .ok (.getfield 129, 3) := dk_180 0 129 (dk_at dksX1_knock_1 7 rfl rfl)
theorem dX1_knock_34 : decode cX1_knock 34 = .ok (.getfield 326, 3) := dk_180 1 70 (dk_at dksX1_knock_1 10 rfl rfl)
theorem dX1_knock_37 : decode cX1_knock 37 = .ok (.ishl, 1) := dk_120 (dk_at dksX1_knock_1 13 rfl rfl)
theorem dX1_knock_38 : decode cX1_knock 38 = .ok (.iconst 1, 1) := dk_4 (dk_at dksX1_knock_1 14 rfl rfl)
theorem dX1_knock_39 : decode cX1_knock 39 = .ok (.isub, 1) := dk_100 (dk_at dksX1_knock_1 15 rfl rfl)
theorem dX1_knock_40 : decode cX1_knock 40 = .ok (.invokevirtual 348, 3) := dk_182 1 92 (dk_at dksX1_knock_1 16 rfl rfl)
theorem dX1_knock_43 : decode cX1_knock 43 = .ok (.aload_n 0, 1) := dk_42 (dk_at dksX1_knock_1 19 rfl rfl)
theorem dX1_knock_44 : decode cX1_knock 44 = .ok (.aload_n 0, 1) := dk_42 (dk_at dksX1_knock_1 20 rfl rfl)
theorem dX1_knock_45 : decode cX1_knock 45 = .ok (.getfield 129, 3) := dk_180 0 129 (dk_at dksX1_knock_1 21 rfl rfl)
theorem dX1_knock_48 : decode cX1_knock 48 = .ok (.getfield 326, 3) := dk_180 1 70 (dk_at dksX1_knock_2 0 rfl rfl)
theorem dX1_knock_51 : decode cX1_knock 51 = .ok (.putfield 151, 3) := dk_181 0 151 (dk_at dksX1_knock_2 3 rfl rfl)
theorem dX1_knock_54 : decode cX1_knock 54 = .ok (.aload_n 0, 1) := dk_42 (dk_at dksX1_knock_2 6 rfl rfl)
theorem dX1_knock_55 : decode cX1_knock 55 = .ok (.getfield 68, 3) := dk_180 0 68 (dk_at dksX1_knock_2 7 rfl rfl)
theorem dX1_knock_58 : decode cX1_knock 58 = .ok (.iconst 0, 1) := dk_3 (dk_at dksX1_knock_2 10 rfl rfl)
theorem dX1_knock_59 : decode cX1_knock 59 = .ok (.aload_n 0, 1) := dk_42 (dk_at dksX1_knock_2 11 rfl rfl)
theorem dX1_knock_60 : decode cX1_knock 60 = .ok (.getfield 71, 3) := dk_180 0 71 (dk_at dksX1_knock_2 12 rfl rfl)
theorem dX1_knock_63 : decode cX1_knock 63 = .ok (.iconst 0, 1) := dk_3 (dk_at dksX1_knock_2 15 rfl rfl)
theorem dX1_knock_64 : decode cX1_knock 64 = .ok (.aload_n 0, 1) := dk_42 (dk_at dksX1_knock_2 16 rfl rfl)
theorem dX1_knock_65 : decode cX1_knock 65 = .ok (.getfield 151, 3) := dk_180 0 151 (dk_at dksX1_knock_2 17 rfl rfl)
theorem dX1_knock_68 : decode cX1_knock 68 = .ok (.invokestatic 257, 3) := dk_184 1 1 (dk_at dksX1_knock_2 20 rfl rfl)
theorem dX1_knock_71 : decode cX1_knock 71 = .ok (.aload_n 0, 1) := dk_42 (dk_at dksX1_knock_2 23 rfl rfl)
theorem dX1_knock_72 : decode cX1_knock 72 = .ok (.getfield 344, 3) := dk_180 1 88 (dk_at dksX1_knock_3 0 rfl rfl)
theorem dX1_knock_75 : decode cX1_knock 75 = .ok (.lreturn, 1) := dk_173 (dk_at dksX1_knock_3 3 rfl rfl)
abbrev cX1_knockWhy : ByteArray := prog_1_method_49_code
def yX1_knockWhy : MethodName := ⟨RX1, "knockWhy", "()I"⟩
def dkwX1_knockWhy_1 : List UInt8 := [167, 0, 4, 3, 172]
abbrev dktX1_knockWhy_1 : List UInt8 := dkwX1_knockWhy_1 ++ []
def dkwX1_knockWhy_0 : List UInt8 := [42, 180, 0, 129, 199, 0, 7, 4, 167, 0, 19, 42, 180, 0, 129, 180, 1, 70, 154, 0, 8, 16, 6]
abbrev dktX1_knockWhy_0 : List UInt8 := dkwX1_knockWhy_0 ++ dktX1_knockWhy_1
theorem dksX1_knockWhy_0 : cX1_knockWhy.data.toList.drop 0 = dktX1_knockWhy_0 := by decide +kernel
theorem dksX1_knockWhy_1 : cX1_knockWhy.data.toList.drop 23 = dktX1_knockWhy_1 := dk_seg dksX1_knockWhy_0 23 rfl rfl
theorem dX1_knockWhy_0 : decode cX1_knockWhy 0 = .ok (.aload_n 0, 1) := dk_42 (dk_at dksX1_knockWhy_0 0 rfl rfl)
theorem dX1_knockWhy_1 : decode cX1_knockWhy 1 = .ok (.getfield 129, 3) := dk_180 0 129 (dk_at dksX1_knockWhy_0 1 rfl rfl)
theorem dX1_knockWhy_4 : decode cX1_knockWhy 4 = .ok (.ifnonnull 7, 3) := dk_199 0 7 (dk_at dksX1_knockWhy_0 4 rfl rfl)
theorem dX1_knockWhy_7 : decode cX1_knockWhy 7 = .ok (.iconst 1, 1) := dk_4 (dk_at dksX1_knockWhy_0 7 rfl rfl)
theorem dX1_knockWhy_8 : decode cX1_knockWhy 8 = .ok (.goto 19, 3) := dk_167 0 19 (dk_at dksX1_knockWhy_0 8 rfl rfl)
theorem dX1_knockWhy_11 : decode cX1_knockWhy 11 = .ok (.aload_n 0, 1) := dk_42 (dk_at dksX1_knockWhy_0 11 rfl rfl)
theorem dX1_knockWhy_12 : decode cX1_knockWhy 12 = .ok (.getfield 129, 3) := dk_180 0 129 (dk_at dksX1_knockWhy_0 12 rfl rfl)
theorem dX1_knockWhy_15 : decode cX1_knockWhy 15 = .ok (.getfield 326, 3) := dk_180 1 70 (dk_at dksX1_knockWhy_0 15 rfl rfl)
theorem dX1_knockWhy_18 : decode cX1_knockWhy 18 = .ok (.ifCond .ne 8, 3) := dk_154 0 8 (dk_at dksX1_knockWhy_0 18 rfl rfl)
theorem dX1_knockWhy_21 : decode cX1_knockWhy 21 = .ok (.bipush 6, 2) := dk_16 6 (dk_at dksX1_knockWhy_0 21 rfl rfl)
theorem dX1_knockWhy_23 : decode cX1_knockWhy 23 = .ok (.goto 4, 3) := dk_167 0 4 (dk_at dksX1_knockWhy_1 0 rfl rfl)
theorem dX1_knockWhy_26 : decode cX1_knockWhy 26 = .ok (.iconst 0, 1) := dk_3 (dk_at dksX1_knockWhy_1 3 rfl rfl)
theorem dX1_knockWhy_27 : decode cX1_knockWhy 27 = .ok (.ireturn, 1) := dk_172 (dk_at dksX1_knockWhy_1 4 rfl rfl)
abbrev cX1_knocks : ByteArray := prog_1_method_48_code
def yX1_knocks : MethodName := ⟨RX1, "knocks", "(II)V"⟩
def dkwX1_knocks_4 : List UInt8 := [182, 1, 92, 132, 3, 1, 167, 255, 210, 177]
abbrev dktX1_knocks_4 : List UInt8 := dkwX1_knocks_4 ++ []
def dkwX1_knocks_3 : List UInt8 := [154, 0, 6, 167, 0, 24, 42, 180, 0, 65, 27, 29, 79, 42, 27, 4, 96, 28, 4, 29, 120, 2, 130, 126]
abbrev dktX1_knocks_3 : List UInt8 := dkwX1_knocks_3 ++ dktX1_knocks_4
def dkwX1_knocks_2 : List UInt8 := [184, 1, 1, 177, 3, 62, 29, 42, 180, 0, 129, 180, 1, 70, 162, 0, 41, 28, 29, 184, 0, 237]
abbrev dktX1_knocks_2 : List UInt8 := dkwX1_knocks_2 ++ dktX1_knocks_3
def dkwX1_knocks_1 : List UInt8 := [180, 1, 88, 148, 155, 0, 4, 177, 42, 33, 181, 1, 88, 42, 180, 0, 65, 3, 42, 180, 0, 68, 3, 27]
abbrev dktX1_knocks_1 : List UInt8 := dkwX1_knocks_1 ++ dktX1_knocks_2
def dkwX1_knocks_0 : List UInt8 := [28, 154, 0, 51, 42, 42, 180, 0, 65, 182, 1, 84, 66, 42, 180, 1, 88, 9, 148, 155, 0, 13, 33, 42]
abbrev dktX1_knocks_0 : List UInt8 := dkwX1_knocks_0 ++ dktX1_knocks_1
theorem dksX1_knocks_0 : cX1_knocks.data.toList.drop 0 = dktX1_knocks_0 := by decide +kernel
theorem dksX1_knocks_1 : cX1_knocks.data.toList.drop 24 = dktX1_knocks_1 := dk_seg dksX1_knocks_0 24 rfl rfl
theorem dksX1_knocks_2 : cX1_knocks.data.toList.drop 48 = dktX1_knocks_2 := dk_seg dksX1_knocks_1 24 rfl rfl
theorem dksX1_knocks_3 : cX1_knocks.data.toList.drop 70 = dktX1_knocks_3 := dk_seg dksX1_knocks_2 22 rfl rfl
theorem dksX1_knocks_4 : cX1_knocks.data.toList.drop 94 = dktX1_knocks_4 := dk_seg dksX1_knocks_3 24 rfl rfl
theorem dX1_knocks_0 : decode cX1_knocks 0 = .ok (.iload_n 2, 1) := dk_28 (dk_at dksX1_knocks_0 0 rfl rfl)
theorem dX1_knocks_1 : decode cX1_knocks 1 = .ok (.ifCond .ne 51, 3) := dk_154 0 51 (dk_at dksX1_knocks_0 1 rfl rfl)
theorem dX1_knocks_4 : decode cX1_knocks 4 = .ok (.aload_n 0, 1) := dk_42 (dk_at dksX1_knocks_0 4 rfl rfl)
theorem dX1_knocks_5 : decode cX1_knocks 5 = .ok (.aload_n 0, 1) := dk_42 (dk_at dksX1_knocks_0 5 rfl rfl)
theorem dX1_knocks_6 : decode cX1_knocks 6 = .ok (.getfield 65, 3) := dk_180 0 65 (dk_at dksX1_knocks_0 6 rfl rfl)
theorem dX1_knocks_9 : decode cX1_knocks 9 = .ok (.invokevirtual 340, 3) := dk_182 1 84 (dk_at dksX1_knocks_0 9 rfl rfl)
theorem dX1_knocks_12 : decode cX1_knocks 12 = .ok (.lstore_n 3, 1) := dk_66 (dk_at dksX1_knocks_0 12 rfl rfl)
theorem dX1_knocks_13 : decode cX1_knocks 13 = .ok (.aload_n 0, 1) := dk_42 (dk_at dksX1_knocks_0 13 rfl rfl)
theorem dX1_knocks_14 : decode cX1_knocks 14 = .ok (.getfield 344, 3) := dk_180 1 88 (dk_at dksX1_knocks_0 14 rfl rfl)
theorem dX1_knocks_17 : decode cX1_knocks 17 = .ok (.lconst 0, 1) := dk_9 (dk_at dksX1_knocks_0 17 rfl rfl)
theorem dX1_knocks_18 : decode cX1_knocks 18 = .ok (.lcmp, 1) := dk_148 (dk_at dksX1_knocks_0 18 rfl rfl)
theorem dX1_knocks_19 : decode cX1_knocks 19 = .ok (.ifCond .lt 13, 3) := dk_155 0 13 (dk_at dksX1_knocks_0 19 rfl rfl)
theorem dX1_knocks_22 : decode cX1_knocks 22 = .ok (.lload_n 3, 1) := dk_33 (dk_at dksX1_knocks_0 22 rfl rfl)
theorem dX1_knocks_23 : decode cX1_knocks 23 = .ok (.aload_n 0, 1) := dk_42 (dk_at dksX1_knocks_0 23 rfl rfl)
theorem dX1_knocks_24 : decode cX1_knocks 24 = .ok (.getfield 344, 3) := dk_180 1 88 (dk_at dksX1_knocks_1 0 rfl rfl)
theorem dX1_knocks_27 : decode cX1_knocks 27 = .ok (.lcmp, 1) := dk_148 (dk_at dksX1_knocks_1 3 rfl rfl)
theorem dX1_knocks_28 : decode cX1_knocks 28 = .ok (.ifCond .lt 4, 3) := dk_155 0 4 (dk_at dksX1_knocks_1 4 rfl rfl)
theorem dX1_knocks_31 : decode cX1_knocks 31 = .ok (.return_, 1) := dk_177 (dk_at dksX1_knocks_1 7 rfl rfl)
theorem dX1_knocks_32 : decode cX1_knocks 32 = .ok (.aload_n 0, 1) := dk_42 (dk_at dksX1_knocks_1 8 rfl rfl)
theorem dX1_knocks_33 : decode cX1_knocks 33 = .ok (.lload_n 3, 1) := dk_33 (dk_at dksX1_knocks_1 9 rfl rfl)
theorem dX1_knocks_34 : decode cX1_knocks 34 = .ok (.putfield 344, 3) := dk_181 1 88 (dk_at dksX1_knocks_1 10 rfl rfl)
theorem dX1_knocks_37 : decode cX1_knocks 37 = .ok (.aload_n 0, 1) := dk_42 (dk_at dksX1_knocks_1 13 rfl rfl)
theorem dX1_knocks_38 : decode cX1_knocks 38 = .ok (.getfield 65, 3) := dk_180 0 65 (dk_at dksX1_knocks_1 14 rfl rfl)
theorem dX1_knocks_41 : decode cX1_knocks 41 = .ok (.iconst 0, 1) := dk_3 (dk_at dksX1_knocks_1 17 rfl rfl)
theorem dX1_knocks_42 : decode cX1_knocks 42 = .ok (.aload_n 0, 1) := dk_42 (dk_at dksX1_knocks_1 18 rfl rfl)
theorem dX1_knocks_43 : decode cX1_knocks 43 = .ok (.getfield 68, 3) := dk_180 0 68 (dk_at dksX1_knocks_1 19 rfl rfl)
theorem dX1_knocks_46 : decode cX1_knocks 46 = .ok (.iconst 0, 1) := dk_3 (dk_at dksX1_knocks_1 22 rfl rfl)
theorem dX1_knocks_47 : decode cX1_knocks 47 = .ok (.iload_n 1, 1) := dk_27 (dk_at dksX1_knocks_1 23 rfl rfl)
theorem dX1_knocks_48 : decode cX1_knocks 48 = .ok (.invokestatic 257, 3) := dk_184 1 1 (dk_at dksX1_knocks_2 0 rfl rfl)
theorem dX1_knocks_51 : decode cX1_knocks 51 = .ok (.return_, 1) := dk_177 (dk_at dksX1_knocks_2 3 rfl rfl)
theorem dX1_knocks_52 : decode cX1_knocks 52 = .ok (.iconst 0, 1) := dk_3 (dk_at dksX1_knocks_2 4 rfl rfl)
theorem dX1_knocks_53 : decode cX1_knocks 53 = .ok (.istore_n 3, 1) := dk_62 (dk_at dksX1_knocks_2 5 rfl rfl)
theorem dX1_knocks_54 : decode cX1_knocks 54 = .ok (.iload_n 3, 1) := dk_29 (dk_at dksX1_knocks_2 6 rfl rfl)
theorem dX1_knocks_55 : decode cX1_knocks 55 = .ok (.aload_n 0, 1) := dk_42 (dk_at dksX1_knocks_2 7 rfl rfl)
theorem dX1_knocks_56 : decode cX1_knocks 56 = .ok (.getfield 129, 3) := dk_180 0 129 (dk_at dksX1_knocks_2 8 rfl rfl)
theorem dX1_knocks_59 : decode cX1_knocks 59 = .ok (.getfield 326, 3) := dk_180 1 70 (dk_at dksX1_knocks_2 11 rfl rfl)
theorem dX1_knocks_62 : decode cX1_knocks 62 = .ok (.if_icmp .ge 41, 3) := dk_162 0 41 (dk_at dksX1_knocks_2 14 rfl rfl)
theorem dX1_knocks_65 : decode cX1_knocks 65 = .ok (.iload_n 2, 1) := dk_28 (dk_at dksX1_knocks_2 17 rfl rfl)
theorem dX1_knocks_66 : decode cX1_knocks 66 = .ok (.iload_n 3, 1) := dk_29 (dk_at dksX1_knocks_2 18 rfl rfl)
theorem dX1_knocks_67 : decode cX1_knocks 67 = .ok (.invokestatic 237, 3) := dk_184 0 237 (dk_at dksX1_knocks_2 19 rfl rfl)
theorem dX1_knocks_70 : decode cX1_knocks 70 = .ok (.ifCond .ne 6, 3) := dk_154 0 6 (dk_at dksX1_knocks_3 0 rfl rfl)
theorem dX1_knocks_73 : decode cX1_knocks 73 = .ok (.goto 24, 3) := dk_167 0 24 (dk_at dksX1_knocks_3 3 rfl rfl)
theorem dX1_knocks_76 : decode cX1_knocks 76 = .ok (.aload_n 0, 1) := dk_42 (dk_at dksX1_knocks_3 6 rfl rfl)
theorem dX1_knocks_77 : decode cX1_knocks 77 = .ok (.getfield 65, 3) := dk_180 0 65 (dk_at dksX1_knocks_3 7 rfl rfl)
theorem dX1_knocks_80 : decode cX1_knocks 80 = .ok (.iload_n 1, 1) := dk_27 (dk_at dksX1_knocks_3 10 rfl rfl)
theorem dX1_knocks_81 : decode cX1_knocks 81 = .ok (.iload_n 3, 1) := dk_29 (dk_at dksX1_knocks_3 11 rfl rfl)
theorem dX1_knocks_82 : decode cX1_knocks 82 = .ok (.iastore, 1) := dk_79 (dk_at dksX1_knocks_3 12 rfl rfl)
theorem dX1_knocks_83 : decode cX1_knocks 83 = .ok (.aload_n 0, 1) := dk_42 (dk_at dksX1_knocks_3 13 rfl rfl)
theorem dX1_knocks_84 : decode cX1_knocks 84 = .ok (.iload_n 1, 1) := dk_27 (dk_at dksX1_knocks_3 14 rfl rfl)
theorem dX1_knocks_85 : decode cX1_knocks 85 = .ok (.iconst 1, 1) := dk_4 (dk_at dksX1_knocks_3 15 rfl rfl)
theorem dX1_knocks_86 : decode cX1_knocks 86 = .ok (.iadd, 1) := dk_96 (dk_at dksX1_knocks_3 16 rfl rfl)
theorem dX1_knocks_87 : decode cX1_knocks 87 = .ok (.iload_n 2, 1) := dk_28 (dk_at dksX1_knocks_3 17 rfl rfl)
theorem dX1_knocks_88 : decode cX1_knocks 88 = .ok (.iconst 1, 1) := dk_4 (dk_at dksX1_knocks_3 18 rfl rfl)
theorem dX1_knocks_89 : decode cX1_knocks 89 = .ok (.iload_n 3, 1) := dk_29 (dk_at dksX1_knocks_3 19 rfl rfl)
theorem dX1_knocks_90 : decode cX1_knocks 90 = .ok (.ishl, 1) := dk_120 (dk_at dksX1_knocks_3 20 rfl rfl)
theorem dX1_knocks_91 : decode cX1_knocks 91 = .ok (.iconst (-1), 1) := dk_2 (dk_at dksX1_knocks_3 21 rfl rfl)
theorem dX1_knocks_92 : decode cX1_knocks 92 = .ok (.ixor, 1) := dk_130 (dk_at dksX1_knocks_3 22 rfl rfl)
theorem dX1_knocks_93 : decode cX1_knocks 93 = .ok (.iand, 1) := dk_126 (dk_at dksX1_knocks_3 23 rfl rfl)
theorem dX1_knocks_94 : decode cX1_knocks 94 = .ok (.invokevirtual 348, 3) := dk_182 1 92 (dk_at dksX1_knocks_4 0 rfl rfl)
theorem dX1_knocks_97 : decode cX1_knocks 97 = .ok (.iinc 3 1, 3) := dk_132 3 1 (dk_at dksX1_knocks_4 3 rfl rfl)
theorem dX1_knocks_100 : decode cX1_knocks 100 = .ok (.goto (-46), 3) := dk_167 255 210 (dk_at dksX1_knocks_4 6 rfl rfl)
theorem dX1_knocks_103 : decode cX1_knocks 103 = .ok (.return_, 1) := dk_177 (dk_at dksX1_knocks_4 9 rfl rfl)
abbrev cX1_expected : ByteArray := prog_1_method_47_code
def yX1_expected : MethodName := ⟨RX1, "expected", "([I)J"⟩
def dkwX1_expected_4 : List UInt8 := [55, 4, 22, 6, 20, 1, 73, 109, 55, 6, 132, 8, 1, 167, 255, 190, 32, 173]
abbrev dktX1_expected_4 : List UInt8 := dkwX1_expected_4 ++ []
def dkwX1_expected_3 : List UInt8 := [180, 1, 78, 133, 22, 4, 105, 22, 6, 105, 97, 65, 22, 4, 16, 100, 25, 9, 180, 1, 83, 100, 133, 105]
abbrev dktX1_expected_3 : List UInt8 := dkwX1_expected_3 ++ dktX1_expected_4
def dkwX1_expected_2 : List UInt8 := [180, 1, 70, 162, 0, 60, 42, 180, 0, 129, 180, 1, 75, 43, 21, 8, 46, 50, 58, 9, 32, 25, 9]
abbrev dktX1_expected_2 : List UInt8 := dkwX1_expected_2 ++ dktX1_expected_3
def dkwX1_expected_1 : List UInt8 := [22, 6, 20, 1, 73, 105, 55, 6, 132, 8, 1, 167, 255, 233, 3, 54, 8, 21, 8, 42, 180, 0, 129]
abbrev dktX1_expected_1 : List UInt8 := dkwX1_expected_1 ++ dktX1_expected_2
def dkwX1_expected_0 : List UInt8 := [9, 65, 10, 55, 4, 10, 55, 6, 3, 54, 8, 21, 8, 42, 180, 0, 129, 180, 1, 70, 162, 0, 17]
abbrev dktX1_expected_0 : List UInt8 := dkwX1_expected_0 ++ dktX1_expected_1
theorem dksX1_expected_0 : cX1_expected.data.toList.drop 0 = dktX1_expected_0 := by decide +kernel
theorem dksX1_expected_1 : cX1_expected.data.toList.drop 23 = dktX1_expected_1 := dk_seg dksX1_expected_0 23 rfl rfl
theorem dksX1_expected_2 : cX1_expected.data.toList.drop 46 = dktX1_expected_2 := dk_seg dksX1_expected_1 23 rfl rfl
theorem dksX1_expected_3 : cX1_expected.data.toList.drop 69 = dktX1_expected_3 := dk_seg dksX1_expected_2 23 rfl rfl
theorem dksX1_expected_4 : cX1_expected.data.toList.drop 93 = dktX1_expected_4 := dk_seg dksX1_expected_3 24 rfl rfl
theorem dX1_expected_0 : decode cX1_expected 0 = .ok (.lconst 0, 1) := dk_9 (dk_at dksX1_expected_0 0 rfl rfl)
theorem dX1_expected_1 : decode cX1_expected 1 = .ok (.lstore_n 2, 1) := dk_65 (dk_at dksX1_expected_0 1 rfl rfl)
theorem dX1_expected_2 : decode cX1_expected 2 = .ok (.lconst 1, 1) := dk_10 (dk_at dksX1_expected_0 2 rfl rfl)
theorem dX1_expected_3 : decode cX1_expected 3 = .ok (.lstore 4, 2) := dk_55 4 (dk_at dksX1_expected_0 3 rfl rfl)
theorem dX1_expected_5 : decode cX1_expected 5 = .ok (.lconst 1, 1) := dk_10 (dk_at dksX1_expected_0 5 rfl rfl)
theorem dX1_expected_6 : decode cX1_expected 6 = .ok (.lstore 6, 2) := dk_55 6 (dk_at dksX1_expected_0 6 rfl rfl)
theorem dX1_expected_8 : decode cX1_expected 8 = .ok (.iconst 0, 1) := dk_3 (dk_at dksX1_expected_0 8 rfl rfl)
theorem dX1_expected_9 : decode cX1_expected 9 = .ok (.istore 8, 2) := dk_54 8 (dk_at dksX1_expected_0 9 rfl rfl)
theorem dX1_expected_11 : decode cX1_expected 11 = .ok (.iload 8, 2) := dk_21 8 (dk_at dksX1_expected_0 11 rfl rfl)
theorem dX1_expected_13 : decode cX1_expected 13 = .ok (.aload_n 0, 1) := dk_42 (dk_at dksX1_expected_0 13 rfl rfl)
theorem dX1_expected_14 : decode cX1_expected 14 = .ok (.getfield 129, 3) := dk_180 0 129 (dk_at dksX1_expected_0 14 rfl rfl)
theorem dX1_expected_17 : decode cX1_expected 17 = .ok (.getfield 326, 3) := dk_180 1 70 (dk_at dksX1_expected_0 17 rfl rfl)
theorem dX1_expected_20 : decode cX1_expected 20 = .ok (.if_icmp .ge 17, 3) := dk_162 0 17 (dk_at dksX1_expected_0 20 rfl rfl)
theorem dX1_expected_23 : decode cX1_expected 23 = .ok (.lload 6, 2) := dk_22 6 (dk_at dksX1_expected_1 0 rfl rfl)
theorem dX1_expected_25 : decode cX1_expected 25 = .ok (.ldc2_w 329, 3) := dk_20 1 73 (dk_at dksX1_expected_1 2 rfl rfl)
theorem dX1_expected_28 : decode cX1_expected 28 = .ok (.lmul, 1) := dk_105 (dk_at dksX1_expected_1 5 rfl rfl)
theorem dX1_expected_29 : decode cX1_expected 29 = .ok (.lstore 6, 2) := dk_55 6 (dk_at dksX1_expected_1 6 rfl rfl)
theorem dX1_expected_31 : decode cX1_expected 31 = .ok (.iinc 8 1, 3) := dk_132 8 1 (dk_at dksX1_expected_1 8 rfl rfl)
theorem dX1_expected_34 : decode cX1_expected 34 = .ok (.goto (-23), 3) := dk_167 255 233 (dk_at dksX1_expected_1 11 rfl rfl)
theorem dX1_expected_37 : decode cX1_expected 37 = .ok (.iconst 0, 1) := dk_3 (dk_at dksX1_expected_1 14 rfl rfl)
theorem dX1_expected_38 : decode cX1_expected 38 = .ok (.istore 8, 2) := dk_54 8 (dk_at dksX1_expected_1 15 rfl rfl)
theorem dX1_expected_40 : decode cX1_expected 40 = .ok (.iload 8, 2) := dk_21 8 (dk_at dksX1_expected_1 17 rfl rfl)
theorem dX1_expected_42 : decode cX1_expected 42 = .ok (.aload_n 0, 1) := dk_42 (dk_at dksX1_expected_1 19 rfl rfl)
theorem dX1_expected_43 : decode cX1_expected 43 = .ok (.getfield 129, 3) := dk_180 0 129 (dk_at dksX1_expected_1 20 rfl rfl)
theorem dX1_expected_46 : decode cX1_expected 46 = .ok (.getfield 326, 3) := dk_180 1 70 (dk_at dksX1_expected_2 0 rfl rfl)
theorem dX1_expected_49 : decode cX1_expected 49 = .ok (.if_icmp .ge 60, 3) := dk_162 0 60 (dk_at dksX1_expected_2 3 rfl rfl)
theorem dX1_expected_52 : decode cX1_expected 52 = .ok (.aload_n 0, 1) := dk_42 (dk_at dksX1_expected_2 6 rfl rfl)
theorem dX1_expected_53 : decode cX1_expected 53 = .ok (.getfield 129, 3) := dk_180 0 129 (dk_at dksX1_expected_2 7 rfl rfl)
theorem dX1_expected_56 : decode cX1_expected 56 = .ok (.getfield 331, 3) := dk_180 1 75 (dk_at dksX1_expected_2 10 rfl rfl)
theorem dX1_expected_59 : decode cX1_expected 59 = .ok (.aload_n 1, 1) := dk_43 (dk_at dksX1_expected_2 13 rfl rfl)
theorem dX1_expected_60 : decode cX1_expected 60 = .ok (.iload 8, 2) := dk_21 8 (dk_at dksX1_expected_2 14 rfl rfl)
theorem dX1_expected_62 : decode cX1_expected 62 = .ok (.iaload, 1) := dk_46 (dk_at dksX1_expected_2 16 rfl rfl)
theorem dX1_expected_63 : decode cX1_expected 63 = .ok (.aaload, 1) := dk_50 (dk_at dksX1_expected_2 17 rfl rfl)
theorem dX1_expected_64 : decode cX1_expected 64 = .ok (.astore 9, 2) := dk_58 9 (dk_at dksX1_expected_2 18 rfl rfl)
theorem dX1_expected_66 : decode cX1_expected 66 = .ok (.lload_n 2, 1) := dk_32 (dk_at dksX1_expected_2 20 rfl rfl)
theorem dX1_expected_67 : decode cX1_expected 67 = .ok (.aload 9, 2) := dk_25 9 (dk_at dksX1_expected_2 21 rfl rfl)
theorem dX1_expected_69 : decode cX1_expected 69 = .ok (.getfield 334, 3) := dk_180 1 78 (dk_at dksX1_expected_3 0 rfl rfl)
theorem dX1_expected_72 : decode cX1_expected 72 = .ok (.i2l, 1) := dk_133 (dk_at dksX1_expected_3 3 rfl rfl)
theorem dX1_expected_73 : decode cX1_expected 73 = .ok (.lload 4, 2) := dk_22 4 (dk_at dksX1_expected_3 4 rfl rfl)
theorem dX1_expected_75 : decode cX1_expected 75 = .ok (.lmul, 1) := dk_105 (dk_at dksX1_expected_3 6 rfl rfl)
theorem dX1_expected_76 : decode cX1_expected 76 = .ok (.lload 6, 2) := dk_22 6 (dk_at dksX1_expected_3 7 rfl rfl)
theorem dX1_expected_78 : decode cX1_expected 78 = .ok (.lmul, 1) := dk_105 (dk_at dksX1_expected_3 9 rfl rfl)
theorem dX1_expected_79 : decode cX1_expected 79 = .ok (.ladd, 1) := dk_97 (dk_at dksX1_expected_3 10 rfl rfl)
theorem dX1_expected_80 : decode cX1_expected 80 = .ok (.lstore_n 2, 1) := dk_65 (dk_at dksX1_expected_3 11 rfl rfl)
theorem dX1_expected_81 : decode cX1_expected 81 = .ok (.lload 4, 2) := dk_22 4 (dk_at dksX1_expected_3 12 rfl rfl)
theorem dX1_expected_83 : decode cX1_expected 83 = .ok (.bipush 100, 2) := dk_16 100 (dk_at dksX1_expected_3 14 rfl rfl)
theorem dX1_expected_85 : decode cX1_expected 85 = .ok (.aload 9, 2) := dk_25 9 (dk_at dksX1_expected_3 16 rfl rfl)
theorem dX1_expected_87 : decode cX1_expected 87 = .ok (.getfield 339, 3) := dk_180 1 83 (dk_at dksX1_expected_3 18 rfl rfl)
theorem dX1_expected_90 : decode cX1_expected 90 = .ok (.isub, 1) := dk_100 (dk_at dksX1_expected_3 21 rfl rfl)
theorem dX1_expected_91 : decode cX1_expected 91 = .ok (.i2l, 1) := dk_133 (dk_at dksX1_expected_3 22 rfl rfl)
theorem dX1_expected_92 : decode cX1_expected 92 = .ok (.lmul, 1) := dk_105 (dk_at dksX1_expected_3 23 rfl rfl)
theorem dX1_expected_93 : decode cX1_expected 93 = .ok (.lstore 4, 2) := dk_55 4 (dk_at dksX1_expected_4 0 rfl rfl)
theorem dX1_expected_95 : decode cX1_expected 95 = .ok (.lload 6, 2) := dk_22 6 (dk_at dksX1_expected_4 2 rfl rfl)
theorem dX1_expected_97 : decode cX1_expected 97 = .ok (.ldc2_w 329, 3) := dk_20 1 73 (dk_at dksX1_expected_4 4 rfl rfl)
theorem dX1_expected_100 : decode cX1_expected 100 = .ok (.ldiv, 1) := dk_109 (dk_at dksX1_expected_4 7 rfl rfl)
theorem dX1_expected_101 : decode cX1_expected 101 = .ok (.lstore 6, 2) := dk_55 6 (dk_at dksX1_expected_4 8 rfl rfl)
theorem dX1_expected_103 : decode cX1_expected 103 = .ok (.iinc 8 1, 3) := dk_132 8 1 (dk_at dksX1_expected_4 10 rfl rfl)
theorem dX1_expected_106 : decode cX1_expected 106 = .ok (.goto (-66), 3) := dk_167 255 190 (dk_at dksX1_expected_4 13 rfl rfl)
theorem dX1_expected_109 : decode cX1_expected 109 = .ok (.lload_n 2, 1) := dk_32 (dk_at dksX1_expected_4 16 rfl rfl)
theorem dX1_expected_110 : decode cX1_expected 110 = .ok (.lreturn, 1) := dk_173 (dk_at dksX1_expected_4 17 rfl rfl)
abbrev cX1_callAt : ByteArray := prog_1_method_51_code
def yX1_callAt : MethodName := ⟨RX1, "callAt", "(I)I"⟩
def dkwX1_callAt_1 : List UInt8 := [172]
abbrev dktX1_callAt_1 : List UInt8 := dkwX1_callAt_1 ++ []
def dkwX1_callAt_0 : List UInt8 := [27, 3, 42, 180, 0, 151, 4, 100, 184, 0, 114, 153, 0, 12, 42, 180, 0, 71, 27, 46, 167, 0, 4, 2]
abbrev dktX1_callAt_0 : List UInt8 := dkwX1_callAt_0 ++ dktX1_callAt_1
theorem dksX1_callAt_0 : cX1_callAt.data.toList.drop 0 = dktX1_callAt_0 := by decide +kernel
theorem dksX1_callAt_1 : cX1_callAt.data.toList.drop 24 = dktX1_callAt_1 := dk_seg dksX1_callAt_0 24 rfl rfl
theorem dX1_callAt_0 : decode cX1_callAt 0 = .ok (.iload_n 1, 1) := dk_27 (dk_at dksX1_callAt_0 0 rfl rfl)
theorem dX1_callAt_1 : decode cX1_callAt 1 = .ok (.iconst 0, 1) := dk_3 (dk_at dksX1_callAt_0 1 rfl rfl)
theorem dX1_callAt_2 : decode cX1_callAt 2 = .ok (.aload_n 0, 1) := dk_42 (dk_at dksX1_callAt_0 2 rfl rfl)
theorem dX1_callAt_3 : decode cX1_callAt 3 = .ok (.getfield 151, 3) := dk_180 0 151 (dk_at dksX1_callAt_0 3 rfl rfl)
theorem dX1_callAt_6 : decode cX1_callAt 6 = .ok (.iconst 1, 1) := dk_4 (dk_at dksX1_callAt_0 6 rfl rfl)
theorem dX1_callAt_7 : decode cX1_callAt 7 = .ok (.isub, 1) := dk_100 (dk_at dksX1_callAt_0 7 rfl rfl)
theorem dX1_callAt_8 : decode cX1_callAt 8 = .ok (.invokestatic 114, 3) := dk_184 0 114 (dk_at dksX1_callAt_0 8 rfl rfl)
theorem dX1_callAt_11 : decode cX1_callAt 11 = .ok (.ifCond .eq 12, 3) := dk_153 0 12 (dk_at dksX1_callAt_0 11 rfl rfl)
theorem dX1_callAt_14 : decode cX1_callAt 14 = .ok (.aload_n 0, 1) := dk_42 (dk_at dksX1_callAt_0 14 rfl rfl)
theorem dX1_callAt_15 : decode cX1_callAt 15 = .ok (.getfield 71, 3) := dk_180 0 71 (dk_at dksX1_callAt_0 15 rfl rfl)
theorem dX1_callAt_18 : decode cX1_callAt 18 = .ok (.iload_n 1, 1) := dk_27 (dk_at dksX1_callAt_0 18 rfl rfl)
theorem dX1_callAt_19 : decode cX1_callAt 19 = .ok (.iaload, 1) := dk_46 (dk_at dksX1_callAt_0 19 rfl rfl)
theorem dX1_callAt_20 : decode cX1_callAt 20 = .ok (.goto 4, 3) := dk_167 0 4 (dk_at dksX1_callAt_0 20 rfl rfl)
theorem dX1_callAt_23 : decode cX1_callAt 23 = .ok (.iconst (-1), 1) := dk_2 (dk_at dksX1_callAt_0 23 rfl rfl)
theorem dX1_callAt_24 : decode cX1_callAt 24 = .ok (.ireturn, 1) := dk_172 (dk_at dksX1_callAt_1 0 rfl rfl)
abbrev cX1_asTold : ByteArray := prog_1_method_52_code
def yX1_asTold : MethodName := ⟨RX1, "asTold", "()J"⟩
def dkwX1_asTold_2 : List UInt8 := [180, 0, 65, 182, 1, 84, 173]
abbrev dktX1_asTold_2 : List UInt8 := dkwX1_asTold_2 ++ []
def dkwX1_asTold_1 : List UInt8 := [180, 0, 129, 180, 1, 70, 162, 0, 16, 42, 180, 0, 65, 28, 28, 79, 132, 2, 1, 167, 255, 235, 42, 42]
abbrev dktX1_asTold_1 : List UInt8 := dkwX1_asTold_1 ++ dktX1_asTold_2
def dkwX1_asTold_0 : List UInt8 := [42, 182, 0, 104, 42, 182, 1, 96, 60, 27, 153, 0, 10, 42, 27, 182, 0, 118, 133, 173, 3, 61, 28, 42]
abbrev dktX1_asTold_0 : List UInt8 := dkwX1_asTold_0 ++ dktX1_asTold_1
theorem dksX1_asTold_0 : cX1_asTold.data.toList.drop 0 = dktX1_asTold_0 := by decide +kernel
theorem dksX1_asTold_1 : cX1_asTold.data.toList.drop 24 = dktX1_asTold_1 := dk_seg dksX1_asTold_0 24 rfl rfl
theorem dksX1_asTold_2 : cX1_asTold.data.toList.drop 48 = dktX1_asTold_2 := dk_seg dksX1_asTold_1 24 rfl rfl
theorem dX1_asTold_0 : decode cX1_asTold 0 = .ok (.aload_n 0, 1) := dk_42 (dk_at dksX1_asTold_0 0 rfl rfl)
theorem dX1_asTold_1 : decode cX1_asTold 1 = .ok (.invokevirtual 104, 3) := dk_182 0 104 (dk_at dksX1_asTold_0 1 rfl rfl)
theorem dX1_asTold_4 : decode cX1_asTold 4 = .ok (.aload_n 0, 1) := dk_42 (dk_at dksX1_asTold_0 4 rfl rfl)
theorem dX1_asTold_5 : decode cX1_asTold 5 = .ok (.invokevirtual 352, 3) := dk_182 1 96 (dk_at dksX1_asTold_0 5 rfl rfl)
theorem dX1_asTold_8 : decode cX1_asTold 8 = .ok (.istore_n 1, 1) := dk_60 (dk_at dksX1_asTold_0 8 rfl rfl)
theorem dX1_asTold_9 : decode cX1_asTold 9 = .ok (.iload_n 1, 1) := dk_27 (dk_at dksX1_asTold_0 9 rfl rfl)
theorem dX1_asTold_10 : decode cX1_asTold 10 = .ok (.ifCond .eq 10, 3) := dk_153 0 10 (dk_at dksX1_asTold_0 10 rfl rfl)
theorem dX1_asTold_13 : decode cX1_asTold 13 = .ok (.aload_n 0, 1) := dk_42 (dk_at dksX1_asTold_0 13 rfl rfl)
theorem dX1_asTold_14 : decode cX1_asTold 14 = .ok (.iload_n 1, 1) := dk_27 (dk_at dksX1_asTold_0 14 rfl rfl)
theorem dX1_asTold_15 : decode cX1_asTold 15 = .ok (.invokevirtual 118, 3) := dk_182 0 118 (dk_at dksX1_asTold_0 15 rfl rfl)
theorem dX1_asTold_18 : decode cX1_asTold 18 = .ok (.i2l, 1) := dk_133 (dk_at dksX1_asTold_0 18 rfl rfl)
theorem dX1_asTold_19 : decode cX1_asTold 19 = .ok (.lreturn, 1) := dk_173 (dk_at dksX1_asTold_0 19 rfl rfl)
theorem dX1_asTold_20 : decode cX1_asTold 20 = .ok (.iconst 0, 1) := dk_3 (dk_at dksX1_asTold_0 20 rfl rfl)
theorem dX1_asTold_21 : decode cX1_asTold 21 = .ok (.istore_n 2, 1) := dk_61 (dk_at dksX1_asTold_0 21 rfl rfl)
theorem dX1_asTold_22 : decode cX1_asTold 22 = .ok (.iload_n 2, 1) := dk_28 (dk_at dksX1_asTold_0 22 rfl rfl)
theorem dX1_asTold_23 : decode cX1_asTold 23 = .ok (.aload_n 0, 1) := dk_42 (dk_at dksX1_asTold_0 23 rfl rfl)
theorem dX1_asTold_24 : decode cX1_asTold 24 = .ok (.getfield 129, 3) := dk_180 0 129 (dk_at dksX1_asTold_1 0 rfl rfl)
theorem dX1_asTold_27 : decode cX1_asTold 27 = .ok (.getfield 326, 3) := dk_180 1 70 (dk_at dksX1_asTold_1 3 rfl rfl)
theorem dX1_asTold_30 : decode cX1_asTold 30 = .ok (.if_icmp .ge 16, 3) := dk_162 0 16 (dk_at dksX1_asTold_1 6 rfl rfl)
theorem dX1_asTold_33 : decode cX1_asTold 33 = .ok (.aload_n 0, 1) := dk_42 (dk_at dksX1_asTold_1 9 rfl rfl)
theorem dX1_asTold_34 : decode cX1_asTold 34 = .ok (.getfield 65, 3) := dk_180 0 65 (dk_at dksX1_asTold_1 10 rfl rfl)
theorem dX1_asTold_37 : decode cX1_asTold 37 = .ok (.iload_n 2, 1) := dk_28 (dk_at dksX1_asTold_1 13 rfl rfl)
theorem dX1_asTold_38 : decode cX1_asTold 38 = .ok (.iload_n 2, 1) := dk_28 (dk_at dksX1_asTold_1 14 rfl rfl)
theorem dX1_asTold_39 : decode cX1_asTold 39 = .ok (.iastore, 1) := dk_79 (dk_at dksX1_asTold_1 15 rfl rfl)
theorem dX1_asTold_40 : decode cX1_asTold 40 = .ok (.iinc 2 1, 3) := dk_132 2 1 (dk_at dksX1_asTold_1 16 rfl rfl)
theorem dX1_asTold_43 : decode cX1_asTold 43 = .ok (.goto (-21), 3) := dk_167 255 235 (dk_at dksX1_asTold_1 19 rfl rfl)
theorem dX1_asTold_46 : decode cX1_asTold 46 = .ok (.aload_n 0, 1) := dk_42 (dk_at dksX1_asTold_1 22 rfl rfl)
theorem dX1_asTold_47 : decode cX1_asTold 47 = .ok (.aload_n 0, 1) := dk_42 (dk_at dksX1_asTold_1 23 rfl rfl)
theorem dX1_asTold_48 : decode cX1_asTold 48 = .ok (.getfield 65, 3) := dk_180 0 65 (dk_at dksX1_asTold_2 0 rfl rfl)
theorem dX1_asTold_51 : decode cX1_asTold 51 = .ok (.invokevirtual 340, 3) := dk_182 1 84 (dk_at dksX1_asTold_2 3 rfl rfl)
theorem dX1_asTold_54 : decode cX1_asTold 54 = .ok (.lreturn, 1) := dk_173 (dk_at dksX1_asTold_2 6 rfl rfl)
abbrev cX1_fill : ByteArray := prog_1_method_54_code
def yX1_fill : MethodName := ⟨RX1, "fill", "()I"⟩
def dkwX1_fill_2 : List UInt8 := [16, 7, 184, 1, 1, 42, 180, 1, 109, 172]
abbrev dktX1_fill_2 : List UInt8 := dkwX1_fill_2 ++ []
def dkwX1_fill_1 : List UInt8 := [181, 1, 112, 42, 3, 3, 182, 1, 127, 42, 4, 181, 0, 158, 42, 180, 0, 77, 3, 42, 180, 0, 80, 3]
abbrev dktX1_fill_1 : List UInt8 := dkwX1_fill_1 ++ dktX1_fill_2
def dkwX1_fill_0 : List UInt8 := [42, 182, 0, 104, 42, 180, 0, 129, 199, 0, 9, 42, 4, 182, 0, 118, 172, 42, 2, 181, 1, 109, 42, 3]
abbrev dktX1_fill_0 : List UInt8 := dkwX1_fill_0 ++ dktX1_fill_1
theorem dksX1_fill_0 : cX1_fill.data.toList.drop 0 = dktX1_fill_0 := by decide +kernel
theorem dksX1_fill_1 : cX1_fill.data.toList.drop 24 = dktX1_fill_1 := dk_seg dksX1_fill_0 24 rfl rfl
theorem dksX1_fill_2 : cX1_fill.data.toList.drop 48 = dktX1_fill_2 := dk_seg dksX1_fill_1 24 rfl rfl
theorem dX1_fill_0 : decode cX1_fill 0 = .ok (.aload_n 0, 1) := dk_42 (dk_at dksX1_fill_0 0 rfl rfl)
theorem dX1_fill_1 : decode cX1_fill 1 = .ok (.invokevirtual 104, 3) := dk_182 0 104 (dk_at dksX1_fill_0 1 rfl rfl)
theorem dX1_fill_4 : decode cX1_fill 4 = .ok (.aload_n 0, 1) := dk_42 (dk_at dksX1_fill_0 4 rfl rfl)
theorem dX1_fill_5 : decode cX1_fill 5 = .ok (.getfield 129, 3) := dk_180 0 129 (dk_at dksX1_fill_0 5 rfl rfl)
theorem dX1_fill_8 : decode cX1_fill 8 = .ok (.ifnonnull 9, 3) := dk_199 0 9 (dk_at dksX1_fill_0 8 rfl rfl)
theorem dX1_fill_11 : decode cX1_fill 11 = .ok (.aload_n 0, 1) := dk_42 (dk_at dksX1_fill_0 11 rfl rfl)
theorem dX1_fill_12 : decode cX1_fill 12 = .ok (.iconst 1, 1) := dk_4 (dk_at dksX1_fill_0 12 rfl rfl)
theorem dX1_fill_13 : decode cX1_fill 13 = .ok (.invokevirtual 118, 3) := dk_182 0 118 (dk_at dksX1_fill_0 13 rfl rfl)
theorem dX1_fill_16 : decode cX1_fill 16 = .ok (.ireturn, 1) := dk_172 (dk_at dksX1_fill_0 16 rfl rfl)
theorem dX1_fill_17 : decode cX1_fill 17 = .ok (.aload_n 0, 1) := dk_42 (dk_at dksX1_fill_0 17 rfl rfl)
theorem dX1_fill_18 : decode cX1_fill 18 = .ok (.iconst (-1), 1) := dk_2 (dk_at dksX1_fill_0 18 rfl rfl)
theorem dX1_fill_19 : decode cX1_fill 19 = .ok (.putfield 365, 3) := dk_181 1 109 (dk_at dksX1_fill_0 19 rfl rfl)
theorem dX1_fill_22 : decode cX1_fill 22 = .ok (.aload_n 0, 1) := dk_42 (dk_at dksX1_fill_0 22 rfl rfl)
theorem dX1_fill_23 : decode cX1_fill 23 = .ok (.iconst 0, 1) := dk_3 (dk_at dksX1_fill_0 23 rfl rfl)
theorem dX1_fill_24 : decode cX1_fill 24 = .ok (.putfield 368, 3) := dk_181 1 112 (dk_at dksX1_fill_1 0 rfl rfl)
theorem dX1_fill_27 : decode cX1_fill 27 = .ok (.aload_n 0, 1) := dk_42 (dk_at dksX1_fill_1 3 rfl rfl)
theorem dX1_fill_28 : decode cX1_fill 28 = .ok (.iconst 0, 1) := dk_3 (dk_at dksX1_fill_1 4 rfl rfl)
theorem dX1_fill_29 : decode cX1_fill 29 = .ok (.iconst 0, 1) := dk_3 (dk_at dksX1_fill_1 5 rfl rfl)
theorem dX1_fill_30 : decode cX1_fill 30 = .ok (.invokevirtual 383, 3) := dk_182 1 127 (dk_at dksX1_fill_1 6 rfl rfl)
theorem dX1_fill_33 : decode cX1_fill 33 = .ok (.aload_n 0, 1) := dk_42 (dk_at dksX1_fill_1 9 rfl rfl)
theorem dX1_fill_34 : decode cX1_fill 34 = .ok (.iconst 1, 1) := dk_4 (dk_at dksX1_fill_1 10 rfl rfl)
theorem dX1_fill_35 : decode cX1_fill 35 = .ok (.putfield 158, 3) := dk_181 0 158 (dk_at dksX1_fill_1 11 rfl rfl)
theorem dX1_fill_38 : decode cX1_fill 38 = .ok (.aload_n 0, 1) := dk_42 (dk_at dksX1_fill_1 14 rfl rfl)
theorem dX1_fill_39 : decode cX1_fill 39 = .ok (.getfield 77, 3) := dk_180 0 77 (dk_at dksX1_fill_1 15 rfl rfl)
theorem dX1_fill_42 : decode cX1_fill 42 = .ok (.iconst 0, 1) := dk_3 (dk_at dksX1_fill_1 18 rfl rfl)
theorem dX1_fill_43 : decode cX1_fill 43 = .ok (.aload_n 0, 1) := dk_42 (dk_at dksX1_fill_1 19 rfl rfl)
theorem dX1_fill_44 : decode cX1_fill 44 = .ok (.getfield 80, 3) := dk_180 0 80 (dk_at dksX1_fill_1 20 rfl rfl)
theorem dX1_fill_47 : decode cX1_fill 47 = .ok (.iconst 0, 1) := dk_3 (dk_at dksX1_fill_1 23 rfl rfl)
theorem dX1_fill_48 : decode cX1_fill 48 = .ok (.bipush 7, 2) := dk_16 7 (dk_at dksX1_fill_2 0 rfl rfl)
theorem dX1_fill_50 : decode cX1_fill 50 = .ok (.invokestatic 257, 3) := dk_184 1 1 (dk_at dksX1_fill_2 2 rfl rfl)
theorem dX1_fill_53 : decode cX1_fill 53 = .ok (.aload_n 0, 1) := dk_42 (dk_at dksX1_fill_2 5 rfl rfl)
theorem dX1_fill_54 : decode cX1_fill 54 = .ok (.getfield 365, 3) := dk_180 1 109 (dk_at dksX1_fill_2 6 rfl rfl)
theorem dX1_fill_57 : decode cX1_fill 57 = .ok (.ireturn, 1) := dk_172 (dk_at dksX1_fill_2 9 rfl rfl)
abbrev cX1_fills : ByteArray := prog_1_method_53_code
def yX1_fills : MethodName := ⟨RX1, "fills", "(II)V"⟩
def dkwX1_fills_8 : List UInt8 := [132, 3, 1, 167, 255, 162, 42, 180, 0, 74, 27, 16, 254, 79, 42, 27, 4, 96, 28, 182, 1, 127, 177]
abbrev dktX1_fills_8 : List UInt8 := dkwX1_fills_8 ++ []
def dkwX1_fills_7 : List UInt8 := [4, 96, 79, 42, 27, 4, 96, 28, 4, 96, 182, 1, 127, 42, 180, 0, 83, 29, 92, 46, 4, 100, 79]
abbrev dktX1_fills_7 : List UInt8 := dkwX1_fills_7 ++ dktX1_fills_8
def dkwX1_fills_6 : List UInt8 := [50, 180, 1, 124, 160, 0, 6, 167, 0, 40, 42, 180, 0, 74, 27, 29, 79, 42, 180, 0, 83, 29, 92, 46]
abbrev dktX1_fills_6 : List UInt8 := dkwX1_fills_6 ++ dktX1_fills_7
def dkwX1_fills_5 : List UInt8 := [180, 1, 119, 27, 184, 0, 237, 153, 0, 64, 42, 180, 0, 83, 29, 46, 42, 180, 0, 129, 180, 1, 115, 29]
abbrev dktX1_fills_5 : List UInt8 := dkwX1_fills_5 ++ dktX1_fills_6
def dkwX1_fills_4 : List UInt8 := [3, 62, 29, 42, 180, 0, 129, 180, 1, 101, 162, 0, 89, 42, 180, 0, 129, 180, 1, 115, 29, 50]
abbrev dktX1_fills_4 : List UInt8 := dkwX1_fills_4 ++ dktX1_fills_5
def dkwX1_fills_3 : List UInt8 := [181, 1, 109, 42, 29, 181, 1, 112, 42, 180, 0, 74, 3, 42, 180, 0, 77, 3, 16, 7, 184, 1, 1, 177]
abbrev dktX1_fills_3 : List UInt8 := dkwX1_fills_3 ++ dktX1_fills_4
def dkwX1_fills_2 : List UInt8 := [161, 0, 19, 28, 42, 180, 1, 109, 160, 0, 12, 29, 42, 180, 1, 112, 161, 0, 4, 177, 42, 28]
abbrev dktX1_fills_2 : List UInt8 := dkwX1_fills_2 ++ dktX1_fills_3
def dkwX1_fills_1 : List UInt8 := [42, 180, 0, 83, 21, 4, 46, 184, 1, 104, 62, 132, 4, 1, 167, 255, 229, 28, 42, 180, 1, 109]
abbrev dktX1_fills_1 : List UInt8 := dkwX1_fills_1 ++ dktX1_fills_2
def dkwX1_fills_0 : List UInt8 := [27, 16, 7, 160, 0, 89, 3, 62, 3, 54, 4, 21, 4, 42, 180, 0, 129, 180, 1, 101, 162, 0, 21, 29]
abbrev dktX1_fills_0 : List UInt8 := dkwX1_fills_0 ++ dktX1_fills_1
theorem dksX1_fills_0 : cX1_fills.data.toList.drop 0 = dktX1_fills_0 := by decide +kernel
theorem dksX1_fills_1 : cX1_fills.data.toList.drop 24 = dktX1_fills_1 := dk_seg dksX1_fills_0 24 rfl rfl
theorem dksX1_fills_2 : cX1_fills.data.toList.drop 46 = dktX1_fills_2 := dk_seg dksX1_fills_1 22 rfl rfl
theorem dksX1_fills_3 : cX1_fills.data.toList.drop 68 = dktX1_fills_3 := dk_seg dksX1_fills_2 22 rfl rfl
theorem dksX1_fills_4 : cX1_fills.data.toList.drop 92 = dktX1_fills_4 := dk_seg dksX1_fills_3 24 rfl rfl
theorem dksX1_fills_5 : cX1_fills.data.toList.drop 114 = dktX1_fills_5 := dk_seg dksX1_fills_4 22 rfl rfl
theorem dksX1_fills_6 : cX1_fills.data.toList.drop 138 = dktX1_fills_6 := dk_seg dksX1_fills_5 24 rfl rfl
theorem dksX1_fills_7 : cX1_fills.data.toList.drop 162 = dktX1_fills_7 := dk_seg dksX1_fills_6 24 rfl rfl
theorem dksX1_fills_8 : cX1_fills.data.toList.drop 185 = dktX1_fills_8 := dk_seg dksX1_fills_7 23 rfl rfl
theorem dX1_fills_0 : decode cX1_fills 0 = .ok (.iload_n 1, 1) := dk_27 (dk_at dksX1_fills_0 0 rfl rfl)
theorem dX1_fills_1 : decode cX1_fills 1 = .ok (.bipush 7, 2) := dk_16 7 (dk_at dksX1_fills_0 1 rfl rfl)
theorem dX1_fills_3 : decode cX1_fills 3 = .ok (.if_icmp .ne 89, 3) := dk_160 0 89 (dk_at dksX1_fills_0 3 rfl rfl)
theorem dX1_fills_6 : decode cX1_fills 6 = .ok (.iconst 0, 1) := dk_3 (dk_at dksX1_fills_0 6 rfl rfl)
theorem dX1_fills_7 : decode cX1_fills 7 = .ok (.istore_n 3, 1) := dk_62 (dk_at dksX1_fills_0 7 rfl rfl)
theorem dX1_fills_8 : decode cX1_fills 8 = .ok (.iconst 0, 1) := dk_3 (dk_at dksX1_fills_0 8 rfl rfl)
theorem dX1_fills_9 : decode cX1_fills 9 = .ok (.istore 4, 2) := dk_54 4 (dk_at dksX1_fills_0 9 rfl rfl)
theorem dX1_fills_11 : decode cX1_fills 11 = .ok (.iload 4, 2) := dk_21 4 (dk_at dksX1_fills_0 11 rfl rfl)
theorem dX1_fills_13 : decode cX1_fills 13 = .ok (.aload_n 0, 1) := dk_42 (dk_at dksX1_fills_0 13 rfl rfl)
theorem dX1_fills_14 : decode cX1_fills 14 = .ok (.getfield 129, 3) := dk_180 0 129 (dk_at dksX1_fills_0 14 rfl rfl)
theorem dX1_fills_17 : decode cX1_fills 17 = .ok (.getfield 357, 3) := dk_180 1 101 (dk_at dksX1_fills_0 17 rfl rfl)
theorem dX1_fills_20 : decode cX1_fills 20 = .ok (.if_icmp .ge 21, 3) := dk_162 0 21 (dk_at dksX1_fills_0 20 rfl rfl)
theorem dX1_fills_23 : decode cX1_fills 23 = .ok (.iload_n 3, 1) := dk_29 (dk_at dksX1_fills_0 23 rfl rfl)
theorem dX1_fills_24 : decode cX1_fills 24 = .ok (.aload_n 0, 1) := dk_42 (dk_at dksX1_fills_1 0 rfl rfl)
theorem dX1_fills_25 : decode cX1_fills 25 = .ok (.getfield 83, 3) := dk_180 0 83 (dk_at dksX1_fills_1 1 rfl rfl)
theorem dX1_fills_28 : decode cX1_fills 28 = .ok (.iload 4, 2) := dk_21 4 (dk_at dksX1_fills_1 4 rfl rfl)
theorem dX1_fills_30 : decode cX1_fills 30 = .ok (.iaload, 1) := dk_46 (dk_at dksX1_fills_1 6 rfl rfl)
theorem dX1_fills_31 : decode cX1_fills 31 = .ok (.invokestatic 360, 3) := dk_184 1 104 (dk_at dksX1_fills_1 7 rfl rfl)
theorem dX1_fills_34 : decode cX1_fills 34 = .ok (.istore_n 3, 1) := dk_62 (dk_at dksX1_fills_1 10 rfl rfl)
theorem dX1_fills_35 : decode cX1_fills 35 = .ok (.iinc 4 1, 3) := dk_132 4 1 (dk_at dksX1_fills_1 11 rfl rfl)
theorem dX1_fills_38 : decode cX1_fills 38 = .ok (.goto (-27), 3) := dk_167 255 229 (dk_at dksX1_fills_1 14 rfl rfl)
theorem dX1_fills_41 : decode cX1_fills 41 = .ok (.iload_n 2, 1) := dk_28 (dk_at dksX1_fills_1 17 rfl rfl)
theorem dX1_fills_42 : decode cX1_fills 42 = .ok (.aload_n 0, 1) := dk_42 (dk_at dksX1_fills_1 18 rfl rfl)
theorem dX1_fills_43 : decode cX1_fills 43 = .ok (.getfield 365, 3) := dk_180 1 109 (dk_at dksX1_fills_1 19 rfl rfl)
theorem dX1_fills_46 : decode cX1_fills 46 = .ok (.if_icmp .lt 19, 3) := dk_161 0 19 (dk_at dksX1_fills_2 0 rfl rfl)
theorem dX1_fills_49 : decode cX1_fills 49 = .ok (.iload_n 2, 1) := dk_28 (dk_at dksX1_fills_2 3 rfl rfl)
theorem dX1_fills_50 : decode cX1_fills 50 = .ok (.aload_n 0, 1) := dk_42 (dk_at dksX1_fills_2 4 rfl rfl)
theorem dX1_fills_51 : decode cX1_fills 51 = .ok (.getfield 365, 3) := dk_180 1 109 (dk_at dksX1_fills_2 5 rfl rfl)
theorem dX1_fills_54 : decode cX1_fills 54 = .ok (.if_icmp .ne 12, 3) := dk_160 0 12 (dk_at dksX1_fills_2 8 rfl rfl)
theorem dX1_fills_57 : decode cX1_fills 57 = .ok (.iload_n 3, 1) := dk_29 (dk_at dksX1_fills_2 11 rfl rfl)
theorem dX1_fills_58 : decode cX1_fills 58 = .ok (.aload_n 0, 1) := dk_42 (dk_at dksX1_fills_2 12 rfl rfl)
theorem dX1_fills_59 : decode cX1_fills 59 = .ok (.getfield 368, 3) := dk_180 1 112 (dk_at dksX1_fills_2 13 rfl rfl)
theorem dX1_fills_62 : decode cX1_fills 62 = .ok (.if_icmp .lt 4, 3) := dk_161 0 4 (dk_at dksX1_fills_2 16 rfl rfl)
theorem dX1_fills_65 : decode cX1_fills 65 = .ok (.return_, 1) := dk_177 (dk_at dksX1_fills_2 19 rfl rfl)
theorem dX1_fills_66 : decode cX1_fills 66 = .ok (.aload_n 0, 1) := dk_42 (dk_at dksX1_fills_2 20 rfl rfl)
theorem dX1_fills_67 : decode cX1_fills 67 = .ok (.iload_n 2, 1) := dk_28 (dk_at dksX1_fills_2 21 rfl rfl)
theorem dX1_fills_68 : decode cX1_fills 68 = .ok (.putfield 365, 3) := dk_181 1 109 (dk_at dksX1_fills_3 0 rfl rfl)
theorem dX1_fills_71 : decode cX1_fills 71 = .ok (.aload_n 0, 1) := dk_42 (dk_at dksX1_fills_3 3 rfl rfl)
theorem dX1_fills_72 : decode cX1_fills 72 = .ok (.iload_n 3, 1) := dk_29 (dk_at dksX1_fills_3 4 rfl rfl)
theorem dX1_fills_73 : decode cX1_fills 73 = .ok (.putfield 368, 3) := dk_181 1 112 (dk_at dksX1_fills_3 5 rfl rfl)
theorem dX1_fills_76 : decode cX1_fills 76 = .ok (.aload_n 0, 1) := dk_42 (dk_at dksX1_fills_3 8 rfl rfl)
theorem dX1_fills_77 : decode cX1_fills 77 = .ok (.getfield 74, 3) := dk_180 0 74 (dk_at dksX1_fills_3 9 rfl rfl)
theorem dX1_fills_80 : decode cX1_fills 80 = .ok (.iconst 0, 1) := dk_3 (dk_at dksX1_fills_3 12 rfl rfl)
theorem dX1_fills_81 : decode cX1_fills 81 = .ok (.aload_n 0, 1) := dk_42 (dk_at dksX1_fills_3 13 rfl rfl)
theorem dX1_fills_82 : decode cX1_fills 82 = .ok (.getfield 77, 3) := dk_180 0 77 (dk_at dksX1_fills_3 14 rfl rfl)
theorem dX1_fills_85 : decode cX1_fills 85 = .ok (.iconst 0, 1) := dk_3 (dk_at dksX1_fills_3 17 rfl rfl)
theorem dX1_fills_86 : decode cX1_fills 86 = .ok (.bipush 7, 2) := dk_16 7 (dk_at dksX1_fills_3 18 rfl rfl)
theorem dX1_fills_88 : decode cX1_fills 88 = .ok (.invokestatic 257, 3) := dk_184 1 1 (dk_at dksX1_fills_3 20 rfl rfl)
theorem dX1_fills_91 : decode cX1_fills 91 = .ok (.return_, 1) := dk_177 (dk_at dksX1_fills_3 23 rfl rfl)
theorem dX1_fills_92 : decode cX1_fills 92 = .ok (.iconst 0, 1) := dk_3 (dk_at dksX1_fills_4 0 rfl rfl)
theorem dX1_fills_93 : decode cX1_fills 93 = .ok (.istore_n 3, 1) := dk_62 (dk_at dksX1_fills_4 1 rfl rfl)
theorem dX1_fills_94 : decode cX1_fills 94 = .ok (.iload_n 3, 1) := dk_29 (dk_at dksX1_fills_4 2 rfl rfl)
theorem dX1_fills_95 : decode cX1_fills 95 = .ok (.aload_n 0, 1) := dk_42 (dk_at dksX1_fills_4 3 rfl rfl)
theorem dX1_fills_96 : decode cX1_fills 96 = .ok (.getfield 129, 3) := dk_180 0 129 (dk_at dksX1_fills_4 4 rfl rfl)
theorem dX1_fills_99 : decode cX1_fills 99 = .ok (.getfield 357, 3) := dk_180 1 101 (dk_at dksX1_fills_4 7 rfl rfl)
theorem dX1_fills_102 : decode cX1_fills 102 = .ok (.if_icmp .ge 89, 3) := dk_162 0 89 (dk_at dksX1_fills_4 10 rfl rfl)
theorem dX1_fills_105 : decode cX1_fills 105 = .ok (.aload_n 0, 1) := dk_42 (dk_at dksX1_fills_4 13 rfl rfl)
theorem dX1_fills_106 : decode cX1_fills 106 = .ok (.getfield 129, 3) := dk_180 0 129 (dk_at dksX1_fills_4 14 rfl rfl)
theorem dX1_fills_109 : decode cX1_fills 109 = .ok (.getfield 371, 3) := dk_180 1 115 (dk_at dksX1_fills_4 17 rfl rfl)
theorem dX1_fills_112 : decode cX1_fills 112 = .ok (.iload_n 3, 1) := dk_29 (dk_at dksX1_fills_4 20 rfl rfl)
theorem dX1_fills_113 : decode cX1_fills 113 = .ok (.aaload, 1) := dk_50 (dk_at dksX1_fills_4 21 rfl rfl)
theorem dX1_fills_114 : decode cX1_fills 114 = .ok (.getfield 375, 3) := dk_180 1 119 (dk_at dksX1_fills_5 0 rfl rfl)
theorem dX1_fills_117 : decode cX1_fills 117 = .ok (.iload_n 1, 1) := dk_27 (dk_at dksX1_fills_5 3 rfl rfl)
theorem dX1_fills_118 : decode cX1_fills 118 = .ok (.invokestatic 237, 3) := dk_184 0 237 (dk_at dksX1_fills_5 4 rfl rfl)
theorem dX1_fills_121 : decode cX1_fills 121 = .ok (.ifCond .eq 64, 3) := dk_153 0 64 (dk_at dksX1_fills_5 7 rfl rfl)
theorem dX1_fills_124 : decode cX1_fills 124 = .ok (.aload_n 0, 1) := dk_42 (dk_at dksX1_fills_5 10 rfl rfl)
theorem dX1_fills_125 : decode cX1_fills 125 = .ok (.getfield 83, 3) := dk_180 0 83 (dk_at dksX1_fills_5 11 rfl rfl)
theorem dX1_fills_128 : decode cX1_fills 128 = .ok (.iload_n 3, 1) := dk_29 (dk_at dksX1_fills_5 14 rfl rfl)
theorem dX1_fills_129 : decode cX1_fills 129 = .ok (.iaload, 1) := dk_46 (dk_at dksX1_fills_5 15 rfl rfl)
theorem dX1_fills_130 : decode cX1_fills 130 = .ok (.aload_n 0, 1) := dk_42 (dk_at dksX1_fills_5 16 rfl rfl)
theorem dX1_fills_131 : decode cX1_fills 131 = .ok (.getfield 129, 3) := dk_180 0 129 (dk_at dksX1_fills_5 17 rfl rfl)
theorem dX1_fills_134 : decode cX1_fills 134 = .ok (.getfield 371, 3) := dk_180 1 115 (dk_at dksX1_fills_5 20 rfl rfl)
theorem dX1_fills_137 : decode cX1_fills 137 = .ok (.iload_n 3, 1) := dk_29 (dk_at dksX1_fills_5 23 rfl rfl)
theorem dX1_fills_138 : decode cX1_fills 138 = .ok (.aaload, 1) := dk_50 (dk_at dksX1_fills_6 0 rfl rfl)
theorem dX1_fills_139 : decode cX1_fills 139 = .ok (.getfield 380, 3) := dk_180 1 124 (dk_at dksX1_fills_6 1 rfl rfl)
theorem dX1_fills_142 : decode cX1_fills 142 = .ok (.if_icmp .ne 6, 3) := dk_160 0 6 (dk_at dksX1_fills_6 4 rfl rfl)
theorem dX1_fills_145 : decode cX1_fills 145 = .ok (.goto 40, 3) := dk_167 0 40 (dk_at dksX1_fills_6 7 rfl rfl)
theorem dX1_fills_148 : decode cX1_fills 148 = .ok (.aload_n 0, 1) := dk_42 (dk_at dksX1_fills_6 10 rfl rfl)
theorem dX1_fills_149 : decode cX1_fills 149 = .ok (.getfield 74, 3) := dk_180 0 74 (dk_at dksX1_fills_6 11 rfl rfl)
theorem dX1_fills_152 : decode cX1_fills 152 = .ok (.iload_n 1, 1) := dk_27 (dk_at dksX1_fills_6 14 rfl rfl)
theorem dX1_fills_153 : decode cX1_fills 153 = .ok (.iload_n 3, 1) := dk_29 (dk_at dksX1_fills_6 15 rfl rfl)
theorem dX1_fills_154 : decode cX1_fills 154 = .ok (.iastore, 1) := dk_79 (dk_at dksX1_fills_6 16 rfl rfl)
theorem dX1_fills_155 : decode cX1_fills 155 = .ok (.aload_n 0, 1) := dk_42 (dk_at dksX1_fills_6 17 rfl rfl)
theorem dX1_fills_156 : decode cX1_fills 156 = .ok (.getfield 83, 3) := dk_180 0 83 (dk_at dksX1_fills_6 18 rfl rfl)
theorem dX1_fills_159 : decode cX1_fills 159 = .ok (.iload_n 3, 1) := dk_29 (dk_at dksX1_fills_6 21 rfl rfl)
theorem dX1_fills_160 : decode cX1_fills 160 = .ok (.dup2, 1) := dk_92 (dk_at dksX1_fills_6 22 rfl rfl)
theorem dX1_fills_161 : decode cX1_fills 161 = .ok (.iaload, 1) := dk_46 (dk_at dksX1_fills_6 23 rfl rfl)
theorem dX1_fills_162 : decode cX1_fills 162 = .ok (.iconst 1, 1) := dk_4 (dk_at dksX1_fills_7 0 rfl rfl)
theorem dX1_fills_163 : decode cX1_fills 163 = .ok (.iadd, 1) := dk_96 (dk_at dksX1_fills_7 1 rfl rfl)
theorem dX1_fills_164 : decode cX1_fills 164 = .ok (.iastore, 1) := dk_79 (dk_at dksX1_fills_7 2 rfl rfl)
theorem dX1_fills_165 : decode cX1_fills 165 = .ok (.aload_n 0, 1) := dk_42 (dk_at dksX1_fills_7 3 rfl rfl)
theorem dX1_fills_166 : decode cX1_fills 166 = .ok (.iload_n 1, 1) := dk_27 (dk_at dksX1_fills_7 4 rfl rfl)
theorem dX1_fills_167 : decode cX1_fills 167 = .ok (.iconst 1, 1) := dk_4 (dk_at dksX1_fills_7 5 rfl rfl)
theorem dX1_fills_168 : decode cX1_fills 168 = .ok (.iadd, 1) := dk_96 (dk_at dksX1_fills_7 6 rfl rfl)
theorem dX1_fills_169 : decode cX1_fills 169 = .ok (.iload_n 2, 1) := dk_28 (dk_at dksX1_fills_7 7 rfl rfl)
theorem dX1_fills_170 : decode cX1_fills 170 = .ok (.iconst 1, 1) := dk_4 (dk_at dksX1_fills_7 8 rfl rfl)
theorem dX1_fills_171 : decode cX1_fills 171 = .ok (.iadd, 1) := dk_96 (dk_at dksX1_fills_7 9 rfl rfl)
theorem dX1_fills_172 : decode cX1_fills 172 = .ok (.invokevirtual 383, 3) := dk_182 1 127 (dk_at dksX1_fills_7 10 rfl rfl)
theorem dX1_fills_175 : decode cX1_fills 175 = .ok (.aload_n 0, 1) := dk_42 (dk_at dksX1_fills_7 13 rfl rfl)
theorem dX1_fills_176 : decode cX1_fills 176 = .ok (.getfield 83, 3) := dk_180 0 83 (dk_at dksX1_fills_7 14 rfl rfl)
theorem dX1_fills_179 : decode cX1_fills 179 = .ok (.iload_n 3, 1) := dk_29 (dk_at dksX1_fills_7 17 rfl rfl)
theorem dX1_fills_180 : decode cX1_fills 180 = .ok (.dup2, 1) := dk_92 (dk_at dksX1_fills_7 18 rfl rfl)
theorem dX1_fills_181 : decode cX1_fills 181 = .ok (.iaload, 1) := dk_46 (dk_at dksX1_fills_7 19 rfl rfl)
theorem dX1_fills_182 : decode cX1_fills 182 = .ok (.iconst 1, 1) := dk_4 (dk_at dksX1_fills_7 20 rfl rfl)
theorem dX1_fills_183 : decode cX1_fills 183 = .ok (.isub, 1) := dk_100 (dk_at dksX1_fills_7 21 rfl rfl)
theorem dX1_fills_184 : decode cX1_fills 184 = .ok (.iastore, 1) := dk_79 (dk_at dksX1_fills_7 22 rfl rfl)
theorem dX1_fills_185 : decode cX1_fills 185 = .ok (.iinc 3 1, 3) := dk_132 3 1 (dk_at dksX1_fills_8 0 rfl rfl)
theorem dX1_fills_188 : decode cX1_fills 188 = .ok (.goto (-94), 3) := dk_167 255 162 (dk_at dksX1_fills_8 3 rfl rfl)
theorem dX1_fills_191 : decode cX1_fills 191 = .ok (.aload_n 0, 1) := dk_42 (dk_at dksX1_fills_8 6 rfl rfl)
theorem dX1_fills_192 : decode cX1_fills 192 = .ok (.getfield 74, 3) := dk_180 0 74 (dk_at dksX1_fills_8 7 rfl rfl)
theorem dX1_fills_195 : decode cX1_fills 195 = .ok (.iload_n 1, 1) := dk_27 (dk_at dksX1_fills_8 10 rfl rfl)
theorem dX1_fills_196 : decode cX1_fills 196 = .ok (.bipush (-2), 2) := dk_16 254 (dk_at dksX1_fills_8 11 rfl rfl)
theorem dX1_fills_198 : decode cX1_fills 198 = .ok (.iastore, 1) := dk_79 (dk_at dksX1_fills_8 13 rfl rfl)
theorem dX1_fills_199 : decode cX1_fills 199 = .ok (.aload_n 0, 1) := dk_42 (dk_at dksX1_fills_8 14 rfl rfl)
theorem dX1_fills_200 : decode cX1_fills 200 = .ok (.iload_n 1, 1) := dk_27 (dk_at dksX1_fills_8 15 rfl rfl)
theorem dX1_fills_201 : decode cX1_fills 201 = .ok (.iconst 1, 1) := dk_4 (dk_at dksX1_fills_8 16 rfl rfl)
theorem dX1_fills_202 : decode cX1_fills 202 = .ok (.iadd, 1) := dk_96 (dk_at dksX1_fills_8 17 rfl rfl)
theorem dX1_fills_203 : decode cX1_fills 203 = .ok (.iload_n 2, 1) := dk_28 (dk_at dksX1_fills_8 18 rfl rfl)
theorem dX1_fills_204 : decode cX1_fills 204 = .ok (.invokevirtual 383, 3) := dk_182 1 127 (dk_at dksX1_fills_8 19 rfl rfl)
theorem dX1_fills_207 : decode cX1_fills 207 = .ok (.return_, 1) := dk_177 (dk_at dksX1_fills_8 22 rfl rfl)
abbrev cX1_helper : ByteArray := prog_1_method_55_code
def yX1_helper : MethodName := ⟨RX1, "helper", "(I)I"⟩
def dkwX1_helper_1 : List UInt8 := [167, 0, 4, 2, 172]
abbrev dktX1_helper_1 : List UInt8 := dkwX1_helper_1 ++ []
def dkwX1_helper_0 : List UInt8 := [42, 180, 0, 158, 153, 0, 22, 27, 3, 16, 6, 184, 0, 114, 153, 0, 12, 42, 180, 0, 80, 27, 46]
abbrev dktX1_helper_0 : List UInt8 := dkwX1_helper_0 ++ dktX1_helper_1
theorem dksX1_helper_0 : cX1_helper.data.toList.drop 0 = dktX1_helper_0 := by decide +kernel
theorem dksX1_helper_1 : cX1_helper.data.toList.drop 23 = dktX1_helper_1 := dk_seg dksX1_helper_0 23 rfl rfl
theorem dX1_helper_0 : decode cX1_helper 0 = .ok (.aload_n 0, 1) := dk_42 (dk_at dksX1_helper_0 0 rfl rfl)
theorem dX1_helper_1 : decode cX1_helper 1 = .ok (.getfield 158, 3) := dk_180 0 158 (dk_at dksX1_helper_0 1 rfl rfl)
theorem dX1_helper_4 : decode cX1_helper 4 = .ok (.ifCond .eq 22, 3) := dk_153 0 22 (dk_at dksX1_helper_0 4 rfl rfl)
theorem dX1_helper_7 : decode cX1_helper 7 = .ok (.iload_n 1, 1) := dk_27 (dk_at dksX1_helper_0 7 rfl rfl)
theorem dX1_helper_8 : decode cX1_helper 8 = .ok (.iconst 0, 1) := dk_3 (dk_at dksX1_helper_0 8 rfl rfl)
theorem dX1_helper_9 : decode cX1_helper 9 = .ok (.bipush 6, 2) := dk_16 6 (dk_at dksX1_helper_0 9 rfl rfl)
theorem dX1_helper_11 : decode cX1_helper 11 = .ok (.invokestatic 114, 3) := dk_184 0 114 (dk_at dksX1_helper_0 11 rfl rfl)
theorem dX1_helper_14 : decode cX1_helper 14 = .ok (.ifCond .eq 12, 3) := dk_153 0 12 (dk_at dksX1_helper_0 14 rfl rfl)
theorem dX1_helper_17 : decode cX1_helper 17 = .ok (.aload_n 0, 1) := dk_42 (dk_at dksX1_helper_0 17 rfl rfl)
theorem dX1_helper_18 : decode cX1_helper 18 = .ok (.getfield 80, 3) := dk_180 0 80 (dk_at dksX1_helper_0 18 rfl rfl)
theorem dX1_helper_21 : decode cX1_helper 21 = .ok (.iload_n 1, 1) := dk_27 (dk_at dksX1_helper_0 21 rfl rfl)
theorem dX1_helper_22 : decode cX1_helper 22 = .ok (.iaload, 1) := dk_46 (dk_at dksX1_helper_0 22 rfl rfl)
theorem dX1_helper_23 : decode cX1_helper 23 = .ok (.goto 4, 3) := dk_167 0 4 (dk_at dksX1_helper_1 0 rfl rfl)
theorem dX1_helper_26 : decode cX1_helper 26 = .ok (.iconst (-1), 1) := dk_2 (dk_at dksX1_helper_1 3 rfl rfl)
theorem dX1_helper_27 : decode cX1_helper 27 = .ok (.ireturn, 1) := dk_172 (dk_at dksX1_helper_1 4 rfl rfl)
abbrev cX1_sign : ByteArray := prog_1_method_56_code
def yX1_sign : MethodName := ⟨RX1, "sign", "(II)I"⟩
def dkwX1_sign_3 : List UInt8 := [180, 0, 89, 27, 92, 46, 4, 96, 79, 42, 180, 0, 89, 27, 46, 172]
abbrev dktX1_sign_3 : List UInt8 := dkwX1_sign_3 ++ []
def dkwX1_sign_2 : List UInt8 := [6, 182, 0, 118, 172, 42, 180, 0, 86, 16, 10, 27, 104, 42, 180, 0, 89, 27, 46, 96, 28, 79, 42]
abbrev dktX1_sign_2 : List UInt8 := dkwX1_sign_2 ++ dktX1_sign_3
def dkwX1_sign_1 : List UInt8 := [184, 0, 114, 154, 0, 9, 42, 5, 182, 0, 118, 172, 42, 180, 0, 89, 27, 46, 16, 10, 160, 0, 9, 42]
abbrev dktX1_sign_1 : List UInt8 := dkwX1_sign_1 ++ dktX1_sign_2
def dkwX1_sign_0 : List UInt8 := [42, 182, 0, 104, 42, 27, 182, 0, 176, 154, 0, 9, 42, 4, 182, 0, 118, 172, 28, 3, 16, 99]
abbrev dktX1_sign_0 : List UInt8 := dkwX1_sign_0 ++ dktX1_sign_1
theorem dksX1_sign_0 : cX1_sign.data.toList.drop 0 = dktX1_sign_0 := by decide +kernel
theorem dksX1_sign_1 : cX1_sign.data.toList.drop 22 = dktX1_sign_1 := dk_seg dksX1_sign_0 22 rfl rfl
theorem dksX1_sign_2 : cX1_sign.data.toList.drop 46 = dktX1_sign_2 := dk_seg dksX1_sign_1 24 rfl rfl
theorem dksX1_sign_3 : cX1_sign.data.toList.drop 69 = dktX1_sign_3 := dk_seg dksX1_sign_2 23 rfl rfl
theorem dX1_sign_0 : decode cX1_sign 0 = .ok (.aload_n 0, 1) := dk_42 (dk_at dksX1_sign_0 0 rfl rfl)
theorem dX1_sign_1 : decode cX1_sign 1 = .ok (.invokevirtual 104, 3) := dk_182 0 104 (dk_at dksX1_sign_0 1 rfl rfl)
theorem dX1_sign_4 : decode cX1_sign 4 = .ok (.aload_n 0, 1) := dk_42 (dk_at dksX1_sign_0 4 rfl rfl)
theorem dX1_sign_5 : decode cX1_sign 5 = .ok (.iload_n 1, 1) := dk_27 (dk_at dksX1_sign_0 5 rfl rfl)
theorem dX1_sign_6 : decode cX1_sign 6 = .ok (.invokevirtual 176, 3) := dk_182 0 176 (dk_at dksX1_sign_0 6 rfl rfl)
theorem dX1_sign_9 : decode cX1_sign 9 = .ok (.ifCond .ne 9, 3) := dk_154 0 9 (dk_at dksX1_sign_0 9 rfl rfl)
theorem dX1_sign_12 : decode cX1_sign 12 = .ok (.aload_n 0, 1) := dk_42 (dk_at dksX1_sign_0 12 rfl rfl)
theorem dX1_sign_13 : decode cX1_sign 13 = .ok (.iconst 1, 1) := dk_4 (dk_at dksX1_sign_0 13 rfl rfl)
theorem dX1_sign_14 : decode cX1_sign 14 = .ok (.invokevirtual 118, 3) := dk_182 0 118 (dk_at dksX1_sign_0 14 rfl rfl)
theorem dX1_sign_17 : decode cX1_sign 17 = .ok (.ireturn, 1) := dk_172 (dk_at dksX1_sign_0 17 rfl rfl)
theorem dX1_sign_18 : decode cX1_sign 18 = .ok (.iload_n 2, 1) := dk_28 (dk_at dksX1_sign_0 18 rfl rfl)
theorem dX1_sign_19 : decode cX1_sign 19 = .ok (.iconst 0, 1) := dk_3 (dk_at dksX1_sign_0 19 rfl rfl)
theorem dX1_sign_20 : decode cX1_sign 20 = .ok (.bipush 99, 2) := dk_16 99 (dk_at dksX1_sign_0 20 rfl rfl)
theorem dX1_sign_22 : decode cX1_sign 22 = .ok (.invokestatic 114, 3) := dk_184 0 114 (dk_at dksX1_sign_1 0 rfl rfl)
theorem dX1_sign_25 : decode cX1_sign 25 = .ok (.ifCond .ne 9, 3) := dk_154 0 9 (dk_at dksX1_sign_1 3 rfl rfl)
theorem dX1_sign_28 : decode cX1_sign 28 = .ok (.aload_n 0, 1) := dk_42 (dk_at dksX1_sign_1 6 rfl rfl)
theorem dX1_sign_29 : decode cX1_sign 29 = .ok (.iconst 2, 1) := dk_5 (dk_at dksX1_sign_1 7 rfl rfl)
theorem dX1_sign_30 : decode cX1_sign 30 = .ok (.invokevirtual 118, 3) := dk_182 0 118 (dk_at dksX1_sign_1 8 rfl rfl)
theorem dX1_sign_33 : decode cX1_sign 33 = .ok (.ireturn, 1) := dk_172 (dk_at dksX1_sign_1 11 rfl rfl)
theorem dX1_sign_34 : decode cX1_sign 34 = .ok (.aload_n 0, 1) := dk_42 (dk_at dksX1_sign_1 12 rfl rfl)
theorem dX1_sign_35 : decode cX1_sign 35 = .ok (.getfield 89, 3) := dk_180 0 89 (dk_at dksX1_sign_1 13 rfl rfl)
theorem dX1_sign_38 : decode cX1_sign 38 = .ok (.iload_n 1, 1) := dk_27 (dk_at dksX1_sign_1 16 rfl rfl)
theorem dX1_sign_39 : decode cX1_sign 39 = .ok (.iaload, 1) := dk_46 (dk_at dksX1_sign_1 17 rfl rfl)
theorem dX1_sign_40 : decode cX1_sign 40 = .ok (.bipush 10, 2) := dk_16 10 (dk_at dksX1_sign_1 18 rfl rfl)
theorem dX1_sign_42 : decode cX1_sign 42 = .ok (.if_icmp .ne 9, 3) := dk_160 0 9 (dk_at dksX1_sign_1 20 rfl rfl)
theorem dX1_sign_45 : decode cX1_sign 45 = .ok (.aload_n 0, 1) := dk_42 (dk_at dksX1_sign_1 23 rfl rfl)
theorem dX1_sign_46 : decode cX1_sign 46 = .ok (.iconst 3, 1) := dk_6 (dk_at dksX1_sign_2 0 rfl rfl)
theorem dX1_sign_47 : decode cX1_sign 47 = .ok (.invokevirtual 118, 3) := dk_182 0 118 (dk_at dksX1_sign_2 1 rfl rfl)
theorem dX1_sign_50 : decode cX1_sign 50 = .ok (.ireturn, 1) := dk_172 (dk_at dksX1_sign_2 4 rfl rfl)
theorem dX1_sign_51 : decode cX1_sign 51 = .ok (.aload_n 0, 1) := dk_42 (dk_at dksX1_sign_2 5 rfl rfl)
theorem dX1_sign_52 : decode cX1_sign 52 = .ok (.getfield 86, 3) := dk_180 0 86 (dk_at dksX1_sign_2 6 rfl rfl)
theorem dX1_sign_55 : decode cX1_sign 55 = .ok (.bipush 10, 2) := dk_16 10 (dk_at dksX1_sign_2 9 rfl rfl)
theorem dX1_sign_57 : decode cX1_sign 57 = .ok (.iload_n 1, 1) := dk_27 (dk_at dksX1_sign_2 11 rfl rfl)
theorem dX1_sign_58 : decode cX1_sign 58 = .ok (.imul, 1) := dk_104 (dk_at dksX1_sign_2 12 rfl rfl)
theorem dX1_sign_59 : decode cX1_sign 59 = .ok (.aload_n 0, 1) := dk_42 (dk_at dksX1_sign_2 13 rfl rfl)
theorem dX1_sign_60 : decode cX1_sign 60 = .ok (.getfield 89, 3) := dk_180 0 89 (dk_at dksX1_sign_2 14 rfl rfl)
theorem dX1_sign_63 : decode cX1_sign 63 = .ok (.iload_n 1, 1) := dk_27 (dk_at dksX1_sign_2 17 rfl rfl)
theorem dX1_sign_64 : decode cX1_sign 64 = .ok (.iaload, 1) := dk_46 (dk_at dksX1_sign_2 18 rfl rfl)
theorem dX1_sign_65 : decode cX1_sign 65 = .ok (.iadd, 1) := dk_96 (dk_at dksX1_sign_2 19 rfl rfl)
theorem dX1_sign_66 : decode cX1_sign 66 = .ok (.iload_n 2, 1) := dk_28 (dk_at dksX1_sign_2 20 rfl rfl)
theorem dX1_sign_67 : decode cX1_sign 67 = .ok (.iastore, 1) := dk_79 (dk_at dksX1_sign_2 21 rfl rfl)
theorem dX1_sign_68 : decode cX1_sign 68 = .ok (.aload_n 0, 1) := dk_42 (dk_at dksX1_sign_2 22 rfl rfl)
theorem dX1_sign_69 : decode cX1_sign 69 = .ok (.getfield 89, 3) := dk_180 0 89 (dk_at dksX1_sign_3 0 rfl rfl)
theorem dX1_sign_72 : decode cX1_sign 72 = .ok (.iload_n 1, 1) := dk_27 (dk_at dksX1_sign_3 3 rfl rfl)
theorem dX1_sign_73 : decode cX1_sign 73 = .ok (.dup2, 1) := dk_92 (dk_at dksX1_sign_3 4 rfl rfl)
theorem dX1_sign_74 : decode cX1_sign 74 = .ok (.iaload, 1) := dk_46 (dk_at dksX1_sign_3 5 rfl rfl)
theorem dX1_sign_75 : decode cX1_sign 75 = .ok (.iconst 1, 1) := dk_4 (dk_at dksX1_sign_3 6 rfl rfl)
theorem dX1_sign_76 : decode cX1_sign 76 = .ok (.iadd, 1) := dk_96 (dk_at dksX1_sign_3 7 rfl rfl)
theorem dX1_sign_77 : decode cX1_sign 77 = .ok (.iastore, 1) := dk_79 (dk_at dksX1_sign_3 8 rfl rfl)
theorem dX1_sign_78 : decode cX1_sign 78 = .ok (.aload_n 0, 1) := dk_42 (dk_at dksX1_sign_3 9 rfl rfl)
theorem dX1_sign_79 : decode cX1_sign 79 = .ok (.getfield 89, 3) := dk_180 0 89 (dk_at dksX1_sign_3 10 rfl rfl)
theorem dX1_sign_82 : decode cX1_sign 82 = .ok (.iload_n 1, 1) := dk_27 (dk_at dksX1_sign_3 13 rfl rfl)
theorem dX1_sign_83 : decode cX1_sign 83 = .ok (.iaload, 1) := dk_46 (dk_at dksX1_sign_3 14 rfl rfl)
theorem dX1_sign_84 : decode cX1_sign 84 = .ok (.ireturn, 1) := dk_172 (dk_at dksX1_sign_3 15 rfl rfl)
abbrev cX1_fading : ByteArray := prog_1_method_57_code
def yX1_fading : MethodName := ⟨RX1, "fading", "(I)I"⟩
def dkwX1_fading_7 : List UInt8 := [132, 6, 1, 167, 255, 167, 21, 5, 172]
abbrev dktX1_fading_7 : List UInt8 := dkwX1_fading_7 ++ []
def dkwX1_fading_6 : List UInt8 := [161, 0, 7, 4, 167, 0, 4, 3, 96, 54, 5, 132, 8, 1, 167, 255, 203, 132, 7, 1, 167, 255, 185]
abbrev dktX1_fading_6 : List UInt8 := dkwX1_fading_6 ++ dktX1_fading_7
def dkwX1_fading_5 : List UInt8 := [96, 46, 42, 180, 0, 86, 29, 21, 7, 96, 46, 96, 42, 180, 0, 86, 29, 21, 8, 96, 46, 96, 21, 4]
abbrev dktX1_fading_5 : List UInt8 := dkwX1_fading_5 ++ dktX1_fading_6
def dkwX1_fading_4 : List UInt8 := [162, 0, 71, 21, 7, 4, 96, 54, 8, 21, 8, 28, 162, 0, 53, 21, 5, 42, 180, 0, 86, 29, 21, 6]
abbrev dktX1_fading_4 : List UInt8 := dkwX1_fading_4 ++ dktX1_fading_5
def dkwX1_fading_3 : List UInt8 := [96, 54, 4, 3, 54, 5, 3, 54, 6, 21, 6, 28, 162, 0, 89, 21, 6, 4, 96, 54, 7, 21, 7, 28]
abbrev dktX1_fading_3 : List UInt8 := dkwX1_fading_3 ++ dktX1_fading_4
def dkwX1_fading_2 : List UInt8 := [4, 100, 46, 42, 180, 0, 86, 29, 28, 96, 5, 100, 46, 96, 42, 180, 0, 86, 29, 28, 96, 6, 100, 46]
abbrev dktX1_fading_2 : List UInt8 := dkwX1_fading_2 ++ dktX1_fading_3
def dkwX1_fading_1 : List UInt8 := [61, 28, 7, 162, 0, 9, 42, 8, 182, 0, 118, 172, 16, 10, 27, 104, 62, 42, 180, 0, 86, 29, 28, 96]
abbrev dktX1_fading_1 : List UInt8 := dkwX1_fading_1 ++ dktX1_fading_2
def dkwX1_fading_0 : List UInt8 := [42, 182, 0, 104, 42, 27, 182, 0, 176, 154, 0, 9, 42, 4, 182, 0, 118, 172, 42, 180, 0, 89, 27, 46]
abbrev dktX1_fading_0 : List UInt8 := dkwX1_fading_0 ++ dktX1_fading_1
theorem dksX1_fading_0 : cX1_fading.data.toList.drop 0 = dktX1_fading_0 := by decide +kernel
theorem dksX1_fading_1 : cX1_fading.data.toList.drop 24 = dktX1_fading_1 := dk_seg dksX1_fading_0 24 rfl rfl
theorem dksX1_fading_2 : cX1_fading.data.toList.drop 48 = dktX1_fading_2 := dk_seg dksX1_fading_1 24 rfl rfl
theorem dksX1_fading_3 : cX1_fading.data.toList.drop 72 = dktX1_fading_3 := dk_seg dksX1_fading_2 24 rfl rfl
theorem dksX1_fading_4 : cX1_fading.data.toList.drop 96 = dktX1_fading_4 := dk_seg dksX1_fading_3 24 rfl rfl
theorem dksX1_fading_5 : cX1_fading.data.toList.drop 120 = dktX1_fading_5 := dk_seg dksX1_fading_4 24 rfl rfl
theorem dksX1_fading_6 : cX1_fading.data.toList.drop 144 = dktX1_fading_6 := dk_seg dksX1_fading_5 24 rfl rfl
theorem dksX1_fading_7 : cX1_fading.data.toList.drop 167 = dktX1_fading_7 := dk_seg dksX1_fading_6 23 rfl rfl
theorem dX1_fading_0 : decode cX1_fading 0 = .ok (.aload_n 0, 1) := dk_42 (dk_at dksX1_fading_0 0 rfl rfl)
theorem dX1_fading_1 : decode cX1_fading 1 = .ok (.invokevirtual 104, 3) := dk_182 0 104 (dk_at dksX1_fading_0 1 rfl rfl)
theorem dX1_fading_4 : decode cX1_fading 4 = .ok (.aload_n 0, 1) := dk_42 (dk_at dksX1_fading_0 4 rfl rfl)
theorem dX1_fading_5 : decode cX1_fading 5 = .ok (.iload_n 1, 1) := dk_27 (dk_at dksX1_fading_0 5 rfl rfl)
theorem dX1_fading_6 : decode cX1_fading 6 = .ok (.invokevirtual 176, 3) := dk_182 0 176 (dk_at dksX1_fading_0 6 rfl rfl)
theorem dX1_fading_9 : decode cX1_fading 9 = .ok (.ifCond .ne 9, 3) := dk_154 0 9 (dk_at dksX1_fading_0 9 rfl rfl)
theorem dX1_fading_12 : decode cX1_fading 12 = .ok (.aload_n 0, 1) := dk_42 (dk_at dksX1_fading_0 12 rfl rfl)
theorem dX1_fading_13 : decode cX1_fading 13 = .ok (.iconst 1, 1) := dk_4 (dk_at dksX1_fading_0 13 rfl rfl)
theorem dX1_fading_14 : decode cX1_fading 14 = .ok (.invokevirtual 118, 3) := dk_182 0 118 (dk_at dksX1_fading_0 14 rfl rfl)
theorem dX1_fading_17 : decode cX1_fading 17 = .ok (.ireturn, 1) := dk_172 (dk_at dksX1_fading_0 17 rfl rfl)
theorem dX1_fading_18 : decode cX1_fading 18 = .ok (.aload_n 0, 1) := dk_42 (dk_at dksX1_fading_0 18 rfl rfl)
theorem dX1_fading_19 : decode cX1_fading 19 = .ok (.getfield 89, 3) := dk_180 0 89 (dk_at dksX1_fading_0 19 rfl rfl)
theorem dX1_fading_22 : decode cX1_fading 22 = .ok (.iload_n 1, 1) := dk_27 (dk_at dksX1_fading_0 22 rfl rfl)
theorem dX1_fading_23 : decode cX1_fading 23 = .ok (.iaload, 1) := dk_46 (dk_at dksX1_fading_0 23 rfl rfl)
theorem dX1_fading_24 : decode cX1_fading 24 = .ok (.istore_n 2, 1) := dk_61 (dk_at dksX1_fading_1 0 rfl rfl)
theorem dX1_fading_25 : decode cX1_fading 25 = .ok (.iload_n 2, 1) := dk_28 (dk_at dksX1_fading_1 1 rfl rfl)
theorem dX1_fading_26 : decode cX1_fading 26 = .ok (.iconst 4, 1) := dk_7 (dk_at dksX1_fading_1 2 rfl rfl)
theorem dX1_fading_27 : decode cX1_fading 27 = .ok (.if_icmp .ge 9, 3) := dk_162 0 9 (dk_at dksX1_fading_1 3 rfl rfl)
theorem dX1_fading_30 : decode cX1_fading 30 = .ok (.aload_n 0, 1) := dk_42 (dk_at dksX1_fading_1 6 rfl rfl)
theorem dX1_fading_31 : decode cX1_fading 31 = .ok (.iconst 5, 1) := dk_8 (dk_at dksX1_fading_1 7 rfl rfl)
theorem dX1_fading_32 : decode cX1_fading 32 = .ok (.invokevirtual 118, 3) := dk_182 0 118 (dk_at dksX1_fading_1 8 rfl rfl)
theorem dX1_fading_35 : decode cX1_fading 35 = .ok (.ireturn, 1) := dk_172 (dk_at dksX1_fading_1 11 rfl rfl)
theorem dX1_fading_36 : decode cX1_fading 36 = .ok (.bipush 10, 2) := dk_16 10 (dk_at dksX1_fading_1 12 rfl rfl)
theorem dX1_fading_38 : decode cX1_fading 38 = .ok (.iload_n 1, 1) := dk_27 (dk_at dksX1_fading_1 14 rfl rfl)
theorem dX1_fading_39 : decode cX1_fading 39 = .ok (.imul, 1) := dk_104 (dk_at dksX1_fading_1 15 rfl rfl)
theorem dX1_fading_40 : decode cX1_fading 40 = .ok (.istore_n 3, 1) := dk_62 (dk_at dksX1_fading_1 16 rfl rfl)
theorem dX1_fading_41 : decode cX1_fading 41 = .ok (.aload_n 0, 1) := dk_42 (dk_at dksX1_fading_1 17 rfl rfl)
theorem dX1_fading_42 : decode cX1_fading 42 = .ok (.getfield 86, 3) := dk_180 0 86 (dk_at dksX1_fading_1 18 rfl rfl)
theorem dX1_fading_45 : decode cX1_fading 45 = .ok (.iload_n 3, 1) := dk_29 (dk_at dksX1_fading_1 21 rfl rfl)
theorem dX1_fading_46 : decode cX1_fading 46 = .ok (.iload_n 2, 1) := dk_28 (dk_at dksX1_fading_1 22 rfl rfl)
theorem dX1_fading_47 : decode cX1_fading 47 = .ok (.iadd, 1) := dk_96 (dk_at dksX1_fading_1 23 rfl rfl)
theorem dX1_fading_48 : decode cX1_fading 48 = .ok (.iconst 1, 1) := dk_4 (dk_at dksX1_fading_2 0 rfl rfl)
theorem dX1_fading_49 : decode cX1_fading 49 = .ok (.isub, 1) := dk_100 (dk_at dksX1_fading_2 1 rfl rfl)
theorem dX1_fading_50 : decode cX1_fading 50 = .ok (.iaload, 1) := dk_46 (dk_at dksX1_fading_2 2 rfl rfl)
theorem dX1_fading_51 : decode cX1_fading 51 = .ok (.aload_n 0, 1) := dk_42 (dk_at dksX1_fading_2 3 rfl rfl)
theorem dX1_fading_52 : decode cX1_fading 52 = .ok (.getfield 86, 3) := dk_180 0 86 (dk_at dksX1_fading_2 4 rfl rfl)
theorem dX1_fading_55 : decode cX1_fading 55 = .ok (.iload_n 3, 1) := dk_29 (dk_at dksX1_fading_2 7 rfl rfl)
theorem dX1_fading_56 : decode cX1_fading 56 = .ok (.iload_n 2, 1) := dk_28 (dk_at dksX1_fading_2 8 rfl rfl)
theorem dX1_fading_57 : decode cX1_fading 57 = .ok (.iadd, 1) := dk_96 (dk_at dksX1_fading_2 9 rfl rfl)
theorem dX1_fading_58 : decode cX1_fading 58 = .ok (.iconst 2, 1) := dk_5 (dk_at dksX1_fading_2 10 rfl rfl)
theorem dX1_fading_59 : decode cX1_fading 59 = .ok (.isub, 1) := dk_100 (dk_at dksX1_fading_2 11 rfl rfl)
theorem dX1_fading_60 : decode cX1_fading 60 = .ok (.iaload, 1) := dk_46 (dk_at dksX1_fading_2 12 rfl rfl)
theorem dX1_fading_61 : decode cX1_fading 61 = .ok (.iadd, 1) := dk_96 (dk_at dksX1_fading_2 13 rfl rfl)
theorem dX1_fading_62 : decode cX1_fading 62 = .ok (.aload_n 0, 1) := dk_42 (dk_at dksX1_fading_2 14 rfl rfl)
theorem dX1_fading_63 : decode cX1_fading 63 = .ok (.getfield 86, 3) := dk_180 0 86 (dk_at dksX1_fading_2 15 rfl rfl)
theorem dX1_fading_66 : decode cX1_fading 66 = .ok (.iload_n 3, 1) := dk_29 (dk_at dksX1_fading_2 18 rfl rfl)
theorem dX1_fading_67 : decode cX1_fading 67 = .ok (.iload_n 2, 1) := dk_28 (dk_at dksX1_fading_2 19 rfl rfl)
theorem dX1_fading_68 : decode cX1_fading 68 = .ok (.iadd, 1) := dk_96 (dk_at dksX1_fading_2 20 rfl rfl)
theorem dX1_fading_69 : decode cX1_fading 69 = .ok (.iconst 3, 1) := dk_6 (dk_at dksX1_fading_2 21 rfl rfl)
theorem dX1_fading_70 : decode cX1_fading 70 = .ok (.isub, 1) := dk_100 (dk_at dksX1_fading_2 22 rfl rfl)
theorem dX1_fading_71 : decode cX1_fading 71 = .ok (.iaload, 1) := dk_46 (dk_at dksX1_fading_2 23 rfl rfl)
theorem dX1_fading_72 : decode cX1_fading 72 = .ok (.iadd, 1) := dk_96 (dk_at dksX1_fading_3 0 rfl rfl)
theorem dX1_fading_73 : decode cX1_fading 73 = .ok (.istore 4, 2) := dk_54 4 (dk_at dksX1_fading_3 1 rfl rfl)
theorem dX1_fading_75 : decode cX1_fading 75 = .ok (.iconst 0, 1) := dk_3 (dk_at dksX1_fading_3 3 rfl rfl)
theorem dX1_fading_76 : decode cX1_fading 76 = .ok (.istore 5, 2) := dk_54 5 (dk_at dksX1_fading_3 4 rfl rfl)
theorem dX1_fading_78 : decode cX1_fading 78 = .ok (.iconst 0, 1) := dk_3 (dk_at dksX1_fading_3 6 rfl rfl)
theorem dX1_fading_79 : decode cX1_fading 79 = .ok (.istore 6, 2) := dk_54 6 (dk_at dksX1_fading_3 7 rfl rfl)
theorem dX1_fading_81 : decode cX1_fading 81 = .ok (.iload 6, 2) := dk_21 6 (dk_at dksX1_fading_3 9 rfl rfl)
theorem dX1_fading_83 : decode cX1_fading 83 = .ok (.iload_n 2, 1) := dk_28 (dk_at dksX1_fading_3 11 rfl rfl)
theorem dX1_fading_84 : decode cX1_fading 84 = .ok (.if_icmp .ge 89, 3) := dk_162 0 89 (dk_at dksX1_fading_3 12 rfl rfl)
theorem dX1_fading_87 : decode cX1_fading 87 = .ok (.iload 6, 2) := dk_21 6 (dk_at dksX1_fading_3 15 rfl rfl)
theorem dX1_fading_89 : decode cX1_fading 89 = .ok (.iconst 1, 1) := dk_4 (dk_at dksX1_fading_3 17 rfl rfl)
theorem dX1_fading_90 : decode cX1_fading 90 = .ok (.iadd, 1) := dk_96 (dk_at dksX1_fading_3 18 rfl rfl)
theorem dX1_fading_91 : decode cX1_fading 91 = .ok (.istore 7, 2) := dk_54 7 (dk_at dksX1_fading_3 19 rfl rfl)
theorem dX1_fading_93 : decode cX1_fading 93 = .ok (.iload 7, 2) := dk_21 7 (dk_at dksX1_fading_3 21 rfl rfl)
theorem dX1_fading_95 : decode cX1_fading 95 = .ok (.iload_n 2, 1) := dk_28 (dk_at dksX1_fading_3 23 rfl rfl)
theorem dX1_fading_96 : decode cX1_fading 96 = .ok (.if_icmp .ge 71, 3) := dk_162 0 71 (dk_at dksX1_fading_4 0 rfl rfl)
theorem dX1_fading_99 : decode cX1_fading 99 = .ok (.iload 7, 2) := dk_21 7 (dk_at dksX1_fading_4 3 rfl rfl)
theorem dX1_fading_101 : decode cX1_fading 101 = .ok (.iconst 1, 1) := dk_4 (dk_at dksX1_fading_4 5 rfl rfl)
theorem dX1_fading_102 : decode cX1_fading 102 = .ok (.iadd, 1) := dk_96 (dk_at dksX1_fading_4 6 rfl rfl)
theorem dX1_fading_103 : decode cX1_fading 103 = .ok (.istore 8, 2) := dk_54 8 (dk_at dksX1_fading_4 7 rfl rfl)
theorem dX1_fading_105 : decode cX1_fading 105 = .ok (.iload 8, 2) := dk_21 8 (dk_at dksX1_fading_4 9 rfl rfl)
theorem dX1_fading_107 : decode cX1_fading 107 = .ok (.iload_n 2, 1) := dk_28 (dk_at dksX1_fading_4 11 rfl rfl)
theorem dX1_fading_108 : decode cX1_fading 108 = .ok (.if_icmp .ge 53, 3) := dk_162 0 53 (dk_at dksX1_fading_4 12 rfl rfl)
theorem dX1_fading_111 : decode cX1_fading 111 = .ok (.iload 5, 2) := dk_21 5 (dk_at dksX1_fading_4 15 rfl rfl)
theorem dX1_fading_113 : decode cX1_fading 113 = .ok (.aload_n 0, 1) := dk_42 (dk_at dksX1_fading_4 17 rfl rfl)
theorem dX1_fading_114 : decode cX1_fading 114 = .ok (.getfield 86, 3) := dk_180 0 86 (dk_at dksX1_fading_4 18 rfl rfl)
theorem dX1_fading_117 : decode cX1_fading 117 = .ok (.iload_n 3, 1) := dk_29 (dk_at dksX1_fading_4 21 rfl rfl)
theorem dX1_fading_118 : decode cX1_fading 118 = .ok (.iload 6, 2) := dk_21 6 (dk_at dksX1_fading_4 22 rfl rfl)
theorem dX1_fading_120 : decode cX1_fading 120 = .ok (.iadd, 1) := dk_96 (dk_at dksX1_fading_5 0 rfl rfl)
theorem dX1_fading_121 : decode cX1_fading 121 = .ok (.iaload, 1) := dk_46 (dk_at dksX1_fading_5 1 rfl rfl)
theorem dX1_fading_122 : decode cX1_fading 122 = .ok (.aload_n 0, 1) := dk_42 (dk_at dksX1_fading_5 2 rfl rfl)
theorem dX1_fading_123 : decode cX1_fading 123 = .ok (.getfield 86, 3) := dk_180 0 86 (dk_at dksX1_fading_5 3 rfl rfl)
theorem dX1_fading_126 : decode cX1_fading 126 = .ok (.iload_n 3, 1) := dk_29 (dk_at dksX1_fading_5 6 rfl rfl)
theorem dX1_fading_127 : decode cX1_fading 127 = .ok (.iload 7, 2) := dk_21 7 (dk_at dksX1_fading_5 7 rfl rfl)
theorem dX1_fading_129 : decode cX1_fading 129 = .ok (.iadd, 1) := dk_96 (dk_at dksX1_fading_5 9 rfl rfl)
theorem dX1_fading_130 : decode cX1_fading 130 = .ok (.iaload, 1) := dk_46 (dk_at dksX1_fading_5 10 rfl rfl)
theorem dX1_fading_131 : decode cX1_fading 131 = .ok (.iadd, 1) := dk_96 (dk_at dksX1_fading_5 11 rfl rfl)
theorem dX1_fading_132 : decode cX1_fading 132 = .ok (.aload_n 0, 1) := dk_42 (dk_at dksX1_fading_5 12 rfl rfl)
theorem dX1_fading_133 : decode cX1_fading 133 = .ok (.getfield 86, 3) := dk_180 0 86 (dk_at dksX1_fading_5 13 rfl rfl)
theorem dX1_fading_136 : decode cX1_fading 136 = .ok (.iload_n 3, 1) := dk_29 (dk_at dksX1_fading_5 16 rfl rfl)
theorem dX1_fading_137 : decode cX1_fading 137 = .ok (.iload 8, 2) := dk_21 8 (dk_at dksX1_fading_5 17 rfl rfl)
theorem dX1_fading_139 : decode cX1_fading 139 = .ok (.iadd, 1) := dk_96 (dk_at dksX1_fading_5 19 rfl rfl)
theorem dX1_fading_140 : decode cX1_fading 140 = .ok (.iaload, 1) := dk_46 (dk_at dksX1_fading_5 20 rfl rfl)
theorem dX1_fading_141 : decode cX1_fading 141 = .ok (.iadd, 1) := dk_96 (dk_at dksX1_fading_5 21 rfl rfl)
theorem dX1_fading_142 : decode cX1_fading 142 = .ok (.iload 4, 2) := dk_21 4 (dk_at dksX1_fading_5 22 rfl rfl)
theorem dX1_fading_144 : decode cX1_fading 144 = .ok (.if_icmp .lt 7, 3) := dk_161 0 7 (dk_at dksX1_fading_6 0 rfl rfl)
theorem dX1_fading_147 : decode cX1_fading 147 = .ok (.iconst 1, 1) := dk_4 (dk_at dksX1_fading_6 3 rfl rfl)
theorem dX1_fading_148 : decode cX1_fading 148 = .ok (.goto 4, 3) := dk_167 0 4 (dk_at dksX1_fading_6 4 rfl rfl)
theorem dX1_fading_151 : decode cX1_fading 151 = .ok (.iconst 0, 1) := dk_3 (dk_at dksX1_fading_6 7 rfl rfl)
theorem dX1_fading_152 : decode cX1_fading 152 = .ok (.iadd, 1) := dk_96 (dk_at dksX1_fading_6 8 rfl rfl)
theorem dX1_fading_153 : decode cX1_fading 153 = .ok (.istore 5, 2) := dk_54 5 (dk_at dksX1_fading_6 9 rfl rfl)
theorem dX1_fading_155 : decode cX1_fading 155 = .ok (.iinc 8 1, 3) := dk_132 8 1 (dk_at dksX1_fading_6 11 rfl rfl)
theorem dX1_fading_158 : decode cX1_fading 158 = .ok (.goto (-53), 3) := dk_167 255 203 (dk_at dksX1_fading_6 14 rfl rfl)
theorem dX1_fading_161 : decode cX1_fading 161 = .ok (.iinc 7 1, 3) := dk_132 7 1 (dk_at dksX1_fading_6 17 rfl rfl)
theorem dX1_fading_164 : decode cX1_fading 164 = .ok (.goto (-71), 3) := dk_167 255 185 (dk_at dksX1_fading_6 20 rfl rfl)
theorem dX1_fading_167 : decode cX1_fading 167 = .ok (.iinc 6 1, 3) := dk_132 6 1 (dk_at dksX1_fading_7 0 rfl rfl)
theorem dX1_fading_170 : decode cX1_fading 170 = .ok (.goto (-89), 3) := dk_167 255 167 (dk_at dksX1_fading_7 3 rfl rfl)
theorem dX1_fading_173 : decode cX1_fading 173 = .ok (.iload 5, 2) := dk_21 5 (dk_at dksX1_fading_7 6 rfl rfl)
theorem dX1_fading_175 : decode cX1_fading 175 = .ok (.ireturn, 1) := dk_172 (dk_at dksX1_fading_7 8 rfl rfl)
abbrev cX1_probe : ByteArray := prog_1_method_58_code
def yX1_probe : MethodName := ⟨RX1, "probe", "(III)I"⟩
def dkwX1_probe_4 : List UInt8 := [42, 180, 0, 145, 29, 79, 42, 89, 180, 0, 145, 4, 96, 181, 0, 145, 42, 180, 0, 145, 172]
abbrev dktX1_probe_4 : List UInt8 := dkwX1_probe_4 ++ []
def dkwX1_probe_3 : List UInt8 := [42, 180, 0, 92, 42, 180, 0, 145, 27, 79, 42, 180, 0, 95, 42, 180, 0, 145, 28, 79, 42, 180, 0, 98]
abbrev dktX1_probe_3 : List UInt8 := dkwX1_probe_3 ++ dktX1_probe_4
def dkwX1_probe_2 : List UInt8 := [154, 0, 9, 42, 5, 182, 0, 118, 172, 42, 180, 0, 145, 16, 16, 160, 0, 9, 42, 6, 182, 0, 118, 172]
abbrev dktX1_probe_2 : List UInt8 := dkwX1_probe_2 ++ dktX1_probe_3
def dkwX1_probe_1 : List UInt8 := [180, 0, 182, 27, 50, 180, 1, 130, 17, 3, 231, 184, 0, 114, 153, 0, 13, 29, 3, 16, 99, 184, 0, 114]
abbrev dktX1_probe_1 : List UInt8 := dkwX1_probe_1 ++ dktX1_probe_2
def dkwX1_probe_0 : List UInt8 := [42, 182, 0, 104, 42, 27, 182, 0, 172, 154, 0, 9, 42, 4, 182, 0, 118, 172, 28, 42, 180, 0, 129]
abbrev dktX1_probe_0 : List UInt8 := dkwX1_probe_0 ++ dktX1_probe_1
theorem dksX1_probe_0 : cX1_probe.data.toList.drop 0 = dktX1_probe_0 := by decide +kernel
theorem dksX1_probe_1 : cX1_probe.data.toList.drop 23 = dktX1_probe_1 := dk_seg dksX1_probe_0 23 rfl rfl
theorem dksX1_probe_2 : cX1_probe.data.toList.drop 47 = dktX1_probe_2 := dk_seg dksX1_probe_1 24 rfl rfl
theorem dksX1_probe_3 : cX1_probe.data.toList.drop 71 = dktX1_probe_3 := dk_seg dksX1_probe_2 24 rfl rfl
theorem dksX1_probe_4 : cX1_probe.data.toList.drop 95 = dktX1_probe_4 := dk_seg dksX1_probe_3 24 rfl rfl
theorem dX1_probe_0 : decode cX1_probe 0 = .ok (.aload_n 0, 1) := dk_42 (dk_at dksX1_probe_0 0 rfl rfl)
theorem dX1_probe_1 : decode cX1_probe 1 = .ok (.invokevirtual 104, 3) := dk_182 0 104 (dk_at dksX1_probe_0 1 rfl rfl)
theorem dX1_probe_4 : decode cX1_probe 4 = .ok (.aload_n 0, 1) := dk_42 (dk_at dksX1_probe_0 4 rfl rfl)
theorem dX1_probe_5 : decode cX1_probe 5 = .ok (.iload_n 1, 1) := dk_27 (dk_at dksX1_probe_0 5 rfl rfl)
theorem dX1_probe_6 : decode cX1_probe 6 = .ok (.invokevirtual 172, 3) := dk_182 0 172 (dk_at dksX1_probe_0 6 rfl rfl)
theorem dX1_probe_9 : decode cX1_probe 9 = .ok (.ifCond .ne 9, 3) := dk_154 0 9 (dk_at dksX1_probe_0 9 rfl rfl)
theorem dX1_probe_12 : decode cX1_probe 12 = .ok (.aload_n 0, 1) := dk_42 (dk_at dksX1_probe_0 12 rfl rfl)
theorem dX1_probe_13 : decode cX1_probe 13 = .ok (.iconst 1, 1) := dk_4 (dk_at dksX1_probe_0 13 rfl rfl)
theorem dX1_probe_14 : decode cX1_probe 14 = .ok (.invokevirtual 118, 3) := dk_182 0 118 (dk_at dksX1_probe_0 14 rfl rfl)
theorem dX1_probe_17 : decode cX1_probe 17 = .ok (.ireturn, 1) := dk_172 (dk_at dksX1_probe_0 17 rfl rfl)
theorem dX1_probe_18 : decode cX1_probe 18 = .ok (.iload_n 2, 1) := dk_28 (dk_at dksX1_probe_0 18 rfl rfl)
theorem dX1_probe_19 : decode cX1_probe 19 = .ok (.aload_n 0, 1) := dk_42 (dk_at dksX1_probe_0 19 rfl rfl)
theorem dX1_probe_20 : decode cX1_probe 20 = .ok (.getfield 129, 3) := dk_180 0 129 (dk_at dksX1_probe_0 20 rfl rfl)
theorem dX1_probe_23 : decode cX1_probe 23 = .ok (.getfield 182, 3) := dk_180 0 182 (dk_at dksX1_probe_1 0 rfl rfl)
theorem dX1_probe_26 : decode cX1_probe 26 = .ok (.iload_n 1, 1) := dk_27 (dk_at dksX1_probe_1 3 rfl rfl)
theorem dX1_probe_27 : decode cX1_probe 27 = .ok (.aaload, 1) := dk_50 (dk_at dksX1_probe_1 4 rfl rfl)
theorem dX1_probe_28 : decode cX1_probe 28 = .ok (.getfield 386, 3) := dk_180 1 130 (dk_at dksX1_probe_1 5 rfl rfl)
theorem dX1_probe_31 : decode cX1_probe 31 = .ok (.sipush 999, 3) := dk_17 3 231 (dk_at dksX1_probe_1 8 rfl rfl)
theorem dX1_probe_34 : decode cX1_probe 34 = .ok (.invokestatic 114, 3) := dk_184 0 114 (dk_at dksX1_probe_1 11 rfl rfl)
theorem dX1_probe_37 : decode cX1_probe 37 = .ok (.ifCond .eq 13, 3) := dk_153 0 13 (dk_at dksX1_probe_1 14 rfl rfl)
theorem dX1_probe_40 : decode cX1_probe 40 = .ok (.iload_n 3, 1) := dk_29 (dk_at dksX1_probe_1 17 rfl rfl)
theorem dX1_probe_41 : decode cX1_probe 41 = .ok (.iconst 0, 1) := dk_3 (dk_at dksX1_probe_1 18 rfl rfl)
theorem dX1_probe_42 : decode cX1_probe 42 = .ok (.bipush 99, 2) := dk_16 99 (dk_at dksX1_probe_1 19 rfl rfl)
theorem dX1_probe_44 : decode cX1_probe 44 = .ok (.invokestatic 114, 3) := dk_184 0 114 (dk_at dksX1_probe_1 21 rfl rfl)
theorem dX1_probe_47 : decode cX1_probe 47 = .ok (.ifCond .ne 9, 3) := dk_154 0 9 (dk_at dksX1_probe_2 0 rfl rfl)
theorem dX1_probe_50 : decode cX1_probe 50 = .ok (.aload_n 0, 1) := dk_42 (dk_at dksX1_probe_2 3 rfl rfl)
theorem dX1_probe_51 : decode cX1_probe 51 = .ok (.iconst 2, 1) := dk_5 (dk_at dksX1_probe_2 4 rfl rfl)
theorem dX1_probe_52 : decode cX1_probe 52 = .ok (.invokevirtual 118, 3) := dk_182 0 118 (dk_at dksX1_probe_2 5 rfl rfl)
theorem dX1_probe_55 : decode cX1_probe 55 = .ok (.ireturn, 1) := dk_172 (dk_at dksX1_probe_2 8 rfl rfl)
theorem dX1_probe_56 : decode cX1_probe 56 = .ok (.aload_n 0, 1) := dk_42 (dk_at dksX1_probe_2 9 rfl rfl)
theorem dX1_probe_57 : decode cX1_probe 57 = .ok (.getfield 145, 3) := dk_180 0 145 (dk_at dksX1_probe_2 10 rfl rfl)
theorem dX1_probe_60 : decode cX1_probe 60 = .ok (.bipush 16, 2) := dk_16 16 (dk_at dksX1_probe_2 13 rfl rfl)
theorem dX1_probe_62 : decode cX1_probe 62 = .ok (.if_icmp .ne 9, 3) := dk_160 0 9 (dk_at dksX1_probe_2 15 rfl rfl)
theorem dX1_probe_65 : decode cX1_probe 65 = .ok (.aload_n 0, 1) := dk_42 (dk_at dksX1_probe_2 18 rfl rfl)
theorem dX1_probe_66 : decode cX1_probe 66 = .ok (.iconst 3, 1) := dk_6 (dk_at dksX1_probe_2 19 rfl rfl)
theorem dX1_probe_67 : decode cX1_probe 67 = .ok (.invokevirtual 118, 3) := dk_182 0 118 (dk_at dksX1_probe_2 20 rfl rfl)
theorem dX1_probe_70 : decode cX1_probe 70 = .ok (.ireturn, 1) := dk_172 (dk_at dksX1_probe_2 23 rfl rfl)
theorem dX1_probe_71 : decode cX1_probe 71 = .ok (.aload_n 0, 1) := dk_42 (dk_at dksX1_probe_3 0 rfl rfl)
theorem dX1_probe_72 : decode cX1_probe 72 = .ok (.getfield 92, 3) := dk_180 0 92 (dk_at dksX1_probe_3 1 rfl rfl)
theorem dX1_probe_75 : decode cX1_probe 75 = .ok (.aload_n 0, 1) := dk_42 (dk_at dksX1_probe_3 4 rfl rfl)
theorem dX1_probe_76 : decode cX1_probe 76 = .ok (.getfield 145, 3) := dk_180 0 145 (dk_at dksX1_probe_3 5 rfl rfl)
theorem dX1_probe_79 : decode cX1_probe 79 = .ok (.iload_n 1, 1) := dk_27 (dk_at dksX1_probe_3 8 rfl rfl)
theorem dX1_probe_80 : decode cX1_probe 80 = .ok (.iastore, 1) := dk_79 (dk_at dksX1_probe_3 9 rfl rfl)
theorem dX1_probe_81 : decode cX1_probe 81 = .ok (.aload_n 0, 1) := dk_42 (dk_at dksX1_probe_3 10 rfl rfl)
theorem dX1_probe_82 : decode cX1_probe 82 = .ok (.getfield 95, 3) := dk_180 0 95 (dk_at dksX1_probe_3 11 rfl rfl)
theorem dX1_probe_85 : decode cX1_probe 85 = .ok (.aload_n 0, 1) := dk_42 (dk_at dksX1_probe_3 14 rfl rfl)
theorem dX1_probe_86 : decode cX1_probe 86 = .ok (.getfield 145, 3) := dk_180 0 145 (dk_at dksX1_probe_3 15 rfl rfl)
theorem dX1_probe_89 : decode cX1_probe 89 = .ok (.iload_n 2, 1) := dk_28 (dk_at dksX1_probe_3 18 rfl rfl)
theorem dX1_probe_90 : decode cX1_probe 90 = .ok (.iastore, 1) := dk_79 (dk_at dksX1_probe_3 19 rfl rfl)
theorem dX1_probe_91 : decode cX1_probe 91 = .ok (.aload_n 0, 1) := dk_42 (dk_at dksX1_probe_3 20 rfl rfl)
theorem dX1_probe_92 : decode cX1_probe 92 = .ok (.getfield 98, 3) := dk_180 0 98 (dk_at dksX1_probe_3 21 rfl rfl)
theorem dX1_probe_95 : decode cX1_probe 95 = .ok (.aload_n 0, 1) := dk_42 (dk_at dksX1_probe_4 0 rfl rfl)
theorem dX1_probe_96 : decode cX1_probe 96 = .ok (.getfield 145, 3) := dk_180 0 145 (dk_at dksX1_probe_4 1 rfl rfl)
theorem dX1_probe_99 : decode cX1_probe 99 = .ok (.iload_n 3, 1) := dk_29 (dk_at dksX1_probe_4 4 rfl rfl)
theorem dX1_probe_100 : decode cX1_probe 100 = .ok (.iastore, 1) := dk_79 (dk_at dksX1_probe_4 5 rfl rfl)
theorem dX1_probe_101 : decode cX1_probe 101 = .ok (.aload_n 0, 1) := dk_42 (dk_at dksX1_probe_4 6 rfl rfl)
theorem dX1_probe_102 : decode cX1_probe 102 = .ok (.dup, 1) := dk_89 (dk_at dksX1_probe_4 7 rfl rfl)
theorem dX1_probe_103 : decode cX1_probe 103 = .ok (.getfield 145, 3) := dk_180 0 145 (dk_at dksX1_probe_4 8 rfl rfl)
theorem dX1_probe_106 : decode cX1_probe 106 = .ok (.iconst 1, 1) := dk_4 (dk_at dksX1_probe_4 11 rfl rfl)
theorem dX1_probe_107 : decode cX1_probe 107 = .ok (.iadd, 1) := dk_96 (dk_at dksX1_probe_4 12 rfl rfl)
theorem dX1_probe_108 : decode cX1_probe 108 = .ok (.putfield 145, 3) := dk_181 0 145 (dk_at dksX1_probe_4 13 rfl rfl)
theorem dX1_probe_111 : decode cX1_probe 111 = .ok (.aload_n 0, 1) := dk_42 (dk_at dksX1_probe_4 16 rfl rfl)
theorem dX1_probe_112 : decode cX1_probe 112 = .ok (.getfield 145, 3) := dk_180 0 145 (dk_at dksX1_probe_4 17 rfl rfl)
theorem dX1_probe_115 : decode cX1_probe 115 = .ok (.ireturn, 1) := dk_172 (dk_at dksX1_probe_4 20 rfl rfl)
abbrev cX1_faulty : ByteArray := prog_1_method_59_code
def yX1_faulty : MethodName := ⟨RX1, "faulty", "(I)I"⟩
def dkwX1_faulty_4 : List UInt8 := [164, 0, 9, 4, 29, 120, 167, 0, 4, 3, 128, 61, 132, 3, 1, 167, 255, 186, 28, 172]
abbrev dktX1_faulty_4 : List UInt8 := dkwX1_faulty_4 ++ []
def dkwX1_faulty_3 : List UInt8 := [180, 0, 98, 29, 46, 100, 54, 4, 28, 21, 4, 156, 0, 9, 21, 4, 116, 167, 0, 5, 21, 4, 27]
abbrev dktX1_faulty_3 : List UInt8 := dkwX1_faulty_3 ++ dktX1_faulty_4
def dkwX1_faulty_2 : List UInt8 := [180, 0, 129, 180, 0, 182, 42, 180, 0, 92, 29, 46, 50, 42, 180, 0, 95, 29, 46, 182, 0, 217, 42]
abbrev dktX1_faulty_2 : List UInt8 := dkwX1_faulty_2 ++ dktX1_faulty_3
def dkwX1_faulty_1 : List UInt8 := [154, 0, 9, 42, 5, 182, 0, 118, 172, 3, 61, 3, 62, 29, 42, 180, 0, 145, 162, 0, 68, 42]
abbrev dktX1_faulty_1 : List UInt8 := dkwX1_faulty_1 ++ dktX1_faulty_2
def dkwX1_faulty_0 : List UInt8 := [42, 182, 0, 104, 42, 180, 0, 129, 199, 0, 9, 42, 4, 182, 0, 118, 172, 27, 3, 16, 99, 184, 0, 114]
abbrev dktX1_faulty_0 : List UInt8 := dkwX1_faulty_0 ++ dktX1_faulty_1
theorem dksX1_faulty_0 : cX1_faulty.data.toList.drop 0 = dktX1_faulty_0 := by decide +kernel
theorem dksX1_faulty_1 : cX1_faulty.data.toList.drop 24 = dktX1_faulty_1 := dk_seg dksX1_faulty_0 24 rfl rfl
theorem dksX1_faulty_2 : cX1_faulty.data.toList.drop 46 = dktX1_faulty_2 := dk_seg dksX1_faulty_1 22 rfl rfl
theorem dksX1_faulty_3 : cX1_faulty.data.toList.drop 69 = dktX1_faulty_3 := dk_seg dksX1_faulty_2 23 rfl rfl
theorem dksX1_faulty_4 : cX1_faulty.data.toList.drop 92 = dktX1_faulty_4 := dk_seg dksX1_faulty_3 23 rfl rfl
theorem dX1_faulty_0 : decode cX1_faulty 0 = .ok (.aload_n 0, 1) := dk_42 (dk_at dksX1_faulty_0 0 rfl rfl)
theorem dX1_faulty_1 : decode cX1_faulty 1 = .ok (.invokevirtual 104, 3) := dk_182 0 104 (dk_at dksX1_faulty_0 1 rfl rfl)
theorem dX1_faulty_4 : decode cX1_faulty 4 = .ok (.aload_n 0, 1) := dk_42 (dk_at dksX1_faulty_0 4 rfl rfl)
theorem dX1_faulty_5 : decode cX1_faulty 5 = .ok (.getfield 129, 3) := dk_180 0 129 (dk_at dksX1_faulty_0 5 rfl rfl)
theorem dX1_faulty_8 : decode cX1_faulty 8 = .ok (.ifnonnull 9, 3) := dk_199 0 9 (dk_at dksX1_faulty_0 8 rfl rfl)
theorem dX1_faulty_11 : decode cX1_faulty 11 = .ok (.aload_n 0, 1) := dk_42 (dk_at dksX1_faulty_0 11 rfl rfl)
theorem dX1_faulty_12 : decode cX1_faulty 12 = .ok (.iconst 1, 1) := dk_4 (dk_at dksX1_faulty_0 12 rfl rfl)
theorem dX1_faulty_13 : decode cX1_faulty 13 = .ok (.invokevirtual 118, 3) := dk_182 0 118 (dk_at dksX1_faulty_0 13 rfl rfl)
theorem dX1_faulty_16 : decode cX1_faulty 16 = .ok (.ireturn, 1) := dk_172 (dk_at dksX1_faulty_0 16 rfl rfl)
theorem dX1_faulty_17 : decode cX1_faulty 17 = .ok (.iload_n 1, 1) := dk_27 (dk_at dksX1_faulty_0 17 rfl rfl)
theorem dX1_faulty_18 : decode cX1_faulty 18 = .ok (.iconst 0, 1) := dk_3 (dk_at dksX1_faulty_0 18 rfl rfl)
theorem dX1_faulty_19 : decode cX1_faulty 19 = .ok (.bipush 99, 2) := dk_16 99 (dk_at dksX1_faulty_0 19 rfl rfl)
theorem dX1_faulty_21 : decode cX1_faulty 21 = .ok (.invokestatic 114, 3) := dk_184 0 114 (dk_at dksX1_faulty_0 21 rfl rfl)
theorem dX1_faulty_24 : decode cX1_faulty 24 = .ok (.ifCond .ne 9, 3) := dk_154 0 9 (dk_at dksX1_faulty_1 0 rfl rfl)
theorem dX1_faulty_27 : decode cX1_faulty 27 = .ok (.aload_n 0, 1) := dk_42 (dk_at dksX1_faulty_1 3 rfl rfl)
theorem dX1_faulty_28 : decode cX1_faulty 28 = .ok (.iconst 2, 1) := dk_5 (dk_at dksX1_faulty_1 4 rfl rfl)
theorem dX1_faulty_29 : decode cX1_faulty 29 = .ok (.invokevirtual 118, 3) := dk_182 0 118 (dk_at dksX1_faulty_1 5 rfl rfl)
theorem dX1_faulty_32 : decode cX1_faulty 32 = .ok (.ireturn, 1) := dk_172 (dk_at dksX1_faulty_1 8 rfl rfl)
theorem dX1_faulty_33 : decode cX1_faulty 33 = .ok (.iconst 0, 1) := dk_3 (dk_at dksX1_faulty_1 9 rfl rfl)
theorem dX1_faulty_34 : decode cX1_faulty 34 = .ok (.istore_n 2, 1) := dk_61 (dk_at dksX1_faulty_1 10 rfl rfl)
theorem dX1_faulty_35 : decode cX1_faulty 35 = .ok (.iconst 0, 1) := dk_3 (dk_at dksX1_faulty_1 11 rfl rfl)
theorem dX1_faulty_36 : decode cX1_faulty 36 = .ok (.istore_n 3, 1) := dk_62 (dk_at dksX1_faulty_1 12 rfl rfl)
theorem dX1_faulty_37 : decode cX1_faulty 37 = .ok (.iload_n 3, 1) := dk_29 (dk_at dksX1_faulty_1 13 rfl rfl)
theorem dX1_faulty_38 : decode cX1_faulty 38 = .ok (.aload_n 0, 1) := dk_42 (dk_at dksX1_faulty_1 14 rfl rfl)
theorem dX1_faulty_39 : decode cX1_faulty 39 = .ok (.getfield 145, 3) := dk_180 0 145 (dk_at dksX1_faulty_1 15 rfl rfl)
theorem dX1_faulty_42 : decode cX1_faulty 42 = .ok (.if_icmp .ge 68, 3) := dk_162 0 68 (dk_at dksX1_faulty_1 18 rfl rfl)
theorem dX1_faulty_45 : decode cX1_faulty 45 = .ok (.aload_n 0, 1) := dk_42 (dk_at dksX1_faulty_1 21 rfl rfl)
theorem dX1_faulty_46 : decode cX1_faulty 46 = .ok (.getfield 129, 3) := dk_180 0 129 (dk_at dksX1_faulty_2 0 rfl rfl)
theorem dX1_faulty_49 : decode cX1_faulty 49 = .ok (.getfield 182, 3) := dk_180 0 182 (dk_at dksX1_faulty_2 3 rfl rfl)
theorem dX1_faulty_52 : decode cX1_faulty 52 = .ok (.aload_n 0, 1) := dk_42 (dk_at dksX1_faulty_2 6 rfl rfl)
theorem dX1_faulty_53 : decode cX1_faulty 53 = .ok (.getfield 92, 3) := dk_180 0 92 (dk_at dksX1_faulty_2 7 rfl rfl)
theorem dX1_faulty_56 : decode cX1_faulty 56 = .ok (.iload_n 3, 1) := dk_29 (dk_at dksX1_faulty_2 10 rfl rfl)
theorem dX1_faulty_57 : decode cX1_faulty 57 = .ok (.iaload, 1) := dk_46 (dk_at dksX1_faulty_2 11 rfl rfl)
theorem dX1_faulty_58 : decode cX1_faulty 58 = .ok (.aaload, 1) := dk_50 (dk_at dksX1_faulty_2 12 rfl rfl)
theorem dX1_faulty_59 : decode cX1_faulty 59 = .ok (.aload_n 0, 1) := dk_42 (dk_at dksX1_faulty_2 13 rfl rfl)
theorem dX1_faulty_60 : decode cX1_faulty 60 = .ok (.getfield 95, 3) := dk_180 0 95 (dk_at dksX1_faulty_2 14 rfl rfl)
theorem dX1_faulty_63 : decode cX1_faulty 63 = .ok (.iload_n 3, 1) := dk_29 (dk_at dksX1_faulty_2 17 rfl rfl)
theorem dX1_faulty_64 : decode cX1_faulty 64 = .ok (.iaload, 1) := dk_46 (dk_at dksX1_faulty_2 18 rfl rfl)
theorem dX1_faulty_65 : decode cX1_faulty 65 = .ok (.invokevirtual 217, 3) := dk_182 0 217 (dk_at dksX1_faulty_2 19 rfl rfl)
theorem dX1_faulty_68 : decode cX1_faulty 68 = .ok (.aload_n 0, 1) := dk_42 (dk_at dksX1_faulty_2 22 rfl rfl)
theorem dX1_faulty_69 : decode cX1_faulty 69 = .ok (.getfield 98, 3) := dk_180 0 98 (dk_at dksX1_faulty_3 0 rfl rfl)
theorem dX1_faulty_72 : decode cX1_faulty 72 = .ok (.iload_n 3, 1) := dk_29 (dk_at dksX1_faulty_3 3 rfl rfl)
theorem dX1_faulty_73 : decode cX1_faulty 73 = .ok (.iaload, 1) := dk_46 (dk_at dksX1_faulty_3 4 rfl rfl)
theorem dX1_faulty_74 : decode cX1_faulty 74 = .ok (.isub, 1) := dk_100 (dk_at dksX1_faulty_3 5 rfl rfl)
theorem dX1_faulty_75 : decode cX1_faulty 75 = .ok (.istore 4, 2) := dk_54 4 (dk_at dksX1_faulty_3 6 rfl rfl)
theorem dX1_faulty_77 : decode cX1_faulty 77 = .ok (.iload_n 2, 1) := dk_28 (dk_at dksX1_faulty_3 8 rfl rfl)
theorem dX1_faulty_78 : decode cX1_faulty 78 = .ok (.iload 4, 2) := dk_21 4 (dk_at dksX1_faulty_3 9 rfl rfl)
theorem dX1_faulty_80 : decode cX1_faulty 80 = .ok (.ifCond .ge 9, 3) := dk_156 0 9 (dk_at dksX1_faulty_3 11 rfl rfl)
theorem dX1_faulty_83 : decode cX1_faulty 83 = .ok (.iload 4, 2) := dk_21 4 (dk_at dksX1_faulty_3 14 rfl rfl)
theorem dX1_faulty_85 : decode cX1_faulty 85 = .ok (.ineg, 1) := dk_116 (dk_at dksX1_faulty_3 16 rfl rfl)
theorem dX1_faulty_86 : decode cX1_faulty 86 = .ok (.goto 5, 3) := dk_167 0 5 (dk_at dksX1_faulty_3 17 rfl rfl)
theorem dX1_faulty_89 : decode cX1_faulty 89 = .ok (.iload 4, 2) := dk_21 4 (dk_at dksX1_faulty_3 20 rfl rfl)
theorem dX1_faulty_91 : decode cX1_faulty 91 = .ok (.iload_n 1, 1) := dk_27 (dk_at dksX1_faulty_3 22 rfl rfl)
theorem dX1_faulty_92 : decode cX1_faulty 92 = .ok (.if_icmp .le 9, 3) := dk_164 0 9 (dk_at dksX1_faulty_4 0 rfl rfl)
theorem dX1_faulty_95 : decode cX1_faulty 95 = .ok (.iconst 1, 1) := dk_4 (dk_at dksX1_faulty_4 3 rfl rfl)
theorem dX1_faulty_96 : decode cX1_faulty 96 = .ok (.iload_n 3, 1) := dk_29 (dk_at dksX1_faulty_4 4 rfl rfl)
theorem dX1_faulty_97 : decode cX1_faulty 97 = .ok (.ishl, 1) := dk_120 (dk_at dksX1_faulty_4 5 rfl rfl)
theorem dX1_faulty_98 : decode cX1_faulty 98 = .ok (.goto 4, 3) := dk_167 0 4 (dk_at dksX1_faulty_4 6 rfl rfl)
theorem dX1_faulty_101 : decode cX1_faulty 101 = .ok (.iconst 0, 1) := dk_3 (dk_at dksX1_faulty_4 9 rfl rfl)
theorem dX1_faulty_102 : decode cX1_faulty 102 = .ok (.ior, 1) := dk_128 (dk_at dksX1_faulty_4 10 rfl rfl)
theorem dX1_faulty_103 : decode cX1_faulty 103 = .ok (.istore_n 2, 1) := dk_61 (dk_at dksX1_faulty_4 11 rfl rfl)
theorem dX1_faulty_104 : decode cX1_faulty 104 = .ok (.iinc 3 1, 3) := dk_132 3 1 (dk_at dksX1_faulty_4 12 rfl rfl)
theorem dX1_faulty_107 : decode cX1_faulty 107 = .ok (.goto (-70), 3) := dk_167 255 186 (dk_at dksX1_faulty_4 15 rfl rfl)
theorem dX1_faulty_110 : decode cX1_faulty 110 = .ok (.iload_n 2, 1) := dk_28 (dk_at dksX1_faulty_4 18 rfl rfl)
theorem dX1_faulty_111 : decode cX1_faulty 111 = .ok (.ireturn, 1) := dk_172 (dk_at dksX1_faulty_4 19 rfl rfl)
abbrev cX1_firstCold : ByteArray := prog_1_method_60_code
def yX1_firstCold : MethodName := ⟨RX1, "firstCold", "()I"⟩
def dkwX1_firstCold_3 : List UInt8 := [132, 2, 1, 167, 255, 206, 27, 172]
abbrev dktX1_firstCold_3 : List UInt8 := dkwX1_firstCold_3 ++ []
def dkwX1_firstCold_2 : List UInt8 := [16, 254, 159, 0, 18, 42, 180, 0, 95, 28, 46, 42, 180, 0, 95, 27, 46, 162, 0, 5, 28, 60]
abbrev dktX1_firstCold_2 : List UInt8 := dkwX1_firstCold_2 ++ dktX1_firstCold_3
def dkwX1_firstCold_1 : List UInt8 := [180, 0, 145, 162, 0, 48, 42, 180, 0, 98, 28, 46, 42, 180, 0, 129, 180, 1, 133, 162, 0, 26, 27]
abbrev dktX1_firstCold_1 : List UInt8 := dkwX1_firstCold_1 ++ dktX1_firstCold_2
def dkwX1_firstCold_0 : List UInt8 := [42, 182, 0, 104, 42, 180, 0, 129, 199, 0, 9, 42, 4, 182, 0, 118, 172, 16, 254, 60, 3, 61, 28, 42]
abbrev dktX1_firstCold_0 : List UInt8 := dkwX1_firstCold_0 ++ dktX1_firstCold_1
theorem dksX1_firstCold_0 : cX1_firstCold.data.toList.drop 0 = dktX1_firstCold_0 := by decide +kernel
theorem dksX1_firstCold_1 : cX1_firstCold.data.toList.drop 24 = dktX1_firstCold_1 := dk_seg dksX1_firstCold_0 24 rfl rfl
theorem dksX1_firstCold_2 : cX1_firstCold.data.toList.drop 47 = dktX1_firstCold_2 := dk_seg dksX1_firstCold_1 23 rfl rfl
theorem dksX1_firstCold_3 : cX1_firstCold.data.toList.drop 69 = dktX1_firstCold_3 := dk_seg dksX1_firstCold_2 22 rfl rfl
theorem dX1_firstCold_0 : decode cX1_firstCold 0 = .ok (.aload_n 0, 1) := dk_42 (dk_at dksX1_firstCold_0 0 rfl rfl)
theorem dX1_firstCold_1 : decode cX1_firstCold 1 = .ok (.invokevirtual 104, 3) := dk_182 0 104 (dk_at dksX1_firstCold_0 1 rfl rfl)
theorem dX1_firstCold_4 : decode cX1_firstCold 4 = .ok (.aload_n 0, 1) := dk_42 (dk_at dksX1_firstCold_0 4 rfl rfl)
theorem dX1_firstCold_5 : decode cX1_firstCold 5 = .ok (.getfield 129, 3) := dk_180 0 129 (dk_at dksX1_firstCold_0 5 rfl rfl)
theorem dX1_firstCold_8 : decode cX1_firstCold 8 = .ok (.ifnonnull 9, 3) := dk_199 0 9 (dk_at dksX1_firstCold_0 8 rfl rfl)
theorem dX1_firstCold_11 : decode cX1_firstCold 11 = .ok (.aload_n 0, 1) := dk_42 (dk_at dksX1_firstCold_0 11 rfl rfl)
theorem dX1_firstCold_12 : decode cX1_firstCold 12 = .ok (.iconst 1, 1) := dk_4 (dk_at dksX1_firstCold_0 12 rfl rfl)
theorem dX1_firstCold_13 : decode cX1_firstCold 13 = .ok (.invokevirtual 118, 3) := dk_182 0 118 (dk_at dksX1_firstCold_0 13 rfl rfl)
theorem dX1_firstCold_16 : decode cX1_firstCold 16 = .ok (.ireturn, 1) := dk_172 (dk_at dksX1_firstCold_0 16 rfl rfl)
theorem dX1_firstCold_17 : decode cX1_firstCold 17 = .ok (.bipush (-2), 2) := dk_16 254 (dk_at dksX1_firstCold_0 17 rfl rfl)
theorem dX1_firstCold_19 : decode cX1_firstCold 19 = .ok (.istore_n 1, 1) := dk_60 (dk_at dksX1_firstCold_0 19 rfl rfl)
theorem dX1_firstCold_20 : decode cX1_firstCold 20 = .ok (.iconst 0, 1) := dk_3 (dk_at dksX1_firstCold_0 20 rfl rfl)
theorem dX1_firstCold_21 : decode cX1_firstCold 21 = .ok (.istore_n 2, 1) := dk_61 (dk_at dksX1_firstCold_0 21 rfl rfl)
theorem dX1_firstCold_22 : decode cX1_firstCold 22 = .ok (.iload_n 2, 1) := dk_28 (dk_at dksX1_firstCold_0 22 rfl rfl)
theorem dX1_firstCold_23 : decode cX1_firstCold 23 = .ok (.aload_n 0, 1) := dk_42 (dk_at dksX1_firstCold_0 23 rfl rfl)
theorem dX1_firstCold_24 : decode cX1_firstCold 24 = .ok (.getfield 145, 3) := dk_180 0 145 (dk_at dksX1_firstCold_1 0 rfl rfl)
theorem dX1_firstCold_27 : decode cX1_firstCold 27 = .ok (.if_icmp .ge 48, 3) := dk_162 0 48 (dk_at dksX1_firstCold_1 3 rfl rfl)
theorem dX1_firstCold_30 : decode cX1_firstCold 30 = .ok (.aload_n 0, 1) := dk_42 (dk_at dksX1_firstCold_1 6 rfl rfl)
theorem dX1_firstCold_31 : decode cX1_firstCold 31 = .ok (.getfield 98, 3) := dk_180 0 98 (dk_at dksX1_firstCold_1 7 rfl rfl)
theorem dX1_firstCold_34 : decode cX1_firstCold 34 = .ok (.iload_n 2, 1) := dk_28 (dk_at dksX1_firstCold_1 10 rfl rfl)
theorem dX1_firstCold_35 : decode cX1_firstCold 35 = .ok (.iaload, 1) := dk_46 (dk_at dksX1_firstCold_1 11 rfl rfl)
theorem dX1_firstCold_36 : decode cX1_firstCold 36 = .ok (.aload_n 0, 1) := dk_42 (dk_at dksX1_firstCold_1 12 rfl rfl)
theorem dX1_firstCold_37 : decode cX1_firstCold 37 = .ok (.getfield 129, 3) := dk_180 0 129 (dk_at dksX1_firstCold_1 13 rfl rfl)
theorem dX1_firstCold_40 : decode cX1_firstCold 40 = .ok (.getfield 389, 3) := dk_180 1 133 (dk_at dksX1_firstCold_1 16 rfl rfl)
theorem dX1_firstCold_43 : decode cX1_firstCold 43 = .ok (.if_icmp .ge 26, 3) := dk_162 0 26 (dk_at dksX1_firstCold_1 19 rfl rfl)
theorem dX1_firstCold_46 : decode cX1_firstCold 46 = .ok (.iload_n 1, 1) := dk_27 (dk_at dksX1_firstCold_1 22 rfl rfl)
theorem dX1_firstCold_47 : decode cX1_firstCold 47 = .ok (.bipush (-2), 2) := dk_16 254 (dk_at dksX1_firstCold_2 0 rfl rfl)
theorem dX1_firstCold_49 : decode cX1_firstCold 49 = .ok (.if_icmp .eq 18, 3) := dk_159 0 18 (dk_at dksX1_firstCold_2 2 rfl rfl)
theorem dX1_firstCold_52 : decode cX1_firstCold 52 = .ok (.aload_n 0, 1) := dk_42 (dk_at dksX1_firstCold_2 5 rfl rfl)
theorem dX1_firstCold_53 : decode cX1_firstCold 53 = .ok (.getfield 95, 3) := dk_180 0 95 (dk_at dksX1_firstCold_2 6 rfl rfl)
theorem dX1_firstCold_56 : decode cX1_firstCold 56 = .ok (.iload_n 2, 1) := dk_28 (dk_at dksX1_firstCold_2 9 rfl rfl)
theorem dX1_firstCold_57 : decode cX1_firstCold 57 = .ok (.iaload, 1) := dk_46 (dk_at dksX1_firstCold_2 10 rfl rfl)
theorem dX1_firstCold_58 : decode cX1_firstCold 58 = .ok (.aload_n 0, 1) := dk_42 (dk_at dksX1_firstCold_2 11 rfl rfl)
theorem dX1_firstCold_59 : decode cX1_firstCold 59 = .ok (.getfield 95, 3) := dk_180 0 95 (dk_at dksX1_firstCold_2 12 rfl rfl)
theorem dX1_firstCold_62 : decode cX1_firstCold 62 = .ok (.iload_n 1, 1) := dk_27 (dk_at dksX1_firstCold_2 15 rfl rfl)
theorem dX1_firstCold_63 : decode cX1_firstCold 63 = .ok (.iaload, 1) := dk_46 (dk_at dksX1_firstCold_2 16 rfl rfl)
theorem dX1_firstCold_64 : decode cX1_firstCold 64 = .ok (.if_icmp .ge 5, 3) := dk_162 0 5 (dk_at dksX1_firstCold_2 17 rfl rfl)
theorem dX1_firstCold_67 : decode cX1_firstCold 67 = .ok (.iload_n 2, 1) := dk_28 (dk_at dksX1_firstCold_2 20 rfl rfl)
theorem dX1_firstCold_68 : decode cX1_firstCold 68 = .ok (.istore_n 1, 1) := dk_60 (dk_at dksX1_firstCold_2 21 rfl rfl)
theorem dX1_firstCold_69 : decode cX1_firstCold 69 = .ok (.iinc 2 1, 3) := dk_132 2 1 (dk_at dksX1_firstCold_3 0 rfl rfl)
theorem dX1_firstCold_72 : decode cX1_firstCold 72 = .ok (.goto (-50), 3) := dk_167 255 206 (dk_at dksX1_firstCold_3 3 rfl rfl)
theorem dX1_firstCold_75 : decode cX1_firstCold 75 = .ok (.iload_n 1, 1) := dk_27 (dk_at dksX1_firstCold_3 6 rfl rfl)
theorem dX1_firstCold_76 : decode cX1_firstCold 76 = .ok (.ireturn, 1) := dk_172 (dk_at dksX1_firstCold_3 7 rfl rfl)
abbrev cX1_recall : ByteArray := prog_1_method_61_code
def yX1_recall : MethodName := ⟨RX1, "recall", "(I)I"⟩
def dkwX1_recall_3 : List UInt8 := [180, 0, 28, 29, 50, 182, 1, 10, 167, 0, 4, 3, 128, 61, 132, 3, 1, 167, 255, 207, 28, 172]
abbrev dktX1_recall_3 : List UInt8 := dkwX1_recall_3 ++ []
def dkwX1_recall_2 : List UInt8 := [162, 0, 44, 28, 42, 180, 0, 129, 180, 0, 182, 29, 50, 180, 1, 139, 180, 1, 143, 27, 160, 0, 15, 42]
abbrev dktX1_recall_2 : List UInt8 := dkwX1_recall_2 ++ dktX1_recall_3
def dkwX1_recall_1 : List UInt8 := [184, 0, 114, 154, 0, 9, 42, 4, 182, 0, 118, 172, 3, 61, 3, 62, 29, 42, 180, 0, 129, 180, 0, 166]
abbrev dktX1_recall_1 : List UInt8 := dkwX1_recall_1 ++ dktX1_recall_2
def dkwX1_recall_0 : List UInt8 := [42, 182, 0, 104, 42, 180, 0, 129, 198, 0, 20, 27, 3, 42, 180, 0, 129, 180, 1, 136, 4, 100]
abbrev dktX1_recall_0 : List UInt8 := dkwX1_recall_0 ++ dktX1_recall_1
theorem dksX1_recall_0 : cX1_recall.data.toList.drop 0 = dktX1_recall_0 := by decide +kernel
theorem dksX1_recall_1 : cX1_recall.data.toList.drop 22 = dktX1_recall_1 := dk_seg dksX1_recall_0 22 rfl rfl
theorem dksX1_recall_2 : cX1_recall.data.toList.drop 46 = dktX1_recall_2 := dk_seg dksX1_recall_1 24 rfl rfl
theorem dksX1_recall_3 : cX1_recall.data.toList.drop 70 = dktX1_recall_3 := dk_seg dksX1_recall_2 24 rfl rfl
theorem dX1_recall_0 : decode cX1_recall 0 = .ok (.aload_n 0, 1) := dk_42 (dk_at dksX1_recall_0 0 rfl rfl)
theorem dX1_recall_1 : decode cX1_recall 1 = .ok (.invokevirtual 104, 3) := dk_182 0 104 (dk_at dksX1_recall_0 1 rfl rfl)
theorem dX1_recall_4 : decode cX1_recall 4 = .ok (.aload_n 0, 1) := dk_42 (dk_at dksX1_recall_0 4 rfl rfl)
theorem dX1_recall_5 : decode cX1_recall 5 = .ok (.getfield 129, 3) := dk_180 0 129 (dk_at dksX1_recall_0 5 rfl rfl)
theorem dX1_recall_8 : decode cX1_recall 8 = .ok (.ifnull 20, 3) := dk_198 0 20 (dk_at dksX1_recall_0 8 rfl rfl)
theorem dX1_recall_11 : decode cX1_recall 11 = .ok (.iload_n 1, 1) := dk_27 (dk_at dksX1_recall_0 11 rfl rfl)
theorem dX1_recall_12 : decode cX1_recall 12 = .ok (.iconst 0, 1) := dk_3 (dk_at dksX1_recall_0 12 rfl rfl)
theorem dX1_recall_13 : decode cX1_recall 13 = .ok (.aload_n 0, 1) := dk_42 (dk_at dksX1_recall_0 13 rfl rfl)
theorem dX1_recall_14 : decode cX1_recall 14 = .ok (.getfield 129, 3) := dk_180 0 129 (dk_at dksX1_recall_0 14 rfl rfl)
theorem dX1_recall_17 : decode cX1_recall 17 = .ok (.getfield 392, 3) := dk_180 1 136 (dk_at dksX1_recall_0 17 rfl rfl)
theorem dX1_recall_20 : decode cX1_recall 20 = .ok (.iconst 1, 1) := dk_4 (dk_at dksX1_recall_0 20 rfl rfl)
theorem dX1_recall_21 : decode cX1_recall 21 = .ok (.isub, 1) := dk_100 (dk_at dksX1_recall_0 21 rfl rfl)
theorem dX1_recall_22 : decode cX1_recall 22 = .ok (.invokestatic 114, 3) := dk_184 0 114 (dk_at dksX1_recall_1 0 rfl rfl)
theorem dX1_recall_25 : decode cX1_recall 25 = .ok (.ifCond .ne 9, 3) := dk_154 0 9 (dk_at dksX1_recall_1 3 rfl rfl)
theorem dX1_recall_28 : decode cX1_recall 28 = .ok (.aload_n 0, 1) := dk_42 (dk_at dksX1_recall_1 6 rfl rfl)
theorem dX1_recall_29 : decode cX1_recall 29 = .ok (.iconst 1, 1) := dk_4 (dk_at dksX1_recall_1 7 rfl rfl)
theorem dX1_recall_30 : decode cX1_recall 30 = .ok (.invokevirtual 118, 3) := dk_182 0 118 (dk_at dksX1_recall_1 8 rfl rfl)
theorem dX1_recall_33 : decode cX1_recall 33 = .ok (.ireturn, 1) := dk_172 (dk_at dksX1_recall_1 11 rfl rfl)
theorem dX1_recall_34 : decode cX1_recall 34 = .ok (.iconst 0, 1) := dk_3 (dk_at dksX1_recall_1 12 rfl rfl)
theorem dX1_recall_35 : decode cX1_recall 35 = .ok (.istore_n 2, 1) := dk_61 (dk_at dksX1_recall_1 13 rfl rfl)
theorem dX1_recall_36 : decode cX1_recall 36 = .ok (.iconst 0, 1) := dk_3 (dk_at dksX1_recall_1 14 rfl rfl)
theorem dX1_recall_37 : decode cX1_recall 37 = .ok (.istore_n 3, 1) := dk_62 (dk_at dksX1_recall_1 15 rfl rfl)
theorem dX1_recall_38 : decode cX1_recall 38 = .ok (.iload_n 3, 1) := dk_29 (dk_at dksX1_recall_1 16 rfl rfl)
theorem dX1_recall_39 : decode cX1_recall 39 = .ok (.aload_n 0, 1) := dk_42 (dk_at dksX1_recall_1 17 rfl rfl)
theorem dX1_recall_40 : decode cX1_recall 40 = .ok (.getfield 129, 3) := dk_180 0 129 (dk_at dksX1_recall_1 18 rfl rfl)
theorem dX1_recall_43 : decode cX1_recall 43 = .ok (.getfield 166, 3) := dk_180 0 166 (dk_at dksX1_recall_1 21 rfl rfl)
theorem dX1_recall_46 : decode cX1_recall 46 = .ok (.if_icmp .ge 44, 3) := dk_162 0 44 (dk_at dksX1_recall_2 0 rfl rfl)
theorem dX1_recall_49 : decode cX1_recall 49 = .ok (.iload_n 2, 1) := dk_28 (dk_at dksX1_recall_2 3 rfl rfl)
theorem dX1_recall_50 : decode cX1_recall 50 = .ok (.aload_n 0, 1) := dk_42 (dk_at dksX1_recall_2 4 rfl rfl)
theorem dX1_recall_51 : decode cX1_recall 51 = .ok (.getfield 129, 3) := dk_180 0 129 (dk_at dksX1_recall_2 5 rfl rfl)
theorem dX1_recall_54 : decode cX1_recall 54 = .ok (.getfield 182, 3) := dk_180 0 182 (dk_at dksX1_recall_2 8 rfl rfl)
theorem dX1_recall_57 : decode cX1_recall 57 = .ok (.iload_n 3, 1) := dk_29 (dk_at dksX1_recall_2 11 rfl rfl)
theorem dX1_recall_58 : decode cX1_recall 58 = .ok (.aaload, 1) := dk_50 (dk_at dksX1_recall_2 12 rfl rfl)
theorem dX1_recall_59 : decode cX1_recall 59 = .ok (.getfield 395, 3) := dk_180 1 139 (dk_at dksX1_recall_2 13 rfl rfl)
theorem dX1_recall_62 : decode cX1_recall 62 = .ok (.getfield 399, 3) := dk_180 1 143 (dk_at dksX1_recall_2 16 rfl rfl)
theorem dX1_recall_65 : decode cX1_recall 65 = .ok (.iload_n 1, 1) := dk_27 (dk_at dksX1_recall_2 19 rfl rfl)
theorem dX1_recall_66 : decode cX1_recall 66 = .ok (.if_icmp .ne 15, 3) := dk_160 0 15 (dk_at dksX1_recall_2 20 rfl rfl)
theorem dX1_recall_69 : decode cX1_recall 69 = .ok (.aload_n 0, 1) := dk_42 (dk_at dksX1_recall_2 23 rfl rfl)
theorem dX1_recall_70 : decode cX1_recall 70 = .ok (.getfield 28, 3) := dk_180 0 28 (dk_at dksX1_recall_3 0 rfl rfl)
theorem dX1_recall_73 : decode cX1_recall 73 = .ok (.iload_n 3, 1) := dk_29 (dk_at dksX1_recall_3 3 rfl rfl)
theorem dX1_recall_74 : decode cX1_recall 74 = .ok (.aaload, 1) := dk_50 (dk_at dksX1_recall_3 4 rfl rfl)
theorem dX1_recall_75 : decode cX1_recall 75 = .ok (.invokevirtual 266, 3) := dk_182 1 10 (dk_at dksX1_recall_3 5 rfl rfl)
theorem dX1_recall_78 : decode cX1_recall 78 = .ok (.goto 4, 3) := dk_167 0 4 (dk_at dksX1_recall_3 8 rfl rfl)
theorem dX1_recall_81 : decode cX1_recall 81 = .ok (.iconst 0, 1) := dk_3 (dk_at dksX1_recall_3 11 rfl rfl)
theorem dX1_recall_82 : decode cX1_recall 82 = .ok (.ior, 1) := dk_128 (dk_at dksX1_recall_3 12 rfl rfl)
theorem dX1_recall_83 : decode cX1_recall 83 = .ok (.istore_n 2, 1) := dk_61 (dk_at dksX1_recall_3 13 rfl rfl)
theorem dX1_recall_84 : decode cX1_recall 84 = .ok (.iinc 3 1, 3) := dk_132 3 1 (dk_at dksX1_recall_3 14 rfl rfl)
theorem dX1_recall_87 : decode cX1_recall 87 = .ok (.goto (-49), 3) := dk_167 255 207 (dk_at dksX1_recall_3 17 rfl rfl)
theorem dX1_recall_90 : decode cX1_recall 90 = .ok (.iload_n 2, 1) := dk_28 (dk_at dksX1_recall_3 20 rfl rfl)
theorem dX1_recall_91 : decode cX1_recall 91 = .ok (.ireturn, 1) := dk_172 (dk_at dksX1_recall_3 21 rfl rfl)
abbrev cX1_size : ByteArray := prog_1_method_63_code
def yX1_size : MethodName := ⟨RX1, "size", "(I)I"⟩
def dkwX1_size_6 : List UInt8 := [180, 0, 139, 172, 2, 172]
abbrev dktX1_size_6 : List UInt8 := dkwX1_size_6 ++ []
def dkwX1_size_5 : List UInt8 := [42, 180, 0, 129, 180, 1, 70, 172, 42, 180, 0, 129, 180, 1, 101, 172, 42, 180, 0, 145, 172, 42]
abbrev dktX1_size_5 : List UInt8 := dkwX1_size_5 ++ dktX1_size_6
def dkwX1_size_4 : List UInt8 := [42, 180, 0, 129, 180, 0, 161, 172, 42, 180, 0, 129, 180, 0, 166, 172, 42, 180, 0, 129, 180, 1, 151, 172]
abbrev dktX1_size_4 : List UInt8 := dkwX1_size_4 ++ dktX1_size_5
def dkwX1_size_3 : List UInt8 := [42, 180, 0, 129, 180, 1, 136, 172, 42, 180, 0, 129, 180, 1, 22, 172, 42, 180, 0, 129, 180, 1, 56, 172]
abbrev dktX1_size_3 : List UInt8 := dkwX1_size_3 ++ dktX1_size_4
def dkwX1_size_2 : List UInt8 := [170, 0, 0, 0, 127, 0, 0, 0, 0, 0, 0, 0, 9, 0, 0, 0, 53, 0, 0, 0, 61, 0, 0, 0, 69, 0, 0, 0, 77, 0, 0, 0, 85, 0, 0, 0, 93, 0, 0, 0, 101, 0, 0, 0, 109, 0, 0, 0, 117, 0, 0, 0, 122]
abbrev dktX1_size_2 : List UInt8 := dkwX1_size_2 ++ dktX1_size_3
def dkwX1_size_1 : List UInt8 := [184, 0, 114, 153, 0, 7, 3, 167, 0, 4, 2, 172, 27]
abbrev dktX1_size_1 : List UInt8 := dkwX1_size_1 ++ dktX1_size_2
def dkwX1_size_0 : List UInt8 := [27, 16, 10, 160, 0, 8, 42, 180, 0, 107, 172, 42, 180, 0, 129, 199, 0, 19, 27, 3, 16, 9]
abbrev dktX1_size_0 : List UInt8 := dkwX1_size_0 ++ dktX1_size_1
theorem dksX1_size_0 : cX1_size.data.toList.drop 0 = dktX1_size_0 := by decide +kernel
theorem dksX1_size_1 : cX1_size.data.toList.drop 22 = dktX1_size_1 := dk_seg dksX1_size_0 22 rfl rfl
theorem dksX1_size_2 : cX1_size.data.toList.drop 35 = dktX1_size_2 := dk_seg dksX1_size_1 13 rfl rfl
theorem dksX1_size_3 : cX1_size.data.toList.drop 88 = dktX1_size_3 := dk_seg dksX1_size_2 53 rfl rfl
theorem dksX1_size_4 : cX1_size.data.toList.drop 112 = dktX1_size_4 := dk_seg dksX1_size_3 24 rfl rfl
theorem dksX1_size_5 : cX1_size.data.toList.drop 136 = dktX1_size_5 := dk_seg dksX1_size_4 24 rfl rfl
theorem dksX1_size_6 : cX1_size.data.toList.drop 158 = dktX1_size_6 := dk_seg dksX1_size_5 22 rfl rfl
theorem dX1_size_0 : decode cX1_size 0 = .ok (.iload_n 1, 1) := dk_27 (dk_at dksX1_size_0 0 rfl rfl)
theorem dX1_size_1 : decode cX1_size 1 = .ok (.bipush 10, 2) := dk_16 10 (dk_at dksX1_size_0 1 rfl rfl)
theorem dX1_size_3 : decode cX1_size 3 = .ok (.if_icmp .ne 8, 3) := dk_160 0 8 (dk_at dksX1_size_0 3 rfl rfl)
theorem dX1_size_6 : decode cX1_size 6 = .ok (.aload_n 0, 1) := dk_42 (dk_at dksX1_size_0 6 rfl rfl)
theorem dX1_size_7 : decode cX1_size 7 = .ok (.getfield 107, 3) := dk_180 0 107 (dk_at dksX1_size_0 7 rfl rfl)
theorem dX1_size_10 : decode cX1_size 10 = .ok (.ireturn, 1) := dk_172 (dk_at dksX1_size_0 10 rfl rfl)
theorem dX1_size_11 : decode cX1_size 11 = .ok (.aload_n 0, 1) := dk_42 (dk_at dksX1_size_0 11 rfl rfl)
theorem dX1_size_12 : decode cX1_size 12 = .ok (.getfield 129, 3) := dk_180 0 129 (dk_at dksX1_size_0 12 rfl rfl)
theorem dX1_size_15 : decode cX1_size 15 = .ok (.ifnonnull 19, 3) := dk_199 0 19 (dk_at dksX1_size_0 15 rfl rfl)
theorem dX1_size_18 : decode cX1_size 18 = .ok (.iload_n 1, 1) := dk_27 (dk_at dksX1_size_0 18 rfl rfl)
theorem dX1_size_19 : decode cX1_size 19 = .ok (.iconst 0, 1) := dk_3 (dk_at dksX1_size_0 19 rfl rfl)
theorem dX1_size_20 : decode cX1_size 20 = .ok (.bipush 9, 2) := dk_16 9 (dk_at dksX1_size_0 20 rfl rfl)
theorem dX1_size_22 : decode cX1_size 22 = .ok (.invokestatic 114, 3) := dk_184 0 114 (dk_at dksX1_size_1 0 rfl rfl)
theorem dX1_size_25 : decode cX1_size 25 = .ok (.ifCond .eq 7, 3) := dk_153 0 7 (dk_at dksX1_size_1 3 rfl rfl)
theorem dX1_size_28 : decode cX1_size 28 = .ok (.iconst 0, 1) := dk_3 (dk_at dksX1_size_1 6 rfl rfl)
theorem dX1_size_29 : decode cX1_size 29 = .ok (.goto 4, 3) := dk_167 0 4 (dk_at dksX1_size_1 7 rfl rfl)
theorem dX1_size_32 : decode cX1_size 32 = .ok (.iconst (-1), 1) := dk_2 (dk_at dksX1_size_1 10 rfl rfl)
theorem dX1_size_33 : decode cX1_size 33 = .ok (.ireturn, 1) := dk_172 (dk_at dksX1_size_1 11 rfl rfl)
theorem dX1_size_34 : decode cX1_size 34 = .ok (.iload_n 1, 1) := dk_27 (dk_at dksX1_size_1 12 rfl rfl)
theorem dX1_size_35 : decode cX1_size 35 = .ok (.tableswitch 127 0 9 #[53, 61, 69, 77, 85, 93, 101, 109, 117, 122], 53) := by decide +kernel
theorem dX1_size_88 : decode cX1_size 88 = .ok (.aload_n 0, 1) := dk_42 (dk_at dksX1_size_3 0 rfl rfl)
theorem dX1_size_89 : decode cX1_size 89 = .ok (.getfield 129, 3) := dk_180 0 129 (dk_at dksX1_size_3 1 rfl rfl)
theorem dX1_size_92 : decode cX1_size 92 = .ok (.getfield 392, 3) := dk_180 1 136 (dk_at dksX1_size_3 4 rfl rfl)
theorem dX1_size_95 : decode cX1_size 95 = .ok (.ireturn, 1) := dk_172 (dk_at dksX1_size_3 7 rfl rfl)
theorem dX1_size_96 : decode cX1_size 96 = .ok (.aload_n 0, 1) := dk_42 (dk_at dksX1_size_3 8 rfl rfl)
theorem dX1_size_97 : decode cX1_size 97 = .ok (.getfield 129, 3) := dk_180 0 129 (dk_at dksX1_size_3 9 rfl rfl)
theorem dX1_size_100 : decode cX1_size 100 = .ok (.getfield 278, 3) := dk_180 1 22 (dk_at dksX1_size_3 12 rfl rfl)
theorem dX1_size_103 : decode cX1_size 103 = .ok (.ireturn, 1) := dk_172 (dk_at dksX1_size_3 15 rfl rfl)
theorem dX1_size_104 : decode cX1_size 104 = .ok (.aload_n 0, 1) := dk_42 (dk_at dksX1_size_3 16 rfl rfl)
theorem dX1_size_105 : decode cX1_size 105 = .ok (.getfield 129, 3) := dk_180 0 129 (dk_at dksX1_size_3 17 rfl rfl)
theorem dX1_size_108 : decode cX1_size 108 = .ok (.getfield 312, 3) := dk_180 1 56 (dk_at dksX1_size_3 20 rfl rfl)
theorem dX1_size_111 : decode cX1_size 111 = .ok (.ireturn, 1) := dk_172 (dk_at dksX1_size_3 23 rfl rfl)
theorem dX1_size_112 : decode cX1_size 112 = .ok (.aload_n 0, 1) := dk_42 (dk_at dksX1_size_4 0 rfl rfl)
theorem dX1_size_113 : decode cX1_size 113 = .ok (.getfield 129, 3) := dk_180 0 129 (dk_at dksX1_size_4 1 rfl rfl)
theorem dX1_size_116 : decode cX1_size 116 = .ok (.getfield 161, 3) := dk_180 0 161 (dk_at dksX1_size_4 4 rfl rfl)
theorem dX1_size_119 : decode cX1_size 119 = .ok (.ireturn, 1) := dk_172 (dk_at dksX1_size_4 7 rfl rfl)
theorem dX1_size_120 : decode cX1_size 120 = .ok (.aload_n 0, 1) := dk_42 (dk_at dksX1_size_4 8 rfl rfl)
theorem dX1_size_121 : decode cX1_size 121 = .ok (.getfield 129, 3) := dk_180 0 129 (dk_at dksX1_size_4 9 rfl rfl)
theorem dX1_size_124 : decode cX1_size 124 = .ok (.getfield 166, 3) := dk_180 0 166 (dk_at dksX1_size_4 12 rfl rfl)
theorem dX1_size_127 : decode cX1_size 127 = .ok (.ireturn, 1) := dk_172 (dk_at dksX1_size_4 15 rfl rfl)
theorem dX1_size_128 : decode cX1_size 128 = .ok (.aload_n 0, 1) := dk_42 (dk_at dksX1_size_4 16 rfl rfl)
theorem dX1_size_129 : decode cX1_size 129 = .ok (.getfield 129, 3) := dk_180 0 129 (dk_at dksX1_size_4 17 rfl rfl)
theorem dX1_size_132 : decode cX1_size 132 = .ok (.getfield 407, 3) := dk_180 1 151 (dk_at dksX1_size_4 20 rfl rfl)
theorem dX1_size_135 : decode cX1_size 135 = .ok (.ireturn, 1) := dk_172 (dk_at dksX1_size_4 23 rfl rfl)
theorem dX1_size_136 : decode cX1_size 136 = .ok (.aload_n 0, 1) := dk_42 (dk_at dksX1_size_5 0 rfl rfl)
theorem dX1_size_137 : decode cX1_size 137 = .ok (.getfield 129, 3) := dk_180 0 129 (dk_at dksX1_size_5 1 rfl rfl)
theorem dX1_size_140 : decode cX1_size 140 = .ok (.getfield 326, 3) := dk_180 1 70 (dk_at dksX1_size_5 4 rfl rfl)
theorem dX1_size_143 : decode cX1_size 143 = .ok (.ireturn, 1) := dk_172 (dk_at dksX1_size_5 7 rfl rfl)
theorem dX1_size_144 : decode cX1_size 144 = .ok (.aload_n 0, 1) := dk_42 (dk_at dksX1_size_5 8 rfl rfl)
theorem dX1_size_145 : decode cX1_size 145 = .ok (.getfield 129, 3) := dk_180 0 129 (dk_at dksX1_size_5 9 rfl rfl)
theorem dX1_size_148 : decode cX1_size 148 = .ok (.getfield 357, 3) := dk_180 1 101 (dk_at dksX1_size_5 12 rfl rfl)
theorem dX1_size_151 : decode cX1_size 151 = .ok (.ireturn, 1) := dk_172 (dk_at dksX1_size_5 15 rfl rfl)
theorem dX1_size_152 : decode cX1_size 152 = .ok (.aload_n 0, 1) := dk_42 (dk_at dksX1_size_5 16 rfl rfl)
theorem dX1_size_153 : decode cX1_size 153 = .ok (.getfield 145, 3) := dk_180 0 145 (dk_at dksX1_size_5 17 rfl rfl)
theorem dX1_size_156 : decode cX1_size 156 = .ok (.ireturn, 1) := dk_172 (dk_at dksX1_size_5 20 rfl rfl)
theorem dX1_size_157 : decode cX1_size 157 = .ok (.aload_n 0, 1) := dk_42 (dk_at dksX1_size_5 21 rfl rfl)
theorem dX1_size_158 : decode cX1_size 158 = .ok (.getfield 139, 3) := dk_180 0 139 (dk_at dksX1_size_6 0 rfl rfl)
theorem dX1_size_161 : decode cX1_size 161 = .ok (.ireturn, 1) := dk_172 (dk_at dksX1_size_6 3 rfl rfl)
theorem dX1_size_162 : decode cX1_size 162 = .ok (.iconst (-1), 1) := dk_2 (dk_at dksX1_size_6 4 rfl rfl)
theorem dX1_size_163 : decode cX1_size 163 = .ok (.ireturn, 1) := dk_172 (dk_at dksX1_size_6 5 rfl rfl)
abbrev cX1_trouble : ByteArray := prog_1_method_64_code
def yX1_trouble : MethodName := ⟨RX1, "trouble", "()I"⟩
theorem dX1_trouble_0 : decode cX1_trouble 0 = .ok (.aload_n 0, 1) := by decide +kernel
theorem dX1_trouble_1 : decode cX1_trouble 1 = .ok (.getfield 101, 3) := by decide +kernel
theorem dX1_trouble_4 : decode cX1_trouble 4 = .ok (.ireturn, 1) := by decide +kernel
abbrev cX1_led : ByteArray := prog_1_method_62_code
def yX1_led : MethodName := ⟨RX1, "led", "(II)I"⟩
def dkwX1_led_1 : List UInt8 := [154, 0, 11, 187, 1, 148, 89, 183, 1, 150, 191, 42, 180, 0, 28, 27, 50, 180, 0, 190, 28, 46, 172]
abbrev dktX1_led_1 : List UInt8 := dkwX1_led_1 ++ []
def dkwX1_led_0 : List UInt8 := [42, 27, 182, 0, 172, 153, 0, 22, 28, 3, 42, 180, 0, 28, 27, 50, 180, 0, 142, 4, 100, 184, 0, 114]
abbrev dktX1_led_0 : List UInt8 := dkwX1_led_0 ++ dktX1_led_1
theorem dksX1_led_0 : cX1_led.data.toList.drop 0 = dktX1_led_0 := by decide +kernel
theorem dksX1_led_1 : cX1_led.data.toList.drop 24 = dktX1_led_1 := dk_seg dksX1_led_0 24 rfl rfl
theorem dX1_led_0 : decode cX1_led 0 = .ok (.aload_n 0, 1) := dk_42 (dk_at dksX1_led_0 0 rfl rfl)
theorem dX1_led_1 : decode cX1_led 1 = .ok (.iload_n 1, 1) := dk_27 (dk_at dksX1_led_0 1 rfl rfl)
theorem dX1_led_2 : decode cX1_led 2 = .ok (.invokevirtual 172, 3) := dk_182 0 172 (dk_at dksX1_led_0 2 rfl rfl)
theorem dX1_led_5 : decode cX1_led 5 = .ok (.ifCond .eq 22, 3) := dk_153 0 22 (dk_at dksX1_led_0 5 rfl rfl)
theorem dX1_led_8 : decode cX1_led 8 = .ok (.iload_n 2, 1) := dk_28 (dk_at dksX1_led_0 8 rfl rfl)
theorem dX1_led_9 : decode cX1_led 9 = .ok (.iconst 0, 1) := dk_3 (dk_at dksX1_led_0 9 rfl rfl)
theorem dX1_led_10 : decode cX1_led 10 = .ok (.aload_n 0, 1) := dk_42 (dk_at dksX1_led_0 10 rfl rfl)
theorem dX1_led_11 : decode cX1_led 11 = .ok (.getfield 28, 3) := dk_180 0 28 (dk_at dksX1_led_0 11 rfl rfl)
theorem dX1_led_14 : decode cX1_led 14 = .ok (.iload_n 1, 1) := dk_27 (dk_at dksX1_led_0 14 rfl rfl)
theorem dX1_led_15 : decode cX1_led 15 = .ok (.aaload, 1) := dk_50 (dk_at dksX1_led_0 15 rfl rfl)
theorem dX1_led_16 : decode cX1_led 16 = .ok (.getfield 142, 3) := dk_180 0 142 (dk_at dksX1_led_0 16 rfl rfl)
theorem dX1_led_19 : decode cX1_led 19 = .ok (.iconst 1, 1) := dk_4 (dk_at dksX1_led_0 19 rfl rfl)
theorem dX1_led_20 : decode cX1_led 20 = .ok (.isub, 1) := dk_100 (dk_at dksX1_led_0 20 rfl rfl)
theorem dX1_led_21 : decode cX1_led 21 = .ok (.invokestatic 114, 3) := dk_184 0 114 (dk_at dksX1_led_0 21 rfl rfl)
theorem dX1_led_24 : decode cX1_led 24 = .ok (.ifCond .ne 11, 3) := dk_154 0 11 (dk_at dksX1_led_1 0 rfl rfl)
theorem dX1_led_27 : decode cX1_led 27 = .ok (.new 404, 3) := dk_187 1 148 (dk_at dksX1_led_1 3 rfl rfl)
theorem dX1_led_30 : decode cX1_led 30 = .ok (.dup, 1) := dk_89 (dk_at dksX1_led_1 6 rfl rfl)
theorem dX1_led_31 : decode cX1_led 31 = .ok (.invokespecial 406, 3) := dk_183 1 150 (dk_at dksX1_led_1 7 rfl rfl)
theorem dX1_led_34 : decode cX1_led 34 = .ok (.athrow, 1) := dk_191 (dk_at dksX1_led_1 10 rfl rfl)
theorem dX1_led_35 : decode cX1_led 35 = .ok (.aload_n 0, 1) := dk_42 (dk_at dksX1_led_1 11 rfl rfl)
theorem dX1_led_36 : decode cX1_led 36 = .ok (.getfield 28, 3) := dk_180 0 28 (dk_at dksX1_led_1 12 rfl rfl)
theorem dX1_led_39 : decode cX1_led 39 = .ok (.iload_n 1, 1) := dk_27 (dk_at dksX1_led_1 15 rfl rfl)
theorem dX1_led_40 : decode cX1_led 40 = .ok (.aaload, 1) := dk_50 (dk_at dksX1_led_1 16 rfl rfl)
theorem dX1_led_41 : decode cX1_led 41 = .ok (.getfield 190, 3) := dk_180 0 190 (dk_at dksX1_led_1 17 rfl rfl)
theorem dX1_led_44 : decode cX1_led 44 = .ok (.iload_n 2, 1) := dk_28 (dk_at dksX1_led_1 20 rfl rfl)
theorem dX1_led_45 : decode cX1_led 45 = .ok (.iaload, 1) := dk_46 (dk_at dksX1_led_1 21 rfl rfl)
theorem dX1_led_46 : decode cX1_led 46 = .ok (.ireturn, 1) := dk_172 (dk_at dksX1_led_1 22 rfl rfl)
theorem q92 : (Jvm.Cond.initialized "NoonMeals") ∈ lw_all := lw_g (lw_at lw_m1 1 rfl) rfl
theorem q119 : (Jvm.Cond.instantiable "NoonMeals" (41 : Nat)) ∈ lw_all := lw_g (lw_at lw_m1 28 rfl) rfl
theorem q121 : (Jvm.Cond.instanceMethod ({ cls := "NoonMeals", name := "<init>", desc := "()V" } : Jvm.MethodName)) ∈ lw_all := lw_g (lw_at lw_m1 30 rfl) rfl
theorem q122 : (Jvm.Cond.code ({ cls := "NoonMeals", name := "<init>", desc := "()V" } : Jvm.MethodName) prog_1_method_4_code (2 : Nat) (Option.none : Option Jvm.ClassFile.FieldType)) ∈ lw_all := lw_g (lw_at lw_m1 31 rfl) rfl
theorem q123 : (Jvm.Cond.methodLink "NoonMeals" (1 : Nat) ({ cls := "java/lang/Object", name := "<init>", desc := "()V" } : Jvm.MethodName)) ∈ lw_all := lw_g (lw_at lw_m1 32 rfl) rfl
theorem q126 : (Jvm.Cond.classLink "NoonMeals" (13 : Nat) "NoonMeals$Reader") ∈ lw_all := lw_g (lw_at lw_m1 35 rfl) rfl
theorem q128 : (Jvm.Cond.methodLink "NoonMeals" (15 : Nat) ({ cls := "NoonMeals$Reader", name := "<init>", desc := "([B)V" } : Jvm.MethodName)) ∈ lw_all := lw_g (lw_at lw_m1 37 rfl) rfl
theorem q185 : (Jvm.Cond.fieldLink "NoonMeals" (135 : Nat) "NoonMeals$Refused" "fault" "I") ∈ lw_all := lw_g (lw_at lw_m1 94 rfl) rfl
theorem q187 : (Jvm.Cond.fieldLink "NoonMeals" (136 : Nat) "NoonMeals$Refused" "place" "I") ∈ lw_all := lw_g (lw_at lw_m1 96 rfl) rfl
theorem q238 : (Jvm.Cond.classLink "NoonMeals" (26 : Nat) "NoonMeals$Round") ∈ lw_all := lw_g (lw_at lw_m1 147 rfl) rfl
theorem q241 : (Jvm.Cond.methodLinkNest "NoonMeals" (32 : Nat) ({ cls := "NoonMeals$Round", name := "<init>", desc := "()V" } : Jvm.MethodName) "NoonMeals") ∈ lw_tbl := lw_at lw_m1 150 rfl
theorem q246 : (Jvm.Cond.fieldLink "NoonMeals" (190 : Nat) "NoonMeals$Round" "houses" "[I") ∈ lw_all := lw_g (lw_at lw_m1 155 rfl) rfl
theorem q248 : (Jvm.Cond.fieldLink "NoonMeals" (207 : Nat) "NoonMeals$Round" "comes" "[I") ∈ lw_all := lw_g (lw_at lw_m1 157 rfl) rfl
theorem q250 : (Jvm.Cond.fieldLink "NoonMeals" (142 : Nat) "NoonMeals$Round" "many" "I") ∈ lw_all := lw_g (lw_at lw_m1 159 rfl) rfl
theorem q252 : (Jvm.Cond.fieldLink "NoonMeals" (220 : Nat) "NoonMeals$Round" "bad" "I") ∈ lw_all := lw_g (lw_at lw_m1 161 rfl) rfl
theorem q263 : (Jvm.Cond.fieldLink "NoonMeals" (9 : Nat) "NoonMeals" "tape" "[B") ∈ lw_all := lw_g (lw_at lw_m1 172 rfl) rfl
theorem q264 : (Jvm.Cond.fieldLink "NoonMeals" (107 : Nat) "NoonMeals" "taped" "I") ∈ lw_all := lw_g (lw_at lw_m1 173 rfl) rfl
theorem q265 : (Jvm.Cond.fieldLink "NoonMeals" (18 : Nat) "NoonMeals" "reader" "LNoonMeals$Reader;") ∈ lw_all := lw_g (lw_at lw_m1 174 rfl) rfl
theorem q266 : (Jvm.Cond.fieldLink "NoonMeals" (129 : Nat) "NoonMeals" "day" "LNoonMeals$Day;") ∈ lw_all := lw_g (lw_at lw_m1 175 rfl) rfl
theorem q267 : (Jvm.Cond.fieldLink "NoonMeals" (101 : Nat) "NoonMeals" "trouble" "I") ∈ lw_all := lw_g (lw_at lw_m1 176 rfl) rfl
theorem q268 : (Jvm.Cond.fieldLink "NoonMeals" (122 : Nat) "NoonMeals" "fault" "I") ∈ lw_all := lw_g (lw_at lw_m1 177 rfl) rfl
theorem q269 : (Jvm.Cond.fieldLink "NoonMeals" (22 : Nat) "NoonMeals" "where" "I") ∈ lw_all := lw_g (lw_at lw_m1 178 rfl) rfl
theorem q270 : (Jvm.Cond.fieldLink "NoonMeals" (139 : Nat) "NoonMeals" "tea" "I") ∈ lw_all := lw_g (lw_at lw_m1 179 rfl) rfl
theorem q271 : (Jvm.Cond.fieldLink "NoonMeals" (28 : Nat) "NoonMeals" "driven" "[LNoonMeals$Round;") ∈ lw_all := lw_g (lw_at lw_m1 180 rfl) rfl
theorem q272 : (Jvm.Cond.fieldLink "NoonMeals" (33 : Nat) "NoonMeals" "tried" "LNoonMeals$Round;") ∈ lw_all := lw_g (lw_at lw_m1 181 rfl) rfl
theorem q273 : (Jvm.Cond.fieldLink "NoonMeals" (37 : Nat) "NoonMeals" "best" "LNoonMeals$Round;") ∈ lw_all := lw_g (lw_at lw_m1 182 rfl) rfl
theorem q274 : (Jvm.Cond.fieldLink "NoonMeals" (230 : Nat) "NoonMeals" "bestWorth" "I") ∈ lw_all := lw_g (lw_at lw_m1 183 rfl) rfl
theorem q275 : (Jvm.Cond.fieldLink "NoonMeals" (40 : Nat) "NoonMeals" "worths" "[I") ∈ lw_all := lw_g (lw_at lw_m1 184 rfl) rfl
theorem q276 : (Jvm.Cond.fieldLink "NoonMeals" (44 : Nat) "NoonMeals" "loads" "[I") ∈ lw_all := lw_g (lw_at lw_m1 185 rfl) rfl
theorem q277 : (Jvm.Cond.fieldLink "NoonMeals" (47 : Nat) "NoonMeals" "cars" "[I") ∈ lw_all := lw_g (lw_at lw_m1 186 rfl) rfl
theorem q278 : (Jvm.Cond.fieldLink "NoonMeals" (50 : Nat) "NoonMeals" "sharedCars" "[I") ∈ lw_all := lw_g (lw_at lw_m1 187 rfl) rfl
theorem q279 : (Jvm.Cond.fieldLink "NoonMeals" (154 : Nat) "NoonMeals" "isShared" "Z") ∈ lw_all := lw_g (lw_at lw_m1 188 rfl) rfl
theorem q280 : (Jvm.Cond.fieldLink "NoonMeals" (254 : Nat) "NoonMeals" "leastShare" "I") ∈ lw_all := lw_g (lw_at lw_m1 189 rfl) rfl
theorem q281 : (Jvm.Cond.fieldLink "NoonMeals" (53 : Nat) "NoonMeals" "bestCars" "[I") ∈ lw_all := lw_g (lw_at lw_m1 190 rfl) rfl
theorem q282 : (Jvm.Cond.fieldLink "NoonMeals" (56 : Nat) "NoonMeals" "coin" "[I") ∈ lw_all := lw_g (lw_at lw_m1 191 rfl) rfl
theorem q283 : (Jvm.Cond.fieldLink "NoonMeals" (59 : Nat) "NoonMeals" "menu" "[I") ∈ lw_all := lw_g (lw_at lw_m1 192 rfl) rfl
theorem q284 : (Jvm.Cond.fieldLink "NoonMeals" (148 : Nat) "NoonMeals" "menuDays" "I") ∈ lw_all := lw_g (lw_at lw_m1 193 rfl) rfl
theorem q285 : (Jvm.Cond.fieldLink "NoonMeals" (62 : Nat) "NoonMeals" "each" "[I") ∈ lw_all := lw_g (lw_at lw_m1 194 rfl) rfl
theorem q286 : (Jvm.Cond.fieldLink "NoonMeals" (65 : Nat) "NoonMeals" "calls" "[I") ∈ lw_all := lw_g (lw_at lw_m1 195 rfl) rfl
theorem q287 : (Jvm.Cond.fieldLink "NoonMeals" (68 : Nat) "NoonMeals" "bestCalls" "[I") ∈ lw_all := lw_g (lw_at lw_m1 196 rfl) rfl
theorem q288 : (Jvm.Cond.fieldLink "NoonMeals" (71 : Nat) "NoonMeals" "told" "[I") ∈ lw_all := lw_g (lw_at lw_m1 197 rfl) rfl
theorem q289 : (Jvm.Cond.fieldLink "NoonMeals" (151 : Nat) "NoonMeals" "ordered" "I") ∈ lw_all := lw_g (lw_at lw_m1 198 rfl) rfl
theorem q290 : (Jvm.Cond.fieldLink "NoonMeals" (344 : Nat) "NoonMeals" "leastExpected" "J") ∈ lw_all := lw_g (lw_at lw_m1 199 rfl) rfl
theorem q291 : (Jvm.Cond.fieldLink "NoonMeals" (74 : Nat) "NoonMeals" "who" "[I") ∈ lw_all := lw_g (lw_at lw_m1 200 rfl) rfl
theorem q292 : (Jvm.Cond.fieldLink "NoonMeals" (77 : Nat) "NoonMeals" "bestWho" "[I") ∈ lw_all := lw_g (lw_at lw_m1 201 rfl) rfl
theorem q293 : (Jvm.Cond.fieldLink "NoonMeals" (80 : Nat) "NoonMeals" "filledWho" "[I") ∈ lw_all := lw_g (lw_at lw_m1 202 rfl) rfl
theorem q294 : (Jvm.Cond.fieldLink "NoonMeals" (83 : Nat) "NoonMeals" "busy" "[I") ∈ lw_all := lw_g (lw_at lw_m1 203 rfl) rfl
theorem q295 : (Jvm.Cond.fieldLink "NoonMeals" (158 : Nat) "NoonMeals" "isFilled" "Z") ∈ lw_all := lw_g (lw_at lw_m1 204 rfl) rfl
theorem q296 : (Jvm.Cond.fieldLink "NoonMeals" (365 : Nat) "NoonMeals" "mostFilled" "I") ∈ lw_all := lw_g (lw_at lw_m1 205 rfl) rfl
theorem q297 : (Jvm.Cond.fieldLink "NoonMeals" (368 : Nat) "NoonMeals" "leastBusy" "I") ∈ lw_all := lw_g (lw_at lw_m1 206 rfl) rfl
theorem q298 : (Jvm.Cond.fieldLink "NoonMeals" (86 : Nat) "NoonMeals" "signs" "[I") ∈ lw_all := lw_g (lw_at lw_m1 207 rfl) rfl
theorem q299 : (Jvm.Cond.fieldLink "NoonMeals" (89 : Nat) "NoonMeals" "signMany" "[I") ∈ lw_all := lw_g (lw_at lw_m1 208 rfl) rfl
theorem q300 : (Jvm.Cond.fieldLink "NoonMeals" (92 : Nat) "NoonMeals" "probeCar" "[I") ∈ lw_all := lw_g (lw_at lw_m1 209 rfl) rfl
theorem q301 : (Jvm.Cond.fieldLink "NoonMeals" (95 : Nat) "NoonMeals" "probeMinute" "[I") ∈ lw_all := lw_g (lw_at lw_m1 210 rfl) rfl
theorem q302 : (Jvm.Cond.fieldLink "NoonMeals" (98 : Nat) "NoonMeals" "probeHeat" "[I") ∈ lw_all := lw_g (lw_at lw_m1 211 rfl) rfl
theorem q303 : (Jvm.Cond.fieldLink "NoonMeals" (145 : Nat) "NoonMeals" "probeMany" "I") ∈ lw_all := lw_g (lw_at lw_m1 212 rfl) rfl
theorem q304 : (Jvm.Cond.laysFinal "NoonMeals" "NoonMeals" "tape" "[B") ∈ lw_all := lw_g (lw_at lw_m1 213 rfl) rfl
theorem q305 : (Jvm.Cond.soleField "NoonMeals" "tape") ∈ lw_all := lw_g (lw_at lw_m1 214 rfl) rfl
theorem q306 : (Jvm.Cond.lays "NoonMeals" "NoonMeals" "taped" "I") ∈ lw_all := lw_g (lw_at lw_m1 215 rfl) rfl
theorem q307 : (Jvm.Cond.soleField "NoonMeals" "taped") ∈ lw_all := lw_g (lw_at lw_m1 216 rfl) rfl
theorem q308 : (Jvm.Cond.laysFinal "NoonMeals" "NoonMeals" "reader" "LNoonMeals$Reader;") ∈ lw_all := lw_g (lw_at lw_m1 217 rfl) rfl
theorem q309 : (Jvm.Cond.soleField "NoonMeals" "reader") ∈ lw_all := lw_g (lw_at lw_m1 218 rfl) rfl
theorem q310 : (Jvm.Cond.lays "NoonMeals" "NoonMeals" "day" "LNoonMeals$Day;") ∈ lw_all := lw_g (lw_at lw_m1 219 rfl) rfl
theorem q311 : (Jvm.Cond.soleField "NoonMeals" "day") ∈ lw_all := lw_g (lw_at lw_m1 220 rfl) rfl
theorem q312 : (Jvm.Cond.lays "NoonMeals" "NoonMeals" "trouble" "I") ∈ lw_all := lw_g (lw_at lw_m1 221 rfl) rfl
theorem q313 : (Jvm.Cond.soleField "NoonMeals" "trouble") ∈ lw_all := lw_g (lw_at lw_m1 222 rfl) rfl
theorem q314 : (Jvm.Cond.lays "NoonMeals" "NoonMeals" "fault" "I") ∈ lw_all := lw_g (lw_at lw_m1 223 rfl) rfl
theorem q315 : (Jvm.Cond.soleField "NoonMeals" "fault") ∈ lw_all := lw_g (lw_at lw_m1 224 rfl) rfl
theorem q316 : (Jvm.Cond.lays "NoonMeals" "NoonMeals" "where" "I") ∈ lw_all := lw_g (lw_at lw_m1 225 rfl) rfl
theorem q317 : (Jvm.Cond.soleField "NoonMeals" "where") ∈ lw_all := lw_g (lw_at lw_m1 226 rfl) rfl
theorem q318 : (Jvm.Cond.lays "NoonMeals" "NoonMeals" "tea" "I") ∈ lw_all := lw_g (lw_at lw_m1 227 rfl) rfl
theorem q319 : (Jvm.Cond.soleField "NoonMeals" "tea") ∈ lw_all := lw_g (lw_at lw_m1 228 rfl) rfl
theorem q320 : (Jvm.Cond.laysFinal "NoonMeals" "NoonMeals" "driven" "[LNoonMeals$Round;") ∈ lw_all := lw_g (lw_at lw_m1 229 rfl) rfl
theorem q321 : (Jvm.Cond.soleField "NoonMeals" "driven") ∈ lw_all := lw_g (lw_at lw_m1 230 rfl) rfl
theorem q322 : (Jvm.Cond.laysFinal "NoonMeals" "NoonMeals" "tried" "LNoonMeals$Round;") ∈ lw_all := lw_g (lw_at lw_m1 231 rfl) rfl
theorem q323 : (Jvm.Cond.soleField "NoonMeals" "tried") ∈ lw_all := lw_g (lw_at lw_m1 232 rfl) rfl
theorem q324 : (Jvm.Cond.laysFinal "NoonMeals" "NoonMeals" "best" "LNoonMeals$Round;") ∈ lw_all := lw_g (lw_at lw_m1 233 rfl) rfl
theorem q325 : (Jvm.Cond.soleField "NoonMeals" "best") ∈ lw_all := lw_g (lw_at lw_m1 234 rfl) rfl
theorem q326 : (Jvm.Cond.lays "NoonMeals" "NoonMeals" "bestWorth" "I") ∈ lw_all := lw_g (lw_at lw_m1 235 rfl) rfl
theorem q327 : (Jvm.Cond.soleField "NoonMeals" "bestWorth") ∈ lw_all := lw_g (lw_at lw_m1 236 rfl) rfl
theorem q328 : (Jvm.Cond.laysFinal "NoonMeals" "NoonMeals" "worths" "[I") ∈ lw_all := lw_g (lw_at lw_m1 237 rfl) rfl
theorem q329 : (Jvm.Cond.soleField "NoonMeals" "worths") ∈ lw_all := lw_g (lw_at lw_m1 238 rfl) rfl
theorem q330 : (Jvm.Cond.laysFinal "NoonMeals" "NoonMeals" "loads" "[I") ∈ lw_all := lw_g (lw_at lw_m1 239 rfl) rfl
theorem q331 : (Jvm.Cond.soleField "NoonMeals" "loads") ∈ lw_all := lw_g (lw_at lw_m2 0 rfl) rfl
theorem q332 : (Jvm.Cond.laysFinal "NoonMeals" "NoonMeals" "cars" "[I") ∈ lw_all := lw_g (lw_at lw_m2 1 rfl) rfl
theorem q333 : (Jvm.Cond.soleField "NoonMeals" "cars") ∈ lw_all := lw_g (lw_at lw_m2 2 rfl) rfl
theorem q334 : (Jvm.Cond.laysFinal "NoonMeals" "NoonMeals" "sharedCars" "[I") ∈ lw_all := lw_g (lw_at lw_m2 3 rfl) rfl
theorem q335 : (Jvm.Cond.soleField "NoonMeals" "sharedCars") ∈ lw_all := lw_g (lw_at lw_m2 4 rfl) rfl
theorem q336 : (Jvm.Cond.lays "NoonMeals" "NoonMeals" "isShared" "Z") ∈ lw_all := lw_g (lw_at lw_m2 5 rfl) rfl
theorem q337 : (Jvm.Cond.soleField "NoonMeals" "isShared") ∈ lw_all := lw_g (lw_at lw_m2 6 rfl) rfl
theorem q338 : (Jvm.Cond.lays "NoonMeals" "NoonMeals" "leastShare" "I") ∈ lw_all := lw_g (lw_at lw_m2 7 rfl) rfl
theorem q339 : (Jvm.Cond.soleField "NoonMeals" "leastShare") ∈ lw_all := lw_g (lw_at lw_m2 8 rfl) rfl
theorem q340 : (Jvm.Cond.laysFinal "NoonMeals" "NoonMeals" "bestCars" "[I") ∈ lw_all := lw_g (lw_at lw_m2 9 rfl) rfl
theorem q341 : (Jvm.Cond.soleField "NoonMeals" "bestCars") ∈ lw_all := lw_g (lw_at lw_m2 10 rfl) rfl
theorem q342 : (Jvm.Cond.laysFinal "NoonMeals" "NoonMeals" "coin" "[I") ∈ lw_all := lw_g (lw_at lw_m2 11 rfl) rfl
theorem q343 : (Jvm.Cond.soleField "NoonMeals" "coin") ∈ lw_all := lw_g (lw_at lw_m2 12 rfl) rfl
theorem q344 : (Jvm.Cond.laysFinal "NoonMeals" "NoonMeals" "menu" "[I") ∈ lw_all := lw_g (lw_at lw_m2 13 rfl) rfl
theorem q345 : (Jvm.Cond.soleField "NoonMeals" "menu") ∈ lw_all := lw_g (lw_at lw_m2 14 rfl) rfl
theorem q346 : (Jvm.Cond.lays "NoonMeals" "NoonMeals" "menuDays" "I") ∈ lw_all := lw_g (lw_at lw_m2 15 rfl) rfl
theorem q347 : (Jvm.Cond.soleField "NoonMeals" "menuDays") ∈ lw_all := lw_g (lw_at lw_m2 16 rfl) rfl
theorem q348 : (Jvm.Cond.laysFinal "NoonMeals" "NoonMeals" "each" "[I") ∈ lw_all := lw_g (lw_at lw_m2 17 rfl) rfl
theorem q349 : (Jvm.Cond.soleField "NoonMeals" "each") ∈ lw_all := lw_g (lw_at lw_m2 18 rfl) rfl
theorem q350 : (Jvm.Cond.laysFinal "NoonMeals" "NoonMeals" "calls" "[I") ∈ lw_all := lw_g (lw_at lw_m2 19 rfl) rfl
theorem q351 : (Jvm.Cond.soleField "NoonMeals" "calls") ∈ lw_all := lw_g (lw_at lw_m2 20 rfl) rfl
theorem q352 : (Jvm.Cond.laysFinal "NoonMeals" "NoonMeals" "bestCalls" "[I") ∈ lw_all := lw_g (lw_at lw_m2 21 rfl) rfl
theorem q353 : (Jvm.Cond.soleField "NoonMeals" "bestCalls") ∈ lw_all := lw_g (lw_at lw_m2 22 rfl) rfl
theorem q354 : (Jvm.Cond.laysFinal "NoonMeals" "NoonMeals" "told" "[I") ∈ lw_all := lw_g (lw_at lw_m2 23 rfl) rfl
theorem q355 : (Jvm.Cond.soleField "NoonMeals" "told") ∈ lw_all := lw_g (lw_at lw_m2 24 rfl) rfl
theorem q356 : (Jvm.Cond.lays "NoonMeals" "NoonMeals" "ordered" "I") ∈ lw_all := lw_g (lw_at lw_m2 25 rfl) rfl
theorem q357 : (Jvm.Cond.soleField "NoonMeals" "ordered") ∈ lw_all := lw_g (lw_at lw_m2 26 rfl) rfl
theorem q358 : (Jvm.Cond.lays "NoonMeals" "NoonMeals" "leastExpected" "J") ∈ lw_all := lw_g (lw_at lw_m2 27 rfl) rfl
theorem q359 : (Jvm.Cond.soleField "NoonMeals" "leastExpected") ∈ lw_all := lw_g (lw_at lw_m2 28 rfl) rfl
theorem q360 : (Jvm.Cond.laysFinal "NoonMeals" "NoonMeals" "who" "[I") ∈ lw_all := lw_g (lw_at lw_m2 29 rfl) rfl
theorem q361 : (Jvm.Cond.soleField "NoonMeals" "who") ∈ lw_all := lw_g (lw_at lw_m2 30 rfl) rfl
theorem q362 : (Jvm.Cond.laysFinal "NoonMeals" "NoonMeals" "bestWho" "[I") ∈ lw_all := lw_g (lw_at lw_m2 31 rfl) rfl
theorem q363 : (Jvm.Cond.soleField "NoonMeals" "bestWho") ∈ lw_all := lw_g (lw_at lw_m2 32 rfl) rfl
theorem q364 : (Jvm.Cond.laysFinal "NoonMeals" "NoonMeals" "filledWho" "[I") ∈ lw_all := lw_g (lw_at lw_m2 33 rfl) rfl
theorem q365 : (Jvm.Cond.soleField "NoonMeals" "filledWho") ∈ lw_all := lw_g (lw_at lw_m2 34 rfl) rfl
theorem q366 : (Jvm.Cond.laysFinal "NoonMeals" "NoonMeals" "busy" "[I") ∈ lw_all := lw_g (lw_at lw_m2 35 rfl) rfl
theorem q367 : (Jvm.Cond.soleField "NoonMeals" "busy") ∈ lw_all := lw_g (lw_at lw_m2 36 rfl) rfl
theorem q368 : (Jvm.Cond.lays "NoonMeals" "NoonMeals" "isFilled" "Z") ∈ lw_all := lw_g (lw_at lw_m2 37 rfl) rfl
theorem q369 : (Jvm.Cond.soleField "NoonMeals" "isFilled") ∈ lw_all := lw_g (lw_at lw_m2 38 rfl) rfl
theorem q370 : (Jvm.Cond.lays "NoonMeals" "NoonMeals" "mostFilled" "I") ∈ lw_all := lw_g (lw_at lw_m2 39 rfl) rfl
theorem q371 : (Jvm.Cond.soleField "NoonMeals" "mostFilled") ∈ lw_all := lw_g (lw_at lw_m2 40 rfl) rfl
theorem q372 : (Jvm.Cond.lays "NoonMeals" "NoonMeals" "leastBusy" "I") ∈ lw_all := lw_g (lw_at lw_m2 41 rfl) rfl
theorem q373 : (Jvm.Cond.soleField "NoonMeals" "leastBusy") ∈ lw_all := lw_g (lw_at lw_m2 42 rfl) rfl
theorem q374 : (Jvm.Cond.laysFinal "NoonMeals" "NoonMeals" "signs" "[I") ∈ lw_all := lw_g (lw_at lw_m2 43 rfl) rfl
theorem q375 : (Jvm.Cond.soleField "NoonMeals" "signs") ∈ lw_all := lw_g (lw_at lw_m2 44 rfl) rfl
theorem q376 : (Jvm.Cond.laysFinal "NoonMeals" "NoonMeals" "signMany" "[I") ∈ lw_all := lw_g (lw_at lw_m2 45 rfl) rfl
theorem q377 : (Jvm.Cond.soleField "NoonMeals" "signMany") ∈ lw_all := lw_g (lw_at lw_m2 46 rfl) rfl
theorem q378 : (Jvm.Cond.laysFinal "NoonMeals" "NoonMeals" "probeCar" "[I") ∈ lw_all := lw_g (lw_at lw_m2 47 rfl) rfl
theorem q379 : (Jvm.Cond.soleField "NoonMeals" "probeCar") ∈ lw_all := lw_g (lw_at lw_m2 48 rfl) rfl
theorem q380 : (Jvm.Cond.laysFinal "NoonMeals" "NoonMeals" "probeMinute" "[I") ∈ lw_all := lw_g (lw_at lw_m2 49 rfl) rfl
theorem q381 : (Jvm.Cond.soleField "NoonMeals" "probeMinute") ∈ lw_all := lw_g (lw_at lw_m2 50 rfl) rfl
theorem q382 : (Jvm.Cond.laysFinal "NoonMeals" "NoonMeals" "probeHeat" "[I") ∈ lw_all := lw_g (lw_at lw_m2 51 rfl) rfl
theorem q383 : (Jvm.Cond.soleField "NoonMeals" "probeHeat") ∈ lw_all := lw_g (lw_at lw_m2 52 rfl) rfl
theorem q384 : (Jvm.Cond.lays "NoonMeals" "NoonMeals" "probeMany" "I") ∈ lw_all := lw_g (lw_at lw_m2 53 rfl) rfl
theorem q385 : (Jvm.Cond.soleField "NoonMeals" "probeMany") ∈ lw_all := lw_g (lw_at lw_m2 54 rfl) rfl
theorem q386 : (Jvm.Cond.superclass "NoonMeals" "java/lang/Object") ∈ lw_all := lw_g (lw_at lw_m2 55 rfl) rfl
theorem q388 : (Jvm.Cond.instanceMethod ({ cls := "NoonMeals", name := "feed", desc := "(IIIII)I" } : Jvm.MethodName)) ∈ lw_all := lw_g (lw_at lw_m2 57 rfl) rfl
theorem q389 : (Jvm.Cond.selects "NoonMeals" ({ cls := "NoonMeals", name := "feed", desc := "(IIIII)I" } : Jvm.MethodName) ({ cls := "NoonMeals", name := "feed", desc := "(IIIII)I" } : Jvm.MethodName)) ∈ lw_all := lw_g (lw_at lw_m2 58 rfl) rfl
theorem q390 : (Jvm.Cond.code ({ cls := "NoonMeals", name := "feed", desc := "(IIIII)I" } : Jvm.MethodName) prog_1_method_8_code (6 : Nat) (Option.some Jvm.ClassFile.FieldType.int)) ∈ lw_all := lw_g (lw_at lw_m2 59 rfl) rfl
theorem q391 : (Jvm.Cond.methodLink "NoonMeals" (110 : Nat) ({ cls := "NoonMeals", name := "bytes", desc := "(I)V" } : Jvm.MethodName)) ∈ lw_all := lw_g (lw_at lw_m2 60 rfl) rfl
theorem q392 : (Jvm.Cond.privateMethod ({ cls := "NoonMeals", name := "bytes", desc := "(I)V" } : Jvm.MethodName)) ∈ lw_tbl := lw_at lw_m2 61 rfl
theorem q393 : (Jvm.Cond.instanceMethod ({ cls := "NoonMeals", name := "bytes", desc := "(I)V" } : Jvm.MethodName)) ∈ lw_all := lw_g (lw_at lw_m2 62 rfl) rfl
theorem q394 : (Jvm.Cond.code ({ cls := "NoonMeals", name := "bytes", desc := "(I)V" } : Jvm.MethodName) prog_1_method_9_code (3 : Nat) (Option.none : Option Jvm.ClassFile.FieldType)) ∈ lw_all := lw_g (lw_at lw_m2 63 rfl) rfl
theorem q396 : (Jvm.Cond.instanceMethod ({ cls := "NoonMeals", name := "day", desc := "(I)I" } : Jvm.MethodName)) ∈ lw_all := lw_g (lw_at lw_m2 65 rfl) rfl
theorem q397 : (Jvm.Cond.selects "NoonMeals" ({ cls := "NoonMeals", name := "day", desc := "(I)I" } : Jvm.MethodName) ({ cls := "NoonMeals", name := "day", desc := "(I)I" } : Jvm.MethodName)) ∈ lw_all := lw_g (lw_at lw_m2 66 rfl) rfl
theorem q398 : (Jvm.Cond.codeWith ({ cls := "NoonMeals", name := "day", desc := "(I)I" } : Jvm.MethodName) prog_1_method_10_code (6 : Nat) (Option.some Jvm.ClassFile.FieldType.int) [((32 : Nat), (44 : Nat), (47 : Nat), (133 : Nat))]) ∈ lw_all := lw_g (lw_at lw_m2 67 rfl) rfl
theorem q399 : (Jvm.Cond.classLink "NoonMeals" (133 : Nat) "NoonMeals$Refused") ∈ lw_all := lw_g (lw_at lw_m2 68 rfl) rfl
theorem q400 : (Jvm.Cond.methodLink "NoonMeals" (104 : Nat) ({ cls := "NoonMeals", name := "anew", desc := "()V" } : Jvm.MethodName)) ∈ lw_all := lw_g (lw_at lw_m2 69 rfl) rfl
theorem q401 : (Jvm.Cond.privateMethod ({ cls := "NoonMeals", name := "anew", desc := "()V" } : Jvm.MethodName)) ∈ lw_tbl := lw_at lw_m2 70 rfl
theorem q402 : (Jvm.Cond.instanceMethod ({ cls := "NoonMeals", name := "anew", desc := "()V" } : Jvm.MethodName)) ∈ lw_all := lw_g (lw_at lw_m2 71 rfl) rfl
theorem q403 : (Jvm.Cond.code ({ cls := "NoonMeals", name := "anew", desc := "()V" } : Jvm.MethodName) prog_1_method_5_code (1 : Nat) (Option.none : Option Jvm.ClassFile.FieldType)) ∈ lw_all := lw_g (lw_at lw_m2 72 rfl) rfl
theorem q404 : (Jvm.Cond.methodLink "NoonMeals" (114 : Nat) ({ cls := "NoonMeals", name := "in", desc := "(III)Z" } : Jvm.MethodName)) ∈ lw_all := lw_g (lw_at lw_m2 73 rfl) rfl
theorem q405 : (Jvm.Cond.static ({ cls := "NoonMeals", name := "in", desc := "(III)Z" } : Jvm.MethodName)) ∈ lw_all := lw_g (lw_at lw_m2 74 rfl) rfl
theorem q406 : (Jvm.Cond.code ({ cls := "NoonMeals", name := "in", desc := "(III)Z" } : Jvm.MethodName) prog_1_method_1_code (3 : Nat) (Option.some Jvm.ClassFile.FieldType.boolean)) ∈ lw_all := lw_g (lw_at lw_m2 75 rfl) rfl
theorem q407 : (Jvm.Cond.methodLink "NoonMeals" (118 : Nat) ({ cls := "NoonMeals", name := "no", desc := "(I)I" } : Jvm.MethodName)) ∈ lw_all := lw_g (lw_at lw_m2 76 rfl) rfl
theorem q408 : (Jvm.Cond.privateMethod ({ cls := "NoonMeals", name := "no", desc := "(I)I" } : Jvm.MethodName)) ∈ lw_tbl := lw_at lw_m2 77 rfl
theorem q409 : (Jvm.Cond.instanceMethod ({ cls := "NoonMeals", name := "no", desc := "(I)I" } : Jvm.MethodName)) ∈ lw_all := lw_g (lw_at lw_m2 78 rfl) rfl
theorem q410 : (Jvm.Cond.code ({ cls := "NoonMeals", name := "no", desc := "(I)I" } : Jvm.MethodName) prog_1_method_6_code (2 : Nat) (Option.some Jvm.ClassFile.FieldType.int)) ∈ lw_all := lw_g (lw_at lw_m2 79 rfl) rfl
theorem q411 : (Jvm.Cond.methodLink "NoonMeals" (125 : Nat) ({ cls := "NoonMeals$Reader", name := "read", desc := "(I)LNoonMeals$Day;" } : Jvm.MethodName)) ∈ lw_all := lw_g (lw_at lw_m2 80 rfl) rfl
theorem q439 : (Jvm.Cond.fieldLink "NoonMeals" (286 : Nat) "NoonMeals$Day" "dishes" "[LNoonMeals$Dish;") ∈ lw_all := lw_g (lw_at lw_m2 108 rfl) rfl
theorem q442 : (Jvm.Cond.fieldLink "NoonMeals" (315 : Nat) "NoonMeals$Day" "diets" "[LNoonMeals$Diet;") ∈ lw_all := lw_g (lw_at lw_m2 111 rfl) rfl
theorem q446 : (Jvm.Cond.fieldLink "NoonMeals" (270 : Nat) "NoonMeals$Day" "houses" "[LNoonMeals$House;") ∈ lw_all := lw_g (lw_at lw_m2 115 rfl) rfl
theorem q448 : (Jvm.Cond.fieldLink "NoonMeals" (182 : Nat) "NoonMeals$Day" "cars" "[LNoonMeals$Car;") ∈ lw_all := lw_g (lw_at lw_m2 117 rfl) rfl
theorem q452 : (Jvm.Cond.fieldLink "NoonMeals" (331 : Nat) "NoonMeals$Day" "calls" "[LNoonMeals$Call;") ∈ lw_all := lw_g (lw_at lw_m2 121 rfl) rfl
theorem q455 : (Jvm.Cond.fieldLink "NoonMeals" (371 : Nat) "NoonMeals$Day" "helpers" "[LNoonMeals$Helper;") ∈ lw_all := lw_g (lw_at lw_m2 124 rfl) rfl
theorem q462 : (Jvm.Cond.fieldLink "NoonMeals" (392 : Nat) "NoonMeals$Day" "kitchenMany" "I") ∈ lw_all := lw_g (lw_at lw_m2 131 rfl) rfl
theorem q465 : (Jvm.Cond.fieldLink "NoonMeals" (278 : Nat) "NoonMeals$Day" "dishMany" "I") ∈ lw_all := lw_g (lw_at lw_m2 134 rfl) rfl
theorem q468 : (Jvm.Cond.fieldLink "NoonMeals" (312 : Nat) "NoonMeals$Day" "dietMany" "I") ∈ lw_all := lw_g (lw_at lw_m2 137 rfl) rfl
theorem q470 : (Jvm.Cond.fieldLink "NoonMeals" (161 : Nat) "NoonMeals$Day" "houseMany" "I") ∈ lw_all := lw_g (lw_at lw_m2 139 rfl) rfl
theorem q473 : (Jvm.Cond.fieldLink "NoonMeals" (166 : Nat) "NoonMeals$Day" "carMany" "I") ∈ lw_all := lw_g (lw_at lw_m2 142 rfl) rfl
theorem q477 : (Jvm.Cond.fieldLink "NoonMeals" (326 : Nat) "NoonMeals$Day" "callMany" "I") ∈ lw_all := lw_g (lw_at lw_m2 146 rfl) rfl
theorem q480 : (Jvm.Cond.fieldLink "NoonMeals" (357 : Nat) "NoonMeals$Day" "helperMany" "I") ∈ lw_all := lw_g (lw_at lw_m2 149 rfl) rfl
theorem q483 : (Jvm.Cond.fieldLink "NoonMeals" (407 : Nat) "NoonMeals$Day" "floodMany" "I") ∈ lw_all := lw_g (lw_at lw_m2 152 rfl) rfl
theorem q486 : (Jvm.Cond.fieldLink "NoonMeals" (389 : Nat) "NoonMeals$Day" "hot" "I") ∈ lw_all := lw_g (lw_at lw_m2 155 rfl) rfl
theorem q768 : (Jvm.Cond.fieldLink "NoonMeals" (399 : Nat) "NoonMeals$Kitchen" "number" "I") ∈ lw_all := lw_g (lw_at lw_m3 197 rfl) rfl
theorem q792 : (Jvm.Cond.fieldLink "NoonMeals" (290 : Nat) "NoonMeals$Dish" "letters" "I") ∈ lw_all := lw_g (lw_at lw_m3 221 rfl) rfl
theorem q794 : (Jvm.Cond.fieldLink "NoonMeals" (309 : Nat) "NoonMeals$Dish" "costs" "I") ∈ lw_all := lw_g (lw_at lw_m3 223 rfl) rfl
theorem q847 : (Jvm.Cond.fieldLink "NoonMeals" (281 : Nat) "NoonMeals$Diet" "bars" "I") ∈ lw_all := lw_g (lw_at lw_m4 36 rfl) rfl
theorem q871 : (Jvm.Cond.fieldLink "NoonMeals" (273 : Nat) "NoonMeals$House" "chance" "I") ∈ lw_all := lw_g (lw_at lw_m4 60 rfl) rfl
theorem q873 : (Jvm.Cond.fieldLink "NoonMeals" (323 : Nat) "NoonMeals$House" "need" "I") ∈ lw_all := lw_g (lw_at lw_m4 62 rfl) rfl
theorem q875 : (Jvm.Cond.fieldLink "NoonMeals" (298 : Nat) "NoonMeals$House" "diet" "LNoonMeals$Diet;") ∈ lw_all := lw_g (lw_at lw_m4 64 rfl) rfl
theorem q913 : (Jvm.Cond.fieldLink "NoonMeals" (395 : Nat) "NoonMeals$Car" "kitchen" "LNoonMeals$Kitchen;") ∈ lw_all := lw_g (lw_at lw_m4 102 rfl) rfl
theorem q917 : (Jvm.Cond.fieldLink "NoonMeals" (386 : Nat) "NoonMeals$Car" "starts" "I") ∈ lw_all := lw_g (lw_at lw_m4 106 rfl) rfl
theorem q918 : (Jvm.Cond.fieldLink "NoonMeals" (185 : Nat) "NoonMeals$Car" "holds" "I") ∈ lw_all := lw_g (lw_at lw_m4 107 rfl) rfl
theorem q952 : (Jvm.Cond.fieldLink "NoonMeals" (334 : Nat) "NoonMeals$Call" "takes" "I") ∈ lw_all := lw_g (lw_at lw_m4 141 rfl) rfl
theorem q954 : (Jvm.Cond.fieldLink "NoonMeals" (339 : Nat) "NoonMeals$Call" "chance" "I") ∈ lw_all := lw_g (lw_at lw_m4 143 rfl) rfl
theorem q974 : (Jvm.Cond.fieldLink "NoonMeals" (375 : Nat) "NoonMeals$Helper" "days" "I") ∈ lw_all := lw_g (lw_at lw_m4 163 rfl) rfl
theorem q976 : (Jvm.Cond.fieldLink "NoonMeals" (380 : Nat) "NoonMeals$Helper" "most" "I") ∈ lw_all := lw_g (lw_at lw_m4 165 rfl) rfl
theorem q986 : (Jvm.Cond.static ({ cls := "NoonMeals", name := "lies", desc := "(II)Z" } : Jvm.MethodName)) ∈ lw_all := lw_g (lw_at lw_m4 175 rfl) rfl
theorem q987 : (Jvm.Cond.code ({ cls := "NoonMeals", name := "lies", desc := "(II)Z" } : Jvm.MethodName) prog_1_method_2_code (2 : Nat) (Option.some Jvm.ClassFile.FieldType.boolean)) ∈ lw_all := lw_g (lw_at lw_m4 176 rfl) rfl
theorem q990 : (Jvm.Cond.instanceMethod ({ cls := "NoonMeals", name := "fault", desc := "()I" } : Jvm.MethodName)) ∈ lw_all := lw_g (lw_at lw_m4 179 rfl) rfl
theorem q991 : (Jvm.Cond.selects "NoonMeals" ({ cls := "NoonMeals", name := "fault", desc := "()I" } : Jvm.MethodName) ({ cls := "NoonMeals", name := "fault", desc := "()I" } : Jvm.MethodName)) ∈ lw_all := lw_g (lw_at lw_m4 180 rfl) rfl
theorem q992 : (Jvm.Cond.code ({ cls := "NoonMeals", name := "fault", desc := "()I" } : Jvm.MethodName) prog_1_method_11_code (1 : Nat) (Option.some Jvm.ClassFile.FieldType.int)) ∈ lw_all := lw_g (lw_at lw_m4 181 rfl) rfl
theorem q994 : (Jvm.Cond.instanceMethod ({ cls := "NoonMeals", name := "where", desc := "()I" } : Jvm.MethodName)) ∈ lw_all := lw_g (lw_at lw_m4 183 rfl) rfl
theorem q995 : (Jvm.Cond.selects "NoonMeals" ({ cls := "NoonMeals", name := "where", desc := "()I" } : Jvm.MethodName) ({ cls := "NoonMeals", name := "where", desc := "()I" } : Jvm.MethodName)) ∈ lw_all := lw_g (lw_at lw_m4 184 rfl) rfl
theorem q996 : (Jvm.Cond.code ({ cls := "NoonMeals", name := "where", desc := "()I" } : Jvm.MethodName) prog_1_method_12_code (1 : Nat) (Option.some Jvm.ClassFile.FieldType.int)) ∈ lw_all := lw_g (lw_at lw_m4 185 rfl) rfl
theorem q998 : (Jvm.Cond.instanceMethod ({ cls := "NoonMeals", name := "drive", desc := "(II)I" } : Jvm.MethodName)) ∈ lw_all := lw_g (lw_at lw_m4 187 rfl) rfl
theorem q999 : (Jvm.Cond.selects "NoonMeals" ({ cls := "NoonMeals", name := "drive", desc := "(II)I" } : Jvm.MethodName) ({ cls := "NoonMeals", name := "drive", desc := "(II)I" } : Jvm.MethodName)) ∈ lw_all := lw_g (lw_at lw_m4 188 rfl) rfl
theorem q1000 : (Jvm.Cond.code ({ cls := "NoonMeals", name := "drive", desc := "(II)I" } : Jvm.MethodName) prog_1_method_17_code (4 : Nat) (Option.some Jvm.ClassFile.FieldType.int)) ∈ lw_all := lw_g (lw_at lw_m4 189 rfl) rfl
theorem q1001 : (Jvm.Cond.methodLink "NoonMeals" (172 : Nat) ({ cls := "NoonMeals", name := "isCar", desc := "(I)Z" } : Jvm.MethodName)) ∈ lw_all := lw_g (lw_at lw_m4 190 rfl) rfl
theorem q1002 : (Jvm.Cond.privateMethod ({ cls := "NoonMeals", name := "isCar", desc := "(I)Z" } : Jvm.MethodName)) ∈ lw_tbl := lw_at lw_m4 191 rfl
theorem q1003 : (Jvm.Cond.instanceMethod ({ cls := "NoonMeals", name := "isCar", desc := "(I)Z" } : Jvm.MethodName)) ∈ lw_all := lw_g (lw_at lw_m4 192 rfl) rfl
theorem q1004 : (Jvm.Cond.code ({ cls := "NoonMeals", name := "isCar", desc := "(I)Z" } : Jvm.MethodName) prog_1_method_13_code (2 : Nat) (Option.some Jvm.ClassFile.FieldType.boolean)) ∈ lw_all := lw_g (lw_at lw_m4 193 rfl) rfl
theorem q1005 : (Jvm.Cond.methodLink "NoonMeals" (176 : Nat) ({ cls := "NoonMeals", name := "isHouse", desc := "(I)Z" } : Jvm.MethodName)) ∈ lw_all := lw_g (lw_at lw_m4 194 rfl) rfl
theorem q1006 : (Jvm.Cond.privateMethod ({ cls := "NoonMeals", name := "isHouse", desc := "(I)Z" } : Jvm.MethodName)) ∈ lw_tbl := lw_at lw_m4 195 rfl
theorem q1007 : (Jvm.Cond.instanceMethod ({ cls := "NoonMeals", name := "isHouse", desc := "(I)Z" } : Jvm.MethodName)) ∈ lw_all := lw_g (lw_at lw_m4 196 rfl) rfl
theorem q1008 : (Jvm.Cond.code ({ cls := "NoonMeals", name := "isHouse", desc := "(I)Z" } : Jvm.MethodName) prog_1_method_14_code (2 : Nat) (Option.some Jvm.ClassFile.FieldType.boolean)) ∈ lw_all := lw_g (lw_at lw_m4 197 rfl) rfl
theorem q1009 : (Jvm.Cond.methodLink "NoonMeals" (179 : Nat) ({ cls := "NoonMeals", name := "carOf", desc := "(I)I" } : Jvm.MethodName)) ∈ lw_all := lw_g (lw_at lw_m4 198 rfl) rfl
theorem q1010 : (Jvm.Cond.privateMethod ({ cls := "NoonMeals", name := "carOf", desc := "(I)I" } : Jvm.MethodName)) ∈ lw_tbl := lw_at lw_m4 199 rfl
theorem q1011 : (Jvm.Cond.instanceMethod ({ cls := "NoonMeals", name := "carOf", desc := "(I)I" } : Jvm.MethodName)) ∈ lw_all := lw_g (lw_at lw_m4 200 rfl) rfl
theorem q1012 : (Jvm.Cond.code ({ cls := "NoonMeals", name := "carOf", desc := "(I)I" } : Jvm.MethodName) prog_1_method_16_code (3 : Nat) (Option.some Jvm.ClassFile.FieldType.int)) ∈ lw_all := lw_g (lw_at lw_m4 201 rfl) rfl
theorem q1013 : (Jvm.Cond.methodLink "NoonMeals" (169 : Nat) ({ cls := "NoonMeals$Round", name := "placeOf", desc := "(I)I" } : Jvm.MethodName)) ∈ lw_all := lw_g (lw_at lw_m4 202 rfl) rfl
theorem q1018 : (Jvm.Cond.instanceMethod ({ cls := "NoonMeals", name := "unload", desc := "(I)I" } : Jvm.MethodName)) ∈ lw_all := lw_g (lw_at lw_m4 207 rfl) rfl
theorem q1019 : (Jvm.Cond.selects "NoonMeals" ({ cls := "NoonMeals", name := "unload", desc := "(I)I" } : Jvm.MethodName) ({ cls := "NoonMeals", name := "unload", desc := "(I)I" } : Jvm.MethodName)) ∈ lw_all := lw_g (lw_at lw_m4 208 rfl) rfl
theorem q1020 : (Jvm.Cond.code ({ cls := "NoonMeals", name := "unload", desc := "(I)I" } : Jvm.MethodName) prog_1_method_18_code (3 : Nat) (Option.some Jvm.ClassFile.FieldType.int)) ∈ lw_all := lw_g (lw_at lw_m4 209 rfl) rfl
theorem q1022 : (Jvm.Cond.instanceMethod ({ cls := "NoonMeals", name := "tea", desc := "(I)Z" } : Jvm.MethodName)) ∈ lw_all := lw_g (lw_at lw_m4 211 rfl) rfl
theorem q1023 : (Jvm.Cond.selects "NoonMeals" ({ cls := "NoonMeals", name := "tea", desc := "(I)Z" } : Jvm.MethodName) ({ cls := "NoonMeals", name := "tea", desc := "(I)Z" } : Jvm.MethodName)) ∈ lw_all := lw_g (lw_at lw_m4 212 rfl) rfl
theorem q1024 : (Jvm.Cond.code ({ cls := "NoonMeals", name := "tea", desc := "(I)Z" } : Jvm.MethodName) prog_1_method_19_code (2 : Nat) (Option.some Jvm.ClassFile.FieldType.boolean)) ∈ lw_all := lw_g (lw_at lw_m4 213 rfl) rfl
theorem q1025 : (Jvm.Cond.methodLink "NoonMeals" (193 : Nat) ({ cls := "NoonMeals", name := "isSet", desc := "(I)Z" } : Jvm.MethodName)) ∈ lw_all := lw_g (lw_at lw_m4 214 rfl) rfl
theorem q1026 : (Jvm.Cond.privateMethod ({ cls := "NoonMeals", name := "isSet", desc := "(I)Z" } : Jvm.MethodName)) ∈ lw_tbl := lw_at lw_m4 215 rfl
theorem q1027 : (Jvm.Cond.instanceMethod ({ cls := "NoonMeals", name := "isSet", desc := "(I)Z" } : Jvm.MethodName)) ∈ lw_all := lw_g (lw_at lw_m4 216 rfl) rfl
theorem q1028 : (Jvm.Cond.code ({ cls := "NoonMeals", name := "isSet", desc := "(I)Z" } : Jvm.MethodName) prog_1_method_15_code (2 : Nat) (Option.some Jvm.ClassFile.FieldType.boolean)) ∈ lw_all := lw_g (lw_at lw_m4 217 rfl) rfl
theorem q1029 : (Jvm.Cond.methodLink "NoonMeals" (196 : Nat) ({ cls := "NoonMeals", name := "yes", desc := "(I)Z" } : Jvm.MethodName)) ∈ lw_all := lw_g (lw_at lw_m4 218 rfl) rfl
theorem q1030 : (Jvm.Cond.privateMethod ({ cls := "NoonMeals", name := "yes", desc := "(I)Z" } : Jvm.MethodName)) ∈ lw_tbl := lw_at lw_m4 219 rfl
theorem q1031 : (Jvm.Cond.instanceMethod ({ cls := "NoonMeals", name := "yes", desc := "(I)Z" } : Jvm.MethodName)) ∈ lw_all := lw_g (lw_at lw_m4 220 rfl) rfl
theorem q1032 : (Jvm.Cond.code ({ cls := "NoonMeals", name := "yes", desc := "(I)Z" } : Jvm.MethodName) prog_1_method_7_code (2 : Nat) (Option.some Jvm.ClassFile.FieldType.boolean)) ∈ lw_all := lw_g (lw_at lw_m4 221 rfl) rfl
theorem q1034 : (Jvm.Cond.instanceMethod ({ cls := "NoonMeals", name := "comes", desc := "(I)I" } : Jvm.MethodName)) ∈ lw_all := lw_g (lw_at lw_m4 223 rfl) rfl
theorem q1035 : (Jvm.Cond.selects "NoonMeals" ({ cls := "NoonMeals", name := "comes", desc := "(I)I" } : Jvm.MethodName) ({ cls := "NoonMeals", name := "comes", desc := "(I)I" } : Jvm.MethodName)) ∈ lw_all := lw_g (lw_at lw_m4 224 rfl) rfl
theorem q1036 : (Jvm.Cond.code ({ cls := "NoonMeals", name := "comes", desc := "(I)I" } : Jvm.MethodName) prog_1_method_23_code (3 : Nat) (Option.some Jvm.ClassFile.FieldType.int)) ∈ lw_all := lw_g (lw_at lw_m4 225 rfl) rfl
theorem q1037 : (Jvm.Cond.methodLink "NoonMeals" (210 : Nat) ({ cls := "NoonMeals", name := "drivenWhy", desc := "(I)I" } : Jvm.MethodName)) ∈ lw_all := lw_g (lw_at lw_m4 226 rfl) rfl
theorem q1038 : (Jvm.Cond.privateMethod ({ cls := "NoonMeals", name := "drivenWhy", desc := "(I)I" } : Jvm.MethodName)) ∈ lw_tbl := lw_at lw_m4 227 rfl
theorem q1039 : (Jvm.Cond.instanceMethod ({ cls := "NoonMeals", name := "drivenWhy", desc := "(I)I" } : Jvm.MethodName)) ∈ lw_all := lw_g (lw_at lw_m4 228 rfl) rfl
theorem q1040 : (Jvm.Cond.code ({ cls := "NoonMeals", name := "drivenWhy", desc := "(I)I" } : Jvm.MethodName) prog_1_method_22_code (2 : Nat) (Option.some Jvm.ClassFile.FieldType.int)) ∈ lw_all := lw_g (lw_at lw_m4 229 rfl) rfl
theorem q1041 : (Jvm.Cond.methodLink "NoonMeals" (213 : Nat) ({ cls := "NoonMeals", name := "comesTo", desc := "(II)I" } : Jvm.MethodName)) ∈ lw_all := lw_g (lw_at lw_m4 230 rfl) rfl
theorem q1042 : (Jvm.Cond.privateMethod ({ cls := "NoonMeals", name := "comesTo", desc := "(II)I" } : Jvm.MethodName)) ∈ lw_tbl := lw_at lw_m4 231 rfl
theorem q1043 : (Jvm.Cond.instanceMethod ({ cls := "NoonMeals", name := "comesTo", desc := "(II)I" } : Jvm.MethodName)) ∈ lw_all := lw_g (lw_at lw_m4 232 rfl) rfl
theorem q1044 : (Jvm.Cond.code ({ cls := "NoonMeals", name := "comesTo", desc := "(II)I" } : Jvm.MethodName) prog_1_method_21_code (4 : Nat) (Option.some Jvm.ClassFile.FieldType.int)) ∈ lw_all := lw_g (lw_at lw_m4 233 rfl) rfl
theorem q1045 : (Jvm.Cond.methodLink "NoonMeals" (203 : Nat) ({ cls := "NoonMeals", name := "walked", desc := "(II)LNoonMeals$Round;" } : Jvm.MethodName)) ∈ lw_all := lw_g (lw_at lw_m4 234 rfl) rfl
theorem q1046 : (Jvm.Cond.privateMethod ({ cls := "NoonMeals", name := "walked", desc := "(II)LNoonMeals$Round;" } : Jvm.MethodName)) ∈ lw_tbl := lw_at lw_m4 235 rfl
theorem q1047 : (Jvm.Cond.instanceMethod ({ cls := "NoonMeals", name := "walked", desc := "(II)LNoonMeals$Round;" } : Jvm.MethodName)) ∈ lw_all := lw_g (lw_at lw_m4 236 rfl) rfl
theorem q1048 : (Jvm.Cond.code ({ cls := "NoonMeals", name := "walked", desc := "(II)LNoonMeals$Round;" } : Jvm.MethodName) prog_1_method_20_code (3 : Nat) (Option.some (Jvm.ClassFile.FieldType.object "NoonMeals$Round"))) ∈ lw_all := lw_g (lw_at lw_m4 237 rfl) rfl
theorem q1049 : (Jvm.Cond.methodLink "NoonMeals" (199 : Nat) ({ cls := "NoonMeals$Round", name := "walks", desc := "(LNoonMeals$Day;LNoonMeals$Car;I)LNoonMeals$Round;" } : Jvm.MethodName)) ∈ lw_all := lw_g (lw_at lw_m4 238 rfl) rfl
theorem q1073 : (Jvm.Cond.instanceMethod ({ cls := "NoonMeals", name := "heat", desc := "(I)I" } : Jvm.MethodName)) ∈ lw_all := lw_g (lw_at lw_m5 22 rfl) rfl
theorem q1074 : (Jvm.Cond.selects "NoonMeals" ({ cls := "NoonMeals", name := "heat", desc := "(I)I" } : Jvm.MethodName) ({ cls := "NoonMeals", name := "heat", desc := "(I)I" } : Jvm.MethodName)) ∈ lw_all := lw_g (lw_at lw_m5 23 rfl) rfl
theorem q1075 : (Jvm.Cond.code ({ cls := "NoonMeals", name := "heat", desc := "(I)I" } : Jvm.MethodName) prog_1_method_24_code (2 : Nat) (Option.some Jvm.ClassFile.FieldType.int)) ∈ lw_all := lw_g (lw_at lw_m5 24 rfl) rfl
theorem q1076 : (Jvm.Cond.methodLink "NoonMeals" (217 : Nat) ({ cls := "NoonMeals$Car", name := "heat", desc := "(I)I" } : Jvm.MethodName)) ∈ lw_all := lw_g (lw_at lw_m5 25 rfl) rfl
theorem q1078 : (Jvm.Cond.instanceMethod ({ cls := "NoonMeals", name := "bad", desc := "(I)I" } : Jvm.MethodName)) ∈ lw_all := lw_g (lw_at lw_m5 27 rfl) rfl
theorem q1079 : (Jvm.Cond.selects "NoonMeals" ({ cls := "NoonMeals", name := "bad", desc := "(I)I" } : Jvm.MethodName) ({ cls := "NoonMeals", name := "bad", desc := "(I)I" } : Jvm.MethodName)) ∈ lw_all := lw_g (lw_at lw_m5 28 rfl) rfl
theorem q1080 : (Jvm.Cond.code ({ cls := "NoonMeals", name := "bad", desc := "(I)I" } : Jvm.MethodName) prog_1_method_25_code (2 : Nat) (Option.some Jvm.ClassFile.FieldType.int)) ∈ lw_all := lw_g (lw_at lw_m5 29 rfl) rfl
theorem q1082 : (Jvm.Cond.instanceMethod ({ cls := "NoonMeals", name := "way", desc := "(II)I" } : Jvm.MethodName)) ∈ lw_all := lw_g (lw_at lw_m5 31 rfl) rfl
theorem q1083 : (Jvm.Cond.selects "NoonMeals" ({ cls := "NoonMeals", name := "way", desc := "(II)I" } : Jvm.MethodName) ({ cls := "NoonMeals", name := "way", desc := "(II)I" } : Jvm.MethodName)) ∈ lw_all := lw_g (lw_at lw_m5 32 rfl) rfl
theorem q1084 : (Jvm.Cond.code ({ cls := "NoonMeals", name := "way", desc := "(II)I" } : Jvm.MethodName) prog_1_method_26_code (3 : Nat) (Option.some Jvm.ClassFile.FieldType.int)) ∈ lw_all := lw_g (lw_at lw_m5 33 rfl) rfl
theorem q1085 : (Jvm.Cond.methodLink "NoonMeals" (223 : Nat) ({ cls := "NoonMeals$Day", name := "way", desc := "(II)I" } : Jvm.MethodName)) ∈ lw_all := lw_g (lw_at lw_m5 34 rfl) rfl
theorem q1087 : (Jvm.Cond.instanceMethod ({ cls := "NoonMeals", name := "best", desc := "(II)I" } : Jvm.MethodName)) ∈ lw_all := lw_g (lw_at lw_m5 36 rfl) rfl
theorem q1088 : (Jvm.Cond.selects "NoonMeals" ({ cls := "NoonMeals", name := "best", desc := "(II)I" } : Jvm.MethodName) ({ cls := "NoonMeals", name := "best", desc := "(II)I" } : Jvm.MethodName)) ∈ lw_all := lw_g (lw_at lw_m5 37 rfl) rfl
theorem q1089 : (Jvm.Cond.code ({ cls := "NoonMeals", name := "best", desc := "(II)I" } : Jvm.MethodName) prog_1_method_30_code (4 : Nat) (Option.some Jvm.ClassFile.FieldType.int)) ∈ lw_all := lw_g (lw_at lw_m5 38 rfl) rfl
theorem q1090 : (Jvm.Cond.methodLink "NoonMeals" (248 : Nat) ({ cls := "NoonMeals", name := "bestWhy", desc := "(II)I" } : Jvm.MethodName)) ∈ lw_all := lw_g (lw_at lw_m5 39 rfl) rfl
theorem q1091 : (Jvm.Cond.privateMethod ({ cls := "NoonMeals", name := "bestWhy", desc := "(II)I" } : Jvm.MethodName)) ∈ lw_tbl := lw_at lw_m5 40 rfl
theorem q1092 : (Jvm.Cond.instanceMethod ({ cls := "NoonMeals", name := "bestWhy", desc := "(II)I" } : Jvm.MethodName)) ∈ lw_all := lw_g (lw_at lw_m5 41 rfl) rfl
theorem q1093 : (Jvm.Cond.code ({ cls := "NoonMeals", name := "bestWhy", desc := "(II)I" } : Jvm.MethodName) prog_1_method_29_code (3 : Nat) (Option.some Jvm.ClassFile.FieldType.int)) ∈ lw_all := lw_g (lw_at lw_m5 42 rfl) rfl
theorem q1094 : (Jvm.Cond.methodLink "NoonMeals" (245 : Nat) ({ cls := "NoonMeals", name := "ones", desc := "(I)I" } : Jvm.MethodName)) ∈ lw_all := lw_g (lw_at lw_m5 43 rfl) rfl
theorem q1095 : (Jvm.Cond.static ({ cls := "NoonMeals", name := "ones", desc := "(I)I" } : Jvm.MethodName)) ∈ lw_all := lw_g (lw_at lw_m5 44 rfl) rfl
theorem q1096 : (Jvm.Cond.code ({ cls := "NoonMeals", name := "ones", desc := "(I)I" } : Jvm.MethodName) prog_1_method_3_code (3 : Nat) (Option.some Jvm.ClassFile.FieldType.int)) ∈ lw_all := lw_g (lw_at lw_m5 45 rfl) rfl
theorem q1097 : (Jvm.Cond.methodLink "NoonMeals" (251 : Nat) ({ cls := "NoonMeals", name := "bestOf", desc := "(II)I" } : Jvm.MethodName)) ∈ lw_all := lw_g (lw_at lw_m5 46 rfl) rfl
theorem q1098 : (Jvm.Cond.privateMethod ({ cls := "NoonMeals", name := "bestOf", desc := "(II)I" } : Jvm.MethodName)) ∈ lw_tbl := lw_at lw_m5 47 rfl
theorem q1099 : (Jvm.Cond.instanceMethod ({ cls := "NoonMeals", name := "bestOf", desc := "(II)I" } : Jvm.MethodName)) ∈ lw_all := lw_g (lw_at lw_m5 48 rfl) rfl
theorem q1100 : (Jvm.Cond.code ({ cls := "NoonMeals", name := "bestOf", desc := "(II)I" } : Jvm.MethodName) prog_1_method_28_code (3 : Nat) (Option.some Jvm.ClassFile.FieldType.int)) ∈ lw_all := lw_g (lw_at lw_m5 49 rfl) rfl
theorem q1101 : (Jvm.Cond.methodLink "NoonMeals" (241 : Nat) ({ cls := "NoonMeals", name := "orders", desc := "(LNoonMeals$Car;I)V" } : Jvm.MethodName)) ∈ lw_all := lw_g (lw_at lw_m5 50 rfl) rfl
theorem q1102 : (Jvm.Cond.privateMethod ({ cls := "NoonMeals", name := "orders", desc := "(LNoonMeals$Car;I)V" } : Jvm.MethodName)) ∈ lw_tbl := lw_at lw_m5 51 rfl
theorem q1103 : (Jvm.Cond.instanceMethod ({ cls := "NoonMeals", name := "orders", desc := "(LNoonMeals$Car;I)V" } : Jvm.MethodName)) ∈ lw_all := lw_g (lw_at lw_m5 52 rfl) rfl
theorem q1104 : (Jvm.Cond.code ({ cls := "NoonMeals", name := "orders", desc := "(LNoonMeals$Car;I)V" } : Jvm.MethodName) prog_1_method_27_code (4 : Nat) (Option.none : Option Jvm.ClassFile.FieldType)) ∈ lw_all := lw_g (lw_at lw_m5 53 rfl) rfl
theorem q1105 : (Jvm.Cond.methodLink "NoonMeals" (226 : Nat) ({ cls := "NoonMeals$Round", name := "worth", desc := "(LNoonMeals$Car;)I" } : Jvm.MethodName)) ∈ lw_all := lw_g (lw_at lw_m5 54 rfl) rfl
theorem q1114 : (Jvm.Cond.methodLink "NoonMeals" (233 : Nat) ({ cls := "NoonMeals$Round", name := "become", desc := "(LNoonMeals$Round;)V" } : Jvm.MethodName)) ∈ lw_all := lw_g (lw_at lw_m5 63 rfl) rfl
theorem q1121 : (Jvm.Cond.methodLink "NoonMeals" (237 : Nat) ({ cls := "NoonMeals", name := "lies", desc := "(II)Z" } : Jvm.MethodName)) ∈ lw_all := lw_g (lw_at lw_m5 70 rfl) rfl
theorem q1123 : (Jvm.Cond.instanceMethod ({ cls := "NoonMeals", name := "bestAt", desc := "(III)I" } : Jvm.MethodName)) ∈ lw_all := lw_g (lw_at lw_m5 72 rfl) rfl
theorem q1124 : (Jvm.Cond.selects "NoonMeals" ({ cls := "NoonMeals", name := "bestAt", desc := "(III)I" } : Jvm.MethodName) ({ cls := "NoonMeals", name := "bestAt", desc := "(III)I" } : Jvm.MethodName)) ∈ lw_all := lw_g (lw_at lw_m5 73 rfl) rfl
theorem q1125 : (Jvm.Cond.code ({ cls := "NoonMeals", name := "bestAt", desc := "(III)I" } : Jvm.MethodName) prog_1_method_31_code (5 : Nat) (Option.some Jvm.ClassFile.FieldType.int)) ∈ lw_all := lw_g (lw_at lw_m5 74 rfl) rfl
theorem q1127 : (Jvm.Cond.instanceMethod ({ cls := "NoonMeals", name := "share", desc := "()I" } : Jvm.MethodName)) ∈ lw_all := lw_g (lw_at lw_m5 76 rfl) rfl
theorem q1128 : (Jvm.Cond.selects "NoonMeals" ({ cls := "NoonMeals", name := "share", desc := "()I" } : Jvm.MethodName) ({ cls := "NoonMeals", name := "share", desc := "()I" } : Jvm.MethodName)) ∈ lw_all := lw_g (lw_at lw_m5 77 rfl) rfl
theorem q1129 : (Jvm.Cond.code ({ cls := "NoonMeals", name := "share", desc := "()I" } : Jvm.MethodName) prog_1_method_33_code (3 : Nat) (Option.some Jvm.ClassFile.FieldType.int)) ∈ lw_all := lw_g (lw_at lw_m5 78 rfl) rfl
theorem q1130 : (Jvm.Cond.methodLink "NoonMeals" (263 : Nat) ({ cls := "NoonMeals", name := "shares", desc := "(I)V" } : Jvm.MethodName)) ∈ lw_all := lw_g (lw_at lw_m5 79 rfl) rfl
theorem q1131 : (Jvm.Cond.privateMethod ({ cls := "NoonMeals", name := "shares", desc := "(I)V" } : Jvm.MethodName)) ∈ lw_tbl := lw_at lw_m5 80 rfl
theorem q1132 : (Jvm.Cond.instanceMethod ({ cls := "NoonMeals", name := "shares", desc := "(I)V" } : Jvm.MethodName)) ∈ lw_all := lw_g (lw_at lw_m5 81 rfl) rfl
theorem q1133 : (Jvm.Cond.code ({ cls := "NoonMeals", name := "shares", desc := "(I)V" } : Jvm.MethodName) prog_1_method_32_code (4 : Nat) (Option.none : Option Jvm.ClassFile.FieldType)) ∈ lw_all := lw_g (lw_at lw_m5 82 rfl) rfl
theorem q1134 : (Jvm.Cond.methodLink "NoonMeals" (257 : Nat) ({ cls := "java/lang/System", name := "arraycopy", desc := "(Ljava/lang/Object;ILjava/lang/Object;II)V" } : Jvm.MethodName)) ∈ lw_all := lw_g (lw_at lw_m5 83 rfl) rfl
theorem q1136 : (Jvm.Cond.instanceMethod ({ cls := "NoonMeals", name := "shared", desc := "(I)I" } : Jvm.MethodName)) ∈ lw_all := lw_g (lw_at lw_m5 85 rfl) rfl
theorem q1137 : (Jvm.Cond.selects "NoonMeals" ({ cls := "NoonMeals", name := "shared", desc := "(I)I" } : Jvm.MethodName) ({ cls := "NoonMeals", name := "shared", desc := "(I)I" } : Jvm.MethodName)) ∈ lw_all := lw_g (lw_at lw_m5 86 rfl) rfl
theorem q1138 : (Jvm.Cond.code ({ cls := "NoonMeals", name := "shared", desc := "(I)I" } : Jvm.MethodName) prog_1_method_34_code (2 : Nat) (Option.some Jvm.ClassFile.FieldType.int)) ∈ lw_all := lw_g (lw_at lw_m5 87 rfl) rfl
theorem q1140 : (Jvm.Cond.instanceMethod ({ cls := "NoonMeals", name := "odds", desc := "(I)J" } : Jvm.MethodName)) ∈ lw_all := lw_g (lw_at lw_m5 89 rfl) rfl
theorem q1141 : (Jvm.Cond.selects "NoonMeals" ({ cls := "NoonMeals", name := "odds", desc := "(I)J" } : Jvm.MethodName) ({ cls := "NoonMeals", name := "odds", desc := "(I)J" } : Jvm.MethodName)) ∈ lw_all := lw_g (lw_at lw_m5 90 rfl) rfl
theorem q1142 : (Jvm.Cond.code ({ cls := "NoonMeals", name := "odds", desc := "(I)J" } : Jvm.MethodName) prog_1_method_35_code (10 : Nat) (Option.some Jvm.ClassFile.FieldType.long)) ∈ lw_all := lw_g (lw_at lw_m5 91 rfl) rfl
theorem q1143 : (Jvm.Cond.methodLink "NoonMeals" (266 : Nat) ({ cls := "NoonMeals$Round", name := "set", desc := "()I" } : Jvm.MethodName)) ∈ lw_all := lw_g (lw_at lw_m5 92 rfl) rfl
theorem q1148 : (Jvm.Cond.instanceMethod ({ cls := "NoonMeals", name := "costs", desc := "(I)I" } : Jvm.MethodName)) ∈ lw_all := lw_g (lw_at lw_m5 97 rfl) rfl
theorem q1149 : (Jvm.Cond.selects "NoonMeals" ({ cls := "NoonMeals", name := "costs", desc := "(I)I" } : Jvm.MethodName) ({ cls := "NoonMeals", name := "costs", desc := "(I)I" } : Jvm.MethodName)) ∈ lw_all := lw_g (lw_at lw_m5 98 rfl) rfl
theorem q1150 : (Jvm.Cond.code ({ cls := "NoonMeals", name := "costs", desc := "(I)I" } : Jvm.MethodName) prog_1_method_36_code (4 : Nat) (Option.some Jvm.ClassFile.FieldType.int)) ∈ lw_all := lw_g (lw_at lw_m5 99 rfl) rfl
theorem q1152 : (Jvm.Cond.instanceMethod ({ cls := "NoonMeals", name := "fits", desc := "(II)I" } : Jvm.MethodName)) ∈ lw_all := lw_g (lw_at lw_m5 101 rfl) rfl
theorem q1153 : (Jvm.Cond.selects "NoonMeals" ({ cls := "NoonMeals", name := "fits", desc := "(II)I" } : Jvm.MethodName) ({ cls := "NoonMeals", name := "fits", desc := "(II)I" } : Jvm.MethodName)) ∈ lw_all := lw_g (lw_at lw_m5 102 rfl) rfl
theorem q1154 : (Jvm.Cond.code ({ cls := "NoonMeals", name := "fits", desc := "(II)I" } : Jvm.MethodName) prog_1_method_39_code (3 : Nat) (Option.some Jvm.ClassFile.FieldType.int)) ∈ lw_all := lw_g (lw_at lw_m5 103 rfl) rfl
theorem q1155 : (Jvm.Cond.methodLink "NoonMeals" (295 : Nat) ({ cls := "NoonMeals", name := "isDish", desc := "(I)Z" } : Jvm.MethodName)) ∈ lw_all := lw_g (lw_at lw_m5 104 rfl) rfl
theorem q1156 : (Jvm.Cond.privateMethod ({ cls := "NoonMeals", name := "isDish", desc := "(I)Z" } : Jvm.MethodName)) ∈ lw_tbl := lw_at lw_m5 105 rfl
theorem q1157 : (Jvm.Cond.instanceMethod ({ cls := "NoonMeals", name := "isDish", desc := "(I)Z" } : Jvm.MethodName)) ∈ lw_all := lw_g (lw_at lw_m5 106 rfl) rfl
theorem q1158 : (Jvm.Cond.code ({ cls := "NoonMeals", name := "isDish", desc := "(I)Z" } : Jvm.MethodName) prog_1_method_37_code (2 : Nat) (Option.some Jvm.ClassFile.FieldType.boolean)) ∈ lw_all := lw_g (lw_at lw_m5 107 rfl) rfl
theorem q1159 : (Jvm.Cond.methodLink "NoonMeals" (302 : Nat) ({ cls := "NoonMeals", name := "barred", desc := "(LNoonMeals$Diet;I)I" } : Jvm.MethodName)) ∈ lw_all := lw_g (lw_at lw_m5 108 rfl) rfl
theorem q1160 : (Jvm.Cond.privateMethod ({ cls := "NoonMeals", name := "barred", desc := "(LNoonMeals$Diet;I)I" } : Jvm.MethodName)) ∈ lw_tbl := lw_at lw_m5 109 rfl
theorem q1161 : (Jvm.Cond.instanceMethod ({ cls := "NoonMeals", name := "barred", desc := "(LNoonMeals$Diet;I)I" } : Jvm.MethodName)) ∈ lw_all := lw_g (lw_at lw_m5 110 rfl) rfl
theorem q1162 : (Jvm.Cond.code ({ cls := "NoonMeals", name := "barred", desc := "(LNoonMeals$Diet;I)I" } : Jvm.MethodName) prog_1_method_38_code (3 : Nat) (Option.some Jvm.ClassFile.FieldType.int)) ∈ lw_all := lw_g (lw_at lw_m5 111 rfl) rfl
theorem q1164 : (Jvm.Cond.instanceMethod ({ cls := "NoonMeals", name := "breach", desc := "(II)I" } : Jvm.MethodName)) ∈ lw_all := lw_g (lw_at lw_m5 113 rfl) rfl
theorem q1165 : (Jvm.Cond.selects "NoonMeals" ({ cls := "NoonMeals", name := "breach", desc := "(II)I" } : Jvm.MethodName) ({ cls := "NoonMeals", name := "breach", desc := "(II)I" } : Jvm.MethodName)) ∈ lw_all := lw_g (lw_at lw_m5 114 rfl) rfl
theorem q1166 : (Jvm.Cond.code ({ cls := "NoonMeals", name := "breach", desc := "(II)I" } : Jvm.MethodName) prog_1_method_40_code (3 : Nat) (Option.some Jvm.ClassFile.FieldType.int)) ∈ lw_all := lw_g (lw_at lw_m5 115 rfl) rfl
theorem q1168 : (Jvm.Cond.instanceMethod ({ cls := "NoonMeals", name := "forAll", desc := "()I" } : Jvm.MethodName)) ∈ lw_all := lw_g (lw_at lw_m5 117 rfl) rfl
theorem q1169 : (Jvm.Cond.selects "NoonMeals" ({ cls := "NoonMeals", name := "forAll", desc := "()I" } : Jvm.MethodName) ({ cls := "NoonMeals", name := "forAll", desc := "()I" } : Jvm.MethodName)) ∈ lw_all := lw_g (lw_at lw_m5 118 rfl) rfl
theorem q1170 : (Jvm.Cond.code ({ cls := "NoonMeals", name := "forAll", desc := "()I" } : Jvm.MethodName) prog_1_method_41_code (5 : Nat) (Option.some Jvm.ClassFile.FieldType.int)) ∈ lw_all := lw_g (lw_at lw_m5 119 rfl) rfl
theorem q1172 : (Jvm.Cond.instanceMethod ({ cls := "NoonMeals", name := "menu", desc := "(II)I" } : Jvm.MethodName)) ∈ lw_all := lw_g (lw_at lw_m5 121 rfl) rfl
theorem q1173 : (Jvm.Cond.selects "NoonMeals" ({ cls := "NoonMeals", name := "menu", desc := "(II)I" } : Jvm.MethodName) ({ cls := "NoonMeals", name := "menu", desc := "(II)I" } : Jvm.MethodName)) ∈ lw_all := lw_g (lw_at lw_m5 122 rfl) rfl
theorem q1174 : (Jvm.Cond.code ({ cls := "NoonMeals", name := "menu", desc := "(II)I" } : Jvm.MethodName) prog_1_method_44_code (5 : Nat) (Option.some Jvm.ClassFile.FieldType.int)) ∈ lw_all := lw_g (lw_at lw_m5 123 rfl) rfl
theorem q1175 : (Jvm.Cond.methodLink "NoonMeals" (319 : Nat) ({ cls := "NoonMeals", name := "lays", desc := "(LNoonMeals$Diet;I)I" } : Jvm.MethodName)) ∈ lw_all := lw_g (lw_at lw_m5 124 rfl) rfl
theorem q1176 : (Jvm.Cond.privateMethod ({ cls := "NoonMeals", name := "lays", desc := "(LNoonMeals$Diet;I)I" } : Jvm.MethodName)) ∈ lw_tbl := lw_at lw_m5 125 rfl
theorem q1177 : (Jvm.Cond.instanceMethod ({ cls := "NoonMeals", name := "lays", desc := "(LNoonMeals$Diet;I)I" } : Jvm.MethodName)) ∈ lw_all := lw_g (lw_at lw_m5 126 rfl) rfl
theorem q1178 : (Jvm.Cond.code ({ cls := "NoonMeals", name := "lays", desc := "(LNoonMeals$Diet;I)I" } : Jvm.MethodName) prog_1_method_43_code (7 : Nat) (Option.some Jvm.ClassFile.FieldType.int)) ∈ lw_all := lw_g (lw_at lw_m5 127 rfl) rfl
theorem q1179 : (Jvm.Cond.methodLink "NoonMeals" (306 : Nat) ({ cls := "NoonMeals", name := "cheapest", desc := "(II)I" } : Jvm.MethodName)) ∈ lw_all := lw_g (lw_at lw_m5 128 rfl) rfl
theorem q1180 : (Jvm.Cond.privateMethod ({ cls := "NoonMeals", name := "cheapest", desc := "(II)I" } : Jvm.MethodName)) ∈ lw_tbl := lw_at lw_m5 129 rfl
theorem q1181 : (Jvm.Cond.instanceMethod ({ cls := "NoonMeals", name := "cheapest", desc := "(II)I" } : Jvm.MethodName)) ∈ lw_all := lw_g (lw_at lw_m5 130 rfl) rfl
theorem q1182 : (Jvm.Cond.code ({ cls := "NoonMeals", name := "cheapest", desc := "(II)I" } : Jvm.MethodName) prog_1_method_42_code (6 : Nat) (Option.some Jvm.ClassFile.FieldType.int)) ∈ lw_all := lw_g (lw_at lw_m5 131 rfl) rfl
theorem q1184 : (Jvm.Cond.instanceMethod ({ cls := "NoonMeals", name := "menuAt", desc := "(I)I" } : Jvm.MethodName)) ∈ lw_all := lw_g (lw_at lw_m5 133 rfl) rfl
theorem q1185 : (Jvm.Cond.selects "NoonMeals" ({ cls := "NoonMeals", name := "menuAt", desc := "(I)I" } : Jvm.MethodName) ({ cls := "NoonMeals", name := "menuAt", desc := "(I)I" } : Jvm.MethodName)) ∈ lw_all := lw_g (lw_at lw_m5 134 rfl) rfl
theorem q1186 : (Jvm.Cond.code ({ cls := "NoonMeals", name := "menuAt", desc := "(I)I" } : Jvm.MethodName) prog_1_method_45_code (2 : Nat) (Option.some Jvm.ClassFile.FieldType.int)) ∈ lw_all := lw_g (lw_at lw_m5 135 rfl) rfl
theorem q1188 : (Jvm.Cond.instanceMethod ({ cls := "NoonMeals", name := "dropped", desc := "(II)I" } : Jvm.MethodName)) ∈ lw_all := lw_g (lw_at lw_m5 137 rfl) rfl
theorem q1189 : (Jvm.Cond.selects "NoonMeals" ({ cls := "NoonMeals", name := "dropped", desc := "(II)I" } : Jvm.MethodName) ({ cls := "NoonMeals", name := "dropped", desc := "(II)I" } : Jvm.MethodName)) ∈ lw_all := lw_g (lw_at lw_m5 138 rfl) rfl
theorem q1190 : (Jvm.Cond.code ({ cls := "NoonMeals", name := "dropped", desc := "(II)I" } : Jvm.MethodName) prog_1_method_46_code (7 : Nat) (Option.some Jvm.ClassFile.FieldType.int)) ∈ lw_all := lw_g (lw_at lw_m5 139 rfl) rfl
theorem q1191 : (Jvm.Cond.constant "NoonMeals" (322 : Nat) (99999 : Int32)) ∈ lw_all := lw_g (lw_at lw_m5 140 rfl) rfl
theorem q1193 : (Jvm.Cond.instanceMethod ({ cls := "NoonMeals", name := "knock", desc := "()J" } : Jvm.MethodName)) ∈ lw_all := lw_g (lw_at lw_m5 142 rfl) rfl
theorem q1194 : (Jvm.Cond.selects "NoonMeals" ({ cls := "NoonMeals", name := "knock", desc := "()J" } : Jvm.MethodName) ({ cls := "NoonMeals", name := "knock", desc := "()J" } : Jvm.MethodName)) ∈ lw_all := lw_g (lw_at lw_m5 143 rfl) rfl
theorem q1195 : (Jvm.Cond.code ({ cls := "NoonMeals", name := "knock", desc := "()J" } : Jvm.MethodName) prog_1_method_50_code (2 : Nat) (Option.some Jvm.ClassFile.FieldType.long)) ∈ lw_all := lw_g (lw_at lw_m5 144 rfl) rfl
theorem q1196 : (Jvm.Cond.methodLink "NoonMeals" (352 : Nat) ({ cls := "NoonMeals", name := "knockWhy", desc := "()I" } : Jvm.MethodName)) ∈ lw_all := lw_g (lw_at lw_m5 145 rfl) rfl
theorem q1197 : (Jvm.Cond.privateMethod ({ cls := "NoonMeals", name := "knockWhy", desc := "()I" } : Jvm.MethodName)) ∈ lw_tbl := lw_at lw_m5 146 rfl
theorem q1198 : (Jvm.Cond.instanceMethod ({ cls := "NoonMeals", name := "knockWhy", desc := "()I" } : Jvm.MethodName)) ∈ lw_all := lw_g (lw_at lw_m5 147 rfl) rfl
theorem q1199 : (Jvm.Cond.code ({ cls := "NoonMeals", name := "knockWhy", desc := "()I" } : Jvm.MethodName) prog_1_method_49_code (1 : Nat) (Option.some Jvm.ClassFile.FieldType.int)) ∈ lw_all := lw_g (lw_at lw_m5 148 rfl) rfl
theorem q1200 : (Jvm.Cond.constantLong "NoonMeals" (355 : Nat) (-1 : Int64)) ∈ lw_all := lw_g (lw_at lw_m5 149 rfl) rfl
theorem q1201 : (Jvm.Cond.methodLink "NoonMeals" (348 : Nat) ({ cls := "NoonMeals", name := "knocks", desc := "(II)V" } : Jvm.MethodName)) ∈ lw_all := lw_g (lw_at lw_m5 150 rfl) rfl
theorem q1202 : (Jvm.Cond.privateMethod ({ cls := "NoonMeals", name := "knocks", desc := "(II)V" } : Jvm.MethodName)) ∈ lw_tbl := lw_at lw_m5 151 rfl
theorem q1203 : (Jvm.Cond.instanceMethod ({ cls := "NoonMeals", name := "knocks", desc := "(II)V" } : Jvm.MethodName)) ∈ lw_all := lw_g (lw_at lw_m5 152 rfl) rfl
theorem q1204 : (Jvm.Cond.code ({ cls := "NoonMeals", name := "knocks", desc := "(II)V" } : Jvm.MethodName) prog_1_method_48_code (5 : Nat) (Option.none : Option Jvm.ClassFile.FieldType)) ∈ lw_all := lw_g (lw_at lw_m5 153 rfl) rfl
theorem q1205 : (Jvm.Cond.methodLink "NoonMeals" (340 : Nat) ({ cls := "NoonMeals", name := "expected", desc := "([I)J" } : Jvm.MethodName)) ∈ lw_all := lw_g (lw_at lw_m5 154 rfl) rfl
theorem q1206 : (Jvm.Cond.privateMethod ({ cls := "NoonMeals", name := "expected", desc := "([I)J" } : Jvm.MethodName)) ∈ lw_tbl := lw_at lw_m5 155 rfl
theorem q1207 : (Jvm.Cond.instanceMethod ({ cls := "NoonMeals", name := "expected", desc := "([I)J" } : Jvm.MethodName)) ∈ lw_all := lw_g (lw_at lw_m5 156 rfl) rfl
theorem q1208 : (Jvm.Cond.code ({ cls := "NoonMeals", name := "expected", desc := "([I)J" } : Jvm.MethodName) prog_1_method_47_code (10 : Nat) (Option.some Jvm.ClassFile.FieldType.long)) ∈ lw_all := lw_g (lw_at lw_m5 157 rfl) rfl
theorem q1209 : (Jvm.Cond.constantLong "NoonMeals" (329 : Nat) (100 : Int64)) ∈ lw_all := lw_g (lw_at lw_m5 158 rfl) rfl
theorem q1211 : (Jvm.Cond.instanceMethod ({ cls := "NoonMeals", name := "callAt", desc := "(I)I" } : Jvm.MethodName)) ∈ lw_all := lw_g (lw_at lw_m5 160 rfl) rfl
theorem q1212 : (Jvm.Cond.selects "NoonMeals" ({ cls := "NoonMeals", name := "callAt", desc := "(I)I" } : Jvm.MethodName) ({ cls := "NoonMeals", name := "callAt", desc := "(I)I" } : Jvm.MethodName)) ∈ lw_all := lw_g (lw_at lw_m5 161 rfl) rfl
theorem q1213 : (Jvm.Cond.code ({ cls := "NoonMeals", name := "callAt", desc := "(I)I" } : Jvm.MethodName) prog_1_method_51_code (2 : Nat) (Option.some Jvm.ClassFile.FieldType.int)) ∈ lw_all := lw_g (lw_at lw_m5 162 rfl) rfl
theorem q1215 : (Jvm.Cond.instanceMethod ({ cls := "NoonMeals", name := "asTold", desc := "()J" } : Jvm.MethodName)) ∈ lw_all := lw_g (lw_at lw_m5 164 rfl) rfl
theorem q1216 : (Jvm.Cond.selects "NoonMeals" ({ cls := "NoonMeals", name := "asTold", desc := "()J" } : Jvm.MethodName) ({ cls := "NoonMeals", name := "asTold", desc := "()J" } : Jvm.MethodName)) ∈ lw_all := lw_g (lw_at lw_m5 165 rfl) rfl
theorem q1217 : (Jvm.Cond.code ({ cls := "NoonMeals", name := "asTold", desc := "()J" } : Jvm.MethodName) prog_1_method_52_code (3 : Nat) (Option.some Jvm.ClassFile.FieldType.long)) ∈ lw_all := lw_g (lw_at lw_m5 166 rfl) rfl
theorem q1219 : (Jvm.Cond.instanceMethod ({ cls := "NoonMeals", name := "fill", desc := "()I" } : Jvm.MethodName)) ∈ lw_all := lw_g (lw_at lw_m5 168 rfl) rfl
theorem q1220 : (Jvm.Cond.selects "NoonMeals" ({ cls := "NoonMeals", name := "fill", desc := "()I" } : Jvm.MethodName) ({ cls := "NoonMeals", name := "fill", desc := "()I" } : Jvm.MethodName)) ∈ lw_all := lw_g (lw_at lw_m5 169 rfl) rfl
theorem q1221 : (Jvm.Cond.code ({ cls := "NoonMeals", name := "fill", desc := "()I" } : Jvm.MethodName) prog_1_method_54_code (1 : Nat) (Option.some Jvm.ClassFile.FieldType.int)) ∈ lw_all := lw_g (lw_at lw_m5 170 rfl) rfl
theorem q1222 : (Jvm.Cond.methodLink "NoonMeals" (383 : Nat) ({ cls := "NoonMeals", name := "fills", desc := "(II)V" } : Jvm.MethodName)) ∈ lw_all := lw_g (lw_at lw_m5 171 rfl) rfl
theorem q1223 : (Jvm.Cond.privateMethod ({ cls := "NoonMeals", name := "fills", desc := "(II)V" } : Jvm.MethodName)) ∈ lw_tbl := lw_at lw_m5 172 rfl
theorem q1224 : (Jvm.Cond.instanceMethod ({ cls := "NoonMeals", name := "fills", desc := "(II)V" } : Jvm.MethodName)) ∈ lw_all := lw_g (lw_at lw_m5 173 rfl) rfl
theorem q1225 : (Jvm.Cond.code ({ cls := "NoonMeals", name := "fills", desc := "(II)V" } : Jvm.MethodName) prog_1_method_53_code (5 : Nat) (Option.none : Option Jvm.ClassFile.FieldType)) ∈ lw_all := lw_g (lw_at lw_m5 174 rfl) rfl
theorem q1226 : (Jvm.Cond.methodLink "NoonMeals" (360 : Nat) ({ cls := "java/lang/Math", name := "max", desc := "(II)I" } : Jvm.MethodName)) ∈ lw_all := lw_g (lw_at lw_m5 175 rfl) rfl
theorem q1228 : (Jvm.Cond.instanceMethod ({ cls := "NoonMeals", name := "helper", desc := "(I)I" } : Jvm.MethodName)) ∈ lw_all := lw_g (lw_at lw_m5 177 rfl) rfl
theorem q1229 : (Jvm.Cond.selects "NoonMeals" ({ cls := "NoonMeals", name := "helper", desc := "(I)I" } : Jvm.MethodName) ({ cls := "NoonMeals", name := "helper", desc := "(I)I" } : Jvm.MethodName)) ∈ lw_all := lw_g (lw_at lw_m5 178 rfl) rfl
theorem q1230 : (Jvm.Cond.code ({ cls := "NoonMeals", name := "helper", desc := "(I)I" } : Jvm.MethodName) prog_1_method_55_code (2 : Nat) (Option.some Jvm.ClassFile.FieldType.int)) ∈ lw_all := lw_g (lw_at lw_m5 179 rfl) rfl
theorem q1232 : (Jvm.Cond.instanceMethod ({ cls := "NoonMeals", name := "sign", desc := "(II)I" } : Jvm.MethodName)) ∈ lw_all := lw_g (lw_at lw_m5 181 rfl) rfl
theorem q1233 : (Jvm.Cond.selects "NoonMeals" ({ cls := "NoonMeals", name := "sign", desc := "(II)I" } : Jvm.MethodName) ({ cls := "NoonMeals", name := "sign", desc := "(II)I" } : Jvm.MethodName)) ∈ lw_all := lw_g (lw_at lw_m5 182 rfl) rfl
theorem q1234 : (Jvm.Cond.code ({ cls := "NoonMeals", name := "sign", desc := "(II)I" } : Jvm.MethodName) prog_1_method_56_code (3 : Nat) (Option.some Jvm.ClassFile.FieldType.int)) ∈ lw_all := lw_g (lw_at lw_m5 183 rfl) rfl
theorem q1236 : (Jvm.Cond.instanceMethod ({ cls := "NoonMeals", name := "fading", desc := "(I)I" } : Jvm.MethodName)) ∈ lw_all := lw_g (lw_at lw_m5 185 rfl) rfl
theorem q1237 : (Jvm.Cond.selects "NoonMeals" ({ cls := "NoonMeals", name := "fading", desc := "(I)I" } : Jvm.MethodName) ({ cls := "NoonMeals", name := "fading", desc := "(I)I" } : Jvm.MethodName)) ∈ lw_all := lw_g (lw_at lw_m5 186 rfl) rfl
theorem q1238 : (Jvm.Cond.code ({ cls := "NoonMeals", name := "fading", desc := "(I)I" } : Jvm.MethodName) prog_1_method_57_code (9 : Nat) (Option.some Jvm.ClassFile.FieldType.int)) ∈ lw_all := lw_g (lw_at lw_m5 187 rfl) rfl
theorem q1240 : (Jvm.Cond.instanceMethod ({ cls := "NoonMeals", name := "probe", desc := "(III)I" } : Jvm.MethodName)) ∈ lw_all := lw_g (lw_at lw_m5 189 rfl) rfl
theorem q1241 : (Jvm.Cond.selects "NoonMeals" ({ cls := "NoonMeals", name := "probe", desc := "(III)I" } : Jvm.MethodName) ({ cls := "NoonMeals", name := "probe", desc := "(III)I" } : Jvm.MethodName)) ∈ lw_all := lw_g (lw_at lw_m5 190 rfl) rfl
theorem q1242 : (Jvm.Cond.code ({ cls := "NoonMeals", name := "probe", desc := "(III)I" } : Jvm.MethodName) prog_1_method_58_code (4 : Nat) (Option.some Jvm.ClassFile.FieldType.int)) ∈ lw_all := lw_g (lw_at lw_m5 191 rfl) rfl
theorem q1244 : (Jvm.Cond.instanceMethod ({ cls := "NoonMeals", name := "faulty", desc := "(I)I" } : Jvm.MethodName)) ∈ lw_all := lw_g (lw_at lw_m5 193 rfl) rfl
theorem q1245 : (Jvm.Cond.selects "NoonMeals" ({ cls := "NoonMeals", name := "faulty", desc := "(I)I" } : Jvm.MethodName) ({ cls := "NoonMeals", name := "faulty", desc := "(I)I" } : Jvm.MethodName)) ∈ lw_all := lw_g (lw_at lw_m5 194 rfl) rfl
theorem q1246 : (Jvm.Cond.code ({ cls := "NoonMeals", name := "faulty", desc := "(I)I" } : Jvm.MethodName) prog_1_method_59_code (5 : Nat) (Option.some Jvm.ClassFile.FieldType.int)) ∈ lw_all := lw_g (lw_at lw_m5 195 rfl) rfl
theorem q1248 : (Jvm.Cond.instanceMethod ({ cls := "NoonMeals", name := "firstCold", desc := "()I" } : Jvm.MethodName)) ∈ lw_all := lw_g (lw_at lw_m5 197 rfl) rfl
theorem q1249 : (Jvm.Cond.selects "NoonMeals" ({ cls := "NoonMeals", name := "firstCold", desc := "()I" } : Jvm.MethodName) ({ cls := "NoonMeals", name := "firstCold", desc := "()I" } : Jvm.MethodName)) ∈ lw_all := lw_g (lw_at lw_m5 198 rfl) rfl
theorem q1250 : (Jvm.Cond.code ({ cls := "NoonMeals", name := "firstCold", desc := "()I" } : Jvm.MethodName) prog_1_method_60_code (3 : Nat) (Option.some Jvm.ClassFile.FieldType.int)) ∈ lw_all := lw_g (lw_at lw_m5 199 rfl) rfl
theorem q1252 : (Jvm.Cond.instanceMethod ({ cls := "NoonMeals", name := "recall", desc := "(I)I" } : Jvm.MethodName)) ∈ lw_all := lw_g (lw_at lw_m5 201 rfl) rfl
theorem q1253 : (Jvm.Cond.selects "NoonMeals" ({ cls := "NoonMeals", name := "recall", desc := "(I)I" } : Jvm.MethodName) ({ cls := "NoonMeals", name := "recall", desc := "(I)I" } : Jvm.MethodName)) ∈ lw_all := lw_g (lw_at lw_m5 202 rfl) rfl
theorem q1254 : (Jvm.Cond.code ({ cls := "NoonMeals", name := "recall", desc := "(I)I" } : Jvm.MethodName) prog_1_method_61_code (4 : Nat) (Option.some Jvm.ClassFile.FieldType.int)) ∈ lw_all := lw_g (lw_at lw_m5 203 rfl) rfl
theorem q1256 : (Jvm.Cond.instanceMethod ({ cls := "NoonMeals", name := "size", desc := "(I)I" } : Jvm.MethodName)) ∈ lw_all := lw_g (lw_at lw_m5 205 rfl) rfl
theorem q1257 : (Jvm.Cond.selects "NoonMeals" ({ cls := "NoonMeals", name := "size", desc := "(I)I" } : Jvm.MethodName) ({ cls := "NoonMeals", name := "size", desc := "(I)I" } : Jvm.MethodName)) ∈ lw_all := lw_g (lw_at lw_m5 206 rfl) rfl
theorem q1258 : (Jvm.Cond.code ({ cls := "NoonMeals", name := "size", desc := "(I)I" } : Jvm.MethodName) prog_1_method_63_code (2 : Nat) (Option.some Jvm.ClassFile.FieldType.int)) ∈ lw_all := lw_g (lw_at lw_m5 207 rfl) rfl
theorem q1260 : (Jvm.Cond.instanceMethod ({ cls := "NoonMeals", name := "trouble", desc := "()I" } : Jvm.MethodName)) ∈ lw_all := lw_g (lw_at lw_m5 209 rfl) rfl
theorem q1261 : (Jvm.Cond.selects "NoonMeals" ({ cls := "NoonMeals", name := "trouble", desc := "()I" } : Jvm.MethodName) ({ cls := "NoonMeals", name := "trouble", desc := "()I" } : Jvm.MethodName)) ∈ lw_all := lw_g (lw_at lw_m5 210 rfl) rfl
theorem q1262 : (Jvm.Cond.code ({ cls := "NoonMeals", name := "trouble", desc := "()I" } : Jvm.MethodName) prog_1_method_64_code (1 : Nat) (Option.some Jvm.ClassFile.FieldType.int)) ∈ lw_all := lw_g (lw_at lw_m5 211 rfl) rfl
theorem q1268 : (Jvm.Cond.instanceMethod ({ cls := "NoonMeals", name := "led", desc := "(II)I" } : Jvm.MethodName)) ∈ lw_all := lw_g (lw_at lw_m5 217 rfl) rfl
theorem q1269 : (Jvm.Cond.selects "NoonMeals" ({ cls := "NoonMeals", name := "led", desc := "(II)I" } : Jvm.MethodName) ({ cls := "NoonMeals", name := "led", desc := "(II)I" } : Jvm.MethodName)) ∈ lw_all := lw_g (lw_at lw_m5 218 rfl) rfl
theorem q1270 : (Jvm.Cond.code ({ cls := "NoonMeals", name := "led", desc := "(II)I" } : Jvm.MethodName) prog_1_method_62_code (3 : Nat) (Option.some Jvm.ClassFile.FieldType.int)) ∈ lw_all := lw_g (lw_at lw_m5 219 rfl) rfl
theorem q1271 : (Jvm.Cond.classLink "NoonMeals" (404 : Nat) "java/util/NoSuchElementException") ∈ lw_all := lw_g (lw_at lw_m5 220 rfl) rfl
theorem q1280 : (Jvm.Cond.methodLink "NoonMeals" (406 : Nat) ({ cls := "java/util/NoSuchElementException", name := "<init>", desc := "()V" } : Jvm.MethodName)) ∈ lw_all := lw_g (lw_at lw_m5 229 rfl) rfl
theorem q1992 : (Jvm.Cond.castable "NoonMeals" "java/lang/Object") ∈ lw_tbl := lw_at lw_m8 221 rfl
theorem in_X1 : ∀ w ∈ wsX10, w ∈ lw_all := lw_in wsX10 [304, 306, 308, 310, 312, 314, 316, 318, 320, 322, 324, 326, 328, 330, 332, 334, 336, 338, 340, 342, 344, 346, 348, 350, 352, 354, 356, 358, 360, 362, 364, 366, 368, 370, 372, 374, 376, 378, 380, 382, 384] (by decide +kernel) (by decide +kernel)
