/-! NoonMeals$Day -/
set_option maxRecDepth 100000
def RX6 : String := "NoonMeals$Day"
def TX6 : u_T := fun k => match k with
  | 0 => ("NoonMeals$Day", "kitchens", "[LNoonMeals$Kitchen;", true)
  | 1 => ("NoonMeals$Day", "dishes", "[LNoonMeals$Dish;", true)
  | 2 => ("NoonMeals$Day", "diets", "[LNoonMeals$Diet;", true)
  | 3 => ("NoonMeals$Day", "houses", "[LNoonMeals$House;", true)
  | 4 => ("NoonMeals$Day", "cars", "[LNoonMeals$Car;", true)
  | 5 => ("NoonMeals$Day", "calls", "[LNoonMeals$Call;", true)
  | 6 => ("NoonMeals$Day", "helpers", "[LNoonMeals$Helper;", true)
  | 7 => ("NoonMeals$Day", "floodAt", "[I", true)
  | 8 => ("NoonMeals$Day", "floodAdds", "[I", true)
  | 9 => ("NoonMeals$Day", "kitchenMany", "I", false)
  | 10 => ("NoonMeals$Day", "dishMany", "I", false)
  | 11 => ("NoonMeals$Day", "dietMany", "I", false)
  | 12 => ("NoonMeals$Day", "houseMany", "I", false)
  | 13 => ("NoonMeals$Day", "carMany", "I", false)
  | 14 => ("NoonMeals$Day", "callMany", "I", false)
  | 15 => ("NoonMeals$Day", "helperMany", "I", false)
  | 16 => ("NoonMeals$Day", "floodMany", "I", false)
  | 17 => ("NoonMeals$Day", "hot", "I", false)
  | _ => ("NoonMeals$Day", "by", "I", false)
def tyX6 : Nat → FieldType := fun k => match k with
  | 0 => .array (.object "NoonMeals$Kitchen")
  | 1 => .array (.object "NoonMeals$Dish")
  | 2 => .array (.object "NoonMeals$Diet")
  | 3 => .array (.object "NoonMeals$House")
  | 4 => .array (.object "NoonMeals$Car")
  | 5 => .array (.object "NoonMeals$Call")
  | 6 => .array (.object "NoonMeals$Helper")
  | 7 => .array .int
  | 8 => .array .int
  | 9 => .int
  | 10 => .int
  | 11 => .int
  | 12 => .int
  | 13 => .int
  | 14 => .int
  | 15 => .int
  | 16 => .int
  | 17 => .int
  | _ => .int
abbrev wsX60 : List Cond := u_ws RX6 TX6 19
set_option maxRecDepth 100000 in
theorem nmX6 : ∀ a, a < 19 → ∀ b, b < 19 → a ≠ b → (TX6 a).2.1 ≠ (TX6 b).2.1 := by decide +kernel
set_option maxRecDepth 100000 in
theorem tyX6_ok : ∀ k, k < 19 → parseFieldDescriptor (TX6 k).2.2.1 = some (tyX6 k) := by decide +kernel
abbrev cX6_init : ByteArray := prog_4_method_1_code
def yX6_init : MethodName := ⟨RX6, "<init>", "()V"⟩
def dkwX6_init_3 : List UInt8 := [188, 10, 181, 0, 57, 177]
abbrev dktX6_init_3 : List UInt8 := dkwX6_init_3 ++ []
def dkwX6_init_2 : List UInt8 := [8, 189, 0, 41, 181, 0, 43, 42, 8, 189, 0, 47, 181, 0, 49, 42, 6, 188, 10, 181, 0, 53, 42, 6]
abbrev dktX6_init_2 : List UInt8 := dkwX6_init_2 ++ dktX6_init_3
def dkwX6_init_1 : List UInt8 := [189, 0, 23, 181, 0, 25, 42, 16, 6, 189, 0, 29, 181, 0, 31, 42, 6, 189, 0, 35, 181, 0, 37, 42]
abbrev dktX6_init_1 : List UInt8 := dkwX6_init_1 ++ dktX6_init_2
def dkwX6_init_0 : List UInt8 := [42, 183, 0, 3, 42, 6, 189, 0, 9, 181, 0, 11, 42, 16, 6, 189, 0, 17, 181, 0, 19, 42, 7]
abbrev dktX6_init_0 : List UInt8 := dkwX6_init_0 ++ dktX6_init_1
theorem dksX6_init_0 : cX6_init.data.toList.drop 0 = dktX6_init_0 := by decide +kernel
theorem dksX6_init_1 : cX6_init.data.toList.drop 23 = dktX6_init_1 := dk_seg dksX6_init_0 23 rfl rfl
theorem dksX6_init_2 : cX6_init.data.toList.drop 47 = dktX6_init_2 := dk_seg dksX6_init_1 24 rfl rfl
theorem dksX6_init_3 : cX6_init.data.toList.drop 71 = dktX6_init_3 := dk_seg dksX6_init_2 24 rfl rfl
theorem dX6_init_0 : decode cX6_init 0 = .ok (.aload_n 0, 1) := dk_42 (dk_at dksX6_init_0 0 rfl rfl)
theorem dX6_init_1 : decode cX6_init 1 = .ok (.invokespecial 3, 3) := dk_183 0 3 (dk_at dksX6_init_0 1 rfl rfl)
theorem dX6_init_4 : decode cX6_init 4 = .ok (.aload_n 0, 1) := dk_42 (dk_at dksX6_init_0 4 rfl rfl)
theorem dX6_init_5 : decode cX6_init 5 = .ok (.iconst 3, 1) := dk_6 (dk_at dksX6_init_0 5 rfl rfl)
theorem dX6_init_6 : decode cX6_init 6 = .ok (.anewarray 9, 3) := dk_189 0 9 (dk_at dksX6_init_0 6 rfl rfl)
theorem dX6_init_9 : decode cX6_init 9 = .ok (.putfield 11, 3) := dk_181 0 11 (dk_at dksX6_init_0 9 rfl rfl)
theorem dX6_init_12 : decode cX6_init 12 = .ok (.aload_n 0, 1) := dk_42 (dk_at dksX6_init_0 12 rfl rfl)
theorem dX6_init_13 : decode cX6_init 13 = .ok (.bipush 6, 2) := dk_16 6 (dk_at dksX6_init_0 13 rfl rfl)
theorem dX6_init_15 : decode cX6_init 15 = .ok (.anewarray 17, 3) := dk_189 0 17 (dk_at dksX6_init_0 15 rfl rfl)
theorem dX6_init_18 : decode cX6_init 18 = .ok (.putfield 19, 3) := dk_181 0 19 (dk_at dksX6_init_0 18 rfl rfl)
theorem dX6_init_21 : decode cX6_init 21 = .ok (.aload_n 0, 1) := dk_42 (dk_at dksX6_init_0 21 rfl rfl)
theorem dX6_init_22 : decode cX6_init 22 = .ok (.iconst 4, 1) := dk_7 (dk_at dksX6_init_0 22 rfl rfl)
theorem dX6_init_23 : decode cX6_init 23 = .ok (.anewarray 23, 3) := dk_189 0 23 (dk_at dksX6_init_1 0 rfl rfl)
theorem dX6_init_26 : decode cX6_init 26 = .ok (.putfield 25, 3) := dk_181 0 25 (dk_at dksX6_init_1 3 rfl rfl)
theorem dX6_init_29 : decode cX6_init 29 = .ok (.aload_n 0, 1) := dk_42 (dk_at dksX6_init_1 6 rfl rfl)
theorem dX6_init_30 : decode cX6_init 30 = .ok (.bipush 6, 2) := dk_16 6 (dk_at dksX6_init_1 7 rfl rfl)
theorem dX6_init_32 : decode cX6_init 32 = .ok (.anewarray 29, 3) := dk_189 0 29 (dk_at dksX6_init_1 9 rfl rfl)
theorem dX6_init_35 : decode cX6_init 35 = .ok (.putfield 31, 3) := dk_181 0 31 (dk_at dksX6_init_1 12 rfl rfl)
theorem dX6_init_38 : decode cX6_init 38 = .ok (.aload_n 0, 1) := dk_42 (dk_at dksX6_init_1 15 rfl rfl)
theorem dX6_init_39 : decode cX6_init 39 = .ok (.iconst 3, 1) := dk_6 (dk_at dksX6_init_1 16 rfl rfl)
theorem dX6_init_40 : decode cX6_init 40 = .ok (.anewarray 35, 3) := dk_189 0 35 (dk_at dksX6_init_1 17 rfl rfl)
theorem dX6_init_43 : decode cX6_init 43 = .ok (.putfield 37, 3) := dk_181 0 37 (dk_at dksX6_init_1 20 rfl rfl)
theorem dX6_init_46 : decode cX6_init 46 = .ok (.aload_n 0, 1) := dk_42 (dk_at dksX6_init_1 23 rfl rfl)
theorem dX6_init_47 : decode cX6_init 47 = .ok (.iconst 5, 1) := dk_8 (dk_at dksX6_init_2 0 rfl rfl)
theorem dX6_init_48 : decode cX6_init 48 = .ok (.anewarray 41, 3) := dk_189 0 41 (dk_at dksX6_init_2 1 rfl rfl)
theorem dX6_init_51 : decode cX6_init 51 = .ok (.putfield 43, 3) := dk_181 0 43 (dk_at dksX6_init_2 4 rfl rfl)
theorem dX6_init_54 : decode cX6_init 54 = .ok (.aload_n 0, 1) := dk_42 (dk_at dksX6_init_2 7 rfl rfl)
theorem dX6_init_55 : decode cX6_init 55 = .ok (.iconst 5, 1) := dk_8 (dk_at dksX6_init_2 8 rfl rfl)
theorem dX6_init_56 : decode cX6_init 56 = .ok (.anewarray 47, 3) := dk_189 0 47 (dk_at dksX6_init_2 9 rfl rfl)
theorem dX6_init_59 : decode cX6_init 59 = .ok (.putfield 49, 3) := dk_181 0 49 (dk_at dksX6_init_2 12 rfl rfl)
theorem dX6_init_62 : decode cX6_init 62 = .ok (.aload_n 0, 1) := dk_42 (dk_at dksX6_init_2 15 rfl rfl)
theorem dX6_init_63 : decode cX6_init 63 = .ok (.iconst 3, 1) := dk_6 (dk_at dksX6_init_2 16 rfl rfl)
theorem dX6_init_64 : decode cX6_init 64 = .ok (.newarray .int, 2) := dk_188_10 (dk_at dksX6_init_2 17 rfl rfl)
theorem dX6_init_66 : decode cX6_init 66 = .ok (.putfield 53, 3) := dk_181 0 53 (dk_at dksX6_init_2 19 rfl rfl)
theorem dX6_init_69 : decode cX6_init 69 = .ok (.aload_n 0, 1) := dk_42 (dk_at dksX6_init_2 22 rfl rfl)
theorem dX6_init_70 : decode cX6_init 70 = .ok (.iconst 3, 1) := dk_6 (dk_at dksX6_init_2 23 rfl rfl)
theorem dX6_init_71 : decode cX6_init 71 = .ok (.newarray .int, 2) := dk_188_10 (dk_at dksX6_init_3 0 rfl rfl)
theorem dX6_init_73 : decode cX6_init 73 = .ok (.putfield 57, 3) := dk_181 0 57 (dk_at dksX6_init_3 2 rfl rfl)
theorem dX6_init_76 : decode cX6_init 76 = .ok (.return_, 1) := dk_177 (dk_at dksX6_init_3 5 rfl rfl)
abbrev cX6_find : ByteArray := prog_4_method_3_code
def yX6_find : MethodName := ⟨RX6, "find", "(Ljava/lang/String;)LNoonMeals$Named;"⟩
def dkwX6_find_5 : List UInt8 := [44, 77, 44, 199, 0, 18, 42, 180, 0, 49, 42, 180, 0, 95, 43, 184, 0, 76, 167, 0, 4, 44, 176]
abbrev dktX6_find_5 : List UInt8 := dkwX6_find_5 ++ []
def dkwX6_find_4 : List UInt8 := [167, 0, 4, 44, 77, 44, 199, 0, 18, 42, 180, 0, 43, 42, 180, 0, 92, 43, 184, 0, 76, 167, 0, 4]
abbrev dktX6_find_4 : List UInt8 := dkwX6_find_4 ++ dktX6_find_5
def dkwX6_find_3 : List UInt8 := [184, 0, 76, 167, 0, 4, 44, 77, 44, 199, 0, 18, 42, 180, 0, 37, 42, 180, 0, 89, 43, 184, 0, 76]
abbrev dktX6_find_3 : List UInt8 := dkwX6_find_3 ++ dktX6_find_4
def dkwX6_find_2 : List UInt8 := [43, 184, 0, 76, 167, 0, 4, 44, 77, 44, 199, 0, 18, 42, 180, 0, 31, 42, 180, 0, 86, 43]
abbrev dktX6_find_2 : List UInt8 := dkwX6_find_2 ++ dktX6_find_3
def dkwX6_find_1 : List UInt8 := [180, 0, 80, 43, 184, 0, 76, 167, 0, 4, 44, 77, 44, 199, 0, 18, 42, 180, 0, 25, 42, 180, 0, 83]
abbrev dktX6_find_1 : List UInt8 := dkwX6_find_1 ++ dktX6_find_2
def dkwX6_find_0 : List UInt8 := [42, 180, 0, 11, 42, 180, 0, 72, 43, 184, 0, 76, 77, 44, 199, 0, 18, 42, 180, 0, 19, 42]
abbrev dktX6_find_0 : List UInt8 := dkwX6_find_0 ++ dktX6_find_1
theorem dksX6_find_0 : cX6_find.data.toList.drop 0 = dktX6_find_0 := by decide +kernel
theorem dksX6_find_1 : cX6_find.data.toList.drop 22 = dktX6_find_1 := dk_seg dksX6_find_0 22 rfl rfl
theorem dksX6_find_2 : cX6_find.data.toList.drop 46 = dktX6_find_2 := dk_seg dksX6_find_1 24 rfl rfl
theorem dksX6_find_3 : cX6_find.data.toList.drop 68 = dktX6_find_3 := dk_seg dksX6_find_2 22 rfl rfl
theorem dksX6_find_4 : cX6_find.data.toList.drop 92 = dktX6_find_4 := dk_seg dksX6_find_3 24 rfl rfl
theorem dksX6_find_5 : cX6_find.data.toList.drop 116 = dktX6_find_5 := dk_seg dksX6_find_4 24 rfl rfl
theorem dX6_find_0 : decode cX6_find 0 = .ok (.aload_n 0, 1) := dk_42 (dk_at dksX6_find_0 0 rfl rfl)
theorem dX6_find_1 : decode cX6_find 1 = .ok (.getfield 11, 3) := dk_180 0 11 (dk_at dksX6_find_0 1 rfl rfl)
theorem dX6_find_4 : decode cX6_find 4 = .ok (.aload_n 0, 1) := dk_42 (dk_at dksX6_find_0 4 rfl rfl)
theorem dX6_find_5 : decode cX6_find 5 = .ok (.getfield 72, 3) := dk_180 0 72 (dk_at dksX6_find_0 5 rfl rfl)
theorem dX6_find_8 : decode cX6_find 8 = .ok (.aload_n 1, 1) := dk_43 (dk_at dksX6_find_0 8 rfl rfl)
theorem dX6_find_9 : decode cX6_find 9 = .ok (.invokestatic 76, 3) := dk_184 0 76 (dk_at dksX6_find_0 9 rfl rfl)
theorem dX6_find_12 : decode cX6_find 12 = .ok (.astore_n 2, 1) := dk_77 (dk_at dksX6_find_0 12 rfl rfl)
theorem dX6_find_13 : decode cX6_find 13 = .ok (.aload_n 2, 1) := dk_44 (dk_at dksX6_find_0 13 rfl rfl)
theorem dX6_find_14 : decode cX6_find 14 = .ok (.ifnonnull 18, 3) := dk_199 0 18 (dk_at dksX6_find_0 14 rfl rfl)
theorem dX6_find_17 : decode cX6_find 17 = .ok (.aload_n 0, 1) := dk_42 (dk_at dksX6_find_0 17 rfl rfl)
theorem dX6_find_18 : decode cX6_find 18 = .ok (.getfield 19, 3) := dk_180 0 19 (dk_at dksX6_find_0 18 rfl rfl)
theorem dX6_find_21 : decode cX6_find 21 = .ok (.aload_n 0, 1) := dk_42 (dk_at dksX6_find_0 21 rfl rfl)
theorem dX6_find_22 : decode cX6_find 22 = .ok (.getfield 80, 3) := dk_180 0 80 (dk_at dksX6_find_1 0 rfl rfl)
theorem dX6_find_25 : decode cX6_find 25 = .ok (.aload_n 1, 1) := dk_43 (dk_at dksX6_find_1 3 rfl rfl)
theorem dX6_find_26 : decode cX6_find 26 = .ok (.invokestatic 76, 3) := dk_184 0 76 (dk_at dksX6_find_1 4 rfl rfl)
theorem dX6_find_29 : decode cX6_find 29 = .ok (.goto 4, 3) := dk_167 0 4 (dk_at dksX6_find_1 7 rfl rfl)
theorem dX6_find_32 : decode cX6_find 32 = .ok (.aload_n 2, 1) := dk_44 (dk_at dksX6_find_1 10 rfl rfl)
theorem dX6_find_33 : decode cX6_find 33 = .ok (.astore_n 2, 1) := dk_77 (dk_at dksX6_find_1 11 rfl rfl)
theorem dX6_find_34 : decode cX6_find 34 = .ok (.aload_n 2, 1) := dk_44 (dk_at dksX6_find_1 12 rfl rfl)
theorem dX6_find_35 : decode cX6_find 35 = .ok (.ifnonnull 18, 3) := dk_199 0 18 (dk_at dksX6_find_1 13 rfl rfl)
theorem dX6_find_38 : decode cX6_find 38 = .ok (.aload_n 0, 1) := dk_42 (dk_at dksX6_find_1 16 rfl rfl)
theorem dX6_find_39 : decode cX6_find 39 = .ok (.getfield 25, 3) := dk_180 0 25 (dk_at dksX6_find_1 17 rfl rfl)
theorem dX6_find_42 : decode cX6_find 42 = .ok (.aload_n 0, 1) := dk_42 (dk_at dksX6_find_1 20 rfl rfl)
theorem dX6_find_43 : decode cX6_find 43 = .ok (.getfield 83, 3) := dk_180 0 83 (dk_at dksX6_find_1 21 rfl rfl)
theorem dX6_find_46 : decode cX6_find 46 = .ok (.aload_n 1, 1) := dk_43 (dk_at dksX6_find_2 0 rfl rfl)
theorem dX6_find_47 : decode cX6_find 47 = .ok (.invokestatic 76, 3) := dk_184 0 76 (dk_at dksX6_find_2 1 rfl rfl)
theorem dX6_find_50 : decode cX6_find 50 = .ok (.goto 4, 3) := dk_167 0 4 (dk_at dksX6_find_2 4 rfl rfl)
theorem dX6_find_53 : decode cX6_find 53 = .ok (.aload_n 2, 1) := dk_44 (dk_at dksX6_find_2 7 rfl rfl)
theorem dX6_find_54 : decode cX6_find 54 = .ok (.astore_n 2, 1) := dk_77 (dk_at dksX6_find_2 8 rfl rfl)
theorem dX6_find_55 : decode cX6_find 55 = .ok (.aload_n 2, 1) := dk_44 (dk_at dksX6_find_2 9 rfl rfl)
theorem dX6_find_56 : decode cX6_find 56 = .ok (.ifnonnull 18, 3) := dk_199 0 18 (dk_at dksX6_find_2 10 rfl rfl)
theorem dX6_find_59 : decode cX6_find 59 = .ok (.aload_n 0, 1) := dk_42 (dk_at dksX6_find_2 13 rfl rfl)
theorem dX6_find_60 : decode cX6_find 60 = .ok (.getfield 31, 3) := dk_180 0 31 (dk_at dksX6_find_2 14 rfl rfl)
theorem dX6_find_63 : decode cX6_find 63 = .ok (.aload_n 0, 1) := dk_42 (dk_at dksX6_find_2 17 rfl rfl)
theorem dX6_find_64 : decode cX6_find 64 = .ok (.getfield 86, 3) := dk_180 0 86 (dk_at dksX6_find_2 18 rfl rfl)
theorem dX6_find_67 : decode cX6_find 67 = .ok (.aload_n 1, 1) := dk_43 (dk_at dksX6_find_2 21 rfl rfl)
theorem dX6_find_68 : decode cX6_find 68 = .ok (.invokestatic 76, 3) := dk_184 0 76 (dk_at dksX6_find_3 0 rfl rfl)
theorem dX6_find_71 : decode cX6_find 71 = .ok (.goto 4, 3) := dk_167 0 4 (dk_at dksX6_find_3 3 rfl rfl)
theorem dX6_find_74 : decode cX6_find 74 = .ok (.aload_n 2, 1) := dk_44 (dk_at dksX6_find_3 6 rfl rfl)
theorem dX6_find_75 : decode cX6_find 75 = .ok (.astore_n 2, 1) := dk_77 (dk_at dksX6_find_3 7 rfl rfl)
theorem dX6_find_76 : decode cX6_find 76 = .ok (.aload_n 2, 1) := dk_44 (dk_at dksX6_find_3 8 rfl rfl)
theorem dX6_find_77 : decode cX6_find 77 = .ok (.ifnonnull 18, 3) := dk_199 0 18 (dk_at dksX6_find_3 9 rfl rfl)
theorem dX6_find_80 : decode cX6_find 80 = .ok (.aload_n 0, 1) := dk_42 (dk_at dksX6_find_3 12 rfl rfl)
theorem dX6_find_81 : decode cX6_find 81 = .ok (.getfield 37, 3) := dk_180 0 37 (dk_at dksX6_find_3 13 rfl rfl)
theorem dX6_find_84 : decode cX6_find 84 = .ok (.aload_n 0, 1) := dk_42 (dk_at dksX6_find_3 16 rfl rfl)
theorem dX6_find_85 : decode cX6_find 85 = .ok (.getfield 89, 3) := dk_180 0 89 (dk_at dksX6_find_3 17 rfl rfl)
theorem dX6_find_88 : decode cX6_find 88 = .ok (.aload_n 1, 1) := dk_43 (dk_at dksX6_find_3 20 rfl rfl)
theorem dX6_find_89 : decode cX6_find 89 = .ok (.invokestatic 76, 3) := dk_184 0 76 (dk_at dksX6_find_3 21 rfl rfl)
theorem dX6_find_92 : decode cX6_find 92 = .ok (.goto 4, 3) := dk_167 0 4 (dk_at dksX6_find_4 0 rfl rfl)
theorem dX6_find_95 : decode cX6_find 95 = .ok (.aload_n 2, 1) := dk_44 (dk_at dksX6_find_4 3 rfl rfl)
theorem dX6_find_96 : decode cX6_find 96 = .ok (.astore_n 2, 1) := dk_77 (dk_at dksX6_find_4 4 rfl rfl)
theorem dX6_find_97 : decode cX6_find 97 = .ok (.aload_n 2, 1) := dk_44 (dk_at dksX6_find_4 5 rfl rfl)
theorem dX6_find_98 : decode cX6_find 98 = .ok (.ifnonnull 18, 3) := dk_199 0 18 (dk_at dksX6_find_4 6 rfl rfl)
theorem dX6_find_101 : decode cX6_find 101 = .ok (.aload_n 0, 1) := dk_42 (dk_at dksX6_find_4 9 rfl rfl)
theorem dX6_find_102 : decode cX6_find 102 = .ok (.getfield 43, 3) := dk_180 0 43 (dk_at dksX6_find_4 10 rfl rfl)
theorem dX6_find_105 : decode cX6_find 105 = .ok (.aload_n 0, 1) := dk_42 (dk_at dksX6_find_4 13 rfl rfl)
theorem dX6_find_106 : decode cX6_find 106 = .ok (.getfield 92, 3) := dk_180 0 92 (dk_at dksX6_find_4 14 rfl rfl)
theorem dX6_find_109 : decode cX6_find 109 = .ok (.aload_n 1, 1) := dk_43 (dk_at dksX6_find_4 17 rfl rfl)
theorem dX6_find_110 : decode cX6_find 110 = .ok (.invokestatic 76, 3) := dk_184 0 76 (dk_at dksX6_find_4 18 rfl rfl)
theorem dX6_find_113 : decode cX6_find 113 = .ok (.goto 4, 3) := dk_167 0 4 (dk_at dksX6_find_4 21 rfl rfl)
theorem dX6_find_116 : decode cX6_find 116 = .ok (.aload_n 2, 1) := dk_44 (dk_at dksX6_find_5 0 rfl rfl)
theorem dX6_find_117 : decode cX6_find 117 = .ok (.astore_n 2, 1) := dk_77 (dk_at dksX6_find_5 1 rfl rfl)
theorem dX6_find_118 : decode cX6_find 118 = .ok (.aload_n 2, 1) := dk_44 (dk_at dksX6_find_5 2 rfl rfl)
theorem dX6_find_119 : decode cX6_find 119 = .ok (.ifnonnull 18, 3) := dk_199 0 18 (dk_at dksX6_find_5 3 rfl rfl)
theorem dX6_find_122 : decode cX6_find 122 = .ok (.aload_n 0, 1) := dk_42 (dk_at dksX6_find_5 6 rfl rfl)
theorem dX6_find_123 : decode cX6_find 123 = .ok (.getfield 49, 3) := dk_180 0 49 (dk_at dksX6_find_5 7 rfl rfl)
theorem dX6_find_126 : decode cX6_find 126 = .ok (.aload_n 0, 1) := dk_42 (dk_at dksX6_find_5 10 rfl rfl)
theorem dX6_find_127 : decode cX6_find 127 = .ok (.getfield 95, 3) := dk_180 0 95 (dk_at dksX6_find_5 11 rfl rfl)
theorem dX6_find_130 : decode cX6_find 130 = .ok (.aload_n 1, 1) := dk_43 (dk_at dksX6_find_5 14 rfl rfl)
theorem dX6_find_131 : decode cX6_find 131 = .ok (.invokestatic 76, 3) := dk_184 0 76 (dk_at dksX6_find_5 15 rfl rfl)
theorem dX6_find_134 : decode cX6_find 134 = .ok (.goto 4, 3) := dk_167 0 4 (dk_at dksX6_find_5 18 rfl rfl)
theorem dX6_find_137 : decode cX6_find 137 = .ok (.aload_n 2, 1) := dk_44 (dk_at dksX6_find_5 21 rfl rfl)
theorem dX6_find_138 : decode cX6_find 138 = .ok (.areturn, 1) := dk_176 (dk_at dksX6_find_5 22 rfl rfl)
abbrev cX6_among : ByteArray := prog_4_method_2_code
def yX6_among : MethodName := ⟨RX6, "among", "([LNoonMeals$Named;ILjava/lang/String;)LNoonMeals$Named;"⟩
def dkwX6_among_1 : List UInt8 := [132, 3, 1, 167, 255, 231, 1, 176]
abbrev dktX6_among_1 : List UInt8 := dkwX6_among_1 ++ []
def dkwX6_among_0 : List UInt8 := [3, 62, 29, 27, 162, 0, 26, 42, 29, 50, 180, 0, 60, 44, 182, 0, 66, 153, 0, 7, 42, 29, 50, 176]
abbrev dktX6_among_0 : List UInt8 := dkwX6_among_0 ++ dktX6_among_1
theorem dksX6_among_0 : cX6_among.data.toList.drop 0 = dktX6_among_0 := by decide +kernel
theorem dksX6_among_1 : cX6_among.data.toList.drop 24 = dktX6_among_1 := dk_seg dksX6_among_0 24 rfl rfl
theorem dX6_among_0 : decode cX6_among 0 = .ok (.iconst 0, 1) := dk_3 (dk_at dksX6_among_0 0 rfl rfl)
theorem dX6_among_1 : decode cX6_among 1 = .ok (.istore_n 3, 1) := dk_62 (dk_at dksX6_among_0 1 rfl rfl)
theorem dX6_among_2 : decode cX6_among 2 = .ok (.iload_n 3, 1) := dk_29 (dk_at dksX6_among_0 2 rfl rfl)
theorem dX6_among_3 : decode cX6_among 3 = .ok (.iload_n 1, 1) := dk_27 (dk_at dksX6_among_0 3 rfl rfl)
theorem dX6_among_4 : decode cX6_among 4 = .ok (.if_icmp .ge 26, 3) := dk_162 0 26 (dk_at dksX6_among_0 4 rfl rfl)
theorem dX6_among_7 : decode cX6_among 7 = .ok (.aload_n 0, 1) := dk_42 (dk_at dksX6_among_0 7 rfl rfl)
theorem dX6_among_8 : decode cX6_among 8 = .ok (.iload_n 3, 1) := dk_29 (dk_at dksX6_among_0 8 rfl rfl)
theorem dX6_among_9 : decode cX6_among 9 = .ok (.aaload, 1) := dk_50 (dk_at dksX6_among_0 9 rfl rfl)
theorem dX6_among_10 : decode cX6_among 10 = .ok (.getfield 60, 3) := dk_180 0 60 (dk_at dksX6_among_0 10 rfl rfl)
theorem dX6_among_13 : decode cX6_among 13 = .ok (.aload_n 2, 1) := dk_44 (dk_at dksX6_among_0 13 rfl rfl)
theorem dX6_among_14 : decode cX6_among 14 = .ok (.invokevirtual 66, 3) := dk_182 0 66 (dk_at dksX6_among_0 14 rfl rfl)
theorem dX6_among_17 : decode cX6_among 17 = .ok (.ifCond .eq 7, 3) := dk_153 0 7 (dk_at dksX6_among_0 17 rfl rfl)
theorem dX6_among_20 : decode cX6_among 20 = .ok (.aload_n 0, 1) := dk_42 (dk_at dksX6_among_0 20 rfl rfl)
theorem dX6_among_21 : decode cX6_among 21 = .ok (.iload_n 3, 1) := dk_29 (dk_at dksX6_among_0 21 rfl rfl)
theorem dX6_among_22 : decode cX6_among 22 = .ok (.aaload, 1) := dk_50 (dk_at dksX6_among_0 22 rfl rfl)
theorem dX6_among_23 : decode cX6_among 23 = .ok (.areturn, 1) := dk_176 (dk_at dksX6_among_0 23 rfl rfl)
theorem dX6_among_24 : decode cX6_among 24 = .ok (.iinc 3 1, 3) := dk_132 3 1 (dk_at dksX6_among_1 0 rfl rfl)
theorem dX6_among_27 : decode cX6_among 27 = .ok (.goto (-25), 3) := dk_167 255 231 (dk_at dksX6_among_1 3 rfl rfl)
theorem dX6_among_30 : decode cX6_among 30 = .ok (.aconst_null, 1) := dk_1 (dk_at dksX6_among_1 6 rfl rfl)
theorem dX6_among_31 : decode cX6_among 31 = .ok (.areturn, 1) := dk_176 (dk_at dksX6_among_1 7 rfl rfl)
abbrev cX6_way : ByteArray := prog_4_method_4_code
def yX6_way : MethodName := ⟨RX6, "way", "(II)I"⟩
def dkwX6_way_3 : List UInt8 := [132, 6, 1, 167, 255, 205, 21, 5, 172]
abbrev dktX6_way_3 : List UInt8 := dkwX6_way_3 ++ []
def dkwX6_way_2 : List UInt8 := [21, 6, 46, 21, 4, 162, 0, 13, 42, 180, 0, 57, 21, 6, 46, 167, 0, 4, 3, 96, 54, 5]
abbrev dktX6_way_2 : List UInt8 := dkwX6_way_2 ++ dktX6_way_3
def dkwX6_way_1 : List UInt8 := [42, 180, 0, 107, 162, 0, 48, 21, 5, 42, 180, 0, 53, 21, 6, 46, 29, 161, 0, 25, 42, 180, 0, 53]
abbrev dktX6_way_1 : List UInt8 := dkwX6_way_1 ++ dktX6_way_2
def dkwX6_way_0 : List UInt8 := [27, 28, 184, 0, 98, 62, 27, 28, 184, 0, 104, 54, 4, 21, 4, 29, 100, 54, 5, 3, 54, 6, 21, 6]
abbrev dktX6_way_0 : List UInt8 := dkwX6_way_0 ++ dktX6_way_1
theorem dksX6_way_0 : cX6_way.data.toList.drop 0 = dktX6_way_0 := by decide +kernel
theorem dksX6_way_1 : cX6_way.data.toList.drop 24 = dktX6_way_1 := dk_seg dksX6_way_0 24 rfl rfl
theorem dksX6_way_2 : cX6_way.data.toList.drop 48 = dktX6_way_2 := dk_seg dksX6_way_1 24 rfl rfl
theorem dksX6_way_3 : cX6_way.data.toList.drop 70 = dktX6_way_3 := dk_seg dksX6_way_2 22 rfl rfl
theorem dX6_way_0 : decode cX6_way 0 = .ok (.iload_n 1, 1) := dk_27 (dk_at dksX6_way_0 0 rfl rfl)
theorem dX6_way_1 : decode cX6_way 1 = .ok (.iload_n 2, 1) := dk_28 (dk_at dksX6_way_0 1 rfl rfl)
theorem dX6_way_2 : decode cX6_way 2 = .ok (.invokestatic 98, 3) := dk_184 0 98 (dk_at dksX6_way_0 2 rfl rfl)
theorem dX6_way_5 : decode cX6_way 5 = .ok (.istore_n 3, 1) := dk_62 (dk_at dksX6_way_0 5 rfl rfl)
theorem dX6_way_6 : decode cX6_way 6 = .ok (.iload_n 1, 1) := dk_27 (dk_at dksX6_way_0 6 rfl rfl)
theorem dX6_way_7 : decode cX6_way 7 = .ok (.iload_n 2, 1) := dk_28 (dk_at dksX6_way_0 7 rfl rfl)
theorem dX6_way_8 : decode cX6_way 8 = .ok (.invokestatic 104, 3) := dk_184 0 104 (dk_at dksX6_way_0 8 rfl rfl)
theorem dX6_way_11 : decode cX6_way 11 = .ok (.istore 4, 2) := dk_54 4 (dk_at dksX6_way_0 11 rfl rfl)
theorem dX6_way_13 : decode cX6_way 13 = .ok (.iload 4, 2) := dk_21 4 (dk_at dksX6_way_0 13 rfl rfl)
theorem dX6_way_15 : decode cX6_way 15 = .ok (.iload_n 3, 1) := dk_29 (dk_at dksX6_way_0 15 rfl rfl)
theorem dX6_way_16 : decode cX6_way 16 = .ok (.isub, 1) := dk_100 (dk_at dksX6_way_0 16 rfl rfl)
theorem dX6_way_17 : decode cX6_way 17 = .ok (.istore 5, 2) := dk_54 5 (dk_at dksX6_way_0 17 rfl rfl)
theorem dX6_way_19 : decode cX6_way 19 = .ok (.iconst 0, 1) := dk_3 (dk_at dksX6_way_0 19 rfl rfl)
theorem dX6_way_20 : decode cX6_way 20 = .ok (.istore 6, 2) := dk_54 6 (dk_at dksX6_way_0 20 rfl rfl)
theorem dX6_way_22 : decode cX6_way 22 = .ok (.iload 6, 2) := dk_21 6 (dk_at dksX6_way_0 22 rfl rfl)
theorem dX6_way_24 : decode cX6_way 24 = .ok (.aload_n 0, 1) := dk_42 (dk_at dksX6_way_1 0 rfl rfl)
theorem dX6_way_25 : decode cX6_way 25 = .ok (.getfield 107, 3) := dk_180 0 107 (dk_at dksX6_way_1 1 rfl rfl)
theorem dX6_way_28 : decode cX6_way 28 = .ok (.if_icmp .ge 48, 3) := dk_162 0 48 (dk_at dksX6_way_1 4 rfl rfl)
theorem dX6_way_31 : decode cX6_way 31 = .ok (.iload 5, 2) := dk_21 5 (dk_at dksX6_way_1 7 rfl rfl)
theorem dX6_way_33 : decode cX6_way 33 = .ok (.aload_n 0, 1) := dk_42 (dk_at dksX6_way_1 9 rfl rfl)
theorem dX6_way_34 : decode cX6_way 34 = .ok (.getfield 53, 3) := dk_180 0 53 (dk_at dksX6_way_1 10 rfl rfl)
theorem dX6_way_37 : decode cX6_way 37 = .ok (.iload 6, 2) := dk_21 6 (dk_at dksX6_way_1 13 rfl rfl)
theorem dX6_way_39 : decode cX6_way 39 = .ok (.iaload, 1) := dk_46 (dk_at dksX6_way_1 15 rfl rfl)
theorem dX6_way_40 : decode cX6_way 40 = .ok (.iload_n 3, 1) := dk_29 (dk_at dksX6_way_1 16 rfl rfl)
theorem dX6_way_41 : decode cX6_way 41 = .ok (.if_icmp .lt 25, 3) := dk_161 0 25 (dk_at dksX6_way_1 17 rfl rfl)
theorem dX6_way_44 : decode cX6_way 44 = .ok (.aload_n 0, 1) := dk_42 (dk_at dksX6_way_1 20 rfl rfl)
theorem dX6_way_45 : decode cX6_way 45 = .ok (.getfield 53, 3) := dk_180 0 53 (dk_at dksX6_way_1 21 rfl rfl)
theorem dX6_way_48 : decode cX6_way 48 = .ok (.iload 6, 2) := dk_21 6 (dk_at dksX6_way_2 0 rfl rfl)
theorem dX6_way_50 : decode cX6_way 50 = .ok (.iaload, 1) := dk_46 (dk_at dksX6_way_2 2 rfl rfl)
theorem dX6_way_51 : decode cX6_way 51 = .ok (.iload 4, 2) := dk_21 4 (dk_at dksX6_way_2 3 rfl rfl)
theorem dX6_way_53 : decode cX6_way 53 = .ok (.if_icmp .ge 13, 3) := dk_162 0 13 (dk_at dksX6_way_2 5 rfl rfl)
theorem dX6_way_56 : decode cX6_way 56 = .ok (.aload_n 0, 1) := dk_42 (dk_at dksX6_way_2 8 rfl rfl)
theorem dX6_way_57 : decode cX6_way 57 = .ok (.getfield 57, 3) := dk_180 0 57 (dk_at dksX6_way_2 9 rfl rfl)
theorem dX6_way_60 : decode cX6_way 60 = .ok (.iload 6, 2) := dk_21 6 (dk_at dksX6_way_2 12 rfl rfl)
theorem dX6_way_62 : decode cX6_way 62 = .ok (.iaload, 1) := dk_46 (dk_at dksX6_way_2 14 rfl rfl)
theorem dX6_way_63 : decode cX6_way 63 = .ok (.goto 4, 3) := dk_167 0 4 (dk_at dksX6_way_2 15 rfl rfl)
theorem dX6_way_66 : decode cX6_way 66 = .ok (.iconst 0, 1) := dk_3 (dk_at dksX6_way_2 18 rfl rfl)
theorem dX6_way_67 : decode cX6_way 67 = .ok (.iadd, 1) := dk_96 (dk_at dksX6_way_2 19 rfl rfl)
theorem dX6_way_68 : decode cX6_way 68 = .ok (.istore 5, 2) := dk_54 5 (dk_at dksX6_way_2 20 rfl rfl)
theorem dX6_way_70 : decode cX6_way 70 = .ok (.iinc 6 1, 3) := dk_132 6 1 (dk_at dksX6_way_3 0 rfl rfl)
theorem dX6_way_73 : decode cX6_way 73 = .ok (.goto (-51), 3) := dk_167 255 205 (dk_at dksX6_way_3 3 rfl rfl)
theorem dX6_way_76 : decode cX6_way 76 = .ok (.iload 5, 2) := dk_21 5 (dk_at dksX6_way_3 6 rfl rfl)
theorem dX6_way_78 : decode cX6_way 78 = .ok (.ireturn, 1) := dk_172 (dk_at dksX6_way_3 8 rfl rfl)
abbrev cX6_isBad : ByteArray := prog_4_method_5_code
def yX6_isBad : MethodName := ⟨RX6, "isBad", "(LNoonMeals$Car;I)Z"⟩
def dkwX6_isBad_1 : List UInt8 := [3, 172]
abbrev dktX6_isBad_1 : List UInt8 := dkwX6_isBad_1 ++ []
def dkwX6_isBad_0 : List UInt8 := [28, 42, 180, 0, 110, 163, 0, 15, 43, 28, 182, 0, 113, 42, 180, 0, 117, 162, 0, 7, 4, 167, 0, 4]
abbrev dktX6_isBad_0 : List UInt8 := dkwX6_isBad_0 ++ dktX6_isBad_1
theorem dksX6_isBad_0 : cX6_isBad.data.toList.drop 0 = dktX6_isBad_0 := by decide +kernel
theorem dksX6_isBad_1 : cX6_isBad.data.toList.drop 24 = dktX6_isBad_1 := dk_seg dksX6_isBad_0 24 rfl rfl
theorem dX6_isBad_0 : decode cX6_isBad 0 = .ok (.iload_n 2, 1) := dk_28 (dk_at dksX6_isBad_0 0 rfl rfl)
theorem dX6_isBad_1 : decode cX6_isBad 1 = .ok (.aload_n 0, 1) := dk_42 (dk_at dksX6_isBad_0 1 rfl rfl)
theorem dX6_isBad_2 : decode cX6_isBad 2 = .ok (.getfield 110, 3) := dk_180 0 110 (dk_at dksX6_isBad_0 2 rfl rfl)
theorem dX6_isBad_5 : decode cX6_isBad 5 = .ok (.if_icmp .gt 15, 3) := dk_163 0 15 (dk_at dksX6_isBad_0 5 rfl rfl)
theorem dX6_isBad_8 : decode cX6_isBad 8 = .ok (.aload_n 1, 1) := dk_43 (dk_at dksX6_isBad_0 8 rfl rfl)
theorem dX6_isBad_9 : decode cX6_isBad 9 = .ok (.iload_n 2, 1) := dk_28 (dk_at dksX6_isBad_0 9 rfl rfl)
theorem dX6_isBad_10 : decode cX6_isBad 10 = .ok (.invokevirtual 113, 3) := dk_182 0 113 (dk_at dksX6_isBad_0 10 rfl rfl)
theorem dX6_isBad_13 : decode cX6_isBad 13 = .ok (.aload_n 0, 1) := dk_42 (dk_at dksX6_isBad_0 13 rfl rfl)
theorem dX6_isBad_14 : decode cX6_isBad 14 = .ok (.getfield 117, 3) := dk_180 0 117 (dk_at dksX6_isBad_0 14 rfl rfl)
theorem dX6_isBad_17 : decode cX6_isBad 17 = .ok (.if_icmp .ge 7, 3) := dk_162 0 7 (dk_at dksX6_isBad_0 17 rfl rfl)
theorem dX6_isBad_20 : decode cX6_isBad 20 = .ok (.iconst 1, 1) := dk_4 (dk_at dksX6_isBad_0 20 rfl rfl)
theorem dX6_isBad_21 : decode cX6_isBad 21 = .ok (.goto 4, 3) := dk_167 0 4 (dk_at dksX6_isBad_0 21 rfl rfl)
theorem dX6_isBad_24 : decode cX6_isBad 24 = .ok (.iconst 0, 1) := dk_3 (dk_at dksX6_isBad_1 0 rfl rfl)
theorem dX6_isBad_25 : decode cX6_isBad 25 = .ok (.ireturn, 1) := dk_172 (dk_at dksX6_isBad_1 1 rfl rfl)
theorem q100 : (Jvm.Cond.initialized "NoonMeals$Day") ∈ lw_all := lw_g (lw_at lw_m1 9 rfl) rfl
theorem q416 : (Jvm.Cond.instantiable "NoonMeals$Day" (19 : Nat)) ∈ lw_all := lw_g (lw_at lw_m2 85 rfl) rfl
theorem q418 : (Jvm.Cond.instanceMethod ({ cls := "NoonMeals$Day", name := "<init>", desc := "()V" } : Jvm.MethodName)) ∈ lw_all := lw_g (lw_at lw_m2 87 rfl) rfl
theorem q419 : (Jvm.Cond.code ({ cls := "NoonMeals$Day", name := "<init>", desc := "()V" } : Jvm.MethodName) prog_4_method_1_code (1 : Nat) (Option.none : Option Jvm.ClassFile.FieldType)) ∈ lw_all := lw_g (lw_at lw_m2 88 rfl) rfl
theorem q420 : (Jvm.Cond.methodLink "NoonMeals$Day" (3 : Nat) ({ cls := "java/lang/Object", name := "<init>", desc := "()V" } : Jvm.MethodName)) ∈ lw_all := lw_g (lw_at lw_m2 89 rfl) rfl
theorem q421 : (Jvm.Cond.classLink "NoonMeals$Day" (9 : Nat) "NoonMeals$Kitchen") ∈ lw_all := lw_g (lw_at lw_m2 90 rfl) rfl
theorem q423 : (Jvm.Cond.classLink "NoonMeals$Day" (17 : Nat) "NoonMeals$Dish") ∈ lw_all := lw_g (lw_at lw_m2 92 rfl) rfl
theorem q425 : (Jvm.Cond.classLink "NoonMeals$Day" (23 : Nat) "NoonMeals$Diet") ∈ lw_all := lw_g (lw_at lw_m2 94 rfl) rfl
theorem q427 : (Jvm.Cond.classLink "NoonMeals$Day" (29 : Nat) "NoonMeals$House") ∈ lw_all := lw_g (lw_at lw_m2 96 rfl) rfl
theorem q429 : (Jvm.Cond.classLink "NoonMeals$Day" (35 : Nat) "NoonMeals$Car") ∈ lw_all := lw_g (lw_at lw_m2 98 rfl) rfl
theorem q431 : (Jvm.Cond.classLink "NoonMeals$Day" (41 : Nat) "NoonMeals$Call") ∈ lw_all := lw_g (lw_at lw_m2 100 rfl) rfl
theorem q433 : (Jvm.Cond.classLink "NoonMeals$Day" (47 : Nat) "NoonMeals$Helper") ∈ lw_all := lw_g (lw_at lw_m2 102 rfl) rfl
theorem q435 : (Jvm.Cond.fieldLink "NoonMeals$Day" (11 : Nat) "NoonMeals$Day" "kitchens" "[LNoonMeals$Kitchen;") ∈ lw_all := lw_g (lw_at lw_m2 104 rfl) rfl
theorem q437 : (Jvm.Cond.fieldLink "NoonMeals$Day" (19 : Nat) "NoonMeals$Day" "dishes" "[LNoonMeals$Dish;") ∈ lw_all := lw_g (lw_at lw_m2 106 rfl) rfl
theorem q440 : (Jvm.Cond.fieldLink "NoonMeals$Day" (25 : Nat) "NoonMeals$Day" "diets" "[LNoonMeals$Diet;") ∈ lw_all := lw_g (lw_at lw_m2 109 rfl) rfl
theorem q443 : (Jvm.Cond.fieldLink "NoonMeals$Day" (31 : Nat) "NoonMeals$Day" "houses" "[LNoonMeals$House;") ∈ lw_all := lw_g (lw_at lw_m2 112 rfl) rfl
theorem q447 : (Jvm.Cond.fieldLink "NoonMeals$Day" (37 : Nat) "NoonMeals$Day" "cars" "[LNoonMeals$Car;") ∈ lw_all := lw_g (lw_at lw_m2 116 rfl) rfl
theorem q450 : (Jvm.Cond.fieldLink "NoonMeals$Day" (43 : Nat) "NoonMeals$Day" "calls" "[LNoonMeals$Call;") ∈ lw_all := lw_g (lw_at lw_m2 119 rfl) rfl
theorem q453 : (Jvm.Cond.fieldLink "NoonMeals$Day" (49 : Nat) "NoonMeals$Day" "helpers" "[LNoonMeals$Helper;") ∈ lw_all := lw_g (lw_at lw_m2 122 rfl) rfl
theorem q456 : (Jvm.Cond.fieldLink "NoonMeals$Day" (53 : Nat) "NoonMeals$Day" "floodAt" "[I") ∈ lw_all := lw_g (lw_at lw_m2 125 rfl) rfl
theorem q458 : (Jvm.Cond.fieldLink "NoonMeals$Day" (57 : Nat) "NoonMeals$Day" "floodAdds" "[I") ∈ lw_all := lw_g (lw_at lw_m2 127 rfl) rfl
theorem q460 : (Jvm.Cond.fieldLink "NoonMeals$Day" (72 : Nat) "NoonMeals$Day" "kitchenMany" "I") ∈ lw_all := lw_g (lw_at lw_m2 129 rfl) rfl
theorem q463 : (Jvm.Cond.fieldLink "NoonMeals$Day" (80 : Nat) "NoonMeals$Day" "dishMany" "I") ∈ lw_all := lw_g (lw_at lw_m2 132 rfl) rfl
theorem q466 : (Jvm.Cond.fieldLink "NoonMeals$Day" (83 : Nat) "NoonMeals$Day" "dietMany" "I") ∈ lw_all := lw_g (lw_at lw_m2 135 rfl) rfl
theorem q469 : (Jvm.Cond.fieldLink "NoonMeals$Day" (86 : Nat) "NoonMeals$Day" "houseMany" "I") ∈ lw_all := lw_g (lw_at lw_m2 138 rfl) rfl
theorem q472 : (Jvm.Cond.fieldLink "NoonMeals$Day" (89 : Nat) "NoonMeals$Day" "carMany" "I") ∈ lw_all := lw_g (lw_at lw_m2 141 rfl) rfl
theorem q475 : (Jvm.Cond.fieldLink "NoonMeals$Day" (92 : Nat) "NoonMeals$Day" "callMany" "I") ∈ lw_all := lw_g (lw_at lw_m2 144 rfl) rfl
theorem q478 : (Jvm.Cond.fieldLink "NoonMeals$Day" (95 : Nat) "NoonMeals$Day" "helperMany" "I") ∈ lw_all := lw_g (lw_at lw_m2 147 rfl) rfl
theorem q481 : (Jvm.Cond.fieldLink "NoonMeals$Day" (107 : Nat) "NoonMeals$Day" "floodMany" "I") ∈ lw_all := lw_g (lw_at lw_m2 150 rfl) rfl
theorem q484 : (Jvm.Cond.fieldLink "NoonMeals$Day" (117 : Nat) "NoonMeals$Day" "hot" "I") ∈ lw_all := lw_g (lw_at lw_m2 153 rfl) rfl
theorem q487 : (Jvm.Cond.fieldLink "NoonMeals$Day" (110 : Nat) "NoonMeals$Day" "by" "I") ∈ lw_all := lw_g (lw_at lw_m2 156 rfl) rfl
theorem q489 : (Jvm.Cond.laysFinal "NoonMeals$Day" "NoonMeals$Day" "kitchens" "[LNoonMeals$Kitchen;") ∈ lw_all := lw_g (lw_at lw_m2 158 rfl) rfl
theorem q490 : (Jvm.Cond.soleField "NoonMeals$Day" "kitchens") ∈ lw_all := lw_g (lw_at lw_m2 159 rfl) rfl
theorem q491 : (Jvm.Cond.laysFinal "NoonMeals$Day" "NoonMeals$Day" "dishes" "[LNoonMeals$Dish;") ∈ lw_all := lw_g (lw_at lw_m2 160 rfl) rfl
theorem q492 : (Jvm.Cond.soleField "NoonMeals$Day" "dishes") ∈ lw_all := lw_g (lw_at lw_m2 161 rfl) rfl
theorem q493 : (Jvm.Cond.laysFinal "NoonMeals$Day" "NoonMeals$Day" "diets" "[LNoonMeals$Diet;") ∈ lw_all := lw_g (lw_at lw_m2 162 rfl) rfl
theorem q494 : (Jvm.Cond.soleField "NoonMeals$Day" "diets") ∈ lw_all := lw_g (lw_at lw_m2 163 rfl) rfl
theorem q495 : (Jvm.Cond.laysFinal "NoonMeals$Day" "NoonMeals$Day" "houses" "[LNoonMeals$House;") ∈ lw_all := lw_g (lw_at lw_m2 164 rfl) rfl
theorem q496 : (Jvm.Cond.soleField "NoonMeals$Day" "houses") ∈ lw_all := lw_g (lw_at lw_m2 165 rfl) rfl
theorem q497 : (Jvm.Cond.laysFinal "NoonMeals$Day" "NoonMeals$Day" "cars" "[LNoonMeals$Car;") ∈ lw_all := lw_g (lw_at lw_m2 166 rfl) rfl
theorem q498 : (Jvm.Cond.soleField "NoonMeals$Day" "cars") ∈ lw_all := lw_g (lw_at lw_m2 167 rfl) rfl
theorem q499 : (Jvm.Cond.laysFinal "NoonMeals$Day" "NoonMeals$Day" "calls" "[LNoonMeals$Call;") ∈ lw_all := lw_g (lw_at lw_m2 168 rfl) rfl
theorem q500 : (Jvm.Cond.soleField "NoonMeals$Day" "calls") ∈ lw_all := lw_g (lw_at lw_m2 169 rfl) rfl
theorem q501 : (Jvm.Cond.laysFinal "NoonMeals$Day" "NoonMeals$Day" "helpers" "[LNoonMeals$Helper;") ∈ lw_all := lw_g (lw_at lw_m2 170 rfl) rfl
theorem q502 : (Jvm.Cond.soleField "NoonMeals$Day" "helpers") ∈ lw_all := lw_g (lw_at lw_m2 171 rfl) rfl
theorem q503 : (Jvm.Cond.laysFinal "NoonMeals$Day" "NoonMeals$Day" "floodAt" "[I") ∈ lw_all := lw_g (lw_at lw_m2 172 rfl) rfl
theorem q504 : (Jvm.Cond.soleField "NoonMeals$Day" "floodAt") ∈ lw_all := lw_g (lw_at lw_m2 173 rfl) rfl
theorem q505 : (Jvm.Cond.laysFinal "NoonMeals$Day" "NoonMeals$Day" "floodAdds" "[I") ∈ lw_all := lw_g (lw_at lw_m2 174 rfl) rfl
theorem q506 : (Jvm.Cond.soleField "NoonMeals$Day" "floodAdds") ∈ lw_all := lw_g (lw_at lw_m2 175 rfl) rfl
theorem q507 : (Jvm.Cond.lays "NoonMeals$Day" "NoonMeals$Day" "kitchenMany" "I") ∈ lw_all := lw_g (lw_at lw_m2 176 rfl) rfl
theorem q508 : (Jvm.Cond.soleField "NoonMeals$Day" "kitchenMany") ∈ lw_all := lw_g (lw_at lw_m2 177 rfl) rfl
theorem q509 : (Jvm.Cond.lays "NoonMeals$Day" "NoonMeals$Day" "dishMany" "I") ∈ lw_all := lw_g (lw_at lw_m2 178 rfl) rfl
theorem q510 : (Jvm.Cond.soleField "NoonMeals$Day" "dishMany") ∈ lw_all := lw_g (lw_at lw_m2 179 rfl) rfl
theorem q511 : (Jvm.Cond.lays "NoonMeals$Day" "NoonMeals$Day" "dietMany" "I") ∈ lw_all := lw_g (lw_at lw_m2 180 rfl) rfl
theorem q512 : (Jvm.Cond.soleField "NoonMeals$Day" "dietMany") ∈ lw_all := lw_g (lw_at lw_m2 181 rfl) rfl
theorem q513 : (Jvm.Cond.lays "NoonMeals$Day" "NoonMeals$Day" "houseMany" "I") ∈ lw_all := lw_g (lw_at lw_m2 182 rfl) rfl
theorem q514 : (Jvm.Cond.soleField "NoonMeals$Day" "houseMany") ∈ lw_all := lw_g (lw_at lw_m2 183 rfl) rfl
theorem q515 : (Jvm.Cond.lays "NoonMeals$Day" "NoonMeals$Day" "carMany" "I") ∈ lw_all := lw_g (lw_at lw_m2 184 rfl) rfl
theorem q516 : (Jvm.Cond.soleField "NoonMeals$Day" "carMany") ∈ lw_all := lw_g (lw_at lw_m2 185 rfl) rfl
theorem q517 : (Jvm.Cond.lays "NoonMeals$Day" "NoonMeals$Day" "callMany" "I") ∈ lw_all := lw_g (lw_at lw_m2 186 rfl) rfl
theorem q518 : (Jvm.Cond.soleField "NoonMeals$Day" "callMany") ∈ lw_all := lw_g (lw_at lw_m2 187 rfl) rfl
theorem q519 : (Jvm.Cond.lays "NoonMeals$Day" "NoonMeals$Day" "helperMany" "I") ∈ lw_all := lw_g (lw_at lw_m2 188 rfl) rfl
theorem q520 : (Jvm.Cond.soleField "NoonMeals$Day" "helperMany") ∈ lw_all := lw_g (lw_at lw_m2 189 rfl) rfl
theorem q521 : (Jvm.Cond.lays "NoonMeals$Day" "NoonMeals$Day" "floodMany" "I") ∈ lw_all := lw_g (lw_at lw_m2 190 rfl) rfl
theorem q522 : (Jvm.Cond.soleField "NoonMeals$Day" "floodMany") ∈ lw_all := lw_g (lw_at lw_m2 191 rfl) rfl
theorem q523 : (Jvm.Cond.lays "NoonMeals$Day" "NoonMeals$Day" "hot" "I") ∈ lw_all := lw_g (lw_at lw_m2 192 rfl) rfl
theorem q524 : (Jvm.Cond.soleField "NoonMeals$Day" "hot") ∈ lw_all := lw_g (lw_at lw_m2 193 rfl) rfl
theorem q525 : (Jvm.Cond.lays "NoonMeals$Day" "NoonMeals$Day" "by" "I") ∈ lw_all := lw_g (lw_at lw_m2 194 rfl) rfl
theorem q526 : (Jvm.Cond.soleField "NoonMeals$Day" "by") ∈ lw_all := lw_g (lw_at lw_m2 195 rfl) rfl
theorem q527 : (Jvm.Cond.superclass "NoonMeals$Day" "java/lang/Object") ∈ lw_all := lw_g (lw_at lw_m2 196 rfl) rfl
theorem q747 : (Jvm.Cond.instanceMethod ({ cls := "NoonMeals$Day", name := "find", desc := "(Ljava/lang/String;)LNoonMeals$Named;" } : Jvm.MethodName)) ∈ lw_all := lw_g (lw_at lw_m3 176 rfl) rfl
theorem q748 : (Jvm.Cond.selects "NoonMeals$Day" ({ cls := "NoonMeals$Day", name := "find", desc := "(Ljava/lang/String;)LNoonMeals$Named;" } : Jvm.MethodName) ({ cls := "NoonMeals$Day", name := "find", desc := "(Ljava/lang/String;)LNoonMeals$Named;" } : Jvm.MethodName)) ∈ lw_all := lw_g (lw_at lw_m3 177 rfl) rfl
theorem q749 : (Jvm.Cond.code ({ cls := "NoonMeals$Day", name := "find", desc := "(Ljava/lang/String;)LNoonMeals$Named;" } : Jvm.MethodName) prog_4_method_3_code (3 : Nat) (Option.some (Jvm.ClassFile.FieldType.object "NoonMeals$Named"))) ∈ lw_all := lw_g (lw_at lw_m3 178 rfl) rfl
theorem q750 : (Jvm.Cond.methodLink "NoonMeals$Day" (76 : Nat) ({ cls := "NoonMeals$Day", name := "among", desc := "([LNoonMeals$Named;ILjava/lang/String;)LNoonMeals$Named;" } : Jvm.MethodName)) ∈ lw_all := lw_g (lw_at lw_m3 179 rfl) rfl
theorem q751 : (Jvm.Cond.static ({ cls := "NoonMeals$Day", name := "among", desc := "([LNoonMeals$Named;ILjava/lang/String;)LNoonMeals$Named;" } : Jvm.MethodName)) ∈ lw_all := lw_g (lw_at lw_m3 180 rfl) rfl
theorem q752 : (Jvm.Cond.code ({ cls := "NoonMeals$Day", name := "among", desc := "([LNoonMeals$Named;ILjava/lang/String;)LNoonMeals$Named;" } : Jvm.MethodName) prog_4_method_2_code (4 : Nat) (Option.some (Jvm.ClassFile.FieldType.object "NoonMeals$Named"))) ∈ lw_all := lw_g (lw_at lw_m3 181 rfl) rfl
theorem q753 : (Jvm.Cond.methodLink "NoonMeals$Day" (66 : Nat) ({ cls := "java/lang/String", name := "equals", desc := "(Ljava/lang/Object;)Z" } : Jvm.MethodName)) ∈ lw_all := lw_g (lw_at lw_m3 182 rfl) rfl
theorem q766 : (Jvm.Cond.fieldLink "NoonMeals$Day" (60 : Nat) "NoonMeals$Named" "name" "Ljava/lang/String;") ∈ lw_all := lw_g (lw_at lw_m3 195 rfl) rfl
theorem q1054 : (Jvm.Cond.instanceMethod ({ cls := "NoonMeals$Day", name := "way", desc := "(II)I" } : Jvm.MethodName)) ∈ lw_all := lw_g (lw_at lw_m5 3 rfl) rfl
theorem q1055 : (Jvm.Cond.selects "NoonMeals$Day" ({ cls := "NoonMeals$Day", name := "way", desc := "(II)I" } : Jvm.MethodName) ({ cls := "NoonMeals$Day", name := "way", desc := "(II)I" } : Jvm.MethodName)) ∈ lw_all := lw_g (lw_at lw_m5 4 rfl) rfl
theorem q1056 : (Jvm.Cond.code ({ cls := "NoonMeals$Day", name := "way", desc := "(II)I" } : Jvm.MethodName) prog_4_method_4_code (7 : Nat) (Option.some Jvm.ClassFile.FieldType.int)) ∈ lw_all := lw_g (lw_at lw_m5 5 rfl) rfl
theorem q1057 : (Jvm.Cond.methodLink "NoonMeals$Day" (98 : Nat) ({ cls := "java/lang/Math", name := "min", desc := "(II)I" } : Jvm.MethodName)) ∈ lw_all := lw_g (lw_at lw_m5 6 rfl) rfl
theorem q1060 : (Jvm.Cond.methodLink "NoonMeals$Day" (104 : Nat) ({ cls := "java/lang/Math", name := "max", desc := "(II)I" } : Jvm.MethodName)) ∈ lw_all := lw_g (lw_at lw_m5 9 rfl) rfl
theorem q1064 : (Jvm.Cond.instanceMethod ({ cls := "NoonMeals$Day", name := "isBad", desc := "(LNoonMeals$Car;I)Z" } : Jvm.MethodName)) ∈ lw_all := lw_g (lw_at lw_m5 13 rfl) rfl
theorem q1065 : (Jvm.Cond.selects "NoonMeals$Day" ({ cls := "NoonMeals$Day", name := "isBad", desc := "(LNoonMeals$Car;I)Z" } : Jvm.MethodName) ({ cls := "NoonMeals$Day", name := "isBad", desc := "(LNoonMeals$Car;I)Z" } : Jvm.MethodName)) ∈ lw_all := lw_g (lw_at lw_m5 14 rfl) rfl
theorem q1066 : (Jvm.Cond.code ({ cls := "NoonMeals$Day", name := "isBad", desc := "(LNoonMeals$Car;I)Z" } : Jvm.MethodName) prog_4_method_5_code (3 : Nat) (Option.some Jvm.ClassFile.FieldType.boolean)) ∈ lw_all := lw_g (lw_at lw_m5 15 rfl) rfl
theorem q1067 : (Jvm.Cond.methodLink "NoonMeals$Day" (113 : Nat) ({ cls := "NoonMeals$Car", name := "heat", desc := "(I)I" } : Jvm.MethodName)) ∈ lw_all := lw_g (lw_at lw_m5 16 rfl) rfl
theorem q1997 : (Jvm.Cond.castable "NoonMeals$Day" "java/lang/Object") ∈ lw_tbl := lw_at lw_m8 226 rfl
theorem in_X6 : ∀ w ∈ wsX60, w ∈ lw_all := lw_in wsX60 [489, 491, 493, 495, 497, 499, 501, 503, 505, 507, 509, 511, 513, 515, 517, 519, 521, 523, 525] (by decide +kernel) (by decide +kernel)
/-! NoonMeals$Named -/
set_option maxRecDepth 100000
def RX7 : String := "NoonMeals$Named"
abbrev cX7_init : ByteArray := prog_10_method_1_code
def yX7_init : MethodName := ⟨RX7, "<init>", "(Ljava/lang/String;I)V"⟩
def dkwX7_init_0 : List UInt8 := [42, 183, 0, 1, 42, 43, 181, 0, 7, 42, 28, 181, 0, 13, 177]
abbrev dktX7_init_0 : List UInt8 := dkwX7_init_0 ++ []
theorem dksX7_init_0 : cX7_init.data.toList.drop 0 = dktX7_init_0 := by decide +kernel
theorem dX7_init_0 : decode cX7_init 0 = .ok (.aload_n 0, 1) := dk_42 (dk_at dksX7_init_0 0 rfl rfl)
theorem dX7_init_1 : decode cX7_init 1 = .ok (.invokespecial 1, 3) := dk_183 0 1 (dk_at dksX7_init_0 1 rfl rfl)
theorem dX7_init_4 : decode cX7_init 4 = .ok (.aload_n 0, 1) := dk_42 (dk_at dksX7_init_0 4 rfl rfl)
theorem dX7_init_5 : decode cX7_init 5 = .ok (.aload_n 1, 1) := dk_43 (dk_at dksX7_init_0 5 rfl rfl)
theorem dX7_init_6 : decode cX7_init 6 = .ok (.putfield 7, 3) := dk_181 0 7 (dk_at dksX7_init_0 6 rfl rfl)
theorem dX7_init_9 : decode cX7_init 9 = .ok (.aload_n 0, 1) := dk_42 (dk_at dksX7_init_0 9 rfl rfl)
theorem dX7_init_10 : decode cX7_init 10 = .ok (.iload_n 2, 1) := dk_28 (dk_at dksX7_init_0 10 rfl rfl)
theorem dX7_init_11 : decode cX7_init 11 = .ok (.putfield 13, 3) := dk_181 0 13 (dk_at dksX7_init_0 11 rfl rfl)
theorem dX7_init_14 : decode cX7_init 14 = .ok (.return_, 1) := dk_177 (dk_at dksX7_init_0 14 rfl rfl)
theorem q106 : (Jvm.Cond.initialized "NoonMeals$Named") ∈ lw_all := lw_g (lw_at lw_m1 15 rfl) rfl
theorem q758 : (Jvm.Cond.instanceMethod ({ cls := "NoonMeals$Named", name := "<init>", desc := "(Ljava/lang/String;I)V" } : Jvm.MethodName)) ∈ lw_all := lw_g (lw_at lw_m3 187 rfl) rfl
theorem q759 : (Jvm.Cond.code ({ cls := "NoonMeals$Named", name := "<init>", desc := "(Ljava/lang/String;I)V" } : Jvm.MethodName) prog_10_method_1_code (3 : Nat) (Option.none : Option Jvm.ClassFile.FieldType)) ∈ lw_all := lw_g (lw_at lw_m3 188 rfl) rfl
theorem q760 : (Jvm.Cond.methodLink "NoonMeals$Named" (1 : Nat) ({ cls := "java/lang/Object", name := "<init>", desc := "()V" } : Jvm.MethodName)) ∈ lw_all := lw_g (lw_at lw_m3 189 rfl) rfl
theorem q765 : (Jvm.Cond.fieldLink "NoonMeals$Named" (7 : Nat) "NoonMeals$Named" "name" "Ljava/lang/String;") ∈ lw_all := lw_g (lw_at lw_m3 194 rfl) rfl
theorem q767 : (Jvm.Cond.fieldLink "NoonMeals$Named" (13 : Nat) "NoonMeals$Named" "number" "I") ∈ lw_all := lw_g (lw_at lw_m3 196 rfl) rfl
theorem q775 : (Jvm.Cond.soleField "NoonMeals$Named" "name") ∈ lw_all := lw_g (lw_at lw_m3 204 rfl) rfl
theorem q777 : (Jvm.Cond.soleField "NoonMeals$Named" "number") ∈ lw_all := lw_g (lw_at lw_m3 206 rfl) rfl
/-! NoonMeals$Kitchen -/
set_option maxRecDepth 100000
def RX8 : String := "NoonMeals$Kitchen"
def TX8 : u_T := fun k => match k with
  | 0 => ("NoonMeals$Named", "name", "Ljava/lang/String;", true)
  | 1 => ("NoonMeals$Named", "number", "I", true)
  | 2 => ("NoonMeals$Kitchen", "at", "I", false)
  | _ => ("NoonMeals$Kitchen", "hot", "I", false)
def tyX8 : Nat → FieldType := fun k => match k with
  | 0 => .object "java/lang/String"
  | 1 => .int
  | 2 => .int
  | _ => .int
abbrev wsX80 : List Cond := u_ws RX8 TX8 4
theorem nmX8 : ∀ a, a < 4 → ∀ b, b < 4 → a ≠ b → (TX8 a).2.1 ≠ (TX8 b).2.1 := by decide +kernel
theorem tyX8_ok : ∀ k, k < 4 → parseFieldDescriptor (TX8 k).2.2.1 = some (tyX8 k) := by decide +kernel
abbrev cX8_init : ByteArray := prog_9_method_1_code
def yX8_init : MethodName := ⟨RX8, "<init>", "(Ljava/lang/String;I)V"⟩
def dkwX8_init_0 : List UInt8 := [42, 43, 28, 183, 0, 1, 177]
abbrev dktX8_init_0 : List UInt8 := dkwX8_init_0 ++ []
theorem dksX8_init_0 : cX8_init.data.toList.drop 0 = dktX8_init_0 := by decide +kernel
theorem dX8_init_0 : decode cX8_init 0 = .ok (.aload_n 0, 1) := dk_42 (dk_at dksX8_init_0 0 rfl rfl)
theorem dX8_init_1 : decode cX8_init 1 = .ok (.aload_n 1, 1) := dk_43 (dk_at dksX8_init_0 1 rfl rfl)
theorem dX8_init_2 : decode cX8_init 2 = .ok (.iload_n 2, 1) := dk_28 (dk_at dksX8_init_0 2 rfl rfl)
theorem dX8_init_3 : decode cX8_init 3 = .ok (.invokespecial 1, 3) := dk_183 0 1 (dk_at dksX8_init_0 3 rfl rfl)
theorem dX8_init_6 : decode cX8_init 6 = .ok (.return_, 1) := dk_177 (dk_at dksX8_init_0 6 rfl rfl)
theorem q107 : (Jvm.Cond.initialized "NoonMeals$Kitchen") ∈ lw_all := lw_g (lw_at lw_m1 16 rfl) rfl
theorem q735 : (Jvm.Cond.instantiable "NoonMeals$Kitchen" (4 : Nat)) ∈ lw_all := lw_g (lw_at lw_m3 164 rfl) rfl
theorem q755 : (Jvm.Cond.instanceMethod ({ cls := "NoonMeals$Kitchen", name := "<init>", desc := "(Ljava/lang/String;I)V" } : Jvm.MethodName)) ∈ lw_all := lw_g (lw_at lw_m3 184 rfl) rfl
theorem q756 : (Jvm.Cond.code ({ cls := "NoonMeals$Kitchen", name := "<init>", desc := "(Ljava/lang/String;I)V" } : Jvm.MethodName) prog_9_method_1_code (3 : Nat) (Option.none : Option Jvm.ClassFile.FieldType)) ∈ lw_all := lw_g (lw_at lw_m3 185 rfl) rfl
theorem q757 : (Jvm.Cond.methodLink "NoonMeals$Kitchen" (1 : Nat) ({ cls := "NoonMeals$Named", name := "<init>", desc := "(Ljava/lang/String;I)V" } : Jvm.MethodName)) ∈ lw_all := lw_g (lw_at lw_m3 186 rfl) rfl
theorem q769 : (Jvm.Cond.sameField "NoonMeals$Kitchen" "NoonMeals$Named" "number" "I") ∈ lw_all := lw_g (lw_at lw_m3 198 rfl) rfl
theorem q770 : (Jvm.Cond.lays "NoonMeals$Kitchen" "NoonMeals$Kitchen" "at" "I") ∈ lw_all := lw_g (lw_at lw_m3 199 rfl) rfl
theorem q771 : (Jvm.Cond.soleField "NoonMeals$Kitchen" "at") ∈ lw_all := lw_g (lw_at lw_m3 200 rfl) rfl
theorem q772 : (Jvm.Cond.lays "NoonMeals$Kitchen" "NoonMeals$Kitchen" "hot" "I") ∈ lw_all := lw_g (lw_at lw_m3 201 rfl) rfl
theorem q773 : (Jvm.Cond.soleField "NoonMeals$Kitchen" "hot") ∈ lw_all := lw_g (lw_at lw_m3 202 rfl) rfl
theorem q774 : (Jvm.Cond.laysFinal "NoonMeals$Kitchen" "NoonMeals$Named" "name" "Ljava/lang/String;") ∈ lw_all := lw_g (lw_at lw_m3 203 rfl) rfl
theorem q776 : (Jvm.Cond.laysFinal "NoonMeals$Kitchen" "NoonMeals$Named" "number" "I") ∈ lw_all := lw_g (lw_at lw_m3 205 rfl) rfl
theorem q778 : (Jvm.Cond.superclass "NoonMeals$Kitchen" "NoonMeals$Named") ∈ lw_all := lw_g (lw_at lw_m3 207 rfl) rfl
theorem q2000 : (Jvm.Cond.castable "NoonMeals$Kitchen" "java/lang/Object") ∈ lw_tbl := lw_at lw_m8 229 rfl
theorem in_X8 : ∀ w ∈ wsX80, w ∈ lw_all := lw_in wsX80 [774, 776, 770, 772] (by decide +kernel) (by decide +kernel)
/-! NoonMeals$Dish -/
set_option maxRecDepth 100000
def RX9 : String := "NoonMeals$Dish"
def TX9 : u_T := fun k => match k with
  | 0 => ("NoonMeals$Named", "name", "Ljava/lang/String;", true)
  | 1 => ("NoonMeals$Named", "number", "I", true)
  | 2 => ("NoonMeals$Dish", "letters", "I", false)
  | _ => ("NoonMeals$Dish", "costs", "I", false)
def tyX9 : Nat → FieldType := fun k => match k with
  | 0 => .object "java/lang/String"
  | 1 => .int
  | 2 => .int
  | _ => .int
abbrev wsX90 : List Cond := u_ws RX9 TX9 4
theorem nmX9 : ∀ a, a < 4 → ∀ b, b < 4 → a ≠ b → (TX9 a).2.1 ≠ (TX9 b).2.1 := by decide +kernel
theorem tyX9_ok : ∀ k, k < 4 → parseFieldDescriptor (TX9 k).2.2.1 = some (tyX9 k) := by decide +kernel
abbrev cX9_init : ByteArray := prog_6_method_1_code
def yX9_init : MethodName := ⟨RX9, "<init>", "(Ljava/lang/String;I)V"⟩
def dkwX9_init_0 : List UInt8 := [42, 43, 28, 183, 0, 1, 177]
abbrev dktX9_init_0 : List UInt8 := dkwX9_init_0 ++ []
theorem dksX9_init_0 : cX9_init.data.toList.drop 0 = dktX9_init_0 := by decide +kernel
theorem dX9_init_0 : decode cX9_init 0 = .ok (.aload_n 0, 1) := dk_42 (dk_at dksX9_init_0 0 rfl rfl)
theorem dX9_init_1 : decode cX9_init 1 = .ok (.aload_n 1, 1) := dk_43 (dk_at dksX9_init_0 1 rfl rfl)
theorem dX9_init_2 : decode cX9_init 2 = .ok (.iload_n 2, 1) := dk_28 (dk_at dksX9_init_0 2 rfl rfl)
theorem dX9_init_3 : decode cX9_init 3 = .ok (.invokespecial 1, 3) := dk_183 0 1 (dk_at dksX9_init_0 3 rfl rfl)
theorem dX9_init_6 : decode cX9_init 6 = .ok (.return_, 1) := dk_177 (dk_at dksX9_init_0 6 rfl rfl)
theorem q108 : (Jvm.Cond.initialized "NoonMeals$Dish") ∈ lw_all := lw_g (lw_at lw_m1 17 rfl) rfl
theorem q786 : (Jvm.Cond.instantiable "NoonMeals$Dish" (4 : Nat)) ∈ lw_all := lw_g (lw_at lw_m3 215 rfl) rfl
theorem q788 : (Jvm.Cond.instanceMethod ({ cls := "NoonMeals$Dish", name := "<init>", desc := "(Ljava/lang/String;I)V" } : Jvm.MethodName)) ∈ lw_all := lw_g (lw_at lw_m3 217 rfl) rfl
theorem q789 : (Jvm.Cond.code ({ cls := "NoonMeals$Dish", name := "<init>", desc := "(Ljava/lang/String;I)V" } : Jvm.MethodName) prog_6_method_1_code (3 : Nat) (Option.none : Option Jvm.ClassFile.FieldType)) ∈ lw_all := lw_g (lw_at lw_m3 218 rfl) rfl
theorem q790 : (Jvm.Cond.methodLink "NoonMeals$Dish" (1 : Nat) ({ cls := "NoonMeals$Named", name := "<init>", desc := "(Ljava/lang/String;I)V" } : Jvm.MethodName)) ∈ lw_all := lw_g (lw_at lw_m3 219 rfl) rfl
theorem q795 : (Jvm.Cond.lays "NoonMeals$Dish" "NoonMeals$Dish" "letters" "I") ∈ lw_all := lw_g (lw_at lw_m3 224 rfl) rfl
theorem q796 : (Jvm.Cond.soleField "NoonMeals$Dish" "letters") ∈ lw_all := lw_g (lw_at lw_m3 225 rfl) rfl
theorem q797 : (Jvm.Cond.lays "NoonMeals$Dish" "NoonMeals$Dish" "costs" "I") ∈ lw_all := lw_g (lw_at lw_m3 226 rfl) rfl
theorem q798 : (Jvm.Cond.soleField "NoonMeals$Dish" "costs") ∈ lw_all := lw_g (lw_at lw_m3 227 rfl) rfl
theorem q799 : (Jvm.Cond.laysFinal "NoonMeals$Dish" "NoonMeals$Named" "name" "Ljava/lang/String;") ∈ lw_all := lw_g (lw_at lw_m3 228 rfl) rfl
theorem q800 : (Jvm.Cond.laysFinal "NoonMeals$Dish" "NoonMeals$Named" "number" "I") ∈ lw_all := lw_g (lw_at lw_m3 229 rfl) rfl
theorem q801 : (Jvm.Cond.superclass "NoonMeals$Dish" "NoonMeals$Named") ∈ lw_all := lw_g (lw_at lw_m3 230 rfl) rfl
theorem q2001 : (Jvm.Cond.castable "NoonMeals$Dish" "java/lang/Object") ∈ lw_tbl := lw_at lw_m8 230 rfl
theorem in_X9 : ∀ w ∈ wsX90, w ∈ lw_all := lw_in wsX90 [799, 800, 795, 797] (by decide +kernel) (by decide +kernel)
/-! NoonMeals$Diet -/
set_option maxRecDepth 100000
def RX10 : String := "NoonMeals$Diet"
def TX10 : u_T := fun k => match k with
  | 0 => ("NoonMeals$Named", "name", "Ljava/lang/String;", true)
  | 1 => ("NoonMeals$Named", "number", "I", true)
  | _ => ("NoonMeals$Diet", "bars", "I", false)
def tyX10 : Nat → FieldType := fun k => match k with
  | 0 => .object "java/lang/String"
  | 1 => .int
  | _ => .int
abbrev wsX100 : List Cond := u_ws RX10 TX10 3
theorem nmX10 : ∀ a, a < 3 → ∀ b, b < 3 → a ≠ b → (TX10 a).2.1 ≠ (TX10 b).2.1 := by decide +kernel
theorem tyX10_ok : ∀ k, k < 3 → parseFieldDescriptor (TX10 k).2.2.1 = some (tyX10 k) := by decide +kernel
abbrev cX10_init : ByteArray := prog_5_method_1_code
def yX10_init : MethodName := ⟨RX10, "<init>", "(Ljava/lang/String;I)V"⟩
def dkwX10_init_0 : List UInt8 := [42, 43, 28, 183, 0, 1, 177]
abbrev dktX10_init_0 : List UInt8 := dkwX10_init_0 ++ []
theorem dksX10_init_0 : cX10_init.data.toList.drop 0 = dktX10_init_0 := by decide +kernel
theorem dX10_init_0 : decode cX10_init 0 = .ok (.aload_n 0, 1) := dk_42 (dk_at dksX10_init_0 0 rfl rfl)
theorem dX10_init_1 : decode cX10_init 1 = .ok (.aload_n 1, 1) := dk_43 (dk_at dksX10_init_0 1 rfl rfl)
theorem dX10_init_2 : decode cX10_init 2 = .ok (.iload_n 2, 1) := dk_28 (dk_at dksX10_init_0 2 rfl rfl)
theorem dX10_init_3 : decode cX10_init 3 = .ok (.invokespecial 1, 3) := dk_183 0 1 (dk_at dksX10_init_0 3 rfl rfl)
theorem dX10_init_6 : decode cX10_init 6 = .ok (.return_, 1) := dk_177 (dk_at dksX10_init_0 6 rfl rfl)
theorem q109 : (Jvm.Cond.initialized "NoonMeals$Diet") ∈ lw_all := lw_g (lw_at lw_m1 18 rfl) rfl
theorem q841 : (Jvm.Cond.instantiable "NoonMeals$Diet" (3 : Nat)) ∈ lw_all := lw_g (lw_at lw_m4 30 rfl) rfl
theorem q843 : (Jvm.Cond.instanceMethod ({ cls := "NoonMeals$Diet", name := "<init>", desc := "(Ljava/lang/String;I)V" } : Jvm.MethodName)) ∈ lw_all := lw_g (lw_at lw_m4 32 rfl) rfl
theorem q844 : (Jvm.Cond.code ({ cls := "NoonMeals$Diet", name := "<init>", desc := "(Ljava/lang/String;I)V" } : Jvm.MethodName) prog_5_method_1_code (3 : Nat) (Option.none : Option Jvm.ClassFile.FieldType)) ∈ lw_all := lw_g (lw_at lw_m4 33 rfl) rfl
theorem q845 : (Jvm.Cond.methodLink "NoonMeals$Diet" (1 : Nat) ({ cls := "NoonMeals$Named", name := "<init>", desc := "(Ljava/lang/String;I)V" } : Jvm.MethodName)) ∈ lw_all := lw_g (lw_at lw_m4 34 rfl) rfl
theorem q848 : (Jvm.Cond.lays "NoonMeals$Diet" "NoonMeals$Diet" "bars" "I") ∈ lw_all := lw_g (lw_at lw_m4 37 rfl) rfl
theorem q849 : (Jvm.Cond.soleField "NoonMeals$Diet" "bars") ∈ lw_all := lw_g (lw_at lw_m4 38 rfl) rfl
theorem q850 : (Jvm.Cond.laysFinal "NoonMeals$Diet" "NoonMeals$Named" "name" "Ljava/lang/String;") ∈ lw_all := lw_g (lw_at lw_m4 39 rfl) rfl
theorem q851 : (Jvm.Cond.laysFinal "NoonMeals$Diet" "NoonMeals$Named" "number" "I") ∈ lw_all := lw_g (lw_at lw_m4 40 rfl) rfl
theorem q852 : (Jvm.Cond.superclass "NoonMeals$Diet" "NoonMeals$Named") ∈ lw_all := lw_g (lw_at lw_m4 41 rfl) rfl
theorem q2002 : (Jvm.Cond.castable "NoonMeals$Diet" "java/lang/Object") ∈ lw_tbl := lw_at lw_m8 231 rfl
theorem in_X10 : ∀ w ∈ wsX100, w ∈ lw_all := lw_in wsX100 [850, 851, 848] (by decide +kernel) (by decide +kernel)
/-! NoonMeals$House -/
set_option maxRecDepth 100000
def RX11 : String := "NoonMeals$House"
def TX11 : u_T := fun k => match k with
  | 0 => ("NoonMeals$Named", "name", "Ljava/lang/String;", true)
  | 1 => ("NoonMeals$Named", "number", "I", true)
  | 2 => ("NoonMeals$House", "at", "I", false)
  | 3 => ("NoonMeals$House", "doors", "I", false)
  | 4 => ("NoonMeals$House", "tea", "I", false)
  | 5 => ("NoonMeals$House", "chance", "I", false)
  | 6 => ("NoonMeals$House", "need", "I", false)
  | 7 => ("NoonMeals$House", "diet", "LNoonMeals$Diet;", false)
  | _ => ("NoonMeals$House", "hasDog", "Z", false)
def tyX11 : Nat → FieldType := fun k => match k with
  | 0 => .object "java/lang/String"
  | 1 => .int
  | 2 => .int
  | 3 => .int
  | 4 => .int
  | 5 => .int
  | 6 => .int
  | 7 => .object "NoonMeals$Diet"
  | _ => .boolean
abbrev wsX110 : List Cond := u_ws RX11 TX11 9
theorem nmX11 : ∀ a, a < 9 → ∀ b, b < 9 → a ≠ b → (TX11 a).2.1 ≠ (TX11 b).2.1 := by decide +kernel
theorem tyX11_ok : ∀ k, k < 9 → parseFieldDescriptor (TX11 k).2.2.1 = some (tyX11 k) := by decide +kernel
abbrev cX11_init : ByteArray := prog_8_method_1_code
def yX11_init : MethodName := ⟨RX11, "<init>", "(Ljava/lang/String;I)V"⟩
def dkwX11_init_0 : List UInt8 := [42, 43, 28, 183, 0, 1, 177]
abbrev dktX11_init_0 : List UInt8 := dkwX11_init_0 ++ []
theorem dksX11_init_0 : cX11_init.data.toList.drop 0 = dktX11_init_0 := by decide +kernel
theorem dX11_init_0 : decode cX11_init 0 = .ok (.aload_n 0, 1) := dk_42 (dk_at dksX11_init_0 0 rfl rfl)
theorem dX11_init_1 : decode cX11_init 1 = .ok (.aload_n 1, 1) := dk_43 (dk_at dksX11_init_0 1 rfl rfl)
theorem dX11_init_2 : decode cX11_init 2 = .ok (.iload_n 2, 1) := dk_28 (dk_at dksX11_init_0 2 rfl rfl)
theorem dX11_init_3 : decode cX11_init 3 = .ok (.invokespecial 1, 3) := dk_183 0 1 (dk_at dksX11_init_0 3 rfl rfl)
theorem dX11_init_6 : decode cX11_init 6 = .ok (.return_, 1) := dk_177 (dk_at dksX11_init_0 6 rfl rfl)
theorem q110 : (Jvm.Cond.initialized "NoonMeals$House") ∈ lw_all := lw_g (lw_at lw_m1 19 rfl) rfl
theorem q859 : (Jvm.Cond.instantiable "NoonMeals$House" (9 : Nat)) ∈ lw_all := lw_g (lw_at lw_m4 48 rfl) rfl
theorem q861 : (Jvm.Cond.instanceMethod ({ cls := "NoonMeals$House", name := "<init>", desc := "(Ljava/lang/String;I)V" } : Jvm.MethodName)) ∈ lw_all := lw_g (lw_at lw_m4 50 rfl) rfl
theorem q862 : (Jvm.Cond.code ({ cls := "NoonMeals$House", name := "<init>", desc := "(Ljava/lang/String;I)V" } : Jvm.MethodName) prog_8_method_1_code (3 : Nat) (Option.none : Option Jvm.ClassFile.FieldType)) ∈ lw_all := lw_g (lw_at lw_m4 51 rfl) rfl
theorem q863 : (Jvm.Cond.methodLink "NoonMeals$House" (1 : Nat) ({ cls := "NoonMeals$Named", name := "<init>", desc := "(Ljava/lang/String;I)V" } : Jvm.MethodName)) ∈ lw_all := lw_g (lw_at lw_m4 52 rfl) rfl
theorem q878 : (Jvm.Cond.lays "NoonMeals$House" "NoonMeals$House" "at" "I") ∈ lw_all := lw_g (lw_at lw_m4 67 rfl) rfl
theorem q879 : (Jvm.Cond.soleField "NoonMeals$House" "at") ∈ lw_all := lw_g (lw_at lw_m4 68 rfl) rfl
theorem q880 : (Jvm.Cond.lays "NoonMeals$House" "NoonMeals$House" "doors" "I") ∈ lw_all := lw_g (lw_at lw_m4 69 rfl) rfl
theorem q881 : (Jvm.Cond.soleField "NoonMeals$House" "doors") ∈ lw_all := lw_g (lw_at lw_m4 70 rfl) rfl
theorem q882 : (Jvm.Cond.lays "NoonMeals$House" "NoonMeals$House" "tea" "I") ∈ lw_all := lw_g (lw_at lw_m4 71 rfl) rfl
theorem q883 : (Jvm.Cond.soleField "NoonMeals$House" "tea") ∈ lw_all := lw_g (lw_at lw_m4 72 rfl) rfl
theorem q884 : (Jvm.Cond.lays "NoonMeals$House" "NoonMeals$House" "chance" "I") ∈ lw_all := lw_g (lw_at lw_m4 73 rfl) rfl
theorem q885 : (Jvm.Cond.soleField "NoonMeals$House" "chance") ∈ lw_all := lw_g (lw_at lw_m4 74 rfl) rfl
theorem q886 : (Jvm.Cond.lays "NoonMeals$House" "NoonMeals$House" "need" "I") ∈ lw_all := lw_g (lw_at lw_m4 75 rfl) rfl
theorem q887 : (Jvm.Cond.soleField "NoonMeals$House" "need") ∈ lw_all := lw_g (lw_at lw_m4 76 rfl) rfl
theorem q888 : (Jvm.Cond.lays "NoonMeals$House" "NoonMeals$House" "diet" "LNoonMeals$Diet;") ∈ lw_all := lw_g (lw_at lw_m4 77 rfl) rfl
theorem q889 : (Jvm.Cond.soleField "NoonMeals$House" "diet") ∈ lw_all := lw_g (lw_at lw_m4 78 rfl) rfl
theorem q890 : (Jvm.Cond.lays "NoonMeals$House" "NoonMeals$House" "hasDog" "Z") ∈ lw_all := lw_g (lw_at lw_m4 79 rfl) rfl
theorem q891 : (Jvm.Cond.soleField "NoonMeals$House" "hasDog") ∈ lw_all := lw_g (lw_at lw_m4 80 rfl) rfl
theorem q892 : (Jvm.Cond.laysFinal "NoonMeals$House" "NoonMeals$Named" "name" "Ljava/lang/String;") ∈ lw_all := lw_g (lw_at lw_m4 81 rfl) rfl
theorem q893 : (Jvm.Cond.laysFinal "NoonMeals$House" "NoonMeals$Named" "number" "I") ∈ lw_all := lw_g (lw_at lw_m4 82 rfl) rfl
theorem q894 : (Jvm.Cond.superclass "NoonMeals$House" "NoonMeals$Named") ∈ lw_all := lw_g (lw_at lw_m4 83 rfl) rfl
theorem q2003 : (Jvm.Cond.castable "NoonMeals$House" "java/lang/Object") ∈ lw_tbl := lw_at lw_m8 232 rfl
theorem in_X11 : ∀ w ∈ wsX110, w ∈ lw_all := lw_in wsX110 [892, 893, 878, 880, 882, 884, 886, 888, 890] (by decide +kernel) (by decide +kernel)
/-! NoonMeals$Car -/
set_option maxRecDepth 100000
def RX12 : String := "NoonMeals$Car"
def TX12 : u_T := fun k => match k with
  | 0 => ("NoonMeals$Named", "name", "Ljava/lang/String;", true)
  | 1 => ("NoonMeals$Named", "number", "I", true)
  | 2 => ("NoonMeals$Car", "kitchen", "LNoonMeals$Kitchen;", false)
  | 3 => ("NoonMeals$Car", "starts", "I", false)
  | 4 => ("NoonMeals$Car", "holds", "I", false)
  | 5 => ("NoonMeals$Car", "cools", "I", false)
  | _ => ("NoonMeals$Car", "isAfraid", "Z", false)
def tyX12 : Nat → FieldType := fun k => match k with
  | 0 => .object "java/lang/String"
  | 1 => .int
  | 2 => .object "NoonMeals$Kitchen"
  | 3 => .int
  | 4 => .int
  | 5 => .int
  | _ => .boolean
abbrev wsX120 : List Cond := u_ws RX12 TX12 7
theorem nmX12 : ∀ a, a < 7 → ∀ b, b < 7 → a ≠ b → (TX12 a).2.1 ≠ (TX12 b).2.1 := by decide +kernel
theorem tyX12_ok : ∀ k, k < 7 → parseFieldDescriptor (TX12 k).2.2.1 = some (tyX12 k) := by decide +kernel
abbrev cX12_init : ByteArray := prog_3_method_1_code
def yX12_init : MethodName := ⟨RX12, "<init>", "(Ljava/lang/String;I)V"⟩
def dkwX12_init_0 : List UInt8 := [42, 43, 28, 183, 0, 1, 177]
abbrev dktX12_init_0 : List UInt8 := dkwX12_init_0 ++ []
theorem dksX12_init_0 : cX12_init.data.toList.drop 0 = dktX12_init_0 := by decide +kernel
theorem dX12_init_0 : decode cX12_init 0 = .ok (.aload_n 0, 1) := dk_42 (dk_at dksX12_init_0 0 rfl rfl)
theorem dX12_init_1 : decode cX12_init 1 = .ok (.aload_n 1, 1) := dk_43 (dk_at dksX12_init_0 1 rfl rfl)
theorem dX12_init_2 : decode cX12_init 2 = .ok (.iload_n 2, 1) := dk_28 (dk_at dksX12_init_0 2 rfl rfl)
theorem dX12_init_3 : decode cX12_init 3 = .ok (.invokespecial 1, 3) := dk_183 0 1 (dk_at dksX12_init_0 3 rfl rfl)
theorem dX12_init_6 : decode cX12_init 6 = .ok (.return_, 1) := dk_177 (dk_at dksX12_init_0 6 rfl rfl)
abbrev cX12_heat : ByteArray := prog_3_method_2_code
def yX12_heat : MethodName := ⟨RX12, "heat", "(I)I"⟩
def dkwX12_heat_0 : List UInt8 := [42, 180, 0, 7, 180, 0, 13, 42, 180, 0, 19, 27, 42, 180, 0, 22, 100, 104, 16, 10, 108, 100, 172]
abbrev dktX12_heat_0 : List UInt8 := dkwX12_heat_0 ++ []
theorem dksX12_heat_0 : cX12_heat.data.toList.drop 0 = dktX12_heat_0 := by decide +kernel
theorem dX12_heat_0 : decode cX12_heat 0 = .ok (.aload_n 0, 1) := dk_42 (dk_at dksX12_heat_0 0 rfl rfl)
theorem dX12_heat_1 : decode cX12_heat 1 = .ok (.getfield 7, 3) := dk_180 0 7 (dk_at dksX12_heat_0 1 rfl rfl)
theorem dX12_heat_4 : decode cX12_heat 4 = .ok (.getfield 13, 3) := dk_180 0 13 (dk_at dksX12_heat_0 4 rfl rfl)
theorem dX12_heat_7 : decode cX12_heat 7 = .ok (.aload_n 0, 1) := dk_42 (dk_at dksX12_heat_0 7 rfl rfl)
theorem dX12_heat_8 : decode cX12_heat 8 = .ok (.getfield 19, 3) := dk_180 0 19 (dk_at dksX12_heat_0 8 rfl rfl)
theorem dX12_heat_11 : decode cX12_heat 11 = .ok (.iload_n 1, 1) := dk_27 (dk_at dksX12_heat_0 11 rfl rfl)
theorem dX12_heat_12 : decode cX12_heat 12 = .ok (.aload_n 0, 1) := dk_42 (dk_at dksX12_heat_0 12 rfl rfl)
theorem dX12_heat_13 : decode cX12_heat 13 = .ok (.getfield 22, 3) := dk_180 0 22 (dk_at dksX12_heat_0 13 rfl rfl)
theorem dX12_heat_16 : decode cX12_heat 16 = .ok (.isub, 1) := dk_100 (dk_at dksX12_heat_0 16 rfl rfl)
theorem dX12_heat_17 : decode cX12_heat 17 = .ok (.imul, 1) := dk_104 (dk_at dksX12_heat_0 17 rfl rfl)
theorem dX12_heat_18 : decode cX12_heat 18 = .ok (.bipush 10, 2) := dk_16 10 (dk_at dksX12_heat_0 18 rfl rfl)
theorem dX12_heat_20 : decode cX12_heat 20 = .ok (.idiv, 1) := dk_108 (dk_at dksX12_heat_0 20 rfl rfl)
theorem dX12_heat_21 : decode cX12_heat 21 = .ok (.isub, 1) := dk_100 (dk_at dksX12_heat_0 21 rfl rfl)
theorem dX12_heat_22 : decode cX12_heat 22 = .ok (.ireturn, 1) := dk_172 (dk_at dksX12_heat_0 22 rfl rfl)
theorem q111 : (Jvm.Cond.initialized "NoonMeals$Car") ∈ lw_all := lw_g (lw_at lw_m1 20 rfl) rfl
theorem q763 : (Jvm.Cond.fieldLink "NoonMeals$Car" (13 : Nat) "NoonMeals$Kitchen" "hot" "I") ∈ lw_all := lw_g (lw_at lw_m3 192 rfl) rfl
theorem q905 : (Jvm.Cond.instantiable "NoonMeals$Car" (7 : Nat)) ∈ lw_all := lw_g (lw_at lw_m4 94 rfl) rfl
theorem q907 : (Jvm.Cond.instanceMethod ({ cls := "NoonMeals$Car", name := "<init>", desc := "(Ljava/lang/String;I)V" } : Jvm.MethodName)) ∈ lw_all := lw_g (lw_at lw_m4 96 rfl) rfl
theorem q908 : (Jvm.Cond.code ({ cls := "NoonMeals$Car", name := "<init>", desc := "(Ljava/lang/String;I)V" } : Jvm.MethodName) prog_3_method_1_code (3 : Nat) (Option.none : Option Jvm.ClassFile.FieldType)) ∈ lw_all := lw_g (lw_at lw_m4 97 rfl) rfl
theorem q909 : (Jvm.Cond.methodLink "NoonMeals$Car" (1 : Nat) ({ cls := "NoonMeals$Named", name := "<init>", desc := "(Ljava/lang/String;I)V" } : Jvm.MethodName)) ∈ lw_all := lw_g (lw_at lw_m4 98 rfl) rfl
theorem q910 : (Jvm.Cond.fieldLink "NoonMeals$Car" (7 : Nat) "NoonMeals$Car" "kitchen" "LNoonMeals$Kitchen;") ∈ lw_all := lw_g (lw_at lw_m4 99 rfl) rfl
theorem q915 : (Jvm.Cond.fieldLink "NoonMeals$Car" (22 : Nat) "NoonMeals$Car" "starts" "I") ∈ lw_all := lw_g (lw_at lw_m4 104 rfl) rfl
theorem q920 : (Jvm.Cond.fieldLink "NoonMeals$Car" (19 : Nat) "NoonMeals$Car" "cools" "I") ∈ lw_all := lw_g (lw_at lw_m4 109 rfl) rfl
theorem q924 : (Jvm.Cond.lays "NoonMeals$Car" "NoonMeals$Car" "kitchen" "LNoonMeals$Kitchen;") ∈ lw_all := lw_g (lw_at lw_m4 113 rfl) rfl
theorem q925 : (Jvm.Cond.soleField "NoonMeals$Car" "kitchen") ∈ lw_all := lw_g (lw_at lw_m4 114 rfl) rfl
theorem q926 : (Jvm.Cond.lays "NoonMeals$Car" "NoonMeals$Car" "starts" "I") ∈ lw_all := lw_g (lw_at lw_m4 115 rfl) rfl
theorem q927 : (Jvm.Cond.soleField "NoonMeals$Car" "starts") ∈ lw_all := lw_g (lw_at lw_m4 116 rfl) rfl
theorem q928 : (Jvm.Cond.lays "NoonMeals$Car" "NoonMeals$Car" "holds" "I") ∈ lw_all := lw_g (lw_at lw_m4 117 rfl) rfl
theorem q929 : (Jvm.Cond.soleField "NoonMeals$Car" "holds") ∈ lw_all := lw_g (lw_at lw_m4 118 rfl) rfl
theorem q930 : (Jvm.Cond.lays "NoonMeals$Car" "NoonMeals$Car" "cools" "I") ∈ lw_all := lw_g (lw_at lw_m4 119 rfl) rfl
theorem q931 : (Jvm.Cond.soleField "NoonMeals$Car" "cools") ∈ lw_all := lw_g (lw_at lw_m4 120 rfl) rfl
theorem q932 : (Jvm.Cond.lays "NoonMeals$Car" "NoonMeals$Car" "isAfraid" "Z") ∈ lw_all := lw_g (lw_at lw_m4 121 rfl) rfl
theorem q933 : (Jvm.Cond.soleField "NoonMeals$Car" "isAfraid") ∈ lw_all := lw_g (lw_at lw_m4 122 rfl) rfl
theorem q934 : (Jvm.Cond.laysFinal "NoonMeals$Car" "NoonMeals$Named" "name" "Ljava/lang/String;") ∈ lw_all := lw_g (lw_at lw_m4 123 rfl) rfl
theorem q935 : (Jvm.Cond.laysFinal "NoonMeals$Car" "NoonMeals$Named" "number" "I") ∈ lw_all := lw_g (lw_at lw_m4 124 rfl) rfl
theorem q936 : (Jvm.Cond.superclass "NoonMeals$Car" "NoonMeals$Named") ∈ lw_all := lw_g (lw_at lw_m4 125 rfl) rfl
theorem q1068 : (Jvm.Cond.instanceMethod ({ cls := "NoonMeals$Car", name := "heat", desc := "(I)I" } : Jvm.MethodName)) ∈ lw_all := lw_g (lw_at lw_m5 17 rfl) rfl
theorem q1069 : (Jvm.Cond.selects "NoonMeals$Car" ({ cls := "NoonMeals$Car", name := "heat", desc := "(I)I" } : Jvm.MethodName) ({ cls := "NoonMeals$Car", name := "heat", desc := "(I)I" } : Jvm.MethodName)) ∈ lw_all := lw_g (lw_at lw_m5 18 rfl) rfl
theorem q1070 : (Jvm.Cond.code ({ cls := "NoonMeals$Car", name := "heat", desc := "(I)I" } : Jvm.MethodName) prog_3_method_2_code (2 : Nat) (Option.some Jvm.ClassFile.FieldType.int)) ∈ lw_all := lw_g (lw_at lw_m5 19 rfl) rfl
theorem q2004 : (Jvm.Cond.castable "NoonMeals$Car" "java/lang/Object") ∈ lw_tbl := lw_at lw_m8 233 rfl
theorem in_X12 : ∀ w ∈ wsX120, w ∈ lw_all := lw_in wsX120 [934, 935, 924, 926, 928, 930, 932] (by decide +kernel) (by decide +kernel)
/-! NoonMeals$Call -/
set_option maxRecDepth 100000
def RX13 : String := "NoonMeals$Call"
def TX13 : u_T := fun k => match k with
  | 0 => ("NoonMeals$Named", "name", "Ljava/lang/String;", true)
  | 1 => ("NoonMeals$Named", "number", "I", true)
  | 2 => ("NoonMeals$Call", "takes", "I", false)
  | _ => ("NoonMeals$Call", "chance", "I", false)
def tyX13 : Nat → FieldType := fun k => match k with
  | 0 => .object "java/lang/String"
  | 1 => .int
  | 2 => .int
  | _ => .int
abbrev wsX130 : List Cond := u_ws RX13 TX13 4
theorem nmX13 : ∀ a, a < 4 → ∀ b, b < 4 → a ≠ b → (TX13 a).2.1 ≠ (TX13 b).2.1 := by decide +kernel
theorem tyX13_ok : ∀ k, k < 4 → parseFieldDescriptor (TX13 k).2.2.1 = some (tyX13 k) := by decide +kernel
abbrev cX13_init : ByteArray := prog_2_method_1_code
def yX13_init : MethodName := ⟨RX13, "<init>", "(Ljava/lang/String;I)V"⟩
def dkwX13_init_0 : List UInt8 := [42, 43, 28, 183, 0, 1, 177]
abbrev dktX13_init_0 : List UInt8 := dkwX13_init_0 ++ []
theorem dksX13_init_0 : cX13_init.data.toList.drop 0 = dktX13_init_0 := by decide +kernel
theorem dX13_init_0 : decode cX13_init 0 = .ok (.aload_n 0, 1) := dk_42 (dk_at dksX13_init_0 0 rfl rfl)
theorem dX13_init_1 : decode cX13_init 1 = .ok (.aload_n 1, 1) := dk_43 (dk_at dksX13_init_0 1 rfl rfl)
theorem dX13_init_2 : decode cX13_init 2 = .ok (.iload_n 2, 1) := dk_28 (dk_at dksX13_init_0 2 rfl rfl)
theorem dX13_init_3 : decode cX13_init 3 = .ok (.invokespecial 1, 3) := dk_183 0 1 (dk_at dksX13_init_0 3 rfl rfl)
theorem dX13_init_6 : decode cX13_init 6 = .ok (.return_, 1) := dk_177 (dk_at dksX13_init_0 6 rfl rfl)
theorem q112 : (Jvm.Cond.initialized "NoonMeals$Call") ∈ lw_all := lw_g (lw_at lw_m1 21 rfl) rfl
theorem q946 : (Jvm.Cond.instantiable "NoonMeals$Call" (4 : Nat)) ∈ lw_all := lw_g (lw_at lw_m4 135 rfl) rfl
theorem q948 : (Jvm.Cond.instanceMethod ({ cls := "NoonMeals$Call", name := "<init>", desc := "(Ljava/lang/String;I)V" } : Jvm.MethodName)) ∈ lw_all := lw_g (lw_at lw_m4 137 rfl) rfl
theorem q949 : (Jvm.Cond.code ({ cls := "NoonMeals$Call", name := "<init>", desc := "(Ljava/lang/String;I)V" } : Jvm.MethodName) prog_2_method_1_code (3 : Nat) (Option.none : Option Jvm.ClassFile.FieldType)) ∈ lw_all := lw_g (lw_at lw_m4 138 rfl) rfl
theorem q950 : (Jvm.Cond.methodLink "NoonMeals$Call" (1 : Nat) ({ cls := "NoonMeals$Named", name := "<init>", desc := "(Ljava/lang/String;I)V" } : Jvm.MethodName)) ∈ lw_all := lw_g (lw_at lw_m4 139 rfl) rfl
theorem q955 : (Jvm.Cond.lays "NoonMeals$Call" "NoonMeals$Call" "takes" "I") ∈ lw_all := lw_g (lw_at lw_m4 144 rfl) rfl
theorem q956 : (Jvm.Cond.soleField "NoonMeals$Call" "takes") ∈ lw_all := lw_g (lw_at lw_m4 145 rfl) rfl
theorem q957 : (Jvm.Cond.lays "NoonMeals$Call" "NoonMeals$Call" "chance" "I") ∈ lw_all := lw_g (lw_at lw_m4 146 rfl) rfl
theorem q958 : (Jvm.Cond.soleField "NoonMeals$Call" "chance") ∈ lw_all := lw_g (lw_at lw_m4 147 rfl) rfl
theorem q959 : (Jvm.Cond.laysFinal "NoonMeals$Call" "NoonMeals$Named" "name" "Ljava/lang/String;") ∈ lw_all := lw_g (lw_at lw_m4 148 rfl) rfl
theorem q960 : (Jvm.Cond.laysFinal "NoonMeals$Call" "NoonMeals$Named" "number" "I") ∈ lw_all := lw_g (lw_at lw_m4 149 rfl) rfl
theorem q961 : (Jvm.Cond.superclass "NoonMeals$Call" "NoonMeals$Named") ∈ lw_all := lw_g (lw_at lw_m4 150 rfl) rfl
theorem q2005 : (Jvm.Cond.castable "NoonMeals$Call" "java/lang/Object") ∈ lw_tbl := lw_at lw_m8 234 rfl
theorem in_X13 : ∀ w ∈ wsX130, w ∈ lw_all := lw_in wsX130 [959, 960, 955, 957] (by decide +kernel) (by decide +kernel)
/-! NoonMeals$Helper -/
set_option maxRecDepth 100000
def RX14 : String := "NoonMeals$Helper"
def TX14 : u_T := fun k => match k with
  | 0 => ("NoonMeals$Named", "name", "Ljava/lang/String;", true)
  | 1 => ("NoonMeals$Named", "number", "I", true)
  | 2 => ("NoonMeals$Helper", "days", "I", false)
  | _ => ("NoonMeals$Helper", "most", "I", false)
def tyX14 : Nat → FieldType := fun k => match k with
  | 0 => .object "java/lang/String"
  | 1 => .int
  | 2 => .int
  | _ => .int
abbrev wsX140 : List Cond := u_ws RX14 TX14 4
theorem nmX14 : ∀ a, a < 4 → ∀ b, b < 4 → a ≠ b → (TX14 a).2.1 ≠ (TX14 b).2.1 := by decide +kernel
theorem tyX14_ok : ∀ k, k < 4 → parseFieldDescriptor (TX14 k).2.2.1 = some (tyX14 k) := by decide +kernel
abbrev cX14_init : ByteArray := prog_7_method_1_code
def yX14_init : MethodName := ⟨RX14, "<init>", "(Ljava/lang/String;I)V"⟩
def dkwX14_init_0 : List UInt8 := [42, 43, 28, 183, 0, 1, 177]
abbrev dktX14_init_0 : List UInt8 := dkwX14_init_0 ++ []
theorem dksX14_init_0 : cX14_init.data.toList.drop 0 = dktX14_init_0 := by decide +kernel
theorem dX14_init_0 : decode cX14_init 0 = .ok (.aload_n 0, 1) := dk_42 (dk_at dksX14_init_0 0 rfl rfl)
theorem dX14_init_1 : decode cX14_init 1 = .ok (.aload_n 1, 1) := dk_43 (dk_at dksX14_init_0 1 rfl rfl)
theorem dX14_init_2 : decode cX14_init 2 = .ok (.iload_n 2, 1) := dk_28 (dk_at dksX14_init_0 2 rfl rfl)
theorem dX14_init_3 : decode cX14_init 3 = .ok (.invokespecial 1, 3) := dk_183 0 1 (dk_at dksX14_init_0 3 rfl rfl)
theorem dX14_init_6 : decode cX14_init 6 = .ok (.return_, 1) := dk_177 (dk_at dksX14_init_0 6 rfl rfl)
theorem q113 : (Jvm.Cond.initialized "NoonMeals$Helper") ∈ lw_all := lw_g (lw_at lw_m1 22 rfl) rfl
theorem q968 : (Jvm.Cond.instantiable "NoonMeals$Helper" (4 : Nat)) ∈ lw_all := lw_g (lw_at lw_m4 157 rfl) rfl
theorem q970 : (Jvm.Cond.instanceMethod ({ cls := "NoonMeals$Helper", name := "<init>", desc := "(Ljava/lang/String;I)V" } : Jvm.MethodName)) ∈ lw_all := lw_g (lw_at lw_m4 159 rfl) rfl
theorem q971 : (Jvm.Cond.code ({ cls := "NoonMeals$Helper", name := "<init>", desc := "(Ljava/lang/String;I)V" } : Jvm.MethodName) prog_7_method_1_code (3 : Nat) (Option.none : Option Jvm.ClassFile.FieldType)) ∈ lw_all := lw_g (lw_at lw_m4 160 rfl) rfl
theorem q972 : (Jvm.Cond.methodLink "NoonMeals$Helper" (1 : Nat) ({ cls := "NoonMeals$Named", name := "<init>", desc := "(Ljava/lang/String;I)V" } : Jvm.MethodName)) ∈ lw_all := lw_g (lw_at lw_m4 161 rfl) rfl
theorem q977 : (Jvm.Cond.lays "NoonMeals$Helper" "NoonMeals$Helper" "days" "I") ∈ lw_all := lw_g (lw_at lw_m4 166 rfl) rfl
theorem q978 : (Jvm.Cond.soleField "NoonMeals$Helper" "days") ∈ lw_all := lw_g (lw_at lw_m4 167 rfl) rfl
theorem q979 : (Jvm.Cond.lays "NoonMeals$Helper" "NoonMeals$Helper" "most" "I") ∈ lw_all := lw_g (lw_at lw_m4 168 rfl) rfl
theorem q980 : (Jvm.Cond.soleField "NoonMeals$Helper" "most") ∈ lw_all := lw_g (lw_at lw_m4 169 rfl) rfl
theorem q981 : (Jvm.Cond.laysFinal "NoonMeals$Helper" "NoonMeals$Named" "name" "Ljava/lang/String;") ∈ lw_all := lw_g (lw_at lw_m4 170 rfl) rfl
theorem q982 : (Jvm.Cond.laysFinal "NoonMeals$Helper" "NoonMeals$Named" "number" "I") ∈ lw_all := lw_g (lw_at lw_m4 171 rfl) rfl
theorem q983 : (Jvm.Cond.superclass "NoonMeals$Helper" "NoonMeals$Named") ∈ lw_all := lw_g (lw_at lw_m4 172 rfl) rfl
theorem q2006 : (Jvm.Cond.castable "NoonMeals$Helper" "java/lang/Object") ∈ lw_tbl := lw_at lw_m8 235 rfl
theorem in_X14 : ∀ w ∈ wsX140, w ∈ lw_all := lw_in wsX140 [981, 982, 977, 979] (by decide +kernel) (by decide +kernel)
/-! NoonMealsModel$Day -/
set_option maxRecDepth 100000
def RX15 : String := "NoonMealsModel$Day"
def TX15 : u_T := fun k => match k with
  | 0 => ("NoonMealsModel$Day", "hot", "I", false)
  | 1 => ("NoonMealsModel$Day", "by", "I", false)
  | 2 => ("NoonMealsModel$Day", "kitchens", "I", false)
  | 3 => ("NoonMealsModel$Day", "dishes", "I", false)
  | 4 => ("NoonMealsModel$Day", "diets", "I", false)
  | 5 => ("NoonMealsModel$Day", "houses", "I", false)
  | 6 => ("NoonMealsModel$Day", "cars", "I", false)
  | 7 => ("NoonMealsModel$Day", "floods", "I", false)
  | 8 => ("NoonMealsModel$Day", "calls", "I", false)
  | 9 => ("NoonMealsModel$Day", "helpers", "I", false)
  | 10 => ("NoonMealsModel$Day", "names", "I", false)
  | 11 => ("NoonMealsModel$Day", "kitchenAt", "[I", true)
  | 12 => ("NoonMealsModel$Day", "kitchenHot", "[I", true)
  | 13 => ("NoonMealsModel$Day", "letters", "[I", true)
  | 14 => ("NoonMealsModel$Day", "cost", "[I", true)
  | 15 => ("NoonMealsModel$Day", "bars", "[I", true)
  | 16 => ("NoonMealsModel$Day", "floodAt", "[I", true)
  | 17 => ("NoonMealsModel$Day", "floodAdds", "[I", true)
  | 18 => ("NoonMealsModel$Day", "houseAt", "[I", true)
  | 19 => ("NoonMealsModel$Day", "eats", "[I", true)
  | 20 => ("NoonMealsModel$Day", "doors", "[I", true)
  | 21 => ("NoonMealsModel$Day", "tea", "[I", true)
  | 22 => ("NoonMealsModel$Day", "chance", "[I", true)
  | 23 => ("NoonMealsModel$Day", "need", "[I", true)
  | 24 => ("NoonMealsModel$Day", "isDog", "[Z", true)
  | 25 => ("NoonMealsModel$Day", "isAfraid", "[Z", true)
  | 26 => ("NoonMealsModel$Day", "from", "[I", true)
  | 27 => ("NoonMealsModel$Day", "starts", "[I", true)
  | 28 => ("NoonMealsModel$Day", "holds", "[I", true)
  | 29 => ("NoonMealsModel$Day", "cools", "[I", true)
  | 30 => ("NoonMealsModel$Day", "takes", "[I", true)
  | 31 => ("NoonMealsModel$Day", "answers", "[I", true)
  | 32 => ("NoonMealsModel$Day", "wishes", "[I", true)
  | 33 => ("NoonMealsModel$Day", "most", "[I", true)
  | 34 => ("NoonMealsModel$Day", "name", "[J", true)
  | 35 => ("NoonMealsModel$Day", "nameSort", "[I", true)
  | _ => ("NoonMealsModel$Day", "nameNumber", "[I", true)
def tyX15 : Nat → FieldType := fun k => match k with
  | 0 => .int
  | 1 => .int
  | 2 => .int
  | 3 => .int
  | 4 => .int
  | 5 => .int
  | 6 => .int
  | 7 => .int
  | 8 => .int
  | 9 => .int
  | 10 => .int
  | 11 => .array .int
  | 12 => .array .int
  | 13 => .array .int
  | 14 => .array .int
  | 15 => .array .int
  | 16 => .array .int
  | 17 => .array .int
  | 18 => .array .int
  | 19 => .array .int
  | 20 => .array .int
  | 21 => .array .int
  | 22 => .array .int
  | 23 => .array .int
  | 24 => .array .boolean
  | 25 => .array .boolean
  | 26 => .array .int
  | 27 => .array .int
  | 28 => .array .int
  | 29 => .array .int
  | 30 => .array .int
  | 31 => .array .int
  | 32 => .array .int
  | 33 => .array .int
  | 34 => .array .long
  | 35 => .array .int
  | _ => .array .int
abbrev wsX150 : List Cond := u_ws RX15 TX15 37
set_option maxRecDepth 100000 in
theorem nmX15 : ∀ a, a < 37 → ∀ b, b < 37 → a ≠ b → (TX15 a).2.1 ≠ (TX15 b).2.1 := by decide +kernel
set_option maxRecDepth 100000 in
theorem tyX15_ok : ∀ k, k < 37 → parseFieldDescriptor (TX15 k).2.2.1 = some (tyX15 k) := by decide +kernel
abbrev cX15_init : ByteArray := prog_16_method_1_code
def yX15_init : MethodName := ⟨RX15, "<init>", "()V"⟩
def dkwX15_init_8 : List UInt8 := [16, 32, 188, 10, 181, 0, 90, 42, 16, 32, 188, 10, 181, 0, 93, 177]
abbrev dktX15_init_8 : List UInt8 := dkwX15_init_8 ++ []
def dkwX15_init_7 : List UInt8 := [42, 8, 188, 10, 181, 0, 80, 42, 8, 188, 10, 181, 0, 83, 42, 16, 32, 188, 11, 181, 0, 86, 42]
abbrev dktX15_init_7 : List UInt8 := dkwX15_init_7 ++ dktX15_init_8
def dkwX15_init_6 : List UInt8 := [181, 0, 68, 42, 6, 188, 10, 181, 0, 71, 42, 8, 188, 10, 181, 0, 74, 42, 8, 188, 10, 181, 0, 77]
abbrev dktX15_init_6 : List UInt8 := dkwX15_init_6 ++ dktX15_init_7
def dkwX15_init_5 : List UInt8 := [188, 4, 181, 0, 59, 42, 6, 188, 10, 181, 0, 62, 42, 6, 188, 10, 181, 0, 65, 42, 6, 188, 10]
abbrev dktX15_init_5 : List UInt8 := dkwX15_init_5 ++ dktX15_init_6
def dkwX15_init_4 : List UInt8 := [188, 10, 181, 0, 49, 42, 16, 6, 188, 10, 181, 0, 52, 42, 16, 6, 188, 4, 181, 0, 55, 42, 6]
abbrev dktX15_init_4 : List UInt8 := dkwX15_init_4 ++ dktX15_init_5
def dkwX15_init_3 : List UInt8 := [188, 10, 181, 0, 40, 42, 16, 6, 188, 10, 181, 0, 43, 42, 16, 6, 188, 10, 181, 0, 46, 42, 16, 6]
abbrev dktX15_init_3 : List UInt8 := dkwX15_init_3 ++ dktX15_init_4
def dkwX15_init_2 : List UInt8 := [188, 10, 181, 0, 31, 42, 6, 188, 10, 181, 0, 34, 42, 16, 6, 188, 10, 181, 0, 37, 42, 16, 6]
abbrev dktX15_init_2 : List UInt8 := dkwX15_init_2 ++ dktX15_init_3
def dkwX15_init_1 : List UInt8 := [16, 6, 188, 10, 181, 0, 22, 42, 16, 6, 188, 10, 181, 0, 25, 42, 7, 188, 10, 181, 0, 28, 42, 6]
abbrev dktX15_init_1 : List UInt8 := dkwX15_init_1 ++ dktX15_init_2
def dkwX15_init_0 : List UInt8 := [42, 183, 0, 3, 42, 2, 181, 0, 9, 42, 6, 188, 10, 181, 0, 15, 42, 6, 188, 10, 181, 0, 19, 42]
abbrev dktX15_init_0 : List UInt8 := dkwX15_init_0 ++ dktX15_init_1
theorem dksX15_init_0 : cX15_init.data.toList.drop 0 = dktX15_init_0 := by decide +kernel
theorem dksX15_init_1 : cX15_init.data.toList.drop 24 = dktX15_init_1 := dk_seg dksX15_init_0 24 rfl rfl
theorem dksX15_init_2 : cX15_init.data.toList.drop 48 = dktX15_init_2 := dk_seg dksX15_init_1 24 rfl rfl
theorem dksX15_init_3 : cX15_init.data.toList.drop 71 = dktX15_init_3 := dk_seg dksX15_init_2 23 rfl rfl
theorem dksX15_init_4 : cX15_init.data.toList.drop 95 = dktX15_init_4 := dk_seg dksX15_init_3 24 rfl rfl
theorem dksX15_init_5 : cX15_init.data.toList.drop 118 = dktX15_init_5 := dk_seg dksX15_init_4 23 rfl rfl
theorem dksX15_init_6 : cX15_init.data.toList.drop 141 = dktX15_init_6 := dk_seg dksX15_init_5 23 rfl rfl
theorem dksX15_init_7 : cX15_init.data.toList.drop 165 = dktX15_init_7 := dk_seg dksX15_init_6 24 rfl rfl
theorem dksX15_init_8 : cX15_init.data.toList.drop 188 = dktX15_init_8 := dk_seg dksX15_init_7 23 rfl rfl
theorem dX15_init_0 : decode cX15_init 0 = .ok (.aload_n 0, 1) := dk_42 (dk_at dksX15_init_0 0 rfl rfl)
theorem dX15_init_1 : decode cX15_init 1 = .ok (.invokespecial 3, 3) := dk_183 0 3 (dk_at dksX15_init_0 1 rfl rfl)
theorem dX15_init_4 : decode cX15_init 4 = .ok (.aload_n 0, 1) := dk_42 (dk_at dksX15_init_0 4 rfl rfl)
theorem dX15_init_5 : decode cX15_init 5 = .ok (.iconst (-1), 1) := dk_2 (dk_at dksX15_init_0 5 rfl rfl)
theorem dX15_init_6 : decode cX15_init 6 = .ok (.putfield 9, 3) := dk_181 0 9 (dk_at dksX15_init_0 6 rfl rfl)
theorem dX15_init_9 : decode cX15_init 9 = .ok (.aload_n 0, 1) := dk_42 (dk_at dksX15_init_0 9 rfl rfl)
theorem dX15_init_10 : decode cX15_init 10 = .ok (.iconst 3, 1) := dk_6 (dk_at dksX15_init_0 10 rfl rfl)
theorem dX15_init_11 : decode cX15_init 11 = .ok (.newarray .int, 2) := dk_188_10 (dk_at dksX15_init_0 11 rfl rfl)
theorem dX15_init_13 : decode cX15_init 13 = .ok (.putfield 15, 3) := dk_181 0 15 (dk_at dksX15_init_0 13 rfl rfl)
theorem dX15_init_16 : decode cX15_init 16 = .ok (.aload_n 0, 1) := dk_42 (dk_at dksX15_init_0 16 rfl rfl)
theorem dX15_init_17 : decode cX15_init 17 = .ok (.iconst 3, 1) := dk_6 (dk_at dksX15_init_0 17 rfl rfl)
theorem dX15_init_18 : decode cX15_init 18 = .ok (.newarray .int, 2) := dk_188_10 (dk_at dksX15_init_0 18 rfl rfl)
theorem dX15_init_20 : decode cX15_init 20 = .ok (.putfield 19, 3) := dk_181 0 19 (dk_at dksX15_init_0 20 rfl rfl)
theorem dX15_init_23 : decode cX15_init 23 = .ok (.aload_n 0, 1) := dk_42 (dk_at dksX15_init_0 23 rfl rfl)
theorem dX15_init_24 : decode cX15_init 24 = .ok (.bipush 6, 2) := dk_16 6 (dk_at dksX15_init_1 0 rfl rfl)
theorem dX15_init_26 : decode cX15_init 26 = .ok (.newarray .int, 2) := dk_188_10 (dk_at dksX15_init_1 2 rfl rfl)
theorem dX15_init_28 : decode cX15_init 28 = .ok (.putfield 22, 3) := dk_181 0 22 (dk_at dksX15_init_1 4 rfl rfl)
theorem dX15_init_31 : decode cX15_init 31 = .ok (.aload_n 0, 1) := dk_42 (dk_at dksX15_init_1 7 rfl rfl)
theorem dX15_init_32 : decode cX15_init 32 = .ok (.bipush 6, 2) := dk_16 6 (dk_at dksX15_init_1 8 rfl rfl)
theorem dX15_init_34 : decode cX15_init 34 = .ok (.newarray .int, 2) := dk_188_10 (dk_at dksX15_init_1 10 rfl rfl)
theorem dX15_init_36 : decode cX15_init 36 = .ok (.putfield 25, 3) := dk_181 0 25 (dk_at dksX15_init_1 12 rfl rfl)
theorem dX15_init_39 : decode cX15_init 39 = .ok (.aload_n 0, 1) := dk_42 (dk_at dksX15_init_1 15 rfl rfl)
theorem dX15_init_40 : decode cX15_init 40 = .ok (.iconst 4, 1) := dk_7 (dk_at dksX15_init_1 16 rfl rfl)
theorem dX15_init_41 : decode cX15_init 41 = .ok (.newarray .int, 2) := dk_188_10 (dk_at dksX15_init_1 17 rfl rfl)
theorem dX15_init_43 : decode cX15_init 43 = .ok (.putfield 28, 3) := dk_181 0 28 (dk_at dksX15_init_1 19 rfl rfl)
theorem dX15_init_46 : decode cX15_init 46 = .ok (.aload_n 0, 1) := dk_42 (dk_at dksX15_init_1 22 rfl rfl)
theorem dX15_init_47 : decode cX15_init 47 = .ok (.iconst 3, 1) := dk_6 (dk_at dksX15_init_1 23 rfl rfl)
theorem dX15_init_48 : decode cX15_init 48 = .ok (.newarray .int, 2) := dk_188_10 (dk_at dksX15_init_2 0 rfl rfl)
theorem dX15_init_50 : decode cX15_init 50 = .ok (.putfield 31, 3) := dk_181 0 31 (dk_at dksX15_init_2 2 rfl rfl)
theorem dX15_init_53 : decode cX15_init 53 = .ok (.aload_n 0, 1) := dk_42 (dk_at dksX15_init_2 5 rfl rfl)
theorem dX15_init_54 : decode cX15_init 54 = .ok (.iconst 3, 1) := dk_6 (dk_at dksX15_init_2 6 rfl rfl)
theorem dX15_init_55 : decode cX15_init 55 = .ok (.newarray .int, 2) := dk_188_10 (dk_at dksX15_init_2 7 rfl rfl)
theorem dX15_init_57 : decode cX15_init 57 = .ok (.putfield 34, 3) := dk_181 0 34 (dk_at dksX15_init_2 9 rfl rfl)
theorem dX15_init_60 : decode cX15_init 60 = .ok (.aload_n 0, 1) := dk_42 (dk_at dksX15_init_2 12 rfl rfl)
theorem dX15_init_61 : decode cX15_init 61 = .ok (.bipush 6, 2) := dk_16 6 (dk_at dksX15_init_2 13 rfl rfl)
theorem dX15_init_63 : decode cX15_init 63 = .ok (.newarray .int, 2) := dk_188_10 (dk_at dksX15_init_2 15 rfl rfl)
theorem dX15_init_65 : decode cX15_init 65 = .ok (.putfield 37, 3) := dk_181 0 37 (dk_at dksX15_init_2 17 rfl rfl)
theorem dX15_init_68 : decode cX15_init 68 = .ok (.aload_n 0, 1) := dk_42 (dk_at dksX15_init_2 20 rfl rfl)
theorem dX15_init_69 : decode cX15_init 69 = .ok (.bipush 6, 2) := dk_16 6 (dk_at dksX15_init_2 21 rfl rfl)
theorem dX15_init_71 : decode cX15_init 71 = .ok (.newarray .int, 2) := dk_188_10 (dk_at dksX15_init_3 0 rfl rfl)
theorem dX15_init_73 : decode cX15_init 73 = .ok (.putfield 40, 3) := dk_181 0 40 (dk_at dksX15_init_3 2 rfl rfl)
theorem dX15_init_76 : decode cX15_init 76 = .ok (.aload_n 0, 1) := dk_42 (dk_at dksX15_init_3 5 rfl rfl)
theorem dX15_init_77 : decode cX15_init 77 = .ok (.bipush 6, 2) := dk_16 6 (dk_at dksX15_init_3 6 rfl rfl)
theorem dX15_init_79 : decode cX15_init 79 = .ok (.newarray .int, 2) := dk_188_10 (dk_at dksX15_init_3 8 rfl rfl)
theorem dX15_init_81 : decode cX15_init 81 = .ok (.putfield 43, 3) := dk_181 0 43 (dk_at dksX15_init_3 10 rfl rfl)
theorem dX15_init_84 : decode cX15_init 84 = .ok (.aload_n 0, 1) := dk_42 (dk_at dksX15_init_3 13 rfl rfl)
theorem dX15_init_85 : decode cX15_init 85 = .ok (.bipush 6, 2) := dk_16 6 (dk_at dksX15_init_3 14 rfl rfl)
theorem dX15_init_87 : decode cX15_init 87 = .ok (.newarray .int, 2) := dk_188_10 (dk_at dksX15_init_3 16 rfl rfl)
theorem dX15_init_89 : decode cX15_init 89 = .ok (.putfield 46, 3) := dk_181 0 46 (dk_at dksX15_init_3 18 rfl rfl)
theorem dX15_init_92 : decode cX15_init 92 = .ok (.aload_n 0, 1) := dk_42 (dk_at dksX15_init_3 21 rfl rfl)
theorem dX15_init_93 : decode cX15_init 93 = .ok (.bipush 6, 2) := dk_16 6 (dk_at dksX15_init_3 22 rfl rfl)
theorem dX15_init_95 : decode cX15_init 95 = .ok (.newarray .int, 2) := dk_188_10 (dk_at dksX15_init_4 0 rfl rfl)
theorem dX15_init_97 : decode cX15_init 97 = .ok (.putfield 49, 3) := dk_181 0 49 (dk_at dksX15_init_4 2 rfl rfl)
theorem dX15_init_100 : decode cX15_init 100 = .ok (.aload_n 0, 1) := dk_42 (dk_at dksX15_init_4 5 rfl rfl)
theorem dX15_init_101 : decode cX15_init 101 = .ok (.bipush 6, 2) := dk_16 6 (dk_at dksX15_init_4 6 rfl rfl)
theorem dX15_init_103 : decode cX15_init 103 = .ok (.newarray .int, 2) := dk_188_10 (dk_at dksX15_init_4 8 rfl rfl)
theorem dX15_init_105 : decode cX15_init 105 = .ok (.putfield 52, 3) := dk_181 0 52 (dk_at dksX15_init_4 10 rfl rfl)
theorem dX15_init_108 : decode cX15_init 108 = .ok (.aload_n 0, 1) := dk_42 (dk_at dksX15_init_4 13 rfl rfl)
theorem dX15_init_109 : decode cX15_init 109 = .ok (.bipush 6, 2) := dk_16 6 (dk_at dksX15_init_4 14 rfl rfl)
theorem dX15_init_111 : decode cX15_init 111 = .ok (.newarray .boolean, 2) := dk_188_4 (dk_at dksX15_init_4 16 rfl rfl)
theorem dX15_init_113 : decode cX15_init 113 = .ok (.putfield 55, 3) := dk_181 0 55 (dk_at dksX15_init_4 18 rfl rfl)
theorem dX15_init_116 : decode cX15_init 116 = .ok (.aload_n 0, 1) := dk_42 (dk_at dksX15_init_4 21 rfl rfl)
theorem dX15_init_117 : decode cX15_init 117 = .ok (.iconst 3, 1) := dk_6 (dk_at dksX15_init_4 22 rfl rfl)
theorem dX15_init_118 : decode cX15_init 118 = .ok (.newarray .boolean, 2) := dk_188_4 (dk_at dksX15_init_5 0 rfl rfl)
theorem dX15_init_120 : decode cX15_init 120 = .ok (.putfield 59, 3) := dk_181 0 59 (dk_at dksX15_init_5 2 rfl rfl)
theorem dX15_init_123 : decode cX15_init 123 = .ok (.aload_n 0, 1) := dk_42 (dk_at dksX15_init_5 5 rfl rfl)
theorem dX15_init_124 : decode cX15_init 124 = .ok (.iconst 3, 1) := dk_6 (dk_at dksX15_init_5 6 rfl rfl)
theorem dX15_init_125 : decode cX15_init 125 = .ok (.newarray .int, 2) := dk_188_10 (dk_at dksX15_init_5 7 rfl rfl)
theorem dX15_init_127 : decode cX15_init 127 = .ok (.putfield 62, 3) := dk_181 0 62 (dk_at dksX15_init_5 9 rfl rfl)
theorem dX15_init_130 : decode cX15_init 130 = .ok (.aload_n 0, 1) := dk_42 (dk_at dksX15_init_5 12 rfl rfl)
theorem dX15_init_131 : decode cX15_init 131 = .ok (.iconst 3, 1) := dk_6 (dk_at dksX15_init_5 13 rfl rfl)
theorem dX15_init_132 : decode cX15_init 132 = .ok (.newarray .int, 2) := dk_188_10 (dk_at dksX15_init_5 14 rfl rfl)
theorem dX15_init_134 : decode cX15_init 134 = .ok (.putfield 65, 3) := dk_181 0 65 (dk_at dksX15_init_5 16 rfl rfl)
theorem dX15_init_137 : decode cX15_init 137 = .ok (.aload_n 0, 1) := dk_42 (dk_at dksX15_init_5 19 rfl rfl)
theorem dX15_init_138 : decode cX15_init 138 = .ok (.iconst 3, 1) := dk_6 (dk_at dksX15_init_5 20 rfl rfl)
theorem dX15_init_139 : decode cX15_init 139 = .ok (.newarray .int, 2) := dk_188_10 (dk_at dksX15_init_5 21 rfl rfl)
theorem dX15_init_141 : decode cX15_init 141 = .ok (.putfield 68, 3) := dk_181 0 68 (dk_at dksX15_init_6 0 rfl rfl)
theorem dX15_init_144 : decode cX15_init 144 = .ok (.aload_n 0, 1) := dk_42 (dk_at dksX15_init_6 3 rfl rfl)
theorem dX15_init_145 : decode cX15_init 145 = .ok (.iconst 3, 1) := dk_6 (dk_at dksX15_init_6 4 rfl rfl)
theorem dX15_init_146 : decode cX15_init 146 = .ok (.newarray .int, 2) := dk_188_10 (dk_at dksX15_init_6 5 rfl rfl)
theorem dX15_init_148 : decode cX15_init 148 = .ok (.putfield 71, 3) := dk_181 0 71 (dk_at dksX15_init_6 7 rfl rfl)
theorem dX15_init_151 : decode cX15_init 151 = .ok (.aload_n 0, 1) := dk_42 (dk_at dksX15_init_6 10 rfl rfl)
theorem dX15_init_152 : decode cX15_init 152 = .ok (.iconst 5, 1) := dk_8 (dk_at dksX15_init_6 11 rfl rfl)
theorem dX15_init_153 : decode cX15_init 153 = .ok (.newarray .int, 2) := dk_188_10 (dk_at dksX15_init_6 12 rfl rfl)
theorem dX15_init_155 : decode cX15_init 155 = .ok (.putfield 74, 3) := dk_181 0 74 (dk_at dksX15_init_6 14 rfl rfl)
theorem dX15_init_158 : decode cX15_init 158 = .ok (.aload_n 0, 1) := dk_42 (dk_at dksX15_init_6 17 rfl rfl)
theorem dX15_init_159 : decode cX15_init 159 = .ok (.iconst 5, 1) := dk_8 (dk_at dksX15_init_6 18 rfl rfl)
theorem dX15_init_160 : decode cX15_init 160 = .ok (.newarray .int, 2) := dk_188_10 (dk_at dksX15_init_6 19 rfl rfl)
theorem dX15_init_162 : decode cX15_init 162 = .ok (.putfield 77, 3) := dk_181 0 77 (dk_at dksX15_init_6 21 rfl rfl)
theorem dX15_init_165 : decode cX15_init 165 = .ok (.aload_n 0, 1) := dk_42 (dk_at dksX15_init_7 0 rfl rfl)
theorem dX15_init_166 : decode cX15_init 166 = .ok (.iconst 5, 1) := dk_8 (dk_at dksX15_init_7 1 rfl rfl)
theorem dX15_init_167 : decode cX15_init 167 = .ok (.newarray .int, 2) := dk_188_10 (dk_at dksX15_init_7 2 rfl rfl)
theorem dX15_init_169 : decode cX15_init 169 = .ok (.putfield 80, 3) := dk_181 0 80 (dk_at dksX15_init_7 4 rfl rfl)
theorem dX15_init_172 : decode cX15_init 172 = .ok (.aload_n 0, 1) := dk_42 (dk_at dksX15_init_7 7 rfl rfl)
theorem dX15_init_173 : decode cX15_init 173 = .ok (.iconst 5, 1) := dk_8 (dk_at dksX15_init_7 8 rfl rfl)
theorem dX15_init_174 : decode cX15_init 174 = .ok (.newarray .int, 2) := dk_188_10 (dk_at dksX15_init_7 9 rfl rfl)
theorem dX15_init_176 : decode cX15_init 176 = .ok (.putfield 83, 3) := dk_181 0 83 (dk_at dksX15_init_7 11 rfl rfl)
theorem dX15_init_179 : decode cX15_init 179 = .ok (.aload_n 0, 1) := dk_42 (dk_at dksX15_init_7 14 rfl rfl)
theorem dX15_init_180 : decode cX15_init 180 = .ok (.bipush 32, 2) := dk_16 32 (dk_at dksX15_init_7 15 rfl rfl)
theorem dX15_init_182 : decode cX15_init 182 = .ok (.newarray .long, 2) := dk_188_11 (dk_at dksX15_init_7 17 rfl rfl)
theorem dX15_init_184 : decode cX15_init 184 = .ok (.putfield 86, 3) := dk_181 0 86 (dk_at dksX15_init_7 19 rfl rfl)
theorem dX15_init_187 : decode cX15_init 187 = .ok (.aload_n 0, 1) := dk_42 (dk_at dksX15_init_7 22 rfl rfl)
theorem dX15_init_188 : decode cX15_init 188 = .ok (.bipush 32, 2) := dk_16 32 (dk_at dksX15_init_8 0 rfl rfl)
theorem dX15_init_190 : decode cX15_init 190 = .ok (.newarray .int, 2) := dk_188_10 (dk_at dksX15_init_8 2 rfl rfl)
theorem dX15_init_192 : decode cX15_init 192 = .ok (.putfield 90, 3) := dk_181 0 90 (dk_at dksX15_init_8 4 rfl rfl)
theorem dX15_init_195 : decode cX15_init 195 = .ok (.aload_n 0, 1) := dk_42 (dk_at dksX15_init_8 7 rfl rfl)
theorem dX15_init_196 : decode cX15_init 196 = .ok (.bipush 32, 2) := dk_16 32 (dk_at dksX15_init_8 8 rfl rfl)
theorem dX15_init_198 : decode cX15_init 198 = .ok (.newarray .int, 2) := dk_188_10 (dk_at dksX15_init_8 10 rfl rfl)
theorem dX15_init_200 : decode cX15_init 200 = .ok (.putfield 93, 3) := dk_181 0 93 (dk_at dksX15_init_8 12 rfl rfl)
theorem dX15_init_203 : decode cX15_init 203 = .ok (.return_, 1) := dk_177 (dk_at dksX15_init_8 15 rfl rfl)
abbrev cX15_find : ByteArray := prog_16_method_2_code
def yX15_find : MethodName := ⟨RX15, "find", "(J)I"⟩
def dkwX15_find_1 : List UInt8 := [132, 3, 1, 167, 255, 232, 2, 172]
abbrev dktX15_find_1 : List UInt8 := dkwX15_find_1 ++ []
def dkwX15_find_0 : List UInt8 := [3, 62, 29, 42, 180, 0, 96, 162, 0, 22, 42, 180, 0, 86, 29, 47, 31, 148, 154, 0, 5, 29, 172]
abbrev dktX15_find_0 : List UInt8 := dkwX15_find_0 ++ dktX15_find_1
theorem dksX15_find_0 : cX15_find.data.toList.drop 0 = dktX15_find_0 := by decide +kernel
theorem dksX15_find_1 : cX15_find.data.toList.drop 23 = dktX15_find_1 := dk_seg dksX15_find_0 23 rfl rfl
theorem dX15_find_0 : decode cX15_find 0 = .ok (.iconst 0, 1) := dk_3 (dk_at dksX15_find_0 0 rfl rfl)
theorem dX15_find_1 : decode cX15_find 1 = .ok (.istore_n 3, 1) := dk_62 (dk_at dksX15_find_0 1 rfl rfl)
theorem dX15_find_2 : decode cX15_find 2 = .ok (.iload_n 3, 1) := dk_29 (dk_at dksX15_find_0 2 rfl rfl)
theorem dX15_find_3 : decode cX15_find 3 = .ok (.aload_n 0, 1) := dk_42 (dk_at dksX15_find_0 3 rfl rfl)
theorem dX15_find_4 : decode cX15_find 4 = .ok (.getfield 96, 3) := dk_180 0 96 (dk_at dksX15_find_0 4 rfl rfl)
theorem dX15_find_7 : decode cX15_find 7 = .ok (.if_icmp .ge 22, 3) := dk_162 0 22 (dk_at dksX15_find_0 7 rfl rfl)
theorem dX15_find_10 : decode cX15_find 10 = .ok (.aload_n 0, 1) := dk_42 (dk_at dksX15_find_0 10 rfl rfl)
theorem dX15_find_11 : decode cX15_find 11 = .ok (.getfield 86, 3) := dk_180 0 86 (dk_at dksX15_find_0 11 rfl rfl)
theorem dX15_find_14 : decode cX15_find 14 = .ok (.iload_n 3, 1) := dk_29 (dk_at dksX15_find_0 14 rfl rfl)
theorem dX15_find_15 : decode cX15_find 15 = .ok (.laload, 1) := dk_47 (dk_at dksX15_find_0 15 rfl rfl)
theorem dX15_find_16 : decode cX15_find 16 = .ok (.lload_n 1, 1) := dk_31 (dk_at dksX15_find_0 16 rfl rfl)
theorem dX15_find_17 : decode cX15_find 17 = .ok (.lcmp, 1) := dk_148 (dk_at dksX15_find_0 17 rfl rfl)
theorem dX15_find_18 : decode cX15_find 18 = .ok (.ifCond .ne 5, 3) := dk_154 0 5 (dk_at dksX15_find_0 18 rfl rfl)
theorem dX15_find_21 : decode cX15_find 21 = .ok (.iload_n 3, 1) := dk_29 (dk_at dksX15_find_0 21 rfl rfl)
theorem dX15_find_22 : decode cX15_find 22 = .ok (.ireturn, 1) := dk_172 (dk_at dksX15_find_0 22 rfl rfl)
theorem dX15_find_23 : decode cX15_find 23 = .ok (.iinc 3 1, 3) := dk_132 3 1 (dk_at dksX15_find_1 0 rfl rfl)
theorem dX15_find_26 : decode cX15_find 26 = .ok (.goto (-24), 3) := dk_167 255 232 (dk_at dksX15_find_1 3 rfl rfl)
theorem dX15_find_29 : decode cX15_find 29 = .ok (.iconst (-1), 1) := dk_2 (dk_at dksX15_find_1 6 rfl rfl)
theorem dX15_find_30 : decode cX15_find 30 = .ok (.ireturn, 1) := dk_172 (dk_at dksX15_find_1 7 rfl rfl)
abbrev cX15_way : ByteArray := prog_16_method_3_code
def yX15_way : MethodName := ⟨RX15, "way", "(II)I"⟩
def dkwX15_way_3 : List UInt8 := [21, 6, 46, 167, 0, 4, 3, 96, 54, 5, 132, 6, 1, 167, 255, 205, 21, 5, 172]
abbrev dktX15_way_3 : List UInt8 := dkwX15_way_3 ++ []
def dkwX15_way_2 : List UInt8 := [21, 6, 46, 29, 161, 0, 25, 42, 180, 0, 31, 21, 6, 46, 21, 4, 162, 0, 13, 42, 180, 0, 34]
abbrev dktX15_way_2 : List UInt8 := dkwX15_way_2 ++ dktX15_way_3
def dkwX15_way_1 : List UInt8 := [21, 4, 29, 100, 54, 5, 3, 54, 6, 21, 6, 42, 180, 0, 99, 162, 0, 48, 21, 5, 42, 180, 0, 31]
abbrev dktX15_way_1 : List UInt8 := dkwX15_way_1 ++ dktX15_way_2
def dkwX15_way_0 : List UInt8 := [27, 28, 162, 0, 7, 27, 167, 0, 4, 28, 62, 27, 28, 162, 0, 7, 28, 167, 0, 4, 27, 54, 4]
abbrev dktX15_way_0 : List UInt8 := dkwX15_way_0 ++ dktX15_way_1
theorem dksX15_way_0 : cX15_way.data.toList.drop 0 = dktX15_way_0 := by decide +kernel
theorem dksX15_way_1 : cX15_way.data.toList.drop 23 = dktX15_way_1 := dk_seg dksX15_way_0 23 rfl rfl
theorem dksX15_way_2 : cX15_way.data.toList.drop 47 = dktX15_way_2 := dk_seg dksX15_way_1 24 rfl rfl
theorem dksX15_way_3 : cX15_way.data.toList.drop 70 = dktX15_way_3 := dk_seg dksX15_way_2 23 rfl rfl
theorem dX15_way_0 : decode cX15_way 0 = .ok (.iload_n 1, 1) := dk_27 (dk_at dksX15_way_0 0 rfl rfl)
theorem dX15_way_1 : decode cX15_way 1 = .ok (.iload_n 2, 1) := dk_28 (dk_at dksX15_way_0 1 rfl rfl)
theorem dX15_way_2 : decode cX15_way 2 = .ok (.if_icmp .ge 7, 3) := dk_162 0 7 (dk_at dksX15_way_0 2 rfl rfl)
theorem dX15_way_5 : decode cX15_way 5 = .ok (.iload_n 1, 1) := dk_27 (dk_at dksX15_way_0 5 rfl rfl)
theorem dX15_way_6 : decode cX15_way 6 = .ok (.goto 4, 3) := dk_167 0 4 (dk_at dksX15_way_0 6 rfl rfl)
theorem dX15_way_9 : decode cX15_way 9 = .ok (.iload_n 2, 1) := dk_28 (dk_at dksX15_way_0 9 rfl rfl)
theorem dX15_way_10 : decode cX15_way 10 = .ok (.istore_n 3, 1) := dk_62 (dk_at dksX15_way_0 10 rfl rfl)
theorem dX15_way_11 : decode cX15_way 11 = .ok (.iload_n 1, 1) := dk_27 (dk_at dksX15_way_0 11 rfl rfl)
theorem dX15_way_12 : decode cX15_way 12 = .ok (.iload_n 2, 1) := dk_28 (dk_at dksX15_way_0 12 rfl rfl)
theorem dX15_way_13 : decode cX15_way 13 = .ok (.if_icmp .ge 7, 3) := dk_162 0 7 (dk_at dksX15_way_0 13 rfl rfl)
theorem dX15_way_16 : decode cX15_way 16 = .ok (.iload_n 2, 1) := dk_28 (dk_at dksX15_way_0 16 rfl rfl)
theorem dX15_way_17 : decode cX15_way 17 = .ok (.goto 4, 3) := dk_167 0 4 (dk_at dksX15_way_0 17 rfl rfl)
theorem dX15_way_20 : decode cX15_way 20 = .ok (.iload_n 1, 1) := dk_27 (dk_at dksX15_way_0 20 rfl rfl)
theorem dX15_way_21 : decode cX15_way 21 = .ok (.istore 4, 2) := dk_54 4 (dk_at dksX15_way_0 21 rfl rfl)
theorem dX15_way_23 : decode cX15_way 23 = .ok (.iload 4, 2) := dk_21 4 (dk_at dksX15_way_1 0 rfl rfl)
theorem dX15_way_25 : decode cX15_way 25 = .ok (.iload_n 3, 1) := dk_29 (dk_at dksX15_way_1 2 rfl rfl)
theorem dX15_way_26 : decode cX15_way 26 = .ok (.isub, 1) := dk_100 (dk_at dksX15_way_1 3 rfl rfl)
theorem dX15_way_27 : decode cX15_way 27 = .ok (.istore 5, 2) := dk_54 5 (dk_at dksX15_way_1 4 rfl rfl)
theorem dX15_way_29 : decode cX15_way 29 = .ok (.iconst 0, 1) := dk_3 (dk_at dksX15_way_1 6 rfl rfl)
theorem dX15_way_30 : decode cX15_way 30 = .ok (.istore 6, 2) := dk_54 6 (dk_at dksX15_way_1 7 rfl rfl)
theorem dX15_way_32 : decode cX15_way 32 = .ok (.iload 6, 2) := dk_21 6 (dk_at dksX15_way_1 9 rfl rfl)
theorem dX15_way_34 : decode cX15_way 34 = .ok (.aload_n 0, 1) := dk_42 (dk_at dksX15_way_1 11 rfl rfl)
theorem dX15_way_35 : decode cX15_way 35 = .ok (.getfield 99, 3) := dk_180 0 99 (dk_at dksX15_way_1 12 rfl rfl)
theorem dX15_way_38 : decode cX15_way 38 = .ok (.if_icmp .ge 48, 3) := dk_162 0 48 (dk_at dksX15_way_1 15 rfl rfl)
theorem dX15_way_41 : decode cX15_way 41 = .ok (.iload 5, 2) := dk_21 5 (dk_at dksX15_way_1 18 rfl rfl)
theorem dX15_way_43 : decode cX15_way 43 = .ok (.aload_n 0, 1) := dk_42 (dk_at dksX15_way_1 20 rfl rfl)
theorem dX15_way_44 : decode cX15_way 44 = .ok (.getfield 31, 3) := dk_180 0 31 (dk_at dksX15_way_1 21 rfl rfl)
theorem dX15_way_47 : decode cX15_way 47 = .ok (.iload 6, 2) := dk_21 6 (dk_at dksX15_way_2 0 rfl rfl)
theorem dX15_way_49 : decode cX15_way 49 = .ok (.iaload, 1) := dk_46 (dk_at dksX15_way_2 2 rfl rfl)
theorem dX15_way_50 : decode cX15_way 50 = .ok (.iload_n 3, 1) := dk_29 (dk_at dksX15_way_2 3 rfl rfl)
theorem dX15_way_51 : decode cX15_way 51 = .ok (.if_icmp .lt 25, 3) := dk_161 0 25 (dk_at dksX15_way_2 4 rfl rfl)
theorem dX15_way_54 : decode cX15_way 54 = .ok (.aload_n 0, 1) := dk_42 (dk_at dksX15_way_2 7 rfl rfl)
theorem dX15_way_55 : decode cX15_way 55 = .ok (.getfield 31, 3) := dk_180 0 31 (dk_at dksX15_way_2 8 rfl rfl)
theorem dX15_way_58 : decode cX15_way 58 = .ok (.iload 6, 2) := dk_21 6 (dk_at dksX15_way_2 11 rfl rfl)
theorem dX15_way_60 : decode cX15_way 60 = .ok (.iaload, 1) := dk_46 (dk_at dksX15_way_2 13 rfl rfl)
theorem dX15_way_61 : decode cX15_way 61 = .ok (.iload 4, 2) := dk_21 4 (dk_at dksX15_way_2 14 rfl rfl)
theorem dX15_way_63 : decode cX15_way 63 = .ok (.if_icmp .ge 13, 3) := dk_162 0 13 (dk_at dksX15_way_2 16 rfl rfl)
theorem dX15_way_66 : decode cX15_way 66 = .ok (.aload_n 0, 1) := dk_42 (dk_at dksX15_way_2 19 rfl rfl)
theorem dX15_way_67 : decode cX15_way 67 = .ok (.getfield 34, 3) := dk_180 0 34 (dk_at dksX15_way_2 20 rfl rfl)
theorem dX15_way_70 : decode cX15_way 70 = .ok (.iload 6, 2) := dk_21 6 (dk_at dksX15_way_3 0 rfl rfl)
theorem dX15_way_72 : decode cX15_way 72 = .ok (.iaload, 1) := dk_46 (dk_at dksX15_way_3 2 rfl rfl)
theorem dX15_way_73 : decode cX15_way 73 = .ok (.goto 4, 3) := dk_167 0 4 (dk_at dksX15_way_3 3 rfl rfl)
theorem dX15_way_76 : decode cX15_way 76 = .ok (.iconst 0, 1) := dk_3 (dk_at dksX15_way_3 6 rfl rfl)
theorem dX15_way_77 : decode cX15_way 77 = .ok (.iadd, 1) := dk_96 (dk_at dksX15_way_3 7 rfl rfl)
theorem dX15_way_78 : decode cX15_way 78 = .ok (.istore 5, 2) := dk_54 5 (dk_at dksX15_way_3 8 rfl rfl)
theorem dX15_way_80 : decode cX15_way 80 = .ok (.iinc 6 1, 3) := dk_132 6 1 (dk_at dksX15_way_3 10 rfl rfl)
theorem dX15_way_83 : decode cX15_way 83 = .ok (.goto (-51), 3) := dk_167 255 205 (dk_at dksX15_way_3 13 rfl rfl)
theorem dX15_way_86 : decode cX15_way 86 = .ok (.iload 5, 2) := dk_21 5 (dk_at dksX15_way_3 16 rfl rfl)
theorem dX15_way_88 : decode cX15_way 88 = .ok (.ireturn, 1) := dk_172 (dk_at dksX15_way_3 18 rfl rfl)
theorem q114 : (Jvm.Cond.initialized "NoonMealsModel$Day") ∈ lw_all := lw_g (lw_at lw_m1 23 rfl) rfl
theorem q1454 : (Jvm.Cond.instantiable "NoonMealsModel$Day" (37 : Nat)) ∈ lw_all := lw_g (lw_at lw_m6 163 rfl) rfl
theorem q1456 : (Jvm.Cond.instanceMethod ({ cls := "NoonMealsModel$Day", name := "<init>", desc := "()V" } : Jvm.MethodName)) ∈ lw_all := lw_g (lw_at lw_m6 165 rfl) rfl
theorem q1457 : (Jvm.Cond.code ({ cls := "NoonMealsModel$Day", name := "<init>", desc := "()V" } : Jvm.MethodName) prog_16_method_1_code (1 : Nat) (Option.none : Option Jvm.ClassFile.FieldType)) ∈ lw_all := lw_g (lw_at lw_m6 166 rfl) rfl
theorem q1458 : (Jvm.Cond.methodLink "NoonMealsModel$Day" (3 : Nat) ({ cls := "java/lang/Object", name := "<init>", desc := "()V" } : Jvm.MethodName)) ∈ lw_all := lw_g (lw_at lw_m6 167 rfl) rfl
theorem q1459 : (Jvm.Cond.fieldLink "NoonMealsModel$Day" (9 : Nat) "NoonMealsModel$Day" "hot" "I") ∈ lw_all := lw_g (lw_at lw_m6 168 rfl) rfl
theorem q1467 : (Jvm.Cond.fieldLink "NoonMealsModel$Day" (99 : Nat) "NoonMealsModel$Day" "floods" "I") ∈ lw_all := lw_g (lw_at lw_m6 176 rfl) rfl
theorem q1471 : (Jvm.Cond.fieldLink "NoonMealsModel$Day" (96 : Nat) "NoonMealsModel$Day" "names" "I") ∈ lw_all := lw_g (lw_at lw_m6 180 rfl) rfl
theorem q1473 : (Jvm.Cond.fieldLink "NoonMealsModel$Day" (15 : Nat) "NoonMealsModel$Day" "kitchenAt" "[I") ∈ lw_all := lw_g (lw_at lw_m6 182 rfl) rfl
theorem q1475 : (Jvm.Cond.fieldLink "NoonMealsModel$Day" (19 : Nat) "NoonMealsModel$Day" "kitchenHot" "[I") ∈ lw_all := lw_g (lw_at lw_m6 184 rfl) rfl
theorem q1477 : (Jvm.Cond.fieldLink "NoonMealsModel$Day" (22 : Nat) "NoonMealsModel$Day" "letters" "[I") ∈ lw_all := lw_g (lw_at lw_m6 186 rfl) rfl
theorem q1479 : (Jvm.Cond.fieldLink "NoonMealsModel$Day" (25 : Nat) "NoonMealsModel$Day" "cost" "[I") ∈ lw_all := lw_g (lw_at lw_m6 188 rfl) rfl
theorem q1481 : (Jvm.Cond.fieldLink "NoonMealsModel$Day" (28 : Nat) "NoonMealsModel$Day" "bars" "[I") ∈ lw_all := lw_g (lw_at lw_m6 190 rfl) rfl
theorem q1483 : (Jvm.Cond.fieldLink "NoonMealsModel$Day" (31 : Nat) "NoonMealsModel$Day" "floodAt" "[I") ∈ lw_all := lw_g (lw_at lw_m6 192 rfl) rfl
theorem q1485 : (Jvm.Cond.fieldLink "NoonMealsModel$Day" (34 : Nat) "NoonMealsModel$Day" "floodAdds" "[I") ∈ lw_all := lw_g (lw_at lw_m6 194 rfl) rfl
theorem q1487 : (Jvm.Cond.fieldLink "NoonMealsModel$Day" (37 : Nat) "NoonMealsModel$Day" "houseAt" "[I") ∈ lw_all := lw_g (lw_at lw_m6 196 rfl) rfl
theorem q1489 : (Jvm.Cond.fieldLink "NoonMealsModel$Day" (40 : Nat) "NoonMealsModel$Day" "eats" "[I") ∈ lw_all := lw_g (lw_at lw_m6 198 rfl) rfl
theorem q1491 : (Jvm.Cond.fieldLink "NoonMealsModel$Day" (43 : Nat) "NoonMealsModel$Day" "doors" "[I") ∈ lw_all := lw_g (lw_at lw_m6 200 rfl) rfl
theorem q1493 : (Jvm.Cond.fieldLink "NoonMealsModel$Day" (46 : Nat) "NoonMealsModel$Day" "tea" "[I") ∈ lw_all := lw_g (lw_at lw_m6 202 rfl) rfl
theorem q1495 : (Jvm.Cond.fieldLink "NoonMealsModel$Day" (49 : Nat) "NoonMealsModel$Day" "chance" "[I") ∈ lw_all := lw_g (lw_at lw_m6 204 rfl) rfl
theorem q1497 : (Jvm.Cond.fieldLink "NoonMealsModel$Day" (52 : Nat) "NoonMealsModel$Day" "need" "[I") ∈ lw_all := lw_g (lw_at lw_m6 206 rfl) rfl
theorem q1499 : (Jvm.Cond.fieldLink "NoonMealsModel$Day" (55 : Nat) "NoonMealsModel$Day" "isDog" "[Z") ∈ lw_all := lw_g (lw_at lw_m6 208 rfl) rfl
theorem q1501 : (Jvm.Cond.fieldLink "NoonMealsModel$Day" (59 : Nat) "NoonMealsModel$Day" "isAfraid" "[Z") ∈ lw_all := lw_g (lw_at lw_m6 210 rfl) rfl
theorem q1503 : (Jvm.Cond.fieldLink "NoonMealsModel$Day" (62 : Nat) "NoonMealsModel$Day" "from" "[I") ∈ lw_all := lw_g (lw_at lw_m6 212 rfl) rfl
theorem q1505 : (Jvm.Cond.fieldLink "NoonMealsModel$Day" (65 : Nat) "NoonMealsModel$Day" "starts" "[I") ∈ lw_all := lw_g (lw_at lw_m6 214 rfl) rfl
theorem q1507 : (Jvm.Cond.fieldLink "NoonMealsModel$Day" (68 : Nat) "NoonMealsModel$Day" "holds" "[I") ∈ lw_all := lw_g (lw_at lw_m6 216 rfl) rfl
theorem q1509 : (Jvm.Cond.fieldLink "NoonMealsModel$Day" (71 : Nat) "NoonMealsModel$Day" "cools" "[I") ∈ lw_all := lw_g (lw_at lw_m6 218 rfl) rfl
theorem q1511 : (Jvm.Cond.fieldLink "NoonMealsModel$Day" (74 : Nat) "NoonMealsModel$Day" "takes" "[I") ∈ lw_all := lw_g (lw_at lw_m6 220 rfl) rfl
theorem q1513 : (Jvm.Cond.fieldLink "NoonMealsModel$Day" (77 : Nat) "NoonMealsModel$Day" "answers" "[I") ∈ lw_all := lw_g (lw_at lw_m6 222 rfl) rfl
theorem q1515 : (Jvm.Cond.fieldLink "NoonMealsModel$Day" (80 : Nat) "NoonMealsModel$Day" "wishes" "[I") ∈ lw_all := lw_g (lw_at lw_m6 224 rfl) rfl
theorem q1517 : (Jvm.Cond.fieldLink "NoonMealsModel$Day" (83 : Nat) "NoonMealsModel$Day" "most" "[I") ∈ lw_all := lw_g (lw_at lw_m6 226 rfl) rfl
theorem q1519 : (Jvm.Cond.fieldLink "NoonMealsModel$Day" (86 : Nat) "NoonMealsModel$Day" "name" "[J") ∈ lw_all := lw_g (lw_at lw_m6 228 rfl) rfl
theorem q1521 : (Jvm.Cond.fieldLink "NoonMealsModel$Day" (90 : Nat) "NoonMealsModel$Day" "nameSort" "[I") ∈ lw_all := lw_g (lw_at lw_m6 230 rfl) rfl
theorem q1523 : (Jvm.Cond.fieldLink "NoonMealsModel$Day" (93 : Nat) "NoonMealsModel$Day" "nameNumber" "[I") ∈ lw_all := lw_g (lw_at lw_m6 232 rfl) rfl
theorem q1525 : (Jvm.Cond.lays "NoonMealsModel$Day" "NoonMealsModel$Day" "hot" "I") ∈ lw_all := lw_g (lw_at lw_m6 234 rfl) rfl
theorem q1526 : (Jvm.Cond.soleField "NoonMealsModel$Day" "hot") ∈ lw_all := lw_g (lw_at lw_m6 235 rfl) rfl
theorem q1527 : (Jvm.Cond.lays "NoonMealsModel$Day" "NoonMealsModel$Day" "by" "I") ∈ lw_all := lw_g (lw_at lw_m6 236 rfl) rfl
theorem q1528 : (Jvm.Cond.soleField "NoonMealsModel$Day" "by") ∈ lw_all := lw_g (lw_at lw_m6 237 rfl) rfl
theorem q1529 : (Jvm.Cond.lays "NoonMealsModel$Day" "NoonMealsModel$Day" "kitchens" "I") ∈ lw_all := lw_g (lw_at lw_m6 238 rfl) rfl
theorem q1530 : (Jvm.Cond.soleField "NoonMealsModel$Day" "kitchens") ∈ lw_all := lw_g (lw_at lw_m6 239 rfl) rfl
theorem q1531 : (Jvm.Cond.lays "NoonMealsModel$Day" "NoonMealsModel$Day" "dishes" "I") ∈ lw_all := lw_g (lw_at lw_m7 0 rfl) rfl
theorem q1532 : (Jvm.Cond.soleField "NoonMealsModel$Day" "dishes") ∈ lw_all := lw_g (lw_at lw_m7 1 rfl) rfl
theorem q1533 : (Jvm.Cond.lays "NoonMealsModel$Day" "NoonMealsModel$Day" "diets" "I") ∈ lw_all := lw_g (lw_at lw_m7 2 rfl) rfl
theorem q1534 : (Jvm.Cond.soleField "NoonMealsModel$Day" "diets") ∈ lw_all := lw_g (lw_at lw_m7 3 rfl) rfl
theorem q1535 : (Jvm.Cond.lays "NoonMealsModel$Day" "NoonMealsModel$Day" "houses" "I") ∈ lw_all := lw_g (lw_at lw_m7 4 rfl) rfl
theorem q1536 : (Jvm.Cond.soleField "NoonMealsModel$Day" "houses") ∈ lw_all := lw_g (lw_at lw_m7 5 rfl) rfl
theorem q1537 : (Jvm.Cond.lays "NoonMealsModel$Day" "NoonMealsModel$Day" "cars" "I") ∈ lw_all := lw_g (lw_at lw_m7 6 rfl) rfl
theorem q1538 : (Jvm.Cond.soleField "NoonMealsModel$Day" "cars") ∈ lw_all := lw_g (lw_at lw_m7 7 rfl) rfl
theorem q1539 : (Jvm.Cond.lays "NoonMealsModel$Day" "NoonMealsModel$Day" "floods" "I") ∈ lw_all := lw_g (lw_at lw_m7 8 rfl) rfl
theorem q1540 : (Jvm.Cond.soleField "NoonMealsModel$Day" "floods") ∈ lw_all := lw_g (lw_at lw_m7 9 rfl) rfl
theorem q1541 : (Jvm.Cond.lays "NoonMealsModel$Day" "NoonMealsModel$Day" "calls" "I") ∈ lw_all := lw_g (lw_at lw_m7 10 rfl) rfl
theorem q1542 : (Jvm.Cond.soleField "NoonMealsModel$Day" "calls") ∈ lw_all := lw_g (lw_at lw_m7 11 rfl) rfl
theorem q1543 : (Jvm.Cond.lays "NoonMealsModel$Day" "NoonMealsModel$Day" "helpers" "I") ∈ lw_all := lw_g (lw_at lw_m7 12 rfl) rfl
theorem q1544 : (Jvm.Cond.soleField "NoonMealsModel$Day" "helpers") ∈ lw_all := lw_g (lw_at lw_m7 13 rfl) rfl
theorem q1545 : (Jvm.Cond.lays "NoonMealsModel$Day" "NoonMealsModel$Day" "names" "I") ∈ lw_all := lw_g (lw_at lw_m7 14 rfl) rfl
theorem q1546 : (Jvm.Cond.soleField "NoonMealsModel$Day" "names") ∈ lw_all := lw_g (lw_at lw_m7 15 rfl) rfl
theorem q1547 : (Jvm.Cond.laysFinal "NoonMealsModel$Day" "NoonMealsModel$Day" "kitchenAt" "[I") ∈ lw_all := lw_g (lw_at lw_m7 16 rfl) rfl
theorem q1548 : (Jvm.Cond.soleField "NoonMealsModel$Day" "kitchenAt") ∈ lw_all := lw_g (lw_at lw_m7 17 rfl) rfl
theorem q1549 : (Jvm.Cond.laysFinal "NoonMealsModel$Day" "NoonMealsModel$Day" "kitchenHot" "[I") ∈ lw_all := lw_g (lw_at lw_m7 18 rfl) rfl
theorem q1550 : (Jvm.Cond.soleField "NoonMealsModel$Day" "kitchenHot") ∈ lw_all := lw_g (lw_at lw_m7 19 rfl) rfl
theorem q1551 : (Jvm.Cond.laysFinal "NoonMealsModel$Day" "NoonMealsModel$Day" "letters" "[I") ∈ lw_all := lw_g (lw_at lw_m7 20 rfl) rfl
theorem q1552 : (Jvm.Cond.soleField "NoonMealsModel$Day" "letters") ∈ lw_all := lw_g (lw_at lw_m7 21 rfl) rfl
theorem q1553 : (Jvm.Cond.laysFinal "NoonMealsModel$Day" "NoonMealsModel$Day" "cost" "[I") ∈ lw_all := lw_g (lw_at lw_m7 22 rfl) rfl
theorem q1554 : (Jvm.Cond.soleField "NoonMealsModel$Day" "cost") ∈ lw_all := lw_g (lw_at lw_m7 23 rfl) rfl
theorem q1555 : (Jvm.Cond.laysFinal "NoonMealsModel$Day" "NoonMealsModel$Day" "bars" "[I") ∈ lw_all := lw_g (lw_at lw_m7 24 rfl) rfl
theorem q1556 : (Jvm.Cond.soleField "NoonMealsModel$Day" "bars") ∈ lw_all := lw_g (lw_at lw_m7 25 rfl) rfl
theorem q1557 : (Jvm.Cond.laysFinal "NoonMealsModel$Day" "NoonMealsModel$Day" "floodAt" "[I") ∈ lw_all := lw_g (lw_at lw_m7 26 rfl) rfl
theorem q1558 : (Jvm.Cond.soleField "NoonMealsModel$Day" "floodAt") ∈ lw_all := lw_g (lw_at lw_m7 27 rfl) rfl
theorem q1559 : (Jvm.Cond.laysFinal "NoonMealsModel$Day" "NoonMealsModel$Day" "floodAdds" "[I") ∈ lw_all := lw_g (lw_at lw_m7 28 rfl) rfl
theorem q1560 : (Jvm.Cond.soleField "NoonMealsModel$Day" "floodAdds") ∈ lw_all := lw_g (lw_at lw_m7 29 rfl) rfl
theorem q1561 : (Jvm.Cond.laysFinal "NoonMealsModel$Day" "NoonMealsModel$Day" "houseAt" "[I") ∈ lw_all := lw_g (lw_at lw_m7 30 rfl) rfl
theorem q1562 : (Jvm.Cond.soleField "NoonMealsModel$Day" "houseAt") ∈ lw_all := lw_g (lw_at lw_m7 31 rfl) rfl
theorem q1563 : (Jvm.Cond.laysFinal "NoonMealsModel$Day" "NoonMealsModel$Day" "eats" "[I") ∈ lw_all := lw_g (lw_at lw_m7 32 rfl) rfl
theorem q1564 : (Jvm.Cond.soleField "NoonMealsModel$Day" "eats") ∈ lw_all := lw_g (lw_at lw_m7 33 rfl) rfl
theorem q1565 : (Jvm.Cond.laysFinal "NoonMealsModel$Day" "NoonMealsModel$Day" "doors" "[I") ∈ lw_all := lw_g (lw_at lw_m7 34 rfl) rfl
theorem q1566 : (Jvm.Cond.soleField "NoonMealsModel$Day" "doors") ∈ lw_all := lw_g (lw_at lw_m7 35 rfl) rfl
theorem q1567 : (Jvm.Cond.laysFinal "NoonMealsModel$Day" "NoonMealsModel$Day" "tea" "[I") ∈ lw_all := lw_g (lw_at lw_m7 36 rfl) rfl
theorem q1568 : (Jvm.Cond.soleField "NoonMealsModel$Day" "tea") ∈ lw_all := lw_g (lw_at lw_m7 37 rfl) rfl
theorem q1569 : (Jvm.Cond.laysFinal "NoonMealsModel$Day" "NoonMealsModel$Day" "chance" "[I") ∈ lw_all := lw_g (lw_at lw_m7 38 rfl) rfl
theorem q1570 : (Jvm.Cond.soleField "NoonMealsModel$Day" "chance") ∈ lw_all := lw_g (lw_at lw_m7 39 rfl) rfl
theorem q1571 : (Jvm.Cond.laysFinal "NoonMealsModel$Day" "NoonMealsModel$Day" "need" "[I") ∈ lw_all := lw_g (lw_at lw_m7 40 rfl) rfl
theorem q1572 : (Jvm.Cond.soleField "NoonMealsModel$Day" "need") ∈ lw_all := lw_g (lw_at lw_m7 41 rfl) rfl
theorem q1573 : (Jvm.Cond.laysFinal "NoonMealsModel$Day" "NoonMealsModel$Day" "isDog" "[Z") ∈ lw_all := lw_g (lw_at lw_m7 42 rfl) rfl
theorem q1574 : (Jvm.Cond.soleField "NoonMealsModel$Day" "isDog") ∈ lw_all := lw_g (lw_at lw_m7 43 rfl) rfl
theorem q1575 : (Jvm.Cond.laysFinal "NoonMealsModel$Day" "NoonMealsModel$Day" "isAfraid" "[Z") ∈ lw_all := lw_g (lw_at lw_m7 44 rfl) rfl
theorem q1576 : (Jvm.Cond.soleField "NoonMealsModel$Day" "isAfraid") ∈ lw_all := lw_g (lw_at lw_m7 45 rfl) rfl
theorem q1577 : (Jvm.Cond.laysFinal "NoonMealsModel$Day" "NoonMealsModel$Day" "from" "[I") ∈ lw_all := lw_g (lw_at lw_m7 46 rfl) rfl
theorem q1578 : (Jvm.Cond.soleField "NoonMealsModel$Day" "from") ∈ lw_all := lw_g (lw_at lw_m7 47 rfl) rfl
theorem q1579 : (Jvm.Cond.laysFinal "NoonMealsModel$Day" "NoonMealsModel$Day" "starts" "[I") ∈ lw_all := lw_g (lw_at lw_m7 48 rfl) rfl
theorem q1580 : (Jvm.Cond.soleField "NoonMealsModel$Day" "starts") ∈ lw_all := lw_g (lw_at lw_m7 49 rfl) rfl
theorem q1581 : (Jvm.Cond.laysFinal "NoonMealsModel$Day" "NoonMealsModel$Day" "holds" "[I") ∈ lw_all := lw_g (lw_at lw_m7 50 rfl) rfl
theorem q1582 : (Jvm.Cond.soleField "NoonMealsModel$Day" "holds") ∈ lw_all := lw_g (lw_at lw_m7 51 rfl) rfl
theorem q1583 : (Jvm.Cond.laysFinal "NoonMealsModel$Day" "NoonMealsModel$Day" "cools" "[I") ∈ lw_all := lw_g (lw_at lw_m7 52 rfl) rfl
theorem q1584 : (Jvm.Cond.soleField "NoonMealsModel$Day" "cools") ∈ lw_all := lw_g (lw_at lw_m7 53 rfl) rfl
theorem q1585 : (Jvm.Cond.laysFinal "NoonMealsModel$Day" "NoonMealsModel$Day" "takes" "[I") ∈ lw_all := lw_g (lw_at lw_m7 54 rfl) rfl
theorem q1586 : (Jvm.Cond.soleField "NoonMealsModel$Day" "takes") ∈ lw_all := lw_g (lw_at lw_m7 55 rfl) rfl
theorem q1587 : (Jvm.Cond.laysFinal "NoonMealsModel$Day" "NoonMealsModel$Day" "answers" "[I") ∈ lw_all := lw_g (lw_at lw_m7 56 rfl) rfl
theorem q1588 : (Jvm.Cond.soleField "NoonMealsModel$Day" "answers") ∈ lw_all := lw_g (lw_at lw_m7 57 rfl) rfl
theorem q1589 : (Jvm.Cond.laysFinal "NoonMealsModel$Day" "NoonMealsModel$Day" "wishes" "[I") ∈ lw_all := lw_g (lw_at lw_m7 58 rfl) rfl
theorem q1590 : (Jvm.Cond.soleField "NoonMealsModel$Day" "wishes") ∈ lw_all := lw_g (lw_at lw_m7 59 rfl) rfl
theorem q1591 : (Jvm.Cond.laysFinal "NoonMealsModel$Day" "NoonMealsModel$Day" "most" "[I") ∈ lw_all := lw_g (lw_at lw_m7 60 rfl) rfl
theorem q1592 : (Jvm.Cond.soleField "NoonMealsModel$Day" "most") ∈ lw_all := lw_g (lw_at lw_m7 61 rfl) rfl
theorem q1593 : (Jvm.Cond.laysFinal "NoonMealsModel$Day" "NoonMealsModel$Day" "name" "[J") ∈ lw_all := lw_g (lw_at lw_m7 62 rfl) rfl
theorem q1594 : (Jvm.Cond.soleField "NoonMealsModel$Day" "name") ∈ lw_all := lw_g (lw_at lw_m7 63 rfl) rfl
theorem q1595 : (Jvm.Cond.laysFinal "NoonMealsModel$Day" "NoonMealsModel$Day" "nameSort" "[I") ∈ lw_all := lw_g (lw_at lw_m7 64 rfl) rfl
theorem q1596 : (Jvm.Cond.soleField "NoonMealsModel$Day" "nameSort") ∈ lw_all := lw_g (lw_at lw_m7 65 rfl) rfl
theorem q1597 : (Jvm.Cond.laysFinal "NoonMealsModel$Day" "NoonMealsModel$Day" "nameNumber" "[I") ∈ lw_all := lw_g (lw_at lw_m7 66 rfl) rfl
theorem q1598 : (Jvm.Cond.soleField "NoonMealsModel$Day" "nameNumber") ∈ lw_all := lw_g (lw_at lw_m7 67 rfl) rfl
theorem q1599 : (Jvm.Cond.superclass "NoonMealsModel$Day" "java/lang/Object") ∈ lw_all := lw_g (lw_at lw_m7 68 rfl) rfl
theorem q1683 : (Jvm.Cond.instanceMethod ({ cls := "NoonMealsModel$Day", name := "find", desc := "(J)I" } : Jvm.MethodName)) ∈ lw_all := lw_g (lw_at lw_m7 152 rfl) rfl
theorem q1684 : (Jvm.Cond.selects "NoonMealsModel$Day" ({ cls := "NoonMealsModel$Day", name := "find", desc := "(J)I" } : Jvm.MethodName) ({ cls := "NoonMealsModel$Day", name := "find", desc := "(J)I" } : Jvm.MethodName)) ∈ lw_all := lw_g (lw_at lw_m7 153 rfl) rfl
theorem q1685 : (Jvm.Cond.code ({ cls := "NoonMealsModel$Day", name := "find", desc := "(J)I" } : Jvm.MethodName) prog_16_method_2_code (4 : Nat) (Option.some Jvm.ClassFile.FieldType.int)) ∈ lw_all := lw_g (lw_at lw_m7 154 rfl) rfl
theorem q1796 : (Jvm.Cond.instanceMethod ({ cls := "NoonMealsModel$Day", name := "way", desc := "(II)I" } : Jvm.MethodName)) ∈ lw_all := lw_g (lw_at lw_m8 25 rfl) rfl
theorem q1797 : (Jvm.Cond.selects "NoonMealsModel$Day" ({ cls := "NoonMealsModel$Day", name := "way", desc := "(II)I" } : Jvm.MethodName) ({ cls := "NoonMealsModel$Day", name := "way", desc := "(II)I" } : Jvm.MethodName)) ∈ lw_all := lw_g (lw_at lw_m8 26 rfl) rfl
theorem q1798 : (Jvm.Cond.code ({ cls := "NoonMealsModel$Day", name := "way", desc := "(II)I" } : Jvm.MethodName) prog_16_method_3_code (7 : Nat) (Option.some Jvm.ClassFile.FieldType.int)) ∈ lw_all := lw_g (lw_at lw_m8 27 rfl) rfl
theorem q2007 : (Jvm.Cond.castable "NoonMealsModel$Day" "java/lang/Object") ∈ lw_tbl := lw_at lw_m8 236 rfl
theorem in_X15 : ∀ w ∈ wsX150, w ∈ lw_all := lw_in wsX150 [1525, 1527, 1529, 1531, 1533, 1535, 1537, 1539, 1541, 1543, 1545, 1547, 1549, 1551, 1553, 1555, 1557, 1559, 1561, 1563, 1565, 1567, 1569, 1571, 1573, 1575, 1577, 1579, 1581, 1583, 1585, 1587, 1589, 1591, 1593, 1595, 1597] (by decide +kernel) (by decide +kernel)
