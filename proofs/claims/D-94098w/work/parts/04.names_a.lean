/-! NoonMealsLaw -/
set_option maxRecDepth 100000
def RX0 : String := "NoonMealsLaw"
abbrev cX0_led : ByteArray := method_3_code
def yX0_led : MethodName := ⟨RX0, "led", "(LNoonMeals;II[J)I"⟩
def dkwX0_led_0 : List UInt8 := [45, 3, 42, 27, 28, 182, 0, 7, 133, 80, 167, 0, 7, 58, 4, 4, 172, 3, 172]
abbrev dktX0_led_0 : List UInt8 := dkwX0_led_0 ++ []
theorem dksX0_led_0 : cX0_led.data.toList.drop 0 = dktX0_led_0 := by decide +kernel
theorem dX0_led_0 : decode cX0_led 0 = .ok (.aload_n 3, 1) := dk_45 (dk_at dksX0_led_0 0 rfl rfl)
theorem dX0_led_1 : decode cX0_led 1 = .ok (.iconst 0, 1) := dk_3 (dk_at dksX0_led_0 1 rfl rfl)
theorem dX0_led_2 : decode cX0_led 2 = .ok (.aload_n 0, 1) := dk_42 (dk_at dksX0_led_0 2 rfl rfl)
theorem dX0_led_3 : decode cX0_led 3 = .ok (.iload_n 1, 1) := dk_27 (dk_at dksX0_led_0 3 rfl rfl)
theorem dX0_led_4 : decode cX0_led 4 = .ok (.iload_n 2, 1) := dk_28 (dk_at dksX0_led_0 4 rfl rfl)
theorem dX0_led_5 : decode cX0_led 5 = .ok (.invokevirtual 7, 3) := dk_182 0 7 (dk_at dksX0_led_0 5 rfl rfl)
theorem dX0_led_8 : decode cX0_led 8 = .ok (.i2l, 1) := dk_133 (dk_at dksX0_led_0 8 rfl rfl)
theorem dX0_led_9 : decode cX0_led 9 = .ok (.lastore, 1) := dk_80 (dk_at dksX0_led_0 9 rfl rfl)
theorem dX0_led_10 : decode cX0_led 10 = .ok (.goto 7, 3) := dk_167 0 7 (dk_at dksX0_led_0 10 rfl rfl)
theorem dX0_led_13 : decode cX0_led 13 = .ok (.astore 4, 2) := dk_58 4 (dk_at dksX0_led_0 13 rfl rfl)
theorem dX0_led_15 : decode cX0_led 15 = .ok (.iconst 1, 1) := dk_4 (dk_at dksX0_led_0 15 rfl rfl)
theorem dX0_led_16 : decode cX0_led 16 = .ok (.ireturn, 1) := dk_172 (dk_at dksX0_led_0 16 rfl rfl)
theorem dX0_led_17 : decode cX0_led 17 = .ok (.iconst 0, 1) := dk_3 (dk_at dksX0_led_0 17 rfl rfl)
theorem dX0_led_18 : decode cX0_led 18 = .ok (.ireturn, 1) := dk_172 (dk_at dksX0_led_0 18 rfl rfl)
theorem q91 : (Jvm.Cond.initialized "NoonMealsLaw") ∈ lw_all := lw_g (lw_at lw_m1 0 rfl) rfl
theorem q118 : (Jvm.Cond.classLink "NoonMealsLaw" (8 : Nat) "NoonMeals") ∈ lw_all := lw_g (lw_at lw_m1 27 rfl) rfl
theorem q120 : (Jvm.Cond.methodLink "NoonMealsLaw" (15 : Nat) ({ cls := "NoonMeals", name := "<init>", desc := "()V" } : Jvm.MethodName)) ∈ lw_all := lw_g (lw_at lw_m1 29 rfl) rfl
theorem q387 : (Jvm.Cond.methodLink "NoonMealsLaw" (19 : Nat) ({ cls := "NoonMeals", name := "feed", desc := "(IIIII)I" } : Jvm.MethodName)) ∈ lw_all := lw_g (lw_at lw_m2 56 rfl) rfl
theorem q395 : (Jvm.Cond.methodLink "NoonMealsLaw" (24 : Nat) ({ cls := "NoonMeals", name := "day", desc := "(I)I" } : Jvm.MethodName)) ∈ lw_all := lw_g (lw_at lw_m2 64 rfl) rfl
theorem q989 : (Jvm.Cond.methodLink "NoonMealsLaw" (29 : Nat) ({ cls := "NoonMeals", name := "fault", desc := "()I" } : Jvm.MethodName)) ∈ lw_all := lw_g (lw_at lw_m4 178 rfl) rfl
theorem q993 : (Jvm.Cond.methodLink "NoonMealsLaw" (34 : Nat) ({ cls := "NoonMeals", name := "where", desc := "()I" } : Jvm.MethodName)) ∈ lw_all := lw_g (lw_at lw_m4 182 rfl) rfl
theorem q997 : (Jvm.Cond.methodLink "NoonMealsLaw" (38 : Nat) ({ cls := "NoonMeals", name := "drive", desc := "(II)I" } : Jvm.MethodName)) ∈ lw_all := lw_g (lw_at lw_m4 186 rfl) rfl
theorem q1017 : (Jvm.Cond.methodLink "NoonMealsLaw" (42 : Nat) ({ cls := "NoonMeals", name := "unload", desc := "(I)I" } : Jvm.MethodName)) ∈ lw_all := lw_g (lw_at lw_m4 206 rfl) rfl
theorem q1021 : (Jvm.Cond.methodLink "NoonMealsLaw" (46 : Nat) ({ cls := "NoonMeals", name := "tea", desc := "(I)Z" } : Jvm.MethodName)) ∈ lw_all := lw_g (lw_at lw_m4 210 rfl) rfl
theorem q1033 : (Jvm.Cond.methodLink "NoonMealsLaw" (51 : Nat) ({ cls := "NoonMeals", name := "comes", desc := "(I)I" } : Jvm.MethodName)) ∈ lw_all := lw_g (lw_at lw_m4 222 rfl) rfl
theorem q1072 : (Jvm.Cond.methodLink "NoonMealsLaw" (55 : Nat) ({ cls := "NoonMeals", name := "heat", desc := "(I)I" } : Jvm.MethodName)) ∈ lw_all := lw_g (lw_at lw_m5 21 rfl) rfl
theorem q1077 : (Jvm.Cond.methodLink "NoonMealsLaw" (59 : Nat) ({ cls := "NoonMeals", name := "bad", desc := "(I)I" } : Jvm.MethodName)) ∈ lw_all := lw_g (lw_at lw_m5 26 rfl) rfl
theorem q1081 : (Jvm.Cond.methodLink "NoonMealsLaw" (63 : Nat) ({ cls := "NoonMeals", name := "way", desc := "(II)I" } : Jvm.MethodName)) ∈ lw_all := lw_g (lw_at lw_m5 30 rfl) rfl
theorem q1086 : (Jvm.Cond.methodLink "NoonMealsLaw" (67 : Nat) ({ cls := "NoonMeals", name := "best", desc := "(II)I" } : Jvm.MethodName)) ∈ lw_all := lw_g (lw_at lw_m5 35 rfl) rfl
theorem q1122 : (Jvm.Cond.methodLink "NoonMealsLaw" (71 : Nat) ({ cls := "NoonMeals", name := "bestAt", desc := "(III)I" } : Jvm.MethodName)) ∈ lw_all := lw_g (lw_at lw_m5 71 rfl) rfl
theorem q1126 : (Jvm.Cond.methodLink "NoonMealsLaw" (76 : Nat) ({ cls := "NoonMeals", name := "share", desc := "()I" } : Jvm.MethodName)) ∈ lw_all := lw_g (lw_at lw_m5 75 rfl) rfl
theorem q1135 : (Jvm.Cond.methodLink "NoonMealsLaw" (80 : Nat) ({ cls := "NoonMeals", name := "shared", desc := "(I)I" } : Jvm.MethodName)) ∈ lw_all := lw_g (lw_at lw_m5 84 rfl) rfl
theorem q1139 : (Jvm.Cond.methodLink "NoonMealsLaw" (84 : Nat) ({ cls := "NoonMeals", name := "odds", desc := "(I)J" } : Jvm.MethodName)) ∈ lw_all := lw_g (lw_at lw_m5 88 rfl) rfl
theorem q1147 : (Jvm.Cond.methodLink "NoonMealsLaw" (89 : Nat) ({ cls := "NoonMeals", name := "costs", desc := "(I)I" } : Jvm.MethodName)) ∈ lw_all := lw_g (lw_at lw_m5 96 rfl) rfl
theorem q1151 : (Jvm.Cond.methodLink "NoonMealsLaw" (93 : Nat) ({ cls := "NoonMeals", name := "fits", desc := "(II)I" } : Jvm.MethodName)) ∈ lw_all := lw_g (lw_at lw_m5 100 rfl) rfl
theorem q1163 : (Jvm.Cond.methodLink "NoonMealsLaw" (97 : Nat) ({ cls := "NoonMeals", name := "breach", desc := "(II)I" } : Jvm.MethodName)) ∈ lw_all := lw_g (lw_at lw_m5 112 rfl) rfl
theorem q1167 : (Jvm.Cond.methodLink "NoonMealsLaw" (101 : Nat) ({ cls := "NoonMeals", name := "forAll", desc := "()I" } : Jvm.MethodName)) ∈ lw_all := lw_g (lw_at lw_m5 116 rfl) rfl
theorem q1171 : (Jvm.Cond.methodLink "NoonMealsLaw" (105 : Nat) ({ cls := "NoonMeals", name := "menu", desc := "(II)I" } : Jvm.MethodName)) ∈ lw_all := lw_g (lw_at lw_m5 120 rfl) rfl
theorem q1183 : (Jvm.Cond.methodLink "NoonMealsLaw" (109 : Nat) ({ cls := "NoonMeals", name := "menuAt", desc := "(I)I" } : Jvm.MethodName)) ∈ lw_all := lw_g (lw_at lw_m5 132 rfl) rfl
theorem q1187 : (Jvm.Cond.methodLink "NoonMealsLaw" (113 : Nat) ({ cls := "NoonMeals", name := "dropped", desc := "(II)I" } : Jvm.MethodName)) ∈ lw_all := lw_g (lw_at lw_m5 136 rfl) rfl
theorem q1192 : (Jvm.Cond.methodLink "NoonMealsLaw" (117 : Nat) ({ cls := "NoonMeals", name := "knock", desc := "()J" } : Jvm.MethodName)) ∈ lw_all := lw_g (lw_at lw_m5 141 rfl) rfl
theorem q1210 : (Jvm.Cond.methodLink "NoonMealsLaw" (122 : Nat) ({ cls := "NoonMeals", name := "callAt", desc := "(I)I" } : Jvm.MethodName)) ∈ lw_all := lw_g (lw_at lw_m5 159 rfl) rfl
theorem q1214 : (Jvm.Cond.methodLink "NoonMealsLaw" (126 : Nat) ({ cls := "NoonMeals", name := "asTold", desc := "()J" } : Jvm.MethodName)) ∈ lw_all := lw_g (lw_at lw_m5 163 rfl) rfl
theorem q1218 : (Jvm.Cond.methodLink "NoonMealsLaw" (130 : Nat) ({ cls := "NoonMeals", name := "fill", desc := "()I" } : Jvm.MethodName)) ∈ lw_all := lw_g (lw_at lw_m5 167 rfl) rfl
theorem q1227 : (Jvm.Cond.methodLink "NoonMealsLaw" (134 : Nat) ({ cls := "NoonMeals", name := "helper", desc := "(I)I" } : Jvm.MethodName)) ∈ lw_all := lw_g (lw_at lw_m5 176 rfl) rfl
theorem q1231 : (Jvm.Cond.methodLink "NoonMealsLaw" (138 : Nat) ({ cls := "NoonMeals", name := "sign", desc := "(II)I" } : Jvm.MethodName)) ∈ lw_all := lw_g (lw_at lw_m5 180 rfl) rfl
theorem q1235 : (Jvm.Cond.methodLink "NoonMealsLaw" (142 : Nat) ({ cls := "NoonMeals", name := "fading", desc := "(I)I" } : Jvm.MethodName)) ∈ lw_all := lw_g (lw_at lw_m5 184 rfl) rfl
theorem q1239 : (Jvm.Cond.methodLink "NoonMealsLaw" (146 : Nat) ({ cls := "NoonMeals", name := "probe", desc := "(III)I" } : Jvm.MethodName)) ∈ lw_all := lw_g (lw_at lw_m5 188 rfl) rfl
theorem q1243 : (Jvm.Cond.methodLink "NoonMealsLaw" (150 : Nat) ({ cls := "NoonMeals", name := "faulty", desc := "(I)I" } : Jvm.MethodName)) ∈ lw_all := lw_g (lw_at lw_m5 192 rfl) rfl
theorem q1247 : (Jvm.Cond.methodLink "NoonMealsLaw" (154 : Nat) ({ cls := "NoonMeals", name := "firstCold", desc := "()I" } : Jvm.MethodName)) ∈ lw_all := lw_g (lw_at lw_m5 196 rfl) rfl
theorem q1251 : (Jvm.Cond.methodLink "NoonMealsLaw" (158 : Nat) ({ cls := "NoonMeals", name := "recall", desc := "(I)I" } : Jvm.MethodName)) ∈ lw_all := lw_g (lw_at lw_m5 200 rfl) rfl
theorem q1255 : (Jvm.Cond.methodLink "NoonMealsLaw" (171 : Nat) ({ cls := "NoonMeals", name := "size", desc := "(I)I" } : Jvm.MethodName)) ∈ lw_all := lw_g (lw_at lw_m5 204 rfl) rfl
theorem q1259 : (Jvm.Cond.methodLink "NoonMealsLaw" (175 : Nat) ({ cls := "NoonMeals", name := "trouble", desc := "()I" } : Jvm.MethodName)) ∈ lw_all := lw_g (lw_at lw_m5 208 rfl) rfl
theorem q1263 : (Jvm.Cond.methodLink "NoonMealsLaw" (162 : Nat) ({ cls := "NoonMealsLaw", name := "led", desc := "(LNoonMeals;II[J)I" } : Jvm.MethodName)) ∈ lw_all := lw_g (lw_at lw_m5 212 rfl) rfl
theorem q1264 : (Jvm.Cond.static ({ cls := "NoonMealsLaw", name := "led", desc := "(LNoonMeals;II[J)I" } : Jvm.MethodName)) ∈ lw_all := lw_g (lw_at lw_m5 213 rfl) rfl
theorem q1265 : (Jvm.Cond.codeWith ({ cls := "NoonMealsLaw", name := "led", desc := "(LNoonMeals;II[J)I" } : Jvm.MethodName) method_3_code (5 : Nat) (Option.some Jvm.ClassFile.FieldType.int) [((0 : Nat), (10 : Nat), (13 : Nat), (13 : Nat))]) ∈ lw_all := lw_g (lw_at lw_m5 214 rfl) rfl
theorem q1266 : (Jvm.Cond.classLink "NoonMealsLaw" (13 : Nat) "java/util/NoSuchElementException") ∈ lw_all := lw_g (lw_at lw_m5 215 rfl) rfl
theorem q1267 : (Jvm.Cond.methodLink "NoonMealsLaw" (7 : Nat) ({ cls := "NoonMeals", name := "led", desc := "(II)I" } : Jvm.MethodName)) ∈ lw_all := lw_g (lw_at lw_m5 216 rfl) rfl
theorem q1292 : (Jvm.Cond.classLink "NoonMealsLaw" (16 : Nat) "NoonMealsModel") ∈ lw_all := lw_g (lw_at lw_m6 1 rfl) rfl
theorem q1294 : (Jvm.Cond.methodLink "NoonMealsLaw" (18 : Nat) ({ cls := "NoonMealsModel", name := "<init>", desc := "()V" } : Jvm.MethodName)) ∈ lw_all := lw_g (lw_at lw_m6 3 rfl) rfl
theorem q1437 : (Jvm.Cond.methodLink "NoonMealsLaw" (168 : Nat) ({ cls := "NoonMealsModel", name := "thrown", desc := "()I" } : Jvm.MethodName)) ∈ lw_all := lw_g (lw_at lw_m6 146 rfl) rfl
theorem q1441 : (Jvm.Cond.methodLink "NoonMealsLaw" (23 : Nat) ({ cls := "NoonMealsModel", name := "feed", desc := "(IIIII)I" } : Jvm.MethodName)) ∈ lw_all := lw_g (lw_at lw_m6 150 rfl) rfl
theorem q1445 : (Jvm.Cond.methodLink "NoonMealsLaw" (28 : Nat) ({ cls := "NoonMealsModel", name := "day", desc := "(I)I" } : Jvm.MethodName)) ∈ lw_all := lw_g (lw_at lw_m6 154 rfl) rfl
theorem q1751 : (Jvm.Cond.methodLink "NoonMealsLaw" (33 : Nat) ({ cls := "NoonMealsModel", name := "fault", desc := "()I" } : Jvm.MethodName)) ∈ lw_all := lw_g (lw_at lw_m7 220 rfl) rfl
theorem q1755 : (Jvm.Cond.methodLink "NoonMealsLaw" (37 : Nat) ({ cls := "NoonMealsModel", name := "where", desc := "()I" } : Jvm.MethodName)) ∈ lw_all := lw_g (lw_at lw_m7 224 rfl) rfl
theorem q1759 : (Jvm.Cond.methodLink "NoonMealsLaw" (41 : Nat) ({ cls := "NoonMealsModel", name := "drive", desc := "(II)I" } : Jvm.MethodName)) ∈ lw_all := lw_g (lw_at lw_m7 228 rfl) rfl
theorem q1775 : (Jvm.Cond.methodLink "NoonMealsLaw" (45 : Nat) ({ cls := "NoonMealsModel", name := "unload", desc := "(I)I" } : Jvm.MethodName)) ∈ lw_all := lw_g (lw_at lw_m8 4 rfl) rfl
theorem q1779 : (Jvm.Cond.methodLink "NoonMealsLaw" (50 : Nat) ({ cls := "NoonMealsModel", name := "tea", desc := "(I)Z" } : Jvm.MethodName)) ∈ lw_all := lw_g (lw_at lw_m8 8 rfl) rfl
theorem q1783 : (Jvm.Cond.methodLink "NoonMealsLaw" (54 : Nat) ({ cls := "NoonMealsModel", name := "comes", desc := "(I)I" } : Jvm.MethodName)) ∈ lw_all := lw_g (lw_at lw_m8 12 rfl) rfl
theorem q1810 : (Jvm.Cond.methodLink "NoonMealsLaw" (58 : Nat) ({ cls := "NoonMealsModel", name := "heat", desc := "(I)I" } : Jvm.MethodName)) ∈ lw_all := lw_g (lw_at lw_m8 39 rfl) rfl
theorem q1818 : (Jvm.Cond.methodLink "NoonMealsLaw" (62 : Nat) ({ cls := "NoonMealsModel", name := "bad", desc := "(I)I" } : Jvm.MethodName)) ∈ lw_all := lw_g (lw_at lw_m8 47 rfl) rfl
theorem q1822 : (Jvm.Cond.methodLink "NoonMealsLaw" (66 : Nat) ({ cls := "NoonMealsModel", name := "way", desc := "(II)I" } : Jvm.MethodName)) ∈ lw_all := lw_g (lw_at lw_m8 51 rfl) rfl
theorem q1826 : (Jvm.Cond.methodLink "NoonMealsLaw" (70 : Nat) ({ cls := "NoonMealsModel", name := "best", desc := "(II)I" } : Jvm.MethodName)) ∈ lw_all := lw_g (lw_at lw_m8 55 rfl) rfl
theorem q1848 : (Jvm.Cond.methodLink "NoonMealsLaw" (75 : Nat) ({ cls := "NoonMealsModel", name := "bestAt", desc := "(III)I" } : Jvm.MethodName)) ∈ lw_all := lw_g (lw_at lw_m8 77 rfl) rfl
theorem q1852 : (Jvm.Cond.methodLink "NoonMealsLaw" (79 : Nat) ({ cls := "NoonMealsModel", name := "share", desc := "()I" } : Jvm.MethodName)) ∈ lw_all := lw_g (lw_at lw_m8 81 rfl) rfl
theorem q1868 : (Jvm.Cond.methodLink "NoonMealsLaw" (83 : Nat) ({ cls := "NoonMealsModel", name := "shared", desc := "(I)I" } : Jvm.MethodName)) ∈ lw_all := lw_g (lw_at lw_m8 97 rfl) rfl
theorem q1872 : (Jvm.Cond.methodLink "NoonMealsLaw" (88 : Nat) ({ cls := "NoonMealsModel", name := "odds", desc := "(I)J" } : Jvm.MethodName)) ∈ lw_all := lw_g (lw_at lw_m8 101 rfl) rfl
theorem q1876 : (Jvm.Cond.methodLink "NoonMealsLaw" (92 : Nat) ({ cls := "NoonMealsModel", name := "costs", desc := "(I)I" } : Jvm.MethodName)) ∈ lw_all := lw_g (lw_at lw_m8 105 rfl) rfl
theorem q1880 : (Jvm.Cond.methodLink "NoonMealsLaw" (96 : Nat) ({ cls := "NoonMealsModel", name := "fits", desc := "(II)I" } : Jvm.MethodName)) ∈ lw_all := lw_g (lw_at lw_m8 109 rfl) rfl
theorem q1892 : (Jvm.Cond.methodLink "NoonMealsLaw" (100 : Nat) ({ cls := "NoonMealsModel", name := "breach", desc := "(II)I" } : Jvm.MethodName)) ∈ lw_all := lw_g (lw_at lw_m8 121 rfl) rfl
theorem q1896 : (Jvm.Cond.methodLink "NoonMealsLaw" (104 : Nat) ({ cls := "NoonMealsModel", name := "forAll", desc := "()I" } : Jvm.MethodName)) ∈ lw_all := lw_g (lw_at lw_m8 125 rfl) rfl
theorem q1900 : (Jvm.Cond.methodLink "NoonMealsLaw" (108 : Nat) ({ cls := "NoonMealsModel", name := "menu", desc := "(II)I" } : Jvm.MethodName)) ∈ lw_all := lw_g (lw_at lw_m8 129 rfl) rfl
theorem q1912 : (Jvm.Cond.methodLink "NoonMealsLaw" (112 : Nat) ({ cls := "NoonMealsModel", name := "menuAt", desc := "(I)I" } : Jvm.MethodName)) ∈ lw_all := lw_g (lw_at lw_m8 141 rfl) rfl
theorem q1916 : (Jvm.Cond.methodLink "NoonMealsLaw" (116 : Nat) ({ cls := "NoonMealsModel", name := "dropped", desc := "(II)I" } : Jvm.MethodName)) ∈ lw_all := lw_g (lw_at lw_m8 145 rfl) rfl
theorem q1921 : (Jvm.Cond.methodLink "NoonMealsLaw" (121 : Nat) ({ cls := "NoonMealsModel", name := "knock", desc := "()J" } : Jvm.MethodName)) ∈ lw_all := lw_g (lw_at lw_m8 150 rfl) rfl
theorem q1931 : (Jvm.Cond.methodLink "NoonMealsLaw" (125 : Nat) ({ cls := "NoonMealsModel", name := "callAt", desc := "(I)I" } : Jvm.MethodName)) ∈ lw_all := lw_g (lw_at lw_m8 160 rfl) rfl
theorem q1935 : (Jvm.Cond.methodLink "NoonMealsLaw" (129 : Nat) ({ cls := "NoonMealsModel", name := "asTold", desc := "()J" } : Jvm.MethodName)) ∈ lw_all := lw_g (lw_at lw_m8 164 rfl) rfl
theorem q1939 : (Jvm.Cond.methodLink "NoonMealsLaw" (133 : Nat) ({ cls := "NoonMealsModel", name := "fill", desc := "()I" } : Jvm.MethodName)) ∈ lw_all := lw_g (lw_at lw_m8 168 rfl) rfl
theorem q1951 : (Jvm.Cond.methodLink "NoonMealsLaw" (137 : Nat) ({ cls := "NoonMealsModel", name := "helper", desc := "(I)I" } : Jvm.MethodName)) ∈ lw_all := lw_g (lw_at lw_m8 180 rfl) rfl
theorem q1955 : (Jvm.Cond.methodLink "NoonMealsLaw" (141 : Nat) ({ cls := "NoonMealsModel", name := "sign", desc := "(II)I" } : Jvm.MethodName)) ∈ lw_all := lw_g (lw_at lw_m8 184 rfl) rfl
theorem q1959 : (Jvm.Cond.methodLink "NoonMealsLaw" (145 : Nat) ({ cls := "NoonMealsModel", name := "fading", desc := "(I)I" } : Jvm.MethodName)) ∈ lw_all := lw_g (lw_at lw_m8 188 rfl) rfl
theorem q1963 : (Jvm.Cond.methodLink "NoonMealsLaw" (149 : Nat) ({ cls := "NoonMealsModel", name := "probe", desc := "(III)I" } : Jvm.MethodName)) ∈ lw_all := lw_g (lw_at lw_m8 192 rfl) rfl
theorem q1967 : (Jvm.Cond.methodLink "NoonMealsLaw" (153 : Nat) ({ cls := "NoonMealsModel", name := "faulty", desc := "(I)I" } : Jvm.MethodName)) ∈ lw_all := lw_g (lw_at lw_m8 196 rfl) rfl
theorem q1971 : (Jvm.Cond.methodLink "NoonMealsLaw" (157 : Nat) ({ cls := "NoonMealsModel", name := "firstCold", desc := "()I" } : Jvm.MethodName)) ∈ lw_all := lw_g (lw_at lw_m8 200 rfl) rfl
theorem q1975 : (Jvm.Cond.methodLink "NoonMealsLaw" (161 : Nat) ({ cls := "NoonMealsModel", name := "recall", desc := "(I)I" } : Jvm.MethodName)) ∈ lw_all := lw_g (lw_at lw_m8 204 rfl) rfl
theorem q1979 : (Jvm.Cond.methodLink "NoonMealsLaw" (167 : Nat) ({ cls := "NoonMealsModel", name := "led", desc := "(II)I" } : Jvm.MethodName)) ∈ lw_all := lw_g (lw_at lw_m8 208 rfl) rfl
theorem q1983 : (Jvm.Cond.methodLink "NoonMealsLaw" (174 : Nat) ({ cls := "NoonMealsModel", name := "size", desc := "(I)I" } : Jvm.MethodName)) ∈ lw_all := lw_g (lw_at lw_m8 212 rfl) rfl
theorem q1987 : (Jvm.Cond.methodLink "NoonMealsLaw" (178 : Nat) ({ cls := "NoonMealsModel", name := "trouble", desc := "()I" } : Jvm.MethodName)) ∈ lw_all := lw_g (lw_at lw_m8 216 rfl) rfl
/-! NoonMeals$Reader -/
set_option maxRecDepth 100000
def RX2 : String := "NoonMeals$Reader"
def TX2 : u_T := fun k => match k with
  | 0 => ("NoonMeals$Reader", "wrong", "LNoonMeals$Refused;", true)
  | 1 => ("NoonMeals$Reader", "text", "[B", true)
  | 2 => ("NoonMeals$Reader", "letters", "[C", true)
  | 3 => ("NoonMeals$Reader", "size", "I", false)
  | 4 => ("NoonMeals$Reader", "end", "I", false)
  | 5 => ("NoonMeals$Reader", "token", "I", false)
  | 6 => ("NoonMeals$Reader", "at", "I", false)
  | 7 => ("NoonMeals$Reader", "whole", "I", false)
  | 8 => ("NoonMeals$Reader", "word", "Ljava/lang/String;", false)
  | _ => ("NoonMeals$Reader", "day", "LNoonMeals$Day;", false)
def tyX2 : Nat → FieldType := fun k => match k with
  | 0 => .object "NoonMeals$Refused"
  | 1 => .array .byte
  | 2 => .array .char
  | 3 => .int
  | 4 => .int
  | 5 => .int
  | 6 => .int
  | 7 => .int
  | 8 => .object "java/lang/String"
  | _ => .object "NoonMeals$Day"
abbrev wsX20 : List Cond := u_ws RX2 TX2 10
theorem nmX2 : ∀ a, a < 10 → ∀ b, b < 10 → a ≠ b → (TX2 a).2.1 ≠ (TX2 b).2.1 := by decide +kernel
theorem tyX2_ok : ∀ k, k < 10 → parseFieldDescriptor (TX2 k).2.2.1 = some (tyX2 k) := by decide +kernel
abbrev cX2_init : ByteArray := prog_11_method_1_code
def yX2_init : MethodName := ⟨RX2, "<init>", "([B)V"⟩
def dkwX2_init_1 : List UInt8 := [43, 181, 0, 22, 177]
abbrev dktX2_init_1 : List UInt8 := dkwX2_init_1 ++ []
def dkwX2_init_0 : List UInt8 := [42, 183, 0, 3, 42, 187, 0, 9, 89, 183, 0, 11, 181, 0, 12, 42, 16, 8, 188, 5, 181, 0, 18, 42]
abbrev dktX2_init_0 : List UInt8 := dkwX2_init_0 ++ dktX2_init_1
theorem dksX2_init_0 : cX2_init.data.toList.drop 0 = dktX2_init_0 := by decide +kernel
theorem dksX2_init_1 : cX2_init.data.toList.drop 24 = dktX2_init_1 := dk_seg dksX2_init_0 24 rfl rfl
theorem dX2_init_0 : decode cX2_init 0 = .ok (.aload_n 0, 1) := dk_42 (dk_at dksX2_init_0 0 rfl rfl)
theorem dX2_init_1 : decode cX2_init 1 = .ok (.invokespecial 3, 3) := dk_183 0 3 (dk_at dksX2_init_0 1 rfl rfl)
theorem dX2_init_4 : decode cX2_init 4 = .ok (.aload_n 0, 1) := dk_42 (dk_at dksX2_init_0 4 rfl rfl)
theorem dX2_init_5 : decode cX2_init 5 = .ok (.new 9, 3) := dk_187 0 9 (dk_at dksX2_init_0 5 rfl rfl)
theorem dX2_init_8 : decode cX2_init 8 = .ok (.dup, 1) := dk_89 (dk_at dksX2_init_0 8 rfl rfl)
theorem dX2_init_9 : decode cX2_init 9 = .ok (.invokespecial 11, 3) := dk_183 0 11 (dk_at dksX2_init_0 9 rfl rfl)
theorem dX2_init_12 : decode cX2_init 12 = .ok (.putfield 12, 3) := dk_181 0 12 (dk_at dksX2_init_0 12 rfl rfl)
theorem dX2_init_15 : decode cX2_init 15 = .ok (.aload_n 0, 1) := dk_42 (dk_at dksX2_init_0 15 rfl rfl)
theorem dX2_init_16 : decode cX2_init 16 = .ok (.bipush 8, 2) := dk_16 8 (dk_at dksX2_init_0 16 rfl rfl)
theorem dX2_init_18 : decode cX2_init 18 = .ok (.newarray .char, 2) := dk_188_5 (dk_at dksX2_init_0 18 rfl rfl)
theorem dX2_init_20 : decode cX2_init 20 = .ok (.putfield 18, 3) := dk_181 0 18 (dk_at dksX2_init_0 20 rfl rfl)
theorem dX2_init_23 : decode cX2_init 23 = .ok (.aload_n 0, 1) := dk_42 (dk_at dksX2_init_0 23 rfl rfl)
theorem dX2_init_24 : decode cX2_init 24 = .ok (.aload_n 1, 1) := dk_43 (dk_at dksX2_init_1 0 rfl rfl)
theorem dX2_init_25 : decode cX2_init 25 = .ok (.putfield 22, 3) := dk_181 0 22 (dk_at dksX2_init_1 1 rfl rfl)
theorem dX2_init_28 : decode cX2_init 28 = .ok (.return_, 1) := dk_177 (dk_at dksX2_init_1 4 rfl rfl)
abbrev cX2_read : ByteArray := prog_11_method_16_code
def yX2_read : MethodName := ⟨RX2, "read", "(I)LNoonMeals$Day;"⟩
def dkwX2_read_4 : List UInt8 := [16, 6, 182, 0, 85, 191, 42, 180, 0, 118, 176]
abbrev dktX2_read_4 : List UInt8 := dkwX2_read_4 ++ []
def dkwX2_read_3 : List UInt8 := [153, 0, 23, 42, 180, 0, 118, 180, 0, 150, 153, 0, 13, 42, 180, 0, 118, 180, 0, 153, 154, 0, 10, 42]
abbrev dktX2_read_3 : List UInt8 := dkwX2_read_3 ++ dktX2_read_4
def dkwX2_read_2 : List UInt8 := [167, 255, 239, 42, 180, 0, 47, 153, 0, 9, 42, 4, 182, 0, 85, 191, 42, 180, 0, 118, 180, 0, 147]
abbrev dktX2_read_2 : List UInt8 := dkwX2_read_2 ++ dktX2_read_3
def dkwX2_read_1 : List UInt8 := [182, 0, 79, 42, 182, 0, 144, 42, 180, 0, 47, 16, 59, 160, 0, 14, 42, 182, 0, 79, 42, 182, 0, 144]
abbrev dktX2_read_1 : List UInt8 := dkwX2_read_1 ++ dktX2_read_2
def dkwX2_read_0 : List UInt8 := [42, 27, 181, 0, 33, 42, 3, 181, 0, 40, 42, 187, 0, 123, 89, 183, 0, 143, 181, 0, 118, 42]
abbrev dktX2_read_0 : List UInt8 := dkwX2_read_0 ++ dktX2_read_1
theorem dksX2_read_0 : cX2_read.data.toList.drop 0 = dktX2_read_0 := by decide +kernel
theorem dksX2_read_1 : cX2_read.data.toList.drop 22 = dktX2_read_1 := dk_seg dksX2_read_0 22 rfl rfl
theorem dksX2_read_2 : cX2_read.data.toList.drop 46 = dktX2_read_2 := dk_seg dksX2_read_1 24 rfl rfl
theorem dksX2_read_3 : cX2_read.data.toList.drop 69 = dktX2_read_3 := dk_seg dksX2_read_2 23 rfl rfl
theorem dksX2_read_4 : cX2_read.data.toList.drop 93 = dktX2_read_4 := dk_seg dksX2_read_3 24 rfl rfl
theorem dX2_read_0 : decode cX2_read 0 = .ok (.aload_n 0, 1) := dk_42 (dk_at dksX2_read_0 0 rfl rfl)
theorem dX2_read_1 : decode cX2_read 1 = .ok (.iload_n 1, 1) := dk_27 (dk_at dksX2_read_0 1 rfl rfl)
theorem dX2_read_2 : decode cX2_read 2 = .ok (.putfield 33, 3) := dk_181 0 33 (dk_at dksX2_read_0 2 rfl rfl)
theorem dX2_read_5 : decode cX2_read 5 = .ok (.aload_n 0, 1) := dk_42 (dk_at dksX2_read_0 5 rfl rfl)
theorem dX2_read_6 : decode cX2_read 6 = .ok (.iconst 0, 1) := dk_3 (dk_at dksX2_read_0 6 rfl rfl)
theorem dX2_read_7 : decode cX2_read 7 = .ok (.putfield 40, 3) := dk_181 0 40 (dk_at dksX2_read_0 7 rfl rfl)
theorem dX2_read_10 : decode cX2_read 10 = .ok (.aload_n 0, 1) := dk_42 (dk_at dksX2_read_0 10 rfl rfl)
theorem dX2_read_11 : decode cX2_read 11 = .ok (.new 123, 3) := dk_187 0 123 (dk_at dksX2_read_0 11 rfl rfl)
theorem dX2_read_14 : decode cX2_read 14 = .ok (.dup, 1) := dk_89 (dk_at dksX2_read_0 14 rfl rfl)
theorem dX2_read_15 : decode cX2_read 15 = .ok (.invokespecial 143, 3) := dk_183 0 143 (dk_at dksX2_read_0 15 rfl rfl)
theorem dX2_read_18 : decode cX2_read 18 = .ok (.putfield 118, 3) := dk_181 0 118 (dk_at dksX2_read_0 18 rfl rfl)
theorem dX2_read_21 : decode cX2_read 21 = .ok (.aload_n 0, 1) := dk_42 (dk_at dksX2_read_0 21 rfl rfl)
theorem dX2_read_22 : decode cX2_read 22 = .ok (.invokevirtual 79, 3) := dk_182 0 79 (dk_at dksX2_read_1 0 rfl rfl)
theorem dX2_read_25 : decode cX2_read 25 = .ok (.aload_n 0, 1) := dk_42 (dk_at dksX2_read_1 3 rfl rfl)
theorem dX2_read_26 : decode cX2_read 26 = .ok (.invokevirtual 144, 3) := dk_182 0 144 (dk_at dksX2_read_1 4 rfl rfl)
theorem dX2_read_29 : decode cX2_read 29 = .ok (.aload_n 0, 1) := dk_42 (dk_at dksX2_read_1 7 rfl rfl)
theorem dX2_read_30 : decode cX2_read 30 = .ok (.getfield 47, 3) := dk_180 0 47 (dk_at dksX2_read_1 8 rfl rfl)
theorem dX2_read_33 : decode cX2_read 33 = .ok (.bipush 59, 2) := dk_16 59 (dk_at dksX2_read_1 11 rfl rfl)
theorem dX2_read_35 : decode cX2_read 35 = .ok (.if_icmp .ne 14, 3) := dk_160 0 14 (dk_at dksX2_read_1 13 rfl rfl)
theorem dX2_read_38 : decode cX2_read 38 = .ok (.aload_n 0, 1) := dk_42 (dk_at dksX2_read_1 16 rfl rfl)
theorem dX2_read_39 : decode cX2_read 39 = .ok (.invokevirtual 79, 3) := dk_182 0 79 (dk_at dksX2_read_1 17 rfl rfl)
theorem dX2_read_42 : decode cX2_read 42 = .ok (.aload_n 0, 1) := dk_42 (dk_at dksX2_read_1 20 rfl rfl)
theorem dX2_read_43 : decode cX2_read 43 = .ok (.invokevirtual 144, 3) := dk_182 0 144 (dk_at dksX2_read_1 21 rfl rfl)
theorem dX2_read_46 : decode cX2_read 46 = .ok (.goto (-17), 3) := dk_167 255 239 (dk_at dksX2_read_2 0 rfl rfl)
theorem dX2_read_49 : decode cX2_read 49 = .ok (.aload_n 0, 1) := dk_42 (dk_at dksX2_read_2 3 rfl rfl)
theorem dX2_read_50 : decode cX2_read 50 = .ok (.getfield 47, 3) := dk_180 0 47 (dk_at dksX2_read_2 4 rfl rfl)
theorem dX2_read_53 : decode cX2_read 53 = .ok (.ifCond .eq 9, 3) := dk_153 0 9 (dk_at dksX2_read_2 7 rfl rfl)
theorem dX2_read_56 : decode cX2_read 56 = .ok (.aload_n 0, 1) := dk_42 (dk_at dksX2_read_2 10 rfl rfl)
theorem dX2_read_57 : decode cX2_read 57 = .ok (.iconst 1, 1) := dk_4 (dk_at dksX2_read_2 11 rfl rfl)
theorem dX2_read_58 : decode cX2_read 58 = .ok (.invokevirtual 85, 3) := dk_182 0 85 (dk_at dksX2_read_2 12 rfl rfl)
theorem dX2_read_61 : decode cX2_read 61 = .ok (.athrow, 1) := dk_191 (dk_at dksX2_read_2 15 rfl rfl)
theorem dX2_read_62 : decode cX2_read 62 = .ok (.aload_n 0, 1) := dk_42 (dk_at dksX2_read_2 16 rfl rfl)
theorem dX2_read_63 : decode cX2_read 63 = .ok (.getfield 118, 3) := dk_180 0 118 (dk_at dksX2_read_2 17 rfl rfl)
theorem dX2_read_66 : decode cX2_read 66 = .ok (.getfield 147, 3) := dk_180 0 147 (dk_at dksX2_read_2 20 rfl rfl)
theorem dX2_read_69 : decode cX2_read 69 = .ok (.ifCond .eq 23, 3) := dk_153 0 23 (dk_at dksX2_read_3 0 rfl rfl)
theorem dX2_read_72 : decode cX2_read 72 = .ok (.aload_n 0, 1) := dk_42 (dk_at dksX2_read_3 3 rfl rfl)
theorem dX2_read_73 : decode cX2_read 73 = .ok (.getfield 118, 3) := dk_180 0 118 (dk_at dksX2_read_3 4 rfl rfl)
theorem dX2_read_76 : decode cX2_read 76 = .ok (.getfield 150, 3) := dk_180 0 150 (dk_at dksX2_read_3 7 rfl rfl)
theorem dX2_read_79 : decode cX2_read 79 = .ok (.ifCond .eq 13, 3) := dk_153 0 13 (dk_at dksX2_read_3 10 rfl rfl)
theorem dX2_read_82 : decode cX2_read 82 = .ok (.aload_n 0, 1) := dk_42 (dk_at dksX2_read_3 13 rfl rfl)
theorem dX2_read_83 : decode cX2_read 83 = .ok (.getfield 118, 3) := dk_180 0 118 (dk_at dksX2_read_3 14 rfl rfl)
theorem dX2_read_86 : decode cX2_read 86 = .ok (.getfield 153, 3) := dk_180 0 153 (dk_at dksX2_read_3 17 rfl rfl)
theorem dX2_read_89 : decode cX2_read 89 = .ok (.ifCond .ne 10, 3) := dk_154 0 10 (dk_at dksX2_read_3 20 rfl rfl)
theorem dX2_read_92 : decode cX2_read 92 = .ok (.aload_n 0, 1) := dk_42 (dk_at dksX2_read_3 23 rfl rfl)
theorem dX2_read_93 : decode cX2_read 93 = .ok (.bipush 6, 2) := dk_16 6 (dk_at dksX2_read_4 0 rfl rfl)
theorem dX2_read_95 : decode cX2_read 95 = .ok (.invokevirtual 85, 3) := dk_182 0 85 (dk_at dksX2_read_4 2 rfl rfl)
theorem dX2_read_98 : decode cX2_read 98 = .ok (.athrow, 1) := dk_191 (dk_at dksX2_read_4 5 rfl rfl)
theorem dX2_read_99 : decode cX2_read 99 = .ok (.aload_n 0, 1) := dk_42 (dk_at dksX2_read_4 6 rfl rfl)
theorem dX2_read_100 : decode cX2_read 100 = .ok (.getfield 118, 3) := dk_180 0 118 (dk_at dksX2_read_4 7 rfl rfl)
theorem dX2_read_103 : decode cX2_read 103 = .ok (.areturn, 1) := dk_176 (dk_at dksX2_read_4 10 rfl rfl)
abbrev cX2_next : ByteArray := prog_11_method_6_code
def yX2_next : MethodName := ⟨RX2, "next", "()V"⟩
def dkwX2_next_13 : List UInt8 := [181, 0, 47, 177]
abbrev dktX2_next_13 : List UInt8 := dkwX2_next_13 ++ []
def dkwX2_next_12 : List UInt8 := [181, 0, 47, 167, 0, 24, 42, 28, 16, 59, 159, 0, 9, 28, 16, 44, 160, 0, 7, 28, 167, 0, 4, 4]
abbrev dktX2_next_12 : List UInt8 := dkwX2_next_12 ++ dktX2_next_13
def dkwX2_next_11 : List UInt8 := [181, 0, 40, 167, 255, 199, 42, 42, 180, 0, 40, 27, 100, 6, 164, 0, 7, 4, 167, 0, 4, 6]
abbrev dktX2_next_11 : List UInt8 := dkwX2_next_11 ++ dktX2_next_12
def dkwX2_next_10 : List UInt8 := [42, 42, 180, 0, 40, 182, 0, 43, 96, 16, 48, 100, 181, 0, 68, 42, 89, 180, 0, 40, 4, 96]
abbrev dktX2_next_10 : List UInt8 := dkwX2_next_10 ++ dktX2_next_11
def dkwX2_next_9 : List UInt8 := [184, 0, 65, 153, 0, 49, 42, 180, 0, 40, 27, 100, 6, 162, 0, 26, 42, 16, 10, 42, 180, 0, 68, 104]
abbrev dktX2_next_9 : List UInt8 := dkwX2_next_9 ++ dktX2_next_10
def dkwX2_next_8 : List UInt8 := [184, 0, 65, 153, 0, 95, 42, 3, 181, 0, 68, 42, 27, 181, 0, 40, 42, 42, 180, 0, 40, 182, 0, 43]
abbrev dktX2_next_8 : List UInt8 := dkwX2_next_8 ++ dktX2_next_9
def dkwX2_next_7 : List UInt8 := [3, 42, 180, 0, 40, 27, 100, 183, 0, 56, 167, 0, 5, 18, 59, 181, 0, 61, 167, 0, 123, 28]
abbrev dktX2_next_7 : List UInt8 := dkwX2_next_7 ++ dktX2_next_8
def dkwX2_next_6 : List UInt8 := [167, 0, 4, 5, 181, 0, 47, 42, 42, 180, 0, 47, 5, 160, 0, 24, 187, 0, 54, 89, 42, 180, 0, 18]
abbrev dktX2_next_6 : List UInt8 := dkwX2_next_6 ++ dktX2_next_7
def dkwX2_next_5 : List UInt8 := [180, 0, 40, 4, 96, 181, 0, 40, 167, 255, 201, 42, 42, 180, 0, 40, 27, 100, 16, 8, 164, 0, 7, 4]
abbrev dktX2_next_5 : List UInt8 := dkwX2_next_5 ++ dktX2_next_6
def dkwX2_next_4 : List UInt8 := [42, 180, 0, 18, 42, 180, 0, 40, 27, 100, 42, 42, 180, 0, 40, 182, 0, 43, 146, 85, 42, 89]
abbrev dktX2_next_4 : List UInt8 := dkwX2_next_4 ++ dktX2_next_5
def dkwX2_next_3 : List UInt8 := [42, 180, 0, 40, 182, 0, 43, 184, 0, 50, 153, 0, 47, 42, 180, 0, 40, 27, 100, 16, 8, 162, 0, 23]
abbrev dktX2_next_3 : List UInt8 := dkwX2_next_3 ++ dktX2_next_4
def dkwX2_next_2 : List UInt8 := [181, 0, 47, 42, 27, 181, 0, 40, 167, 0, 251, 28, 184, 0, 50, 153, 0, 124, 42, 27, 181, 0, 40, 42]
abbrev dktX2_next_2 : List UInt8 := dkwX2_next_2 ++ dktX2_next_3
def dkwX2_next_1 : List UInt8 := [181, 0, 26, 42, 27, 4, 96, 181, 0, 40, 42, 27, 182, 0, 43, 61, 28, 2, 160, 0, 16, 42, 3]
abbrev dktX2_next_1 : List UInt8 := dkwX2_next_1 ++ dktX2_next_2
def dkwX2_next_0 : List UInt8 := [42, 180, 0, 40, 60, 42, 27, 182, 0, 43, 16, 32, 160, 0, 9, 132, 1, 1, 167, 255, 243, 42, 27]
abbrev dktX2_next_0 : List UInt8 := dkwX2_next_0 ++ dktX2_next_1
theorem dksX2_next_0 : cX2_next.data.toList.drop 0 = dktX2_next_0 := by decide +kernel
theorem dksX2_next_1 : cX2_next.data.toList.drop 23 = dktX2_next_1 := dk_seg dksX2_next_0 23 rfl rfl
theorem dksX2_next_2 : cX2_next.data.toList.drop 46 = dktX2_next_2 := dk_seg dksX2_next_1 23 rfl rfl
theorem dksX2_next_3 : cX2_next.data.toList.drop 70 = dktX2_next_3 := dk_seg dksX2_next_2 24 rfl rfl
theorem dksX2_next_4 : cX2_next.data.toList.drop 94 = dktX2_next_4 := dk_seg dksX2_next_3 24 rfl rfl
theorem dksX2_next_5 : cX2_next.data.toList.drop 116 = dktX2_next_5 := dk_seg dksX2_next_4 22 rfl rfl
theorem dksX2_next_6 : cX2_next.data.toList.drop 140 = dktX2_next_6 := dk_seg dksX2_next_5 24 rfl rfl
theorem dksX2_next_7 : cX2_next.data.toList.drop 164 = dktX2_next_7 := dk_seg dksX2_next_6 24 rfl rfl
theorem dksX2_next_8 : cX2_next.data.toList.drop 186 = dktX2_next_8 := dk_seg dksX2_next_7 22 rfl rfl
theorem dksX2_next_9 : cX2_next.data.toList.drop 210 = dktX2_next_9 := dk_seg dksX2_next_8 24 rfl rfl
theorem dksX2_next_10 : cX2_next.data.toList.drop 234 = dktX2_next_10 := dk_seg dksX2_next_9 24 rfl rfl
theorem dksX2_next_11 : cX2_next.data.toList.drop 256 = dktX2_next_11 := dk_seg dksX2_next_10 22 rfl rfl
theorem dksX2_next_12 : cX2_next.data.toList.drop 278 = dktX2_next_12 := dk_seg dksX2_next_11 22 rfl rfl
theorem dksX2_next_13 : cX2_next.data.toList.drop 302 = dktX2_next_13 := dk_seg dksX2_next_12 24 rfl rfl
theorem dX2_next_0 : decode cX2_next 0 = .ok (.aload_n 0, 1) := dk_42 (dk_at dksX2_next_0 0 rfl rfl)
theorem dX2_next_1 : decode cX2_next 1 = .ok (.getfield 40, 3) := dk_180 0 40 (dk_at dksX2_next_0 1 rfl rfl)
theorem dX2_next_4 : decode cX2_next 4 = .ok (.istore_n 1, 1) := dk_60 (dk_at dksX2_next_0 4 rfl rfl)
theorem dX2_next_5 : decode cX2_next 5 = .ok (.aload_n 0, 1) := dk_42 (dk_at dksX2_next_0 5 rfl rfl)
theorem dX2_next_6 : decode cX2_next 6 = .ok (.iload_n 1, 1) := dk_27 (dk_at dksX2_next_0 6 rfl rfl)
theorem dX2_next_7 : decode cX2_next 7 = .ok (.invokevirtual 43, 3) := dk_182 0 43 (dk_at dksX2_next_0 7 rfl rfl)
theorem dX2_next_10 : decode cX2_next 10 = .ok (.bipush 32, 2) := dk_16 32 (dk_at dksX2_next_0 10 rfl rfl)
theorem dX2_next_12 : decode cX2_next 12 = .ok (.if_icmp .ne 9, 3) := dk_160 0 9 (dk_at dksX2_next_0 12 rfl rfl)
theorem dX2_next_15 : decode cX2_next 15 = .ok (.iinc 1 1, 3) := dk_132 1 1 (dk_at dksX2_next_0 15 rfl rfl)
theorem dX2_next_18 : decode cX2_next 18 = .ok (.goto (-13), 3) := dk_167 255 243 (dk_at dksX2_next_0 18 rfl rfl)
theorem dX2_next_21 : decode cX2_next 21 = .ok (.aload_n 0, 1) := dk_42 (dk_at dksX2_next_0 21 rfl rfl)
theorem dX2_next_22 : decode cX2_next 22 = .ok (.iload_n 1, 1) := dk_27 (dk_at dksX2_next_0 22 rfl rfl)
theorem dX2_next_23 : decode cX2_next 23 = .ok (.putfield 26, 3) := dk_181 0 26 (dk_at dksX2_next_1 0 rfl rfl)
theorem dX2_next_26 : decode cX2_next 26 = .ok (.aload_n 0, 1) := dk_42 (dk_at dksX2_next_1 3 rfl rfl)
theorem dX2_next_27 : decode cX2_next 27 = .ok (.iload_n 1, 1) := dk_27 (dk_at dksX2_next_1 4 rfl rfl)
theorem dX2_next_28 : decode cX2_next 28 = .ok (.iconst 1, 1) := dk_4 (dk_at dksX2_next_1 5 rfl rfl)
theorem dX2_next_29 : decode cX2_next 29 = .ok (.iadd, 1) := dk_96 (dk_at dksX2_next_1 6 rfl rfl)
theorem dX2_next_30 : decode cX2_next 30 = .ok (.putfield 40, 3) := dk_181 0 40 (dk_at dksX2_next_1 7 rfl rfl)
theorem dX2_next_33 : decode cX2_next 33 = .ok (.aload_n 0, 1) := dk_42 (dk_at dksX2_next_1 10 rfl rfl)
theorem dX2_next_34 : decode cX2_next 34 = .ok (.iload_n 1, 1) := dk_27 (dk_at dksX2_next_1 11 rfl rfl)
theorem dX2_next_35 : decode cX2_next 35 = .ok (.invokevirtual 43, 3) := dk_182 0 43 (dk_at dksX2_next_1 12 rfl rfl)
theorem dX2_next_38 : decode cX2_next 38 = .ok (.istore_n 2, 1) := dk_61 (dk_at dksX2_next_1 15 rfl rfl)
theorem dX2_next_39 : decode cX2_next 39 = .ok (.iload_n 2, 1) := dk_28 (dk_at dksX2_next_1 16 rfl rfl)
theorem dX2_next_40 : decode cX2_next 40 = .ok (.iconst (-1), 1) := dk_2 (dk_at dksX2_next_1 17 rfl rfl)
theorem dX2_next_41 : decode cX2_next 41 = .ok (.if_icmp .ne 16, 3) := dk_160 0 16 (dk_at dksX2_next_1 18 rfl rfl)
theorem dX2_next_44 : decode cX2_next 44 = .ok (.aload_n 0, 1) := dk_42 (dk_at dksX2_next_1 21 rfl rfl)
theorem dX2_next_45 : decode cX2_next 45 = .ok (.iconst 0, 1) := dk_3 (dk_at dksX2_next_1 22 rfl rfl)
theorem dX2_next_46 : decode cX2_next 46 = .ok (.putfield 47, 3) := dk_181 0 47 (dk_at dksX2_next_2 0 rfl rfl)
theorem dX2_next_49 : decode cX2_next 49 = .ok (.aload_n 0, 1) := dk_42 (dk_at dksX2_next_2 3 rfl rfl)
theorem dX2_next_50 : decode cX2_next 50 = .ok (.iload_n 1, 1) := dk_27 (dk_at dksX2_next_2 4 rfl rfl)
theorem dX2_next_51 : decode cX2_next 51 = .ok (.putfield 40, 3) := dk_181 0 40 (dk_at dksX2_next_2 5 rfl rfl)
theorem dX2_next_54 : decode cX2_next 54 = .ok (.goto 251, 3) := dk_167 0 251 (dk_at dksX2_next_2 8 rfl rfl)
theorem dX2_next_57 : decode cX2_next 57 = .ok (.iload_n 2, 1) := dk_28 (dk_at dksX2_next_2 11 rfl rfl)
theorem dX2_next_58 : decode cX2_next 58 = .ok (.invokestatic 50, 3) := dk_184 0 50 (dk_at dksX2_next_2 12 rfl rfl)
theorem dX2_next_61 : decode cX2_next 61 = .ok (.ifCond .eq 124, 3) := dk_153 0 124 (dk_at dksX2_next_2 15 rfl rfl)
theorem dX2_next_64 : decode cX2_next 64 = .ok (.aload_n 0, 1) := dk_42 (dk_at dksX2_next_2 18 rfl rfl)
theorem dX2_next_65 : decode cX2_next 65 = .ok (.iload_n 1, 1) := dk_27 (dk_at dksX2_next_2 19 rfl rfl)
theorem dX2_next_66 : decode cX2_next 66 = .ok (.putfield 40, 3) := dk_181 0 40 (dk_at dksX2_next_2 20 rfl rfl)
theorem dX2_next_69 : decode cX2_next 69 = .ok (.aload_n 0, 1) := dk_42 (dk_at dksX2_next_2 23 rfl rfl)
theorem dX2_next_70 : decode cX2_next 70 = .ok (.aload_n 0, 1) := dk_42 (dk_at dksX2_next_3 0 rfl rfl)
theorem dX2_next_71 : decode cX2_next 71 = .ok (.getfield 40, 3) := dk_180 0 40 (dk_at dksX2_next_3 1 rfl rfl)
theorem dX2_next_74 : decode cX2_next 74 = .ok (.invokevirtual 43, 3) := dk_182 0 43 (dk_at dksX2_next_3 4 rfl rfl)
theorem dX2_next_77 : decode cX2_next 77 = .ok (.invokestatic 50, 3) := dk_184 0 50 (dk_at dksX2_next_3 7 rfl rfl)
theorem dX2_next_80 : decode cX2_next 80 = .ok (.ifCond .eq 47, 3) := dk_153 0 47 (dk_at dksX2_next_3 10 rfl rfl)
theorem dX2_next_83 : decode cX2_next 83 = .ok (.aload_n 0, 1) := dk_42 (dk_at dksX2_next_3 13 rfl rfl)
theorem dX2_next_84 : decode cX2_next 84 = .ok (.getfield 40, 3) := dk_180 0 40 (dk_at dksX2_next_3 14 rfl rfl)
theorem dX2_next_87 : decode cX2_next 87 = .ok (.iload_n 1, 1) := dk_27 (dk_at dksX2_next_3 17 rfl rfl)
theorem dX2_next_88 : decode cX2_next 88 = .ok (.isub, 1) := dk_100 (dk_at dksX2_next_3 18 rfl rfl)
theorem dX2_next_89 : decode cX2_next 89 = .ok (.bipush 8, 2) := dk_16 8 (dk_at dksX2_next_3 19 rfl rfl)
theorem dX2_next_91 : decode cX2_next 91 = .ok (.if_icmp .ge 23, 3) := dk_162 0 23 (dk_at dksX2_next_3 21 rfl rfl)
theorem dX2_next_94 : decode cX2_next 94 = .ok (.aload_n 0, 1) := dk_42 (dk_at dksX2_next_4 0 rfl rfl)
theorem dX2_next_95 : decode cX2_next 95 = .ok (.getfield 18, 3) := dk_180 0 18 (dk_at dksX2_next_4 1 rfl rfl)
theorem dX2_next_98 : decode cX2_next 98 = .ok (.aload_n 0, 1) := dk_42 (dk_at dksX2_next_4 4 rfl rfl)
theorem dX2_next_99 : decode cX2_next 99 = .ok (.getfield 40, 3) := dk_180 0 40 (dk_at dksX2_next_4 5 rfl rfl)
theorem dX2_next_102 : decode cX2_next 102 = .ok (.iload_n 1, 1) := dk_27 (dk_at dksX2_next_4 8 rfl rfl)
theorem dX2_next_103 : decode cX2_next 103 = .ok (.isub, 1) := dk_100 (dk_at dksX2_next_4 9 rfl rfl)
theorem dX2_next_104 : decode cX2_next 104 = .ok (.aload_n 0, 1) := dk_42 (dk_at dksX2_next_4 10 rfl rfl)
theorem dX2_next_105 : decode cX2_next 105 = .ok (.aload_n 0, 1) := dk_42 (dk_at dksX2_next_4 11 rfl rfl)
theorem dX2_next_106 : decode cX2_next 106 = .ok (.getfield 40, 3) := dk_180 0 40 (dk_at dksX2_next_4 12 rfl rfl)
theorem dX2_next_109 : decode cX2_next 109 = .ok (.invokevirtual 43, 3) := dk_182 0 43 (dk_at dksX2_next_4 15 rfl rfl)
theorem dX2_next_112 : decode cX2_next 112 = .ok (.i2c, 1) := dk_146 (dk_at dksX2_next_4 18 rfl rfl)
theorem dX2_next_113 : decode cX2_next 113 = .ok (.castore, 1) := dk_85 (dk_at dksX2_next_4 19 rfl rfl)
theorem dX2_next_114 : decode cX2_next 114 = .ok (.aload_n 0, 1) := dk_42 (dk_at dksX2_next_4 20 rfl rfl)
theorem dX2_next_115 : decode cX2_next 115 = .ok (.dup, 1) := dk_89 (dk_at dksX2_next_4 21 rfl rfl)
theorem dX2_next_116 : decode cX2_next 116 = .ok (.getfield 40, 3) := dk_180 0 40 (dk_at dksX2_next_5 0 rfl rfl)
theorem dX2_next_119 : decode cX2_next 119 = .ok (.iconst 1, 1) := dk_4 (dk_at dksX2_next_5 3 rfl rfl)
theorem dX2_next_120 : decode cX2_next 120 = .ok (.iadd, 1) := dk_96 (dk_at dksX2_next_5 4 rfl rfl)
theorem dX2_next_121 : decode cX2_next 121 = .ok (.putfield 40, 3) := dk_181 0 40 (dk_at dksX2_next_5 5 rfl rfl)
theorem dX2_next_124 : decode cX2_next 124 = .ok (.goto (-55), 3) := dk_167 255 201 (dk_at dksX2_next_5 8 rfl rfl)
theorem dX2_next_127 : decode cX2_next 127 = .ok (.aload_n 0, 1) := dk_42 (dk_at dksX2_next_5 11 rfl rfl)
theorem dX2_next_128 : decode cX2_next 128 = .ok (.aload_n 0, 1) := dk_42 (dk_at dksX2_next_5 12 rfl rfl)
theorem dX2_next_129 : decode cX2_next 129 = .ok (.getfield 40, 3) := dk_180 0 40 (dk_at dksX2_next_5 13 rfl rfl)
theorem dX2_next_132 : decode cX2_next 132 = .ok (.iload_n 1, 1) := dk_27 (dk_at dksX2_next_5 16 rfl rfl)
theorem dX2_next_133 : decode cX2_next 133 = .ok (.isub, 1) := dk_100 (dk_at dksX2_next_5 17 rfl rfl)
theorem dX2_next_134 : decode cX2_next 134 = .ok (.bipush 8, 2) := dk_16 8 (dk_at dksX2_next_5 18 rfl rfl)
theorem dX2_next_136 : decode cX2_next 136 = .ok (.if_icmp .le 7, 3) := dk_164 0 7 (dk_at dksX2_next_5 20 rfl rfl)
theorem dX2_next_139 : decode cX2_next 139 = .ok (.iconst 1, 1) := dk_4 (dk_at dksX2_next_5 23 rfl rfl)
theorem dX2_next_140 : decode cX2_next 140 = .ok (.goto 4, 3) := dk_167 0 4 (dk_at dksX2_next_6 0 rfl rfl)
theorem dX2_next_143 : decode cX2_next 143 = .ok (.iconst 2, 1) := dk_5 (dk_at dksX2_next_6 3 rfl rfl)
theorem dX2_next_144 : decode cX2_next 144 = .ok (.putfield 47, 3) := dk_181 0 47 (dk_at dksX2_next_6 4 rfl rfl)
theorem dX2_next_147 : decode cX2_next 147 = .ok (.aload_n 0, 1) := dk_42 (dk_at dksX2_next_6 7 rfl rfl)
theorem dX2_next_148 : decode cX2_next 148 = .ok (.aload_n 0, 1) := dk_42 (dk_at dksX2_next_6 8 rfl rfl)
theorem dX2_next_149 : decode cX2_next 149 = .ok (.getfield 47, 3) := dk_180 0 47 (dk_at dksX2_next_6 9 rfl rfl)
theorem dX2_next_152 : decode cX2_next 152 = .ok (.iconst 2, 1) := dk_5 (dk_at dksX2_next_6 12 rfl rfl)
theorem dX2_next_153 : decode cX2_next 153 = .ok (.if_icmp .ne 24, 3) := dk_160 0 24 (dk_at dksX2_next_6 13 rfl rfl)
theorem dX2_next_156 : decode cX2_next 156 = .ok (.new 54, 3) := dk_187 0 54 (dk_at dksX2_next_6 16 rfl rfl)
theorem dX2_next_159 : decode cX2_next 159 = .ok (.dup, 1) := dk_89 (dk_at dksX2_next_6 19 rfl rfl)
theorem dX2_next_160 : decode cX2_next 160 = .ok (.aload_n 0, 1) := dk_42 (dk_at dksX2_next_6 20 rfl rfl)
theorem dX2_next_161 : decode cX2_next 161 = .ok (.getfield 18, 3) := dk_180 0 18 (dk_at dksX2_next_6 21 rfl rfl)
theorem dX2_next_164 : decode cX2_next 164 = .ok (.iconst 0, 1) := dk_3 (dk_at dksX2_next_7 0 rfl rfl)
theorem dX2_next_165 : decode cX2_next 165 = .ok (.aload_n 0, 1) := dk_42 (dk_at dksX2_next_7 1 rfl rfl)
theorem dX2_next_166 : decode cX2_next 166 = .ok (.getfield 40, 3) := dk_180 0 40 (dk_at dksX2_next_7 2 rfl rfl)
theorem dX2_next_169 : decode cX2_next 169 = .ok (.iload_n 1, 1) := dk_27 (dk_at dksX2_next_7 5 rfl rfl)
theorem dX2_next_170 : decode cX2_next 170 = .ok (.isub, 1) := dk_100 (dk_at dksX2_next_7 6 rfl rfl)
theorem dX2_next_171 : decode cX2_next 171 = .ok (.invokespecial 56, 3) := dk_183 0 56 (dk_at dksX2_next_7 7 rfl rfl)
theorem dX2_next_174 : decode cX2_next 174 = .ok (.goto 5, 3) := dk_167 0 5 (dk_at dksX2_next_7 10 rfl rfl)
theorem dX2_next_177 : decode cX2_next 177 = .ok (.ldc 59, 2) := dk_18 59 (dk_at dksX2_next_7 13 rfl rfl)
theorem dX2_next_179 : decode cX2_next 179 = .ok (.putfield 61, 3) := dk_181 0 61 (dk_at dksX2_next_7 15 rfl rfl)
theorem dX2_next_182 : decode cX2_next 182 = .ok (.goto 123, 3) := dk_167 0 123 (dk_at dksX2_next_7 18 rfl rfl)
theorem dX2_next_185 : decode cX2_next 185 = .ok (.iload_n 2, 1) := dk_28 (dk_at dksX2_next_7 21 rfl rfl)
theorem dX2_next_186 : decode cX2_next 186 = .ok (.invokestatic 65, 3) := dk_184 0 65 (dk_at dksX2_next_8 0 rfl rfl)
theorem dX2_next_189 : decode cX2_next 189 = .ok (.ifCond .eq 95, 3) := dk_153 0 95 (dk_at dksX2_next_8 3 rfl rfl)
theorem dX2_next_192 : decode cX2_next 192 = .ok (.aload_n 0, 1) := dk_42 (dk_at dksX2_next_8 6 rfl rfl)
theorem dX2_next_193 : decode cX2_next 193 = .ok (.iconst 0, 1) := dk_3 (dk_at dksX2_next_8 7 rfl rfl)
theorem dX2_next_194 : decode cX2_next 194 = .ok (.putfield 68, 3) := dk_181 0 68 (dk_at dksX2_next_8 8 rfl rfl)
theorem dX2_next_197 : decode cX2_next 197 = .ok (.aload_n 0, 1) := dk_42 (dk_at dksX2_next_8 11 rfl rfl)
theorem dX2_next_198 : decode cX2_next 198 = .ok (.iload_n 1, 1) := dk_27 (dk_at dksX2_next_8 12 rfl rfl)
theorem dX2_next_199 : decode cX2_next 199 = .ok (.putfield 40, 3) := dk_181 0 40 (dk_at dksX2_next_8 13 rfl rfl)
theorem dX2_next_202 : decode cX2_next 202 = .ok (.aload_n 0, 1) := dk_42 (dk_at dksX2_next_8 16 rfl rfl)
theorem dX2_next_203 : decode cX2_next 203 = .ok (.aload_n 0, 1) := dk_42 (dk_at dksX2_next_8 17 rfl rfl)
theorem dX2_next_204 : decode cX2_next 204 = .ok (.getfield 40, 3) := dk_180 0 40 (dk_at dksX2_next_8 18 rfl rfl)
theorem dX2_next_207 : decode cX2_next 207 = .ok (.invokevirtual 43, 3) := dk_182 0 43 (dk_at dksX2_next_8 21 rfl rfl)
theorem dX2_next_210 : decode cX2_next 210 = .ok (.invokestatic 65, 3) := dk_184 0 65 (dk_at dksX2_next_9 0 rfl rfl)
theorem dX2_next_213 : decode cX2_next 213 = .ok (.ifCond .eq 49, 3) := dk_153 0 49 (dk_at dksX2_next_9 3 rfl rfl)
theorem dX2_next_216 : decode cX2_next 216 = .ok (.aload_n 0, 1) := dk_42 (dk_at dksX2_next_9 6 rfl rfl)
theorem dX2_next_217 : decode cX2_next 217 = .ok (.getfield 40, 3) := dk_180 0 40 (dk_at dksX2_next_9 7 rfl rfl)
theorem dX2_next_220 : decode cX2_next 220 = .ok (.iload_n 1, 1) := dk_27 (dk_at dksX2_next_9 10 rfl rfl)
theorem dX2_next_221 : decode cX2_next 221 = .ok (.isub, 1) := dk_100 (dk_at dksX2_next_9 11 rfl rfl)
theorem dX2_next_222 : decode cX2_next 222 = .ok (.iconst 3, 1) := dk_6 (dk_at dksX2_next_9 12 rfl rfl)
theorem dX2_next_223 : decode cX2_next 223 = .ok (.if_icmp .ge 26, 3) := dk_162 0 26 (dk_at dksX2_next_9 13 rfl rfl)
theorem dX2_next_226 : decode cX2_next 226 = .ok (.aload_n 0, 1) := dk_42 (dk_at dksX2_next_9 16 rfl rfl)
theorem dX2_next_227 : decode cX2_next 227 = .ok (.bipush 10, 2) := dk_16 10 (dk_at dksX2_next_9 17 rfl rfl)
theorem dX2_next_229 : decode cX2_next 229 = .ok (.aload_n 0, 1) := dk_42 (dk_at dksX2_next_9 19 rfl rfl)
theorem dX2_next_230 : decode cX2_next 230 = .ok (.getfield 68, 3) := dk_180 0 68 (dk_at dksX2_next_9 20 rfl rfl)
theorem dX2_next_233 : decode cX2_next 233 = .ok (.imul, 1) := dk_104 (dk_at dksX2_next_9 23 rfl rfl)
theorem dX2_next_234 : decode cX2_next 234 = .ok (.aload_n 0, 1) := dk_42 (dk_at dksX2_next_10 0 rfl rfl)
theorem dX2_next_235 : decode cX2_next 235 = .ok (.aload_n 0, 1) := dk_42 (dk_at dksX2_next_10 1 rfl rfl)
theorem dX2_next_236 : decode cX2_next 236 = .ok (.getfield 40, 3) := dk_180 0 40 (dk_at dksX2_next_10 2 rfl rfl)
theorem dX2_next_239 : decode cX2_next 239 = .ok (.invokevirtual 43, 3) := dk_182 0 43 (dk_at dksX2_next_10 5 rfl rfl)
theorem dX2_next_242 : decode cX2_next 242 = .ok (.iadd, 1) := dk_96 (dk_at dksX2_next_10 8 rfl rfl)
theorem dX2_next_243 : decode cX2_next 243 = .ok (.bipush 48, 2) := dk_16 48 (dk_at dksX2_next_10 9 rfl rfl)
theorem dX2_next_245 : decode cX2_next 245 = .ok (.isub, 1) := dk_100 (dk_at dksX2_next_10 11 rfl rfl)
theorem dX2_next_246 : decode cX2_next 246 = .ok (.putfield 68, 3) := dk_181 0 68 (dk_at dksX2_next_10 12 rfl rfl)
theorem dX2_next_249 : decode cX2_next 249 = .ok (.aload_n 0, 1) := dk_42 (dk_at dksX2_next_10 15 rfl rfl)
theorem dX2_next_250 : decode cX2_next 250 = .ok (.dup, 1) := dk_89 (dk_at dksX2_next_10 16 rfl rfl)
theorem dX2_next_251 : decode cX2_next 251 = .ok (.getfield 40, 3) := dk_180 0 40 (dk_at dksX2_next_10 17 rfl rfl)
theorem dX2_next_254 : decode cX2_next 254 = .ok (.iconst 1, 1) := dk_4 (dk_at dksX2_next_10 20 rfl rfl)
theorem dX2_next_255 : decode cX2_next 255 = .ok (.iadd, 1) := dk_96 (dk_at dksX2_next_10 21 rfl rfl)
theorem dX2_next_256 : decode cX2_next 256 = .ok (.putfield 40, 3) := dk_181 0 40 (dk_at dksX2_next_11 0 rfl rfl)
theorem dX2_next_259 : decode cX2_next 259 = .ok (.goto (-57), 3) := dk_167 255 199 (dk_at dksX2_next_11 3 rfl rfl)
theorem dX2_next_262 : decode cX2_next 262 = .ok (.aload_n 0, 1) := dk_42 (dk_at dksX2_next_11 6 rfl rfl)
theorem dX2_next_263 : decode cX2_next 263 = .ok (.aload_n 0, 1) := dk_42 (dk_at dksX2_next_11 7 rfl rfl)
theorem dX2_next_264 : decode cX2_next 264 = .ok (.getfield 40, 3) := dk_180 0 40 (dk_at dksX2_next_11 8 rfl rfl)
theorem dX2_next_267 : decode cX2_next 267 = .ok (.iload_n 1, 1) := dk_27 (dk_at dksX2_next_11 11 rfl rfl)
theorem dX2_next_268 : decode cX2_next 268 = .ok (.isub, 1) := dk_100 (dk_at dksX2_next_11 12 rfl rfl)
theorem dX2_next_269 : decode cX2_next 269 = .ok (.iconst 3, 1) := dk_6 (dk_at dksX2_next_11 13 rfl rfl)
theorem dX2_next_270 : decode cX2_next 270 = .ok (.if_icmp .le 7, 3) := dk_164 0 7 (dk_at dksX2_next_11 14 rfl rfl)
theorem dX2_next_273 : decode cX2_next 273 = .ok (.iconst 1, 1) := dk_4 (dk_at dksX2_next_11 17 rfl rfl)
theorem dX2_next_274 : decode cX2_next 274 = .ok (.goto 4, 3) := dk_167 0 4 (dk_at dksX2_next_11 18 rfl rfl)
theorem dX2_next_277 : decode cX2_next 277 = .ok (.iconst 3, 1) := dk_6 (dk_at dksX2_next_11 21 rfl rfl)
theorem dX2_next_278 : decode cX2_next 278 = .ok (.putfield 47, 3) := dk_181 0 47 (dk_at dksX2_next_12 0 rfl rfl)
theorem dX2_next_281 : decode cX2_next 281 = .ok (.goto 24, 3) := dk_167 0 24 (dk_at dksX2_next_12 3 rfl rfl)
theorem dX2_next_284 : decode cX2_next 284 = .ok (.aload_n 0, 1) := dk_42 (dk_at dksX2_next_12 6 rfl rfl)
theorem dX2_next_285 : decode cX2_next 285 = .ok (.iload_n 2, 1) := dk_28 (dk_at dksX2_next_12 7 rfl rfl)
theorem dX2_next_286 : decode cX2_next 286 = .ok (.bipush 59, 2) := dk_16 59 (dk_at dksX2_next_12 8 rfl rfl)
theorem dX2_next_288 : decode cX2_next 288 = .ok (.if_icmp .eq 9, 3) := dk_159 0 9 (dk_at dksX2_next_12 10 rfl rfl)
theorem dX2_next_291 : decode cX2_next 291 = .ok (.iload_n 2, 1) := dk_28 (dk_at dksX2_next_12 13 rfl rfl)
theorem dX2_next_292 : decode cX2_next 292 = .ok (.bipush 44, 2) := dk_16 44 (dk_at dksX2_next_12 14 rfl rfl)
theorem dX2_next_294 : decode cX2_next 294 = .ok (.if_icmp .ne 7, 3) := dk_160 0 7 (dk_at dksX2_next_12 16 rfl rfl)
theorem dX2_next_297 : decode cX2_next 297 = .ok (.iload_n 2, 1) := dk_28 (dk_at dksX2_next_12 19 rfl rfl)
theorem dX2_next_298 : decode cX2_next 298 = .ok (.goto 4, 3) := dk_167 0 4 (dk_at dksX2_next_12 20 rfl rfl)
theorem dX2_next_301 : decode cX2_next 301 = .ok (.iconst 1, 1) := dk_4 (dk_at dksX2_next_12 23 rfl rfl)
theorem dX2_next_302 : decode cX2_next 302 = .ok (.putfield 47, 3) := dk_181 0 47 (dk_at dksX2_next_13 0 rfl rfl)
theorem dX2_next_305 : decode cX2_next 305 = .ok (.return_, 1) := dk_177 (dk_at dksX2_next_13 3 rfl rfl)
abbrev cX2_see : ByteArray := prog_11_method_3_code
def yX2_see : MethodName := ⟨RX2, "see", "(I)I"⟩
def dkwX2_see_0 : List UInt8 := [27, 42, 180, 0, 33, 162, 0, 16, 42, 180, 0, 22, 27, 51, 17, 0, 255, 126, 167, 0, 4, 2, 172]
abbrev dktX2_see_0 : List UInt8 := dkwX2_see_0 ++ []
theorem dksX2_see_0 : cX2_see.data.toList.drop 0 = dktX2_see_0 := by decide +kernel
theorem dX2_see_0 : decode cX2_see 0 = .ok (.iload_n 1, 1) := dk_27 (dk_at dksX2_see_0 0 rfl rfl)
theorem dX2_see_1 : decode cX2_see 1 = .ok (.aload_n 0, 1) := dk_42 (dk_at dksX2_see_0 1 rfl rfl)
theorem dX2_see_2 : decode cX2_see 2 = .ok (.getfield 33, 3) := dk_180 0 33 (dk_at dksX2_see_0 2 rfl rfl)
theorem dX2_see_5 : decode cX2_see 5 = .ok (.if_icmp .ge 16, 3) := dk_162 0 16 (dk_at dksX2_see_0 5 rfl rfl)
theorem dX2_see_8 : decode cX2_see 8 = .ok (.aload_n 0, 1) := dk_42 (dk_at dksX2_see_0 8 rfl rfl)
theorem dX2_see_9 : decode cX2_see 9 = .ok (.getfield 22, 3) := dk_180 0 22 (dk_at dksX2_see_0 9 rfl rfl)
theorem dX2_see_12 : decode cX2_see 12 = .ok (.iload_n 1, 1) := dk_27 (dk_at dksX2_see_0 12 rfl rfl)
theorem dX2_see_13 : decode cX2_see 13 = .ok (.baload, 1) := dk_51 (dk_at dksX2_see_0 13 rfl rfl)
theorem dX2_see_14 : decode cX2_see 14 = .ok (.sipush 255, 3) := dk_17 0 255 (dk_at dksX2_see_0 14 rfl rfl)
theorem dX2_see_17 : decode cX2_see 17 = .ok (.iand, 1) := dk_126 (dk_at dksX2_see_0 17 rfl rfl)
theorem dX2_see_18 : decode cX2_see 18 = .ok (.goto 4, 3) := dk_167 0 4 (dk_at dksX2_see_0 18 rfl rfl)
theorem dX2_see_21 : decode cX2_see 21 = .ok (.iconst (-1), 1) := dk_2 (dk_at dksX2_see_0 21 rfl rfl)
theorem dX2_see_22 : decode cX2_see 22 = .ok (.ireturn, 1) := dk_172 (dk_at dksX2_see_0 22 rfl rfl)
abbrev cX2_isSmall : ByteArray := prog_11_method_4_code
def yX2_isSmall : MethodName := ⟨RX2, "isSmall", "(I)Z"⟩
def dkwX2_isSmall_0 : List UInt8 := [26, 16, 97, 16, 122, 184, 0, 36, 172]
abbrev dktX2_isSmall_0 : List UInt8 := dkwX2_isSmall_0 ++ []
theorem dksX2_isSmall_0 : cX2_isSmall.data.toList.drop 0 = dktX2_isSmall_0 := by decide +kernel
theorem dX2_isSmall_0 : decode cX2_isSmall 0 = .ok (.iload_n 0, 1) := dk_26 (dk_at dksX2_isSmall_0 0 rfl rfl)
theorem dX2_isSmall_1 : decode cX2_isSmall 1 = .ok (.bipush 97, 2) := dk_16 97 (dk_at dksX2_isSmall_0 1 rfl rfl)
theorem dX2_isSmall_3 : decode cX2_isSmall 3 = .ok (.bipush 122, 2) := dk_16 122 (dk_at dksX2_isSmall_0 3 rfl rfl)
theorem dX2_isSmall_5 : decode cX2_isSmall 5 = .ok (.invokestatic 36, 3) := dk_184 0 36 (dk_at dksX2_isSmall_0 5 rfl rfl)
theorem dX2_isSmall_8 : decode cX2_isSmall 8 = .ok (.ireturn, 1) := dk_172 (dk_at dksX2_isSmall_0 8 rfl rfl)
abbrev cX2_isDigit : ByteArray := prog_11_method_5_code
def yX2_isDigit : MethodName := ⟨RX2, "isDigit", "(I)Z"⟩
def dkwX2_isDigit_0 : List UInt8 := [26, 16, 48, 16, 57, 184, 0, 36, 172]
abbrev dktX2_isDigit_0 : List UInt8 := dkwX2_isDigit_0 ++ []
theorem dksX2_isDigit_0 : cX2_isDigit.data.toList.drop 0 = dktX2_isDigit_0 := by decide +kernel
theorem dX2_isDigit_0 : decode cX2_isDigit 0 = .ok (.iload_n 0, 1) := dk_26 (dk_at dksX2_isDigit_0 0 rfl rfl)
theorem dX2_isDigit_1 : decode cX2_isDigit 1 = .ok (.bipush 48, 2) := dk_16 48 (dk_at dksX2_isDigit_0 1 rfl rfl)
theorem dX2_isDigit_3 : decode cX2_isDigit 3 = .ok (.bipush 57, 2) := dk_16 57 (dk_at dksX2_isDigit_0 3 rfl rfl)
theorem dX2_isDigit_5 : decode cX2_isDigit 5 = .ok (.invokestatic 36, 3) := dk_184 0 36 (dk_at dksX2_isDigit_0 5 rfl rfl)
theorem dX2_isDigit_8 : decode cX2_isDigit 8 = .ok (.ireturn, 1) := dk_172 (dk_at dksX2_isDigit_0 8 rfl rfl)
abbrev cX2_line : ByteArray := prog_11_method_17_code
def yX2_line : MethodName := ⟨RX2, "line", "()V"⟩
def dkwX2_line_18 : List UInt8 := [42, 182, 0, 193, 167, 0, 9, 42, 4, 182, 0, 85, 191, 177]
abbrev dktX2_line_18 : List UInt8 := dkwX2_line_18 ++ []
def dkwX2_line_17 : List UInt8 := [167, 0, 37, 42, 182, 0, 187, 167, 0, 30, 42, 182, 0, 189, 167, 0, 23, 42, 182, 0, 191, 167, 0, 16]
abbrev dktX2_line_17 : List UInt8 := dkwX2_line_17 ++ dktX2_line_18
def dkwX2_line_16 : List UInt8 := [89, 180, 0, 171, 4, 96, 181, 0, 171, 167, 0, 51, 42, 182, 0, 183, 167, 0, 44, 42, 182, 0, 185]
abbrev dktX2_line_16 : List UInt8 := dkwX2_line_16 ++ dktX2_line_17
def dkwX2_line_15 : List UInt8 := [180, 0, 178, 42, 180, 0, 118, 180, 0, 171, 42, 18, 181, 4, 16, 60, 182, 0, 161, 79, 42, 180, 0, 118]
abbrev dktX2_line_15 : List UInt8 := dkwX2_line_15 ++ dktX2_line_16
def dkwX2_line_14 : List UInt8 := [180, 0, 174, 42, 180, 0, 118, 180, 0, 171, 42, 3, 16, 98, 182, 0, 132, 79, 42, 180, 0, 118]
abbrev dktX2_line_14 : List UInt8 := dkwX2_line_14 ++ dktX2_line_15
def dkwX2_line_13 : List UInt8 := [180, 0, 118, 180, 0, 171, 6, 162, 0, 7, 4, 167, 0, 4, 3, 8, 182, 0, 156, 42, 180, 0, 118]
abbrev dktX2_line_13 : List UInt8 := dkwX2_line_13 ++ dktX2_line_14
def dkwX2_line_12 : List UInt8 := [181, 0, 167, 42, 180, 0, 118, 29, 181, 0, 147, 167, 0, 141, 42, 182, 0, 169, 167, 0, 134, 42, 42]
abbrev dktX2_line_12 : List UInt8 := dkwX2_line_12 ++ dktX2_line_13
def dkwX2_line_11 : List UInt8 := [16, 40, 16, 90, 182, 0, 161, 62, 42, 180, 0, 118, 42, 18, 165, 17, 2, 88, 17, 3, 132, 182, 0, 161]
abbrev dktX2_line_11 : List UInt8 := dkwX2_line_11 ++ dktX2_line_12
def dkwX2_line_10 : List UInt8 := [42, 42, 180, 0, 118, 180, 0, 147, 154, 0, 7, 4, 167, 0, 4, 3, 6, 182, 0, 156, 42, 18, 160]
abbrev dktX2_line_10 : List UInt8 := dkwX2_line_10 ++ dktX2_line_11
def dkwX2_line_9 : List UInt8 := [170, 0, 0, 0, 242, 0, 0, 0, 0, 0, 0, 0, 8, 0, 0, 0, 49, 0, 0, 0, 110, 0, 0, 0, 117, 0, 0, 0, 200, 0, 0, 0, 207, 0, 0, 0, 214, 0, 0, 0, 221, 0, 0, 0, 228, 0, 0, 0, 235]
abbrev dktX2_line_9 : List UInt8 := dkwX2_line_9 ++ dktX2_line_10
def dkwX2_line_8 : List UInt8 := [182, 0, 71, 153, 0, 6, 16, 8, 61, 28]
abbrev dktX2_line_8 : List UInt8 := dkwX2_line_8 ++ dktX2_line_9
def dkwX2_line_7 : List UInt8 := [61, 167, 0, 30, 43, 18, 107, 182, 0, 71, 153, 0, 21, 16, 7, 61, 167, 0, 15, 43, 18, 109]
abbrev dktX2_line_7 : List UInt8 := dkwX2_line_7 ++ dktX2_line_8
def dkwX2_line_6 : List UInt8 := [18, 103, 182, 0, 71, 153, 0, 50, 8, 61, 167, 0, 45, 43, 18, 105, 182, 0, 71, 153, 0, 36, 16, 6]
abbrev dktX2_line_6 : List UInt8 := dkwX2_line_6 ++ dktX2_line_7
def dkwX2_line_5 : List UInt8 := [153, 0, 78, 6, 61, 167, 0, 73, 43, 18, 101, 182, 0, 71, 153, 0, 64, 7, 61, 167, 0, 59, 43]
abbrev dktX2_line_5 : List UInt8 := dkwX2_line_5 ++ dktX2_line_6
def dkwX2_line_4 : List UInt8 := [61, 167, 0, 101, 43, 18, 97, 182, 0, 71, 153, 0, 92, 5, 61, 167, 0, 87, 43, 18, 99, 182, 0, 71]
abbrev dktX2_line_4 : List UInt8 := dkwX2_line_4 ++ dktX2_line_5
def dkwX2_line_3 : List UInt8 := [43, 18, 93, 182, 0, 71, 153, 0, 120, 3, 61, 167, 0, 115, 43, 18, 95, 182, 0, 71, 153, 0, 106, 4]
abbrev dktX2_line_3 : List UInt8 := dkwX2_line_3 ++ dktX2_line_4
def dkwX2_line_2 : List UInt8 := [171, 0, 0, 0, 0, 0, 209, 0, 0, 0, 9, 183, 58, 15, 174, 0, 0, 0, 197, 213, 248, 215, 164, 0, 0, 0, 97, 0, 1, 127, 212, 0, 0, 0, 167, 0, 1, 161, 162, 0, 0, 0, 83, 0, 46, 122, 94, 0, 0, 0, 182, 0, 47, 11, 244, 0, 0, 0, 139, 0, 47, 13, 154, 0, 0, 0, 125, 5, 208, 35, 254, 0, 0, 0, 111, 5, 237, 199, 32, 0, 0, 0, 153]
abbrev dktX2_line_2 : List UInt8 := dkwX2_line_2 ++ dktX2_line_3
def dkwX2_line_1 : List UInt8 := [182, 0, 89]
abbrev dktX2_line_1 : List UInt8 := dkwX2_line_1 ++ dktX2_line_2
def dkwX2_line_0 : List UInt8 := [42, 180, 0, 47, 5, 159, 0, 9, 42, 4, 182, 0, 85, 191, 42, 180, 0, 61, 76, 2, 61, 43]
abbrev dktX2_line_0 : List UInt8 := dkwX2_line_0 ++ dktX2_line_1
theorem dksX2_line_0 : cX2_line.data.toList.drop 0 = dktX2_line_0 := by decide +kernel
theorem dksX2_line_1 : cX2_line.data.toList.drop 22 = dktX2_line_1 := dk_seg dksX2_line_0 22 rfl rfl
theorem dksX2_line_2 : cX2_line.data.toList.drop 25 = dktX2_line_2 := dk_seg dksX2_line_1 3 rfl rfl
theorem dksX2_line_3 : cX2_line.data.toList.drop 108 = dktX2_line_3 := dk_seg dksX2_line_2 83 rfl rfl
theorem dksX2_line_4 : cX2_line.data.toList.drop 132 = dktX2_line_4 := dk_seg dksX2_line_3 24 rfl rfl
theorem dksX2_line_5 : cX2_line.data.toList.drop 156 = dktX2_line_5 := dk_seg dksX2_line_4 24 rfl rfl
theorem dksX2_line_6 : cX2_line.data.toList.drop 179 = dktX2_line_6 := dk_seg dksX2_line_5 23 rfl rfl
theorem dksX2_line_7 : cX2_line.data.toList.drop 203 = dktX2_line_7 := dk_seg dksX2_line_6 24 rfl rfl
theorem dksX2_line_8 : cX2_line.data.toList.drop 225 = dktX2_line_8 := dk_seg dksX2_line_7 22 rfl rfl
theorem dksX2_line_9 : cX2_line.data.toList.drop 235 = dktX2_line_9 := dk_seg dksX2_line_8 10 rfl rfl
theorem dksX2_line_10 : cX2_line.data.toList.drop 284 = dktX2_line_10 := dk_seg dksX2_line_9 49 rfl rfl
theorem dksX2_line_11 : cX2_line.data.toList.drop 307 = dktX2_line_11 := dk_seg dksX2_line_10 23 rfl rfl
theorem dksX2_line_12 : cX2_line.data.toList.drop 331 = dktX2_line_12 := dk_seg dksX2_line_11 24 rfl rfl
theorem dksX2_line_13 : cX2_line.data.toList.drop 354 = dktX2_line_13 := dk_seg dksX2_line_12 23 rfl rfl
theorem dksX2_line_14 : cX2_line.data.toList.drop 377 = dktX2_line_14 := dk_seg dksX2_line_13 23 rfl rfl
theorem dksX2_line_15 : cX2_line.data.toList.drop 399 = dktX2_line_15 := dk_seg dksX2_line_14 22 rfl rfl
theorem dksX2_line_16 : cX2_line.data.toList.drop 423 = dktX2_line_16 := dk_seg dksX2_line_15 24 rfl rfl
theorem dksX2_line_17 : cX2_line.data.toList.drop 446 = dktX2_line_17 := dk_seg dksX2_line_16 23 rfl rfl
theorem dksX2_line_18 : cX2_line.data.toList.drop 470 = dktX2_line_18 := dk_seg dksX2_line_17 24 rfl rfl
theorem dX2_line_0 : decode cX2_line 0 = .ok (.aload_n 0, 1) := dk_42 (dk_at dksX2_line_0 0 rfl rfl)
theorem dX2_line_1 : decode cX2_line 1 = .ok (.getfield 47, 3) := dk_180 0 47 (dk_at dksX2_line_0 1 rfl rfl)
theorem dX2_line_4 : decode cX2_line 4 = .ok (.iconst 2, 1) := dk_5 (dk_at dksX2_line_0 4 rfl rfl)
theorem dX2_line_5 : decode cX2_line 5 = .ok (.if_icmp .eq 9, 3) := dk_159 0 9 (dk_at dksX2_line_0 5 rfl rfl)
theorem dX2_line_8 : decode cX2_line 8 = .ok (.aload_n 0, 1) := dk_42 (dk_at dksX2_line_0 8 rfl rfl)
theorem dX2_line_9 : decode cX2_line 9 = .ok (.iconst 1, 1) := dk_4 (dk_at dksX2_line_0 9 rfl rfl)
theorem dX2_line_10 : decode cX2_line 10 = .ok (.invokevirtual 85, 3) := dk_182 0 85 (dk_at dksX2_line_0 10 rfl rfl)
theorem dX2_line_13 : decode cX2_line 13 = .ok (.athrow, 1) := dk_191 (dk_at dksX2_line_0 13 rfl rfl)
theorem dX2_line_14 : decode cX2_line 14 = .ok (.aload_n 0, 1) := dk_42 (dk_at dksX2_line_0 14 rfl rfl)
theorem dX2_line_15 : decode cX2_line 15 = .ok (.getfield 61, 3) := dk_180 0 61 (dk_at dksX2_line_0 15 rfl rfl)
theorem dX2_line_18 : decode cX2_line 18 = .ok (.astore_n 1, 1) := dk_76 (dk_at dksX2_line_0 18 rfl rfl)
theorem dX2_line_19 : decode cX2_line 19 = .ok (.iconst (-1), 1) := dk_2 (dk_at dksX2_line_0 19 rfl rfl)
theorem dX2_line_20 : decode cX2_line 20 = .ok (.istore_n 2, 1) := dk_61 (dk_at dksX2_line_0 20 rfl rfl)
theorem dX2_line_21 : decode cX2_line 21 = .ok (.aload_n 1, 1) := dk_43 (dk_at dksX2_line_0 21 rfl rfl)
theorem dX2_line_22 : decode cX2_line 22 = .ok (.invokevirtual 89, 3) := dk_182 0 89 (dk_at dksX2_line_1 0 rfl rfl)
theorem dX2_line_25 : decode cX2_line 25 = .ok (.lookupswitch 209 #[(-1220931666, 197), (-705112156, 97), (98260, 167), (106914, 83), (3045982, 182), (3083252, 139), (3083674, 125), (97526782, 111), (99469088, 153)], 83) := by decide +kernel
theorem dX2_line_108 : decode cX2_line 108 = .ok (.aload_n 1, 1) := dk_43 (dk_at dksX2_line_3 0 rfl rfl)
theorem dX2_line_109 : decode cX2_line 109 = .ok (.ldc 93, 2) := dk_18 93 (dk_at dksX2_line_3 1 rfl rfl)
theorem dX2_line_111 : decode cX2_line 111 = .ok (.invokevirtual 71, 3) := dk_182 0 71 (dk_at dksX2_line_3 3 rfl rfl)
theorem dX2_line_114 : decode cX2_line 114 = .ok (.ifCond .eq 120, 3) := dk_153 0 120 (dk_at dksX2_line_3 6 rfl rfl)
theorem dX2_line_117 : decode cX2_line 117 = .ok (.iconst 0, 1) := dk_3 (dk_at dksX2_line_3 9 rfl rfl)
theorem dX2_line_118 : decode cX2_line 118 = .ok (.istore_n 2, 1) := dk_61 (dk_at dksX2_line_3 10 rfl rfl)
theorem dX2_line_119 : decode cX2_line 119 = .ok (.goto 115, 3) := dk_167 0 115 (dk_at dksX2_line_3 11 rfl rfl)
theorem dX2_line_122 : decode cX2_line 122 = .ok (.aload_n 1, 1) := dk_43 (dk_at dksX2_line_3 14 rfl rfl)
theorem dX2_line_123 : decode cX2_line 123 = .ok (.ldc 95, 2) := dk_18 95 (dk_at dksX2_line_3 15 rfl rfl)
theorem dX2_line_125 : decode cX2_line 125 = .ok (.invokevirtual 71, 3) := dk_182 0 71 (dk_at dksX2_line_3 17 rfl rfl)
theorem dX2_line_128 : decode cX2_line 128 = .ok (.ifCond .eq 106, 3) := dk_153 0 106 (dk_at dksX2_line_3 20 rfl rfl)
theorem dX2_line_131 : decode cX2_line 131 = .ok (.iconst 1, 1) := dk_4 (dk_at dksX2_line_3 23 rfl rfl)
theorem dX2_line_132 : decode cX2_line 132 = .ok (.istore_n 2, 1) := dk_61 (dk_at dksX2_line_4 0 rfl rfl)
theorem dX2_line_133 : decode cX2_line 133 = .ok (.goto 101, 3) := dk_167 0 101 (dk_at dksX2_line_4 1 rfl rfl)
theorem dX2_line_136 : decode cX2_line 136 = .ok (.aload_n 1, 1) := dk_43 (dk_at dksX2_line_4 4 rfl rfl)
theorem dX2_line_137 : decode cX2_line 137 = .ok (.ldc 97, 2) := dk_18 97 (dk_at dksX2_line_4 5 rfl rfl)
theorem dX2_line_139 : decode cX2_line 139 = .ok (.invokevirtual 71, 3) := dk_182 0 71 (dk_at dksX2_line_4 7 rfl rfl)
theorem dX2_line_142 : decode cX2_line 142 = .ok (.ifCond .eq 92, 3) := dk_153 0 92 (dk_at dksX2_line_4 10 rfl rfl)
theorem dX2_line_145 : decode cX2_line 145 = .ok (.iconst 2, 1) := dk_5 (dk_at dksX2_line_4 13 rfl rfl)
theorem dX2_line_146 : decode cX2_line 146 = .ok (.istore_n 2, 1) := dk_61 (dk_at dksX2_line_4 14 rfl rfl)
theorem dX2_line_147 : decode cX2_line 147 = .ok (.goto 87, 3) := dk_167 0 87 (dk_at dksX2_line_4 15 rfl rfl)
theorem dX2_line_150 : decode cX2_line 150 = .ok (.aload_n 1, 1) := dk_43 (dk_at dksX2_line_4 18 rfl rfl)
theorem dX2_line_151 : decode cX2_line 151 = .ok (.ldc 99, 2) := dk_18 99 (dk_at dksX2_line_4 19 rfl rfl)
theorem dX2_line_153 : decode cX2_line 153 = .ok (.invokevirtual 71, 3) := dk_182 0 71 (dk_at dksX2_line_4 21 rfl rfl)
theorem dX2_line_156 : decode cX2_line 156 = .ok (.ifCond .eq 78, 3) := dk_153 0 78 (dk_at dksX2_line_5 0 rfl rfl)
theorem dX2_line_159 : decode cX2_line 159 = .ok (.iconst 3, 1) := dk_6 (dk_at dksX2_line_5 3 rfl rfl)
theorem dX2_line_160 : decode cX2_line 160 = .ok (.istore_n 2, 1) := dk_61 (dk_at dksX2_line_5 4 rfl rfl)
theorem dX2_line_161 : decode cX2_line 161 = .ok (.goto 73, 3) := dk_167 0 73 (dk_at dksX2_line_5 5 rfl rfl)
theorem dX2_line_164 : decode cX2_line 164 = .ok (.aload_n 1, 1) := dk_43 (dk_at dksX2_line_5 8 rfl rfl)
theorem dX2_line_165 : decode cX2_line 165 = .ok (.ldc 101, 2) := dk_18 101 (dk_at dksX2_line_5 9 rfl rfl)
theorem dX2_line_167 : decode cX2_line 167 = .ok (.invokevirtual 71, 3) := dk_182 0 71 (dk_at dksX2_line_5 11 rfl rfl)
theorem dX2_line_170 : decode cX2_line 170 = .ok (.ifCond .eq 64, 3) := dk_153 0 64 (dk_at dksX2_line_5 14 rfl rfl)
theorem dX2_line_173 : decode cX2_line 173 = .ok (.iconst 4, 1) := dk_7 (dk_at dksX2_line_5 17 rfl rfl)
theorem dX2_line_174 : decode cX2_line 174 = .ok (.istore_n 2, 1) := dk_61 (dk_at dksX2_line_5 18 rfl rfl)
theorem dX2_line_175 : decode cX2_line 175 = .ok (.goto 59, 3) := dk_167 0 59 (dk_at dksX2_line_5 19 rfl rfl)
theorem dX2_line_178 : decode cX2_line 178 = .ok (.aload_n 1, 1) := dk_43 (dk_at dksX2_line_5 22 rfl rfl)
theorem dX2_line_179 : decode cX2_line 179 = .ok (.ldc 103, 2) := dk_18 103 (dk_at dksX2_line_6 0 rfl rfl)
theorem dX2_line_181 : decode cX2_line 181 = .ok (.invokevirtual 71, 3) := dk_182 0 71 (dk_at dksX2_line_6 2 rfl rfl)
theorem dX2_line_184 : decode cX2_line 184 = .ok (.ifCond .eq 50, 3) := dk_153 0 50 (dk_at dksX2_line_6 5 rfl rfl)
theorem dX2_line_187 : decode cX2_line 187 = .ok (.iconst 5, 1) := dk_8 (dk_at dksX2_line_6 8 rfl rfl)
theorem dX2_line_188 : decode cX2_line 188 = .ok (.istore_n 2, 1) := dk_61 (dk_at dksX2_line_6 9 rfl rfl)
theorem dX2_line_189 : decode cX2_line 189 = .ok (.goto 45, 3) := dk_167 0 45 (dk_at dksX2_line_6 10 rfl rfl)
theorem dX2_line_192 : decode cX2_line 192 = .ok (.aload_n 1, 1) := dk_43 (dk_at dksX2_line_6 13 rfl rfl)
theorem dX2_line_193 : decode cX2_line 193 = .ok (.ldc 105, 2) := dk_18 105 (dk_at dksX2_line_6 14 rfl rfl)
theorem dX2_line_195 : decode cX2_line 195 = .ok (.invokevirtual 71, 3) := dk_182 0 71 (dk_at dksX2_line_6 16 rfl rfl)
theorem dX2_line_198 : decode cX2_line 198 = .ok (.ifCond .eq 36, 3) := dk_153 0 36 (dk_at dksX2_line_6 19 rfl rfl)
theorem dX2_line_201 : decode cX2_line 201 = .ok (.bipush 6, 2) := dk_16 6 (dk_at dksX2_line_6 22 rfl rfl)
theorem dX2_line_203 : decode cX2_line 203 = .ok (.istore_n 2, 1) := dk_61 (dk_at dksX2_line_7 0 rfl rfl)
theorem dX2_line_204 : decode cX2_line 204 = .ok (.goto 30, 3) := dk_167 0 30 (dk_at dksX2_line_7 1 rfl rfl)
theorem dX2_line_207 : decode cX2_line 207 = .ok (.aload_n 1, 1) := dk_43 (dk_at dksX2_line_7 4 rfl rfl)
theorem dX2_line_208 : decode cX2_line 208 = .ok (.ldc 107, 2) := dk_18 107 (dk_at dksX2_line_7 5 rfl rfl)
theorem dX2_line_210 : decode cX2_line 210 = .ok (.invokevirtual 71, 3) := dk_182 0 71 (dk_at dksX2_line_7 7 rfl rfl)
theorem dX2_line_213 : decode cX2_line 213 = .ok (.ifCond .eq 21, 3) := dk_153 0 21 (dk_at dksX2_line_7 10 rfl rfl)
theorem dX2_line_216 : decode cX2_line 216 = .ok (.bipush 7, 2) := dk_16 7 (dk_at dksX2_line_7 13 rfl rfl)
theorem dX2_line_218 : decode cX2_line 218 = .ok (.istore_n 2, 1) := dk_61 (dk_at dksX2_line_7 15 rfl rfl)
theorem dX2_line_219 : decode cX2_line 219 = .ok (.goto 15, 3) := dk_167 0 15 (dk_at dksX2_line_7 16 rfl rfl)
theorem dX2_line_222 : decode cX2_line 222 = .ok (.aload_n 1, 1) := dk_43 (dk_at dksX2_line_7 19 rfl rfl)
theorem dX2_line_223 : decode cX2_line 223 = .ok (.ldc 109, 2) := dk_18 109 (dk_at dksX2_line_7 20 rfl rfl)
theorem dX2_line_225 : decode cX2_line 225 = .ok (.invokevirtual 71, 3) := dk_182 0 71 (dk_at dksX2_line_8 0 rfl rfl)
theorem dX2_line_228 : decode cX2_line 228 = .ok (.ifCond .eq 6, 3) := dk_153 0 6 (dk_at dksX2_line_8 3 rfl rfl)
theorem dX2_line_231 : decode cX2_line 231 = .ok (.bipush 8, 2) := dk_16 8 (dk_at dksX2_line_8 6 rfl rfl)
theorem dX2_line_233 : decode cX2_line 233 = .ok (.istore_n 2, 1) := dk_61 (dk_at dksX2_line_8 8 rfl rfl)
theorem dX2_line_234 : decode cX2_line 234 = .ok (.iload_n 2, 1) := dk_28 (dk_at dksX2_line_8 9 rfl rfl)
theorem dX2_line_235 : decode cX2_line 235 = .ok (.tableswitch 242 0 8 #[49, 110, 117, 200, 207, 214, 221, 228, 235], 49) := by decide +kernel
theorem dX2_line_284 : decode cX2_line 284 = .ok (.aload_n 0, 1) := dk_42 (dk_at dksX2_line_10 0 rfl rfl)
theorem dX2_line_285 : decode cX2_line 285 = .ok (.aload_n 0, 1) := dk_42 (dk_at dksX2_line_10 1 rfl rfl)
theorem dX2_line_286 : decode cX2_line 286 = .ok (.getfield 118, 3) := dk_180 0 118 (dk_at dksX2_line_10 2 rfl rfl)
theorem dX2_line_289 : decode cX2_line 289 = .ok (.getfield 147, 3) := dk_180 0 147 (dk_at dksX2_line_10 5 rfl rfl)
theorem dX2_line_292 : decode cX2_line 292 = .ok (.ifCond .ne 7, 3) := dk_154 0 7 (dk_at dksX2_line_10 8 rfl rfl)
theorem dX2_line_295 : decode cX2_line 295 = .ok (.iconst 1, 1) := dk_4 (dk_at dksX2_line_10 11 rfl rfl)
theorem dX2_line_296 : decode cX2_line 296 = .ok (.goto 4, 3) := dk_167 0 4 (dk_at dksX2_line_10 12 rfl rfl)
theorem dX2_line_299 : decode cX2_line 299 = .ok (.iconst 0, 1) := dk_3 (dk_at dksX2_line_10 15 rfl rfl)
theorem dX2_line_300 : decode cX2_line 300 = .ok (.iconst 3, 1) := dk_6 (dk_at dksX2_line_10 16 rfl rfl)
theorem dX2_line_301 : decode cX2_line 301 = .ok (.invokevirtual 156, 3) := dk_182 0 156 (dk_at dksX2_line_10 17 rfl rfl)
theorem dX2_line_304 : decode cX2_line 304 = .ok (.aload_n 0, 1) := dk_42 (dk_at dksX2_line_10 20 rfl rfl)
theorem dX2_line_305 : decode cX2_line 305 = .ok (.ldc 160, 2) := dk_18 160 (dk_at dksX2_line_10 21 rfl rfl)
theorem dX2_line_307 : decode cX2_line 307 = .ok (.bipush 40, 2) := dk_16 40 (dk_at dksX2_line_11 0 rfl rfl)
theorem dX2_line_309 : decode cX2_line 309 = .ok (.bipush 90, 2) := dk_16 90 (dk_at dksX2_line_11 2 rfl rfl)
theorem dX2_line_311 : decode cX2_line 311 = .ok (.invokevirtual 161, 3) := dk_182 0 161 (dk_at dksX2_line_11 4 rfl rfl)
theorem dX2_line_314 : decode cX2_line 314 = .ok (.istore_n 3, 1) := dk_62 (dk_at dksX2_line_11 7 rfl rfl)
theorem dX2_line_315 : decode cX2_line 315 = .ok (.aload_n 0, 1) := dk_42 (dk_at dksX2_line_11 8 rfl rfl)
theorem dX2_line_316 : decode cX2_line 316 = .ok (.getfield 118, 3) := dk_180 0 118 (dk_at dksX2_line_11 9 rfl rfl)
theorem dX2_line_319 : decode cX2_line 319 = .ok (.aload_n 0, 1) := dk_42 (dk_at dksX2_line_11 12 rfl rfl)
theorem dX2_line_320 : decode cX2_line 320 = .ok (.ldc 165, 2) := dk_18 165 (dk_at dksX2_line_11 13 rfl rfl)
theorem dX2_line_322 : decode cX2_line 322 = .ok (.sipush 600, 3) := dk_17 2 88 (dk_at dksX2_line_11 15 rfl rfl)
theorem dX2_line_325 : decode cX2_line 325 = .ok (.sipush 900, 3) := dk_17 3 132 (dk_at dksX2_line_11 18 rfl rfl)
theorem dX2_line_328 : decode cX2_line 328 = .ok (.invokevirtual 161, 3) := dk_182 0 161 (dk_at dksX2_line_11 21 rfl rfl)
theorem dX2_line_331 : decode cX2_line 331 = .ok (.putfield 167, 3) := dk_181 0 167 (dk_at dksX2_line_12 0 rfl rfl)
theorem dX2_line_334 : decode cX2_line 334 = .ok (.aload_n 0, 1) := dk_42 (dk_at dksX2_line_12 3 rfl rfl)
theorem dX2_line_335 : decode cX2_line 335 = .ok (.getfield 118, 3) := dk_180 0 118 (dk_at dksX2_line_12 4 rfl rfl)
theorem dX2_line_338 : decode cX2_line 338 = .ok (.iload_n 3, 1) := dk_29 (dk_at dksX2_line_12 7 rfl rfl)
theorem dX2_line_339 : decode cX2_line 339 = .ok (.putfield 147, 3) := dk_181 0 147 (dk_at dksX2_line_12 8 rfl rfl)
theorem dX2_line_342 : decode cX2_line 342 = .ok (.goto 141, 3) := dk_167 0 141 (dk_at dksX2_line_12 11 rfl rfl)
theorem dX2_line_345 : decode cX2_line 345 = .ok (.aload_n 0, 1) := dk_42 (dk_at dksX2_line_12 14 rfl rfl)
theorem dX2_line_346 : decode cX2_line 346 = .ok (.invokevirtual 169, 3) := dk_182 0 169 (dk_at dksX2_line_12 15 rfl rfl)
theorem dX2_line_349 : decode cX2_line 349 = .ok (.goto 134, 3) := dk_167 0 134 (dk_at dksX2_line_12 18 rfl rfl)
theorem dX2_line_352 : decode cX2_line 352 = .ok (.aload_n 0, 1) := dk_42 (dk_at dksX2_line_12 21 rfl rfl)
theorem dX2_line_353 : decode cX2_line 353 = .ok (.aload_n 0, 1) := dk_42 (dk_at dksX2_line_12 22 rfl rfl)
theorem dX2_line_354 : decode cX2_line 354 = .ok (.getfield 118, 3) := dk_180 0 118 (dk_at dksX2_line_13 0 rfl rfl)
theorem dX2_line_357 : decode cX2_line 357 = .ok (.getfield 171, 3) := dk_180 0 171 (dk_at dksX2_line_13 3 rfl rfl)
theorem dX2_line_360 : decode cX2_line 360 = .ok (.iconst 3, 1) := dk_6 (dk_at dksX2_line_13 6 rfl rfl)
theorem dX2_line_361 : decode cX2_line 361 = .ok (.if_icmp .ge 7, 3) := dk_162 0 7 (dk_at dksX2_line_13 7 rfl rfl)
theorem dX2_line_364 : decode cX2_line 364 = .ok (.iconst 1, 1) := dk_4 (dk_at dksX2_line_13 10 rfl rfl)
theorem dX2_line_365 : decode cX2_line 365 = .ok (.goto 4, 3) := dk_167 0 4 (dk_at dksX2_line_13 11 rfl rfl)
theorem dX2_line_368 : decode cX2_line 368 = .ok (.iconst 0, 1) := dk_3 (dk_at dksX2_line_13 14 rfl rfl)
theorem dX2_line_369 : decode cX2_line 369 = .ok (.iconst 5, 1) := dk_8 (dk_at dksX2_line_13 15 rfl rfl)
theorem dX2_line_370 : decode cX2_line 370 = .ok (.invokevirtual 156, 3) := dk_182 0 156 (dk_at dksX2_line_13 16 rfl rfl)
theorem dX2_line_373 : decode cX2_line 373 = .ok (.aload_n 0, 1) := dk_42 (dk_at dksX2_line_13 19 rfl rfl)
theorem dX2_line_374 : decode cX2_line 374 = .ok (.getfield 118, 3) := dk_180 0 118 (dk_at dksX2_line_13 20 rfl rfl)
theorem dX2_line_377 : decode cX2_line 377 = .ok (.getfield 174, 3) := dk_180 0 174 (dk_at dksX2_line_14 0 rfl rfl)
theorem dX2_line_380 : decode cX2_line 380 = .ok (.aload_n 0, 1) := dk_42 (dk_at dksX2_line_14 3 rfl rfl)
theorem dX2_line_381 : decode cX2_line 381 = .ok (.getfield 118, 3) := dk_180 0 118 (dk_at dksX2_line_14 4 rfl rfl)
theorem dX2_line_384 : decode cX2_line 384 = .ok (.getfield 171, 3) := dk_180 0 171 (dk_at dksX2_line_14 7 rfl rfl)
theorem dX2_line_387 : decode cX2_line 387 = .ok (.aload_n 0, 1) := dk_42 (dk_at dksX2_line_14 10 rfl rfl)
theorem dX2_line_388 : decode cX2_line 388 = .ok (.iconst 0, 1) := dk_3 (dk_at dksX2_line_14 11 rfl rfl)
theorem dX2_line_389 : decode cX2_line 389 = .ok (.bipush 98, 2) := dk_16 98 (dk_at dksX2_line_14 12 rfl rfl)
theorem dX2_line_391 : decode cX2_line 391 = .ok (.invokevirtual 132, 3) := dk_182 0 132 (dk_at dksX2_line_14 14 rfl rfl)
theorem dX2_line_394 : decode cX2_line 394 = .ok (.iastore, 1) := dk_79 (dk_at dksX2_line_14 17 rfl rfl)
theorem dX2_line_395 : decode cX2_line 395 = .ok (.aload_n 0, 1) := dk_42 (dk_at dksX2_line_14 18 rfl rfl)
theorem dX2_line_396 : decode cX2_line 396 = .ok (.getfield 118, 3) := dk_180 0 118 (dk_at dksX2_line_14 19 rfl rfl)
theorem dX2_line_399 : decode cX2_line 399 = .ok (.getfield 178, 3) := dk_180 0 178 (dk_at dksX2_line_15 0 rfl rfl)
theorem dX2_line_402 : decode cX2_line 402 = .ok (.aload_n 0, 1) := dk_42 (dk_at dksX2_line_15 3 rfl rfl)
theorem dX2_line_403 : decode cX2_line 403 = .ok (.getfield 118, 3) := dk_180 0 118 (dk_at dksX2_line_15 4 rfl rfl)
theorem dX2_line_406 : decode cX2_line 406 = .ok (.getfield 171, 3) := dk_180 0 171 (dk_at dksX2_line_15 7 rfl rfl)
theorem dX2_line_409 : decode cX2_line 409 = .ok (.aload_n 0, 1) := dk_42 (dk_at dksX2_line_15 10 rfl rfl)
theorem dX2_line_410 : decode cX2_line 410 = .ok (.ldc 181, 2) := dk_18 181 (dk_at dksX2_line_15 11 rfl rfl)
theorem dX2_line_412 : decode cX2_line 412 = .ok (.iconst 1, 1) := dk_4 (dk_at dksX2_line_15 13 rfl rfl)
theorem dX2_line_413 : decode cX2_line 413 = .ok (.bipush 60, 2) := dk_16 60 (dk_at dksX2_line_15 14 rfl rfl)
theorem dX2_line_415 : decode cX2_line 415 = .ok (.invokevirtual 161, 3) := dk_182 0 161 (dk_at dksX2_line_15 16 rfl rfl)
theorem dX2_line_418 : decode cX2_line 418 = .ok (.iastore, 1) := dk_79 (dk_at dksX2_line_15 19 rfl rfl)
theorem dX2_line_419 : decode cX2_line 419 = .ok (.aload_n 0, 1) := dk_42 (dk_at dksX2_line_15 20 rfl rfl)
theorem dX2_line_420 : decode cX2_line 420 = .ok (.getfield 118, 3) := dk_180 0 118 (dk_at dksX2_line_15 21 rfl rfl)
theorem dX2_line_423 : decode cX2_line 423 = .ok (.dup, 1) := dk_89 (dk_at dksX2_line_16 0 rfl rfl)
theorem dX2_line_424 : decode cX2_line 424 = .ok (.getfield 171, 3) := dk_180 0 171 (dk_at dksX2_line_16 1 rfl rfl)
theorem dX2_line_427 : decode cX2_line 427 = .ok (.iconst 1, 1) := dk_4 (dk_at dksX2_line_16 4 rfl rfl)
theorem dX2_line_428 : decode cX2_line 428 = .ok (.iadd, 1) := dk_96 (dk_at dksX2_line_16 5 rfl rfl)
theorem dX2_line_429 : decode cX2_line 429 = .ok (.putfield 171, 3) := dk_181 0 171 (dk_at dksX2_line_16 6 rfl rfl)
theorem dX2_line_432 : decode cX2_line 432 = .ok (.goto 51, 3) := dk_167 0 51 (dk_at dksX2_line_16 9 rfl rfl)
theorem dX2_line_435 : decode cX2_line 435 = .ok (.aload_n 0, 1) := dk_42 (dk_at dksX2_line_16 12 rfl rfl)
theorem dX2_line_436 : decode cX2_line 436 = .ok (.invokevirtual 183, 3) := dk_182 0 183 (dk_at dksX2_line_16 13 rfl rfl)
theorem dX2_line_439 : decode cX2_line 439 = .ok (.goto 44, 3) := dk_167 0 44 (dk_at dksX2_line_16 16 rfl rfl)
theorem dX2_line_442 : decode cX2_line 442 = .ok (.aload_n 0, 1) := dk_42 (dk_at dksX2_line_16 19 rfl rfl)
theorem dX2_line_443 : decode cX2_line 443 = .ok (.invokevirtual 185, 3) := dk_182 0 185 (dk_at dksX2_line_16 20 rfl rfl)
theorem dX2_line_446 : decode cX2_line 446 = .ok (.goto 37, 3) := dk_167 0 37 (dk_at dksX2_line_17 0 rfl rfl)
theorem dX2_line_449 : decode cX2_line 449 = .ok (.aload_n 0, 1) := dk_42 (dk_at dksX2_line_17 3 rfl rfl)
theorem dX2_line_450 : decode cX2_line 450 = .ok (.invokevirtual 187, 3) := dk_182 0 187 (dk_at dksX2_line_17 4 rfl rfl)
theorem dX2_line_453 : decode cX2_line 453 = .ok (.goto 30, 3) := dk_167 0 30 (dk_at dksX2_line_17 7 rfl rfl)
theorem dX2_line_456 : decode cX2_line 456 = .ok (.aload_n 0, 1) := dk_42 (dk_at dksX2_line_17 10 rfl rfl)
theorem dX2_line_457 : decode cX2_line 457 = .ok (.invokevirtual 189, 3) := dk_182 0 189 (dk_at dksX2_line_17 11 rfl rfl)
theorem dX2_line_460 : decode cX2_line 460 = .ok (.goto 23, 3) := dk_167 0 23 (dk_at dksX2_line_17 14 rfl rfl)
theorem dX2_line_463 : decode cX2_line 463 = .ok (.aload_n 0, 1) := dk_42 (dk_at dksX2_line_17 17 rfl rfl)
theorem dX2_line_464 : decode cX2_line 464 = .ok (.invokevirtual 191, 3) := dk_182 0 191 (dk_at dksX2_line_17 18 rfl rfl)
theorem dX2_line_467 : decode cX2_line 467 = .ok (.goto 16, 3) := dk_167 0 16 (dk_at dksX2_line_17 21 rfl rfl)
theorem dX2_line_470 : decode cX2_line 470 = .ok (.aload_n 0, 1) := dk_42 (dk_at dksX2_line_18 0 rfl rfl)
theorem dX2_line_471 : decode cX2_line 471 = .ok (.invokevirtual 193, 3) := dk_182 0 193 (dk_at dksX2_line_18 1 rfl rfl)
theorem dX2_line_474 : decode cX2_line 474 = .ok (.goto 9, 3) := dk_167 0 9 (dk_at dksX2_line_18 4 rfl rfl)
theorem dX2_line_477 : decode cX2_line 477 = .ok (.aload_n 0, 1) := dk_42 (dk_at dksX2_line_18 7 rfl rfl)
theorem dX2_line_478 : decode cX2_line 478 = .ok (.iconst 1, 1) := dk_4 (dk_at dksX2_line_18 8 rfl rfl)
theorem dX2_line_479 : decode cX2_line 479 = .ok (.invokevirtual 85, 3) := dk_182 0 85 (dk_at dksX2_line_18 9 rfl rfl)
theorem dX2_line_482 : decode cX2_line 482 = .ok (.athrow, 1) := dk_191 (dk_at dksX2_line_18 12 rfl rfl)
theorem dX2_line_483 : decode cX2_line 483 = .ok (.return_, 1) := dk_177 (dk_at dksX2_line_18 13 rfl rfl)
abbrev cX2_fail : ByteArray := prog_11_method_2_code
def yX2_fail : MethodName := ⟨RX2, "fail", "(I)LNoonMeals$Refused;"⟩
def dkwX2_fail_0 : List UInt8 := [42, 180, 0, 12, 27, 42, 180, 0, 26, 182, 0, 30, 176]
abbrev dktX2_fail_0 : List UInt8 := dkwX2_fail_0 ++ []
theorem dksX2_fail_0 : cX2_fail.data.toList.drop 0 = dktX2_fail_0 := by decide +kernel
theorem dX2_fail_0 : decode cX2_fail 0 = .ok (.aload_n 0, 1) := dk_42 (dk_at dksX2_fail_0 0 rfl rfl)
theorem dX2_fail_1 : decode cX2_fail 1 = .ok (.getfield 12, 3) := dk_180 0 12 (dk_at dksX2_fail_0 1 rfl rfl)
theorem dX2_fail_4 : decode cX2_fail 4 = .ok (.iload_n 1, 1) := dk_27 (dk_at dksX2_fail_0 4 rfl rfl)
theorem dX2_fail_5 : decode cX2_fail 5 = .ok (.aload_n 0, 1) := dk_42 (dk_at dksX2_fail_0 5 rfl rfl)
theorem dX2_fail_6 : decode cX2_fail 6 = .ok (.getfield 26, 3) := dk_180 0 26 (dk_at dksX2_fail_0 6 rfl rfl)
theorem dX2_fail_9 : decode cX2_fail 9 = .ok (.invokevirtual 30, 3) := dk_182 0 30 (dk_at dksX2_fail_0 9 rfl rfl)
theorem dX2_fail_12 : decode cX2_fail 12 = .ok (.areturn, 1) := dk_176 (dk_at dksX2_fail_0 12 rfl rfl)
abbrev cX2_begins : ByteArray := prog_11_method_15_code
def yX2_begins : MethodName := ⟨RX2, "begins", "(ZI)V"⟩
def dkwX2_begins_0 : List UInt8 := [27, 154, 0, 9, 42, 28, 182, 0, 85, 191, 42, 182, 0, 79, 177]
abbrev dktX2_begins_0 : List UInt8 := dkwX2_begins_0 ++ []
theorem dksX2_begins_0 : cX2_begins.data.toList.drop 0 = dktX2_begins_0 := by decide +kernel
theorem dX2_begins_0 : decode cX2_begins 0 = .ok (.iload_n 1, 1) := dk_27 (dk_at dksX2_begins_0 0 rfl rfl)
theorem dX2_begins_1 : decode cX2_begins 1 = .ok (.ifCond .ne 9, 3) := dk_154 0 9 (dk_at dksX2_begins_0 1 rfl rfl)
theorem dX2_begins_4 : decode cX2_begins 4 = .ok (.aload_n 0, 1) := dk_42 (dk_at dksX2_begins_0 4 rfl rfl)
theorem dX2_begins_5 : decode cX2_begins 5 = .ok (.iload_n 2, 1) := dk_28 (dk_at dksX2_begins_0 5 rfl rfl)
theorem dX2_begins_6 : decode cX2_begins 6 = .ok (.invokevirtual 85, 3) := dk_182 0 85 (dk_at dksX2_begins_0 6 rfl rfl)
theorem dX2_begins_9 : decode cX2_begins 9 = .ok (.athrow, 1) := dk_191 (dk_at dksX2_begins_0 9 rfl rfl)
theorem dX2_begins_10 : decode cX2_begins 10 = .ok (.aload_n 0, 1) := dk_42 (dk_at dksX2_begins_0 10 rfl rfl)
theorem dX2_begins_11 : decode cX2_begins 11 = .ok (.invokevirtual 79, 3) := dk_182 0 79 (dk_at dksX2_begins_0 11 rfl rfl)
theorem dX2_begins_14 : decode cX2_begins 14 = .ok (.return_, 1) := dk_177 (dk_at dksX2_begins_0 14 rfl rfl)
abbrev cX2_told : ByteArray := prog_11_method_13_code
def yX2_told : MethodName := ⟨RX2, "told", "(Ljava/lang/String;II)I"⟩
def dkwX2_told_0 : List UInt8 := [42, 43, 182, 0, 128, 42, 28, 29, 182, 0, 132, 172]
abbrev dktX2_told_0 : List UInt8 := dkwX2_told_0 ++ []
theorem dksX2_told_0 : cX2_told.data.toList.drop 0 = dktX2_told_0 := by decide +kernel
theorem dX2_told_0 : decode cX2_told 0 = .ok (.aload_n 0, 1) := dk_42 (dk_at dksX2_told_0 0 rfl rfl)
theorem dX2_told_1 : decode cX2_told 1 = .ok (.aload_n 1, 1) := dk_43 (dk_at dksX2_told_0 1 rfl rfl)
theorem dX2_told_2 : decode cX2_told 2 = .ok (.invokevirtual 128, 3) := dk_182 0 128 (dk_at dksX2_told_0 2 rfl rfl)
theorem dX2_told_5 : decode cX2_told 5 = .ok (.aload_n 0, 1) := dk_42 (dk_at dksX2_told_0 5 rfl rfl)
theorem dX2_told_6 : decode cX2_told 6 = .ok (.iload_n 2, 1) := dk_28 (dk_at dksX2_told_0 6 rfl rfl)
theorem dX2_told_7 : decode cX2_told 7 = .ok (.iload_n 3, 1) := dk_29 (dk_at dksX2_told_0 7 rfl rfl)
theorem dX2_told_8 : decode cX2_told 8 = .ok (.invokevirtual 132, 3) := dk_182 0 132 (dk_at dksX2_told_0 8 rfl rfl)
theorem dX2_told_11 : decode cX2_told 11 = .ok (.ireturn, 1) := dk_172 (dk_at dksX2_told_0 11 rfl rfl)
abbrev cX2_must : ByteArray := prog_11_method_9_code
def yX2_must : MethodName := ⟨RX2, "must", "(Ljava/lang/String;)V"⟩
def dkwX2_must_0 : List UInt8 := [42, 43, 182, 0, 82, 154, 0, 9, 42, 4, 182, 0, 85, 191, 177]
abbrev dktX2_must_0 : List UInt8 := dkwX2_must_0 ++ []
theorem dksX2_must_0 : cX2_must.data.toList.drop 0 = dktX2_must_0 := by decide +kernel
theorem dX2_must_0 : decode cX2_must 0 = .ok (.aload_n 0, 1) := dk_42 (dk_at dksX2_must_0 0 rfl rfl)
theorem dX2_must_1 : decode cX2_must 1 = .ok (.aload_n 1, 1) := dk_43 (dk_at dksX2_must_0 1 rfl rfl)
theorem dX2_must_2 : decode cX2_must 2 = .ok (.invokevirtual 82, 3) := dk_182 0 82 (dk_at dksX2_must_0 2 rfl rfl)
theorem dX2_must_5 : decode cX2_must 5 = .ok (.ifCond .ne 9, 3) := dk_154 0 9 (dk_at dksX2_must_0 5 rfl rfl)
theorem dX2_must_8 : decode cX2_must 8 = .ok (.aload_n 0, 1) := dk_42 (dk_at dksX2_must_0 8 rfl rfl)
theorem dX2_must_9 : decode cX2_must 9 = .ok (.iconst 1, 1) := dk_4 (dk_at dksX2_must_0 9 rfl rfl)
theorem dX2_must_10 : decode cX2_must 10 = .ok (.invokevirtual 85, 3) := dk_182 0 85 (dk_at dksX2_must_0 10 rfl rfl)
theorem dX2_must_13 : decode cX2_must 13 = .ok (.athrow, 1) := dk_191 (dk_at dksX2_must_0 13 rfl rfl)
theorem dX2_must_14 : decode cX2_must 14 = .ok (.return_, 1) := dk_177 (dk_at dksX2_must_0 14 rfl rfl)
abbrev cX2_takes : ByteArray := prog_11_method_8_code
def yX2_takes : MethodName := ⟨RX2, "takes", "(Ljava/lang/String;)Z"⟩
def dkwX2_takes_0 : List UInt8 := [42, 43, 182, 0, 75, 154, 0, 5, 3, 172, 42, 182, 0, 79, 4, 172]
abbrev dktX2_takes_0 : List UInt8 := dkwX2_takes_0 ++ []
theorem dksX2_takes_0 : cX2_takes.data.toList.drop 0 = dktX2_takes_0 := by decide +kernel
theorem dX2_takes_0 : decode cX2_takes 0 = .ok (.aload_n 0, 1) := dk_42 (dk_at dksX2_takes_0 0 rfl rfl)
theorem dX2_takes_1 : decode cX2_takes 1 = .ok (.aload_n 1, 1) := dk_43 (dk_at dksX2_takes_0 1 rfl rfl)
theorem dX2_takes_2 : decode cX2_takes 2 = .ok (.invokevirtual 75, 3) := dk_182 0 75 (dk_at dksX2_takes_0 2 rfl rfl)
theorem dX2_takes_5 : decode cX2_takes 5 = .ok (.ifCond .ne 5, 3) := dk_154 0 5 (dk_at dksX2_takes_0 5 rfl rfl)
theorem dX2_takes_8 : decode cX2_takes 8 = .ok (.iconst 0, 1) := dk_3 (dk_at dksX2_takes_0 8 rfl rfl)
theorem dX2_takes_9 : decode cX2_takes 9 = .ok (.ireturn, 1) := dk_172 (dk_at dksX2_takes_0 9 rfl rfl)
theorem dX2_takes_10 : decode cX2_takes 10 = .ok (.aload_n 0, 1) := dk_42 (dk_at dksX2_takes_0 10 rfl rfl)
theorem dX2_takes_11 : decode cX2_takes 11 = .ok (.invokevirtual 79, 3) := dk_182 0 79 (dk_at dksX2_takes_0 11 rfl rfl)
theorem dX2_takes_14 : decode cX2_takes 14 = .ok (.iconst 1, 1) := dk_4 (dk_at dksX2_takes_0 14 rfl rfl)
theorem dX2_takes_15 : decode cX2_takes 15 = .ok (.ireturn, 1) := dk_172 (dk_at dksX2_takes_0 15 rfl rfl)
abbrev cX2_isWord : ByteArray := prog_11_method_7_code
def yX2_isWord : MethodName := ⟨RX2, "isWord", "(Ljava/lang/String;)Z"⟩
def dkwX2_isWord_1 : List UInt8 := [172]
abbrev dktX2_isWord_1 : List UInt8 := dkwX2_isWord_1 ++ []
def dkwX2_isWord_0 : List UInt8 := [42, 180, 0, 47, 5, 160, 0, 18, 42, 180, 0, 61, 43, 182, 0, 71, 153, 0, 7, 4, 167, 0, 4, 3]
abbrev dktX2_isWord_0 : List UInt8 := dkwX2_isWord_0 ++ dktX2_isWord_1
theorem dksX2_isWord_0 : cX2_isWord.data.toList.drop 0 = dktX2_isWord_0 := by decide +kernel
theorem dksX2_isWord_1 : cX2_isWord.data.toList.drop 24 = dktX2_isWord_1 := dk_seg dksX2_isWord_0 24 rfl rfl
theorem dX2_isWord_0 : decode cX2_isWord 0 = .ok (.aload_n 0, 1) := dk_42 (dk_at dksX2_isWord_0 0 rfl rfl)
theorem dX2_isWord_1 : decode cX2_isWord 1 = .ok (.getfield 47, 3) := dk_180 0 47 (dk_at dksX2_isWord_0 1 rfl rfl)
theorem dX2_isWord_4 : decode cX2_isWord 4 = .ok (.iconst 2, 1) := dk_5 (dk_at dksX2_isWord_0 4 rfl rfl)
theorem dX2_isWord_5 : decode cX2_isWord 5 = .ok (.if_icmp .ne 18, 3) := dk_160 0 18 (dk_at dksX2_isWord_0 5 rfl rfl)
theorem dX2_isWord_8 : decode cX2_isWord 8 = .ok (.aload_n 0, 1) := dk_42 (dk_at dksX2_isWord_0 8 rfl rfl)
theorem dX2_isWord_9 : decode cX2_isWord 9 = .ok (.getfield 61, 3) := dk_180 0 61 (dk_at dksX2_isWord_0 9 rfl rfl)
theorem dX2_isWord_12 : decode cX2_isWord 12 = .ok (.aload_n 1, 1) := dk_43 (dk_at dksX2_isWord_0 12 rfl rfl)
theorem dX2_isWord_13 : decode cX2_isWord 13 = .ok (.invokevirtual 71, 3) := dk_182 0 71 (dk_at dksX2_isWord_0 13 rfl rfl)
theorem dX2_isWord_16 : decode cX2_isWord 16 = .ok (.ifCond .eq 7, 3) := dk_153 0 7 (dk_at dksX2_isWord_0 16 rfl rfl)
theorem dX2_isWord_19 : decode cX2_isWord 19 = .ok (.iconst 1, 1) := dk_4 (dk_at dksX2_isWord_0 19 rfl rfl)
theorem dX2_isWord_20 : decode cX2_isWord 20 = .ok (.goto 4, 3) := dk_167 0 4 (dk_at dksX2_isWord_0 20 rfl rfl)
theorem dX2_isWord_23 : decode cX2_isWord 23 = .ok (.iconst 0, 1) := dk_3 (dk_at dksX2_isWord_0 23 rfl rfl)
theorem dX2_isWord_24 : decode cX2_isWord 24 = .ok (.ireturn, 1) := dk_172 (dk_at dksX2_isWord_1 0 rfl rfl)
abbrev cX2_number : ByteArray := prog_11_method_12_code
def yX2_number : MethodName := ⟨RX2, "number", "(II)I"⟩
def dkwX2_number_1 : List UInt8 := [154, 0, 9, 42, 7, 182, 0, 85, 191, 42, 180, 0, 68, 62, 42, 182, 0, 79, 29, 172]
abbrev dktX2_number_1 : List UInt8 := dkwX2_number_1 ++ []
def dkwX2_number_0 : List UInt8 := [42, 180, 0, 47, 6, 159, 0, 9, 42, 4, 182, 0, 85, 191, 42, 180, 0, 68, 27, 28, 184, 0, 36]
abbrev dktX2_number_0 : List UInt8 := dkwX2_number_0 ++ dktX2_number_1
theorem dksX2_number_0 : cX2_number.data.toList.drop 0 = dktX2_number_0 := by decide +kernel
theorem dksX2_number_1 : cX2_number.data.toList.drop 23 = dktX2_number_1 := dk_seg dksX2_number_0 23 rfl rfl
theorem dX2_number_0 : decode cX2_number 0 = .ok (.aload_n 0, 1) := dk_42 (dk_at dksX2_number_0 0 rfl rfl)
theorem dX2_number_1 : decode cX2_number 1 = .ok (.getfield 47, 3) := dk_180 0 47 (dk_at dksX2_number_0 1 rfl rfl)
theorem dX2_number_4 : decode cX2_number 4 = .ok (.iconst 3, 1) := dk_6 (dk_at dksX2_number_0 4 rfl rfl)
theorem dX2_number_5 : decode cX2_number 5 = .ok (.if_icmp .eq 9, 3) := dk_159 0 9 (dk_at dksX2_number_0 5 rfl rfl)
theorem dX2_number_8 : decode cX2_number 8 = .ok (.aload_n 0, 1) := dk_42 (dk_at dksX2_number_0 8 rfl rfl)
theorem dX2_number_9 : decode cX2_number 9 = .ok (.iconst 1, 1) := dk_4 (dk_at dksX2_number_0 9 rfl rfl)
theorem dX2_number_10 : decode cX2_number 10 = .ok (.invokevirtual 85, 3) := dk_182 0 85 (dk_at dksX2_number_0 10 rfl rfl)
theorem dX2_number_13 : decode cX2_number 13 = .ok (.athrow, 1) := dk_191 (dk_at dksX2_number_0 13 rfl rfl)
theorem dX2_number_14 : decode cX2_number 14 = .ok (.aload_n 0, 1) := dk_42 (dk_at dksX2_number_0 14 rfl rfl)
theorem dX2_number_15 : decode cX2_number 15 = .ok (.getfield 68, 3) := dk_180 0 68 (dk_at dksX2_number_0 15 rfl rfl)
theorem dX2_number_18 : decode cX2_number 18 = .ok (.iload_n 1, 1) := dk_27 (dk_at dksX2_number_0 18 rfl rfl)
theorem dX2_number_19 : decode cX2_number 19 = .ok (.iload_n 2, 1) := dk_28 (dk_at dksX2_number_0 19 rfl rfl)
theorem dX2_number_20 : decode cX2_number 20 = .ok (.invokestatic 36, 3) := dk_184 0 36 (dk_at dksX2_number_0 20 rfl rfl)
theorem dX2_number_23 : decode cX2_number 23 = .ok (.ifCond .ne 9, 3) := dk_154 0 9 (dk_at dksX2_number_1 0 rfl rfl)
theorem dX2_number_26 : decode cX2_number 26 = .ok (.aload_n 0, 1) := dk_42 (dk_at dksX2_number_1 3 rfl rfl)
theorem dX2_number_27 : decode cX2_number 27 = .ok (.iconst 4, 1) := dk_7 (dk_at dksX2_number_1 4 rfl rfl)
theorem dX2_number_28 : decode cX2_number 28 = .ok (.invokevirtual 85, 3) := dk_182 0 85 (dk_at dksX2_number_1 5 rfl rfl)
theorem dX2_number_31 : decode cX2_number 31 = .ok (.athrow, 1) := dk_191 (dk_at dksX2_number_1 8 rfl rfl)
theorem dX2_number_32 : decode cX2_number 32 = .ok (.aload_n 0, 1) := dk_42 (dk_at dksX2_number_1 9 rfl rfl)
theorem dX2_number_33 : decode cX2_number 33 = .ok (.getfield 68, 3) := dk_180 0 68 (dk_at dksX2_number_1 10 rfl rfl)
theorem dX2_number_36 : decode cX2_number 36 = .ok (.istore_n 3, 1) := dk_62 (dk_at dksX2_number_1 13 rfl rfl)
theorem dX2_number_37 : decode cX2_number 37 = .ok (.aload_n 0, 1) := dk_42 (dk_at dksX2_number_1 14 rfl rfl)
theorem dX2_number_38 : decode cX2_number 38 = .ok (.invokevirtual 79, 3) := dk_182 0 79 (dk_at dksX2_number_1 15 rfl rfl)
theorem dX2_number_41 : decode cX2_number 41 = .ok (.iload_n 3, 1) := dk_29 (dk_at dksX2_number_1 18 rfl rfl)
theorem dX2_number_42 : decode cX2_number 42 = .ok (.ireturn, 1) := dk_172 (dk_at dksX2_number_1 19 rfl rfl)
abbrev cX2_kitchen : ByteArray := prog_11_method_18_code
def yX2_kitchen : MethodName := ⟨RX2, "kitchen", "()V"⟩
def dkwX2_kitchen_4 : List UInt8 := [181, 0, 195, 177]
abbrev dktX2_kitchen_4 : List UInt8 := dkwX2_kitchen_4 ++ []
def dkwX2_kitchen_3 : List UInt8 := [180, 0, 210, 42, 180, 0, 118, 180, 0, 195, 43, 83, 42, 180, 0, 118, 89, 180, 0, 195, 4, 96]
abbrev dktX2_kitchen_3 : List UInt8 := dkwX2_kitchen_3 ++ dktX2_kitchen_4
def dkwX2_kitchen_2 : List UInt8 := [182, 0, 161, 181, 0, 208, 43, 42, 18, 160, 16, 60, 16, 99, 182, 0, 161, 181, 0, 209, 42, 180, 0, 118]
abbrev dktX2_kitchen_2 : List UInt8 := dkwX2_kitchen_2 ++ dktX2_kitchen_3
def dkwX2_kitchen_1 : List UInt8 := [89, 42, 182, 0, 200, 42, 180, 0, 118, 180, 0, 195, 183, 0, 204, 76, 43, 42, 18, 207, 3, 16, 99]
abbrev dktX2_kitchen_1 : List UInt8 := dkwX2_kitchen_1 ++ dktX2_kitchen_2
def dkwX2_kitchen_0 : List UInt8 := [42, 42, 180, 0, 118, 180, 0, 195, 6, 162, 0, 7, 4, 167, 0, 4, 3, 8, 182, 0, 156, 187, 0, 198]
abbrev dktX2_kitchen_0 : List UInt8 := dkwX2_kitchen_0 ++ dktX2_kitchen_1
theorem dksX2_kitchen_0 : cX2_kitchen.data.toList.drop 0 = dktX2_kitchen_0 := by decide +kernel
theorem dksX2_kitchen_1 : cX2_kitchen.data.toList.drop 24 = dktX2_kitchen_1 := dk_seg dksX2_kitchen_0 24 rfl rfl
theorem dksX2_kitchen_2 : cX2_kitchen.data.toList.drop 47 = dktX2_kitchen_2 := dk_seg dksX2_kitchen_1 23 rfl rfl
theorem dksX2_kitchen_3 : cX2_kitchen.data.toList.drop 71 = dktX2_kitchen_3 := dk_seg dksX2_kitchen_2 24 rfl rfl
theorem dksX2_kitchen_4 : cX2_kitchen.data.toList.drop 93 = dktX2_kitchen_4 := dk_seg dksX2_kitchen_3 22 rfl rfl
theorem dX2_kitchen_0 : decode cX2_kitchen 0 = .ok (.aload_n 0, 1) := dk_42 (dk_at dksX2_kitchen_0 0 rfl rfl)
theorem dX2_kitchen_1 : decode cX2_kitchen 1 = .ok (.aload_n 0, 1) := dk_42 (dk_at dksX2_kitchen_0 1 rfl rfl)
theorem dX2_kitchen_2 : decode cX2_kitchen 2 = .ok (.getfield 118, 3) := dk_180 0 118 (dk_at dksX2_kitchen_0 2 rfl rfl)
theorem dX2_kitchen_5 : decode cX2_kitchen 5 = .ok (.getfield 195, 3) := dk_180 0 195 (dk_at dksX2_kitchen_0 5 rfl rfl)
theorem dX2_kitchen_8 : decode cX2_kitchen 8 = .ok (.iconst 3, 1) := dk_6 (dk_at dksX2_kitchen_0 8 rfl rfl)
theorem dX2_kitchen_9 : decode cX2_kitchen 9 = .ok (.if_icmp .ge 7, 3) := dk_162 0 7 (dk_at dksX2_kitchen_0 9 rfl rfl)
theorem dX2_kitchen_12 : decode cX2_kitchen 12 = .ok (.iconst 1, 1) := dk_4 (dk_at dksX2_kitchen_0 12 rfl rfl)
theorem dX2_kitchen_13 : decode cX2_kitchen 13 = .ok (.goto 4, 3) := dk_167 0 4 (dk_at dksX2_kitchen_0 13 rfl rfl)
theorem dX2_kitchen_16 : decode cX2_kitchen 16 = .ok (.iconst 0, 1) := dk_3 (dk_at dksX2_kitchen_0 16 rfl rfl)
theorem dX2_kitchen_17 : decode cX2_kitchen 17 = .ok (.iconst 5, 1) := dk_8 (dk_at dksX2_kitchen_0 17 rfl rfl)
theorem dX2_kitchen_18 : decode cX2_kitchen 18 = .ok (.invokevirtual 156, 3) := dk_182 0 156 (dk_at dksX2_kitchen_0 18 rfl rfl)
theorem dX2_kitchen_21 : decode cX2_kitchen 21 = .ok (.new 198, 3) := dk_187 0 198 (dk_at dksX2_kitchen_0 21 rfl rfl)
theorem dX2_kitchen_24 : decode cX2_kitchen 24 = .ok (.dup, 1) := dk_89 (dk_at dksX2_kitchen_1 0 rfl rfl)
theorem dX2_kitchen_25 : decode cX2_kitchen 25 = .ok (.aload_n 0, 1) := dk_42 (dk_at dksX2_kitchen_1 1 rfl rfl)
theorem dX2_kitchen_26 : decode cX2_kitchen 26 = .ok (.invokevirtual 200, 3) := dk_182 0 200 (dk_at dksX2_kitchen_1 2 rfl rfl)
theorem dX2_kitchen_29 : decode cX2_kitchen 29 = .ok (.aload_n 0, 1) := dk_42 (dk_at dksX2_kitchen_1 5 rfl rfl)
theorem dX2_kitchen_30 : decode cX2_kitchen 30 = .ok (.getfield 118, 3) := dk_180 0 118 (dk_at dksX2_kitchen_1 6 rfl rfl)
theorem dX2_kitchen_33 : decode cX2_kitchen 33 = .ok (.getfield 195, 3) := dk_180 0 195 (dk_at dksX2_kitchen_1 9 rfl rfl)
theorem dX2_kitchen_36 : decode cX2_kitchen 36 = .ok (.invokespecial 204, 3) := dk_183 0 204 (dk_at dksX2_kitchen_1 12 rfl rfl)
theorem dX2_kitchen_39 : decode cX2_kitchen 39 = .ok (.astore_n 1, 1) := dk_76 (dk_at dksX2_kitchen_1 15 rfl rfl)
theorem dX2_kitchen_40 : decode cX2_kitchen 40 = .ok (.aload_n 1, 1) := dk_43 (dk_at dksX2_kitchen_1 16 rfl rfl)
theorem dX2_kitchen_41 : decode cX2_kitchen 41 = .ok (.aload_n 0, 1) := dk_42 (dk_at dksX2_kitchen_1 17 rfl rfl)
theorem dX2_kitchen_42 : decode cX2_kitchen 42 = .ok (.ldc 207, 2) := dk_18 207 (dk_at dksX2_kitchen_1 18 rfl rfl)
theorem dX2_kitchen_44 : decode cX2_kitchen 44 = .ok (.iconst 0, 1) := dk_3 (dk_at dksX2_kitchen_1 20 rfl rfl)
theorem dX2_kitchen_45 : decode cX2_kitchen 45 = .ok (.bipush 99, 2) := dk_16 99 (dk_at dksX2_kitchen_1 21 rfl rfl)
theorem dX2_kitchen_47 : decode cX2_kitchen 47 = .ok (.invokevirtual 161, 3) := dk_182 0 161 (dk_at dksX2_kitchen_2 0 rfl rfl)
theorem dX2_kitchen_50 : decode cX2_kitchen 50 = .ok (.putfield 208, 3) := dk_181 0 208 (dk_at dksX2_kitchen_2 3 rfl rfl)
theorem dX2_kitchen_53 : decode cX2_kitchen 53 = .ok (.aload_n 1, 1) := dk_43 (dk_at dksX2_kitchen_2 6 rfl rfl)
theorem dX2_kitchen_54 : decode cX2_kitchen 54 = .ok (.aload_n 0, 1) := dk_42 (dk_at dksX2_kitchen_2 7 rfl rfl)
theorem dX2_kitchen_55 : decode cX2_kitchen 55 = .ok (.ldc 160, 2) := dk_18 160 (dk_at dksX2_kitchen_2 8 rfl rfl)
theorem dX2_kitchen_57 : decode cX2_kitchen 57 = .ok (.bipush 60, 2) := dk_16 60 (dk_at dksX2_kitchen_2 10 rfl rfl)
theorem dX2_kitchen_59 : decode cX2_kitchen 59 = .ok (.bipush 99, 2) := dk_16 99 (dk_at dksX2_kitchen_2 12 rfl rfl)
theorem dX2_kitchen_61 : decode cX2_kitchen 61 = .ok (.invokevirtual 161, 3) := dk_182 0 161 (dk_at dksX2_kitchen_2 14 rfl rfl)
theorem dX2_kitchen_64 : decode cX2_kitchen 64 = .ok (.putfield 209, 3) := dk_181 0 209 (dk_at dksX2_kitchen_2 17 rfl rfl)
theorem dX2_kitchen_67 : decode cX2_kitchen 67 = .ok (.aload_n 0, 1) := dk_42 (dk_at dksX2_kitchen_2 20 rfl rfl)
theorem dX2_kitchen_68 : decode cX2_kitchen 68 = .ok (.getfield 118, 3) := dk_180 0 118 (dk_at dksX2_kitchen_2 21 rfl rfl)
theorem dX2_kitchen_71 : decode cX2_kitchen 71 = .ok (.getfield 210, 3) := dk_180 0 210 (dk_at dksX2_kitchen_3 0 rfl rfl)
theorem dX2_kitchen_74 : decode cX2_kitchen 74 = .ok (.aload_n 0, 1) := dk_42 (dk_at dksX2_kitchen_3 3 rfl rfl)
theorem dX2_kitchen_75 : decode cX2_kitchen 75 = .ok (.getfield 118, 3) := dk_180 0 118 (dk_at dksX2_kitchen_3 4 rfl rfl)
theorem dX2_kitchen_78 : decode cX2_kitchen 78 = .ok (.getfield 195, 3) := dk_180 0 195 (dk_at dksX2_kitchen_3 7 rfl rfl)
theorem dX2_kitchen_81 : decode cX2_kitchen 81 = .ok (.aload_n 1, 1) := dk_43 (dk_at dksX2_kitchen_3 10 rfl rfl)
theorem dX2_kitchen_82 : decode cX2_kitchen 82 = .ok (.aastore, 1) := dk_83 (dk_at dksX2_kitchen_3 11 rfl rfl)
theorem dX2_kitchen_83 : decode cX2_kitchen 83 = .ok (.aload_n 0, 1) := dk_42 (dk_at dksX2_kitchen_3 12 rfl rfl)
theorem dX2_kitchen_84 : decode cX2_kitchen 84 = .ok (.getfield 118, 3) := dk_180 0 118 (dk_at dksX2_kitchen_3 13 rfl rfl)
theorem dX2_kitchen_87 : decode cX2_kitchen 87 = .ok (.dup, 1) := dk_89 (dk_at dksX2_kitchen_3 16 rfl rfl)
theorem dX2_kitchen_88 : decode cX2_kitchen 88 = .ok (.getfield 195, 3) := dk_180 0 195 (dk_at dksX2_kitchen_3 17 rfl rfl)
theorem dX2_kitchen_91 : decode cX2_kitchen 91 = .ok (.iconst 1, 1) := dk_4 (dk_at dksX2_kitchen_3 20 rfl rfl)
theorem dX2_kitchen_92 : decode cX2_kitchen 92 = .ok (.iadd, 1) := dk_96 (dk_at dksX2_kitchen_3 21 rfl rfl)
theorem dX2_kitchen_93 : decode cX2_kitchen 93 = .ok (.putfield 195, 3) := dk_181 0 195 (dk_at dksX2_kitchen_4 0 rfl rfl)
theorem dX2_kitchen_96 : decode cX2_kitchen 96 = .ok (.return_, 1) := dk_177 (dk_at dksX2_kitchen_4 3 rfl rfl)
abbrev cX2_newName : ByteArray := prog_11_method_11_code
def yX2_newName : MethodName := ⟨RX2, "newName", "()Ljava/lang/String;"⟩
def dkwX2_newName_1 : List UInt8 := [42, 180, 0, 61, 76, 42, 182, 0, 79, 43, 176]
abbrev dktX2_newName_1 : List UInt8 := dkwX2_newName_1 ++ []
def dkwX2_newName_0 : List UInt8 := [42, 182, 0, 115, 42, 180, 0, 118, 42, 180, 0, 61, 182, 0, 122, 198, 0, 9, 42, 6, 182, 0, 85, 191]
abbrev dktX2_newName_0 : List UInt8 := dkwX2_newName_0 ++ dktX2_newName_1
theorem dksX2_newName_0 : cX2_newName.data.toList.drop 0 = dktX2_newName_0 := by decide +kernel
theorem dksX2_newName_1 : cX2_newName.data.toList.drop 24 = dktX2_newName_1 := dk_seg dksX2_newName_0 24 rfl rfl
theorem dX2_newName_0 : decode cX2_newName 0 = .ok (.aload_n 0, 1) := dk_42 (dk_at dksX2_newName_0 0 rfl rfl)
theorem dX2_newName_1 : decode cX2_newName 1 = .ok (.invokevirtual 115, 3) := dk_182 0 115 (dk_at dksX2_newName_0 1 rfl rfl)
theorem dX2_newName_4 : decode cX2_newName 4 = .ok (.aload_n 0, 1) := dk_42 (dk_at dksX2_newName_0 4 rfl rfl)
theorem dX2_newName_5 : decode cX2_newName 5 = .ok (.getfield 118, 3) := dk_180 0 118 (dk_at dksX2_newName_0 5 rfl rfl)
theorem dX2_newName_8 : decode cX2_newName 8 = .ok (.aload_n 0, 1) := dk_42 (dk_at dksX2_newName_0 8 rfl rfl)
theorem dX2_newName_9 : decode cX2_newName 9 = .ok (.getfield 61, 3) := dk_180 0 61 (dk_at dksX2_newName_0 9 rfl rfl)
theorem dX2_newName_12 : decode cX2_newName 12 = .ok (.invokevirtual 122, 3) := dk_182 0 122 (dk_at dksX2_newName_0 12 rfl rfl)
theorem dX2_newName_15 : decode cX2_newName 15 = .ok (.ifnull 9, 3) := dk_198 0 9 (dk_at dksX2_newName_0 15 rfl rfl)
theorem dX2_newName_18 : decode cX2_newName 18 = .ok (.aload_n 0, 1) := dk_42 (dk_at dksX2_newName_0 18 rfl rfl)
theorem dX2_newName_19 : decode cX2_newName 19 = .ok (.iconst 3, 1) := dk_6 (dk_at dksX2_newName_0 19 rfl rfl)
theorem dX2_newName_20 : decode cX2_newName 20 = .ok (.invokevirtual 85, 3) := dk_182 0 85 (dk_at dksX2_newName_0 20 rfl rfl)
theorem dX2_newName_23 : decode cX2_newName 23 = .ok (.athrow, 1) := dk_191 (dk_at dksX2_newName_0 23 rfl rfl)
theorem dX2_newName_24 : decode cX2_newName 24 = .ok (.aload_n 0, 1) := dk_42 (dk_at dksX2_newName_1 0 rfl rfl)
theorem dX2_newName_25 : decode cX2_newName 25 = .ok (.getfield 61, 3) := dk_180 0 61 (dk_at dksX2_newName_1 1 rfl rfl)
theorem dX2_newName_28 : decode cX2_newName 28 = .ok (.astore_n 1, 1) := dk_76 (dk_at dksX2_newName_1 4 rfl rfl)
theorem dX2_newName_29 : decode cX2_newName 29 = .ok (.aload_n 0, 1) := dk_42 (dk_at dksX2_newName_1 5 rfl rfl)
theorem dX2_newName_30 : decode cX2_newName 30 = .ok (.invokevirtual 79, 3) := dk_182 0 79 (dk_at dksX2_newName_1 6 rfl rfl)
theorem dX2_newName_33 : decode cX2_newName 33 = .ok (.aload_n 1, 1) := dk_43 (dk_at dksX2_newName_1 9 rfl rfl)
theorem dX2_newName_34 : decode cX2_newName 34 = .ok (.areturn, 1) := dk_176 (dk_at dksX2_newName_1 10 rfl rfl)
abbrev cX2_mustName : ByteArray := prog_11_method_10_code
def yX2_mustName : MethodName := ⟨RX2, "mustName", "()V"⟩
def dkwX2_mustName_11 : List UInt8 := [42, 4, 182, 0, 85, 191, 177]
abbrev dktX2_mustName_11 : List UInt8 := dkwX2_mustName_11 ++ []
def dkwX2_mustName_10 : List UInt8 := [170, 0, 0, 0, 0, 0, 65, 0, 0, 0, 0, 0, 0, 0, 10, 0, 0, 0, 59, 0, 0, 0, 59, 0, 0, 0, 59, 0, 0, 0, 59, 0, 0, 0, 59, 0, 0, 0, 59, 0, 0, 0, 59, 0, 0, 0, 59, 0, 0, 0, 59, 0, 0, 0, 59, 0, 0, 0, 59]
abbrev dktX2_mustName_10 : List UInt8 := dkwX2_mustName_10 ++ dktX2_mustName_11
def dkwX2_mustName_9 : List UInt8 := [167, 0, 15, 43, 18, 113, 182, 0, 71, 153, 0, 6, 16, 10, 61, 28]
abbrev dktX2_mustName_9 : List UInt8 := dkwX2_mustName_9 ++ dktX2_mustName_10
def dkwX2_mustName_8 : List UInt8 := [182, 0, 71, 153, 0, 36, 16, 8, 61, 167, 0, 30, 43, 18, 111, 182, 0, 71, 153, 0, 21, 16, 9, 61]
abbrev dktX2_mustName_8 : List UInt8 := dkwX2_mustName_8 ++ dktX2_mustName_9
def dkwX2_mustName_7 : List UInt8 := [61, 167, 0, 60, 43, 18, 107, 182, 0, 71, 153, 0, 51, 16, 7, 61, 167, 0, 45, 43, 18, 109]
abbrev dktX2_mustName_7 : List UInt8 := dkwX2_mustName_7 ++ dktX2_mustName_8
def dkwX2_mustName_6 : List UInt8 := [18, 103, 182, 0, 71, 153, 0, 80, 8, 61, 167, 0, 75, 43, 18, 105, 182, 0, 71, 153, 0, 66, 16, 6]
abbrev dktX2_mustName_6 : List UInt8 := dkwX2_mustName_6 ++ dktX2_mustName_7
def dkwX2_mustName_5 : List UInt8 := [153, 0, 108, 6, 61, 167, 0, 103, 43, 18, 101, 182, 0, 71, 153, 0, 94, 7, 61, 167, 0, 89, 43]
abbrev dktX2_mustName_5 : List UInt8 := dkwX2_mustName_5 ++ dktX2_mustName_6
def dkwX2_mustName_4 : List UInt8 := [61, 167, 0, 131, 43, 18, 97, 182, 0, 71, 153, 0, 122, 5, 61, 167, 0, 117, 43, 18, 99, 182, 0, 71]
abbrev dktX2_mustName_4 : List UInt8 := dkwX2_mustName_4 ++ dktX2_mustName_5
def dkwX2_mustName_3 : List UInt8 := [43, 18, 93, 182, 0, 71, 153, 0, 150, 3, 61, 167, 0, 145, 43, 18, 95, 182, 0, 71, 153, 0, 136, 4]
abbrev dktX2_mustName_3 : List UInt8 := dkwX2_mustName_3 ++ dktX2_mustName_4
def dkwX2_mustName_2 : List UInt8 := [171, 0, 0, 0, 0, 0, 255, 0, 0, 0, 11, 171, 88, 189, 47, 0, 0, 0, 243, 183, 58, 15, 174, 0, 0, 0, 213, 213, 248, 215, 164, 0, 0, 0, 113, 0, 1, 127, 212, 0, 0, 0, 183, 0, 1, 133, 60, 0, 0, 0, 228, 0, 1, 161, 162, 0, 0, 0, 99, 0, 46, 122, 94, 0, 0, 0, 198, 0, 47, 11, 244, 0, 0, 0, 155, 0, 47, 13, 154, 0, 0, 0, 141, 5, 208, 35, 254, 0, 0, 0, 127, 5, 237, 199, 32, 0, 0, 0, 169]
abbrev dktX2_mustName_2 : List UInt8 := dkwX2_mustName_2 ++ dktX2_mustName_3
def dkwX2_mustName_1 : List UInt8 := [182, 0, 89]
abbrev dktX2_mustName_1 : List UInt8 := dkwX2_mustName_1 ++ dktX2_mustName_2
def dkwX2_mustName_0 : List UInt8 := [42, 180, 0, 47, 5, 159, 0, 9, 42, 4, 182, 0, 85, 191, 42, 180, 0, 61, 76, 2, 61, 43]
abbrev dktX2_mustName_0 : List UInt8 := dkwX2_mustName_0 ++ dktX2_mustName_1
theorem dksX2_mustName_0 : cX2_mustName.data.toList.drop 0 = dktX2_mustName_0 := by decide +kernel
theorem dksX2_mustName_1 : cX2_mustName.data.toList.drop 22 = dktX2_mustName_1 := dk_seg dksX2_mustName_0 22 rfl rfl
theorem dksX2_mustName_2 : cX2_mustName.data.toList.drop 25 = dktX2_mustName_2 := dk_seg dksX2_mustName_1 3 rfl rfl
theorem dksX2_mustName_3 : cX2_mustName.data.toList.drop 124 = dktX2_mustName_3 := dk_seg dksX2_mustName_2 99 rfl rfl
theorem dksX2_mustName_4 : cX2_mustName.data.toList.drop 148 = dktX2_mustName_4 := dk_seg dksX2_mustName_3 24 rfl rfl
theorem dksX2_mustName_5 : cX2_mustName.data.toList.drop 172 = dktX2_mustName_5 := dk_seg dksX2_mustName_4 24 rfl rfl
theorem dksX2_mustName_6 : cX2_mustName.data.toList.drop 195 = dktX2_mustName_6 := dk_seg dksX2_mustName_5 23 rfl rfl
theorem dksX2_mustName_7 : cX2_mustName.data.toList.drop 219 = dktX2_mustName_7 := dk_seg dksX2_mustName_6 24 rfl rfl
theorem dksX2_mustName_8 : cX2_mustName.data.toList.drop 241 = dktX2_mustName_8 := dk_seg dksX2_mustName_7 22 rfl rfl
theorem dksX2_mustName_9 : cX2_mustName.data.toList.drop 265 = dktX2_mustName_9 := dk_seg dksX2_mustName_8 24 rfl rfl
theorem dksX2_mustName_10 : cX2_mustName.data.toList.drop 281 = dktX2_mustName_10 := dk_seg dksX2_mustName_9 16 rfl rfl
theorem dksX2_mustName_11 : cX2_mustName.data.toList.drop 340 = dktX2_mustName_11 := dk_seg dksX2_mustName_10 59 rfl rfl
theorem dX2_mustName_0 : decode cX2_mustName 0 = .ok (.aload_n 0, 1) := dk_42 (dk_at dksX2_mustName_0 0 rfl rfl)
theorem dX2_mustName_1 : decode cX2_mustName 1 = .ok (.getfield 47, 3) := dk_180 0 47 (dk_at dksX2_mustName_0 1 rfl rfl)
theorem dX2_mustName_4 : decode cX2_mustName 4 = .ok (.iconst 2, 1) := dk_5 (dk_at dksX2_mustName_0 4 rfl rfl)
theorem dX2_mustName_5 : decode cX2_mustName 5 = .ok (.if_icmp .eq 9, 3) := dk_159 0 9 (dk_at dksX2_mustName_0 5 rfl rfl)
theorem dX2_mustName_8 : decode cX2_mustName 8 = .ok (.aload_n 0, 1) := dk_42 (dk_at dksX2_mustName_0 8 rfl rfl)
theorem dX2_mustName_9 : decode cX2_mustName 9 = .ok (.iconst 1, 1) := dk_4 (dk_at dksX2_mustName_0 9 rfl rfl)
theorem dX2_mustName_10 : decode cX2_mustName 10 = .ok (.invokevirtual 85, 3) := dk_182 0 85 (dk_at dksX2_mustName_0 10 rfl rfl)
theorem dX2_mustName_13 : decode cX2_mustName 13 = .ok (.athrow, 1) := dk_191 (dk_at dksX2_mustName_0 13 rfl rfl)
theorem dX2_mustName_14 : decode cX2_mustName 14 = .ok (.aload_n 0, 1) := dk_42 (dk_at dksX2_mustName_0 14 rfl rfl)
theorem dX2_mustName_15 : decode cX2_mustName 15 = .ok (.getfield 61, 3) := dk_180 0 61 (dk_at dksX2_mustName_0 15 rfl rfl)
theorem dX2_mustName_18 : decode cX2_mustName 18 = .ok (.astore_n 1, 1) := dk_76 (dk_at dksX2_mustName_0 18 rfl rfl)
theorem dX2_mustName_19 : decode cX2_mustName 19 = .ok (.iconst (-1), 1) := dk_2 (dk_at dksX2_mustName_0 19 rfl rfl)
theorem dX2_mustName_20 : decode cX2_mustName 20 = .ok (.istore_n 2, 1) := dk_61 (dk_at dksX2_mustName_0 20 rfl rfl)
theorem dX2_mustName_21 : decode cX2_mustName 21 = .ok (.aload_n 1, 1) := dk_43 (dk_at dksX2_mustName_0 21 rfl rfl)
theorem dX2_mustName_22 : decode cX2_mustName 22 = .ok (.invokevirtual 89, 3) := dk_182 0 89 (dk_at dksX2_mustName_1 0 rfl rfl)
theorem dX2_mustName_25 : decode cX2_mustName 25 = .ok (.lookupswitch 255 #[(-1420247761, 243), (-1220931666, 213), (-705112156, 113), (98260, 183), (99644, 228), (106914, 99), (3045982, 198), (3083252, 155), (3083674, 141), (97526782, 127), (99469088, 169)], 99) := by decide +kernel
theorem dX2_mustName_124 : decode cX2_mustName 124 = .ok (.aload_n 1, 1) := dk_43 (dk_at dksX2_mustName_3 0 rfl rfl)
theorem dX2_mustName_125 : decode cX2_mustName 125 = .ok (.ldc 93, 2) := dk_18 93 (dk_at dksX2_mustName_3 1 rfl rfl)
theorem dX2_mustName_127 : decode cX2_mustName 127 = .ok (.invokevirtual 71, 3) := dk_182 0 71 (dk_at dksX2_mustName_3 3 rfl rfl)
theorem dX2_mustName_130 : decode cX2_mustName 130 = .ok (.ifCond .eq 150, 3) := dk_153 0 150 (dk_at dksX2_mustName_3 6 rfl rfl)
theorem dX2_mustName_133 : decode cX2_mustName 133 = .ok (.iconst 0, 1) := dk_3 (dk_at dksX2_mustName_3 9 rfl rfl)
theorem dX2_mustName_134 : decode cX2_mustName 134 = .ok (.istore_n 2, 1) := dk_61 (dk_at dksX2_mustName_3 10 rfl rfl)
theorem dX2_mustName_135 : decode cX2_mustName 135 = .ok (.goto 145, 3) := dk_167 0 145 (dk_at dksX2_mustName_3 11 rfl rfl)
theorem dX2_mustName_138 : decode cX2_mustName 138 = .ok (.aload_n 1, 1) := dk_43 (dk_at dksX2_mustName_3 14 rfl rfl)
theorem dX2_mustName_139 : decode cX2_mustName 139 = .ok (.ldc 95, 2) := dk_18 95 (dk_at dksX2_mustName_3 15 rfl rfl)
theorem dX2_mustName_141 : decode cX2_mustName 141 = .ok (.invokevirtual 71, 3) := dk_182 0 71 (dk_at dksX2_mustName_3 17 rfl rfl)
theorem dX2_mustName_144 : decode cX2_mustName 144 = .ok (.ifCond .eq 136, 3) := dk_153 0 136 (dk_at dksX2_mustName_3 20 rfl rfl)
theorem dX2_mustName_147 : decode cX2_mustName 147 = .ok (.iconst 1, 1) := dk_4 (dk_at dksX2_mustName_3 23 rfl rfl)
theorem dX2_mustName_148 : decode cX2_mustName 148 = .ok (.istore_n 2, 1) := dk_61 (dk_at dksX2_mustName_4 0 rfl rfl)
theorem dX2_mustName_149 : decode cX2_mustName 149 = .ok (.goto 131, 3) := dk_167 0 131 (dk_at dksX2_mustName_4 1 rfl rfl)
theorem dX2_mustName_152 : decode cX2_mustName 152 = .ok (.aload_n 1, 1) := dk_43 (dk_at dksX2_mustName_4 4 rfl rfl)
theorem dX2_mustName_153 : decode cX2_mustName 153 = .ok (.ldc 97, 2) := dk_18 97 (dk_at dksX2_mustName_4 5 rfl rfl)
theorem dX2_mustName_155 : decode cX2_mustName 155 = .ok (.invokevirtual 71, 3) := dk_182 0 71 (dk_at dksX2_mustName_4 7 rfl rfl)
theorem dX2_mustName_158 : decode cX2_mustName 158 = .ok (.ifCond .eq 122, 3) := dk_153 0 122 (dk_at dksX2_mustName_4 10 rfl rfl)
theorem dX2_mustName_161 : decode cX2_mustName 161 = .ok (.iconst 2, 1) := dk_5 (dk_at dksX2_mustName_4 13 rfl rfl)
theorem dX2_mustName_162 : decode cX2_mustName 162 = .ok (.istore_n 2, 1) := dk_61 (dk_at dksX2_mustName_4 14 rfl rfl)
theorem dX2_mustName_163 : decode cX2_mustName 163 = .ok (.goto 117, 3) := dk_167 0 117 (dk_at dksX2_mustName_4 15 rfl rfl)
theorem dX2_mustName_166 : decode cX2_mustName 166 = .ok (.aload_n 1, 1) := dk_43 (dk_at dksX2_mustName_4 18 rfl rfl)
theorem dX2_mustName_167 : decode cX2_mustName 167 = .ok (.ldc 99, 2) := dk_18 99 (dk_at dksX2_mustName_4 19 rfl rfl)
theorem dX2_mustName_169 : decode cX2_mustName 169 = .ok (.invokevirtual 71, 3) := dk_182 0 71 (dk_at dksX2_mustName_4 21 rfl rfl)
theorem dX2_mustName_172 : decode cX2_mustName 172 = .ok (.ifCond .eq 108, 3) := dk_153 0 108 (dk_at dksX2_mustName_5 0 rfl rfl)
theorem dX2_mustName_175 : decode cX2_mustName 175 = .ok (.iconst 3, 1) := dk_6 (dk_at dksX2_mustName_5 3 rfl rfl)
theorem dX2_mustName_176 : decode cX2_mustName 176 = .ok (.istore_n 2, 1) := dk_61 (dk_at dksX2_mustName_5 4 rfl rfl)
theorem dX2_mustName_177 : decode cX2_mustName 177 = .ok (.goto 103, 3) := dk_167 0 103 (dk_at dksX2_mustName_5 5 rfl rfl)
theorem dX2_mustName_180 : decode cX2_mustName 180 = .ok (.aload_n 1, 1) := dk_43 (dk_at dksX2_mustName_5 8 rfl rfl)
theorem dX2_mustName_181 : decode cX2_mustName 181 = .ok (.ldc 101, 2) := dk_18 101 (dk_at dksX2_mustName_5 9 rfl rfl)
theorem dX2_mustName_183 : decode cX2_mustName 183 = .ok (.invokevirtual 71, 3) := dk_182 0 71 (dk_at dksX2_mustName_5 11 rfl rfl)
theorem dX2_mustName_186 : decode cX2_mustName 186 = .ok (.ifCond .eq 94, 3) := dk_153 0 94 (dk_at dksX2_mustName_5 14 rfl rfl)
theorem dX2_mustName_189 : decode cX2_mustName 189 = .ok (.iconst 4, 1) := dk_7 (dk_at dksX2_mustName_5 17 rfl rfl)
theorem dX2_mustName_190 : decode cX2_mustName 190 = .ok (.istore_n 2, 1) := dk_61 (dk_at dksX2_mustName_5 18 rfl rfl)
theorem dX2_mustName_191 : decode cX2_mustName 191 = .ok (.goto 89, 3) := dk_167 0 89 (dk_at dksX2_mustName_5 19 rfl rfl)
theorem dX2_mustName_194 : decode cX2_mustName 194 = .ok (.aload_n 1, 1) := dk_43 (dk_at dksX2_mustName_5 22 rfl rfl)
theorem dX2_mustName_195 : decode cX2_mustName 195 = .ok (.ldc 103, 2) := dk_18 103 (dk_at dksX2_mustName_6 0 rfl rfl)
theorem dX2_mustName_197 : decode cX2_mustName 197 = .ok (.invokevirtual 71, 3) := dk_182 0 71 (dk_at dksX2_mustName_6 2 rfl rfl)
theorem dX2_mustName_200 : decode cX2_mustName 200 = .ok (.ifCond .eq 80, 3) := dk_153 0 80 (dk_at dksX2_mustName_6 5 rfl rfl)
theorem dX2_mustName_203 : decode cX2_mustName 203 = .ok (.iconst 5, 1) := dk_8 (dk_at dksX2_mustName_6 8 rfl rfl)
theorem dX2_mustName_204 : decode cX2_mustName 204 = .ok (.istore_n 2, 1) := dk_61 (dk_at dksX2_mustName_6 9 rfl rfl)
theorem dX2_mustName_205 : decode cX2_mustName 205 = .ok (.goto 75, 3) := dk_167 0 75 (dk_at dksX2_mustName_6 10 rfl rfl)
theorem dX2_mustName_208 : decode cX2_mustName 208 = .ok (.aload_n 1, 1) := dk_43 (dk_at dksX2_mustName_6 13 rfl rfl)
theorem dX2_mustName_209 : decode cX2_mustName 209 = .ok (.ldc 105, 2) := dk_18 105 (dk_at dksX2_mustName_6 14 rfl rfl)
theorem dX2_mustName_211 : decode cX2_mustName 211 = .ok (.invokevirtual 71, 3) := dk_182 0 71 (dk_at dksX2_mustName_6 16 rfl rfl)
theorem dX2_mustName_214 : decode cX2_mustName 214 = .ok (.ifCond .eq 66, 3) := dk_153 0 66 (dk_at dksX2_mustName_6 19 rfl rfl)
theorem dX2_mustName_217 : decode cX2_mustName 217 = .ok (.bipush 6, 2) := dk_16 6 (dk_at dksX2_mustName_6 22 rfl rfl)
theorem dX2_mustName_219 : decode cX2_mustName 219 = .ok (.istore_n 2, 1) := dk_61 (dk_at dksX2_mustName_7 0 rfl rfl)
theorem dX2_mustName_220 : decode cX2_mustName 220 = .ok (.goto 60, 3) := dk_167 0 60 (dk_at dksX2_mustName_7 1 rfl rfl)
theorem dX2_mustName_223 : decode cX2_mustName 223 = .ok (.aload_n 1, 1) := dk_43 (dk_at dksX2_mustName_7 4 rfl rfl)
theorem dX2_mustName_224 : decode cX2_mustName 224 = .ok (.ldc 107, 2) := dk_18 107 (dk_at dksX2_mustName_7 5 rfl rfl)
theorem dX2_mustName_226 : decode cX2_mustName 226 = .ok (.invokevirtual 71, 3) := dk_182 0 71 (dk_at dksX2_mustName_7 7 rfl rfl)
theorem dX2_mustName_229 : decode cX2_mustName 229 = .ok (.ifCond .eq 51, 3) := dk_153 0 51 (dk_at dksX2_mustName_7 10 rfl rfl)
theorem dX2_mustName_232 : decode cX2_mustName 232 = .ok (.bipush 7, 2) := dk_16 7 (dk_at dksX2_mustName_7 13 rfl rfl)
theorem dX2_mustName_234 : decode cX2_mustName 234 = .ok (.istore_n 2, 1) := dk_61 (dk_at dksX2_mustName_7 15 rfl rfl)
theorem dX2_mustName_235 : decode cX2_mustName 235 = .ok (.goto 45, 3) := dk_167 0 45 (dk_at dksX2_mustName_7 16 rfl rfl)
theorem dX2_mustName_238 : decode cX2_mustName 238 = .ok (.aload_n 1, 1) := dk_43 (dk_at dksX2_mustName_7 19 rfl rfl)
theorem dX2_mustName_239 : decode cX2_mustName 239 = .ok (.ldc 109, 2) := dk_18 109 (dk_at dksX2_mustName_7 20 rfl rfl)
theorem dX2_mustName_241 : decode cX2_mustName 241 = .ok (.invokevirtual 71, 3) := dk_182 0 71 (dk_at dksX2_mustName_8 0 rfl rfl)
theorem dX2_mustName_244 : decode cX2_mustName 244 = .ok (.ifCond .eq 36, 3) := dk_153 0 36 (dk_at dksX2_mustName_8 3 rfl rfl)
theorem dX2_mustName_247 : decode cX2_mustName 247 = .ok (.bipush 8, 2) := dk_16 8 (dk_at dksX2_mustName_8 6 rfl rfl)
theorem dX2_mustName_249 : decode cX2_mustName 249 = .ok (.istore_n 2, 1) := dk_61 (dk_at dksX2_mustName_8 8 rfl rfl)
theorem dX2_mustName_250 : decode cX2_mustName 250 = .ok (.goto 30, 3) := dk_167 0 30 (dk_at dksX2_mustName_8 9 rfl rfl)
theorem dX2_mustName_253 : decode cX2_mustName 253 = .ok (.aload_n 1, 1) := dk_43 (dk_at dksX2_mustName_8 12 rfl rfl)
theorem dX2_mustName_254 : decode cX2_mustName 254 = .ok (.ldc 111, 2) := dk_18 111 (dk_at dksX2_mustName_8 13 rfl rfl)
theorem dX2_mustName_256 : decode cX2_mustName 256 = .ok (.invokevirtual 71, 3) := dk_182 0 71 (dk_at dksX2_mustName_8 15 rfl rfl)
theorem dX2_mustName_259 : decode cX2_mustName 259 = .ok (.ifCond .eq 21, 3) := dk_153 0 21 (dk_at dksX2_mustName_8 18 rfl rfl)
theorem dX2_mustName_262 : decode cX2_mustName 262 = .ok (.bipush 9, 2) := dk_16 9 (dk_at dksX2_mustName_8 21 rfl rfl)
theorem dX2_mustName_264 : decode cX2_mustName 264 = .ok (.istore_n 2, 1) := dk_61 (dk_at dksX2_mustName_8 23 rfl rfl)
theorem dX2_mustName_265 : decode cX2_mustName 265 = .ok (.goto 15, 3) := dk_167 0 15 (dk_at dksX2_mustName_9 0 rfl rfl)
theorem dX2_mustName_268 : decode cX2_mustName 268 = .ok (.aload_n 1, 1) := dk_43 (dk_at dksX2_mustName_9 3 rfl rfl)
theorem dX2_mustName_269 : decode cX2_mustName 269 = .ok (.ldc 113, 2) := dk_18 113 (dk_at dksX2_mustName_9 4 rfl rfl)
theorem dX2_mustName_271 : decode cX2_mustName 271 = .ok (.invokevirtual 71, 3) := dk_182 0 71 (dk_at dksX2_mustName_9 6 rfl rfl)
theorem dX2_mustName_274 : decode cX2_mustName 274 = .ok (.ifCond .eq 6, 3) := dk_153 0 6 (dk_at dksX2_mustName_9 9 rfl rfl)
theorem dX2_mustName_277 : decode cX2_mustName 277 = .ok (.bipush 10, 2) := dk_16 10 (dk_at dksX2_mustName_9 12 rfl rfl)
theorem dX2_mustName_279 : decode cX2_mustName 279 = .ok (.istore_n 2, 1) := dk_61 (dk_at dksX2_mustName_9 14 rfl rfl)
theorem dX2_mustName_280 : decode cX2_mustName 280 = .ok (.iload_n 2, 1) := dk_28 (dk_at dksX2_mustName_9 15 rfl rfl)
theorem dX2_mustName_281 : decode cX2_mustName 281 = .ok (.tableswitch 65 0 10 #[59, 59, 59, 59, 59, 59, 59, 59, 59, 59, 59], 59) := by decide +kernel
theorem dX2_mustName_340 : decode cX2_mustName 340 = .ok (.aload_n 0, 1) := dk_42 (dk_at dksX2_mustName_11 0 rfl rfl)
theorem dX2_mustName_341 : decode cX2_mustName 341 = .ok (.iconst 1, 1) := dk_4 (dk_at dksX2_mustName_11 1 rfl rfl)
theorem dX2_mustName_342 : decode cX2_mustName 342 = .ok (.invokevirtual 85, 3) := dk_182 0 85 (dk_at dksX2_mustName_11 2 rfl rfl)
theorem dX2_mustName_345 : decode cX2_mustName 345 = .ok (.athrow, 1) := dk_191 (dk_at dksX2_mustName_11 5 rfl rfl)
theorem dX2_mustName_346 : decode cX2_mustName 346 = .ok (.return_, 1) := dk_177 (dk_at dksX2_mustName_11 6 rfl rfl)
abbrev cX2_dish : ByteArray := prog_11_method_19_code
def yX2_dish : MethodName := ⟨RX2, "dish", "()V"⟩
def dkwX2_dish_4 : List UInt8 := [181, 0, 214, 177]
abbrev dktX2_dish_4 : List UInt8 := dkwX2_dish_4 ++ []
def dkwX2_dish_3 : List UInt8 := [180, 0, 231, 42, 180, 0, 118, 180, 0, 214, 43, 83, 42, 180, 0, 118, 89, 180, 0, 214, 4, 96]
abbrev dktX2_dish_3 : List UInt8 := dkwX2_dish_3 ++ dktX2_dish_4
def dkwX2_dish_2 : List UInt8 := [182, 0, 222, 181, 0, 225, 43, 42, 18, 227, 4, 16, 99, 182, 0, 161, 181, 0, 229, 42, 180, 0, 118]
abbrev dktX2_dish_2 : List UInt8 := dkwX2_dish_2 ++ dktX2_dish_3
def dkwX2_dish_1 : List UInt8 := [187, 0, 217, 89, 42, 182, 0, 200, 42, 180, 0, 118, 180, 0, 214, 183, 0, 219, 76, 43, 42, 18, 220]
abbrev dktX2_dish_1 : List UInt8 := dkwX2_dish_1 ++ dktX2_dish_2
def dkwX2_dish_0 : List UInt8 := [42, 42, 180, 0, 118, 180, 0, 214, 16, 6, 162, 0, 7, 4, 167, 0, 4, 3, 8, 182, 0, 156]
abbrev dktX2_dish_0 : List UInt8 := dkwX2_dish_0 ++ dktX2_dish_1
theorem dksX2_dish_0 : cX2_dish.data.toList.drop 0 = dktX2_dish_0 := by decide +kernel
theorem dksX2_dish_1 : cX2_dish.data.toList.drop 22 = dktX2_dish_1 := dk_seg dksX2_dish_0 22 rfl rfl
theorem dksX2_dish_2 : cX2_dish.data.toList.drop 45 = dktX2_dish_2 := dk_seg dksX2_dish_1 23 rfl rfl
theorem dksX2_dish_3 : cX2_dish.data.toList.drop 68 = dktX2_dish_3 := dk_seg dksX2_dish_2 23 rfl rfl
theorem dksX2_dish_4 : cX2_dish.data.toList.drop 90 = dktX2_dish_4 := dk_seg dksX2_dish_3 22 rfl rfl
theorem dX2_dish_0 : decode cX2_dish 0 = .ok (.aload_n 0, 1) := dk_42 (dk_at dksX2_dish_0 0 rfl rfl)
theorem dX2_dish_1 : decode cX2_dish 1 = .ok (.aload_n 0, 1) := dk_42 (dk_at dksX2_dish_0 1 rfl rfl)
theorem dX2_dish_2 : decode cX2_dish 2 = .ok (.getfield 118, 3) := dk_180 0 118 (dk_at dksX2_dish_0 2 rfl rfl)
theorem dX2_dish_5 : decode cX2_dish 5 = .ok (.getfield 214, 3) := dk_180 0 214 (dk_at dksX2_dish_0 5 rfl rfl)
theorem dX2_dish_8 : decode cX2_dish 8 = .ok (.bipush 6, 2) := dk_16 6 (dk_at dksX2_dish_0 8 rfl rfl)
theorem dX2_dish_10 : decode cX2_dish 10 = .ok (.if_icmp .ge 7, 3) := dk_162 0 7 (dk_at dksX2_dish_0 10 rfl rfl)
theorem dX2_dish_13 : decode cX2_dish 13 = .ok (.iconst 1, 1) := dk_4 (dk_at dksX2_dish_0 13 rfl rfl)
theorem dX2_dish_14 : decode cX2_dish 14 = .ok (.goto 4, 3) := dk_167 0 4 (dk_at dksX2_dish_0 14 rfl rfl)
theorem dX2_dish_17 : decode cX2_dish 17 = .ok (.iconst 0, 1) := dk_3 (dk_at dksX2_dish_0 17 rfl rfl)
theorem dX2_dish_18 : decode cX2_dish 18 = .ok (.iconst 5, 1) := dk_8 (dk_at dksX2_dish_0 18 rfl rfl)
theorem dX2_dish_19 : decode cX2_dish 19 = .ok (.invokevirtual 156, 3) := dk_182 0 156 (dk_at dksX2_dish_0 19 rfl rfl)
theorem dX2_dish_22 : decode cX2_dish 22 = .ok (.new 217, 3) := dk_187 0 217 (dk_at dksX2_dish_1 0 rfl rfl)
theorem dX2_dish_25 : decode cX2_dish 25 = .ok (.dup, 1) := dk_89 (dk_at dksX2_dish_1 3 rfl rfl)
theorem dX2_dish_26 : decode cX2_dish 26 = .ok (.aload_n 0, 1) := dk_42 (dk_at dksX2_dish_1 4 rfl rfl)
theorem dX2_dish_27 : decode cX2_dish 27 = .ok (.invokevirtual 200, 3) := dk_182 0 200 (dk_at dksX2_dish_1 5 rfl rfl)
theorem dX2_dish_30 : decode cX2_dish 30 = .ok (.aload_n 0, 1) := dk_42 (dk_at dksX2_dish_1 8 rfl rfl)
theorem dX2_dish_31 : decode cX2_dish 31 = .ok (.getfield 118, 3) := dk_180 0 118 (dk_at dksX2_dish_1 9 rfl rfl)
theorem dX2_dish_34 : decode cX2_dish 34 = .ok (.getfield 214, 3) := dk_180 0 214 (dk_at dksX2_dish_1 12 rfl rfl)
theorem dX2_dish_37 : decode cX2_dish 37 = .ok (.invokespecial 219, 3) := dk_183 0 219 (dk_at dksX2_dish_1 15 rfl rfl)
theorem dX2_dish_40 : decode cX2_dish 40 = .ok (.astore_n 1, 1) := dk_76 (dk_at dksX2_dish_1 18 rfl rfl)
theorem dX2_dish_41 : decode cX2_dish 41 = .ok (.aload_n 1, 1) := dk_43 (dk_at dksX2_dish_1 19 rfl rfl)
theorem dX2_dish_42 : decode cX2_dish 42 = .ok (.aload_n 0, 1) := dk_42 (dk_at dksX2_dish_1 20 rfl rfl)
theorem dX2_dish_43 : decode cX2_dish 43 = .ok (.ldc 220, 2) := dk_18 220 (dk_at dksX2_dish_1 21 rfl rfl)
theorem dX2_dish_45 : decode cX2_dish 45 = .ok (.invokevirtual 222, 3) := dk_182 0 222 (dk_at dksX2_dish_2 0 rfl rfl)
theorem dX2_dish_48 : decode cX2_dish 48 = .ok (.putfield 225, 3) := dk_181 0 225 (dk_at dksX2_dish_2 3 rfl rfl)
theorem dX2_dish_51 : decode cX2_dish 51 = .ok (.aload_n 1, 1) := dk_43 (dk_at dksX2_dish_2 6 rfl rfl)
theorem dX2_dish_52 : decode cX2_dish 52 = .ok (.aload_n 0, 1) := dk_42 (dk_at dksX2_dish_2 7 rfl rfl)
theorem dX2_dish_53 : decode cX2_dish 53 = .ok (.ldc 227, 2) := dk_18 227 (dk_at dksX2_dish_2 8 rfl rfl)
theorem dX2_dish_55 : decode cX2_dish 55 = .ok (.iconst 1, 1) := dk_4 (dk_at dksX2_dish_2 10 rfl rfl)
theorem dX2_dish_56 : decode cX2_dish 56 = .ok (.bipush 99, 2) := dk_16 99 (dk_at dksX2_dish_2 11 rfl rfl)
theorem dX2_dish_58 : decode cX2_dish 58 = .ok (.invokevirtual 161, 3) := dk_182 0 161 (dk_at dksX2_dish_2 13 rfl rfl)
theorem dX2_dish_61 : decode cX2_dish 61 = .ok (.putfield 229, 3) := dk_181 0 229 (dk_at dksX2_dish_2 16 rfl rfl)
theorem dX2_dish_64 : decode cX2_dish 64 = .ok (.aload_n 0, 1) := dk_42 (dk_at dksX2_dish_2 19 rfl rfl)
theorem dX2_dish_65 : decode cX2_dish 65 = .ok (.getfield 118, 3) := dk_180 0 118 (dk_at dksX2_dish_2 20 rfl rfl)
theorem dX2_dish_68 : decode cX2_dish 68 = .ok (.getfield 231, 3) := dk_180 0 231 (dk_at dksX2_dish_3 0 rfl rfl)
theorem dX2_dish_71 : decode cX2_dish 71 = .ok (.aload_n 0, 1) := dk_42 (dk_at dksX2_dish_3 3 rfl rfl)
theorem dX2_dish_72 : decode cX2_dish 72 = .ok (.getfield 118, 3) := dk_180 0 118 (dk_at dksX2_dish_3 4 rfl rfl)
theorem dX2_dish_75 : decode cX2_dish 75 = .ok (.getfield 214, 3) := dk_180 0 214 (dk_at dksX2_dish_3 7 rfl rfl)
theorem dX2_dish_78 : decode cX2_dish 78 = .ok (.aload_n 1, 1) := dk_43 (dk_at dksX2_dish_3 10 rfl rfl)
theorem dX2_dish_79 : decode cX2_dish 79 = .ok (.aastore, 1) := dk_83 (dk_at dksX2_dish_3 11 rfl rfl)
theorem dX2_dish_80 : decode cX2_dish 80 = .ok (.aload_n 0, 1) := dk_42 (dk_at dksX2_dish_3 12 rfl rfl)
theorem dX2_dish_81 : decode cX2_dish 81 = .ok (.getfield 118, 3) := dk_180 0 118 (dk_at dksX2_dish_3 13 rfl rfl)
theorem dX2_dish_84 : decode cX2_dish 84 = .ok (.dup, 1) := dk_89 (dk_at dksX2_dish_3 16 rfl rfl)
theorem dX2_dish_85 : decode cX2_dish 85 = .ok (.getfield 214, 3) := dk_180 0 214 (dk_at dksX2_dish_3 17 rfl rfl)
theorem dX2_dish_88 : decode cX2_dish 88 = .ok (.iconst 1, 1) := dk_4 (dk_at dksX2_dish_3 20 rfl rfl)
theorem dX2_dish_89 : decode cX2_dish 89 = .ok (.iadd, 1) := dk_96 (dk_at dksX2_dish_3 21 rfl rfl)
theorem dX2_dish_90 : decode cX2_dish 90 = .ok (.putfield 214, 3) := dk_181 0 214 (dk_at dksX2_dish_4 0 rfl rfl)
theorem dX2_dish_93 : decode cX2_dish 93 = .ok (.return_, 1) := dk_177 (dk_at dksX2_dish_4 3 rfl rfl)
abbrev cX2_letters : ByteArray := prog_11_method_14_code
def yX2_letters : MethodName := ⟨RX2, "letters", "(Ljava/lang/String;)I"⟩
def dkwX2_letters_2 : List UInt8 := [128, 61, 132, 3, 1, 167, 255, 226, 42, 182, 0, 79, 28, 172]
abbrev dktX2_letters_2 : List UInt8 := dkwX2_letters_2 ++ []
def dkwX2_letters_1 : List UInt8 := [42, 180, 0, 61, 182, 0, 136, 162, 0, 25, 28, 4, 42, 180, 0, 61, 29, 182, 0, 139, 16, 97, 100, 120]
abbrev dktX2_letters_1 : List UInt8 := dkwX2_letters_1 ++ dktX2_letters_2
def dkwX2_letters_0 : List UInt8 := [42, 43, 182, 0, 128, 42, 180, 0, 47, 5, 159, 0, 9, 42, 4, 182, 0, 85, 191, 3, 61, 3, 62, 29]
abbrev dktX2_letters_0 : List UInt8 := dkwX2_letters_0 ++ dktX2_letters_1
theorem dksX2_letters_0 : cX2_letters.data.toList.drop 0 = dktX2_letters_0 := by decide +kernel
theorem dksX2_letters_1 : cX2_letters.data.toList.drop 24 = dktX2_letters_1 := dk_seg dksX2_letters_0 24 rfl rfl
theorem dksX2_letters_2 : cX2_letters.data.toList.drop 48 = dktX2_letters_2 := dk_seg dksX2_letters_1 24 rfl rfl
theorem dX2_letters_0 : decode cX2_letters 0 = .ok (.aload_n 0, 1) := dk_42 (dk_at dksX2_letters_0 0 rfl rfl)
theorem dX2_letters_1 : decode cX2_letters 1 = .ok (.aload_n 1, 1) := dk_43 (dk_at dksX2_letters_0 1 rfl rfl)
theorem dX2_letters_2 : decode cX2_letters 2 = .ok (.invokevirtual 128, 3) := dk_182 0 128 (dk_at dksX2_letters_0 2 rfl rfl)
theorem dX2_letters_5 : decode cX2_letters 5 = .ok (.aload_n 0, 1) := dk_42 (dk_at dksX2_letters_0 5 rfl rfl)
theorem dX2_letters_6 : decode cX2_letters 6 = .ok (.getfield 47, 3) := dk_180 0 47 (dk_at dksX2_letters_0 6 rfl rfl)
theorem dX2_letters_9 : decode cX2_letters 9 = .ok (.iconst 2, 1) := dk_5 (dk_at dksX2_letters_0 9 rfl rfl)
theorem dX2_letters_10 : decode cX2_letters 10 = .ok (.if_icmp .eq 9, 3) := dk_159 0 9 (dk_at dksX2_letters_0 10 rfl rfl)
theorem dX2_letters_13 : decode cX2_letters 13 = .ok (.aload_n 0, 1) := dk_42 (dk_at dksX2_letters_0 13 rfl rfl)
theorem dX2_letters_14 : decode cX2_letters 14 = .ok (.iconst 1, 1) := dk_4 (dk_at dksX2_letters_0 14 rfl rfl)
theorem dX2_letters_15 : decode cX2_letters 15 = .ok (.invokevirtual 85, 3) := dk_182 0 85 (dk_at dksX2_letters_0 15 rfl rfl)
theorem dX2_letters_18 : decode cX2_letters 18 = .ok (.athrow, 1) := dk_191 (dk_at dksX2_letters_0 18 rfl rfl)
theorem dX2_letters_19 : decode cX2_letters 19 = .ok (.iconst 0, 1) := dk_3 (dk_at dksX2_letters_0 19 rfl rfl)
theorem dX2_letters_20 : decode cX2_letters 20 = .ok (.istore_n 2, 1) := dk_61 (dk_at dksX2_letters_0 20 rfl rfl)
theorem dX2_letters_21 : decode cX2_letters 21 = .ok (.iconst 0, 1) := dk_3 (dk_at dksX2_letters_0 21 rfl rfl)
theorem dX2_letters_22 : decode cX2_letters 22 = .ok (.istore_n 3, 1) := dk_62 (dk_at dksX2_letters_0 22 rfl rfl)
theorem dX2_letters_23 : decode cX2_letters 23 = .ok (.iload_n 3, 1) := dk_29 (dk_at dksX2_letters_0 23 rfl rfl)
theorem dX2_letters_24 : decode cX2_letters 24 = .ok (.aload_n 0, 1) := dk_42 (dk_at dksX2_letters_1 0 rfl rfl)
theorem dX2_letters_25 : decode cX2_letters 25 = .ok (.getfield 61, 3) := dk_180 0 61 (dk_at dksX2_letters_1 1 rfl rfl)
theorem dX2_letters_28 : decode cX2_letters 28 = .ok (.invokevirtual 136, 3) := dk_182 0 136 (dk_at dksX2_letters_1 4 rfl rfl)
theorem dX2_letters_31 : decode cX2_letters 31 = .ok (.if_icmp .ge 25, 3) := dk_162 0 25 (dk_at dksX2_letters_1 7 rfl rfl)
theorem dX2_letters_34 : decode cX2_letters 34 = .ok (.iload_n 2, 1) := dk_28 (dk_at dksX2_letters_1 10 rfl rfl)
theorem dX2_letters_35 : decode cX2_letters 35 = .ok (.iconst 1, 1) := dk_4 (dk_at dksX2_letters_1 11 rfl rfl)
theorem dX2_letters_36 : decode cX2_letters 36 = .ok (.aload_n 0, 1) := dk_42 (dk_at dksX2_letters_1 12 rfl rfl)
theorem dX2_letters_37 : decode cX2_letters 37 = .ok (.getfield 61, 3) := dk_180 0 61 (dk_at dksX2_letters_1 13 rfl rfl)
theorem dX2_letters_40 : decode cX2_letters 40 = .ok (.iload_n 3, 1) := dk_29 (dk_at dksX2_letters_1 16 rfl rfl)
theorem dX2_letters_41 : decode cX2_letters 41 = .ok (.invokevirtual 139, 3) := dk_182 0 139 (dk_at dksX2_letters_1 17 rfl rfl)
theorem dX2_letters_44 : decode cX2_letters 44 = .ok (.bipush 97, 2) := dk_16 97 (dk_at dksX2_letters_1 20 rfl rfl)
theorem dX2_letters_46 : decode cX2_letters 46 = .ok (.isub, 1) := dk_100 (dk_at dksX2_letters_1 22 rfl rfl)
theorem dX2_letters_47 : decode cX2_letters 47 = .ok (.ishl, 1) := dk_120 (dk_at dksX2_letters_1 23 rfl rfl)
theorem dX2_letters_48 : decode cX2_letters 48 = .ok (.ior, 1) := dk_128 (dk_at dksX2_letters_2 0 rfl rfl)
theorem dX2_letters_49 : decode cX2_letters 49 = .ok (.istore_n 2, 1) := dk_61 (dk_at dksX2_letters_2 1 rfl rfl)
theorem dX2_letters_50 : decode cX2_letters 50 = .ok (.iinc 3 1, 3) := dk_132 3 1 (dk_at dksX2_letters_2 2 rfl rfl)
theorem dX2_letters_53 : decode cX2_letters 53 = .ok (.goto (-30), 3) := dk_167 255 226 (dk_at dksX2_letters_2 5 rfl rfl)
theorem dX2_letters_56 : decode cX2_letters 56 = .ok (.aload_n 0, 1) := dk_42 (dk_at dksX2_letters_2 8 rfl rfl)
theorem dX2_letters_57 : decode cX2_letters 57 = .ok (.invokevirtual 79, 3) := dk_182 0 79 (dk_at dksX2_letters_2 9 rfl rfl)
theorem dX2_letters_60 : decode cX2_letters 60 = .ok (.iload_n 2, 1) := dk_28 (dk_at dksX2_letters_2 12 rfl rfl)
theorem dX2_letters_61 : decode cX2_letters 61 = .ok (.ireturn, 1) := dk_172 (dk_at dksX2_letters_2 13 rfl rfl)
abbrev cX2_diet : ByteArray := prog_11_method_20_code
def yX2_diet : MethodName := ⟨RX2, "diet", "()V"⟩
def dkwX2_diet_3 : List UInt8 := [180, 0, 235, 4, 96, 181, 0, 235, 177]
abbrev dktX2_diet_3 : List UInt8 := dkwX2_diet_3 ++ []
def dkwX2_diet_2 : List UInt8 := [181, 0, 243, 42, 180, 0, 118, 180, 0, 245, 42, 180, 0, 118, 180, 0, 235, 43, 83, 42, 180, 0, 118, 89]
abbrev dktX2_diet_2 : List UInt8 := dkwX2_diet_2 ++ dktX2_diet_3
def dkwX2_diet_1 : List UInt8 := [89, 42, 182, 0, 200, 42, 180, 0, 118, 180, 0, 235, 183, 0, 240, 76, 43, 42, 18, 241, 182, 0, 222]
abbrev dktX2_diet_1 : List UInt8 := dkwX2_diet_1 ++ dktX2_diet_2
def dkwX2_diet_0 : List UInt8 := [42, 42, 180, 0, 118, 180, 0, 235, 7, 162, 0, 7, 4, 167, 0, 4, 3, 8, 182, 0, 156, 187, 0, 238]
abbrev dktX2_diet_0 : List UInt8 := dkwX2_diet_0 ++ dktX2_diet_1
theorem dksX2_diet_0 : cX2_diet.data.toList.drop 0 = dktX2_diet_0 := by decide +kernel
theorem dksX2_diet_1 : cX2_diet.data.toList.drop 24 = dktX2_diet_1 := dk_seg dksX2_diet_0 24 rfl rfl
theorem dksX2_diet_2 : cX2_diet.data.toList.drop 47 = dktX2_diet_2 := dk_seg dksX2_diet_1 23 rfl rfl
theorem dksX2_diet_3 : cX2_diet.data.toList.drop 71 = dktX2_diet_3 := dk_seg dksX2_diet_2 24 rfl rfl
theorem dX2_diet_0 : decode cX2_diet 0 = .ok (.aload_n 0, 1) := dk_42 (dk_at dksX2_diet_0 0 rfl rfl)
theorem dX2_diet_1 : decode cX2_diet 1 = .ok (.aload_n 0, 1) := dk_42 (dk_at dksX2_diet_0 1 rfl rfl)
theorem dX2_diet_2 : decode cX2_diet 2 = .ok (.getfield 118, 3) := dk_180 0 118 (dk_at dksX2_diet_0 2 rfl rfl)
theorem dX2_diet_5 : decode cX2_diet 5 = .ok (.getfield 235, 3) := dk_180 0 235 (dk_at dksX2_diet_0 5 rfl rfl)
theorem dX2_diet_8 : decode cX2_diet 8 = .ok (.iconst 4, 1) := dk_7 (dk_at dksX2_diet_0 8 rfl rfl)
theorem dX2_diet_9 : decode cX2_diet 9 = .ok (.if_icmp .ge 7, 3) := dk_162 0 7 (dk_at dksX2_diet_0 9 rfl rfl)
theorem dX2_diet_12 : decode cX2_diet 12 = .ok (.iconst 1, 1) := dk_4 (dk_at dksX2_diet_0 12 rfl rfl)
theorem dX2_diet_13 : decode cX2_diet 13 = .ok (.goto 4, 3) := dk_167 0 4 (dk_at dksX2_diet_0 13 rfl rfl)
theorem dX2_diet_16 : decode cX2_diet 16 = .ok (.iconst 0, 1) := dk_3 (dk_at dksX2_diet_0 16 rfl rfl)
theorem dX2_diet_17 : decode cX2_diet 17 = .ok (.iconst 5, 1) := dk_8 (dk_at dksX2_diet_0 17 rfl rfl)
theorem dX2_diet_18 : decode cX2_diet 18 = .ok (.invokevirtual 156, 3) := dk_182 0 156 (dk_at dksX2_diet_0 18 rfl rfl)
theorem dX2_diet_21 : decode cX2_diet 21 = .ok (.new 238, 3) := dk_187 0 238 (dk_at dksX2_diet_0 21 rfl rfl)
theorem dX2_diet_24 : decode cX2_diet 24 = .ok (.dup, 1) := dk_89 (dk_at dksX2_diet_1 0 rfl rfl)
theorem dX2_diet_25 : decode cX2_diet 25 = .ok (.aload_n 0, 1) := dk_42 (dk_at dksX2_diet_1 1 rfl rfl)
theorem dX2_diet_26 : decode cX2_diet 26 = .ok (.invokevirtual 200, 3) := dk_182 0 200 (dk_at dksX2_diet_1 2 rfl rfl)
theorem dX2_diet_29 : decode cX2_diet 29 = .ok (.aload_n 0, 1) := dk_42 (dk_at dksX2_diet_1 5 rfl rfl)
theorem dX2_diet_30 : decode cX2_diet 30 = .ok (.getfield 118, 3) := dk_180 0 118 (dk_at dksX2_diet_1 6 rfl rfl)
theorem dX2_diet_33 : decode cX2_diet 33 = .ok (.getfield 235, 3) := dk_180 0 235 (dk_at dksX2_diet_1 9 rfl rfl)
theorem dX2_diet_36 : decode cX2_diet 36 = .ok (.invokespecial 240, 3) := dk_183 0 240 (dk_at dksX2_diet_1 12 rfl rfl)
theorem dX2_diet_39 : decode cX2_diet 39 = .ok (.astore_n 1, 1) := dk_76 (dk_at dksX2_diet_1 15 rfl rfl)
theorem dX2_diet_40 : decode cX2_diet 40 = .ok (.aload_n 1, 1) := dk_43 (dk_at dksX2_diet_1 16 rfl rfl)
theorem dX2_diet_41 : decode cX2_diet 41 = .ok (.aload_n 0, 1) := dk_42 (dk_at dksX2_diet_1 17 rfl rfl)
theorem dX2_diet_42 : decode cX2_diet 42 = .ok (.ldc 241, 2) := dk_18 241 (dk_at dksX2_diet_1 18 rfl rfl)
theorem dX2_diet_44 : decode cX2_diet 44 = .ok (.invokevirtual 222, 3) := dk_182 0 222 (dk_at dksX2_diet_1 20 rfl rfl)
theorem dX2_diet_47 : decode cX2_diet 47 = .ok (.putfield 243, 3) := dk_181 0 243 (dk_at dksX2_diet_2 0 rfl rfl)
theorem dX2_diet_50 : decode cX2_diet 50 = .ok (.aload_n 0, 1) := dk_42 (dk_at dksX2_diet_2 3 rfl rfl)
theorem dX2_diet_51 : decode cX2_diet 51 = .ok (.getfield 118, 3) := dk_180 0 118 (dk_at dksX2_diet_2 4 rfl rfl)
theorem dX2_diet_54 : decode cX2_diet 54 = .ok (.getfield 245, 3) := dk_180 0 245 (dk_at dksX2_diet_2 7 rfl rfl)
theorem dX2_diet_57 : decode cX2_diet 57 = .ok (.aload_n 0, 1) := dk_42 (dk_at dksX2_diet_2 10 rfl rfl)
theorem dX2_diet_58 : decode cX2_diet 58 = .ok (.getfield 118, 3) := dk_180 0 118 (dk_at dksX2_diet_2 11 rfl rfl)
theorem dX2_diet_61 : decode cX2_diet 61 = .ok (.getfield 235, 3) := dk_180 0 235 (dk_at dksX2_diet_2 14 rfl rfl)
theorem dX2_diet_64 : decode cX2_diet 64 = .ok (.aload_n 1, 1) := dk_43 (dk_at dksX2_diet_2 17 rfl rfl)
theorem dX2_diet_65 : decode cX2_diet 65 = .ok (.aastore, 1) := dk_83 (dk_at dksX2_diet_2 18 rfl rfl)
theorem dX2_diet_66 : decode cX2_diet 66 = .ok (.aload_n 0, 1) := dk_42 (dk_at dksX2_diet_2 19 rfl rfl)
theorem dX2_diet_67 : decode cX2_diet 67 = .ok (.getfield 118, 3) := dk_180 0 118 (dk_at dksX2_diet_2 20 rfl rfl)
theorem dX2_diet_70 : decode cX2_diet 70 = .ok (.dup, 1) := dk_89 (dk_at dksX2_diet_2 23 rfl rfl)
theorem dX2_diet_71 : decode cX2_diet 71 = .ok (.getfield 235, 3) := dk_180 0 235 (dk_at dksX2_diet_3 0 rfl rfl)
theorem dX2_diet_74 : decode cX2_diet 74 = .ok (.iconst 1, 1) := dk_4 (dk_at dksX2_diet_3 3 rfl rfl)
theorem dX2_diet_75 : decode cX2_diet 75 = .ok (.iadd, 1) := dk_96 (dk_at dksX2_diet_3 4 rfl rfl)
theorem dX2_diet_76 : decode cX2_diet 76 = .ok (.putfield 235, 3) := dk_181 0 235 (dk_at dksX2_diet_3 5 rfl rfl)
theorem dX2_diet_79 : decode cX2_diet 79 = .ok (.return_, 1) := dk_177 (dk_at dksX2_diet_3 8 rfl rfl)
abbrev cX2_house : ByteArray := prog_11_method_21_code
def yX2_house : MethodName := ⟨RX2, "house", "()V"⟩
def dkwX2_house_8 : List UInt8 := [180, 0, 118, 89, 180, 0, 150, 4, 96, 181, 0, 150, 177]
abbrev dktX2_house_8 : List UInt8 := dkwX2_house_8 ++ []
def dkwX2_house_7 : List UInt8 := [182, 0, 82, 181, 1, 18, 42, 180, 0, 118, 180, 1, 22, 42, 180, 0, 118, 180, 0, 150, 43, 83, 42]
abbrev dktX2_house_7 : List UInt8 := dkwX2_house_7 ++ dktX2_house_8
def dkwX2_house_6 : List UInt8 := [182, 0, 161, 181, 1, 12, 43, 42, 19, 1, 14, 4, 16, 9, 182, 0, 161, 181, 1, 16, 43, 42, 18, 111]
abbrev dktX2_house_6 : List UInt8 := dkwX2_house_6 ++ dktX2_house_7
def dkwX2_house_5 : List UInt8 := [43, 42, 19, 1, 6, 3, 16, 60, 182, 0, 161, 181, 1, 8, 43, 42, 19, 1, 10, 3, 16, 100]
abbrev dktX2_house_5 : List UInt8 := dkwX2_house_5 ++ dktX2_house_6
def dkwX2_house_4 : List UInt8 := [192, 0, 238, 181, 0, 255, 42, 182, 0, 79, 43, 42, 19, 1, 2, 3, 16, 30, 182, 0, 161, 181, 1, 4]
abbrev dktX2_house_4 : List UInt8 := dkwX2_house_4 ++ dktX2_house_5
def dkwX2_house_3 : List UInt8 := [180, 0, 61, 182, 0, 122, 77, 44, 193, 0, 238, 154, 0, 9, 42, 5, 182, 0, 85, 191, 43, 44]
abbrev dktX2_house_3 : List UInt8 := dkwX2_house_3 ++ dktX2_house_4
def dkwX2_house_2 : List UInt8 := [16, 99, 182, 0, 161, 181, 0, 252, 42, 18, 253, 182, 0, 128, 42, 182, 0, 115, 42, 180, 0, 118, 42]
abbrev dktX2_house_2 : List UInt8 := dkwX2_house_2 ++ dktX2_house_3
def dkwX2_house_1 : List UInt8 := [187, 0, 249, 89, 42, 182, 0, 200, 42, 180, 0, 118, 180, 0, 150, 183, 0, 251, 76, 43, 42, 18, 207, 3]
abbrev dktX2_house_1 : List UInt8 := dkwX2_house_1 ++ dktX2_house_2
def dkwX2_house_0 : List UInt8 := [42, 42, 180, 0, 118, 180, 0, 150, 16, 6, 162, 0, 7, 4, 167, 0, 4, 3, 8, 182, 0, 156]
abbrev dktX2_house_0 : List UInt8 := dkwX2_house_0 ++ dktX2_house_1
theorem dksX2_house_0 : cX2_house.data.toList.drop 0 = dktX2_house_0 := by decide +kernel
theorem dksX2_house_1 : cX2_house.data.toList.drop 22 = dktX2_house_1 := dk_seg dksX2_house_0 22 rfl rfl
theorem dksX2_house_2 : cX2_house.data.toList.drop 46 = dktX2_house_2 := dk_seg dksX2_house_1 24 rfl rfl
theorem dksX2_house_3 : cX2_house.data.toList.drop 69 = dktX2_house_3 := dk_seg dksX2_house_2 23 rfl rfl
theorem dksX2_house_4 : cX2_house.data.toList.drop 91 = dktX2_house_4 := dk_seg dksX2_house_3 22 rfl rfl
theorem dksX2_house_5 : cX2_house.data.toList.drop 115 = dktX2_house_5 := dk_seg dksX2_house_4 24 rfl rfl
theorem dksX2_house_6 : cX2_house.data.toList.drop 137 = dktX2_house_6 := dk_seg dksX2_house_5 22 rfl rfl
theorem dksX2_house_7 : cX2_house.data.toList.drop 161 = dktX2_house_7 := dk_seg dksX2_house_6 24 rfl rfl
theorem dksX2_house_8 : cX2_house.data.toList.drop 184 = dktX2_house_8 := dk_seg dksX2_house_7 23 rfl rfl
theorem dX2_house_0 : decode cX2_house 0 = .ok (.aload_n 0, 1) := dk_42 (dk_at dksX2_house_0 0 rfl rfl)
theorem dX2_house_1 : decode cX2_house 1 = .ok (.aload_n 0, 1) := dk_42 (dk_at dksX2_house_0 1 rfl rfl)
theorem dX2_house_2 : decode cX2_house 2 = .ok (.getfield 118, 3) := dk_180 0 118 (dk_at dksX2_house_0 2 rfl rfl)
theorem dX2_house_5 : decode cX2_house 5 = .ok (.getfield 150, 3) := dk_180 0 150 (dk_at dksX2_house_0 5 rfl rfl)
theorem dX2_house_8 : decode cX2_house 8 = .ok (.bipush 6, 2) := dk_16 6 (dk_at dksX2_house_0 8 rfl rfl)
theorem dX2_house_10 : decode cX2_house 10 = .ok (.if_icmp .ge 7, 3) := dk_162 0 7 (dk_at dksX2_house_0 10 rfl rfl)
theorem dX2_house_13 : decode cX2_house 13 = .ok (.iconst 1, 1) := dk_4 (dk_at dksX2_house_0 13 rfl rfl)
theorem dX2_house_14 : decode cX2_house 14 = .ok (.goto 4, 3) := dk_167 0 4 (dk_at dksX2_house_0 14 rfl rfl)
theorem dX2_house_17 : decode cX2_house 17 = .ok (.iconst 0, 1) := dk_3 (dk_at dksX2_house_0 17 rfl rfl)
theorem dX2_house_18 : decode cX2_house 18 = .ok (.iconst 5, 1) := dk_8 (dk_at dksX2_house_0 18 rfl rfl)
theorem dX2_house_19 : decode cX2_house 19 = .ok (.invokevirtual 156, 3) := dk_182 0 156 (dk_at dksX2_house_0 19 rfl rfl)
theorem dX2_house_22 : decode cX2_house 22 = .ok (.new 249, 3) := dk_187 0 249 (dk_at dksX2_house_1 0 rfl rfl)
theorem dX2_house_25 : decode cX2_house 25 = .ok (.dup, 1) := dk_89 (dk_at dksX2_house_1 3 rfl rfl)
theorem dX2_house_26 : decode cX2_house 26 = .ok (.aload_n 0, 1) := dk_42 (dk_at dksX2_house_1 4 rfl rfl)
theorem dX2_house_27 : decode cX2_house 27 = .ok (.invokevirtual 200, 3) := dk_182 0 200 (dk_at dksX2_house_1 5 rfl rfl)
theorem dX2_house_30 : decode cX2_house 30 = .ok (.aload_n 0, 1) := dk_42 (dk_at dksX2_house_1 8 rfl rfl)
theorem dX2_house_31 : decode cX2_house 31 = .ok (.getfield 118, 3) := dk_180 0 118 (dk_at dksX2_house_1 9 rfl rfl)
theorem dX2_house_34 : decode cX2_house 34 = .ok (.getfield 150, 3) := dk_180 0 150 (dk_at dksX2_house_1 12 rfl rfl)
theorem dX2_house_37 : decode cX2_house 37 = .ok (.invokespecial 251, 3) := dk_183 0 251 (dk_at dksX2_house_1 15 rfl rfl)
theorem dX2_house_40 : decode cX2_house 40 = .ok (.astore_n 1, 1) := dk_76 (dk_at dksX2_house_1 18 rfl rfl)
theorem dX2_house_41 : decode cX2_house 41 = .ok (.aload_n 1, 1) := dk_43 (dk_at dksX2_house_1 19 rfl rfl)
theorem dX2_house_42 : decode cX2_house 42 = .ok (.aload_n 0, 1) := dk_42 (dk_at dksX2_house_1 20 rfl rfl)
theorem dX2_house_43 : decode cX2_house 43 = .ok (.ldc 207, 2) := dk_18 207 (dk_at dksX2_house_1 21 rfl rfl)
theorem dX2_house_45 : decode cX2_house 45 = .ok (.iconst 0, 1) := dk_3 (dk_at dksX2_house_1 23 rfl rfl)
theorem dX2_house_46 : decode cX2_house 46 = .ok (.bipush 99, 2) := dk_16 99 (dk_at dksX2_house_2 0 rfl rfl)
theorem dX2_house_48 : decode cX2_house 48 = .ok (.invokevirtual 161, 3) := dk_182 0 161 (dk_at dksX2_house_2 2 rfl rfl)
theorem dX2_house_51 : decode cX2_house 51 = .ok (.putfield 252, 3) := dk_181 0 252 (dk_at dksX2_house_2 5 rfl rfl)
theorem dX2_house_54 : decode cX2_house 54 = .ok (.aload_n 0, 1) := dk_42 (dk_at dksX2_house_2 8 rfl rfl)
theorem dX2_house_55 : decode cX2_house 55 = .ok (.ldc 253, 2) := dk_18 253 (dk_at dksX2_house_2 9 rfl rfl)
theorem dX2_house_57 : decode cX2_house 57 = .ok (.invokevirtual 128, 3) := dk_182 0 128 (dk_at dksX2_house_2 11 rfl rfl)
theorem dX2_house_60 : decode cX2_house 60 = .ok (.aload_n 0, 1) := dk_42 (dk_at dksX2_house_2 14 rfl rfl)
theorem dX2_house_61 : decode cX2_house 61 = .ok (.invokevirtual 115, 3) := dk_182 0 115 (dk_at dksX2_house_2 15 rfl rfl)
theorem dX2_house_64 : decode cX2_house 64 = .ok (.aload_n 0, 1) := dk_42 (dk_at dksX2_house_2 18 rfl rfl)
theorem dX2_house_65 : decode cX2_house 65 = .ok (.getfield 118, 3) := dk_180 0 118 (dk_at dksX2_house_2 19 rfl rfl)
theorem dX2_house_68 : decode cX2_house 68 = .ok (.aload_n 0, 1) := dk_42 (dk_at dksX2_house_2 22 rfl rfl)
theorem dX2_house_69 : decode cX2_house 69 = .ok (.getfield 61, 3) := dk_180 0 61 (dk_at dksX2_house_3 0 rfl rfl)
theorem dX2_house_72 : decode cX2_house 72 = .ok (.invokevirtual 122, 3) := dk_182 0 122 (dk_at dksX2_house_3 3 rfl rfl)
theorem dX2_house_75 : decode cX2_house 75 = .ok (.astore_n 2, 1) := dk_77 (dk_at dksX2_house_3 6 rfl rfl)
theorem dX2_house_76 : decode cX2_house 76 = .ok (.aload_n 2, 1) := dk_44 (dk_at dksX2_house_3 7 rfl rfl)
theorem dX2_house_77 : decode cX2_house 77 = .ok (.instanceof 238, 3) := dk_193 0 238 (dk_at dksX2_house_3 8 rfl rfl)
theorem dX2_house_80 : decode cX2_house 80 = .ok (.ifCond .ne 9, 3) := dk_154 0 9 (dk_at dksX2_house_3 11 rfl rfl)
theorem dX2_house_83 : decode cX2_house 83 = .ok (.aload_n 0, 1) := dk_42 (dk_at dksX2_house_3 14 rfl rfl)
theorem dX2_house_84 : decode cX2_house 84 = .ok (.iconst 2, 1) := dk_5 (dk_at dksX2_house_3 15 rfl rfl)
theorem dX2_house_85 : decode cX2_house 85 = .ok (.invokevirtual 85, 3) := dk_182 0 85 (dk_at dksX2_house_3 16 rfl rfl)
theorem dX2_house_88 : decode cX2_house 88 = .ok (.athrow, 1) := dk_191 (dk_at dksX2_house_3 19 rfl rfl)
theorem dX2_house_89 : decode cX2_house 89 = .ok (.aload_n 1, 1) := dk_43 (dk_at dksX2_house_3 20 rfl rfl)
theorem dX2_house_90 : decode cX2_house 90 = .ok (.aload_n 2, 1) := dk_44 (dk_at dksX2_house_3 21 rfl rfl)
theorem dX2_house_91 : decode cX2_house 91 = .ok (.checkcast 238, 3) := dk_192 0 238 (dk_at dksX2_house_4 0 rfl rfl)
theorem dX2_house_94 : decode cX2_house 94 = .ok (.putfield 255, 3) := dk_181 0 255 (dk_at dksX2_house_4 3 rfl rfl)
theorem dX2_house_97 : decode cX2_house 97 = .ok (.aload_n 0, 1) := dk_42 (dk_at dksX2_house_4 6 rfl rfl)
theorem dX2_house_98 : decode cX2_house 98 = .ok (.invokevirtual 79, 3) := dk_182 0 79 (dk_at dksX2_house_4 7 rfl rfl)
theorem dX2_house_101 : decode cX2_house 101 = .ok (.aload_n 1, 1) := dk_43 (dk_at dksX2_house_4 10 rfl rfl)
theorem dX2_house_102 : decode cX2_house 102 = .ok (.aload_n 0, 1) := dk_42 (dk_at dksX2_house_4 11 rfl rfl)
theorem dX2_house_103 : decode cX2_house 103 = .ok (.ldc_w 258, 3) := dk_19 1 2 (dk_at dksX2_house_4 12 rfl rfl)
theorem dX2_house_106 : decode cX2_house 106 = .ok (.iconst 0, 1) := dk_3 (dk_at dksX2_house_4 15 rfl rfl)
theorem dX2_house_107 : decode cX2_house 107 = .ok (.bipush 30, 2) := dk_16 30 (dk_at dksX2_house_4 16 rfl rfl)
theorem dX2_house_109 : decode cX2_house 109 = .ok (.invokevirtual 161, 3) := dk_182 0 161 (dk_at dksX2_house_4 18 rfl rfl)
theorem dX2_house_112 : decode cX2_house 112 = .ok (.putfield 260, 3) := dk_181 1 4 (dk_at dksX2_house_4 21 rfl rfl)
theorem dX2_house_115 : decode cX2_house 115 = .ok (.aload_n 1, 1) := dk_43 (dk_at dksX2_house_5 0 rfl rfl)
theorem dX2_house_116 : decode cX2_house 116 = .ok (.aload_n 0, 1) := dk_42 (dk_at dksX2_house_5 1 rfl rfl)
theorem dX2_house_117 : decode cX2_house 117 = .ok (.ldc_w 262, 3) := dk_19 1 6 (dk_at dksX2_house_5 2 rfl rfl)
theorem dX2_house_120 : decode cX2_house 120 = .ok (.iconst 0, 1) := dk_3 (dk_at dksX2_house_5 5 rfl rfl)
theorem dX2_house_121 : decode cX2_house 121 = .ok (.bipush 60, 2) := dk_16 60 (dk_at dksX2_house_5 6 rfl rfl)
theorem dX2_house_123 : decode cX2_house 123 = .ok (.invokevirtual 161, 3) := dk_182 0 161 (dk_at dksX2_house_5 8 rfl rfl)
theorem dX2_house_126 : decode cX2_house 126 = .ok (.putfield 264, 3) := dk_181 1 8 (dk_at dksX2_house_5 11 rfl rfl)
theorem dX2_house_129 : decode cX2_house 129 = .ok (.aload_n 1, 1) := dk_43 (dk_at dksX2_house_5 14 rfl rfl)
theorem dX2_house_130 : decode cX2_house 130 = .ok (.aload_n 0, 1) := dk_42 (dk_at dksX2_house_5 15 rfl rfl)
theorem dX2_house_131 : decode cX2_house 131 = .ok (.ldc_w 266, 3) := dk_19 1 10 (dk_at dksX2_house_5 16 rfl rfl)
theorem dX2_house_134 : decode cX2_house 134 = .ok (.iconst 0, 1) := dk_3 (dk_at dksX2_house_5 19 rfl rfl)
theorem dX2_house_135 : decode cX2_house 135 = .ok (.bipush 100, 2) := dk_16 100 (dk_at dksX2_house_5 20 rfl rfl)
theorem dX2_house_137 : decode cX2_house 137 = .ok (.invokevirtual 161, 3) := dk_182 0 161 (dk_at dksX2_house_6 0 rfl rfl)
theorem dX2_house_140 : decode cX2_house 140 = .ok (.putfield 268, 3) := dk_181 1 12 (dk_at dksX2_house_6 3 rfl rfl)
theorem dX2_house_143 : decode cX2_house 143 = .ok (.aload_n 1, 1) := dk_43 (dk_at dksX2_house_6 6 rfl rfl)
theorem dX2_house_144 : decode cX2_house 144 = .ok (.aload_n 0, 1) := dk_42 (dk_at dksX2_house_6 7 rfl rfl)
theorem dX2_house_145 : decode cX2_house 145 = .ok (.ldc_w 270, 3) := dk_19 1 14 (dk_at dksX2_house_6 8 rfl rfl)
theorem dX2_house_148 : decode cX2_house 148 = .ok (.iconst 1, 1) := dk_4 (dk_at dksX2_house_6 11 rfl rfl)
theorem dX2_house_149 : decode cX2_house 149 = .ok (.bipush 9, 2) := dk_16 9 (dk_at dksX2_house_6 12 rfl rfl)
theorem dX2_house_151 : decode cX2_house 151 = .ok (.invokevirtual 161, 3) := dk_182 0 161 (dk_at dksX2_house_6 14 rfl rfl)
theorem dX2_house_154 : decode cX2_house 154 = .ok (.putfield 272, 3) := dk_181 1 16 (dk_at dksX2_house_6 17 rfl rfl)
theorem dX2_house_157 : decode cX2_house 157 = .ok (.aload_n 1, 1) := dk_43 (dk_at dksX2_house_6 20 rfl rfl)
theorem dX2_house_158 : decode cX2_house 158 = .ok (.aload_n 0, 1) := dk_42 (dk_at dksX2_house_6 21 rfl rfl)
theorem dX2_house_159 : decode cX2_house 159 = .ok (.ldc 111, 2) := dk_18 111 (dk_at dksX2_house_6 22 rfl rfl)
theorem dX2_house_161 : decode cX2_house 161 = .ok (.invokevirtual 82, 3) := dk_182 0 82 (dk_at dksX2_house_7 0 rfl rfl)
theorem dX2_house_164 : decode cX2_house 164 = .ok (.putfield 274, 3) := dk_181 1 18 (dk_at dksX2_house_7 3 rfl rfl)
theorem dX2_house_167 : decode cX2_house 167 = .ok (.aload_n 0, 1) := dk_42 (dk_at dksX2_house_7 6 rfl rfl)
theorem dX2_house_168 : decode cX2_house 168 = .ok (.getfield 118, 3) := dk_180 0 118 (dk_at dksX2_house_7 7 rfl rfl)
theorem dX2_house_171 : decode cX2_house 171 = .ok (.getfield 278, 3) := dk_180 1 22 (dk_at dksX2_house_7 10 rfl rfl)
theorem dX2_house_174 : decode cX2_house 174 = .ok (.aload_n 0, 1) := dk_42 (dk_at dksX2_house_7 13 rfl rfl)
theorem dX2_house_175 : decode cX2_house 175 = .ok (.getfield 118, 3) := dk_180 0 118 (dk_at dksX2_house_7 14 rfl rfl)
theorem dX2_house_178 : decode cX2_house 178 = .ok (.getfield 150, 3) := dk_180 0 150 (dk_at dksX2_house_7 17 rfl rfl)
theorem dX2_house_181 : decode cX2_house 181 = .ok (.aload_n 1, 1) := dk_43 (dk_at dksX2_house_7 20 rfl rfl)
theorem dX2_house_182 : decode cX2_house 182 = .ok (.aastore, 1) := dk_83 (dk_at dksX2_house_7 21 rfl rfl)
theorem dX2_house_183 : decode cX2_house 183 = .ok (.aload_n 0, 1) := dk_42 (dk_at dksX2_house_7 22 rfl rfl)
theorem dX2_house_184 : decode cX2_house 184 = .ok (.getfield 118, 3) := dk_180 0 118 (dk_at dksX2_house_8 0 rfl rfl)
theorem dX2_house_187 : decode cX2_house 187 = .ok (.dup, 1) := dk_89 (dk_at dksX2_house_8 3 rfl rfl)
theorem dX2_house_188 : decode cX2_house 188 = .ok (.getfield 150, 3) := dk_180 0 150 (dk_at dksX2_house_8 4 rfl rfl)
theorem dX2_house_191 : decode cX2_house 191 = .ok (.iconst 1, 1) := dk_4 (dk_at dksX2_house_8 7 rfl rfl)
theorem dX2_house_192 : decode cX2_house 192 = .ok (.iadd, 1) := dk_96 (dk_at dksX2_house_8 8 rfl rfl)
theorem dX2_house_193 : decode cX2_house 193 = .ok (.putfield 150, 3) := dk_181 0 150 (dk_at dksX2_house_8 9 rfl rfl)
theorem dX2_house_196 : decode cX2_house 196 = .ok (.return_, 1) := dk_177 (dk_at dksX2_house_8 12 rfl rfl)
abbrev cX2_car : ByteArray := prog_11_method_22_code
def yX2_car : MethodName := ⟨RX2, "car", "()V"⟩
def dkwX2_car_7 : List UInt8 := [96, 181, 0, 153, 177]
abbrev dktX2_car_7 : List UInt8 := dkwX2_car_7 ++ []
def dkwX2_car_6 : List UInt8 := [180, 0, 118, 180, 1, 49, 42, 180, 0, 118, 180, 0, 153, 43, 83, 42, 180, 0, 118, 89, 180, 0, 153, 4]
abbrev dktX2_car_6 : List UInt8 := dkwX2_car_6 ++ dktX2_car_7
def dkwX2_car_5 : List UInt8 := [42, 19, 1, 42, 3, 16, 50, 182, 0, 161, 181, 1, 44, 43, 42, 18, 113, 182, 0, 82, 181, 1, 46, 42]
abbrev dktX2_car_5 : List UInt8 := dkwX2_car_5 ++ dktX2_car_6
def dkwX2_car_4 : List UInt8 := [17, 3, 32, 182, 0, 161, 181, 1, 36, 43, 42, 19, 1, 38, 4, 16, 6, 182, 0, 161, 181, 1, 40, 43]
abbrev dktX2_car_4 : List UInt8 := dkwX2_car_4 ++ dktX2_car_5
def dkwX2_car_3 : List UInt8 := [182, 0, 85, 191, 43, 44, 192, 0, 198, 181, 1, 31, 42, 182, 0, 79, 43, 42, 19, 1, 34, 17, 1, 244]
abbrev dktX2_car_3 : List UInt8 := dkwX2_car_3 ++ dktX2_car_4
def dkwX2_car_2 : List UInt8 := [182, 0, 115, 42, 180, 0, 118, 42, 180, 0, 61, 182, 0, 122, 77, 44, 193, 0, 198, 154, 0, 9, 42, 5]
abbrev dktX2_car_2 : List UInt8 := dkwX2_car_2 ++ dktX2_car_3
def dkwX2_car_1 : List UInt8 := [89, 42, 182, 0, 200, 42, 180, 0, 118, 180, 0, 153, 183, 1, 28, 76, 42, 19, 1, 29, 182, 0, 128, 42]
abbrev dktX2_car_1 : List UInt8 := dkwX2_car_1 ++ dktX2_car_2
def dkwX2_car_0 : List UInt8 := [42, 42, 180, 0, 118, 180, 0, 153, 6, 162, 0, 7, 4, 167, 0, 4, 3, 8, 182, 0, 156, 187, 1, 26]
abbrev dktX2_car_0 : List UInt8 := dkwX2_car_0 ++ dktX2_car_1
theorem dksX2_car_0 : cX2_car.data.toList.drop 0 = dktX2_car_0 := by decide +kernel
theorem dksX2_car_1 : cX2_car.data.toList.drop 24 = dktX2_car_1 := dk_seg dksX2_car_0 24 rfl rfl
theorem dksX2_car_2 : cX2_car.data.toList.drop 48 = dktX2_car_2 := dk_seg dksX2_car_1 24 rfl rfl
theorem dksX2_car_3 : cX2_car.data.toList.drop 72 = dktX2_car_3 := dk_seg dksX2_car_2 24 rfl rfl
theorem dksX2_car_4 : cX2_car.data.toList.drop 96 = dktX2_car_4 := dk_seg dksX2_car_3 24 rfl rfl
theorem dksX2_car_5 : cX2_car.data.toList.drop 120 = dktX2_car_5 := dk_seg dksX2_car_4 24 rfl rfl
theorem dksX2_car_6 : cX2_car.data.toList.drop 144 = dktX2_car_6 := dk_seg dksX2_car_5 24 rfl rfl
theorem dksX2_car_7 : cX2_car.data.toList.drop 168 = dktX2_car_7 := dk_seg dksX2_car_6 24 rfl rfl
theorem dX2_car_0 : decode cX2_car 0 = .ok (.aload_n 0, 1) := dk_42 (dk_at dksX2_car_0 0 rfl rfl)
theorem dX2_car_1 : decode cX2_car 1 = .ok (.aload_n 0, 1) := dk_42 (dk_at dksX2_car_0 1 rfl rfl)
theorem dX2_car_2 : decode cX2_car 2 = .ok (.getfield 118, 3) := dk_180 0 118 (dk_at dksX2_car_0 2 rfl rfl)
theorem dX2_car_5 : decode cX2_car 5 = .ok (.getfield 153, 3) := dk_180 0 153 (dk_at dksX2_car_0 5 rfl rfl)
theorem dX2_car_8 : decode cX2_car 8 = .ok (.iconst 3, 1) := dk_6 (dk_at dksX2_car_0 8 rfl rfl)
theorem dX2_car_9 : decode cX2_car 9 = .ok (.if_icmp .ge 7, 3) := dk_162 0 7 (dk_at dksX2_car_0 9 rfl rfl)
theorem dX2_car_12 : decode cX2_car 12 = .ok (.iconst 1, 1) := dk_4 (dk_at dksX2_car_0 12 rfl rfl)
theorem dX2_car_13 : decode cX2_car 13 = .ok (.goto 4, 3) := dk_167 0 4 (dk_at dksX2_car_0 13 rfl rfl)
theorem dX2_car_16 : decode cX2_car 16 = .ok (.iconst 0, 1) := dk_3 (dk_at dksX2_car_0 16 rfl rfl)
theorem dX2_car_17 : decode cX2_car 17 = .ok (.iconst 5, 1) := dk_8 (dk_at dksX2_car_0 17 rfl rfl)
theorem dX2_car_18 : decode cX2_car 18 = .ok (.invokevirtual 156, 3) := dk_182 0 156 (dk_at dksX2_car_0 18 rfl rfl)
theorem dX2_car_21 : decode cX2_car 21 = .ok (.new 282, 3) := dk_187 1 26 (dk_at dksX2_car_0 21 rfl rfl)
theorem dX2_car_24 : decode cX2_car 24 = .ok (.dup, 1) := dk_89 (dk_at dksX2_car_1 0 rfl rfl)
theorem dX2_car_25 : decode cX2_car 25 = .ok (.aload_n 0, 1) := dk_42 (dk_at dksX2_car_1 1 rfl rfl)
theorem dX2_car_26 : decode cX2_car 26 = .ok (.invokevirtual 200, 3) := dk_182 0 200 (dk_at dksX2_car_1 2 rfl rfl)
theorem dX2_car_29 : decode cX2_car 29 = .ok (.aload_n 0, 1) := dk_42 (dk_at dksX2_car_1 5 rfl rfl)
theorem dX2_car_30 : decode cX2_car 30 = .ok (.getfield 118, 3) := dk_180 0 118 (dk_at dksX2_car_1 6 rfl rfl)
theorem dX2_car_33 : decode cX2_car 33 = .ok (.getfield 153, 3) := dk_180 0 153 (dk_at dksX2_car_1 9 rfl rfl)
theorem dX2_car_36 : decode cX2_car 36 = .ok (.invokespecial 284, 3) := dk_183 1 28 (dk_at dksX2_car_1 12 rfl rfl)
theorem dX2_car_39 : decode cX2_car 39 = .ok (.astore_n 1, 1) := dk_76 (dk_at dksX2_car_1 15 rfl rfl)
theorem dX2_car_40 : decode cX2_car 40 = .ok (.aload_n 0, 1) := dk_42 (dk_at dksX2_car_1 16 rfl rfl)
theorem dX2_car_41 : decode cX2_car 41 = .ok (.ldc_w 285, 3) := dk_19 1 29 (dk_at dksX2_car_1 17 rfl rfl)
theorem dX2_car_44 : decode cX2_car 44 = .ok (.invokevirtual 128, 3) := dk_182 0 128 (dk_at dksX2_car_1 20 rfl rfl)
theorem dX2_car_47 : decode cX2_car 47 = .ok (.aload_n 0, 1) := dk_42 (dk_at dksX2_car_1 23 rfl rfl)
theorem dX2_car_48 : decode cX2_car 48 = .ok (.invokevirtual 115, 3) := dk_182 0 115 (dk_at dksX2_car_2 0 rfl rfl)
theorem dX2_car_51 : decode cX2_car 51 = .ok (.aload_n 0, 1) := dk_42 (dk_at dksX2_car_2 3 rfl rfl)
theorem dX2_car_52 : decode cX2_car 52 = .ok (.getfield 118, 3) := dk_180 0 118 (dk_at dksX2_car_2 4 rfl rfl)
theorem dX2_car_55 : decode cX2_car 55 = .ok (.aload_n 0, 1) := dk_42 (dk_at dksX2_car_2 7 rfl rfl)
theorem dX2_car_56 : decode cX2_car 56 = .ok (.getfield 61, 3) := dk_180 0 61 (dk_at dksX2_car_2 8 rfl rfl)
theorem dX2_car_59 : decode cX2_car 59 = .ok (.invokevirtual 122, 3) := dk_182 0 122 (dk_at dksX2_car_2 11 rfl rfl)
theorem dX2_car_62 : decode cX2_car 62 = .ok (.astore_n 2, 1) := dk_77 (dk_at dksX2_car_2 14 rfl rfl)
theorem dX2_car_63 : decode cX2_car 63 = .ok (.aload_n 2, 1) := dk_44 (dk_at dksX2_car_2 15 rfl rfl)
theorem dX2_car_64 : decode cX2_car 64 = .ok (.instanceof 198, 3) := dk_193 0 198 (dk_at dksX2_car_2 16 rfl rfl)
theorem dX2_car_67 : decode cX2_car 67 = .ok (.ifCond .ne 9, 3) := dk_154 0 9 (dk_at dksX2_car_2 19 rfl rfl)
theorem dX2_car_70 : decode cX2_car 70 = .ok (.aload_n 0, 1) := dk_42 (dk_at dksX2_car_2 22 rfl rfl)
theorem dX2_car_71 : decode cX2_car 71 = .ok (.iconst 2, 1) := dk_5 (dk_at dksX2_car_2 23 rfl rfl)
theorem dX2_car_72 : decode cX2_car 72 = .ok (.invokevirtual 85, 3) := dk_182 0 85 (dk_at dksX2_car_3 0 rfl rfl)
theorem dX2_car_75 : decode cX2_car 75 = .ok (.athrow, 1) := dk_191 (dk_at dksX2_car_3 3 rfl rfl)
theorem dX2_car_76 : decode cX2_car 76 = .ok (.aload_n 1, 1) := dk_43 (dk_at dksX2_car_3 4 rfl rfl)
theorem dX2_car_77 : decode cX2_car 77 = .ok (.aload_n 2, 1) := dk_44 (dk_at dksX2_car_3 5 rfl rfl)
theorem dX2_car_78 : decode cX2_car 78 = .ok (.checkcast 198, 3) := dk_192 0 198 (dk_at dksX2_car_3 6 rfl rfl)
theorem dX2_car_81 : decode cX2_car 81 = .ok (.putfield 287, 3) := dk_181 1 31 (dk_at dksX2_car_3 9 rfl rfl)
theorem dX2_car_84 : decode cX2_car 84 = .ok (.aload_n 0, 1) := dk_42 (dk_at dksX2_car_3 12 rfl rfl)
theorem dX2_car_85 : decode cX2_car 85 = .ok (.invokevirtual 79, 3) := dk_182 0 79 (dk_at dksX2_car_3 13 rfl rfl)
theorem dX2_car_88 : decode cX2_car 88 = .ok (.aload_n 1, 1) := dk_43 (dk_at dksX2_car_3 16 rfl rfl)
theorem dX2_car_89 : decode cX2_car 89 = .ok (.aload_n 0, 1) := dk_42 (dk_at dksX2_car_3 17 rfl rfl)
theorem dX2_car_90 : decode cX2_car 90 = .ok (.ldc_w 290, 3) := dk_19 1 34 (dk_at dksX2_car_3 18 rfl rfl)
theorem dX2_car_93 : decode cX2_car 93 = .ok (.sipush 500, 3) := dk_17 1 244 (dk_at dksX2_car_3 21 rfl rfl)
theorem dX2_car_96 : decode cX2_car 96 = .ok (.sipush 800, 3) := dk_17 3 32 (dk_at dksX2_car_4 0 rfl rfl)
theorem dX2_car_99 : decode cX2_car 99 = .ok (.invokevirtual 161, 3) := dk_182 0 161 (dk_at dksX2_car_4 3 rfl rfl)
theorem dX2_car_102 : decode cX2_car 102 = .ok (.putfield 292, 3) := dk_181 1 36 (dk_at dksX2_car_4 6 rfl rfl)
theorem dX2_car_105 : decode cX2_car 105 = .ok (.aload_n 1, 1) := dk_43 (dk_at dksX2_car_4 9 rfl rfl)
theorem dX2_car_106 : decode cX2_car 106 = .ok (.aload_n 0, 1) := dk_42 (dk_at dksX2_car_4 10 rfl rfl)
theorem dX2_car_107 : decode cX2_car 107 = .ok (.ldc_w 294, 3) := dk_19 1 38 (dk_at dksX2_car_4 11 rfl rfl)
theorem dX2_car_110 : decode cX2_car 110 = .ok (.iconst 1, 1) := dk_4 (dk_at dksX2_car_4 14 rfl rfl)
theorem dX2_car_111 : decode cX2_car 111 = .ok (.bipush 6, 2) := dk_16 6 (dk_at dksX2_car_4 15 rfl rfl)
theorem dX2_car_113 : decode cX2_car 113 = .ok (.invokevirtual 161, 3) := dk_182 0 161 (dk_at dksX2_car_4 17 rfl rfl)
theorem dX2_car_116 : decode cX2_car 116 = .ok (.putfield 296, 3) := dk_181 1 40 (dk_at dksX2_car_4 20 rfl rfl)
theorem dX2_car_119 : decode cX2_car 119 = .ok (.aload_n 1, 1) := dk_43 (dk_at dksX2_car_4 23 rfl rfl)
theorem dX2_car_120 : decode cX2_car 120 = .ok (.aload_n 0, 1) := dk_42 (dk_at dksX2_car_5 0 rfl rfl)
theorem dX2_car_121 : decode cX2_car 121 = .ok (.ldc_w 298, 3) := dk_19 1 42 (dk_at dksX2_car_5 1 rfl rfl)
theorem dX2_car_124 : decode cX2_car 124 = .ok (.iconst 0, 1) := dk_3 (dk_at dksX2_car_5 4 rfl rfl)
theorem dX2_car_125 : decode cX2_car 125 = .ok (.bipush 50, 2) := dk_16 50 (dk_at dksX2_car_5 5 rfl rfl)
theorem dX2_car_127 : decode cX2_car 127 = .ok (.invokevirtual 161, 3) := dk_182 0 161 (dk_at dksX2_car_5 7 rfl rfl)
theorem dX2_car_130 : decode cX2_car 130 = .ok (.putfield 300, 3) := dk_181 1 44 (dk_at dksX2_car_5 10 rfl rfl)
theorem dX2_car_133 : decode cX2_car 133 = .ok (.aload_n 1, 1) := dk_43 (dk_at dksX2_car_5 13 rfl rfl)
theorem dX2_car_134 : decode cX2_car 134 = .ok (.aload_n 0, 1) := dk_42 (dk_at dksX2_car_5 14 rfl rfl)
theorem dX2_car_135 : decode cX2_car 135 = .ok (.ldc 113, 2) := dk_18 113 (dk_at dksX2_car_5 15 rfl rfl)
theorem dX2_car_137 : decode cX2_car 137 = .ok (.invokevirtual 82, 3) := dk_182 0 82 (dk_at dksX2_car_5 17 rfl rfl)
theorem dX2_car_140 : decode cX2_car 140 = .ok (.putfield 302, 3) := dk_181 1 46 (dk_at dksX2_car_5 20 rfl rfl)
theorem dX2_car_143 : decode cX2_car 143 = .ok (.aload_n 0, 1) := dk_42 (dk_at dksX2_car_5 23 rfl rfl)
theorem dX2_car_144 : decode cX2_car 144 = .ok (.getfield 118, 3) := dk_180 0 118 (dk_at dksX2_car_6 0 rfl rfl)
theorem dX2_car_147 : decode cX2_car 147 = .ok (.getfield 305, 3) := dk_180 1 49 (dk_at dksX2_car_6 3 rfl rfl)
theorem dX2_car_150 : decode cX2_car 150 = .ok (.aload_n 0, 1) := dk_42 (dk_at dksX2_car_6 6 rfl rfl)
theorem dX2_car_151 : decode cX2_car 151 = .ok (.getfield 118, 3) := dk_180 0 118 (dk_at dksX2_car_6 7 rfl rfl)
theorem dX2_car_154 : decode cX2_car 154 = .ok (.getfield 153, 3) := dk_180 0 153 (dk_at dksX2_car_6 10 rfl rfl)
theorem dX2_car_157 : decode cX2_car 157 = .ok (.aload_n 1, 1) := dk_43 (dk_at dksX2_car_6 13 rfl rfl)
theorem dX2_car_158 : decode cX2_car 158 = .ok (.aastore, 1) := dk_83 (dk_at dksX2_car_6 14 rfl rfl)
theorem dX2_car_159 : decode cX2_car 159 = .ok (.aload_n 0, 1) := dk_42 (dk_at dksX2_car_6 15 rfl rfl)
theorem dX2_car_160 : decode cX2_car 160 = .ok (.getfield 118, 3) := dk_180 0 118 (dk_at dksX2_car_6 16 rfl rfl)
theorem dX2_car_163 : decode cX2_car 163 = .ok (.dup, 1) := dk_89 (dk_at dksX2_car_6 19 rfl rfl)
theorem dX2_car_164 : decode cX2_car 164 = .ok (.getfield 153, 3) := dk_180 0 153 (dk_at dksX2_car_6 20 rfl rfl)
theorem dX2_car_167 : decode cX2_car 167 = .ok (.iconst 1, 1) := dk_4 (dk_at dksX2_car_6 23 rfl rfl)
theorem dX2_car_168 : decode cX2_car 168 = .ok (.iadd, 1) := dk_96 (dk_at dksX2_car_7 0 rfl rfl)
theorem dX2_car_169 : decode cX2_car 169 = .ok (.putfield 153, 3) := dk_181 0 153 (dk_at dksX2_car_7 1 rfl rfl)
theorem dX2_car_172 : decode cX2_car 172 = .ok (.return_, 1) := dk_177 (dk_at dksX2_car_7 4 rfl rfl)
abbrev cX2_call : ByteArray := prog_11_method_23_code
def yX2_call : MethodName := ⟨RX2, "call", "()V"⟩
def dkwX2_call_4 : List UInt8 := [181, 1, 53, 177]
abbrev dktX2_call_4 : List UInt8 := dkwX2_call_4 ++ []
def dkwX2_call_3 : List UInt8 := [180, 1, 63, 42, 180, 0, 118, 180, 1, 53, 43, 83, 42, 180, 0, 118, 89, 180, 1, 53, 4, 96]
abbrev dktX2_call_3 : List UInt8 := dkwX2_call_3 ++ dktX2_call_4
def dkwX2_call_2 : List UInt8 := [182, 0, 161, 181, 1, 60, 43, 42, 19, 1, 10, 3, 16, 100, 182, 0, 161, 181, 1, 62, 42, 180, 0, 118]
abbrev dktX2_call_2 : List UInt8 := dkwX2_call_2 ++ dktX2_call_3
def dkwX2_call_1 : List UInt8 := [89, 42, 182, 0, 200, 42, 180, 0, 118, 180, 1, 53, 183, 1, 58, 76, 43, 42, 19, 1, 59, 4, 16, 60]
abbrev dktX2_call_1 : List UInt8 := dkwX2_call_1 ++ dktX2_call_2
def dkwX2_call_0 : List UInt8 := [42, 42, 180, 0, 118, 180, 1, 53, 8, 162, 0, 7, 4, 167, 0, 4, 3, 8, 182, 0, 156, 187, 1, 56]
abbrev dktX2_call_0 : List UInt8 := dkwX2_call_0 ++ dktX2_call_1
theorem dksX2_call_0 : cX2_call.data.toList.drop 0 = dktX2_call_0 := by decide +kernel
theorem dksX2_call_1 : cX2_call.data.toList.drop 24 = dktX2_call_1 := dk_seg dksX2_call_0 24 rfl rfl
theorem dksX2_call_2 : cX2_call.data.toList.drop 48 = dktX2_call_2 := dk_seg dksX2_call_1 24 rfl rfl
theorem dksX2_call_3 : cX2_call.data.toList.drop 72 = dktX2_call_3 := dk_seg dksX2_call_2 24 rfl rfl
theorem dksX2_call_4 : cX2_call.data.toList.drop 94 = dktX2_call_4 := dk_seg dksX2_call_3 22 rfl rfl
theorem dX2_call_0 : decode cX2_call 0 = .ok (.aload_n 0, 1) := dk_42 (dk_at dksX2_call_0 0 rfl rfl)
theorem dX2_call_1 : decode cX2_call 1 = .ok (.aload_n 0, 1) := dk_42 (dk_at dksX2_call_0 1 rfl rfl)
theorem dX2_call_2 : decode cX2_call 2 = .ok (.getfield 118, 3) := dk_180 0 118 (dk_at dksX2_call_0 2 rfl rfl)
theorem dX2_call_5 : decode cX2_call 5 = .ok (.getfield 309, 3) := dk_180 1 53 (dk_at dksX2_call_0 5 rfl rfl)
theorem dX2_call_8 : decode cX2_call 8 = .ok (.iconst 5, 1) := dk_8 (dk_at dksX2_call_0 8 rfl rfl)
theorem dX2_call_9 : decode cX2_call 9 = .ok (.if_icmp .ge 7, 3) := dk_162 0 7 (dk_at dksX2_call_0 9 rfl rfl)
theorem dX2_call_12 : decode cX2_call 12 = .ok (.iconst 1, 1) := dk_4 (dk_at dksX2_call_0 12 rfl rfl)
theorem dX2_call_13 : decode cX2_call 13 = .ok (.goto 4, 3) := dk_167 0 4 (dk_at dksX2_call_0 13 rfl rfl)
theorem dX2_call_16 : decode cX2_call 16 = .ok (.iconst 0, 1) := dk_3 (dk_at dksX2_call_0 16 rfl rfl)
theorem dX2_call_17 : decode cX2_call 17 = .ok (.iconst 5, 1) := dk_8 (dk_at dksX2_call_0 17 rfl rfl)
theorem dX2_call_18 : decode cX2_call 18 = .ok (.invokevirtual 156, 3) := dk_182 0 156 (dk_at dksX2_call_0 18 rfl rfl)
theorem dX2_call_21 : decode cX2_call 21 = .ok (.new 312, 3) := dk_187 1 56 (dk_at dksX2_call_0 21 rfl rfl)
theorem dX2_call_24 : decode cX2_call 24 = .ok (.dup, 1) := dk_89 (dk_at dksX2_call_1 0 rfl rfl)
theorem dX2_call_25 : decode cX2_call 25 = .ok (.aload_n 0, 1) := dk_42 (dk_at dksX2_call_1 1 rfl rfl)
theorem dX2_call_26 : decode cX2_call 26 = .ok (.invokevirtual 200, 3) := dk_182 0 200 (dk_at dksX2_call_1 2 rfl rfl)
theorem dX2_call_29 : decode cX2_call 29 = .ok (.aload_n 0, 1) := dk_42 (dk_at dksX2_call_1 5 rfl rfl)
theorem dX2_call_30 : decode cX2_call 30 = .ok (.getfield 118, 3) := dk_180 0 118 (dk_at dksX2_call_1 6 rfl rfl)
theorem dX2_call_33 : decode cX2_call 33 = .ok (.getfield 309, 3) := dk_180 1 53 (dk_at dksX2_call_1 9 rfl rfl)
theorem dX2_call_36 : decode cX2_call 36 = .ok (.invokespecial 314, 3) := dk_183 1 58 (dk_at dksX2_call_1 12 rfl rfl)
theorem dX2_call_39 : decode cX2_call 39 = .ok (.astore_n 1, 1) := dk_76 (dk_at dksX2_call_1 15 rfl rfl)
theorem dX2_call_40 : decode cX2_call 40 = .ok (.aload_n 1, 1) := dk_43 (dk_at dksX2_call_1 16 rfl rfl)
theorem dX2_call_41 : decode cX2_call 41 = .ok (.aload_n 0, 1) := dk_42 (dk_at dksX2_call_1 17 rfl rfl)
theorem dX2_call_42 : decode cX2_call 42 = .ok (.ldc_w 315, 3) := dk_19 1 59 (dk_at dksX2_call_1 18 rfl rfl)
theorem dX2_call_45 : decode cX2_call 45 = .ok (.iconst 1, 1) := dk_4 (dk_at dksX2_call_1 21 rfl rfl)
theorem dX2_call_46 : decode cX2_call 46 = .ok (.bipush 60, 2) := dk_16 60 (dk_at dksX2_call_1 22 rfl rfl)
theorem dX2_call_48 : decode cX2_call 48 = .ok (.invokevirtual 161, 3) := dk_182 0 161 (dk_at dksX2_call_2 0 rfl rfl)
theorem dX2_call_51 : decode cX2_call 51 = .ok (.putfield 316, 3) := dk_181 1 60 (dk_at dksX2_call_2 3 rfl rfl)
theorem dX2_call_54 : decode cX2_call 54 = .ok (.aload_n 1, 1) := dk_43 (dk_at dksX2_call_2 6 rfl rfl)
theorem dX2_call_55 : decode cX2_call 55 = .ok (.aload_n 0, 1) := dk_42 (dk_at dksX2_call_2 7 rfl rfl)
theorem dX2_call_56 : decode cX2_call 56 = .ok (.ldc_w 266, 3) := dk_19 1 10 (dk_at dksX2_call_2 8 rfl rfl)
theorem dX2_call_59 : decode cX2_call 59 = .ok (.iconst 0, 1) := dk_3 (dk_at dksX2_call_2 11 rfl rfl)
theorem dX2_call_60 : decode cX2_call 60 = .ok (.bipush 100, 2) := dk_16 100 (dk_at dksX2_call_2 12 rfl rfl)
theorem dX2_call_62 : decode cX2_call 62 = .ok (.invokevirtual 161, 3) := dk_182 0 161 (dk_at dksX2_call_2 14 rfl rfl)
theorem dX2_call_65 : decode cX2_call 65 = .ok (.putfield 318, 3) := dk_181 1 62 (dk_at dksX2_call_2 17 rfl rfl)
theorem dX2_call_68 : decode cX2_call 68 = .ok (.aload_n 0, 1) := dk_42 (dk_at dksX2_call_2 20 rfl rfl)
theorem dX2_call_69 : decode cX2_call 69 = .ok (.getfield 118, 3) := dk_180 0 118 (dk_at dksX2_call_2 21 rfl rfl)
theorem dX2_call_72 : decode cX2_call 72 = .ok (.getfield 319, 3) := dk_180 1 63 (dk_at dksX2_call_3 0 rfl rfl)
theorem dX2_call_75 : decode cX2_call 75 = .ok (.aload_n 0, 1) := dk_42 (dk_at dksX2_call_3 3 rfl rfl)
theorem dX2_call_76 : decode cX2_call 76 = .ok (.getfield 118, 3) := dk_180 0 118 (dk_at dksX2_call_3 4 rfl rfl)
theorem dX2_call_79 : decode cX2_call 79 = .ok (.getfield 309, 3) := dk_180 1 53 (dk_at dksX2_call_3 7 rfl rfl)
theorem dX2_call_82 : decode cX2_call 82 = .ok (.aload_n 1, 1) := dk_43 (dk_at dksX2_call_3 10 rfl rfl)
theorem dX2_call_83 : decode cX2_call 83 = .ok (.aastore, 1) := dk_83 (dk_at dksX2_call_3 11 rfl rfl)
theorem dX2_call_84 : decode cX2_call 84 = .ok (.aload_n 0, 1) := dk_42 (dk_at dksX2_call_3 12 rfl rfl)
theorem dX2_call_85 : decode cX2_call 85 = .ok (.getfield 118, 3) := dk_180 0 118 (dk_at dksX2_call_3 13 rfl rfl)
theorem dX2_call_88 : decode cX2_call 88 = .ok (.dup, 1) := dk_89 (dk_at dksX2_call_3 16 rfl rfl)
theorem dX2_call_89 : decode cX2_call 89 = .ok (.getfield 309, 3) := dk_180 1 53 (dk_at dksX2_call_3 17 rfl rfl)
theorem dX2_call_92 : decode cX2_call 92 = .ok (.iconst 1, 1) := dk_4 (dk_at dksX2_call_3 20 rfl rfl)
theorem dX2_call_93 : decode cX2_call 93 = .ok (.iadd, 1) := dk_96 (dk_at dksX2_call_3 21 rfl rfl)
theorem dX2_call_94 : decode cX2_call 94 = .ok (.putfield 309, 3) := dk_181 1 53 (dk_at dksX2_call_4 0 rfl rfl)
theorem dX2_call_97 : decode cX2_call 97 = .ok (.return_, 1) := dk_177 (dk_at dksX2_call_4 3 rfl rfl)
abbrev cX2_helper : ByteArray := prog_11_method_24_code
def yX2_helper : MethodName := ⟨RX2, "helper", "()V"⟩
def dkwX2_helper_7 : List UInt8 := [180, 1, 67, 43, 83, 42, 180, 0, 118, 89, 180, 1, 67, 4, 96, 181, 1, 67, 177]
abbrev dktX2_helper_7 : List UInt8 := dkwX2_helper_7 ++ []
def dkwX2_helper_6 : List UInt8 := [19, 1, 81, 4, 16, 7, 182, 0, 161, 181, 1, 83, 42, 180, 0, 118, 180, 1, 85, 42, 180, 0, 118]
abbrev dktX2_helper_6 : List UInt8 := dkwX2_helper_6 ++ dktX2_helper_7
def dkwX2_helper_5 : List UInt8 := [160, 0, 7, 4, 167, 0, 4, 3, 61, 28, 153, 255, 177, 42, 182, 0, 79, 167, 255, 170, 43, 42]
abbrev dktX2_helper_5 : List UInt8 := dkwX2_helper_5 ++ dktX2_helper_6
def dkwX2_helper_4 : List UInt8 := [89, 180, 1, 75, 4, 42, 3, 16, 6, 182, 0, 132, 120, 128, 181, 1, 75, 42, 180, 0, 47, 16, 44]
abbrev dktX2_helper_4 : List UInt8 := dkwX2_helper_4 ++ dktX2_helper_5
def dkwX2_helper_3 : List UInt8 := [153, 0, 23, 43, 180, 1, 75, 42, 180, 0, 68, 184, 1, 77, 153, 0, 9, 42, 6, 182, 0, 85, 191, 43]
abbrev dktX2_helper_3 : List UInt8 := dkwX2_helper_3 ++ dktX2_helper_4
def dkwX2_helper_2 : List UInt8 := [61, 28, 153, 0, 88, 42, 180, 0, 47, 6, 160, 0, 36, 42, 180, 0, 68, 3, 16, 6, 184, 0, 36]
abbrev dktX2_helper_2 : List UInt8 := dkwX2_helper_2 ++ dktX2_helper_3
def dkwX2_helper_1 : List UInt8 := [89, 42, 182, 0, 200, 42, 180, 0, 118, 180, 1, 67, 183, 1, 72, 76, 42, 19, 1, 73, 182, 0, 128, 4]
abbrev dktX2_helper_1 : List UInt8 := dkwX2_helper_1 ++ dktX2_helper_2
def dkwX2_helper_0 : List UInt8 := [42, 42, 180, 0, 118, 180, 1, 67, 8, 162, 0, 7, 4, 167, 0, 4, 3, 8, 182, 0, 156, 187, 1, 70]
abbrev dktX2_helper_0 : List UInt8 := dkwX2_helper_0 ++ dktX2_helper_1
theorem dksX2_helper_0 : cX2_helper.data.toList.drop 0 = dktX2_helper_0 := by decide +kernel
theorem dksX2_helper_1 : cX2_helper.data.toList.drop 24 = dktX2_helper_1 := dk_seg dksX2_helper_0 24 rfl rfl
theorem dksX2_helper_2 : cX2_helper.data.toList.drop 48 = dktX2_helper_2 := dk_seg dksX2_helper_1 24 rfl rfl
theorem dksX2_helper_3 : cX2_helper.data.toList.drop 71 = dktX2_helper_3 := dk_seg dksX2_helper_2 23 rfl rfl
theorem dksX2_helper_4 : cX2_helper.data.toList.drop 95 = dktX2_helper_4 := dk_seg dksX2_helper_3 24 rfl rfl
theorem dksX2_helper_5 : cX2_helper.data.toList.drop 118 = dktX2_helper_5 := dk_seg dksX2_helper_4 23 rfl rfl
theorem dksX2_helper_6 : cX2_helper.data.toList.drop 140 = dktX2_helper_6 := dk_seg dksX2_helper_5 22 rfl rfl
theorem dksX2_helper_7 : cX2_helper.data.toList.drop 163 = dktX2_helper_7 := dk_seg dksX2_helper_6 23 rfl rfl
theorem dX2_helper_0 : decode cX2_helper 0 = .ok (.aload_n 0, 1) := dk_42 (dk_at dksX2_helper_0 0 rfl rfl)
theorem dX2_helper_1 : decode cX2_helper 1 = .ok (.aload_n 0, 1) := dk_42 (dk_at dksX2_helper_0 1 rfl rfl)
theorem dX2_helper_2 : decode cX2_helper 2 = .ok (.getfield 118, 3) := dk_180 0 118 (dk_at dksX2_helper_0 2 rfl rfl)
theorem dX2_helper_5 : decode cX2_helper 5 = .ok (.getfield 323, 3) := dk_180 1 67 (dk_at dksX2_helper_0 5 rfl rfl)
theorem dX2_helper_8 : decode cX2_helper 8 = .ok (.iconst 5, 1) := dk_8 (dk_at dksX2_helper_0 8 rfl rfl)
theorem dX2_helper_9 : decode cX2_helper 9 = .ok (.if_icmp .ge 7, 3) := dk_162 0 7 (dk_at dksX2_helper_0 9 rfl rfl)
theorem dX2_helper_12 : decode cX2_helper 12 = .ok (.iconst 1, 1) := dk_4 (dk_at dksX2_helper_0 12 rfl rfl)
theorem dX2_helper_13 : decode cX2_helper 13 = .ok (.goto 4, 3) := dk_167 0 4 (dk_at dksX2_helper_0 13 rfl rfl)
theorem dX2_helper_16 : decode cX2_helper 16 = .ok (.iconst 0, 1) := dk_3 (dk_at dksX2_helper_0 16 rfl rfl)
theorem dX2_helper_17 : decode cX2_helper 17 = .ok (.iconst 5, 1) := dk_8 (dk_at dksX2_helper_0 17 rfl rfl)
theorem dX2_helper_18 : decode cX2_helper 18 = .ok (.invokevirtual 156, 3) := dk_182 0 156 (dk_at dksX2_helper_0 18 rfl rfl)
theorem dX2_helper_21 : decode cX2_helper 21 = .ok (.new 326, 3) := dk_187 1 70 (dk_at dksX2_helper_0 21 rfl rfl)
theorem dX2_helper_24 : decode cX2_helper 24 = .ok (.dup, 1) := dk_89 (dk_at dksX2_helper_1 0 rfl rfl)
theorem dX2_helper_25 : decode cX2_helper 25 = .ok (.aload_n 0, 1) := dk_42 (dk_at dksX2_helper_1 1 rfl rfl)
theorem dX2_helper_26 : decode cX2_helper 26 = .ok (.invokevirtual 200, 3) := dk_182 0 200 (dk_at dksX2_helper_1 2 rfl rfl)
theorem dX2_helper_29 : decode cX2_helper 29 = .ok (.aload_n 0, 1) := dk_42 (dk_at dksX2_helper_1 5 rfl rfl)
theorem dX2_helper_30 : decode cX2_helper 30 = .ok (.getfield 118, 3) := dk_180 0 118 (dk_at dksX2_helper_1 6 rfl rfl)
theorem dX2_helper_33 : decode cX2_helper 33 = .ok (.getfield 323, 3) := dk_180 1 67 (dk_at dksX2_helper_1 9 rfl rfl)
theorem dX2_helper_36 : decode cX2_helper 36 = .ok (.invokespecial 328, 3) := dk_183 1 72 (dk_at dksX2_helper_1 12 rfl rfl)
theorem dX2_helper_39 : decode cX2_helper 39 = .ok (.astore_n 1, 1) := dk_76 (dk_at dksX2_helper_1 15 rfl rfl)
theorem dX2_helper_40 : decode cX2_helper 40 = .ok (.aload_n 0, 1) := dk_42 (dk_at dksX2_helper_1 16 rfl rfl)
theorem dX2_helper_41 : decode cX2_helper 41 = .ok (.ldc_w 329, 3) := dk_19 1 73 (dk_at dksX2_helper_1 17 rfl rfl)
theorem dX2_helper_44 : decode cX2_helper 44 = .ok (.invokevirtual 128, 3) := dk_182 0 128 (dk_at dksX2_helper_1 20 rfl rfl)
theorem dX2_helper_47 : decode cX2_helper 47 = .ok (.iconst 1, 1) := dk_4 (dk_at dksX2_helper_1 23 rfl rfl)
theorem dX2_helper_48 : decode cX2_helper 48 = .ok (.istore_n 2, 1) := dk_61 (dk_at dksX2_helper_2 0 rfl rfl)
theorem dX2_helper_49 : decode cX2_helper 49 = .ok (.iload_n 2, 1) := dk_28 (dk_at dksX2_helper_2 1 rfl rfl)
theorem dX2_helper_50 : decode cX2_helper 50 = .ok (.ifCond .eq 88, 3) := dk_153 0 88 (dk_at dksX2_helper_2 2 rfl rfl)
theorem dX2_helper_53 : decode cX2_helper 53 = .ok (.aload_n 0, 1) := dk_42 (dk_at dksX2_helper_2 5 rfl rfl)
theorem dX2_helper_54 : decode cX2_helper 54 = .ok (.getfield 47, 3) := dk_180 0 47 (dk_at dksX2_helper_2 6 rfl rfl)
theorem dX2_helper_57 : decode cX2_helper 57 = .ok (.iconst 3, 1) := dk_6 (dk_at dksX2_helper_2 9 rfl rfl)
theorem dX2_helper_58 : decode cX2_helper 58 = .ok (.if_icmp .ne 36, 3) := dk_160 0 36 (dk_at dksX2_helper_2 10 rfl rfl)
theorem dX2_helper_61 : decode cX2_helper 61 = .ok (.aload_n 0, 1) := dk_42 (dk_at dksX2_helper_2 13 rfl rfl)
theorem dX2_helper_62 : decode cX2_helper 62 = .ok (.getfield 68, 3) := dk_180 0 68 (dk_at dksX2_helper_2 14 rfl rfl)
theorem dX2_helper_65 : decode cX2_helper 65 = .ok (.iconst 0, 1) := dk_3 (dk_at dksX2_helper_2 17 rfl rfl)
theorem dX2_helper_66 : decode cX2_helper 66 = .ok (.bipush 6, 2) := dk_16 6 (dk_at dksX2_helper_2 18 rfl rfl)
theorem dX2_helper_68 : decode cX2_helper 68 = .ok (.invokestatic 36, 3) := dk_184 0 36 (dk_at dksX2_helper_2 20 rfl rfl)
theorem dX2_helper_71 : decode cX2_helper 71 = .ok (.ifCond .eq 23, 3) := dk_153 0 23 (dk_at dksX2_helper_3 0 rfl rfl)
theorem dX2_helper_74 : decode cX2_helper 74 = .ok (.aload_n 1, 1) := dk_43 (dk_at dksX2_helper_3 3 rfl rfl)
theorem dX2_helper_75 : decode cX2_helper 75 = .ok (.getfield 331, 3) := dk_180 1 75 (dk_at dksX2_helper_3 4 rfl rfl)
theorem dX2_helper_78 : decode cX2_helper 78 = .ok (.aload_n 0, 1) := dk_42 (dk_at dksX2_helper_3 7 rfl rfl)
theorem dX2_helper_79 : decode cX2_helper 79 = .ok (.getfield 68, 3) := dk_180 0 68 (dk_at dksX2_helper_3 8 rfl rfl)
theorem dX2_helper_82 : decode cX2_helper 82 = .ok (.invokestatic 333, 3) := dk_184 1 77 (dk_at dksX2_helper_3 11 rfl rfl)
theorem dX2_helper_85 : decode cX2_helper 85 = .ok (.ifCond .eq 9, 3) := dk_153 0 9 (dk_at dksX2_helper_3 14 rfl rfl)
theorem dX2_helper_88 : decode cX2_helper 88 = .ok (.aload_n 0, 1) := dk_42 (dk_at dksX2_helper_3 17 rfl rfl)
theorem dX2_helper_89 : decode cX2_helper 89 = .ok (.iconst 3, 1) := dk_6 (dk_at dksX2_helper_3 18 rfl rfl)
theorem dX2_helper_90 : decode cX2_helper 90 = .ok (.invokevirtual 85, 3) := dk_182 0 85 (dk_at dksX2_helper_3 19 rfl rfl)
theorem dX2_helper_93 : decode cX2_helper 93 = .ok (.athrow, 1) := dk_191 (dk_at dksX2_helper_3 22 rfl rfl)
theorem dX2_helper_94 : decode cX2_helper 94 = .ok (.aload_n 1, 1) := dk_43 (dk_at dksX2_helper_3 23 rfl rfl)
theorem dX2_helper_95 : decode cX2_helper 95 = .ok (.dup, 1) := dk_89 (dk_at dksX2_helper_4 0 rfl rfl)
theorem dX2_helper_96 : decode cX2_helper 96 = .ok (.getfield 331, 3) := dk_180 1 75 (dk_at dksX2_helper_4 1 rfl rfl)
theorem dX2_helper_99 : decode cX2_helper 99 = .ok (.iconst 1, 1) := dk_4 (dk_at dksX2_helper_4 4 rfl rfl)
theorem dX2_helper_100 : decode cX2_helper 100 = .ok (.aload_n 0, 1) := dk_42 (dk_at dksX2_helper_4 5 rfl rfl)
theorem dX2_helper_101 : decode cX2_helper 101 = .ok (.iconst 0, 1) := dk_3 (dk_at dksX2_helper_4 6 rfl rfl)
theorem dX2_helper_102 : decode cX2_helper 102 = .ok (.bipush 6, 2) := dk_16 6 (dk_at dksX2_helper_4 7 rfl rfl)
theorem dX2_helper_104 : decode cX2_helper 104 = .ok (.invokevirtual 132, 3) := dk_182 0 132 (dk_at dksX2_helper_4 9 rfl rfl)
theorem dX2_helper_107 : decode cX2_helper 107 = .ok (.ishl, 1) := dk_120 (dk_at dksX2_helper_4 12 rfl rfl)
theorem dX2_helper_108 : decode cX2_helper 108 = .ok (.ior, 1) := dk_128 (dk_at dksX2_helper_4 13 rfl rfl)
theorem dX2_helper_109 : decode cX2_helper 109 = .ok (.putfield 331, 3) := dk_181 1 75 (dk_at dksX2_helper_4 14 rfl rfl)
theorem dX2_helper_112 : decode cX2_helper 112 = .ok (.aload_n 0, 1) := dk_42 (dk_at dksX2_helper_4 17 rfl rfl)
theorem dX2_helper_113 : decode cX2_helper 113 = .ok (.getfield 47, 3) := dk_180 0 47 (dk_at dksX2_helper_4 18 rfl rfl)
theorem dX2_helper_116 : decode cX2_helper 116 = .ok (.bipush 44, 2) := dk_16 44 (dk_at dksX2_helper_4 21 rfl rfl)
theorem dX2_helper_118 : decode cX2_helper 118 = .ok (.if_icmp .ne 7, 3) := dk_160 0 7 (dk_at dksX2_helper_5 0 rfl rfl)
theorem dX2_helper_121 : decode cX2_helper 121 = .ok (.iconst 1, 1) := dk_4 (dk_at dksX2_helper_5 3 rfl rfl)
theorem dX2_helper_122 : decode cX2_helper 122 = .ok (.goto 4, 3) := dk_167 0 4 (dk_at dksX2_helper_5 4 rfl rfl)
theorem dX2_helper_125 : decode cX2_helper 125 = .ok (.iconst 0, 1) := dk_3 (dk_at dksX2_helper_5 7 rfl rfl)
theorem dX2_helper_126 : decode cX2_helper 126 = .ok (.istore_n 2, 1) := dk_61 (dk_at dksX2_helper_5 8 rfl rfl)
theorem dX2_helper_127 : decode cX2_helper 127 = .ok (.iload_n 2, 1) := dk_28 (dk_at dksX2_helper_5 9 rfl rfl)
theorem dX2_helper_128 : decode cX2_helper 128 = .ok (.ifCond .eq (-79), 3) := dk_153 255 177 (dk_at dksX2_helper_5 10 rfl rfl)
theorem dX2_helper_131 : decode cX2_helper 131 = .ok (.aload_n 0, 1) := dk_42 (dk_at dksX2_helper_5 13 rfl rfl)
theorem dX2_helper_132 : decode cX2_helper 132 = .ok (.invokevirtual 79, 3) := dk_182 0 79 (dk_at dksX2_helper_5 14 rfl rfl)
theorem dX2_helper_135 : decode cX2_helper 135 = .ok (.goto (-86), 3) := dk_167 255 170 (dk_at dksX2_helper_5 17 rfl rfl)
theorem dX2_helper_138 : decode cX2_helper 138 = .ok (.aload_n 1, 1) := dk_43 (dk_at dksX2_helper_5 20 rfl rfl)
theorem dX2_helper_139 : decode cX2_helper 139 = .ok (.aload_n 0, 1) := dk_42 (dk_at dksX2_helper_5 21 rfl rfl)
theorem dX2_helper_140 : decode cX2_helper 140 = .ok (.ldc_w 337, 3) := dk_19 1 81 (dk_at dksX2_helper_6 0 rfl rfl)
theorem dX2_helper_143 : decode cX2_helper 143 = .ok (.iconst 1, 1) := dk_4 (dk_at dksX2_helper_6 3 rfl rfl)
theorem dX2_helper_144 : decode cX2_helper 144 = .ok (.bipush 7, 2) := dk_16 7 (dk_at dksX2_helper_6 4 rfl rfl)
theorem dX2_helper_146 : decode cX2_helper 146 = .ok (.invokevirtual 161, 3) := dk_182 0 161 (dk_at dksX2_helper_6 6 rfl rfl)
theorem dX2_helper_149 : decode cX2_helper 149 = .ok (.putfield 339, 3) := dk_181 1 83 (dk_at dksX2_helper_6 9 rfl rfl)
theorem dX2_helper_152 : decode cX2_helper 152 = .ok (.aload_n 0, 1) := dk_42 (dk_at dksX2_helper_6 12 rfl rfl)
theorem dX2_helper_153 : decode cX2_helper 153 = .ok (.getfield 118, 3) := dk_180 0 118 (dk_at dksX2_helper_6 13 rfl rfl)
theorem dX2_helper_156 : decode cX2_helper 156 = .ok (.getfield 341, 3) := dk_180 1 85 (dk_at dksX2_helper_6 16 rfl rfl)
theorem dX2_helper_159 : decode cX2_helper 159 = .ok (.aload_n 0, 1) := dk_42 (dk_at dksX2_helper_6 19 rfl rfl)
theorem dX2_helper_160 : decode cX2_helper 160 = .ok (.getfield 118, 3) := dk_180 0 118 (dk_at dksX2_helper_6 20 rfl rfl)
theorem dX2_helper_163 : decode cX2_helper 163 = .ok (.getfield 323, 3) := dk_180 1 67 (dk_at dksX2_helper_7 0 rfl rfl)
theorem dX2_helper_166 : decode cX2_helper 166 = .ok (.aload_n 1, 1) := dk_43 (dk_at dksX2_helper_7 3 rfl rfl)
theorem dX2_helper_167 : decode cX2_helper 167 = .ok (.aastore, 1) := dk_83 (dk_at dksX2_helper_7 4 rfl rfl)
theorem dX2_helper_168 : decode cX2_helper 168 = .ok (.aload_n 0, 1) := dk_42 (dk_at dksX2_helper_7 5 rfl rfl)
theorem dX2_helper_169 : decode cX2_helper 169 = .ok (.getfield 118, 3) := dk_180 0 118 (dk_at dksX2_helper_7 6 rfl rfl)
theorem dX2_helper_172 : decode cX2_helper 172 = .ok (.dup, 1) := dk_89 (dk_at dksX2_helper_7 9 rfl rfl)
theorem dX2_helper_173 : decode cX2_helper 173 = .ok (.getfield 323, 3) := dk_180 1 67 (dk_at dksX2_helper_7 10 rfl rfl)
theorem dX2_helper_176 : decode cX2_helper 176 = .ok (.iconst 1, 1) := dk_4 (dk_at dksX2_helper_7 13 rfl rfl)
theorem dX2_helper_177 : decode cX2_helper 177 = .ok (.iadd, 1) := dk_96 (dk_at dksX2_helper_7 14 rfl rfl)
theorem dX2_helper_178 : decode cX2_helper 178 = .ok (.putfield 323, 3) := dk_181 1 67 (dk_at dksX2_helper_7 15 rfl rfl)
theorem dX2_helper_181 : decode cX2_helper 181 = .ok (.return_, 1) := dk_177 (dk_at dksX2_helper_7 18 rfl rfl)
theorem q93 : (Jvm.Cond.initialized "NoonMeals$Reader") ∈ lw_all := lw_g (lw_at lw_m1 2 rfl) rfl
theorem q127 : (Jvm.Cond.instantiable "NoonMeals$Reader" (10 : Nat)) ∈ lw_all := lw_g (lw_at lw_m1 36 rfl) rfl
theorem q129 : (Jvm.Cond.instanceMethod ({ cls := "NoonMeals$Reader", name := "<init>", desc := "([B)V" } : Jvm.MethodName)) ∈ lw_all := lw_g (lw_at lw_m1 38 rfl) rfl
theorem q130 : (Jvm.Cond.code ({ cls := "NoonMeals$Reader", name := "<init>", desc := "([B)V" } : Jvm.MethodName) prog_11_method_1_code (2 : Nat) (Option.none : Option Jvm.ClassFile.FieldType)) ∈ lw_all := lw_g (lw_at lw_m1 39 rfl) rfl
theorem q131 : (Jvm.Cond.methodLink "NoonMeals$Reader" (3 : Nat) ({ cls := "java/lang/Object", name := "<init>", desc := "()V" } : Jvm.MethodName)) ∈ lw_all := lw_g (lw_at lw_m1 40 rfl) rfl
theorem q132 : (Jvm.Cond.classLink "NoonMeals$Reader" (9 : Nat) "NoonMeals$Refused") ∈ lw_all := lw_g (lw_at lw_m1 41 rfl) rfl
theorem q172 : (Jvm.Cond.methodLink "NoonMeals$Reader" (11 : Nat) ({ cls := "NoonMeals$Refused", name := "<init>", desc := "()V" } : Jvm.MethodName)) ∈ lw_all := lw_g (lw_at lw_m1 81 rfl) rfl
theorem q206 : (Jvm.Cond.fieldLink "NoonMeals$Reader" (12 : Nat) "NoonMeals$Reader" "wrong" "LNoonMeals$Refused;") ∈ lw_all := lw_g (lw_at lw_m1 115 rfl) rfl
theorem q207 : (Jvm.Cond.fieldLink "NoonMeals$Reader" (22 : Nat) "NoonMeals$Reader" "text" "[B") ∈ lw_all := lw_g (lw_at lw_m1 116 rfl) rfl
theorem q208 : (Jvm.Cond.fieldLink "NoonMeals$Reader" (18 : Nat) "NoonMeals$Reader" "letters" "[C") ∈ lw_all := lw_g (lw_at lw_m1 117 rfl) rfl
theorem q209 : (Jvm.Cond.fieldLink "NoonMeals$Reader" (33 : Nat) "NoonMeals$Reader" "size" "I") ∈ lw_all := lw_g (lw_at lw_m1 118 rfl) rfl
theorem q210 : (Jvm.Cond.fieldLink "NoonMeals$Reader" (40 : Nat) "NoonMeals$Reader" "end" "I") ∈ lw_all := lw_g (lw_at lw_m1 119 rfl) rfl
theorem q211 : (Jvm.Cond.fieldLink "NoonMeals$Reader" (47 : Nat) "NoonMeals$Reader" "token" "I") ∈ lw_all := lw_g (lw_at lw_m1 120 rfl) rfl
theorem q212 : (Jvm.Cond.fieldLink "NoonMeals$Reader" (26 : Nat) "NoonMeals$Reader" "at" "I") ∈ lw_all := lw_g (lw_at lw_m1 121 rfl) rfl
theorem q213 : (Jvm.Cond.fieldLink "NoonMeals$Reader" (68 : Nat) "NoonMeals$Reader" "whole" "I") ∈ lw_all := lw_g (lw_at lw_m1 122 rfl) rfl
theorem q214 : (Jvm.Cond.fieldLink "NoonMeals$Reader" (61 : Nat) "NoonMeals$Reader" "word" "Ljava/lang/String;") ∈ lw_all := lw_g (lw_at lw_m1 123 rfl) rfl
theorem q215 : (Jvm.Cond.fieldLink "NoonMeals$Reader" (118 : Nat) "NoonMeals$Reader" "day" "LNoonMeals$Day;") ∈ lw_all := lw_g (lw_at lw_m1 124 rfl) rfl
theorem q216 : (Jvm.Cond.laysFinal "NoonMeals$Reader" "NoonMeals$Reader" "wrong" "LNoonMeals$Refused;") ∈ lw_all := lw_g (lw_at lw_m1 125 rfl) rfl
theorem q217 : (Jvm.Cond.soleField "NoonMeals$Reader" "wrong") ∈ lw_all := lw_g (lw_at lw_m1 126 rfl) rfl
theorem q218 : (Jvm.Cond.laysFinal "NoonMeals$Reader" "NoonMeals$Reader" "text" "[B") ∈ lw_all := lw_g (lw_at lw_m1 127 rfl) rfl
theorem q219 : (Jvm.Cond.soleField "NoonMeals$Reader" "text") ∈ lw_all := lw_g (lw_at lw_m1 128 rfl) rfl
theorem q220 : (Jvm.Cond.laysFinal "NoonMeals$Reader" "NoonMeals$Reader" "letters" "[C") ∈ lw_all := lw_g (lw_at lw_m1 129 rfl) rfl
theorem q221 : (Jvm.Cond.soleField "NoonMeals$Reader" "letters") ∈ lw_all := lw_g (lw_at lw_m1 130 rfl) rfl
theorem q222 : (Jvm.Cond.lays "NoonMeals$Reader" "NoonMeals$Reader" "size" "I") ∈ lw_all := lw_g (lw_at lw_m1 131 rfl) rfl
theorem q223 : (Jvm.Cond.soleField "NoonMeals$Reader" "size") ∈ lw_all := lw_g (lw_at lw_m1 132 rfl) rfl
theorem q224 : (Jvm.Cond.lays "NoonMeals$Reader" "NoonMeals$Reader" "end" "I") ∈ lw_all := lw_g (lw_at lw_m1 133 rfl) rfl
theorem q225 : (Jvm.Cond.soleField "NoonMeals$Reader" "end") ∈ lw_all := lw_g (lw_at lw_m1 134 rfl) rfl
theorem q226 : (Jvm.Cond.lays "NoonMeals$Reader" "NoonMeals$Reader" "token" "I") ∈ lw_all := lw_g (lw_at lw_m1 135 rfl) rfl
theorem q227 : (Jvm.Cond.soleField "NoonMeals$Reader" "token") ∈ lw_all := lw_g (lw_at lw_m1 136 rfl) rfl
theorem q228 : (Jvm.Cond.lays "NoonMeals$Reader" "NoonMeals$Reader" "at" "I") ∈ lw_all := lw_g (lw_at lw_m1 137 rfl) rfl
theorem q229 : (Jvm.Cond.soleField "NoonMeals$Reader" "at") ∈ lw_all := lw_g (lw_at lw_m1 138 rfl) rfl
theorem q230 : (Jvm.Cond.lays "NoonMeals$Reader" "NoonMeals$Reader" "whole" "I") ∈ lw_all := lw_g (lw_at lw_m1 139 rfl) rfl
theorem q231 : (Jvm.Cond.soleField "NoonMeals$Reader" "whole") ∈ lw_all := lw_g (lw_at lw_m1 140 rfl) rfl
theorem q232 : (Jvm.Cond.lays "NoonMeals$Reader" "NoonMeals$Reader" "word" "Ljava/lang/String;") ∈ lw_all := lw_g (lw_at lw_m1 141 rfl) rfl
theorem q233 : (Jvm.Cond.soleField "NoonMeals$Reader" "word") ∈ lw_all := lw_g (lw_at lw_m1 142 rfl) rfl
theorem q234 : (Jvm.Cond.lays "NoonMeals$Reader" "NoonMeals$Reader" "day" "LNoonMeals$Day;") ∈ lw_all := lw_g (lw_at lw_m1 143 rfl) rfl
theorem q235 : (Jvm.Cond.soleField "NoonMeals$Reader" "day") ∈ lw_all := lw_g (lw_at lw_m1 144 rfl) rfl
theorem q236 : (Jvm.Cond.superclass "NoonMeals$Reader" "java/lang/Object") ∈ lw_all := lw_g (lw_at lw_m1 145 rfl) rfl
theorem q412 : (Jvm.Cond.instanceMethod ({ cls := "NoonMeals$Reader", name := "read", desc := "(I)LNoonMeals$Day;" } : Jvm.MethodName)) ∈ lw_all := lw_g (lw_at lw_m2 81 rfl) rfl
theorem q413 : (Jvm.Cond.selects "NoonMeals$Reader" ({ cls := "NoonMeals$Reader", name := "read", desc := "(I)LNoonMeals$Day;" } : Jvm.MethodName) ({ cls := "NoonMeals$Reader", name := "read", desc := "(I)LNoonMeals$Day;" } : Jvm.MethodName)) ∈ lw_all := lw_g (lw_at lw_m2 82 rfl) rfl
theorem q414 : (Jvm.Cond.code ({ cls := "NoonMeals$Reader", name := "read", desc := "(I)LNoonMeals$Day;" } : Jvm.MethodName) prog_11_method_16_code (2 : Nat) (Option.some (Jvm.ClassFile.FieldType.object "NoonMeals$Day"))) ∈ lw_all := lw_g (lw_at lw_m2 83 rfl) rfl
theorem q415 : (Jvm.Cond.classLink "NoonMeals$Reader" (123 : Nat) "NoonMeals$Day") ∈ lw_all := lw_g (lw_at lw_m2 84 rfl) rfl
theorem q417 : (Jvm.Cond.methodLinkNest "NoonMeals$Reader" (143 : Nat) ({ cls := "NoonMeals$Day", name := "<init>", desc := "()V" } : Jvm.MethodName) "NoonMeals") ∈ lw_tbl := lw_at lw_m2 86 rfl
theorem q436 : (Jvm.Cond.fieldLink "NoonMeals$Reader" (210 : Nat) "NoonMeals$Day" "kitchens" "[LNoonMeals$Kitchen;") ∈ lw_all := lw_g (lw_at lw_m2 105 rfl) rfl
theorem q438 : (Jvm.Cond.fieldLink "NoonMeals$Reader" (231 : Nat) "NoonMeals$Day" "dishes" "[LNoonMeals$Dish;") ∈ lw_all := lw_g (lw_at lw_m2 107 rfl) rfl
theorem q441 : (Jvm.Cond.fieldLink "NoonMeals$Reader" (245 : Nat) "NoonMeals$Day" "diets" "[LNoonMeals$Diet;") ∈ lw_all := lw_g (lw_at lw_m2 110 rfl) rfl
theorem q445 : (Jvm.Cond.fieldLink "NoonMeals$Reader" (278 : Nat) "NoonMeals$Day" "houses" "[LNoonMeals$House;") ∈ lw_all := lw_g (lw_at lw_m2 114 rfl) rfl
theorem q449 : (Jvm.Cond.fieldLink "NoonMeals$Reader" (305 : Nat) "NoonMeals$Day" "cars" "[LNoonMeals$Car;") ∈ lw_all := lw_g (lw_at lw_m2 118 rfl) rfl
theorem q451 : (Jvm.Cond.fieldLink "NoonMeals$Reader" (319 : Nat) "NoonMeals$Day" "calls" "[LNoonMeals$Call;") ∈ lw_all := lw_g (lw_at lw_m2 120 rfl) rfl
theorem q454 : (Jvm.Cond.fieldLink "NoonMeals$Reader" (341 : Nat) "NoonMeals$Day" "helpers" "[LNoonMeals$Helper;") ∈ lw_all := lw_g (lw_at lw_m2 123 rfl) rfl
theorem q457 : (Jvm.Cond.fieldLink "NoonMeals$Reader" (174 : Nat) "NoonMeals$Day" "floodAt" "[I") ∈ lw_all := lw_g (lw_at lw_m2 126 rfl) rfl
theorem q459 : (Jvm.Cond.fieldLink "NoonMeals$Reader" (178 : Nat) "NoonMeals$Day" "floodAdds" "[I") ∈ lw_all := lw_g (lw_at lw_m2 128 rfl) rfl
theorem q461 : (Jvm.Cond.fieldLink "NoonMeals$Reader" (195 : Nat) "NoonMeals$Day" "kitchenMany" "I") ∈ lw_all := lw_g (lw_at lw_m2 130 rfl) rfl
theorem q464 : (Jvm.Cond.fieldLink "NoonMeals$Reader" (214 : Nat) "NoonMeals$Day" "dishMany" "I") ∈ lw_all := lw_g (lw_at lw_m2 133 rfl) rfl
theorem q467 : (Jvm.Cond.fieldLink "NoonMeals$Reader" (235 : Nat) "NoonMeals$Day" "dietMany" "I") ∈ lw_all := lw_g (lw_at lw_m2 136 rfl) rfl
theorem q471 : (Jvm.Cond.fieldLink "NoonMeals$Reader" (150 : Nat) "NoonMeals$Day" "houseMany" "I") ∈ lw_all := lw_g (lw_at lw_m2 140 rfl) rfl
theorem q474 : (Jvm.Cond.fieldLink "NoonMeals$Reader" (153 : Nat) "NoonMeals$Day" "carMany" "I") ∈ lw_all := lw_g (lw_at lw_m2 143 rfl) rfl
theorem q476 : (Jvm.Cond.fieldLink "NoonMeals$Reader" (309 : Nat) "NoonMeals$Day" "callMany" "I") ∈ lw_all := lw_g (lw_at lw_m2 145 rfl) rfl
theorem q479 : (Jvm.Cond.fieldLink "NoonMeals$Reader" (323 : Nat) "NoonMeals$Day" "helperMany" "I") ∈ lw_all := lw_g (lw_at lw_m2 148 rfl) rfl
theorem q482 : (Jvm.Cond.fieldLink "NoonMeals$Reader" (171 : Nat) "NoonMeals$Day" "floodMany" "I") ∈ lw_all := lw_g (lw_at lw_m2 151 rfl) rfl
theorem q485 : (Jvm.Cond.fieldLink "NoonMeals$Reader" (147 : Nat) "NoonMeals$Day" "hot" "I") ∈ lw_all := lw_g (lw_at lw_m2 154 rfl) rfl
theorem q488 : (Jvm.Cond.fieldLink "NoonMeals$Reader" (167 : Nat) "NoonMeals$Day" "by" "I") ∈ lw_all := lw_g (lw_at lw_m2 157 rfl) rfl
theorem q528 : (Jvm.Cond.methodLink "NoonMeals$Reader" (79 : Nat) ({ cls := "NoonMeals$Reader", name := "next", desc := "()V" } : Jvm.MethodName)) ∈ lw_all := lw_g (lw_at lw_m2 197 rfl) rfl
theorem q529 : (Jvm.Cond.privateMethod ({ cls := "NoonMeals$Reader", name := "next", desc := "()V" } : Jvm.MethodName)) ∈ lw_tbl := lw_at lw_m2 198 rfl
theorem q530 : (Jvm.Cond.instanceMethod ({ cls := "NoonMeals$Reader", name := "next", desc := "()V" } : Jvm.MethodName)) ∈ lw_all := lw_g (lw_at lw_m2 199 rfl) rfl
theorem q531 : (Jvm.Cond.code ({ cls := "NoonMeals$Reader", name := "next", desc := "()V" } : Jvm.MethodName) prog_11_method_6_code (3 : Nat) (Option.none : Option Jvm.ClassFile.FieldType)) ∈ lw_all := lw_g (lw_at lw_m2 200 rfl) rfl
theorem q532 : (Jvm.Cond.methodLink "NoonMeals$Reader" (43 : Nat) ({ cls := "NoonMeals$Reader", name := "see", desc := "(I)I" } : Jvm.MethodName)) ∈ lw_all := lw_g (lw_at lw_m2 201 rfl) rfl
theorem q533 : (Jvm.Cond.privateMethod ({ cls := "NoonMeals$Reader", name := "see", desc := "(I)I" } : Jvm.MethodName)) ∈ lw_tbl := lw_at lw_m2 202 rfl
theorem q534 : (Jvm.Cond.instanceMethod ({ cls := "NoonMeals$Reader", name := "see", desc := "(I)I" } : Jvm.MethodName)) ∈ lw_all := lw_g (lw_at lw_m2 203 rfl) rfl
theorem q535 : (Jvm.Cond.code ({ cls := "NoonMeals$Reader", name := "see", desc := "(I)I" } : Jvm.MethodName) prog_11_method_3_code (2 : Nat) (Option.some Jvm.ClassFile.FieldType.int)) ∈ lw_all := lw_g (lw_at lw_m2 204 rfl) rfl
theorem q536 : (Jvm.Cond.methodLink "NoonMeals$Reader" (50 : Nat) ({ cls := "NoonMeals$Reader", name := "isSmall", desc := "(I)Z" } : Jvm.MethodName)) ∈ lw_all := lw_g (lw_at lw_m2 205 rfl) rfl
theorem q537 : (Jvm.Cond.static ({ cls := "NoonMeals$Reader", name := "isSmall", desc := "(I)Z" } : Jvm.MethodName)) ∈ lw_all := lw_g (lw_at lw_m2 206 rfl) rfl
theorem q538 : (Jvm.Cond.code ({ cls := "NoonMeals$Reader", name := "isSmall", desc := "(I)Z" } : Jvm.MethodName) prog_11_method_4_code (1 : Nat) (Option.some Jvm.ClassFile.FieldType.boolean)) ∈ lw_all := lw_g (lw_at lw_m2 207 rfl) rfl
theorem q539 : (Jvm.Cond.methodLinkNest "NoonMeals$Reader" (36 : Nat) ({ cls := "NoonMeals", name := "in", desc := "(III)Z" } : Jvm.MethodName) "NoonMeals") ∈ lw_tbl := lw_at lw_m2 208 rfl
theorem q540 : (Jvm.Cond.classLink "NoonMeals$Reader" (54 : Nat) "java/lang/String") ∈ lw_all := lw_g (lw_at lw_m2 209 rfl) rfl
theorem q542 : (Jvm.Cond.methodLink "NoonMeals$Reader" (56 : Nat) ({ cls := "java/lang/String", name := "<init>", desc := "([CII)V" } : Jvm.MethodName)) ∈ lw_all := lw_g (lw_at lw_m2 211 rfl) rfl
theorem q618 : (Jvm.Cond.stringRef "NoonMeals$Reader" (59 : Nat) "") ∈ lw_tbl := lw_at lw_m3 47 rfl
theorem q619 : (Jvm.Cond.methodLink "NoonMeals$Reader" (65 : Nat) ({ cls := "NoonMeals$Reader", name := "isDigit", desc := "(I)Z" } : Jvm.MethodName)) ∈ lw_all := lw_g (lw_at lw_m3 48 rfl) rfl
theorem q620 : (Jvm.Cond.static ({ cls := "NoonMeals$Reader", name := "isDigit", desc := "(I)Z" } : Jvm.MethodName)) ∈ lw_all := lw_g (lw_at lw_m3 49 rfl) rfl
theorem q621 : (Jvm.Cond.code ({ cls := "NoonMeals$Reader", name := "isDigit", desc := "(I)Z" } : Jvm.MethodName) prog_11_method_5_code (1 : Nat) (Option.some Jvm.ClassFile.FieldType.boolean)) ∈ lw_all := lw_g (lw_at lw_m3 50 rfl) rfl
theorem q622 : (Jvm.Cond.methodLink "NoonMeals$Reader" (144 : Nat) ({ cls := "NoonMeals$Reader", name := "line", desc := "()V" } : Jvm.MethodName)) ∈ lw_all := lw_g (lw_at lw_m3 51 rfl) rfl
theorem q623 : (Jvm.Cond.privateMethod ({ cls := "NoonMeals$Reader", name := "line", desc := "()V" } : Jvm.MethodName)) ∈ lw_tbl := lw_at lw_m3 52 rfl
theorem q624 : (Jvm.Cond.instanceMethod ({ cls := "NoonMeals$Reader", name := "line", desc := "()V" } : Jvm.MethodName)) ∈ lw_all := lw_g (lw_at lw_m3 53 rfl) rfl
theorem q625 : (Jvm.Cond.code ({ cls := "NoonMeals$Reader", name := "line", desc := "()V" } : Jvm.MethodName) prog_11_method_17_code (4 : Nat) (Option.none : Option Jvm.ClassFile.FieldType)) ∈ lw_all := lw_g (lw_at lw_m3 54 rfl) rfl
theorem q626 : (Jvm.Cond.methodLink "NoonMeals$Reader" (85 : Nat) ({ cls := "NoonMeals$Reader", name := "fail", desc := "(I)LNoonMeals$Refused;" } : Jvm.MethodName)) ∈ lw_all := lw_g (lw_at lw_m3 55 rfl) rfl
theorem q627 : (Jvm.Cond.privateMethod ({ cls := "NoonMeals$Reader", name := "fail", desc := "(I)LNoonMeals$Refused;" } : Jvm.MethodName)) ∈ lw_tbl := lw_at lw_m3 56 rfl
theorem q628 : (Jvm.Cond.instanceMethod ({ cls := "NoonMeals$Reader", name := "fail", desc := "(I)LNoonMeals$Refused;" } : Jvm.MethodName)) ∈ lw_all := lw_g (lw_at lw_m3 57 rfl) rfl
theorem q629 : (Jvm.Cond.code ({ cls := "NoonMeals$Reader", name := "fail", desc := "(I)LNoonMeals$Refused;" } : Jvm.MethodName) prog_11_method_2_code (2 : Nat) (Option.some (Jvm.ClassFile.FieldType.object "NoonMeals$Refused"))) ∈ lw_all := lw_g (lw_at lw_m3 58 rfl) rfl
theorem q630 : (Jvm.Cond.methodLink "NoonMeals$Reader" (30 : Nat) ({ cls := "NoonMeals$Refused", name := "at", desc := "(II)LNoonMeals$Refused;" } : Jvm.MethodName)) ∈ lw_all := lw_g (lw_at lw_m3 59 rfl) rfl
theorem q634 : (Jvm.Cond.methodLink "NoonMeals$Reader" (89 : Nat) ({ cls := "java/lang/String", name := "hashCode", desc := "()I" } : Jvm.MethodName)) ∈ lw_all := lw_g (lw_at lw_m3 63 rfl) rfl
theorem q687 : (Jvm.Cond.stringRef "NoonMeals$Reader" (93 : Nat) "law") ∈ lw_tbl := lw_at lw_m3 116 rfl
theorem q688 : (Jvm.Cond.methodLink "NoonMeals$Reader" (71 : Nat) ({ cls := "java/lang/String", name := "equals", desc := "(Ljava/lang/Object;)Z" } : Jvm.MethodName)) ∈ lw_all := lw_g (lw_at lw_m3 117 rfl) rfl
theorem q696 : (Jvm.Cond.stringRef "NoonMeals$Reader" (95 : Nat) "kitchen") ∈ lw_tbl := lw_at lw_m3 125 rfl
theorem q697 : (Jvm.Cond.stringRef "NoonMeals$Reader" (97 : Nat) "flood") ∈ lw_tbl := lw_at lw_m3 126 rfl
theorem q698 : (Jvm.Cond.stringRef "NoonMeals$Reader" (99 : Nat) "dish") ∈ lw_tbl := lw_at lw_m3 127 rfl
theorem q699 : (Jvm.Cond.stringRef "NoonMeals$Reader" (101 : Nat) "diet") ∈ lw_tbl := lw_at lw_m3 128 rfl
theorem q700 : (Jvm.Cond.stringRef "NoonMeals$Reader" (103 : Nat) "house") ∈ lw_tbl := lw_at lw_m3 129 rfl
theorem q701 : (Jvm.Cond.stringRef "NoonMeals$Reader" (105 : Nat) "car") ∈ lw_tbl := lw_at lw_m3 130 rfl
theorem q702 : (Jvm.Cond.stringRef "NoonMeals$Reader" (107 : Nat) "call") ∈ lw_tbl := lw_at lw_m3 131 rfl
theorem q703 : (Jvm.Cond.stringRef "NoonMeals$Reader" (109 : Nat) "helper") ∈ lw_tbl := lw_at lw_m3 132 rfl
theorem q704 : (Jvm.Cond.methodLink "NoonMeals$Reader" (156 : Nat) ({ cls := "NoonMeals$Reader", name := "begins", desc := "(ZI)V" } : Jvm.MethodName)) ∈ lw_all := lw_g (lw_at lw_m3 133 rfl) rfl
theorem q705 : (Jvm.Cond.privateMethod ({ cls := "NoonMeals$Reader", name := "begins", desc := "(ZI)V" } : Jvm.MethodName)) ∈ lw_tbl := lw_at lw_m3 134 rfl
theorem q706 : (Jvm.Cond.instanceMethod ({ cls := "NoonMeals$Reader", name := "begins", desc := "(ZI)V" } : Jvm.MethodName)) ∈ lw_all := lw_g (lw_at lw_m3 135 rfl) rfl
theorem q707 : (Jvm.Cond.code ({ cls := "NoonMeals$Reader", name := "begins", desc := "(ZI)V" } : Jvm.MethodName) prog_11_method_15_code (3 : Nat) (Option.none : Option Jvm.ClassFile.FieldType)) ∈ lw_all := lw_g (lw_at lw_m3 136 rfl) rfl
theorem q708 : (Jvm.Cond.stringRef "NoonMeals$Reader" (160 : Nat) "hot") ∈ lw_tbl := lw_at lw_m3 137 rfl
theorem q709 : (Jvm.Cond.methodLink "NoonMeals$Reader" (161 : Nat) ({ cls := "NoonMeals$Reader", name := "told", desc := "(Ljava/lang/String;II)I" } : Jvm.MethodName)) ∈ lw_all := lw_g (lw_at lw_m3 138 rfl) rfl
theorem q710 : (Jvm.Cond.privateMethod ({ cls := "NoonMeals$Reader", name := "told", desc := "(Ljava/lang/String;II)I" } : Jvm.MethodName)) ∈ lw_tbl := lw_at lw_m3 139 rfl
theorem q711 : (Jvm.Cond.instanceMethod ({ cls := "NoonMeals$Reader", name := "told", desc := "(Ljava/lang/String;II)I" } : Jvm.MethodName)) ∈ lw_all := lw_g (lw_at lw_m3 140 rfl) rfl
theorem q712 : (Jvm.Cond.code ({ cls := "NoonMeals$Reader", name := "told", desc := "(Ljava/lang/String;II)I" } : Jvm.MethodName) prog_11_method_13_code (4 : Nat) (Option.some Jvm.ClassFile.FieldType.int)) ∈ lw_all := lw_g (lw_at lw_m3 141 rfl) rfl
theorem q713 : (Jvm.Cond.methodLink "NoonMeals$Reader" (128 : Nat) ({ cls := "NoonMeals$Reader", name := "must", desc := "(Ljava/lang/String;)V" } : Jvm.MethodName)) ∈ lw_all := lw_g (lw_at lw_m3 142 rfl) rfl
theorem q714 : (Jvm.Cond.privateMethod ({ cls := "NoonMeals$Reader", name := "must", desc := "(Ljava/lang/String;)V" } : Jvm.MethodName)) ∈ lw_tbl := lw_at lw_m3 143 rfl
theorem q715 : (Jvm.Cond.instanceMethod ({ cls := "NoonMeals$Reader", name := "must", desc := "(Ljava/lang/String;)V" } : Jvm.MethodName)) ∈ lw_all := lw_g (lw_at lw_m3 144 rfl) rfl
theorem q716 : (Jvm.Cond.code ({ cls := "NoonMeals$Reader", name := "must", desc := "(Ljava/lang/String;)V" } : Jvm.MethodName) prog_11_method_9_code (2 : Nat) (Option.none : Option Jvm.ClassFile.FieldType)) ∈ lw_all := lw_g (lw_at lw_m3 145 rfl) rfl
theorem q717 : (Jvm.Cond.methodLink "NoonMeals$Reader" (82 : Nat) ({ cls := "NoonMeals$Reader", name := "takes", desc := "(Ljava/lang/String;)Z" } : Jvm.MethodName)) ∈ lw_all := lw_g (lw_at lw_m3 146 rfl) rfl
theorem q718 : (Jvm.Cond.privateMethod ({ cls := "NoonMeals$Reader", name := "takes", desc := "(Ljava/lang/String;)Z" } : Jvm.MethodName)) ∈ lw_tbl := lw_at lw_m3 147 rfl
theorem q719 : (Jvm.Cond.instanceMethod ({ cls := "NoonMeals$Reader", name := "takes", desc := "(Ljava/lang/String;)Z" } : Jvm.MethodName)) ∈ lw_all := lw_g (lw_at lw_m3 148 rfl) rfl
theorem q720 : (Jvm.Cond.code ({ cls := "NoonMeals$Reader", name := "takes", desc := "(Ljava/lang/String;)Z" } : Jvm.MethodName) prog_11_method_8_code (2 : Nat) (Option.some Jvm.ClassFile.FieldType.boolean)) ∈ lw_all := lw_g (lw_at lw_m3 149 rfl) rfl
theorem q721 : (Jvm.Cond.methodLink "NoonMeals$Reader" (75 : Nat) ({ cls := "NoonMeals$Reader", name := "isWord", desc := "(Ljava/lang/String;)Z" } : Jvm.MethodName)) ∈ lw_all := lw_g (lw_at lw_m3 150 rfl) rfl
theorem q722 : (Jvm.Cond.privateMethod ({ cls := "NoonMeals$Reader", name := "isWord", desc := "(Ljava/lang/String;)Z" } : Jvm.MethodName)) ∈ lw_tbl := lw_at lw_m3 151 rfl
theorem q723 : (Jvm.Cond.instanceMethod ({ cls := "NoonMeals$Reader", name := "isWord", desc := "(Ljava/lang/String;)Z" } : Jvm.MethodName)) ∈ lw_all := lw_g (lw_at lw_m3 152 rfl) rfl
theorem q724 : (Jvm.Cond.code ({ cls := "NoonMeals$Reader", name := "isWord", desc := "(Ljava/lang/String;)Z" } : Jvm.MethodName) prog_11_method_7_code (2 : Nat) (Option.some Jvm.ClassFile.FieldType.boolean)) ∈ lw_all := lw_g (lw_at lw_m3 153 rfl) rfl
theorem q725 : (Jvm.Cond.methodLink "NoonMeals$Reader" (132 : Nat) ({ cls := "NoonMeals$Reader", name := "number", desc := "(II)I" } : Jvm.MethodName)) ∈ lw_all := lw_g (lw_at lw_m3 154 rfl) rfl
theorem q726 : (Jvm.Cond.privateMethod ({ cls := "NoonMeals$Reader", name := "number", desc := "(II)I" } : Jvm.MethodName)) ∈ lw_tbl := lw_at lw_m3 155 rfl
theorem q727 : (Jvm.Cond.instanceMethod ({ cls := "NoonMeals$Reader", name := "number", desc := "(II)I" } : Jvm.MethodName)) ∈ lw_all := lw_g (lw_at lw_m3 156 rfl) rfl
theorem q728 : (Jvm.Cond.code ({ cls := "NoonMeals$Reader", name := "number", desc := "(II)I" } : Jvm.MethodName) prog_11_method_12_code (4 : Nat) (Option.some Jvm.ClassFile.FieldType.int)) ∈ lw_all := lw_g (lw_at lw_m3 157 rfl) rfl
theorem q729 : (Jvm.Cond.stringRef "NoonMeals$Reader" (165 : Nat) "by") ∈ lw_tbl := lw_at lw_m3 158 rfl
theorem q730 : (Jvm.Cond.methodLink "NoonMeals$Reader" (169 : Nat) ({ cls := "NoonMeals$Reader", name := "kitchen", desc := "()V" } : Jvm.MethodName)) ∈ lw_all := lw_g (lw_at lw_m3 159 rfl) rfl
theorem q731 : (Jvm.Cond.privateMethod ({ cls := "NoonMeals$Reader", name := "kitchen", desc := "()V" } : Jvm.MethodName)) ∈ lw_tbl := lw_at lw_m3 160 rfl
theorem q732 : (Jvm.Cond.instanceMethod ({ cls := "NoonMeals$Reader", name := "kitchen", desc := "()V" } : Jvm.MethodName)) ∈ lw_all := lw_g (lw_at lw_m3 161 rfl) rfl
theorem q733 : (Jvm.Cond.code ({ cls := "NoonMeals$Reader", name := "kitchen", desc := "()V" } : Jvm.MethodName) prog_11_method_18_code (2 : Nat) (Option.none : Option Jvm.ClassFile.FieldType)) ∈ lw_all := lw_g (lw_at lw_m3 162 rfl) rfl
theorem q734 : (Jvm.Cond.classLink "NoonMeals$Reader" (198 : Nat) "NoonMeals$Kitchen") ∈ lw_all := lw_g (lw_at lw_m3 163 rfl) rfl
theorem q736 : (Jvm.Cond.methodLink "NoonMeals$Reader" (200 : Nat) ({ cls := "NoonMeals$Reader", name := "newName", desc := "()Ljava/lang/String;" } : Jvm.MethodName)) ∈ lw_all := lw_g (lw_at lw_m3 165 rfl) rfl
theorem q737 : (Jvm.Cond.privateMethod ({ cls := "NoonMeals$Reader", name := "newName", desc := "()Ljava/lang/String;" } : Jvm.MethodName)) ∈ lw_tbl := lw_at lw_m3 166 rfl
theorem q738 : (Jvm.Cond.instanceMethod ({ cls := "NoonMeals$Reader", name := "newName", desc := "()Ljava/lang/String;" } : Jvm.MethodName)) ∈ lw_all := lw_g (lw_at lw_m3 167 rfl) rfl
theorem q739 : (Jvm.Cond.code ({ cls := "NoonMeals$Reader", name := "newName", desc := "()Ljava/lang/String;" } : Jvm.MethodName) prog_11_method_11_code (2 : Nat) (Option.some (Jvm.ClassFile.FieldType.object "java/lang/String"))) ∈ lw_all := lw_g (lw_at lw_m3 168 rfl) rfl
theorem q740 : (Jvm.Cond.methodLink "NoonMeals$Reader" (115 : Nat) ({ cls := "NoonMeals$Reader", name := "mustName", desc := "()V" } : Jvm.MethodName)) ∈ lw_all := lw_g (lw_at lw_m3 169 rfl) rfl
theorem q741 : (Jvm.Cond.privateMethod ({ cls := "NoonMeals$Reader", name := "mustName", desc := "()V" } : Jvm.MethodName)) ∈ lw_tbl := lw_at lw_m3 170 rfl
theorem q742 : (Jvm.Cond.instanceMethod ({ cls := "NoonMeals$Reader", name := "mustName", desc := "()V" } : Jvm.MethodName)) ∈ lw_all := lw_g (lw_at lw_m3 171 rfl) rfl
theorem q743 : (Jvm.Cond.code ({ cls := "NoonMeals$Reader", name := "mustName", desc := "()V" } : Jvm.MethodName) prog_11_method_10_code (3 : Nat) (Option.none : Option Jvm.ClassFile.FieldType)) ∈ lw_all := lw_g (lw_at lw_m3 172 rfl) rfl
theorem q744 : (Jvm.Cond.stringRef "NoonMeals$Reader" (111 : Nat) "dog") ∈ lw_tbl := lw_at lw_m3 173 rfl
theorem q745 : (Jvm.Cond.stringRef "NoonMeals$Reader" (113 : Nat) "afraid") ∈ lw_tbl := lw_at lw_m3 174 rfl
theorem q746 : (Jvm.Cond.methodLink "NoonMeals$Reader" (122 : Nat) ({ cls := "NoonMeals$Day", name := "find", desc := "(Ljava/lang/String;)LNoonMeals$Named;" } : Jvm.MethodName)) ∈ lw_all := lw_g (lw_at lw_m3 175 rfl) rfl
theorem q754 : (Jvm.Cond.methodLink "NoonMeals$Reader" (204 : Nat) ({ cls := "NoonMeals$Kitchen", name := "<init>", desc := "(Ljava/lang/String;I)V" } : Jvm.MethodName)) ∈ lw_all := lw_g (lw_at lw_m3 183 rfl) rfl
theorem q762 : (Jvm.Cond.fieldLink "NoonMeals$Reader" (208 : Nat) "NoonMeals$Kitchen" "at" "I") ∈ lw_all := lw_g (lw_at lw_m3 191 rfl) rfl
theorem q764 : (Jvm.Cond.fieldLink "NoonMeals$Reader" (209 : Nat) "NoonMeals$Kitchen" "hot" "I") ∈ lw_all := lw_g (lw_at lw_m3 193 rfl) rfl
theorem q779 : (Jvm.Cond.stringRef "NoonMeals$Reader" (207 : Nat) "at") ∈ lw_tbl := lw_at lw_m3 208 rfl
theorem q780 : (Jvm.Cond.stringRef "NoonMeals$Reader" (181 : Nat) "adds") ∈ lw_tbl := lw_at lw_m3 209 rfl
theorem q781 : (Jvm.Cond.methodLink "NoonMeals$Reader" (183 : Nat) ({ cls := "NoonMeals$Reader", name := "dish", desc := "()V" } : Jvm.MethodName)) ∈ lw_all := lw_g (lw_at lw_m3 210 rfl) rfl
theorem q782 : (Jvm.Cond.privateMethod ({ cls := "NoonMeals$Reader", name := "dish", desc := "()V" } : Jvm.MethodName)) ∈ lw_tbl := lw_at lw_m3 211 rfl
theorem q783 : (Jvm.Cond.instanceMethod ({ cls := "NoonMeals$Reader", name := "dish", desc := "()V" } : Jvm.MethodName)) ∈ lw_all := lw_g (lw_at lw_m3 212 rfl) rfl
theorem q784 : (Jvm.Cond.code ({ cls := "NoonMeals$Reader", name := "dish", desc := "()V" } : Jvm.MethodName) prog_11_method_19_code (2 : Nat) (Option.none : Option Jvm.ClassFile.FieldType)) ∈ lw_all := lw_g (lw_at lw_m3 213 rfl) rfl
theorem q785 : (Jvm.Cond.classLink "NoonMeals$Reader" (217 : Nat) "NoonMeals$Dish") ∈ lw_all := lw_g (lw_at lw_m3 214 rfl) rfl
theorem q787 : (Jvm.Cond.methodLink "NoonMeals$Reader" (219 : Nat) ({ cls := "NoonMeals$Dish", name := "<init>", desc := "(Ljava/lang/String;I)V" } : Jvm.MethodName)) ∈ lw_all := lw_g (lw_at lw_m3 216 rfl) rfl
theorem q791 : (Jvm.Cond.fieldLink "NoonMeals$Reader" (225 : Nat) "NoonMeals$Dish" "letters" "I") ∈ lw_all := lw_g (lw_at lw_m3 220 rfl) rfl
theorem q793 : (Jvm.Cond.fieldLink "NoonMeals$Reader" (229 : Nat) "NoonMeals$Dish" "costs" "I") ∈ lw_all := lw_g (lw_at lw_m3 222 rfl) rfl
theorem q802 : (Jvm.Cond.stringRef "NoonMeals$Reader" (220 : Nat) "of") ∈ lw_tbl := lw_at lw_m3 231 rfl
theorem q803 : (Jvm.Cond.methodLink "NoonMeals$Reader" (222 : Nat) ({ cls := "NoonMeals$Reader", name := "letters", desc := "(Ljava/lang/String;)I" } : Jvm.MethodName)) ∈ lw_all := lw_g (lw_at lw_m3 232 rfl) rfl
theorem q804 : (Jvm.Cond.privateMethod ({ cls := "NoonMeals$Reader", name := "letters", desc := "(Ljava/lang/String;)I" } : Jvm.MethodName)) ∈ lw_tbl := lw_at lw_m3 233 rfl
theorem q805 : (Jvm.Cond.instanceMethod ({ cls := "NoonMeals$Reader", name := "letters", desc := "(Ljava/lang/String;)I" } : Jvm.MethodName)) ∈ lw_all := lw_g (lw_at lw_m3 234 rfl) rfl
theorem q806 : (Jvm.Cond.code ({ cls := "NoonMeals$Reader", name := "letters", desc := "(Ljava/lang/String;)I" } : Jvm.MethodName) prog_11_method_14_code (4 : Nat) (Option.some Jvm.ClassFile.FieldType.int)) ∈ lw_all := lw_g (lw_at lw_m3 235 rfl) rfl
theorem q807 : (Jvm.Cond.methodLink "NoonMeals$Reader" (136 : Nat) ({ cls := "java/lang/String", name := "length", desc := "()I" } : Jvm.MethodName)) ∈ lw_all := lw_g (lw_at lw_m3 236 rfl) rfl
theorem q815 : (Jvm.Cond.methodLink "NoonMeals$Reader" (139 : Nat) ({ cls := "java/lang/String", name := "charAt", desc := "(I)C" } : Jvm.MethodName)) ∈ lw_all := lw_g (lw_at lw_m4 4 rfl) rfl
theorem q835 : (Jvm.Cond.stringRef "NoonMeals$Reader" (227 : Nat) "costs") ∈ lw_tbl := lw_at lw_m4 24 rfl
theorem q836 : (Jvm.Cond.methodLink "NoonMeals$Reader" (185 : Nat) ({ cls := "NoonMeals$Reader", name := "diet", desc := "()V" } : Jvm.MethodName)) ∈ lw_all := lw_g (lw_at lw_m4 25 rfl) rfl
theorem q837 : (Jvm.Cond.privateMethod ({ cls := "NoonMeals$Reader", name := "diet", desc := "()V" } : Jvm.MethodName)) ∈ lw_tbl := lw_at lw_m4 26 rfl
theorem q838 : (Jvm.Cond.instanceMethod ({ cls := "NoonMeals$Reader", name := "diet", desc := "()V" } : Jvm.MethodName)) ∈ lw_all := lw_g (lw_at lw_m4 27 rfl) rfl
theorem q839 : (Jvm.Cond.code ({ cls := "NoonMeals$Reader", name := "diet", desc := "()V" } : Jvm.MethodName) prog_11_method_20_code (2 : Nat) (Option.none : Option Jvm.ClassFile.FieldType)) ∈ lw_all := lw_g (lw_at lw_m4 28 rfl) rfl
theorem q840 : (Jvm.Cond.classLink "NoonMeals$Reader" (238 : Nat) "NoonMeals$Diet") ∈ lw_all := lw_g (lw_at lw_m4 29 rfl) rfl
theorem q842 : (Jvm.Cond.methodLink "NoonMeals$Reader" (240 : Nat) ({ cls := "NoonMeals$Diet", name := "<init>", desc := "(Ljava/lang/String;I)V" } : Jvm.MethodName)) ∈ lw_all := lw_g (lw_at lw_m4 31 rfl) rfl
theorem q846 : (Jvm.Cond.fieldLink "NoonMeals$Reader" (243 : Nat) "NoonMeals$Diet" "bars" "I") ∈ lw_all := lw_g (lw_at lw_m4 35 rfl) rfl
theorem q853 : (Jvm.Cond.stringRef "NoonMeals$Reader" (241 : Nat) "bars") ∈ lw_tbl := lw_at lw_m4 42 rfl
theorem q854 : (Jvm.Cond.methodLink "NoonMeals$Reader" (187 : Nat) ({ cls := "NoonMeals$Reader", name := "house", desc := "()V" } : Jvm.MethodName)) ∈ lw_all := lw_g (lw_at lw_m4 43 rfl) rfl
theorem q855 : (Jvm.Cond.privateMethod ({ cls := "NoonMeals$Reader", name := "house", desc := "()V" } : Jvm.MethodName)) ∈ lw_tbl := lw_at lw_m4 44 rfl
theorem q856 : (Jvm.Cond.instanceMethod ({ cls := "NoonMeals$Reader", name := "house", desc := "()V" } : Jvm.MethodName)) ∈ lw_all := lw_g (lw_at lw_m4 45 rfl) rfl
theorem q857 : (Jvm.Cond.code ({ cls := "NoonMeals$Reader", name := "house", desc := "()V" } : Jvm.MethodName) prog_11_method_21_code (3 : Nat) (Option.none : Option Jvm.ClassFile.FieldType)) ∈ lw_all := lw_g (lw_at lw_m4 46 rfl) rfl
theorem q858 : (Jvm.Cond.classLink "NoonMeals$Reader" (249 : Nat) "NoonMeals$House") ∈ lw_all := lw_g (lw_at lw_m4 47 rfl) rfl
theorem q860 : (Jvm.Cond.methodLink "NoonMeals$Reader" (251 : Nat) ({ cls := "NoonMeals$House", name := "<init>", desc := "(Ljava/lang/String;I)V" } : Jvm.MethodName)) ∈ lw_all := lw_g (lw_at lw_m4 49 rfl) rfl
theorem q865 : (Jvm.Cond.fieldLink "NoonMeals$Reader" (252 : Nat) "NoonMeals$House" "at" "I") ∈ lw_all := lw_g (lw_at lw_m4 54 rfl) rfl
theorem q867 : (Jvm.Cond.fieldLink "NoonMeals$Reader" (260 : Nat) "NoonMeals$House" "doors" "I") ∈ lw_all := lw_g (lw_at lw_m4 56 rfl) rfl
theorem q869 : (Jvm.Cond.fieldLink "NoonMeals$Reader" (264 : Nat) "NoonMeals$House" "tea" "I") ∈ lw_all := lw_g (lw_at lw_m4 58 rfl) rfl
theorem q870 : (Jvm.Cond.fieldLink "NoonMeals$Reader" (268 : Nat) "NoonMeals$House" "chance" "I") ∈ lw_all := lw_g (lw_at lw_m4 59 rfl) rfl
theorem q872 : (Jvm.Cond.fieldLink "NoonMeals$Reader" (272 : Nat) "NoonMeals$House" "need" "I") ∈ lw_all := lw_g (lw_at lw_m4 61 rfl) rfl
theorem q874 : (Jvm.Cond.fieldLink "NoonMeals$Reader" (255 : Nat) "NoonMeals$House" "diet" "LNoonMeals$Diet;") ∈ lw_all := lw_g (lw_at lw_m4 63 rfl) rfl
theorem q877 : (Jvm.Cond.fieldLink "NoonMeals$Reader" (274 : Nat) "NoonMeals$House" "hasDog" "Z") ∈ lw_all := lw_g (lw_at lw_m4 66 rfl) rfl
theorem q895 : (Jvm.Cond.stringRef "NoonMeals$Reader" (253 : Nat) "eats") ∈ lw_tbl := lw_at lw_m4 84 rfl
theorem q896 : (Jvm.Cond.stringRef "NoonMeals$Reader" (258 : Nat) "doors") ∈ lw_tbl := lw_at lw_m4 85 rfl
theorem q897 : (Jvm.Cond.stringRef "NoonMeals$Reader" (262 : Nat) "tea") ∈ lw_tbl := lw_at lw_m4 86 rfl
theorem q898 : (Jvm.Cond.stringRef "NoonMeals$Reader" (266 : Nat) "chance") ∈ lw_tbl := lw_at lw_m4 87 rfl
theorem q899 : (Jvm.Cond.stringRef "NoonMeals$Reader" (270 : Nat) "need") ∈ lw_tbl := lw_at lw_m4 88 rfl
theorem q900 : (Jvm.Cond.methodLink "NoonMeals$Reader" (189 : Nat) ({ cls := "NoonMeals$Reader", name := "car", desc := "()V" } : Jvm.MethodName)) ∈ lw_all := lw_g (lw_at lw_m4 89 rfl) rfl
theorem q901 : (Jvm.Cond.privateMethod ({ cls := "NoonMeals$Reader", name := "car", desc := "()V" } : Jvm.MethodName)) ∈ lw_tbl := lw_at lw_m4 90 rfl
theorem q902 : (Jvm.Cond.instanceMethod ({ cls := "NoonMeals$Reader", name := "car", desc := "()V" } : Jvm.MethodName)) ∈ lw_all := lw_g (lw_at lw_m4 91 rfl) rfl
theorem q903 : (Jvm.Cond.code ({ cls := "NoonMeals$Reader", name := "car", desc := "()V" } : Jvm.MethodName) prog_11_method_22_code (3 : Nat) (Option.none : Option Jvm.ClassFile.FieldType)) ∈ lw_all := lw_g (lw_at lw_m4 92 rfl) rfl
theorem q904 : (Jvm.Cond.classLink "NoonMeals$Reader" (282 : Nat) "NoonMeals$Car") ∈ lw_all := lw_g (lw_at lw_m4 93 rfl) rfl
theorem q906 : (Jvm.Cond.methodLink "NoonMeals$Reader" (284 : Nat) ({ cls := "NoonMeals$Car", name := "<init>", desc := "(Ljava/lang/String;I)V" } : Jvm.MethodName)) ∈ lw_all := lw_g (lw_at lw_m4 95 rfl) rfl
theorem q912 : (Jvm.Cond.fieldLink "NoonMeals$Reader" (287 : Nat) "NoonMeals$Car" "kitchen" "LNoonMeals$Kitchen;") ∈ lw_all := lw_g (lw_at lw_m4 101 rfl) rfl
theorem q916 : (Jvm.Cond.fieldLink "NoonMeals$Reader" (292 : Nat) "NoonMeals$Car" "starts" "I") ∈ lw_all := lw_g (lw_at lw_m4 105 rfl) rfl
theorem q919 : (Jvm.Cond.fieldLink "NoonMeals$Reader" (296 : Nat) "NoonMeals$Car" "holds" "I") ∈ lw_all := lw_g (lw_at lw_m4 108 rfl) rfl
theorem q921 : (Jvm.Cond.fieldLink "NoonMeals$Reader" (300 : Nat) "NoonMeals$Car" "cools" "I") ∈ lw_all := lw_g (lw_at lw_m4 110 rfl) rfl
theorem q923 : (Jvm.Cond.fieldLink "NoonMeals$Reader" (302 : Nat) "NoonMeals$Car" "isAfraid" "Z") ∈ lw_all := lw_g (lw_at lw_m4 112 rfl) rfl
theorem q937 : (Jvm.Cond.stringRef "NoonMeals$Reader" (285 : Nat) "from") ∈ lw_tbl := lw_at lw_m4 126 rfl
theorem q938 : (Jvm.Cond.stringRef "NoonMeals$Reader" (290 : Nat) "starts") ∈ lw_tbl := lw_at lw_m4 127 rfl
theorem q939 : (Jvm.Cond.stringRef "NoonMeals$Reader" (294 : Nat) "holds") ∈ lw_tbl := lw_at lw_m4 128 rfl
theorem q940 : (Jvm.Cond.stringRef "NoonMeals$Reader" (298 : Nat) "cools") ∈ lw_tbl := lw_at lw_m4 129 rfl
theorem q941 : (Jvm.Cond.methodLink "NoonMeals$Reader" (191 : Nat) ({ cls := "NoonMeals$Reader", name := "call", desc := "()V" } : Jvm.MethodName)) ∈ lw_all := lw_g (lw_at lw_m4 130 rfl) rfl
theorem q942 : (Jvm.Cond.privateMethod ({ cls := "NoonMeals$Reader", name := "call", desc := "()V" } : Jvm.MethodName)) ∈ lw_tbl := lw_at lw_m4 131 rfl
theorem q943 : (Jvm.Cond.instanceMethod ({ cls := "NoonMeals$Reader", name := "call", desc := "()V" } : Jvm.MethodName)) ∈ lw_all := lw_g (lw_at lw_m4 132 rfl) rfl
theorem q944 : (Jvm.Cond.code ({ cls := "NoonMeals$Reader", name := "call", desc := "()V" } : Jvm.MethodName) prog_11_method_23_code (2 : Nat) (Option.none : Option Jvm.ClassFile.FieldType)) ∈ lw_all := lw_g (lw_at lw_m4 133 rfl) rfl
theorem q945 : (Jvm.Cond.classLink "NoonMeals$Reader" (312 : Nat) "NoonMeals$Call") ∈ lw_all := lw_g (lw_at lw_m4 134 rfl) rfl
theorem q947 : (Jvm.Cond.methodLink "NoonMeals$Reader" (314 : Nat) ({ cls := "NoonMeals$Call", name := "<init>", desc := "(Ljava/lang/String;I)V" } : Jvm.MethodName)) ∈ lw_all := lw_g (lw_at lw_m4 136 rfl) rfl
theorem q951 : (Jvm.Cond.fieldLink "NoonMeals$Reader" (316 : Nat) "NoonMeals$Call" "takes" "I") ∈ lw_all := lw_g (lw_at lw_m4 140 rfl) rfl
theorem q953 : (Jvm.Cond.fieldLink "NoonMeals$Reader" (318 : Nat) "NoonMeals$Call" "chance" "I") ∈ lw_all := lw_g (lw_at lw_m4 142 rfl) rfl
theorem q962 : (Jvm.Cond.stringRef "NoonMeals$Reader" (315 : Nat) "takes") ∈ lw_tbl := lw_at lw_m4 151 rfl
theorem q963 : (Jvm.Cond.methodLink "NoonMeals$Reader" (193 : Nat) ({ cls := "NoonMeals$Reader", name := "helper", desc := "()V" } : Jvm.MethodName)) ∈ lw_all := lw_g (lw_at lw_m4 152 rfl) rfl
theorem q964 : (Jvm.Cond.privateMethod ({ cls := "NoonMeals$Reader", name := "helper", desc := "()V" } : Jvm.MethodName)) ∈ lw_tbl := lw_at lw_m4 153 rfl
theorem q965 : (Jvm.Cond.instanceMethod ({ cls := "NoonMeals$Reader", name := "helper", desc := "()V" } : Jvm.MethodName)) ∈ lw_all := lw_g (lw_at lw_m4 154 rfl) rfl
theorem q966 : (Jvm.Cond.code ({ cls := "NoonMeals$Reader", name := "helper", desc := "()V" } : Jvm.MethodName) prog_11_method_24_code (3 : Nat) (Option.none : Option Jvm.ClassFile.FieldType)) ∈ lw_all := lw_g (lw_at lw_m4 155 rfl) rfl
theorem q967 : (Jvm.Cond.classLink "NoonMeals$Reader" (326 : Nat) "NoonMeals$Helper") ∈ lw_all := lw_g (lw_at lw_m4 156 rfl) rfl
theorem q969 : (Jvm.Cond.methodLink "NoonMeals$Reader" (328 : Nat) ({ cls := "NoonMeals$Helper", name := "<init>", desc := "(Ljava/lang/String;I)V" } : Jvm.MethodName)) ∈ lw_all := lw_g (lw_at lw_m4 158 rfl) rfl
theorem q973 : (Jvm.Cond.fieldLink "NoonMeals$Reader" (331 : Nat) "NoonMeals$Helper" "days" "I") ∈ lw_all := lw_g (lw_at lw_m4 162 rfl) rfl
theorem q975 : (Jvm.Cond.fieldLink "NoonMeals$Reader" (339 : Nat) "NoonMeals$Helper" "most" "I") ∈ lw_all := lw_g (lw_at lw_m4 164 rfl) rfl
theorem q984 : (Jvm.Cond.stringRef "NoonMeals$Reader" (329 : Nat) "days") ∈ lw_tbl := lw_at lw_m4 173 rfl
theorem q985 : (Jvm.Cond.methodLinkNest "NoonMeals$Reader" (333 : Nat) ({ cls := "NoonMeals", name := "lies", desc := "(II)Z" } : Jvm.MethodName) "NoonMeals") ∈ lw_tbl := lw_at lw_m4 174 rfl
theorem q988 : (Jvm.Cond.stringRef "NoonMeals$Reader" (337 : Nat) "most") ∈ lw_tbl := lw_at lw_m4 177 rfl
theorem q1993 : (Jvm.Cond.castable "NoonMeals$Reader" "java/lang/Object") ∈ lw_tbl := lw_at lw_m8 222 rfl
theorem in_X2 : ∀ w ∈ wsX20, w ∈ lw_all := lw_in wsX20 [216, 218, 220, 222, 224, 226, 228, 230, 232, 234] (by decide +kernel) (by decide +kernel)
/-! NoonMeals$Refused -/
set_option maxRecDepth 100000
def RX3 : String := "NoonMeals$Refused"
def TX3 : u_T := fun k => match k with
  | 0 => ("java/lang/Throwable", "cause", "Ljava/lang/Throwable;", false)
  | 1 => ("java/lang/Throwable", "stackTrace", "[Ljava/lang/StackTraceElement;", false)
  | 2 => ("java/lang/Throwable", "suppressedExceptions", "Ljava/util/List;", false)
  | 3 => ("java/lang/Throwable", "detailMessage", "Ljava/lang/String;", false)
  | 4 => ("java/lang/Throwable", "backtrace", "Ljava/lang/Object;", false)
  | 5 => ("java/lang/Throwable", "depth", "I", false)
  | 6 => ("NoonMeals$Refused", "fault", "I", false)
  | _ => ("NoonMeals$Refused", "place", "I", false)
def tyX3 : Nat → FieldType := fun k => match k with
  | 0 => .object "java/lang/Throwable"
  | 1 => .array (.object "java/lang/StackTraceElement")
  | 2 => .object "java/util/List"
  | 3 => .object "java/lang/String"
  | 4 => .object "java/lang/Object"
  | 5 => .int
  | 6 => .int
  | _ => .int
abbrev wsX30 : List Cond := u_ws RX3 TX3 8
theorem nmX3 : ∀ a, a < 8 → ∀ b, b < 8 → a ≠ b → (TX3 a).2.1 ≠ (TX3 b).2.1 := by decide +kernel
theorem tyX3_ok : ∀ k, k < 8 → parseFieldDescriptor (TX3 k).2.2.1 = some (tyX3 k) := by decide +kernel
abbrev cX3_init : ByteArray := prog_12_method_1_code
def yX3_init : MethodName := ⟨RX3, "<init>", "()V"⟩
def dkwX3_init_0 : List UInt8 := [42, 1, 1, 3, 3, 183, 0, 3, 42, 2, 181, 0, 9, 177]
abbrev dktX3_init_0 : List UInt8 := dkwX3_init_0 ++ []
theorem dksX3_init_0 : cX3_init.data.toList.drop 0 = dktX3_init_0 := by decide +kernel
theorem dX3_init_0 : decode cX3_init 0 = .ok (.aload_n 0, 1) := dk_42 (dk_at dksX3_init_0 0 rfl rfl)
theorem dX3_init_1 : decode cX3_init 1 = .ok (.aconst_null, 1) := dk_1 (dk_at dksX3_init_0 1 rfl rfl)
theorem dX3_init_2 : decode cX3_init 2 = .ok (.aconst_null, 1) := dk_1 (dk_at dksX3_init_0 2 rfl rfl)
theorem dX3_init_3 : decode cX3_init 3 = .ok (.iconst 0, 1) := dk_3 (dk_at dksX3_init_0 3 rfl rfl)
theorem dX3_init_4 : decode cX3_init 4 = .ok (.iconst 0, 1) := dk_3 (dk_at dksX3_init_0 4 rfl rfl)
theorem dX3_init_5 : decode cX3_init 5 = .ok (.invokespecial 3, 3) := dk_183 0 3 (dk_at dksX3_init_0 5 rfl rfl)
theorem dX3_init_8 : decode cX3_init 8 = .ok (.aload_n 0, 1) := dk_42 (dk_at dksX3_init_0 8 rfl rfl)
theorem dX3_init_9 : decode cX3_init 9 = .ok (.iconst (-1), 1) := dk_2 (dk_at dksX3_init_0 9 rfl rfl)
theorem dX3_init_10 : decode cX3_init 10 = .ok (.putfield 9, 3) := dk_181 0 9 (dk_at dksX3_init_0 10 rfl rfl)
theorem dX3_init_13 : decode cX3_init 13 = .ok (.return_, 1) := dk_177 (dk_at dksX3_init_0 13 rfl rfl)
abbrev cX3_at : ByteArray := prog_12_method_2_code
def yX3_at : MethodName := ⟨RX3, "at", "(II)LNoonMeals$Refused;"⟩
def dkwX3_at_0 : List UInt8 := [42, 27, 181, 0, 15, 42, 28, 181, 0, 9, 42, 176]
abbrev dktX3_at_0 : List UInt8 := dkwX3_at_0 ++ []
theorem dksX3_at_0 : cX3_at.data.toList.drop 0 = dktX3_at_0 := by decide +kernel
theorem dX3_at_0 : decode cX3_at 0 = .ok (.aload_n 0, 1) := dk_42 (dk_at dksX3_at_0 0 rfl rfl)
theorem dX3_at_1 : decode cX3_at 1 = .ok (.iload_n 1, 1) := dk_27 (dk_at dksX3_at_0 1 rfl rfl)
theorem dX3_at_2 : decode cX3_at 2 = .ok (.putfield 15, 3) := dk_181 0 15 (dk_at dksX3_at_0 2 rfl rfl)
theorem dX3_at_5 : decode cX3_at 5 = .ok (.aload_n 0, 1) := dk_42 (dk_at dksX3_at_0 5 rfl rfl)
theorem dX3_at_6 : decode cX3_at 6 = .ok (.iload_n 2, 1) := dk_28 (dk_at dksX3_at_0 6 rfl rfl)
theorem dX3_at_7 : decode cX3_at 7 = .ok (.putfield 9, 3) := dk_181 0 9 (dk_at dksX3_at_0 7 rfl rfl)
theorem dX3_at_10 : decode cX3_at 10 = .ok (.aload_n 0, 1) := dk_42 (dk_at dksX3_at_0 10 rfl rfl)
theorem dX3_at_11 : decode cX3_at 11 = .ok (.areturn, 1) := dk_176 (dk_at dksX3_at_0 11 rfl rfl)
theorem q97 : (Jvm.Cond.initialized "NoonMeals$Refused") ∈ lw_all := lw_g (lw_at lw_m1 6 rfl) rfl
theorem q133 : (Jvm.Cond.instantiable "NoonMeals$Refused" (8 : Nat)) ∈ lw_all := lw_g (lw_at lw_m1 42 rfl) rfl
theorem q134 : (Jvm.Cond.castable "NoonMeals$Refused" "NoonMeals$Refused") ∈ lw_tbl := lw_at lw_m1 43 rfl
theorem q141 : (Jvm.Cond.selects "NoonMeals$Refused" ({ cls := "java/lang/Throwable", name := "fillInStackTrace", desc := "(I)Ljava/lang/Throwable;" } : Jvm.MethodName) ({ cls := "java/lang/Throwable", name := "fillInStackTrace", desc := "(I)Ljava/lang/Throwable;" } : Jvm.MethodName)) ∈ lw_all := lw_g (lw_at lw_m1 50 rfl) rfl
theorem q142 : (Jvm.Cond.selects "NoonMeals$Refused" ({ cls := "java/lang/Throwable", name := "fillInStackTrace", desc := "()Ljava/lang/Throwable;" } : Jvm.MethodName) ({ cls := "java/lang/Throwable", name := "fillInStackTrace", desc := "()Ljava/lang/Throwable;" } : Jvm.MethodName)) ∈ lw_all := lw_g (lw_at lw_m1 51 rfl) rfl
theorem q143 : (Jvm.Cond.lays "NoonMeals$Refused" "java/lang/Throwable" "cause" "Ljava/lang/Throwable;") ∈ lw_all := lw_g (lw_at lw_m1 52 rfl) rfl
theorem q145 : (Jvm.Cond.lays "NoonMeals$Refused" "java/lang/Throwable" "stackTrace" "[Ljava/lang/StackTraceElement;") ∈ lw_all := lw_g (lw_at lw_m1 54 rfl) rfl
theorem q147 : (Jvm.Cond.lays "NoonMeals$Refused" "java/lang/Throwable" "suppressedExceptions" "Ljava/util/List;") ∈ lw_all := lw_g (lw_at lw_m1 56 rfl) rfl
theorem q149 : (Jvm.Cond.lays "NoonMeals$Refused" "java/lang/Throwable" "detailMessage" "Ljava/lang/String;") ∈ lw_all := lw_g (lw_at lw_m1 58 rfl) rfl
theorem q151 : (Jvm.Cond.lays "NoonMeals$Refused" "java/lang/Throwable" "backtrace" "Ljava/lang/Object;") ∈ lw_all := lw_g (lw_at lw_m1 60 rfl) rfl
theorem q173 : (Jvm.Cond.instanceMethod ({ cls := "NoonMeals$Refused", name := "<init>", desc := "()V" } : Jvm.MethodName)) ∈ lw_all := lw_g (lw_at lw_m1 82 rfl) rfl
theorem q174 : (Jvm.Cond.code ({ cls := "NoonMeals$Refused", name := "<init>", desc := "()V" } : Jvm.MethodName) prog_12_method_1_code (1 : Nat) (Option.none : Option Jvm.ClassFile.FieldType)) ∈ lw_all := lw_g (lw_at lw_m1 83 rfl) rfl
theorem q175 : (Jvm.Cond.methodLink "NoonMeals$Refused" (3 : Nat) ({ cls := "java/lang/RuntimeException", name := "<init>", desc := "(Ljava/lang/String;Ljava/lang/Throwable;ZZ)V" } : Jvm.MethodName)) ∈ lw_all := lw_g (lw_at lw_m1 84 rfl) rfl
theorem q184 : (Jvm.Cond.fieldLink "NoonMeals$Refused" (15 : Nat) "NoonMeals$Refused" "fault" "I") ∈ lw_all := lw_g (lw_at lw_m1 93 rfl) rfl
theorem q186 : (Jvm.Cond.fieldLink "NoonMeals$Refused" (9 : Nat) "NoonMeals$Refused" "place" "I") ∈ lw_all := lw_g (lw_at lw_m1 95 rfl) rfl
theorem q193 : (Jvm.Cond.lays "NoonMeals$Refused" "NoonMeals$Refused" "fault" "I") ∈ lw_all := lw_g (lw_at lw_m1 102 rfl) rfl
theorem q194 : (Jvm.Cond.soleField "NoonMeals$Refused" "fault") ∈ lw_all := lw_g (lw_at lw_m1 103 rfl) rfl
theorem q195 : (Jvm.Cond.lays "NoonMeals$Refused" "NoonMeals$Refused" "place" "I") ∈ lw_all := lw_g (lw_at lw_m1 104 rfl) rfl
theorem q196 : (Jvm.Cond.soleField "NoonMeals$Refused" "place") ∈ lw_all := lw_g (lw_at lw_m1 105 rfl) rfl
theorem q201 : (Jvm.Cond.lays "NoonMeals$Refused" "java/lang/Throwable" "depth" "I") ∈ lw_all := lw_g (lw_at lw_m1 110 rfl) rfl
theorem q204 : (Jvm.Cond.superclass "NoonMeals$Refused" "java/lang/RuntimeException") ∈ lw_all := lw_g (lw_at lw_m1 113 rfl) rfl
theorem q631 : (Jvm.Cond.instanceMethod ({ cls := "NoonMeals$Refused", name := "at", desc := "(II)LNoonMeals$Refused;" } : Jvm.MethodName)) ∈ lw_all := lw_g (lw_at lw_m3 60 rfl) rfl
theorem q632 : (Jvm.Cond.selects "NoonMeals$Refused" ({ cls := "NoonMeals$Refused", name := "at", desc := "(II)LNoonMeals$Refused;" } : Jvm.MethodName) ({ cls := "NoonMeals$Refused", name := "at", desc := "(II)LNoonMeals$Refused;" } : Jvm.MethodName)) ∈ lw_all := lw_g (lw_at lw_m3 61 rfl) rfl
theorem q633 : (Jvm.Cond.code ({ cls := "NoonMeals$Refused", name := "at", desc := "(II)LNoonMeals$Refused;" } : Jvm.MethodName) prog_12_method_2_code (3 : Nat) (Option.some (Jvm.ClassFile.FieldType.object "NoonMeals$Refused"))) ∈ lw_all := lw_g (lw_at lw_m3 62 rfl) rfl
theorem q1994 : (Jvm.Cond.castable "NoonMeals$Refused" "java/lang/Object") ∈ lw_tbl := lw_at lw_m8 223 rfl
theorem in_X3 : ∀ w ∈ wsX30, w ∈ lw_all := lw_in wsX30 [143, 145, 147, 149, 151, 201, 193, 195] (by decide +kernel) (by decide +kernel)
/-! NoonMeals$Round -/
set_option maxRecDepth 100000
def RX4 : String := "NoonMeals$Round"
def TX4 : u_T := fun k => match k with
  | 0 => ("NoonMeals$Round", "houses", "[I", true)
  | 1 => ("NoonMeals$Round", "comes", "[I", true)
  | 2 => ("NoonMeals$Round", "many", "I", false)
  | _ => ("NoonMeals$Round", "bad", "I", false)
def tyX4 : Nat → FieldType := fun k => match k with
  | 0 => .array .int
  | 1 => .array .int
  | 2 => .int
  | _ => .int
abbrev wsX40 : List Cond := u_ws RX4 TX4 4
theorem nmX4 : ∀ a, a < 4 → ∀ b, b < 4 → a ≠ b → (TX4 a).2.1 ≠ (TX4 b).2.1 := by decide +kernel
theorem tyX4_ok : ∀ k, k < 4 → parseFieldDescriptor (TX4 k).2.2.1 = some (tyX4 k) := by decide +kernel
abbrev cX4_init : ByteArray := prog_13_method_1_code
def yX4_init : MethodName := ⟨RX4, "<init>", "()V"⟩
def dkwX4_init_0 : List UInt8 := [42, 183, 0, 3, 42, 16, 6, 188, 10, 181, 0, 9, 42, 16, 6, 188, 10, 181, 0, 15, 177]
abbrev dktX4_init_0 : List UInt8 := dkwX4_init_0 ++ []
theorem dksX4_init_0 : cX4_init.data.toList.drop 0 = dktX4_init_0 := by decide +kernel
theorem dX4_init_0 : decode cX4_init 0 = .ok (.aload_n 0, 1) := dk_42 (dk_at dksX4_init_0 0 rfl rfl)
theorem dX4_init_1 : decode cX4_init 1 = .ok (.invokespecial 3, 3) := dk_183 0 3 (dk_at dksX4_init_0 1 rfl rfl)
theorem dX4_init_4 : decode cX4_init 4 = .ok (.aload_n 0, 1) := dk_42 (dk_at dksX4_init_0 4 rfl rfl)
theorem dX4_init_5 : decode cX4_init 5 = .ok (.bipush 6, 2) := dk_16 6 (dk_at dksX4_init_0 5 rfl rfl)
theorem dX4_init_7 : decode cX4_init 7 = .ok (.newarray .int, 2) := dk_188_10 (dk_at dksX4_init_0 7 rfl rfl)
theorem dX4_init_9 : decode cX4_init 9 = .ok (.putfield 9, 3) := dk_181 0 9 (dk_at dksX4_init_0 9 rfl rfl)
theorem dX4_init_12 : decode cX4_init 12 = .ok (.aload_n 0, 1) := dk_42 (dk_at dksX4_init_0 12 rfl rfl)
theorem dX4_init_13 : decode cX4_init 13 = .ok (.bipush 6, 2) := dk_16 6 (dk_at dksX4_init_0 13 rfl rfl)
theorem dX4_init_15 : decode cX4_init 15 = .ok (.newarray .int, 2) := dk_188_10 (dk_at dksX4_init_0 15 rfl rfl)
theorem dX4_init_17 : decode cX4_init 17 = .ok (.putfield 15, 3) := dk_181 0 15 (dk_at dksX4_init_0 17 rfl rfl)
theorem dX4_init_20 : decode cX4_init 20 = .ok (.return_, 1) := dk_177 (dk_at dksX4_init_0 20 rfl rfl)
abbrev cX4_placeOf : ByteArray := prog_13_method_5_code
def yX4_placeOf : MethodName := ⟨RX4, "placeOf", "(I)I"⟩
def dkwX4_placeOf_1 : List UInt8 := [167, 255, 235, 28, 42, 180, 0, 36, 162, 0, 7, 28, 167, 0, 4, 2, 172]
abbrev dktX4_placeOf_1 : List UInt8 := dkwX4_placeOf_1 ++ []
def dkwX4_placeOf_0 : List UInt8 := [3, 61, 28, 42, 180, 0, 36, 162, 0, 19, 42, 180, 0, 9, 28, 46, 27, 159, 0, 9, 132, 2, 1]
abbrev dktX4_placeOf_0 : List UInt8 := dkwX4_placeOf_0 ++ dktX4_placeOf_1
theorem dksX4_placeOf_0 : cX4_placeOf.data.toList.drop 0 = dktX4_placeOf_0 := by decide +kernel
theorem dksX4_placeOf_1 : cX4_placeOf.data.toList.drop 23 = dktX4_placeOf_1 := dk_seg dksX4_placeOf_0 23 rfl rfl
theorem dX4_placeOf_0 : decode cX4_placeOf 0 = .ok (.iconst 0, 1) := dk_3 (dk_at dksX4_placeOf_0 0 rfl rfl)
theorem dX4_placeOf_1 : decode cX4_placeOf 1 = .ok (.istore_n 2, 1) := dk_61 (dk_at dksX4_placeOf_0 1 rfl rfl)
theorem dX4_placeOf_2 : decode cX4_placeOf 2 = .ok (.iload_n 2, 1) := dk_28 (dk_at dksX4_placeOf_0 2 rfl rfl)
theorem dX4_placeOf_3 : decode cX4_placeOf 3 = .ok (.aload_n 0, 1) := dk_42 (dk_at dksX4_placeOf_0 3 rfl rfl)
theorem dX4_placeOf_4 : decode cX4_placeOf 4 = .ok (.getfield 36, 3) := dk_180 0 36 (dk_at dksX4_placeOf_0 4 rfl rfl)
theorem dX4_placeOf_7 : decode cX4_placeOf 7 = .ok (.if_icmp .ge 19, 3) := dk_162 0 19 (dk_at dksX4_placeOf_0 7 rfl rfl)
theorem dX4_placeOf_10 : decode cX4_placeOf 10 = .ok (.aload_n 0, 1) := dk_42 (dk_at dksX4_placeOf_0 10 rfl rfl)
theorem dX4_placeOf_11 : decode cX4_placeOf 11 = .ok (.getfield 9, 3) := dk_180 0 9 (dk_at dksX4_placeOf_0 11 rfl rfl)
theorem dX4_placeOf_14 : decode cX4_placeOf 14 = .ok (.iload_n 2, 1) := dk_28 (dk_at dksX4_placeOf_0 14 rfl rfl)
theorem dX4_placeOf_15 : decode cX4_placeOf 15 = .ok (.iaload, 1) := dk_46 (dk_at dksX4_placeOf_0 15 rfl rfl)
theorem dX4_placeOf_16 : decode cX4_placeOf 16 = .ok (.iload_n 1, 1) := dk_27 (dk_at dksX4_placeOf_0 16 rfl rfl)
theorem dX4_placeOf_17 : decode cX4_placeOf 17 = .ok (.if_icmp .eq 9, 3) := dk_159 0 9 (dk_at dksX4_placeOf_0 17 rfl rfl)
theorem dX4_placeOf_20 : decode cX4_placeOf 20 = .ok (.iinc 2 1, 3) := dk_132 2 1 (dk_at dksX4_placeOf_0 20 rfl rfl)
theorem dX4_placeOf_23 : decode cX4_placeOf 23 = .ok (.goto (-21), 3) := dk_167 255 235 (dk_at dksX4_placeOf_1 0 rfl rfl)
theorem dX4_placeOf_26 : decode cX4_placeOf 26 = .ok (.iload_n 2, 1) := dk_28 (dk_at dksX4_placeOf_1 3 rfl rfl)
theorem dX4_placeOf_27 : decode cX4_placeOf 27 = .ok (.aload_n 0, 1) := dk_42 (dk_at dksX4_placeOf_1 4 rfl rfl)
theorem dX4_placeOf_28 : decode cX4_placeOf 28 = .ok (.getfield 36, 3) := dk_180 0 36 (dk_at dksX4_placeOf_1 5 rfl rfl)
theorem dX4_placeOf_31 : decode cX4_placeOf 31 = .ok (.if_icmp .ge 7, 3) := dk_162 0 7 (dk_at dksX4_placeOf_1 8 rfl rfl)
theorem dX4_placeOf_34 : decode cX4_placeOf 34 = .ok (.iload_n 2, 1) := dk_28 (dk_at dksX4_placeOf_1 11 rfl rfl)
theorem dX4_placeOf_35 : decode cX4_placeOf 35 = .ok (.goto 4, 3) := dk_167 0 4 (dk_at dksX4_placeOf_1 12 rfl rfl)
theorem dX4_placeOf_38 : decode cX4_placeOf 38 = .ok (.iconst (-1), 1) := dk_2 (dk_at dksX4_placeOf_1 15 rfl rfl)
theorem dX4_placeOf_39 : decode cX4_placeOf 39 = .ok (.ireturn, 1) := dk_172 (dk_at dksX4_placeOf_1 16 rfl rfl)
abbrev cX4_walks : ByteArray := prog_13_method_2_code
def yX4_walks : MethodName := ⟨RX4, "walks", "(LNoonMeals$Day;LNoonMeals$Car;I)LNoonMeals$Round;"⟩
def dkwX4_walks_7 : List UInt8 := [54, 4, 132, 6, 1, 167, 255, 111, 42, 176]
abbrev dktX4_walks_7 : List UInt8 := dkwX4_walks_7 ++ []
def dkwX4_walks_6 : List UInt8 := [180, 0, 9, 21, 6, 46, 184, 0, 65, 153, 0, 11, 25, 7, 180, 0, 69, 167, 0, 4, 3, 96, 96]
abbrev dktX4_walks_6 : List UInt8 := dkwX4_walks_6 ++ dktX4_walks_7
def dkwX4_walks_5 : List UInt8 := [25, 7, 180, 0, 58, 153, 0, 14, 44, 180, 0, 62, 153, 0, 7, 8, 167, 0, 4, 3, 96, 29, 42]
abbrev dktX4_walks_5 : List UInt8 := dkwX4_walks_5 ++ dktX4_walks_6
def dkwX4_walks_4 : List UInt8 := [42, 180, 0, 9, 21, 6, 46, 120, 167, 0, 4, 3, 128, 181, 0, 33, 21, 4, 25, 7, 180, 0, 55]
abbrev dktX4_walks_4 : List UInt8 := dkwX4_walks_4 ++ dktX4_walks_5
def dkwX4_walks_3 : List UInt8 := [180, 0, 15, 21, 6, 21, 4, 79, 42, 89, 180, 0, 33, 43, 44, 21, 4, 182, 0, 51, 153, 0, 15, 4]
abbrev dktX4_walks_3 : List UInt8 := dkwX4_walks_3 ++ dktX4_walks_4
def dkwX4_walks_2 : List UInt8 := [21, 4, 43, 21, 5, 25, 7, 180, 0, 44, 182, 0, 47, 96, 54, 4, 25, 7, 180, 0, 44, 54, 5, 42]
abbrev dktX4_walks_2 : List UInt8 := dkwX4_walks_2 ++ dktX4_walks_3
def dkwX4_walks_1 : List UInt8 := [21, 6, 42, 180, 0, 36, 162, 0, 142, 43, 180, 0, 39, 42, 180, 0, 9, 21, 6, 46, 50, 58, 7]
abbrev dktX4_walks_1 : List UInt8 := dkwX4_walks_1 ++ dktX4_walks_2
def dkwX4_walks_0 : List UInt8 := [44, 180, 0, 18, 54, 4, 44, 180, 0, 24, 180, 0, 28, 54, 5, 42, 3, 181, 0, 33, 3, 54, 6]
abbrev dktX4_walks_0 : List UInt8 := dkwX4_walks_0 ++ dktX4_walks_1
theorem dksX4_walks_0 : cX4_walks.data.toList.drop 0 = dktX4_walks_0 := by decide +kernel
theorem dksX4_walks_1 : cX4_walks.data.toList.drop 23 = dktX4_walks_1 := dk_seg dksX4_walks_0 23 rfl rfl
theorem dksX4_walks_2 : cX4_walks.data.toList.drop 46 = dktX4_walks_2 := dk_seg dksX4_walks_1 23 rfl rfl
theorem dksX4_walks_3 : cX4_walks.data.toList.drop 70 = dktX4_walks_3 := dk_seg dksX4_walks_2 24 rfl rfl
theorem dksX4_walks_4 : cX4_walks.data.toList.drop 94 = dktX4_walks_4 := dk_seg dksX4_walks_3 24 rfl rfl
theorem dksX4_walks_5 : cX4_walks.data.toList.drop 117 = dktX4_walks_5 := dk_seg dksX4_walks_4 23 rfl rfl
theorem dksX4_walks_6 : cX4_walks.data.toList.drop 140 = dktX4_walks_6 := dk_seg dksX4_walks_5 23 rfl rfl
theorem dksX4_walks_7 : cX4_walks.data.toList.drop 163 = dktX4_walks_7 := dk_seg dksX4_walks_6 23 rfl rfl
theorem dX4_walks_0 : decode cX4_walks 0 = .ok (.aload_n 2, 1) := dk_44 (dk_at dksX4_walks_0 0 rfl rfl)
theorem dX4_walks_1 : decode cX4_walks 1 = .ok (.getfield 18, 3) := dk_180 0 18 (dk_at dksX4_walks_0 1 rfl rfl)
theorem dX4_walks_4 : decode cX4_walks 4 = .ok (.istore 4, 2) := dk_54 4 (dk_at dksX4_walks_0 4 rfl rfl)
theorem dX4_walks_6 : decode cX4_walks 6 = .ok (.aload_n 2, 1) := dk_44 (dk_at dksX4_walks_0 6 rfl rfl)
theorem dX4_walks_7 : decode cX4_walks 7 = .ok (.getfield 24, 3) := dk_180 0 24 (dk_at dksX4_walks_0 7 rfl rfl)
theorem dX4_walks_10 : decode cX4_walks 10 = .ok (.getfield 28, 3) := dk_180 0 28 (dk_at dksX4_walks_0 10 rfl rfl)
theorem dX4_walks_13 : decode cX4_walks 13 = .ok (.istore 5, 2) := dk_54 5 (dk_at dksX4_walks_0 13 rfl rfl)
theorem dX4_walks_15 : decode cX4_walks 15 = .ok (.aload_n 0, 1) := dk_42 (dk_at dksX4_walks_0 15 rfl rfl)
theorem dX4_walks_16 : decode cX4_walks 16 = .ok (.iconst 0, 1) := dk_3 (dk_at dksX4_walks_0 16 rfl rfl)
theorem dX4_walks_17 : decode cX4_walks 17 = .ok (.putfield 33, 3) := dk_181 0 33 (dk_at dksX4_walks_0 17 rfl rfl)
theorem dX4_walks_20 : decode cX4_walks 20 = .ok (.iconst 0, 1) := dk_3 (dk_at dksX4_walks_0 20 rfl rfl)
theorem dX4_walks_21 : decode cX4_walks 21 = .ok (.istore 6, 2) := dk_54 6 (dk_at dksX4_walks_0 21 rfl rfl)
theorem dX4_walks_23 : decode cX4_walks 23 = .ok (.iload 6, 2) := dk_21 6 (dk_at dksX4_walks_1 0 rfl rfl)
theorem dX4_walks_25 : decode cX4_walks 25 = .ok (.aload_n 0, 1) := dk_42 (dk_at dksX4_walks_1 2 rfl rfl)
theorem dX4_walks_26 : decode cX4_walks 26 = .ok (.getfield 36, 3) := dk_180 0 36 (dk_at dksX4_walks_1 3 rfl rfl)
theorem dX4_walks_29 : decode cX4_walks 29 = .ok (.if_icmp .ge 142, 3) := dk_162 0 142 (dk_at dksX4_walks_1 6 rfl rfl)
theorem dX4_walks_32 : decode cX4_walks 32 = .ok (.aload_n 1, 1) := dk_43 (dk_at dksX4_walks_1 9 rfl rfl)
theorem dX4_walks_33 : decode cX4_walks 33 = .ok (.getfield 39, 3) := dk_180 0 39 (dk_at dksX4_walks_1 10 rfl rfl)
theorem dX4_walks_36 : decode cX4_walks 36 = .ok (.aload_n 0, 1) := dk_42 (dk_at dksX4_walks_1 13 rfl rfl)
theorem dX4_walks_37 : decode cX4_walks 37 = .ok (.getfield 9, 3) := dk_180 0 9 (dk_at dksX4_walks_1 14 rfl rfl)
theorem dX4_walks_40 : decode cX4_walks 40 = .ok (.iload 6, 2) := dk_21 6 (dk_at dksX4_walks_1 17 rfl rfl)
theorem dX4_walks_42 : decode cX4_walks 42 = .ok (.iaload, 1) := dk_46 (dk_at dksX4_walks_1 19 rfl rfl)
theorem dX4_walks_43 : decode cX4_walks 43 = .ok (.aaload, 1) := dk_50 (dk_at dksX4_walks_1 20 rfl rfl)
theorem dX4_walks_44 : decode cX4_walks 44 = .ok (.astore 7, 2) := dk_58 7 (dk_at dksX4_walks_1 21 rfl rfl)
theorem dX4_walks_46 : decode cX4_walks 46 = .ok (.iload 4, 2) := dk_21 4 (dk_at dksX4_walks_2 0 rfl rfl)
theorem dX4_walks_48 : decode cX4_walks 48 = .ok (.aload_n 1, 1) := dk_43 (dk_at dksX4_walks_2 2 rfl rfl)
theorem dX4_walks_49 : decode cX4_walks 49 = .ok (.iload 5, 2) := dk_21 5 (dk_at dksX4_walks_2 3 rfl rfl)
theorem dX4_walks_51 : decode cX4_walks 51 = .ok (.aload 7, 2) := dk_25 7 (dk_at dksX4_walks_2 5 rfl rfl)
theorem dX4_walks_53 : decode cX4_walks 53 = .ok (.getfield 44, 3) := dk_180 0 44 (dk_at dksX4_walks_2 7 rfl rfl)
theorem dX4_walks_56 : decode cX4_walks 56 = .ok (.invokevirtual 47, 3) := dk_182 0 47 (dk_at dksX4_walks_2 10 rfl rfl)
theorem dX4_walks_59 : decode cX4_walks 59 = .ok (.iadd, 1) := dk_96 (dk_at dksX4_walks_2 13 rfl rfl)
theorem dX4_walks_60 : decode cX4_walks 60 = .ok (.istore 4, 2) := dk_54 4 (dk_at dksX4_walks_2 14 rfl rfl)
theorem dX4_walks_62 : decode cX4_walks 62 = .ok (.aload 7, 2) := dk_25 7 (dk_at dksX4_walks_2 16 rfl rfl)
theorem dX4_walks_64 : decode cX4_walks 64 = .ok (.getfield 44, 3) := dk_180 0 44 (dk_at dksX4_walks_2 18 rfl rfl)
theorem dX4_walks_67 : decode cX4_walks 67 = .ok (.istore 5, 2) := dk_54 5 (dk_at dksX4_walks_2 21 rfl rfl)
theorem dX4_walks_69 : decode cX4_walks 69 = .ok (.aload_n 0, 1) := dk_42 (dk_at dksX4_walks_2 23 rfl rfl)
theorem dX4_walks_70 : decode cX4_walks 70 = .ok (.getfield 15, 3) := dk_180 0 15 (dk_at dksX4_walks_3 0 rfl rfl)
theorem dX4_walks_73 : decode cX4_walks 73 = .ok (.iload 6, 2) := dk_21 6 (dk_at dksX4_walks_3 3 rfl rfl)
theorem dX4_walks_75 : decode cX4_walks 75 = .ok (.iload 4, 2) := dk_21 4 (dk_at dksX4_walks_3 5 rfl rfl)
theorem dX4_walks_77 : decode cX4_walks 77 = .ok (.iastore, 1) := dk_79 (dk_at dksX4_walks_3 7 rfl rfl)
theorem dX4_walks_78 : decode cX4_walks 78 = .ok (.aload_n 0, 1) := dk_42 (dk_at dksX4_walks_3 8 rfl rfl)
theorem dX4_walks_79 : decode cX4_walks 79 = .ok (.dup, 1) := dk_89 (dk_at dksX4_walks_3 9 rfl rfl)
theorem dX4_walks_80 : decode cX4_walks 80 = .ok (.getfield 33, 3) := dk_180 0 33 (dk_at dksX4_walks_3 10 rfl rfl)
theorem dX4_walks_83 : decode cX4_walks 83 = .ok (.aload_n 1, 1) := dk_43 (dk_at dksX4_walks_3 13 rfl rfl)
theorem dX4_walks_84 : decode cX4_walks 84 = .ok (.aload_n 2, 1) := dk_44 (dk_at dksX4_walks_3 14 rfl rfl)
theorem dX4_walks_85 : decode cX4_walks 85 = .ok (.iload 4, 2) := dk_21 4 (dk_at dksX4_walks_3 15 rfl rfl)
theorem dX4_walks_87 : decode cX4_walks 87 = .ok (.invokevirtual 51, 3) := dk_182 0 51 (dk_at dksX4_walks_3 17 rfl rfl)
theorem dX4_walks_90 : decode cX4_walks 90 = .ok (.ifCond .eq 15, 3) := dk_153 0 15 (dk_at dksX4_walks_3 20 rfl rfl)
theorem dX4_walks_93 : decode cX4_walks 93 = .ok (.iconst 1, 1) := dk_4 (dk_at dksX4_walks_3 23 rfl rfl)
theorem dX4_walks_94 : decode cX4_walks 94 = .ok (.aload_n 0, 1) := dk_42 (dk_at dksX4_walks_4 0 rfl rfl)
theorem dX4_walks_95 : decode cX4_walks 95 = .ok (.getfield 9, 3) := dk_180 0 9 (dk_at dksX4_walks_4 1 rfl rfl)
theorem dX4_walks_98 : decode cX4_walks 98 = .ok (.iload 6, 2) := dk_21 6 (dk_at dksX4_walks_4 4 rfl rfl)
theorem dX4_walks_100 : decode cX4_walks 100 = .ok (.iaload, 1) := dk_46 (dk_at dksX4_walks_4 6 rfl rfl)
theorem dX4_walks_101 : decode cX4_walks 101 = .ok (.ishl, 1) := dk_120 (dk_at dksX4_walks_4 7 rfl rfl)
theorem dX4_walks_102 : decode cX4_walks 102 = .ok (.goto 4, 3) := dk_167 0 4 (dk_at dksX4_walks_4 8 rfl rfl)
theorem dX4_walks_105 : decode cX4_walks 105 = .ok (.iconst 0, 1) := dk_3 (dk_at dksX4_walks_4 11 rfl rfl)
theorem dX4_walks_106 : decode cX4_walks 106 = .ok (.ior, 1) := dk_128 (dk_at dksX4_walks_4 12 rfl rfl)
theorem dX4_walks_107 : decode cX4_walks 107 = .ok (.putfield 33, 3) := dk_181 0 33 (dk_at dksX4_walks_4 13 rfl rfl)
theorem dX4_walks_110 : decode cX4_walks 110 = .ok (.iload 4, 2) := dk_21 4 (dk_at dksX4_walks_4 16 rfl rfl)
theorem dX4_walks_112 : decode cX4_walks 112 = .ok (.aload 7, 2) := dk_25 7 (dk_at dksX4_walks_4 18 rfl rfl)
theorem dX4_walks_114 : decode cX4_walks 114 = .ok (.getfield 55, 3) := dk_180 0 55 (dk_at dksX4_walks_4 20 rfl rfl)
theorem dX4_walks_117 : decode cX4_walks 117 = .ok (.aload 7, 2) := dk_25 7 (dk_at dksX4_walks_5 0 rfl rfl)
theorem dX4_walks_119 : decode cX4_walks 119 = .ok (.getfield 58, 3) := dk_180 0 58 (dk_at dksX4_walks_5 2 rfl rfl)
theorem dX4_walks_122 : decode cX4_walks 122 = .ok (.ifCond .eq 14, 3) := dk_153 0 14 (dk_at dksX4_walks_5 5 rfl rfl)
theorem dX4_walks_125 : decode cX4_walks 125 = .ok (.aload_n 2, 1) := dk_44 (dk_at dksX4_walks_5 8 rfl rfl)
theorem dX4_walks_126 : decode cX4_walks 126 = .ok (.getfield 62, 3) := dk_180 0 62 (dk_at dksX4_walks_5 9 rfl rfl)
theorem dX4_walks_129 : decode cX4_walks 129 = .ok (.ifCond .eq 7, 3) := dk_153 0 7 (dk_at dksX4_walks_5 12 rfl rfl)
theorem dX4_walks_132 : decode cX4_walks 132 = .ok (.iconst 5, 1) := dk_8 (dk_at dksX4_walks_5 15 rfl rfl)
theorem dX4_walks_133 : decode cX4_walks 133 = .ok (.goto 4, 3) := dk_167 0 4 (dk_at dksX4_walks_5 16 rfl rfl)
theorem dX4_walks_136 : decode cX4_walks 136 = .ok (.iconst 0, 1) := dk_3 (dk_at dksX4_walks_5 19 rfl rfl)
theorem dX4_walks_137 : decode cX4_walks 137 = .ok (.iadd, 1) := dk_96 (dk_at dksX4_walks_5 20 rfl rfl)
theorem dX4_walks_138 : decode cX4_walks 138 = .ok (.iload_n 3, 1) := dk_29 (dk_at dksX4_walks_5 21 rfl rfl)
theorem dX4_walks_139 : decode cX4_walks 139 = .ok (.aload_n 0, 1) := dk_42 (dk_at dksX4_walks_5 22 rfl rfl)
theorem dX4_walks_140 : decode cX4_walks 140 = .ok (.getfield 9, 3) := dk_180 0 9 (dk_at dksX4_walks_6 0 rfl rfl)
theorem dX4_walks_143 : decode cX4_walks 143 = .ok (.iload 6, 2) := dk_21 6 (dk_at dksX4_walks_6 3 rfl rfl)
theorem dX4_walks_145 : decode cX4_walks 145 = .ok (.iaload, 1) := dk_46 (dk_at dksX4_walks_6 5 rfl rfl)
theorem dX4_walks_146 : decode cX4_walks 146 = .ok (.invokestatic 65, 3) := dk_184 0 65 (dk_at dksX4_walks_6 6 rfl rfl)
theorem dX4_walks_149 : decode cX4_walks 149 = .ok (.ifCond .eq 11, 3) := dk_153 0 11 (dk_at dksX4_walks_6 9 rfl rfl)
theorem dX4_walks_152 : decode cX4_walks 152 = .ok (.aload 7, 2) := dk_25 7 (dk_at dksX4_walks_6 12 rfl rfl)
theorem dX4_walks_154 : decode cX4_walks 154 = .ok (.getfield 69, 3) := dk_180 0 69 (dk_at dksX4_walks_6 14 rfl rfl)
theorem dX4_walks_157 : decode cX4_walks 157 = .ok (.goto 4, 3) := dk_167 0 4 (dk_at dksX4_walks_6 17 rfl rfl)
theorem dX4_walks_160 : decode cX4_walks 160 = .ok (.iconst 0, 1) := dk_3 (dk_at dksX4_walks_6 20 rfl rfl)
theorem dX4_walks_161 : decode cX4_walks 161 = .ok (.iadd, 1) := dk_96 (dk_at dksX4_walks_6 21 rfl rfl)
theorem dX4_walks_162 : decode cX4_walks 162 = .ok (.iadd, 1) := dk_96 (dk_at dksX4_walks_6 22 rfl rfl)
theorem dX4_walks_163 : decode cX4_walks 163 = .ok (.istore 4, 2) := dk_54 4 (dk_at dksX4_walks_7 0 rfl rfl)
theorem dX4_walks_165 : decode cX4_walks 165 = .ok (.iinc 6 1, 3) := dk_132 6 1 (dk_at dksX4_walks_7 2 rfl rfl)
theorem dX4_walks_168 : decode cX4_walks 168 = .ok (.goto (-145), 3) := dk_167 255 111 (dk_at dksX4_walks_7 5 rfl rfl)
theorem dX4_walks_171 : decode cX4_walks 171 = .ok (.aload_n 0, 1) := dk_42 (dk_at dksX4_walks_7 8 rfl rfl)
theorem dX4_walks_172 : decode cX4_walks 172 = .ok (.areturn, 1) := dk_176 (dk_at dksX4_walks_7 9 rfl rfl)
abbrev cX4_worth : ByteArray := prog_13_method_4_code
def yX4_worth : MethodName := ⟨RX4, "worth", "(LNoonMeals$Car;)I"⟩
def dkwX4_worth_0 : List UInt8 := [17, 39, 16, 42, 180, 0, 33, 184, 0, 72, 104, 42, 43, 182, 0, 76, 96, 172]
abbrev dktX4_worth_0 : List UInt8 := dkwX4_worth_0 ++ []
theorem dksX4_worth_0 : cX4_worth.data.toList.drop 0 = dktX4_worth_0 := by decide +kernel
theorem dX4_worth_0 : decode cX4_worth 0 = .ok (.sipush 10000, 3) := dk_17 39 16 (dk_at dksX4_worth_0 0 rfl rfl)
theorem dX4_worth_3 : decode cX4_worth 3 = .ok (.aload_n 0, 1) := dk_42 (dk_at dksX4_worth_0 3 rfl rfl)
theorem dX4_worth_4 : decode cX4_worth 4 = .ok (.getfield 33, 3) := dk_180 0 33 (dk_at dksX4_worth_0 4 rfl rfl)
theorem dX4_worth_7 : decode cX4_worth 7 = .ok (.invokestatic 72, 3) := dk_184 0 72 (dk_at dksX4_worth_0 7 rfl rfl)
theorem dX4_worth_10 : decode cX4_worth 10 = .ok (.imul, 1) := dk_104 (dk_at dksX4_worth_0 10 rfl rfl)
theorem dX4_worth_11 : decode cX4_worth 11 = .ok (.aload_n 0, 1) := dk_42 (dk_at dksX4_worth_0 11 rfl rfl)
theorem dX4_worth_12 : decode cX4_worth 12 = .ok (.aload_n 1, 1) := dk_43 (dk_at dksX4_worth_0 12 rfl rfl)
theorem dX4_worth_13 : decode cX4_worth 13 = .ok (.invokevirtual 76, 3) := dk_182 0 76 (dk_at dksX4_worth_0 13 rfl rfl)
theorem dX4_worth_16 : decode cX4_worth 16 = .ok (.iadd, 1) := dk_96 (dk_at dksX4_worth_0 16 rfl rfl)
theorem dX4_worth_17 : decode cX4_worth 17 = .ok (.ireturn, 1) := dk_172 (dk_at dksX4_worth_0 17 rfl rfl)
abbrev cX4_last : ByteArray := prog_13_method_3_code
def yX4_last : MethodName := ⟨RX4, "last", "(LNoonMeals$Car;)I"⟩
def dkwX4_last_1 : List UInt8 := [46, 172]
abbrev dktX4_last_1 : List UInt8 := dkwX4_last_1 ++ []
def dkwX4_last_0 : List UInt8 := [42, 180, 0, 36, 154, 0, 10, 43, 180, 0, 18, 167, 0, 14, 42, 180, 0, 15, 42, 180, 0, 36, 4, 100]
abbrev dktX4_last_0 : List UInt8 := dkwX4_last_0 ++ dktX4_last_1
theorem dksX4_last_0 : cX4_last.data.toList.drop 0 = dktX4_last_0 := by decide +kernel
theorem dksX4_last_1 : cX4_last.data.toList.drop 24 = dktX4_last_1 := dk_seg dksX4_last_0 24 rfl rfl
theorem dX4_last_0 : decode cX4_last 0 = .ok (.aload_n 0, 1) := dk_42 (dk_at dksX4_last_0 0 rfl rfl)
theorem dX4_last_1 : decode cX4_last 1 = .ok (.getfield 36, 3) := dk_180 0 36 (dk_at dksX4_last_0 1 rfl rfl)
theorem dX4_last_4 : decode cX4_last 4 = .ok (.ifCond .ne 10, 3) := dk_154 0 10 (dk_at dksX4_last_0 4 rfl rfl)
theorem dX4_last_7 : decode cX4_last 7 = .ok (.aload_n 1, 1) := dk_43 (dk_at dksX4_last_0 7 rfl rfl)
theorem dX4_last_8 : decode cX4_last 8 = .ok (.getfield 18, 3) := dk_180 0 18 (dk_at dksX4_last_0 8 rfl rfl)
theorem dX4_last_11 : decode cX4_last 11 = .ok (.goto 14, 3) := dk_167 0 14 (dk_at dksX4_last_0 11 rfl rfl)
theorem dX4_last_14 : decode cX4_last 14 = .ok (.aload_n 0, 1) := dk_42 (dk_at dksX4_last_0 14 rfl rfl)
theorem dX4_last_15 : decode cX4_last 15 = .ok (.getfield 15, 3) := dk_180 0 15 (dk_at dksX4_last_0 15 rfl rfl)
theorem dX4_last_18 : decode cX4_last 18 = .ok (.aload_n 0, 1) := dk_42 (dk_at dksX4_last_0 18 rfl rfl)
theorem dX4_last_19 : decode cX4_last 19 = .ok (.getfield 36, 3) := dk_180 0 36 (dk_at dksX4_last_0 19 rfl rfl)
theorem dX4_last_22 : decode cX4_last 22 = .ok (.iconst 1, 1) := dk_4 (dk_at dksX4_last_0 22 rfl rfl)
theorem dX4_last_23 : decode cX4_last 23 = .ok (.isub, 1) := dk_100 (dk_at dksX4_last_0 23 rfl rfl)
theorem dX4_last_24 : decode cX4_last 24 = .ok (.iaload, 1) := dk_46 (dk_at dksX4_last_1 0 rfl rfl)
theorem dX4_last_25 : decode cX4_last 25 = .ok (.ireturn, 1) := dk_172 (dk_at dksX4_last_1 1 rfl rfl)
abbrev cX4_become : ByteArray := prog_13_method_7_code
def yX4_become : MethodName := ⟨RX4, "become", "(LNoonMeals$Round;)V"⟩
def dkwX4_become_1 : List UInt8 := [184, 0, 80, 177]
abbrev dktX4_become_1 : List UInt8 := dkwX4_become_1 ++ []
def dkwX4_become_0 : List UInt8 := [42, 43, 180, 0, 36, 181, 0, 36, 43, 180, 0, 9, 3, 42, 180, 0, 9, 3, 42, 180, 0, 36]
abbrev dktX4_become_0 : List UInt8 := dkwX4_become_0 ++ dktX4_become_1
theorem dksX4_become_0 : cX4_become.data.toList.drop 0 = dktX4_become_0 := by decide +kernel
theorem dksX4_become_1 : cX4_become.data.toList.drop 22 = dktX4_become_1 := dk_seg dksX4_become_0 22 rfl rfl
theorem dX4_become_0 : decode cX4_become 0 = .ok (.aload_n 0, 1) := dk_42 (dk_at dksX4_become_0 0 rfl rfl)
theorem dX4_become_1 : decode cX4_become 1 = .ok (.aload_n 1, 1) := dk_43 (dk_at dksX4_become_0 1 rfl rfl)
theorem dX4_become_2 : decode cX4_become 2 = .ok (.getfield 36, 3) := dk_180 0 36 (dk_at dksX4_become_0 2 rfl rfl)
theorem dX4_become_5 : decode cX4_become 5 = .ok (.putfield 36, 3) := dk_181 0 36 (dk_at dksX4_become_0 5 rfl rfl)
theorem dX4_become_8 : decode cX4_become 8 = .ok (.aload_n 1, 1) := dk_43 (dk_at dksX4_become_0 8 rfl rfl)
theorem dX4_become_9 : decode cX4_become 9 = .ok (.getfield 9, 3) := dk_180 0 9 (dk_at dksX4_become_0 9 rfl rfl)
theorem dX4_become_12 : decode cX4_become 12 = .ok (.iconst 0, 1) := dk_3 (dk_at dksX4_become_0 12 rfl rfl)
theorem dX4_become_13 : decode cX4_become 13 = .ok (.aload_n 0, 1) := dk_42 (dk_at dksX4_become_0 13 rfl rfl)
theorem dX4_become_14 : decode cX4_become 14 = .ok (.getfield 9, 3) := dk_180 0 9 (dk_at dksX4_become_0 14 rfl rfl)
theorem dX4_become_17 : decode cX4_become 17 = .ok (.iconst 0, 1) := dk_3 (dk_at dksX4_become_0 17 rfl rfl)
theorem dX4_become_18 : decode cX4_become 18 = .ok (.aload_n 0, 1) := dk_42 (dk_at dksX4_become_0 18 rfl rfl)
theorem dX4_become_19 : decode cX4_become 19 = .ok (.getfield 36, 3) := dk_180 0 36 (dk_at dksX4_become_0 19 rfl rfl)
theorem dX4_become_22 : decode cX4_become 22 = .ok (.invokestatic 80, 3) := dk_184 0 80 (dk_at dksX4_become_1 0 rfl rfl)
theorem dX4_become_25 : decode cX4_become 25 = .ok (.return_, 1) := dk_177 (dk_at dksX4_become_1 3 rfl rfl)
abbrev cX4_set : ByteArray := prog_13_method_6_code
def yX4_set : MethodName := ⟨RX4, "set", "()I"⟩
def dkwX4_set_1 : List UInt8 := [132, 2, 1, 167, 255, 234, 27, 172]
abbrev dktX4_set_1 : List UInt8 := dkwX4_set_1 ++ []
def dkwX4_set_0 : List UInt8 := [3, 60, 3, 61, 28, 42, 180, 0, 36, 162, 0, 20, 27, 4, 42, 180, 0, 9, 28, 46, 120, 128, 60]
abbrev dktX4_set_0 : List UInt8 := dkwX4_set_0 ++ dktX4_set_1
theorem dksX4_set_0 : cX4_set.data.toList.drop 0 = dktX4_set_0 := by decide +kernel
theorem dksX4_set_1 : cX4_set.data.toList.drop 23 = dktX4_set_1 := dk_seg dksX4_set_0 23 rfl rfl
theorem dX4_set_0 : decode cX4_set 0 = .ok (.iconst 0, 1) := dk_3 (dk_at dksX4_set_0 0 rfl rfl)
theorem dX4_set_1 : decode cX4_set 1 = .ok (.istore_n 1, 1) := dk_60 (dk_at dksX4_set_0 1 rfl rfl)
theorem dX4_set_2 : decode cX4_set 2 = .ok (.iconst 0, 1) := dk_3 (dk_at dksX4_set_0 2 rfl rfl)
theorem dX4_set_3 : decode cX4_set 3 = .ok (.istore_n 2, 1) := dk_61 (dk_at dksX4_set_0 3 rfl rfl)
theorem dX4_set_4 : decode cX4_set 4 = .ok (.iload_n 2, 1) := dk_28 (dk_at dksX4_set_0 4 rfl rfl)
theorem dX4_set_5 : decode cX4_set 5 = .ok (.aload_n 0, 1) := dk_42 (dk_at dksX4_set_0 5 rfl rfl)
theorem dX4_set_6 : decode cX4_set 6 = .ok (.getfield 36, 3) := dk_180 0 36 (dk_at dksX4_set_0 6 rfl rfl)
theorem dX4_set_9 : decode cX4_set 9 = .ok (.if_icmp .ge 20, 3) := dk_162 0 20 (dk_at dksX4_set_0 9 rfl rfl)
theorem dX4_set_12 : decode cX4_set 12 = .ok (.iload_n 1, 1) := dk_27 (dk_at dksX4_set_0 12 rfl rfl)
theorem dX4_set_13 : decode cX4_set 13 = .ok (.iconst 1, 1) := dk_4 (dk_at dksX4_set_0 13 rfl rfl)
theorem dX4_set_14 : decode cX4_set 14 = .ok (.aload_n 0, 1) := dk_42 (dk_at dksX4_set_0 14 rfl rfl)
theorem dX4_set_15 : decode cX4_set 15 = .ok (.getfield 9, 3) := dk_180 0 9 (dk_at dksX4_set_0 15 rfl rfl)
theorem dX4_set_18 : decode cX4_set 18 = .ok (.iload_n 2, 1) := dk_28 (dk_at dksX4_set_0 18 rfl rfl)
theorem dX4_set_19 : decode cX4_set 19 = .ok (.iaload, 1) := dk_46 (dk_at dksX4_set_0 19 rfl rfl)
theorem dX4_set_20 : decode cX4_set 20 = .ok (.ishl, 1) := dk_120 (dk_at dksX4_set_0 20 rfl rfl)
theorem dX4_set_21 : decode cX4_set 21 = .ok (.ior, 1) := dk_128 (dk_at dksX4_set_0 21 rfl rfl)
theorem dX4_set_22 : decode cX4_set 22 = .ok (.istore_n 1, 1) := dk_60 (dk_at dksX4_set_0 22 rfl rfl)
theorem dX4_set_23 : decode cX4_set 23 = .ok (.iinc 2 1, 3) := dk_132 2 1 (dk_at dksX4_set_1 0 rfl rfl)
theorem dX4_set_26 : decode cX4_set 26 = .ok (.goto (-22), 3) := dk_167 255 234 (dk_at dksX4_set_1 3 rfl rfl)
theorem dX4_set_29 : decode cX4_set 29 = .ok (.iload_n 1, 1) := dk_27 (dk_at dksX4_set_1 6 rfl rfl)
theorem dX4_set_30 : decode cX4_set 30 = .ok (.ireturn, 1) := dk_172 (dk_at dksX4_set_1 7 rfl rfl)
theorem q98 : (Jvm.Cond.initialized "NoonMeals$Round") ∈ lw_all := lw_g (lw_at lw_m1 7 rfl) rfl
theorem q240 : (Jvm.Cond.instantiable "NoonMeals$Round" (4 : Nat)) ∈ lw_all := lw_g (lw_at lw_m1 149 rfl) rfl
theorem q242 : (Jvm.Cond.instanceMethod ({ cls := "NoonMeals$Round", name := "<init>", desc := "()V" } : Jvm.MethodName)) ∈ lw_all := lw_g (lw_at lw_m1 151 rfl) rfl
theorem q243 : (Jvm.Cond.code ({ cls := "NoonMeals$Round", name := "<init>", desc := "()V" } : Jvm.MethodName) prog_13_method_1_code (1 : Nat) (Option.none : Option Jvm.ClassFile.FieldType)) ∈ lw_all := lw_g (lw_at lw_m1 152 rfl) rfl
theorem q244 : (Jvm.Cond.methodLink "NoonMeals$Round" (3 : Nat) ({ cls := "java/lang/Object", name := "<init>", desc := "()V" } : Jvm.MethodName)) ∈ lw_all := lw_g (lw_at lw_m1 153 rfl) rfl
theorem q245 : (Jvm.Cond.fieldLink "NoonMeals$Round" (9 : Nat) "NoonMeals$Round" "houses" "[I") ∈ lw_all := lw_g (lw_at lw_m1 154 rfl) rfl
theorem q247 : (Jvm.Cond.fieldLink "NoonMeals$Round" (15 : Nat) "NoonMeals$Round" "comes" "[I") ∈ lw_all := lw_g (lw_at lw_m1 156 rfl) rfl
theorem q249 : (Jvm.Cond.fieldLink "NoonMeals$Round" (36 : Nat) "NoonMeals$Round" "many" "I") ∈ lw_all := lw_g (lw_at lw_m1 158 rfl) rfl
theorem q251 : (Jvm.Cond.fieldLink "NoonMeals$Round" (33 : Nat) "NoonMeals$Round" "bad" "I") ∈ lw_all := lw_g (lw_at lw_m1 160 rfl) rfl
theorem q253 : (Jvm.Cond.laysFinal "NoonMeals$Round" "NoonMeals$Round" "houses" "[I") ∈ lw_all := lw_g (lw_at lw_m1 162 rfl) rfl
theorem q254 : (Jvm.Cond.soleField "NoonMeals$Round" "houses") ∈ lw_all := lw_g (lw_at lw_m1 163 rfl) rfl
theorem q255 : (Jvm.Cond.laysFinal "NoonMeals$Round" "NoonMeals$Round" "comes" "[I") ∈ lw_all := lw_g (lw_at lw_m1 164 rfl) rfl
theorem q256 : (Jvm.Cond.soleField "NoonMeals$Round" "comes") ∈ lw_all := lw_g (lw_at lw_m1 165 rfl) rfl
theorem q257 : (Jvm.Cond.lays "NoonMeals$Round" "NoonMeals$Round" "many" "I") ∈ lw_all := lw_g (lw_at lw_m1 166 rfl) rfl
theorem q258 : (Jvm.Cond.soleField "NoonMeals$Round" "many") ∈ lw_all := lw_g (lw_at lw_m1 167 rfl) rfl
theorem q259 : (Jvm.Cond.lays "NoonMeals$Round" "NoonMeals$Round" "bad" "I") ∈ lw_all := lw_g (lw_at lw_m1 168 rfl) rfl
theorem q260 : (Jvm.Cond.soleField "NoonMeals$Round" "bad") ∈ lw_all := lw_g (lw_at lw_m1 169 rfl) rfl
theorem q261 : (Jvm.Cond.superclass "NoonMeals$Round" "java/lang/Object") ∈ lw_all := lw_g (lw_at lw_m1 170 rfl) rfl
theorem q444 : (Jvm.Cond.fieldLink "NoonMeals$Round" (39 : Nat) "NoonMeals$Day" "houses" "[LNoonMeals$House;") ∈ lw_all := lw_g (lw_at lw_m2 113 rfl) rfl
theorem q761 : (Jvm.Cond.fieldLink "NoonMeals$Round" (28 : Nat) "NoonMeals$Kitchen" "at" "I") ∈ lw_all := lw_g (lw_at lw_m3 190 rfl) rfl
theorem q864 : (Jvm.Cond.fieldLink "NoonMeals$Round" (44 : Nat) "NoonMeals$House" "at" "I") ∈ lw_all := lw_g (lw_at lw_m4 53 rfl) rfl
theorem q866 : (Jvm.Cond.fieldLink "NoonMeals$Round" (55 : Nat) "NoonMeals$House" "doors" "I") ∈ lw_all := lw_g (lw_at lw_m4 55 rfl) rfl
theorem q868 : (Jvm.Cond.fieldLink "NoonMeals$Round" (69 : Nat) "NoonMeals$House" "tea" "I") ∈ lw_all := lw_g (lw_at lw_m4 57 rfl) rfl
theorem q876 : (Jvm.Cond.fieldLink "NoonMeals$Round" (58 : Nat) "NoonMeals$House" "hasDog" "Z") ∈ lw_all := lw_g (lw_at lw_m4 65 rfl) rfl
theorem q911 : (Jvm.Cond.fieldLink "NoonMeals$Round" (24 : Nat) "NoonMeals$Car" "kitchen" "LNoonMeals$Kitchen;") ∈ lw_all := lw_g (lw_at lw_m4 100 rfl) rfl
theorem q914 : (Jvm.Cond.fieldLink "NoonMeals$Round" (18 : Nat) "NoonMeals$Car" "starts" "I") ∈ lw_all := lw_g (lw_at lw_m4 103 rfl) rfl
theorem q922 : (Jvm.Cond.fieldLink "NoonMeals$Round" (62 : Nat) "NoonMeals$Car" "isAfraid" "Z") ∈ lw_all := lw_g (lw_at lw_m4 111 rfl) rfl
theorem q1014 : (Jvm.Cond.instanceMethod ({ cls := "NoonMeals$Round", name := "placeOf", desc := "(I)I" } : Jvm.MethodName)) ∈ lw_all := lw_g (lw_at lw_m4 203 rfl) rfl
theorem q1015 : (Jvm.Cond.selects "NoonMeals$Round" ({ cls := "NoonMeals$Round", name := "placeOf", desc := "(I)I" } : Jvm.MethodName) ({ cls := "NoonMeals$Round", name := "placeOf", desc := "(I)I" } : Jvm.MethodName)) ∈ lw_all := lw_g (lw_at lw_m4 204 rfl) rfl
theorem q1016 : (Jvm.Cond.code ({ cls := "NoonMeals$Round", name := "placeOf", desc := "(I)I" } : Jvm.MethodName) prog_13_method_5_code (3 : Nat) (Option.some Jvm.ClassFile.FieldType.int)) ∈ lw_all := lw_g (lw_at lw_m4 205 rfl) rfl
theorem q1050 : (Jvm.Cond.instanceMethod ({ cls := "NoonMeals$Round", name := "walks", desc := "(LNoonMeals$Day;LNoonMeals$Car;I)LNoonMeals$Round;" } : Jvm.MethodName)) ∈ lw_all := lw_g (lw_at lw_m4 239 rfl) rfl
theorem q1051 : (Jvm.Cond.selects "NoonMeals$Round" ({ cls := "NoonMeals$Round", name := "walks", desc := "(LNoonMeals$Day;LNoonMeals$Car;I)LNoonMeals$Round;" } : Jvm.MethodName) ({ cls := "NoonMeals$Round", name := "walks", desc := "(LNoonMeals$Day;LNoonMeals$Car;I)LNoonMeals$Round;" } : Jvm.MethodName)) ∈ lw_all := lw_g (lw_at lw_m5 0 rfl) rfl
theorem q1052 : (Jvm.Cond.code ({ cls := "NoonMeals$Round", name := "walks", desc := "(LNoonMeals$Day;LNoonMeals$Car;I)LNoonMeals$Round;" } : Jvm.MethodName) prog_13_method_2_code (8 : Nat) (Option.some (Jvm.ClassFile.FieldType.object "NoonMeals$Round"))) ∈ lw_all := lw_g (lw_at lw_m5 1 rfl) rfl
theorem q1053 : (Jvm.Cond.methodLink "NoonMeals$Round" (47 : Nat) ({ cls := "NoonMeals$Day", name := "way", desc := "(II)I" } : Jvm.MethodName)) ∈ lw_all := lw_g (lw_at lw_m5 2 rfl) rfl
theorem q1063 : (Jvm.Cond.methodLink "NoonMeals$Round" (51 : Nat) ({ cls := "NoonMeals$Day", name := "isBad", desc := "(LNoonMeals$Car;I)Z" } : Jvm.MethodName)) ∈ lw_all := lw_g (lw_at lw_m5 12 rfl) rfl
theorem q1071 : (Jvm.Cond.methodLinkNest "NoonMeals$Round" (65 : Nat) ({ cls := "NoonMeals", name := "lies", desc := "(II)Z" } : Jvm.MethodName) "NoonMeals") ∈ lw_tbl := lw_at lw_m5 20 rfl
theorem q1106 : (Jvm.Cond.instanceMethod ({ cls := "NoonMeals$Round", name := "worth", desc := "(LNoonMeals$Car;)I" } : Jvm.MethodName)) ∈ lw_all := lw_g (lw_at lw_m5 55 rfl) rfl
theorem q1107 : (Jvm.Cond.selects "NoonMeals$Round" ({ cls := "NoonMeals$Round", name := "worth", desc := "(LNoonMeals$Car;)I" } : Jvm.MethodName) ({ cls := "NoonMeals$Round", name := "worth", desc := "(LNoonMeals$Car;)I" } : Jvm.MethodName)) ∈ lw_all := lw_g (lw_at lw_m5 56 rfl) rfl
theorem q1108 : (Jvm.Cond.code ({ cls := "NoonMeals$Round", name := "worth", desc := "(LNoonMeals$Car;)I" } : Jvm.MethodName) prog_13_method_4_code (2 : Nat) (Option.some Jvm.ClassFile.FieldType.int)) ∈ lw_all := lw_g (lw_at lw_m5 57 rfl) rfl
theorem q1109 : (Jvm.Cond.methodLinkNest "NoonMeals$Round" (72 : Nat) ({ cls := "NoonMeals", name := "ones", desc := "(I)I" } : Jvm.MethodName) "NoonMeals") ∈ lw_tbl := lw_at lw_m5 58 rfl
theorem q1110 : (Jvm.Cond.methodLink "NoonMeals$Round" (76 : Nat) ({ cls := "NoonMeals$Round", name := "last", desc := "(LNoonMeals$Car;)I" } : Jvm.MethodName)) ∈ lw_all := lw_g (lw_at lw_m5 59 rfl) rfl
theorem q1111 : (Jvm.Cond.instanceMethod ({ cls := "NoonMeals$Round", name := "last", desc := "(LNoonMeals$Car;)I" } : Jvm.MethodName)) ∈ lw_all := lw_g (lw_at lw_m5 60 rfl) rfl
theorem q1112 : (Jvm.Cond.selects "NoonMeals$Round" ({ cls := "NoonMeals$Round", name := "last", desc := "(LNoonMeals$Car;)I" } : Jvm.MethodName) ({ cls := "NoonMeals$Round", name := "last", desc := "(LNoonMeals$Car;)I" } : Jvm.MethodName)) ∈ lw_all := lw_g (lw_at lw_m5 61 rfl) rfl
theorem q1113 : (Jvm.Cond.code ({ cls := "NoonMeals$Round", name := "last", desc := "(LNoonMeals$Car;)I" } : Jvm.MethodName) prog_13_method_3_code (2 : Nat) (Option.some Jvm.ClassFile.FieldType.int)) ∈ lw_all := lw_g (lw_at lw_m5 62 rfl) rfl
theorem q1115 : (Jvm.Cond.instanceMethod ({ cls := "NoonMeals$Round", name := "become", desc := "(LNoonMeals$Round;)V" } : Jvm.MethodName)) ∈ lw_all := lw_g (lw_at lw_m5 64 rfl) rfl
theorem q1116 : (Jvm.Cond.selects "NoonMeals$Round" ({ cls := "NoonMeals$Round", name := "become", desc := "(LNoonMeals$Round;)V" } : Jvm.MethodName) ({ cls := "NoonMeals$Round", name := "become", desc := "(LNoonMeals$Round;)V" } : Jvm.MethodName)) ∈ lw_all := lw_g (lw_at lw_m5 65 rfl) rfl
theorem q1117 : (Jvm.Cond.code ({ cls := "NoonMeals$Round", name := "become", desc := "(LNoonMeals$Round;)V" } : Jvm.MethodName) prog_13_method_7_code (2 : Nat) (Option.none : Option Jvm.ClassFile.FieldType)) ∈ lw_all := lw_g (lw_at lw_m5 66 rfl) rfl
theorem q1118 : (Jvm.Cond.methodLink "NoonMeals$Round" (80 : Nat) ({ cls := "java/lang/System", name := "arraycopy", desc := "(Ljava/lang/Object;ILjava/lang/Object;II)V" } : Jvm.MethodName)) ∈ lw_all := lw_g (lw_at lw_m5 67 rfl) rfl
theorem q1144 : (Jvm.Cond.instanceMethod ({ cls := "NoonMeals$Round", name := "set", desc := "()I" } : Jvm.MethodName)) ∈ lw_all := lw_g (lw_at lw_m5 93 rfl) rfl
theorem q1145 : (Jvm.Cond.selects "NoonMeals$Round" ({ cls := "NoonMeals$Round", name := "set", desc := "()I" } : Jvm.MethodName) ({ cls := "NoonMeals$Round", name := "set", desc := "()I" } : Jvm.MethodName)) ∈ lw_all := lw_g (lw_at lw_m5 94 rfl) rfl
theorem q1146 : (Jvm.Cond.code ({ cls := "NoonMeals$Round", name := "set", desc := "()I" } : Jvm.MethodName) prog_13_method_6_code (3 : Nat) (Option.some Jvm.ClassFile.FieldType.int)) ∈ lw_all := lw_g (lw_at lw_m5 95 rfl) rfl
theorem q1995 : (Jvm.Cond.castable "NoonMeals$Round" "java/lang/Object") ∈ lw_tbl := lw_at lw_m8 224 rfl
theorem in_X4 : ∀ w ∈ wsX40, w ∈ lw_all := lw_in wsX40 [253, 255, 257, 259] (by decide +kernel) (by decide +kernel)
