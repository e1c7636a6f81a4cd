/-! what a run carries beside the tables' list: words that don't ride in it, pairs that aren't castable, string constants, statics -/
def xMv (w : Cond) : Prop := ∀ (s U : State), s.WarmedH U.vm → va_Nw w s → va_Nw w U
theorem xMvF {a : String} {i : Nat} {b n d h : String} : xMv (.fieldLinkNest a i b n d h) := fun _ _ hW hZ => va_Nw.warmF hW hZ
theorem xMvM {a : String} {i : Nat} {x : MethodName} {h : String} : xMv (.methodLinkNest a i x h) := fun _ _ hW hZ => va_Nw.warmM hW hZ
theorem xMvC {C T : String} : xMv (.castable C T) := fun _ _ hW hZ => va_Nw.warmC hW hZ
theorem xMvD {x : MethodName} : xMv (.declares x) := fun _ _ hW hZ => va_Nw.warmD hW hZ
theorem xMvA {C : String} : xMv (.arrayOver (.object C)) := fun _ _ hW hZ => va_AO.moved hW.alike hZ
theorem xMv_nil : ∀ w ∈ ([] : List Cond), xMv w := fun _ h => absurd h List.not_mem_nil
theorem xMv_cons {w : Cond} {l : List Cond} (h : xMv w) (hl : ∀ w ∈ l, xMv w) : ∀ w' ∈ w :: l, xMv w' := List.forall_mem_cons.mpr ⟨h, hl⟩
def xWd : List Cond := [
  (Cond.fieldLinkNest "NoonMealsModel" 220 "NoonMealsModel$Day" "hot" "I" "NoonMealsModel"),
  (Cond.fieldLinkNest "NoonMealsModel" 263 "NoonMealsModel$Day" "by" "I" "NoonMealsModel"),
  (Cond.fieldLinkNest "NoonMealsModel" 265 "NoonMealsModel$Day" "kitchens" "I" "NoonMealsModel"),
  (Cond.fieldLinkNest "NoonMealsModel" 290 "NoonMealsModel$Day" "dishes" "I" "NoonMealsModel"),
  (Cond.fieldLinkNest "NoonMealsModel" 306 "NoonMealsModel$Day" "diets" "I" "NoonMealsModel"),
  (Cond.fieldLinkNest "NoonMealsModel" 223 "NoonMealsModel$Day" "houses" "I" "NoonMealsModel"),
  (Cond.fieldLinkNest "NoonMealsModel" 226 "NoonMealsModel$Day" "cars" "I" "NoonMealsModel"),
  (Cond.fieldLinkNest "NoonMealsModel" 279 "NoonMealsModel$Day" "floods" "I" "NoonMealsModel"),
  (Cond.fieldLinkNest "NoonMealsModel" 365 "NoonMealsModel$Day" "calls" "I" "NoonMealsModel"),
  (Cond.fieldLinkNest "NoonMealsModel" 375 "NoonMealsModel$Day" "helpers" "I" "NoonMealsModel"),
  (Cond.fieldLinkNest "NoonMealsModel" 205 "NoonMealsModel$Day" "names" "I" "NoonMealsModel"),
  (Cond.fieldLinkNest "NoonMealsModel" 273 "NoonMealsModel$Day" "kitchenAt" "[I" "NoonMealsModel"),
  (Cond.fieldLinkNest "NoonMealsModel" 276 "NoonMealsModel$Day" "kitchenHot" "[I" "NoonMealsModel"),
  (Cond.fieldLinkNest "NoonMealsModel" 300 "NoonMealsModel$Day" "letters" "[I" "NoonMealsModel"),
  (Cond.fieldLinkNest "NoonMealsModel" 303 "NoonMealsModel$Day" "cost" "[I" "NoonMealsModel"),
  (Cond.fieldLinkNest "NoonMealsModel" 311 "NoonMealsModel$Day" "bars" "[I" "NoonMealsModel"),
  (Cond.fieldLinkNest "NoonMealsModel" 284 "NoonMealsModel$Day" "floodAt" "[I" "NoonMealsModel"),
  (Cond.fieldLinkNest "NoonMealsModel" 287 "NoonMealsModel$Day" "floodAdds" "[I" "NoonMealsModel"),
  (Cond.fieldLinkNest "NoonMealsModel" 329 "NoonMealsModel$Day" "houseAt" "[I" "NoonMealsModel"),
  (Cond.fieldLinkNest "NoonMealsModel" 332 "NoonMealsModel$Day" "eats" "[I" "NoonMealsModel"),
  (Cond.fieldLinkNest "NoonMealsModel" 334 "NoonMealsModel$Day" "doors" "[I" "NoonMealsModel"),
  (Cond.fieldLinkNest "NoonMealsModel" 336 "NoonMealsModel$Day" "tea" "[I" "NoonMealsModel"),
  (Cond.fieldLinkNest "NoonMealsModel" 338 "NoonMealsModel$Day" "chance" "[I" "NoonMealsModel"),
  (Cond.fieldLinkNest "NoonMealsModel" 340 "NoonMealsModel$Day" "need" "[I" "NoonMealsModel"),
  (Cond.fieldLinkNest "NoonMealsModel" 342 "NoonMealsModel$Day" "isDog" "[Z" "NoonMealsModel"),
  (Cond.fieldLinkNest "NoonMealsModel" 362 "NoonMealsModel$Day" "isAfraid" "[Z" "NoonMealsModel"),
  (Cond.fieldLinkNest "NoonMealsModel" 354 "NoonMealsModel$Day" "from" "[I" "NoonMealsModel"),
  (Cond.fieldLinkNest "NoonMealsModel" 356 "NoonMealsModel$Day" "starts" "[I" "NoonMealsModel"),
  (Cond.fieldLinkNest "NoonMealsModel" 358 "NoonMealsModel$Day" "holds" "[I" "NoonMealsModel"),
  (Cond.fieldLinkNest "NoonMealsModel" 360 "NoonMealsModel$Day" "cools" "[I" "NoonMealsModel"),
  (Cond.fieldLinkNest "NoonMealsModel" 370 "NoonMealsModel$Day" "takes" "[I" "NoonMealsModel"),
  (Cond.fieldLinkNest "NoonMealsModel" 372 "NoonMealsModel$Day" "answers" "[I" "NoonMealsModel"),
  (Cond.fieldLinkNest "NoonMealsModel" 382 "NoonMealsModel$Day" "wishes" "[I" "NoonMealsModel"),
  (Cond.fieldLinkNest "NoonMealsModel" 385 "NoonMealsModel$Day" "most" "[I" "NoonMealsModel"),
  (Cond.fieldLinkNest "NoonMealsModel" 201 "NoonMealsModel$Day" "name" "[J" "NoonMealsModel"),
  (Cond.fieldLinkNest "NoonMealsModel" 208 "NoonMealsModel$Day" "nameSort" "[I" "NoonMealsModel"),
  (Cond.fieldLinkNest "NoonMealsModel" 211 "NoonMealsModel$Day" "nameNumber" "[I" "NoonMealsModel"),
  (Cond.methodLinkNest "NoonMeals" 32 ⟨"NoonMeals$Round", "<init>", "()V"⟩ "NoonMeals"),
  (Cond.methodLinkNest "NoonMeals$Reader" 143 ⟨"NoonMeals$Day", "<init>", "()V"⟩ "NoonMeals"),
  (Cond.methodLinkNest "NoonMeals$Reader" 36 ⟨"NoonMeals", "in", "(III)Z"⟩ "NoonMeals"),
  (Cond.methodLinkNest "NoonMeals$Reader" 333 ⟨"NoonMeals", "lies", "(II)Z"⟩ "NoonMeals"),
  (Cond.methodLinkNest "NoonMeals$Round" 65 ⟨"NoonMeals", "lies", "(II)Z"⟩ "NoonMeals"),
  (Cond.methodLinkNest "NoonMeals$Round" 72 ⟨"NoonMeals", "ones", "(I)I"⟩ "NoonMeals"),
  (Cond.methodLinkNest "NoonMealsModel" 390 ⟨"NoonMealsModel$Day", "<init>", "()V"⟩ "NoonMealsModel"),
  (Cond.castable "java/lang/Throwable" "java/lang/Object"),
  (Cond.castable "java/lang/System$2" "jdk/internal/access/JavaLangAccess"),
  (Cond.castable "java/lang/System$2" "java/lang/Object"),
  (Cond.castable "java/lang/String" "java/lang/Object"),
  (Cond.castable "java/util/NoSuchElementException" "java/util/NoSuchElementException"),
  (Cond.castable "java/util/NoSuchElementException" "java/lang/Object"),
  (Cond.castable "NoonMeals" "java/lang/Object"),
  (Cond.castable "NoonMeals$Diet" "java/lang/Object"),
  (Cond.castable "NoonMeals$House" "java/lang/Object"),
  (Cond.castable "NoonMeals$Car" "java/lang/Object"),
  (Cond.castable "NoonMeals$Call" "java/lang/Object"),
  (Cond.castable "NoonMeals$Helper" "java/lang/Object"),
  (Cond.castable "NoonMealsModel$Day" "java/lang/Object"),
  (Cond.castable "NoonMeals$Reader" "java/lang/Object"),
  (Cond.castable "NoonMeals$Refused" "NoonMeals$Refused"),
  (Cond.castable "NoonMeals$Refused" "java/lang/Object"),
  (Cond.castable "NoonMeals$Round" "java/lang/Object"),
  (Cond.castable "NoonMealsModel" "java/lang/Object"),
  (Cond.castable "NoonMeals$Day" "java/lang/Object"),
  (Cond.castable "NoonMeals$Kitchen" "java/lang/Object"),
  (Cond.castable "NoonMeals$Dish" "java/lang/Object"),
  (Cond.declares ⟨"java/lang/Throwable", "<init>", "()V"⟩),
  (Cond.declares ⟨"java/lang/Throwable", "<init>", "(Ljava/lang/String;)V"⟩),
  (Cond.declares ⟨"java/lang/Exception", "<init>", "()V"⟩),
  (Cond.declares ⟨"java/lang/Exception", "<init>", "(Ljava/lang/String;)V"⟩),
  (Cond.declares ⟨"java/lang/RuntimeException", "<init>", "()V"⟩),
  (Cond.declares ⟨"java/lang/RuntimeException", "<init>", "(Ljava/lang/String;)V"⟩),
  (Cond.declares ⟨"jdk/internal/access/JavaLangAccess", "getUTF16Char", "([BI)C"⟩)]
theorem xWd_all : ∀ w ∈ xWd, xMv w := (xMv_cons xMvF (xMv_cons xMvF (xMv_cons xMvF (xMv_cons xMvF (xMv_cons xMvF (xMv_cons xMvF (xMv_cons xMvF (xMv_cons xMvF (xMv_cons xMvF (xMv_cons xMvF (xMv_cons xMvF (xMv_cons xMvF (xMv_cons xMvF (xMv_cons xMvF (xMv_cons xMvF (xMv_cons xMvF (xMv_cons xMvF (xMv_cons xMvF (xMv_cons xMvF (xMv_cons xMvF (xMv_cons xMvF (xMv_cons xMvF (xMv_cons xMvF (xMv_cons xMvF (xMv_cons xMvF (xMv_cons xMvF (xMv_cons xMvF (xMv_cons xMvF (xMv_cons xMvF (xMv_cons xMvF (xMv_cons xMvF (xMv_cons xMvF (xMv_cons xMvF (xMv_cons xMvF (xMv_cons xMvF (xMv_cons xMvF (xMv_cons xMvF (xMv_cons xMvM (xMv_cons xMvM (xMv_cons xMvM (xMv_cons xMvM (xMv_cons xMvM (xMv_cons xMvM (xMv_cons xMvM (xMv_cons xMvC (xMv_cons xMvC (xMv_cons xMvC (xMv_cons xMvC (xMv_cons xMvC (xMv_cons xMvC (xMv_cons xMvC (xMv_cons xMvC (xMv_cons xMvC (xMv_cons xMvC (xMv_cons xMvC (xMv_cons xMvC (xMv_cons xMvC (xMv_cons xMvC (xMv_cons xMvC (xMv_cons xMvC (xMv_cons xMvC (xMv_cons xMvC (xMv_cons xMvC (xMv_cons xMvC (xMv_cons xMvC (xMv_cons xMvD (xMv_cons xMvD (xMv_cons xMvD (xMv_cons xMvD (xMv_cons xMvD (xMv_cons xMvD (xMv_cons xMvD xMv_nil))))))))))))))))))))))))))))))))))))))))))))))))))))))))))))))))))))))))
theorem xWd_mv (w : Cond) (hw : w ∈ xWd) {s U : State} (hW : s.WarmedH U.vm) (h : va_Nw w s) : va_Nw w U := xWd_all w hw s U hW h
theorem xWd_on : ∀ w ∈ xWd, w.onTables = true := List.all_eq_true.mp (by decide +kernel)
theorem n1460 : (Cond.fieldLinkNest "NoonMealsModel" 220 "NoonMealsModel$Day" "hot" "I" "NoonMealsModel") ∈ xWd := List.mem_of_getElem? (i := 0) rfl
theorem n1461 : (Cond.fieldLinkNest "NoonMealsModel" 263 "NoonMealsModel$Day" "by" "I" "NoonMealsModel") ∈ xWd := List.mem_of_getElem? (i := 1) rfl
theorem n1462 : (Cond.fieldLinkNest "NoonMealsModel" 265 "NoonMealsModel$Day" "kitchens" "I" "NoonMealsModel") ∈ xWd := List.mem_of_getElem? (i := 2) rfl
theorem n1463 : (Cond.fieldLinkNest "NoonMealsModel" 290 "NoonMealsModel$Day" "dishes" "I" "NoonMealsModel") ∈ xWd := List.mem_of_getElem? (i := 3) rfl
theorem n1464 : (Cond.fieldLinkNest "NoonMealsModel" 306 "NoonMealsModel$Day" "diets" "I" "NoonMealsModel") ∈ xWd := List.mem_of_getElem? (i := 4) rfl
theorem n1465 : (Cond.fieldLinkNest "NoonMealsModel" 223 "NoonMealsModel$Day" "houses" "I" "NoonMealsModel") ∈ xWd := List.mem_of_getElem? (i := 5) rfl
theorem n1466 : (Cond.fieldLinkNest "NoonMealsModel" 226 "NoonMealsModel$Day" "cars" "I" "NoonMealsModel") ∈ xWd := List.mem_of_getElem? (i := 6) rfl
theorem n1468 : (Cond.fieldLinkNest "NoonMealsModel" 279 "NoonMealsModel$Day" "floods" "I" "NoonMealsModel") ∈ xWd := List.mem_of_getElem? (i := 7) rfl
theorem n1469 : (Cond.fieldLinkNest "NoonMealsModel" 365 "NoonMealsModel$Day" "calls" "I" "NoonMealsModel") ∈ xWd := List.mem_of_getElem? (i := 8) rfl
theorem n1470 : (Cond.fieldLinkNest "NoonMealsModel" 375 "NoonMealsModel$Day" "helpers" "I" "NoonMealsModel") ∈ xWd := List.mem_of_getElem? (i := 9) rfl
theorem n1472 : (Cond.fieldLinkNest "NoonMealsModel" 205 "NoonMealsModel$Day" "names" "I" "NoonMealsModel") ∈ xWd := List.mem_of_getElem? (i := 10) rfl
theorem n1474 : (Cond.fieldLinkNest "NoonMealsModel" 273 "NoonMealsModel$Day" "kitchenAt" "[I" "NoonMealsModel") ∈ xWd := List.mem_of_getElem? (i := 11) rfl
theorem n1476 : (Cond.fieldLinkNest "NoonMealsModel" 276 "NoonMealsModel$Day" "kitchenHot" "[I" "NoonMealsModel") ∈ xWd := List.mem_of_getElem? (i := 12) rfl
theorem n1478 : (Cond.fieldLinkNest "NoonMealsModel" 300 "NoonMealsModel$Day" "letters" "[I" "NoonMealsModel") ∈ xWd := List.mem_of_getElem? (i := 13) rfl
theorem n1480 : (Cond.fieldLinkNest "NoonMealsModel" 303 "NoonMealsModel$Day" "cost" "[I" "NoonMealsModel") ∈ xWd := List.mem_of_getElem? (i := 14) rfl
theorem n1482 : (Cond.fieldLinkNest "NoonMealsModel" 311 "NoonMealsModel$Day" "bars" "[I" "NoonMealsModel") ∈ xWd := List.mem_of_getElem? (i := 15) rfl
theorem n1484 : (Cond.fieldLinkNest "NoonMealsModel" 284 "NoonMealsModel$Day" "floodAt" "[I" "NoonMealsModel") ∈ xWd := List.mem_of_getElem? (i := 16) rfl
theorem n1486 : (Cond.fieldLinkNest "NoonMealsModel" 287 "NoonMealsModel$Day" "floodAdds" "[I" "NoonMealsModel") ∈ xWd := List.mem_of_getElem? (i := 17) rfl
theorem n1488 : (Cond.fieldLinkNest "NoonMealsModel" 329 "NoonMealsModel$Day" "houseAt" "[I" "NoonMealsModel") ∈ xWd := List.mem_of_getElem? (i := 18) rfl
theorem n1490 : (Cond.fieldLinkNest "NoonMealsModel" 332 "NoonMealsModel$Day" "eats" "[I" "NoonMealsModel") ∈ xWd := List.mem_of_getElem? (i := 19) rfl
theorem n1492 : (Cond.fieldLinkNest "NoonMealsModel" 334 "NoonMealsModel$Day" "doors" "[I" "NoonMealsModel") ∈ xWd := List.mem_of_getElem? (i := 20) rfl
theorem n1494 : (Cond.fieldLinkNest "NoonMealsModel" 336 "NoonMealsModel$Day" "tea" "[I" "NoonMealsModel") ∈ xWd := List.mem_of_getElem? (i := 21) rfl
theorem n1496 : (Cond.fieldLinkNest "NoonMealsModel" 338 "NoonMealsModel$Day" "chance" "[I" "NoonMealsModel") ∈ xWd := List.mem_of_getElem? (i := 22) rfl
theorem n1498 : (Cond.fieldLinkNest "NoonMealsModel" 340 "NoonMealsModel$Day" "need" "[I" "NoonMealsModel") ∈ xWd := List.mem_of_getElem? (i := 23) rfl
theorem n1500 : (Cond.fieldLinkNest "NoonMealsModel" 342 "NoonMealsModel$Day" "isDog" "[Z" "NoonMealsModel") ∈ xWd := List.mem_of_getElem? (i := 24) rfl
theorem n1502 : (Cond.fieldLinkNest "NoonMealsModel" 362 "NoonMealsModel$Day" "isAfraid" "[Z" "NoonMealsModel") ∈ xWd := List.mem_of_getElem? (i := 25) rfl
theorem n1504 : (Cond.fieldLinkNest "NoonMealsModel" 354 "NoonMealsModel$Day" "from" "[I" "NoonMealsModel") ∈ xWd := List.mem_of_getElem? (i := 26) rfl
theorem n1506 : (Cond.fieldLinkNest "NoonMealsModel" 356 "NoonMealsModel$Day" "starts" "[I" "NoonMealsModel") ∈ xWd := List.mem_of_getElem? (i := 27) rfl
theorem n1508 : (Cond.fieldLinkNest "NoonMealsModel" 358 "NoonMealsModel$Day" "holds" "[I" "NoonMealsModel") ∈ xWd := List.mem_of_getElem? (i := 28) rfl
theorem n1510 : (Cond.fieldLinkNest "NoonMealsModel" 360 "NoonMealsModel$Day" "cools" "[I" "NoonMealsModel") ∈ xWd := List.mem_of_getElem? (i := 29) rfl
theorem n1512 : (Cond.fieldLinkNest "NoonMealsModel" 370 "NoonMealsModel$Day" "takes" "[I" "NoonMealsModel") ∈ xWd := List.mem_of_getElem? (i := 30) rfl
theorem n1514 : (Cond.fieldLinkNest "NoonMealsModel" 372 "NoonMealsModel$Day" "answers" "[I" "NoonMealsModel") ∈ xWd := List.mem_of_getElem? (i := 31) rfl
theorem n1516 : (Cond.fieldLinkNest "NoonMealsModel" 382 "NoonMealsModel$Day" "wishes" "[I" "NoonMealsModel") ∈ xWd := List.mem_of_getElem? (i := 32) rfl
theorem n1518 : (Cond.fieldLinkNest "NoonMealsModel" 385 "NoonMealsModel$Day" "most" "[I" "NoonMealsModel") ∈ xWd := List.mem_of_getElem? (i := 33) rfl
theorem n1520 : (Cond.fieldLinkNest "NoonMealsModel" 201 "NoonMealsModel$Day" "name" "[J" "NoonMealsModel") ∈ xWd := List.mem_of_getElem? (i := 34) rfl
theorem n1522 : (Cond.fieldLinkNest "NoonMealsModel" 208 "NoonMealsModel$Day" "nameSort" "[I" "NoonMealsModel") ∈ xWd := List.mem_of_getElem? (i := 35) rfl
theorem n1524 : (Cond.fieldLinkNest "NoonMealsModel" 211 "NoonMealsModel$Day" "nameNumber" "[I" "NoonMealsModel") ∈ xWd := List.mem_of_getElem? (i := 36) rfl
theorem n241 : (Cond.methodLinkNest "NoonMeals" 32 ⟨"NoonMeals$Round", "<init>", "()V"⟩ "NoonMeals") ∈ xWd := List.mem_of_getElem? (i := 37) rfl
theorem n417 : (Cond.methodLinkNest "NoonMeals$Reader" 143 ⟨"NoonMeals$Day", "<init>", "()V"⟩ "NoonMeals") ∈ xWd := List.mem_of_getElem? (i := 38) rfl
theorem n539 : (Cond.methodLinkNest "NoonMeals$Reader" 36 ⟨"NoonMeals", "in", "(III)Z"⟩ "NoonMeals") ∈ xWd := List.mem_of_getElem? (i := 39) rfl
theorem n985 : (Cond.methodLinkNest "NoonMeals$Reader" 333 ⟨"NoonMeals", "lies", "(II)Z"⟩ "NoonMeals") ∈ xWd := List.mem_of_getElem? (i := 40) rfl
theorem n1071 : (Cond.methodLinkNest "NoonMeals$Round" 65 ⟨"NoonMeals", "lies", "(II)Z"⟩ "NoonMeals") ∈ xWd := List.mem_of_getElem? (i := 41) rfl
theorem n1109 : (Cond.methodLinkNest "NoonMeals$Round" 72 ⟨"NoonMeals", "ones", "(I)I"⟩ "NoonMeals") ∈ xWd := List.mem_of_getElem? (i := 42) rfl
theorem n1455 : (Cond.methodLinkNest "NoonMealsModel" 390 ⟨"NoonMealsModel$Day", "<init>", "()V"⟩ "NoonMealsModel") ∈ xWd := List.mem_of_getElem? (i := 43) rfl
theorem n2009 : (Cond.castable "java/lang/Throwable" "java/lang/Object") ∈ xWd := List.mem_of_getElem? (i := 44) rfl
theorem n661 : (Cond.castable "java/lang/System$2" "jdk/internal/access/JavaLangAccess") ∈ xWd := List.mem_of_getElem? (i := 45) rfl
theorem n1999 : (Cond.castable "java/lang/System$2" "java/lang/Object") ∈ xWd := List.mem_of_getElem? (i := 46) rfl
theorem n1998 : (Cond.castable "java/lang/String" "java/lang/Object") ∈ xWd := List.mem_of_getElem? (i := 47) rfl
theorem n1273 : (Cond.castable "java/util/NoSuchElementException" "java/util/NoSuchElementException") ∈ xWd := List.mem_of_getElem? (i := 48) rfl
theorem n2008 : (Cond.castable "java/util/NoSuchElementException" "java/lang/Object") ∈ xWd := List.mem_of_getElem? (i := 49) rfl
theorem n1992 : (Cond.castable "NoonMeals" "java/lang/Object") ∈ xWd := List.mem_of_getElem? (i := 50) rfl
theorem n2002 : (Cond.castable "NoonMeals$Diet" "java/lang/Object") ∈ xWd := List.mem_of_getElem? (i := 51) rfl
theorem n2003 : (Cond.castable "NoonMeals$House" "java/lang/Object") ∈ xWd := List.mem_of_getElem? (i := 52) rfl
theorem n2004 : (Cond.castable "NoonMeals$Car" "java/lang/Object") ∈ xWd := List.mem_of_getElem? (i := 53) rfl
theorem n2005 : (Cond.castable "NoonMeals$Call" "java/lang/Object") ∈ xWd := List.mem_of_getElem? (i := 54) rfl
theorem n2006 : (Cond.castable "NoonMeals$Helper" "java/lang/Object") ∈ xWd := List.mem_of_getElem? (i := 55) rfl
theorem n2007 : (Cond.castable "NoonMealsModel$Day" "java/lang/Object") ∈ xWd := List.mem_of_getElem? (i := 56) rfl
theorem n1993 : (Cond.castable "NoonMeals$Reader" "java/lang/Object") ∈ xWd := List.mem_of_getElem? (i := 57) rfl
theorem n134 : (Cond.castable "NoonMeals$Refused" "NoonMeals$Refused") ∈ xWd := List.mem_of_getElem? (i := 58) rfl
theorem n1994 : (Cond.castable "NoonMeals$Refused" "java/lang/Object") ∈ xWd := List.mem_of_getElem? (i := 59) rfl
theorem n1995 : (Cond.castable "NoonMeals$Round" "java/lang/Object") ∈ xWd := List.mem_of_getElem? (i := 60) rfl
theorem n1996 : (Cond.castable "NoonMealsModel" "java/lang/Object") ∈ xWd := List.mem_of_getElem? (i := 61) rfl
theorem n1997 : (Cond.castable "NoonMeals$Day" "java/lang/Object") ∈ xWd := List.mem_of_getElem? (i := 62) rfl
theorem n2000 : (Cond.castable "NoonMeals$Kitchen" "java/lang/Object") ∈ xWd := List.mem_of_getElem? (i := 63) rfl
theorem n2001 : (Cond.castable "NoonMeals$Dish" "java/lang/Object") ∈ xWd := List.mem_of_getElem? (i := 64) rfl
theorem n139 : (Cond.declares ⟨"java/lang/Throwable", "<init>", "()V"⟩) ∈ xWd := List.mem_of_getElem? (i := 65) rfl
theorem n140 : (Cond.declares ⟨"java/lang/Throwable", "<init>", "(Ljava/lang/String;)V"⟩) ∈ xWd := List.mem_of_getElem? (i := 66) rfl
theorem n137 : (Cond.declares ⟨"java/lang/Exception", "<init>", "()V"⟩) ∈ xWd := List.mem_of_getElem? (i := 67) rfl
theorem n138 : (Cond.declares ⟨"java/lang/Exception", "<init>", "(Ljava/lang/String;)V"⟩) ∈ xWd := List.mem_of_getElem? (i := 68) rfl
theorem n135 : (Cond.declares ⟨"java/lang/RuntimeException", "<init>", "()V"⟩) ∈ xWd := List.mem_of_getElem? (i := 69) rfl
theorem n136 : (Cond.declares ⟨"java/lang/RuntimeException", "<init>", "(Ljava/lang/String;)V"⟩) ∈ xWd := List.mem_of_getElem? (i := 70) rfl
theorem n660 : (Cond.declares ⟨"jdk/internal/access/JavaLangAccess", "getUTF16Char", "([BI)C"⟩) ∈ xWd := List.mem_of_getElem? (i := 71) rfl
def xAo : List String := ["NoonMeals$Round", "NoonMeals$Kitchen", "NoonMeals$Dish", "NoonMeals$Diet", "NoonMeals$House", "NoonMeals$Car", "NoonMeals$Call", "NoonMeals$Helper"]
theorem n239 : "NoonMeals$Round" ∈ xAo := List.mem_of_getElem? (i := 0) rfl
theorem n422 : "NoonMeals$Kitchen" ∈ xAo := List.mem_of_getElem? (i := 1) rfl
theorem n424 : "NoonMeals$Dish" ∈ xAo := List.mem_of_getElem? (i := 2) rfl
theorem n426 : "NoonMeals$Diet" ∈ xAo := List.mem_of_getElem? (i := 3) rfl
theorem n428 : "NoonMeals$House" ∈ xAo := List.mem_of_getElem? (i := 4) rfl
theorem n430 : "NoonMeals$Car" ∈ xAo := List.mem_of_getElem? (i := 5) rfl
theorem n432 : "NoonMeals$Call" ∈ xAo := List.mem_of_getElem? (i := 6) rfl
theorem n434 : "NoonMeals$Helper" ∈ xAo := List.mem_of_getElem? (i := 7) rfl
def xNc : List (String × String) := [("NoonMeals$Kitchen", "NoonMeals$Diet"), ("NoonMeals$Dish", "NoonMeals$Diet"), ("NoonMeals$Dish", "NoonMeals$Kitchen"), ("NoonMeals$Diet", "NoonMeals$Kitchen"), ("NoonMeals$House", "NoonMeals$Diet"), ("NoonMeals$House", "NoonMeals$Kitchen"), ("NoonMeals$Car", "NoonMeals$Diet"), ("NoonMeals$Car", "NoonMeals$Kitchen"), ("NoonMeals$Call", "NoonMeals$Diet"), ("NoonMeals$Call", "NoonMeals$Kitchen"), ("NoonMeals$Helper", "NoonMeals$Diet"), ("NoonMeals$Helper", "NoonMeals$Kitchen")]
def xStr : List (String × Nat × String × Nat) := [("java/lang/String", 7, "", 0), ("NoonMeals$Reader", 59, "", 0), ("NoonMeals$Reader", 93, "law", 1), ("NoonMeals$Reader", 95, "kitchen", 2), ("NoonMeals$Reader", 97, "flood", 3), ("NoonMeals$Reader", 99, "dish", 4), ("NoonMeals$Reader", 101, "diet", 5), ("NoonMeals$Reader", 103, "house", 6), ("NoonMeals$Reader", 105, "car", 7), ("NoonMeals$Reader", 107, "call", 8), ("NoonMeals$Reader", 109, "helper", 9), ("NoonMeals$Reader", 160, "hot", 10), ("NoonMeals$Reader", 165, "by", 11), ("NoonMeals$Reader", 111, "dog", 12), ("NoonMeals$Reader", 113, "afraid", 13), ("NoonMeals$Reader", 207, "at", 14), ("NoonMeals$Reader", 181, "adds", 15), ("NoonMeals$Reader", 220, "of", 16), ("NoonMeals$Reader", 227, "costs", 17), ("NoonMeals$Reader", 241, "bars", 18), ("NoonMeals$Reader", 253, "eats", 19), ("NoonMeals$Reader", 258, "doors", 20), ("NoonMeals$Reader", 262, "tea", 21), ("NoonMeals$Reader", 266, "chance", 22), ("NoonMeals$Reader", 270, "need", 23), ("NoonMeals$Reader", 285, "from", 24), ("NoonMeals$Reader", 290, "starts", 25), ("NoonMeals$Reader", 294, "holds", 26), ("NoonMeals$Reader", 298, "cools", 27), ("NoonMeals$Reader", 315, "takes", 28), ("NoonMeals$Reader", 329, "days", 29), ("NoonMeals$Reader", 337, "most", 30), ("NoonMealsModel", 165, "law", 1), ("NoonMealsModel", 256, "hot", 10), ("NoonMealsModel", 261, "by", 11), ("NoonMealsModel", 167, "kitchen", 2), ("NoonMealsModel", 169, "flood", 3), ("NoonMealsModel", 171, "dish", 4), ("NoonMealsModel", 173, "diet", 5), ("NoonMealsModel", 175, "house", 6), ("NoonMealsModel", 177, "car", 7), ("NoonMealsModel", 179, "call", 8), ("NoonMealsModel", 181, "helper", 9), ("NoonMealsModel", 183, "dog", 12), ("NoonMealsModel", 185, "afraid", 13), ("NoonMealsModel", 272, "at", 14), ("NoonMealsModel", 282, "adds", 15), ("NoonMealsModel", 293, "of", 16), ("NoonMealsModel", 298, "costs", 17), ("NoonMealsModel", 309, "bars", 18), ("NoonMealsModel", 313, "eats", 19), ("NoonMealsModel", 318, "doors", 20), ("NoonMealsModel", 320, "tea", 21), ("NoonMealsModel", 322, "chance", 22), ("NoonMealsModel", 324, "need", 23), ("NoonMealsModel", 346, "from", 24), ("NoonMealsModel", 348, "starts", 25), ("NoonMealsModel", 350, "holds", 26), ("NoonMealsModel", 352, "cools", 27), ("NoonMealsModel", 368, "takes", 28), ("NoonMealsModel", 378, "days", 29), ("NoonMealsModel", 380, "most", 30)]
theorem t560 : ("java/lang/String", 7, "", 0) ∈ xStr := List.mem_of_getElem? (i := 0) rfl
theorem t618 : ("NoonMeals$Reader", 59, "", 0) ∈ xStr := List.mem_of_getElem? (i := 1) rfl
theorem t687 : ("NoonMeals$Reader", 93, "law", 1) ∈ xStr := List.mem_of_getElem? (i := 2) rfl
theorem t696 : ("NoonMeals$Reader", 95, "kitchen", 2) ∈ xStr := List.mem_of_getElem? (i := 3) rfl
theorem t697 : ("NoonMeals$Reader", 97, "flood", 3) ∈ xStr := List.mem_of_getElem? (i := 4) rfl
theorem t698 : ("NoonMeals$Reader", 99, "dish", 4) ∈ xStr := List.mem_of_getElem? (i := 5) rfl
theorem t699 : ("NoonMeals$Reader", 101, "diet", 5) ∈ xStr := List.mem_of_getElem? (i := 6) rfl
theorem t700 : ("NoonMeals$Reader", 103, "house", 6) ∈ xStr := List.mem_of_getElem? (i := 7) rfl
theorem t701 : ("NoonMeals$Reader", 105, "car", 7) ∈ xStr := List.mem_of_getElem? (i := 8) rfl
theorem t702 : ("NoonMeals$Reader", 107, "call", 8) ∈ xStr := List.mem_of_getElem? (i := 9) rfl
theorem t703 : ("NoonMeals$Reader", 109, "helper", 9) ∈ xStr := List.mem_of_getElem? (i := 10) rfl
theorem t708 : ("NoonMeals$Reader", 160, "hot", 10) ∈ xStr := List.mem_of_getElem? (i := 11) rfl
theorem t729 : ("NoonMeals$Reader", 165, "by", 11) ∈ xStr := List.mem_of_getElem? (i := 12) rfl
theorem t744 : ("NoonMeals$Reader", 111, "dog", 12) ∈ xStr := List.mem_of_getElem? (i := 13) rfl
theorem t745 : ("NoonMeals$Reader", 113, "afraid", 13) ∈ xStr := List.mem_of_getElem? (i := 14) rfl
theorem t779 : ("NoonMeals$Reader", 207, "at", 14) ∈ xStr := List.mem_of_getElem? (i := 15) rfl
theorem t780 : ("NoonMeals$Reader", 181, "adds", 15) ∈ xStr := List.mem_of_getElem? (i := 16) rfl
theorem t802 : ("NoonMeals$Reader", 220, "of", 16) ∈ xStr := List.mem_of_getElem? (i := 17) rfl
theorem t835 : ("NoonMeals$Reader", 227, "costs", 17) ∈ xStr := List.mem_of_getElem? (i := 18) rfl
theorem t853 : ("NoonMeals$Reader", 241, "bars", 18) ∈ xStr := List.mem_of_getElem? (i := 19) rfl
theorem t895 : ("NoonMeals$Reader", 253, "eats", 19) ∈ xStr := List.mem_of_getElem? (i := 20) rfl
theorem t896 : ("NoonMeals$Reader", 258, "doors", 20) ∈ xStr := List.mem_of_getElem? (i := 21) rfl
theorem t897 : ("NoonMeals$Reader", 262, "tea", 21) ∈ xStr := List.mem_of_getElem? (i := 22) rfl
theorem t898 : ("NoonMeals$Reader", 266, "chance", 22) ∈ xStr := List.mem_of_getElem? (i := 23) rfl
theorem t899 : ("NoonMeals$Reader", 270, "need", 23) ∈ xStr := List.mem_of_getElem? (i := 24) rfl
theorem t937 : ("NoonMeals$Reader", 285, "from", 24) ∈ xStr := List.mem_of_getElem? (i := 25) rfl
theorem t938 : ("NoonMeals$Reader", 290, "starts", 25) ∈ xStr := List.mem_of_getElem? (i := 26) rfl
theorem t939 : ("NoonMeals$Reader", 294, "holds", 26) ∈ xStr := List.mem_of_getElem? (i := 27) rfl
theorem t940 : ("NoonMeals$Reader", 298, "cools", 27) ∈ xStr := List.mem_of_getElem? (i := 28) rfl
theorem t962 : ("NoonMeals$Reader", 315, "takes", 28) ∈ xStr := List.mem_of_getElem? (i := 29) rfl
theorem t984 : ("NoonMeals$Reader", 329, "days", 29) ∈ xStr := List.mem_of_getElem? (i := 30) rfl
theorem t988 : ("NoonMeals$Reader", 337, "most", 30) ∈ xStr := List.mem_of_getElem? (i := 31) rfl
theorem t1625 : ("NoonMealsModel", 165, "law", 1) ∈ xStr := List.mem_of_getElem? (i := 32) rfl
theorem t1643 : ("NoonMealsModel", 256, "hot", 10) ∈ xStr := List.mem_of_getElem? (i := 33) rfl
theorem t1659 : ("NoonMealsModel", 261, "by", 11) ∈ xStr := List.mem_of_getElem? (i := 34) rfl
theorem t1660 : ("NoonMealsModel", 167, "kitchen", 2) ∈ xStr := List.mem_of_getElem? (i := 35) rfl
theorem t1673 : ("NoonMealsModel", 169, "flood", 3) ∈ xStr := List.mem_of_getElem? (i := 36) rfl
theorem t1674 : ("NoonMealsModel", 171, "dish", 4) ∈ xStr := List.mem_of_getElem? (i := 37) rfl
theorem t1675 : ("NoonMealsModel", 173, "diet", 5) ∈ xStr := List.mem_of_getElem? (i := 38) rfl
theorem t1676 : ("NoonMealsModel", 175, "house", 6) ∈ xStr := List.mem_of_getElem? (i := 39) rfl
theorem t1677 : ("NoonMealsModel", 177, "car", 7) ∈ xStr := List.mem_of_getElem? (i := 40) rfl
theorem t1678 : ("NoonMealsModel", 179, "call", 8) ∈ xStr := List.mem_of_getElem? (i := 41) rfl
theorem t1679 : ("NoonMealsModel", 181, "helper", 9) ∈ xStr := List.mem_of_getElem? (i := 42) rfl
theorem t1680 : ("NoonMealsModel", 183, "dog", 12) ∈ xStr := List.mem_of_getElem? (i := 43) rfl
theorem t1681 : ("NoonMealsModel", 185, "afraid", 13) ∈ xStr := List.mem_of_getElem? (i := 44) rfl
theorem t1686 : ("NoonMealsModel", 272, "at", 14) ∈ xStr := List.mem_of_getElem? (i := 45) rfl
theorem t1691 : ("NoonMealsModel", 282, "adds", 15) ∈ xStr := List.mem_of_getElem? (i := 46) rfl
theorem t1696 : ("NoonMealsModel", 293, "of", 16) ∈ xStr := List.mem_of_getElem? (i := 47) rfl
theorem t1701 : ("NoonMealsModel", 298, "costs", 17) ∈ xStr := List.mem_of_getElem? (i := 48) rfl
theorem t1706 : ("NoonMealsModel", 309, "bars", 18) ∈ xStr := List.mem_of_getElem? (i := 49) rfl
theorem t1711 : ("NoonMealsModel", 313, "eats", 19) ∈ xStr := List.mem_of_getElem? (i := 50) rfl
theorem t1716 : ("NoonMealsModel", 318, "doors", 20) ∈ xStr := List.mem_of_getElem? (i := 51) rfl
theorem t1717 : ("NoonMealsModel", 320, "tea", 21) ∈ xStr := List.mem_of_getElem? (i := 52) rfl
theorem t1718 : ("NoonMealsModel", 322, "chance", 22) ∈ xStr := List.mem_of_getElem? (i := 53) rfl
theorem t1719 : ("NoonMealsModel", 324, "need", 23) ∈ xStr := List.mem_of_getElem? (i := 54) rfl
theorem t1728 : ("NoonMealsModel", 346, "from", 24) ∈ xStr := List.mem_of_getElem? (i := 55) rfl
theorem t1729 : ("NoonMealsModel", 348, "starts", 25) ∈ xStr := List.mem_of_getElem? (i := 56) rfl
theorem t1730 : ("NoonMealsModel", 350, "holds", 26) ∈ xStr := List.mem_of_getElem? (i := 57) rfl
theorem t1731 : ("NoonMealsModel", 352, "cools", 27) ∈ xStr := List.mem_of_getElem? (i := 58) rfl
theorem t1736 : ("NoonMealsModel", 368, "takes", 28) ∈ xStr := List.mem_of_getElem? (i := 59) rfl
theorem t1741 : ("NoonMealsModel", 378, "days", 29) ∈ xStr := List.mem_of_getElem? (i := 60) rfl
theorem t1746 : ("NoonMealsModel", 380, "most", 30) ∈ xStr := List.mem_of_getElem? (i := 61) rfl
def xZi : List (String × String × String × Int32) := [("java/lang/String", "COMPACT_STRINGS", "Z", 1), ("java/lang/StringUTF16", "$assertionsDisabled", "Z", 1), ("java/lang/StringUTF16", "HI_BYTE_SHIFT", "I", 0), ("java/lang/StringUTF16", "LO_BYTE_SHIFT", "I", 8)]
def xZr : List (String × String × String × Nat) := [("java/lang/Throwable", "UNASSIGNED_STACK", "[Ljava/lang/StackTraceElement;", 0), ("java/lang/Throwable", "SUPPRESSED_SENTINEL", "Ljava/util/List;", 1), ("jdk/internal/util/Preconditions", "SIOOBE_FORMATTER", "Ljava/util/function/BiFunction;", 2)]
/-! CORE: an abstract heap by address; contracts Ct and a judgement X over it; a row an instruction -/
set_option maxRecDepth 100000
def xCl : List vw_C := [(RX1, TX1, 41), (RX2, TX2, 10), (RX3, TX3, 8), (RX4, TX4, 4), (RX5, TX5, 46), (RX6, TX6, 19), (RX8, TX8, 4), (RX9, TX9, 4), (RX10, TX10, 3), (RX11, TX11, 9), (RX12, TX12, 7), (RX13, TX13, 4), (RX14, TX14, 4), (RX15, TX15, 37), (RJ3, TJ3, 4)]
def xTy : List FieldType := [.int, .byte, .char, .long, .boolean, .object RX4, .object RX8, .object RX9, .object RX10, .object RX11, .object RX12, .object RX13, .object RX14]
abbrev Vl : Type := Int32 ⊕ (Int64 ⊕ Option Nat)
abbrev vI (x : Int32) : Vl := .inl x
abbrev vL (x : Int64) : Vl := .inr (.inl x)
abbrev vR (r : Option Nat) : Vl := .inr (.inr r)
def vv (v : Vl) : Value := match v with
  | .inl x => .int x
  | .inr (.inl x) => .long x
  | .inr (.inr r) => va_rf r
def vcat (v : Vl) : Nat := match v with
  | .inr (.inl _) => 2
  | _ => 1
theorem vcat_eq (v : Vl) : (vv v).category = vcat v := by
  rcases v with x | x | x
  · rfl
  · rfl
  · cases x <;> rfl
abbrev Ob : Type := (Nat × (Nat → Value)) ⊕ (Nat × vp_A)
abbrev Hp : Type := (Nat → Option Ob) × Nat × Nat × Nat × (Nat → Nat) × (Nat → Option Nat)
abbrev hsz (h : Hp) : Nat := h.2.1
abbrev hbc (h : Hp) : Nat := h.2.2.1
abbrev hbs (h : Hp) : Nat := h.2.2.2.1
abbrev hco (h : Hp) : (Nat → Nat) × (Nat → Option Nat) := h.2.2.2.2
abbrev Dd : Type := (Nat → ClassId) × (Nat → Nat → Nat) × (Nat → ClassId)
abbrev Cx : Type := Program × Launch × Env × Room × State × MethodId × Array Value × List Frame × Method × Code
abbrev Ot : Type := Option Vl ⊕ Nat
abbrev Gx : Type := Hp × Ot × Hp
def vp_val (z : (Nat → Int32) ⊕ (Nat → Int64) ⊕ (Nat → UInt32) ⊕ (Nat → UInt64) ⊕ (Nat → Option Nat)) (j : Nat) : Value := match z with
  | .inl f => .int (f j)
  | .inr (.inl f) => .long (f j)
  | .inr (.inr (.inl f)) => .float (f j)
  | .inr (.inr (.inr (.inl f))) => .double (f j)
  | .inr (.inr (.inr (.inr f))) => va_rf (f j)
/-- what stands at an address: from fz on exactly so; below (never written) by what is read of it -/
def hat (D : Dd) (fz : Nat) (U : State) (q : Nat) (o : Ob) (H : Heap) : Prop := match o with
  | .inl a => ∃ (r : vw_C) (cell : Cell), xCl[a.1]? = some r ∧ H[q]? = some cell ∧ cell.cls = D.1 a.1 ∧ cell.vm.isStatics = false ∧ cell.vm ≠ .unknown ∧ (fz ≤ q → cell.vm = .none) ∧ ∀ k, k < r.2.2 → cell.slots[D.2.1 a.1 k]? = some (a.2 k)
  | .inr a => (fz ≤ q → H[q]? = some (vp_cell (D.2.2 a.1) a.2)) ∧ ∃ (cell : Cell) (ty : FieldType), H[q]? = some cell ∧ xTy[a.1]? = some ty ∧ U.isArrayOf cell ty ∧ cell.vm ≠ .unknown ∧ (a.2.1 ≤ cell.slots.size ∧ cell.slots.size.toInt32 = Int32.ofNat a.2.1) ∧ ∀ j, j < a.2.1 → cell.slots[j]? = some (vp_val a.2.2 j)
theorem hat.kept {D : Dd} {fz : Nat} {U : State} {q : Nat} {o : Ob} {H H1 : Heap} (h : hat D fz U q o H) (e : H1[q]? = H[q]?) : hat D fz U q o H1 := by
  cases o with
  | inl a =>
    obtain ⟨r, cell, h1, h2, h3⟩ := h
    exact ⟨r, cell, h1, e.trans h2, h3⟩
  | inr a =>
    obtain ⟨h0, cell, ty, h1, h2⟩ := h
    exact ⟨fun z => e.trans (h0 z), cell, ty, e.trans h1, h2⟩
theorem hat.lt {D : Dd} {fz : Nat} {U : State} {q : Nat} {o : Ob} {H : Heap} (h : hat D fz U q o H) : q < H.size := by
  cases o with
  | inl a =>
    obtain ⟨r, cell, h1, h2, -⟩ := h
    exact (Array.getElem?_eq_some_iff.mp h2).1
  | inr a =>
    obtain ⟨h0, cell, ty, h1, -⟩ := h
    exact (Array.getElem?_eq_some_iff.mp h1).1
theorem hat.moved {D : Dd} {fz : Nat} {u U : State} {q : Nat} {o : Ob} {H : Heap} (hv : u.vm.Alike U.vm) (h : hat D fz u q o H) : hat D fz U q o H := by
  cases o with
  | inl a => exact h
  | inr a =>
    obtain ⟨h0, cell, ty, h1, h2, h3, h4⟩ := h
    exact ⟨h0, cell, ty, h1, h2, State.isArrayOf_alike hv h3, h4⟩
theorem hat.obj {D : Dd} {fz : Nat} {U : State} {q c : Nat} {r : vw_C} {F : Nat → Value} {H : Heap} (hc : xCl[c]? = some r) (h : t_OB q (D.1 c) r.2.2 (D.2.1 c) H F) : hat D fz U q (.inl (c, F)) H := by
  obtain ⟨cell, h1, h2, h3, h4⟩ := h
  exact ⟨r, cell, hc, h1, h2, by rw [h3]; rfl, (by rw [h3]; exact fun z => (by cases z)), fun _ => h3, h4⟩
theorem hat.arr {D : Dd} {fz : Nat} {U : State} {q t : Nat} {z : vp_A} {ty : FieldType} {H : Heap} (hA : ArrOfT U (D.2.2 t) ty) (ht : xTy[t]? = some ty) (h : H[q]? = some (vp_cell (D.2.2 t) z)) : hat D fz U q (.inr (t, z)) H := by
  refine ⟨fun _ => h, _, ty, h, ht, ?_⟩
  obtain ⟨n, f | f | f | f | f⟩ := z
  · exact ⟨hA n (fun j => .int (f j)), fun z => (by cases z), ⟨Nat.le_of_eq (arrV_size _ _ _).symm, congrArg Nat.toInt32 (arrV_size _ _ _)⟩, fun j hj => arrV_read _ _ hj⟩
  · exact ⟨hA n (fun j => .long (f j)), fun z => (by cases z), ⟨Nat.le_of_eq (arrV_size _ _ _).symm, congrArg Nat.toInt32 (arrV_size _ _ _)⟩, fun j hj => arrV_read _ _ hj⟩
  · exact ⟨hA n (fun j => .float (f j)), fun z => (by cases z), ⟨Nat.le_of_eq (arrV_size _ _ _).symm, congrArg Nat.toInt32 (arrV_size _ _ _)⟩, fun j hj => arrV_read _ _ hj⟩
  · exact ⟨hA n (fun j => .double (f j)), fun z => (by cases z), ⟨Nat.le_of_eq (arrV_size _ _ _).symm, congrArg Nat.toInt32 (arrV_size _ _ _)⟩, fun j hj => arrV_read _ _ hj⟩
  · exact ⟨hA n (fun j => va_rf (f j)), fun z => (by cases z), ⟨Nat.le_of_eq (arrV_size _ _ _).symm, congrArg Nat.toInt32 (arrV_size _ _ _)⟩, fun j hj => arrV_read _ _ hj⟩
/-- cells below this place are never written -/
abbrev hfz (h : Hp) : Nat := (hco h).1 1001
def XA (h : Hp) : Nat → Prop := fun q => (h.1 q ≠ none ∧ hfz h ≤ q) ∨ hsz h ≤ q
def HP (D : Dd) (h : Hp) (U : State) (H : Heap) : Prop := (∀ (q : Nat) (o : Ob), h.1 q = some o → hat D (hfz h) U q o H) ∧ H.size = hsz h
theorem HP.moved {D : Dd} {h : Hp} {u U : State} {H : Heap} (hv : u.vm.Alike U.vm) (hP : HP D h u H) : HP D h U H := ⟨fun q o e => (hP.1 q o e).moved hv, hP.2⟩
def xTys (D : Dd) : List (ClassId × FieldType) := xTy.zipIdx.map (fun p => (D.2.2 p.2, p.1))
def xK (D : Dd) (U : State) : Prop := va_K (D.1, D.2.1) xCl (xTys D) U
def KX (D : Dd) (co : (Nat → Nat) × (Nat → Option Nat)) (U : State) : Prop := xK D U ∧ (∀ w ∈ xWd, va_Nw w U) ∧ (∀ q ∈ xNc, va_Nc q.1 q.2 U) ∧ (∀ q ∈ xStr, vk_R q.1 q.2.1 q.2.2.1 (co.1 q.2.2.2) U) ∧ ∀ Cn ∈ xAo, va_AO Cn U
def ZX (co : (Nat → Nat) × (Nat → Option Nat)) (A : Nat → Prop) (U : State) (H : Heap) : Prop := (∀ q ∈ xZi, va_Z q.1 q.2.1 q.2.2.1 (.int q.2.2.2) A U H) ∧ ∀ q ∈ xZr, va_Z q.1 q.2.1 q.2.2.1 (va_rf (co.2 q.2.2.2)) A U H ∧ vx_L q.1 q.2.1 q.2.2.1 A U H
theorem KX.warm {D : Dd} {co : (Nat → Nat) × (Nat → Option Nat)} {s U : State} (hW : s.WarmedH U.vm) (h : KX D co s) : KX D co U :=
  ⟨va_K.moved hW.alike h.1, fun w hw => xWd_mv w hw hW (h.2.1 w hw), fun q hq => va_Nc.moved hW.alike (h.2.2.1 q hq), fun q hq => vk_R.warm hW (h.2.2.2.1 q hq), fun c hc => va_AO.moved hW.alike (h.2.2.2.2 c hc)⟩
theorem KX.same {D : Dd} {co : (Nat → Nat) × (Nat → Option Nat)} {s U : State} (hv : U.vm = s.vm) (h : KX D co s) : KX D co U :=
  ⟨va_K.moved (by rw [hv]; exact Vm.Alike.refl _) h.1, fun w hw => va_Nw.same (xWd_on w hw) hv.symm (h.2.1 w hw), fun q hq => va_Nc.moved (by rw [hv]; exact Vm.Alike.refl _) (h.2.2.1 q hq), fun q hq => vk_R.same hv (h.2.2.2.1 q hq), fun c hc => va_AO.moved (by rw [hv]; exact Vm.Alike.refl _) (h.2.2.2.2 c hc)⟩
theorem ZX.moved {co : (Nat → Nat) × (Nat → Option Nat)} {A : Nat → Prop} {s U : State} {H : Heap} (hv : s.vm.Alike U.vm) (h : ZX co A s H) : ZX co A U H :=
  ⟨fun q hq => va_Z.moved hv (h.1 q hq), fun q hq => ⟨va_Z.moved hv (h.2 q hq).1, vx_L.moved hv (h.2 q hq).2⟩⟩
theorem ZX.kept {co : (Nat → Nat) × (Nat → Option Nat)} {A : Nat → Prop} {s : State} {H H1 : Heap} (h : ZX co A s H) (hq : ∀ a : Nat, a < H.size → ¬ A a → H1[a]? = H[a]?) : ZX co A s H1 :=
  ⟨fun q hq' => va_Z.kept (h.1 q hq') hq, fun q hq' => ⟨va_Z.kept (h.2 q hq').1 hq, vx_L.kept (h.2 q hq').2 hq⟩⟩
theorem ZX.narrow {co : (Nat → Nat) × (Nat → Option Nat)} {A B : Nat → Prop} {s : State} {H : Heap} (h : ZX co A s H) (hAB : ∀ q, B q → A q) : ZX co B s H :=
  ⟨fun q hq => va_Z.narrow (h.1 q hq) hAB, fun q hq => ⟨va_Z.narrow (h.2 q hq).1 hAB, vx_L.narrow (h.2 q hq).2 hAB⟩⟩
/-- which exceptions there are: objects of Refused, and others made by the JDK's constructor -/
def xEn (h : Hp) (q : Nat) : String := match h.1 q with
  | none => "java/util/NoSuchElementException"
  | some _ => "NoonMeals$Refused"
def x_post (D : Dd) (G : Gx) (st t : State) : Prop := HP D G.2.2 t t.heap ∧ (∀ q, q < hsz G.1 → G.1.1 q = none → G.2.2.1 q = none) ∧ va_F (XA G.1) st t ∧ hbc G.2.2 ≤ hbc G.1 ∧ hbs G.2.2 ≤ hbs G.1 ∧ hco G.2.2 = hco G.1
def x_Qc (D : Dd) (G : Gx) : Array Value → State → Outcome → State → Prop := fun _ st oc t => (∃ v : Option Vl, G.2.1 = .inl v ∧ oc = .returned (v.map vv)) ∧ x_post D G st t
def x_XC (D : Dd) (G : Gx) (q : Addr) (E : String) (st t : State) : Prop := G.2.1 = .inr q ∧ E = xEn G.2.2 q ∧ x_post D G st t
def x_Q (D : Dd) (G : Gx) (mc ms : Nat) (free : Addr → Prop) : Array Value → State → Outcome → State → Prop := fun a st o t =>
  (x_Qc D G a st o t ∧ ∃ L, FrameEnd st o t L mc ms ∧ ∀ q ∈ L, free q.base) ∨ ∃ q, o = .threw q ∧ ∃ (E : String) (ce : Cell) (L : List Loc), x_XC D G q E st t ∧ t.heap[q]? = some ce ∧ ce.vm = .none ∧ st.vm.findClass E = some ce.cls ∧ st.WarmedH t.vm ∧ st.sameButNew ({ t with vm := st.vm } : State) L mc ms ∧ ∀ z ∈ L, free z.base
def x_Pc (D : Dd) (av : List Vl) (h : Hp) : Array Value → State → Prop := fun v U => v = (av.map vv).toArray ∧ HP D h U U.heap ∧ KX D (hco h) U ∧ ZX (hco h) (XA h) U U.heap
abbrev xrm (F LL : Nat) (h : Hp) : Room := { frames := F, cells := hbc h, slots := hbs h, locals := LL }
def CtW (D : Dd) (F LL : Nat) (y : MethodName) (ws : List Cond) (av : List Vl) (h : Hp) (o : Ot) (h' : Hp) : Prop := ∀ l : Launch, l.stackTraces = false →
  MetFree l y (headSpec ws (xrm F LL h)) (x_Pc D av h) (fun _ _ _ _ _ => True) (x_Q D (h, o, h') (hbc h - hbc h') (hbs h - hbs h') (XA h))
abbrev Ct (D : Dd) (F LL : Nat) (y : MethodName) (cc : ByteArray) (nL : Nat) (ret : Option FieldType) (av : List Vl) (h : Hp) (o : Ot) (h' : Hp) : Prop := CtW D F LL y (ws_ y cc nL ret) av h o h'
theorem x_blind {D : Dd} {av : List Vl} {h : Hp} : FrameBlind (x_Pc D av h) := by
  intro a U g mk hp
  obtain ⟨h1, h2, h3, h4⟩ := hp
  exact ⟨h1, HP.moved (u := U) (Vm.Alike.refl U.vm) h2, KX.same (s := U) rfl h3, ZX.moved (Vm.Alike.refl U.vm) h4⟩
abbrev cp (C : Cx) : Program := C.1
abbrev cl_ (C : Cx) : Launch := C.2.1
abbrev ce_ (C : Cx) : Env := C.2.2.1
abbrev cR (C : Cx) : Room := C.2.2.2.1
abbrev cs_ (C : Cx) : State := C.2.2.2.2.1
abbrev cm (C : Cx) : MethodId := C.2.2.2.2.2.1
abbrev ca (C : Cx) : Array Value := C.2.2.2.2.2.2.1
abbrev cb_ (C : Cx) : List Frame := C.2.2.2.2.2.2.2.1
abbrev ct_ (C : Cx) : Method := C.2.2.2.2.2.2.2.2.1
abbrev cc_ (C : Cx) : Code := C.2.2.2.2.2.2.2.2.2
def Act (C : Cx) (D : Dd) (G : Gx) (y : MethodName) (cc : ByteArray) (nL : Nat) (ret : Option FieldType) (F LL : Nat) (tb : List (Nat × Nat × Nat × Nat)) : Prop :=
  (cp C).tables.exec = Jvm.exec ∧ (cc_ C).code = cc ∧ (ct_ C).sig.returnType = ret ∧ (cc_ C).maxLocals = nL ∧ (cs_ C).vm.findClass y.cls = some (cm C).cls ∧ (∀ w ∈ lw_all, w.before (ca C) (cs_ C) = true) ∧ KX D (hco G.1) (cs_ C) ∧ ZX (hco G.1) (XA G.1) (cs_ C) (cs_ C).heap ∧ (ct_ C).locks = false ∧ (cR C) = xrm F LL G.1 ∧ (cc_ C).exceptionTable.toList = tableOf tb ∧ (cl_ C).stackTraces = false ∧ (ct_ C).name = y.name ∧ (cs_ C).heap.size = hsz G.1
def HR (C : Cx) (D : Dd) (h0 h : Hp) (H : Heap) (locs : List Loc) (cells slots : Nat) : Prop :=
  HP D h (cs_ C) H ∧ (∀ q, q < hsz h0 → h0.1 q = none → h.1 q = none) ∧ va_S (XA h0) (cs_ C).heap H locs ∧ cells + hbc h = hbc h0 ∧ slots + hbs h = hbs h0 ∧ hco h = hco h0
abbrev xL (L : List (Nat × Vl)) : List (Nat × Value) := L.map (fun q => (q.1, vv q.2))
abbrev xS (st : List Vl) : List Value := st.map vv
def XQ (C : Cx) (D : Dd) (G : Gx) : State → Prop := fun t => ∃ o, t.status = .running ∧ Ended t (cb_ C) o ∧ x_Q D G (hbc G.1 - hbc G.2.2) (hbs G.1 - hbs G.2.2) (XA G.1) (ca C) (cs_ C) o t
def X (C : Cx) (D : Dd) (G : Gx) (nL pc : Nat) (L : List (Nat × Vl)) (st : List Vl) (h : Hp) : Prop :=
  ∀ (ls : Array Slot) (H : Heap) (locs : List Loc) (cells slots : Nat), lv_has ls nL (xL L) → HR C D G.1 h H locs cells slots → W (cp C) (cl_ C) (ce_ C) (cR C) (cs_ C) (cm C) (ca C) (cb_ C) (ct_ C) (cc_ C) H locs cells slots (XQ C D G) (F0 (cm C) pc ls (xS st))
def XT (C : Cx) (D : Dd) (G : Gx) (nL pc : Nat) (L : List (Nat × Vl)) (h : Hp) (q : Nat) : Prop :=
  ∀ (ls : Array Slot) (H : Heap) (locs : List Loc) (cells slots : Nat) (rest : List Value), lv_has ls nL (xL L) → HR C D G.1 h H locs cells slots → (∃ ce : Cell, H[q]? = some ce ∧ ce.vm = .none ∧ (cs_ C).vm.findClass (xEn h q) = some ce.cls) → vx_W (cp C) (cl_ C) (ce_ C) (cR C) (cs_ C) (cm C) (ca C) (cb_ C) (ct_ C) (cc_ C) H locs cells slots (XQ C D G) (F0 (cm C) pc ls rest) q
/-- the arguments as locals -/
def xArgs : Nat → List Vl → List (Nat × Vl)
  | _, [] => []
  | i, v :: r => (i, v) :: xArgs (i + vcat v) r
/-! CORE: rows of instructions that don't touch the heap -/
section XR1
variable {C : Cx} {D : Dd} {G : Gx} {y : MethodName} {cc : ByteArray} {nL : Nat} {ret : Option FieldType} {F LL : Nat} {tb : List (Nat × Nat × Nat × Nat)} {pc : Nat} {L : List (Nat × Vl)} {st : List Vl} {h : Hp}
theorem xr_iconst (A : Act C D G y cc nL ret F LL tb) {n : Int} {v : Int32} (d : decode cc pc = .ok (.iconst n, 1)) (hv : Int32.ofInt n = v) (k : X C D G nL (pc + 1) L (vI v :: st) h) : X C D G nL pc L st h := by
  obtain ⟨hx, hb, -⟩ := A
  intro ls H locs cells slots hl hr
  exact lv_iconst hx hb d hv (k ls H locs cells slots hl hr)
theorem xr_bipush (A : Act C D G y cc nL ret F LL tb) {n : Int} {v : Int32} (d : decode cc pc = .ok (.bipush n, 2)) (hv : (Int8.ofInt n).toInt32 = v) (k : X C D G nL (pc + 2) L (vI v :: st) h) : X C D G nL pc L st h := by
  obtain ⟨hx, hb, -⟩ := A
  intro ls H locs cells slots hl hr
  exact lv_bipush hx hb d hv (k ls H locs cells slots hl hr)
theorem xr_sipush (A : Act C D G y cc nL ret F LL tb) {n : Int} {v : Int32} (d : decode cc pc = .ok (.sipush n, 3)) (hv : (Int16.ofInt n).toInt32 = v) (k : X C D G nL (pc + 3) L (vI v :: st) h) : X C D G nL pc L st h := by
  obtain ⟨hx, hb, -⟩ := A
  intro ls H locs cells slots hl hr
  exact lv_sipush hx hb d hv (k ls H locs cells slots hl hr)
theorem xr_lconst (A : Act C D G y cc nL ret F LL tb) {n : Fin 2} {v : Int64} (d : decode cc pc = .ok (.lconst n, 1)) (hv : Int64.ofNat (n : Nat) = v) (k : X C D G nL (pc + 1) L (vL v :: st) h) : X C D G nL pc L st h := by
  obtain ⟨hx, hb, -⟩ := A
  intro ls H locs cells slots hl hr
  exact lv_lconst hx hb d hv (k ls H locs cells slots hl hr)
theorem xr_null (A : Act C D G y cc nL ret F LL tb) (d : decode cc pc = .ok (.aconst_null, 1)) (k : X C D G nL (pc + 1) L (vR none :: st) h) : X C D G nL pc L st h := by
  obtain ⟨hx, hb, -⟩ := A
  intro ls H locs cells slots hl hr
  exact lv_null hx hb d (k ls H locs cells slots hl hr)
theorem xr_iadd (A : Act C D G y cc nL ret F LL tb) {x y' : Int32} (d : decode cc pc = .ok (.iadd, 1)) (k : X C D G nL (pc + 1) L (vI (x + y') :: st) h) : X C D G nL pc L (vI y' :: vI x :: st) h := by
  obtain ⟨hx, hb, -⟩ := A
  intro ls H locs cells slots hl hr
  exact lv_iadd hx hb d (k ls H locs cells slots hl hr)
theorem xr_isub (A : Act C D G y cc nL ret F LL tb) {x y' : Int32} (d : decode cc pc = .ok (.isub, 1)) (k : X C D G nL (pc + 1) L (vI (x - y') :: st) h) : X C D G nL pc L (vI y' :: vI x :: st) h := by
  obtain ⟨hx, hb, -⟩ := A
  intro ls H locs cells slots hl hr
  exact lv_isub hx hb d (k ls H locs cells slots hl hr)
theorem xr_imul (A : Act C D G y cc nL ret F LL tb) {x y' : Int32} (d : decode cc pc = .ok (.imul, 1)) (k : X C D G nL (pc + 1) L (vI (x * y') :: st) h) : X C D G nL pc L (vI y' :: vI x :: st) h := by
  obtain ⟨hx, hb, -⟩ := A
  intro ls H locs cells slots hl hr
  exact lv_imul hx hb d (k ls H locs cells slots hl hr)
theorem xr_iand (A : Act C D G y cc nL ret F LL tb) {x y' : Int32} (d : decode cc pc = .ok (.iand, 1)) (k : X C D G nL (pc + 1) L (vI (x &&& y') :: st) h) : X C D G nL pc L (vI y' :: vI x :: st) h := by
  obtain ⟨hx, hb, -⟩ := A
  intro ls H locs cells slots hl hr
  exact lv_iand hx hb d (k ls H locs cells slots hl hr)
theorem xr_ior (A : Act C D G y cc nL ret F LL tb) {x y' : Int32} (d : decode cc pc = .ok (.ior, 1)) (k : X C D G nL (pc + 1) L (vI (x ||| y') :: st) h) : X C D G nL pc L (vI y' :: vI x :: st) h := by
  obtain ⟨hx, hb, -⟩ := A
  intro ls H locs cells slots hl hr
  exact lv_ior hx hb d (k ls H locs cells slots hl hr)
theorem xr_ixor (A : Act C D G y cc nL ret F LL tb) {x y' : Int32} (d : decode cc pc = .ok (.ixor, 1)) (k : X C D G nL (pc + 1) L (vI (x ^^^ y') :: st) h) : X C D G nL pc L (vI y' :: vI x :: st) h := by
  obtain ⟨hx, hb, -⟩ := A
  intro ls H locs cells slots hl hr
  exact lv_ixor hx hb d (k ls H locs cells slots hl hr)
theorem xr_ishl (A : Act C D G y cc nL ret F LL tb) {x y' : Int32} (d : decode cc pc = .ok (.ishl, 1)) (k : X C D G nL (pc + 1) L (vI (x <<< (y' &&& 31)) :: st) h) : X C D G nL pc L (vI y' :: vI x :: st) h := by
  obtain ⟨hx, hb, -⟩ := A
  intro ls H locs cells slots hl hr
  exact lv_ishl hx hb d (k ls H locs cells slots hl hr)
theorem xr_ishr (A : Act C D G y cc nL ret F LL tb) {x y' : Int32} (d : decode cc pc = .ok (.ishr, 1)) (k : X C D G nL (pc + 1) L (vI (x >>> (y' &&& 31)) :: st) h) : X C D G nL pc L (vI y' :: vI x :: st) h := by
  obtain ⟨hx, hb, -⟩ := A
  intro ls H locs cells slots hl hr
  exact lv_ishr hx hb d (k ls H locs cells slots hl hr)
theorem xr_ladd (A : Act C D G y cc nL ret F LL tb) {x y' : Int64} (d : decode cc pc = .ok (.ladd, 1)) (k : X C D G nL (pc + 1) L (vL (x + y') :: st) h) : X C D G nL pc L (vL y' :: vL x :: st) h := by
  obtain ⟨hx, hb, -⟩ := A
  intro ls H locs cells slots hl hr
  exact lv_ladd hx hb d (k ls H locs cells slots hl hr)
theorem xr_lsub (A : Act C D G y cc nL ret F LL tb) {x y' : Int64} (d : decode cc pc = .ok (.lsub, 1)) (k : X C D G nL (pc + 1) L (vL (x - y') :: st) h) : X C D G nL pc L (vL y' :: vL x :: st) h := by
  obtain ⟨hx, hb, -⟩ := A
  intro ls H locs cells slots hl hr
  exact lv_lsub hx hb d (k ls H locs cells slots hl hr)
theorem xr_lmul (A : Act C D G y cc nL ret F LL tb) {x y' : Int64} (d : decode cc pc = .ok (.lmul, 1)) (k : X C D G nL (pc + 1) L (vL (x * y') :: st) h) : X C D G nL pc L (vL y' :: vL x :: st) h := by
  obtain ⟨hx, hb, -⟩ := A
  intro ls H locs cells slots hl hr
  exact lv_lmul hx hb d (k ls H locs cells slots hl hr)
theorem xr_idiv (A : Act C D G y cc nL ret F LL tb) {x y' : Int32} (d : decode cc pc = .ok (.idiv, 1)) (hne : ¬ y' = 0) (k : X C D G nL (pc + 1) L (vI (x / y') :: st) h) : X C D G nL pc L (vI y' :: vI x :: st) h := by
  obtain ⟨hx, hb, -⟩ := A
  intro ls H locs cells slots hl hr
  exact lv_idiv hx hb d hne (k ls H locs cells slots hl hr)
theorem xr_irem (A : Act C D G y cc nL ret F LL tb) {x y' : Int32} (d : decode cc pc = .ok (.irem, 1)) (hne : ¬ y' = 0) (k : X C D G nL (pc + 1) L (vI (x - x / y' * y') :: st) h) : X C D G nL pc L (vI y' :: vI x :: st) h := by
  obtain ⟨hx, hb, -⟩ := A
  intro ls H locs cells slots hl hr
  exact lv_irem hx hb d hne (k ls H locs cells slots hl hr)
theorem xr_ldiv (A : Act C D G y cc nL ret F LL tb) {x y' : Int64} (d : decode cc pc = .ok (.ldiv, 1)) (hne : ¬ y' = 0) (k : X C D G nL (pc + 1) L (vL (x / y') :: st) h) : X C D G nL pc L (vL y' :: vL x :: st) h := by
  obtain ⟨hx, hb, -⟩ := A
  intro ls H locs cells slots hl hr
  exact lv_ldiv hx hb d hne (k ls H locs cells slots hl hr)
theorem xr_ineg (A : Act C D G y cc nL ret F LL tb) {x : Int32} (d : decode cc pc = .ok (.ineg, 1)) (k : X C D G nL (pc + 1) L (vI (-x) :: st) h) : X C D G nL pc L (vI x :: st) h := by
  obtain ⟨hx, hb, -⟩ := A
  intro ls H locs cells slots hl hr
  exact lv_ineg hx hb d (k ls H locs cells slots hl hr)
theorem xr_lcmp (A : Act C D G y cc nL ret F LL tb) {x y' : Int64} (d : decode cc pc = .ok (.lcmp, 1)) (k : X C D G nL (pc + 1) L (vI (lg_cmp x y') :: st) h) : X C D G nL pc L (vL y' :: vL x :: st) h := by
  obtain ⟨hx, hb, -⟩ := A
  intro ls H locs cells slots hl hr
  exact W.lcmp hx hb d (k ls H locs cells slots hl hr)
theorem xr_i2l (A : Act C D G y cc nL ret F LL tb) {x : Int32} (d : decode cc pc = .ok (.i2l, 1)) (k : X C D G nL (pc + 1) L (vL x.toInt64 :: st) h) : X C D G nL pc L (vI x :: st) h := by
  obtain ⟨hx, hb, -⟩ := A
  intro ls H locs cells slots hl hr
  exact lv_i2l hx hb d rfl (k ls H locs cells slots hl hr)
theorem xr_i2b (A : Act C D G y cc nL ret F LL tb) {x : Int32} (d : decode cc pc = .ok (.i2b, 1)) (k : X C D G nL (pc + 1) L (vI x.toInt8.toInt32 :: st) h) : X C D G nL pc L (vI x :: st) h := by
  obtain ⟨hx, hb, -⟩ := A
  intro ls H locs cells slots hl hr
  exact lv_i2b hx hb d rfl (k ls H locs cells slots hl hr)
theorem xr_i2c (A : Act C D G y cc nL ret F LL tb) {x : Int32} (d : decode cc pc = .ok (.i2c, 1)) (k : X C D G nL (pc + 1) L (vI (x.toUInt32 % 65536).toInt32 :: st) h) : X C D G nL pc L (vI x :: st) h := by
  obtain ⟨hx, hb, -⟩ := A
  intro ls H locs cells slots hl hr
  exact lv_i2c hx hb d rfl (k ls H locs cells slots hl hr)
theorem xr_iushr (A : Act C D G y cc nL ret F LL tb) {x y' : Int32} (d : decode cc pc = .ok (.iushr, 1)) (k : X C D G nL (pc + 1) L (vI (x.toUInt32 >>> (y'.toUInt32 &&& Int32.toUInt32 31)).toInt32 :: st) h) : X C D G nL pc L (vI y' :: vI x :: st) h := by
  obtain ⟨hx, hb, -⟩ := A
  intro ls H locs cells slots hl hr
  exact lv_iushr hx hb d rfl (k ls H locs cells slots hl hr)
theorem xr_goto (A : Act C D G y cc nL ret F LL tb) {off : Int} {tgt : Nat} (d : decode cc pc = .ok (.goto off, 3)) (ht : (pc : Int) + off = (tgt : Int)) (k : X C D G nL tgt L st h) : X C D G nL pc L st h := by
  obtain ⟨hx, hb, -⟩ := A
  intro ls H locs cells slots hl hr
  exact lv_goto hx hb d ht (k ls H locs cells slots hl hr)
theorem xr_dup (A : Act C D G y cc nL ret F LL tb) {v : Vl} (d : decode cc pc = .ok (.dup, 1)) (hc : vcat v = 1) (k : X C D G nL (pc + 1) L (v :: v :: st) h) : X C D G nL pc L (v :: st) h := by
  obtain ⟨hx, hb, -⟩ := A
  intro ls H locs cells slots hl hr
  exact lv_dup hx hb d ((vcat_eq v).trans hc) (k ls H locs cells slots hl hr)
theorem xr_pop (A : Act C D G y cc nL ret F LL tb) {v : Vl} (d : decode cc pc = .ok (.pop, 1)) (hc : vcat v = 1) (k : X C D G nL (pc + 1) L st h) : X C D G nL pc L (v :: st) h := by
  obtain ⟨hx, hb, -⟩ := A
  intro ls H locs cells slots hl hr
  exact lv_pop hx hb d ((vcat_eq v).trans hc) (k ls H locs cells slots hl hr)
theorem xr_dup2 (A : Act C D G y cc nL ret F LL tb) {v w : Vl} (d : decode cc pc = .ok (.dup2, 1)) (hc : vcat v = 1) (hc2 : vcat w = 1) (k : X C D G nL (pc + 1) L (v :: w :: v :: w :: st) h) : X C D G nL pc L (v :: w :: st) h := by
  obtain ⟨hx, hb, -⟩ := A
  intro ls H locs cells slots hl hr
  exact lv_dup2_11 hx hb d ((vcat_eq v).trans hc) ((vcat_eq w).trans hc2) (k ls H locs cells slots hl hr)
theorem xr_iload_n (A : Act C D G y cc nL ret F LL tb) {n : Fin 4} {j : Nat} {x : Int32} (d : decode cc pc = .ok (.iload_n n, 1)) (i : Nat) (hj : (n : Nat) = j) (hi : L[i]? = some (j, vI x)) (k : X C D G nL (pc + 1) L (vI x :: st) h) : X C D G nL pc L st h := by
  obtain ⟨hx, hb, -⟩ := A
  intro ls H locs cells slots hl hr
  exact lv_iload_n hx hb d hj (lv_at hl i (by rw [List.getElem?_map, hi]; rfl)) (k ls H locs cells slots hl hr)
theorem xr_iload (A : Act C D G y cc nL ret F LL tb) {j : Nat} {x : Int32} (d : decode cc pc = .ok (.iload j, 2)) (i : Nat) (hi : L[i]? = some (j, vI x)) (k : X C D G nL (pc + 2) L (vI x :: st) h) : X C D G nL pc L st h := by
  obtain ⟨hx, hb, -⟩ := A
  intro ls H locs cells slots hl hr
  exact lv_iload hx hb d (lv_at hl i (by rw [List.getElem?_map, hi]; rfl)) (k ls H locs cells slots hl hr)
theorem xr_lload_n (A : Act C D G y cc nL ret F LL tb) {n : Fin 4} {j : Nat} {x : Int64} (d : decode cc pc = .ok (.lload_n n, 1)) (i : Nat) (hj : (n : Nat) = j) (hi : L[i]? = some (j, vL x)) (k : X C D G nL (pc + 1) L (vL x :: st) h) : X C D G nL pc L st h := by
  obtain ⟨hx, hb, -⟩ := A
  intro ls H locs cells slots hl hr
  exact lv_lload_n hx hb d hj (lv_at hl i (by rw [List.getElem?_map, hi]; rfl)) (k ls H locs cells slots hl hr)
theorem xr_lload (A : Act C D G y cc nL ret F LL tb) {j : Nat} {x : Int64} (d : decode cc pc = .ok (.lload j, 2)) (i : Nat) (hi : L[i]? = some (j, vL x)) (k : X C D G nL (pc + 2) L (vL x :: st) h) : X C D G nL pc L st h := by
  obtain ⟨hx, hb, -⟩ := A
  intro ls H locs cells slots hl hr
  exact lv_lload hx hb d (lv_at hl i (by rw [List.getElem?_map, hi]; rfl)) (k ls H locs cells slots hl hr)
theorem xr_aload_n (A : Act C D G y cc nL ret F LL tb) {n : Fin 4} {j : Nat} {r : Option Nat} (d : decode cc pc = .ok (.aload_n n, 1)) (i : Nat) (hj : (n : Nat) = j) (hi : L[i]? = some (j, vR r)) (k : X C D G nL (pc + 1) L (vR r :: st) h) : X C D G nL pc L st h := by
  obtain ⟨hx, hb, -⟩ := A
  intro ls H locs cells slots hl hr
  have h1 := lv_at hl i (by rw [List.getElem?_map, hi]; rfl)
  cases r with
  | none => exact lv_aload_nN hx hb d hj h1 (k ls H locs cells slots hl hr)
  | some a => exact lv_aload_n hx hb d hj h1 (k ls H locs cells slots hl hr)
theorem xr_aload (A : Act C D G y cc nL ret F LL tb) {j : Nat} {r : Option Nat} (d : decode cc pc = .ok (.aload j, 2)) (i : Nat) (hi : L[i]? = some (j, vR r)) (k : X C D G nL (pc + 2) L (vR r :: st) h) : X C D G nL pc L st h := by
  obtain ⟨hx, hb, -⟩ := A
  intro ls H locs cells slots hl hr
  have h1 := lv_at hl i (by rw [List.getElem?_map, hi]; rfl)
  cases r with
  | none => exact lv_aloadN hx hb d h1 (k ls H locs cells slots hl hr)
  | some a => exact lv_aload hx hb d h1 (k ls H locs cells slots hl hr)
/-- the list of locals behind a store -/
def xst (L : List (Nat × Vl)) (i : Nat) (v : Vl) : List (Nat × Vl) := (i, v) :: L.filter (fun q => !(q.1 == i) && !(q.1 + 1 == i && vcat q.2 == 2))
def xst2 (L : List (Nat × Vl)) (i : Nat) (v : Vl) : List (Nat × Vl) := (i, v) :: L.filter (fun q => !(q.1 == i) && (!(q.1 == i + 1) && !(q.1 + 1 == i && vcat q.2 == 2)))
theorem xst_eq (L : List (Nat × Vl)) (i : Nat) (v : Vl) : (i, vv v) :: (xL L).filter (fun q => !(q.1 == i) && !(q.1 + 1 == i && q.2.category == 2)) = xL (xst L i v) := by
  simp only [xL, xst, List.map_cons, List.filter_map]
  congr 2
  refine congrArg (fun p => List.filter p L) (funext fun q => ?_)
  simp [Function.comp, vcat_eq]
theorem xst2_eq (L : List (Nat × Vl)) (i : Nat) (v : Vl) : (i, vv v) :: (xL L).filter (fun q => !(q.1 == i) && (!(q.1 == i + 1) && !(q.1 + 1 == i && q.2.category == 2))) = xL (xst2 L i v) := by
  simp only [xL, xst2, List.map_cons, List.filter_map]
  congr 2
  refine congrArg (fun p => List.filter p L) (funext fun q => ?_)
  simp [Function.comp, vcat_eq]
theorem xr_istore_n (A : Act C D G y cc nL ret F LL tb) {n : Fin 4} {j : Nat} {x : Int32} (d : decode cc pc = .ok (.istore_n n, 1)) (hj : (n : Nat) = j) (hn : j < nL) {L' : List (Nat × Vl)} (hl' : xst L j (vI x) = L') (k : X C D G nL (pc + 1) L' st h) : X C D G nL pc L (vI x :: st) h := by
  obtain ⟨hx, hb, -⟩ := A
  subst hl'
  intro ls H locs cells slots hl hr
  exact lv_istore_n hx hb d hj hl hn (xst_eq L j (vI x)) (fun ls' hl' => k ls' H locs cells slots hl' hr)
theorem xr_istore (A : Act C D G y cc nL ret F LL tb) {j : Nat} {x : Int32} (d : decode cc pc = .ok (.istore j, 2)) (hn : j < nL) {L' : List (Nat × Vl)} (hl' : xst L j (vI x) = L') (k : X C D G nL (pc + 2) L' st h) : X C D G nL pc L (vI x :: st) h := by
  obtain ⟨hx, hb, -⟩ := A
  subst hl'
  intro ls H locs cells slots hl hr
  exact lv_istore hx hb d hl hn (xst_eq L j (vI x)) (fun ls' hl' => k ls' H locs cells slots hl' hr)
theorem xr_lstore_n (A : Act C D G y cc nL ret F LL tb) {n : Fin 4} {j : Nat} {x : Int64} (d : decode cc pc = .ok (.lstore_n n, 1)) (hj : (n : Nat) = j) (hn : j + 1 < nL) {L' : List (Nat × Vl)} (hl' : xst2 L j (vL x) = L') (k : X C D G nL (pc + 1) L' st h) : X C D G nL pc L (vL x :: st) h := by
  obtain ⟨hx, hb, -⟩ := A
  subst hl'
  intro ls H locs cells slots hl hr
  exact lv_lstore_n hx hb d hj hl hn (xst2_eq L j (vL x)) (fun ls' hl' => k ls' H locs cells slots hl' hr)
theorem xr_lstore (A : Act C D G y cc nL ret F LL tb) {j : Nat} {x : Int64} (d : decode cc pc = .ok (.lstore j, 2)) (hn : j + 1 < nL) {L' : List (Nat × Vl)} (hl' : xst2 L j (vL x) = L') (k : X C D G nL (pc + 2) L' st h) : X C D G nL pc L (vL x :: st) h := by
  obtain ⟨hx, hb, -⟩ := A
  subst hl'
  intro ls H locs cells slots hl hr
  exact lv_lstore hx hb d hl hn (xst2_eq L j (vL x)) (fun ls' hl' => k ls' H locs cells slots hl' hr)
theorem xr_astore_n (A : Act C D G y cc nL ret F LL tb) {n : Fin 4} {j : Nat} {r : Option Nat} (d : decode cc pc = .ok (.astore_n n, 1)) (hj : (n : Nat) = j) (hn : j < nL) {L' : List (Nat × Vl)} (hl' : xst L j (vR r) = L') (k : X C D G nL (pc + 1) L' st h) : X C D G nL pc L (vR r :: st) h := by
  obtain ⟨hx, hb, -⟩ := A
  subst hl'
  intro ls H locs cells slots hl hr
  cases r with
  | none => exact lv_astore_nN hx hb d hj hl hn (xst_eq L j (vR none)) (fun ls' hl' => k ls' H locs cells slots hl' hr)
  | some a => exact lv_astore_n hx hb d hj hl hn (xst_eq L j (vR (some a))) (fun ls' hl' => k ls' H locs cells slots hl' hr)
theorem xr_astore (A : Act C D G y cc nL ret F LL tb) {j : Nat} {r : Option Nat} (d : decode cc pc = .ok (.astore j, 2)) (hn : j < nL) {L' : List (Nat × Vl)} (hl' : xst L j (vR r) = L') (k : X C D G nL (pc + 2) L' st h) : X C D G nL pc L (vR r :: st) h := by
  obtain ⟨hx, hb, -⟩ := A
  subst hl'
  intro ls H locs cells slots hl hr
  cases r with
  | none => exact lv_astoreN hx hb d hl hn (xst_eq L j (vR none)) (fun ls' hl' => k ls' H locs cells slots hl' hr)
  | some a => exact lv_astore hx hb d hl hn (xst_eq L j (vR (some a))) (fun ls' hl' => k ls' H locs cells slots hl' hr)
theorem xr_iinc (A : Act C D G y cc nL ret F LL tb) {j : Nat} {n : Int} {x v : Int32} (d : decode cc pc = .ok (.iinc j n, 3)) (i : Nat) (hi : L[i]? = some (j, vI x)) (hv : x + Int32.ofInt n = v) (hn : j < nL) {L' : List (Nat × Vl)} (hl' : xst L j (vI v) = L') (k : X C D G nL (pc + 3) L' st h) : X C D G nL pc L st h := by
  obtain ⟨hx, hb, -⟩ := A
  subst hl'
  intro ls H locs cells slots hl hr
  exact lv_iinc hx hb d hl (k := i) (by rw [List.getElem?_map, hi]; rfl) hv hn (xst_eq L j (vI v)) (fun ls' hl' => k ls' H locs cells slots hl' hr)
theorem X.sub {L' : List (Nat × Vl)} (ks : List Nat) (hs : ks.filterMap (fun i => L[i]?) = L') (k : X C D G nL pc L' st h) : X C D G nL pc L st h := by
  intro ls H locs cells slots hl hr
  refine k ls H locs cells slots ⟨hl.1, hl.2.1, fun q hq => ?_⟩ hr
  obtain ⟨q0, hq0, rfl⟩ := List.mem_map.mp hq
  rw [← hs] at hq0
  obtain ⟨i, -, hi⟩ := List.mem_filterMap.mp hq0
  exact hl.2.2 _ (List.mem_map.mpr ⟨q0, List.mem_of_getElem? hi, rfl⟩)
theorem xr_if_eq (A : Act C D G y cc nL ret F LL tb) {x : Int32} {off : Int} {tgt : Nat} (d : decode cc pc = .ok (.ifCond .eq off, 3)) (ht : (pc : Int) + off = (tgt : Int)) (kt : x = 0 → X C D G nL tgt L st h) (kf : ¬ x = 0 → X C D G nL (pc + 3) L st h) : X C D G nL pc L (vI x :: st) h := by
  obtain ⟨hx, hb, -⟩ := A
  intro ls H locs cells slots hl hr
  exact lv_if_eq hx hb d ht (fun c => kt c ls H locs cells slots hl hr) (fun c => kf c ls H locs cells slots hl hr)
theorem xr_if_ne (A : Act C D G y cc nL ret F LL tb) {x : Int32} {off : Int} {tgt : Nat} (d : decode cc pc = .ok (.ifCond .ne off, 3)) (ht : (pc : Int) + off = (tgt : Int)) (kt : ¬ x = 0 → X C D G nL tgt L st h) (kf : x = 0 → X C D G nL (pc + 3) L st h) : X C D G nL pc L (vI x :: st) h := by
  obtain ⟨hx, hb, -⟩ := A
  intro ls H locs cells slots hl hr
  exact lv_if_ne hx hb d ht (fun c => kt c ls H locs cells slots hl hr) (fun c => kf c ls H locs cells slots hl hr)
theorem xr_if_lt (A : Act C D G y cc nL ret F LL tb) {x : Int32} {off : Int} {tgt : Nat} (d : decode cc pc = .ok (.ifCond .lt off, 3)) (ht : (pc : Int) + off = (tgt : Int)) (kt : x < 0 → X C D G nL tgt L st h) (kf : ¬ x < 0 → X C D G nL (pc + 3) L st h) : X C D G nL pc L (vI x :: st) h := by
  obtain ⟨hx, hb, -⟩ := A
  intro ls H locs cells slots hl hr
  exact lv_if_lt hx hb d ht (fun c => kt c ls H locs cells slots hl hr) (fun c => kf c ls H locs cells slots hl hr)
theorem xr_if_ge (A : Act C D G y cc nL ret F LL tb) {x : Int32} {off : Int} {tgt : Nat} (d : decode cc pc = .ok (.ifCond .ge off, 3)) (ht : (pc : Int) + off = (tgt : Int)) (kt : 0 ≤ x → X C D G nL tgt L st h) (kf : ¬ 0 ≤ x → X C D G nL (pc + 3) L st h) : X C D G nL pc L (vI x :: st) h := by
  obtain ⟨hx, hb, -⟩ := A
  intro ls H locs cells slots hl hr
  exact lv_if_ge hx hb d ht (fun c => kt c ls H locs cells slots hl hr) (fun c => kf c ls H locs cells slots hl hr)
theorem xr_if_gt (A : Act C D G y cc nL ret F LL tb) {x : Int32} {off : Int} {tgt : Nat} (d : decode cc pc = .ok (.ifCond .gt off, 3)) (ht : (pc : Int) + off = (tgt : Int)) (kt : 0 < x → X C D G nL tgt L st h) (kf : ¬ 0 < x → X C D G nL (pc + 3) L st h) : X C D G nL pc L (vI x :: st) h := by
  obtain ⟨hx, hb, -⟩ := A
  intro ls H locs cells slots hl hr
  exact lv_if_gt hx hb d ht (fun c => kt c ls H locs cells slots hl hr) (fun c => kf c ls H locs cells slots hl hr)
theorem xr_if_le (A : Act C D G y cc nL ret F LL tb) {x : Int32} {off : Int} {tgt : Nat} (d : decode cc pc = .ok (.ifCond .le off, 3)) (ht : (pc : Int) + off = (tgt : Int)) (kt : x ≤ 0 → X C D G nL tgt L st h) (kf : ¬ x ≤ 0 → X C D G nL (pc + 3) L st h) : X C D G nL pc L (vI x :: st) h := by
  obtain ⟨hx, hb, -⟩ := A
  intro ls H locs cells slots hl hr
  exact lv_if_le hx hb d ht (fun c => kt c ls H locs cells slots hl hr) (fun c => kf c ls H locs cells slots hl hr)
theorem xr_icmp_eq (A : Act C D G y cc nL ret F LL tb) {x z : Int32} {off : Int} {tgt : Nat} (d : decode cc pc = .ok (.if_icmp .eq off, 3)) (ht : (pc : Int) + off = (tgt : Int)) (kt : x = z → X C D G nL tgt L st h) (kf : ¬ x = z → X C D G nL (pc + 3) L st h) : X C D G nL pc L (vI z :: vI x :: st) h := by
  obtain ⟨hx, hb, -⟩ := A
  intro ls H locs cells slots hl hr
  exact lv_icmp_eq hx hb d ht (fun c => kt c ls H locs cells slots hl hr) (fun c => kf c ls H locs cells slots hl hr)
theorem xr_icmp_ne (A : Act C D G y cc nL ret F LL tb) {x z : Int32} {off : Int} {tgt : Nat} (d : decode cc pc = .ok (.if_icmp .ne off, 3)) (ht : (pc : Int) + off = (tgt : Int)) (kt : ¬ x = z → X C D G nL tgt L st h) (kf : x = z → X C D G nL (pc + 3) L st h) : X C D G nL pc L (vI z :: vI x :: st) h := by
  obtain ⟨hx, hb, -⟩ := A
  intro ls H locs cells slots hl hr
  exact lv_icmp_ne hx hb d ht (fun c => kt c ls H locs cells slots hl hr) (fun c => kf c ls H locs cells slots hl hr)
theorem xr_icmp_lt (A : Act C D G y cc nL ret F LL tb) {x z : Int32} {off : Int} {tgt : Nat} (d : decode cc pc = .ok (.if_icmp .lt off, 3)) (ht : (pc : Int) + off = (tgt : Int)) (kt : x < z → X C D G nL tgt L st h) (kf : ¬ x < z → X C D G nL (pc + 3) L st h) : X C D G nL pc L (vI z :: vI x :: st) h := by
  obtain ⟨hx, hb, -⟩ := A
  intro ls H locs cells slots hl hr
  exact lv_icmp_lt hx hb d ht (fun c => kt c ls H locs cells slots hl hr) (fun c => kf c ls H locs cells slots hl hr)
theorem xr_icmp_ge (A : Act C D G y cc nL ret F LL tb) {x z : Int32} {off : Int} {tgt : Nat} (d : decode cc pc = .ok (.if_icmp .ge off, 3)) (ht : (pc : Int) + off = (tgt : Int)) (kt : z ≤ x → X C D G nL tgt L st h) (kf : ¬ z ≤ x → X C D G nL (pc + 3) L st h) : X C D G nL pc L (vI z :: vI x :: st) h := by
  obtain ⟨hx, hb, -⟩ := A
  intro ls H locs cells slots hl hr
  exact lv_icmp_ge hx hb d ht (fun c => kt c ls H locs cells slots hl hr) (fun c => kf c ls H locs cells slots hl hr)
theorem xr_icmp_gt (A : Act C D G y cc nL ret F LL tb) {x z : Int32} {off : Int} {tgt : Nat} (d : decode cc pc = .ok (.if_icmp .gt off, 3)) (ht : (pc : Int) + off = (tgt : Int)) (kt : z < x → X C D G nL tgt L st h) (kf : ¬ z < x → X C D G nL (pc + 3) L st h) : X C D G nL pc L (vI z :: vI x :: st) h := by
  obtain ⟨hx, hb, -⟩ := A
  intro ls H locs cells slots hl hr
  exact lv_icmp_gt hx hb d ht (fun c => kt c ls H locs cells slots hl hr) (fun c => kf c ls H locs cells slots hl hr)
theorem xr_icmp_le (A : Act C D G y cc nL ret F LL tb) {x z : Int32} {off : Int} {tgt : Nat} (d : decode cc pc = .ok (.if_icmp .le off, 3)) (ht : (pc : Int) + off = (tgt : Int)) (kt : x ≤ z → X C D G nL tgt L st h) (kf : ¬ x ≤ z → X C D G nL (pc + 3) L st h) : X C D G nL pc L (vI z :: vI x :: st) h := by
  obtain ⟨hx, hb, -⟩ := A
  intro ls H locs cells slots hl hr
  exact lv_icmp_le hx hb d ht (fun c => kt c ls H locs cells slots hl hr) (fun c => kf c ls H locs cells slots hl hr)
theorem xr_acmp_ne (A : Act C D G y cc nL ret F LL tb) {x z : Option Nat} {off : Int} {tgt : Nat} (d : decode cc pc = .ok (.if_acmp .ne off, 3)) (ht : (pc : Int) + off = (tgt : Int)) (kt : ¬ x = z → X C D G nL tgt L st h) (kf : x = z → X C D G nL (pc + 3) L st h) : X C D G nL pc L (vR z :: vR x :: st) h := by
  obtain ⟨hx, hb, -⟩ := A
  intro ls H locs cells slots hl hr
  exact lv_acmp_ne hx hb d ht (fun c => kt c ls H locs cells slots hl hr) (fun c => kf c ls H locs cells slots hl hr)
theorem xr_ifnull (A : Act C D G y cc nL ret F LL tb) {r : Option Nat} {off : Int} {tgt : Nat} (d : decode cc pc = .ok (.ifnull off, 3)) (ht : (pc : Int) + off = (tgt : Int)) (kt : r = none → X C D G nL tgt L st h) (kf : ∀ a : Nat, r = some a → X C D G nL (pc + 3) L st h) : X C D G nL pc L (vR r :: st) h := by
  obtain ⟨hx, hb, -⟩ := A
  intro ls H locs cells slots hl hr
  cases r with
  | none => exact lv_ifnullN hx hb d ht (kt rfl ls H locs cells slots hl hr)
  | some a => exact lv_ifnull hx hb d (kf a rfl ls H locs cells slots hl hr)
theorem xr_ifnonnull (A : Act C D G y cc nL ret F LL tb) {r : Option Nat} {off : Int} {tgt : Nat} (d : decode cc pc = .ok (.ifnonnull off, 3)) (ht : (pc : Int) + off = (tgt : Int)) (kt : ∀ a : Nat, r = some a → X C D G nL tgt L st h) (kf : r = none → X C D G nL (pc + 3) L st h) : X C D G nL pc L (vR r :: st) h := by
  obtain ⟨hx, hb, -⟩ := A
  intro ls H locs cells slots hl hr
  cases r with
  | none => exact lv_ifnonnullN hx hb d (kf rfl ls H locs cells slots hl hr)
  | some a => exact lv_ifnonnull hx hb d ht (kt a rfl ls H locs cells slots hl hr)
theorem xr_ldc (A : Act C D G y cc nL ret F LL tb) {i : Nat} {v : Int32} (q : Cond.constant y.cls i v ∈ lw_all) (d : decode cc pc = .ok (.ldc i, 2)) (k : X C D G nL (pc + 2) L (vI v :: st) h) : X C D G nL pc L st h := by
  obtain ⟨hx, hb, -, -, hown, hts, -⟩ := A
  intro ls H locs cells slots hl hr
  exact lv_ldc hx hb hown (hts _ q) d (k ls H locs cells slots hl hr)
theorem xr_ldcw (A : Act C D G y cc nL ret F LL tb) {i : Nat} {v : Int32} (q : Cond.constant y.cls i v ∈ lw_all) (d : decode cc pc = .ok (.ldc_w i, 3)) (k : X C D G nL (pc + 3) L (vI v :: st) h) : X C D G nL pc L st h := by
  obtain ⟨hx, hb, -, -, hown, hts, -⟩ := A
  intro ls H locs cells slots hl hr
  exact lv_ldcw hx hb hown (hts _ q) d (k ls H locs cells slots hl hr)
theorem xr_ldc2 (A : Act C D G y cc nL ret F LL tb) {i : Nat} {v : Int64} (q : Cond.constantLong y.cls i v ∈ lw_all) (d : decode cc pc = .ok (.ldc2_w i, 3)) (k : X C D G nL (pc + 3) L (vL v :: st) h) : X C D G nL pc L st h := by
  obtain ⟨hx, hb, -, -, hown, hts, -⟩ := A
  intro ls H locs cells slots hl hr
  exact lv_ldc2 hx hb hown (hts _ q) d (k ls H locs cells slots hl hr)
theorem xr_tabOut (A : Act C D G y cc nL ret F LL tb) {dflt lo hi : Int} {offs : Array Int} {len : Nat} {x : Int32} {tgt : Nat} (d : decode cc pc = .ok (.tableswitch dflt lo hi offs, len)) (hh : x.toInt < lo ∨ hi < x.toInt) (ht : (pc : Int) + dflt = (tgt : Int)) (k : X C D G nL tgt L st h) : X C D G nL pc L (vI x :: st) h := by
  obtain ⟨hx, hb, -⟩ := A
  intro ls H locs cells slots hl hr
  exact lv_tableOut hx hb d hh ht (k ls H locs cells slots hl hr)
theorem xr_tabIn (A : Act C D G y cc nL ret F LL tb) {dflt lo hi : Int} {offs : Array Int} {len : Nat} {x : Int32} {off : Int} {tgt : Nat} (d : decode cc pc = .ok (.tableswitch dflt lo hi offs, len)) (h1 : ¬ x.toInt < lo) (h2 : ¬ hi < x.toInt) (ho : offs[(x.toInt - lo).toNat]? = some off) (ht : (pc : Int) + off = (tgt : Int)) (k : X C D G nL tgt L st h) : X C D G nL pc L (vI x :: st) h := by
  obtain ⟨hx, hb, -⟩ := A
  intro ls H locs cells slots hl hr
  exact lv_tableIn hx hb d h1 h2 ho ht (k ls H locs cells slots hl hr)
theorem xr_lookup (A : Act C D G y cc nL ret F LL tb) {dflt : Int} {ps : Array (Int × Int)} {len : Nat} {x : Int32} {off : Int} {tgt : Nat} (d : decode cc pc = .ok (.lookupswitch dflt ps, len)) (hp : (ps.toList.zip (ps.toList.drop 1)).all (fun (a, next) => a.1 < next.1) = true) (ho : Op.lookupswitch.offset ps.toList dflt x.toInt = off) (ht : (pc : Int) + off = (tgt : Int)) (k : X C D G nL tgt L st h) : X C D G nL pc L (vI x :: st) h := by
  obtain ⟨hx, hb, -⟩ := A
  intro ls H locs cells slots hl hr
  exact lv_lookup hx hb d hp ho ht (k ls H locs cells slots hl hr)
end XR1
