/-! forAll, firstCold -/
def faS (y : Dy) (d k : Nat) (f : Int32) : Int32 := if f = 0 then 0 else if brdV y (etV y k) d = 0 then 1 else 0
def faV (y : Dy) (d : Nat) : Int32 := lp (faS y d) (y.1 5) 0 1
def faO (y : Dy) (d : Nat) (a : Int32) : Int32 := if faV y d = 0 then a ||| 0 else a ||| ((1 : Int32) <<< (nI d &&& 31))
def forAllV (y : Dy) : Int32 := lp (faO y) (y.1 3) 0 0
def forAllR (yo : Option Dy) (s : St) : Int32 × St := match yo with
  | none => (-1, fin s 1)
  | some y => (forAllV y, fin s 0)
theorem qx_faL {h : Hp} {N E d : Nat} {qa : Nat → Nat → Nat} {y : Dy} (Z : XD h N E d qa y) {dd : Nat} (hd : dd < y.1 3) (a : Int32) {K : Int32 → Int32 → Hp → Option (Int32 × Hp)} : ∀ (m k n : Nat) (f : Int32), k + m = y.1 5 → m < n → fX1_forAll_l37 N K n a (nI dd) f (nI k) h = K (if lp (faS y dd) m k f = 0 then a ||| 0 else a ||| ((1 : Int32) <<< (nI dd &&& 31))) (nI (dd + 1)) h := by
  intro m
  induction m with
  | zero =>
    intro k n f hk hn
    cases n with
    | zero => omega
    | succ n =>
      obtain ⟨S, e1, D, lE, K⟩ := id Z
      obtain ⟨hz, hfu0, o0, o1, r0_0, o2, r0_2, o3, r2_0, r2_1, o4, r2_2, o5, r0_8, o6, o7, o8, r6_0, r6_1, o9, o10, o11, r9_0, r9_1, o32, o33, o34, r32_0, r32_1, o35, o36, o37, r35_0, r35_1, o38, o39, o40, r38_0, r38_1, r0_9, r0_10, o12, r0_12, o13, r0_13, o14, r0_14, o15, r0_15, o16, r0_18, o17, r0_19, o18, r0_20, o19, r0_22, o20, r0_23, o21, r0_24, o22, r0_25, o23, r0_28, o24, r0_29, o25, r0_30, o26, r0_31, o27, r0_35, o28, r0_36, o29, r0_37, o30, r0_38, o31, r0_39, d5_0, d5_1, d5_2⟩ := id S
      obtain ⟨dlo, do0, dr0, da0, dr1, da1, dr2, da2, dr3, da3, dr4, da4, dr5, da5, dr6, da6, dr7, da7, dr8, da8, dn2, dn3, dn4, dn5, dn6, dn8, dn9, dn7, dv17, dv18, dvf, dt0, dt1, dt2, dt3, dt4, dt5, dt6⟩ := id D
      obtain ⟨yc2, yc3, yc4, yc5, yc6, yc7, yc8, yc9, yyk, yyd, yyf, yyh, yyc, yyl, yyp, yyhot, yyby⟩ := id K
      simp only [fX1_forAll_l37, g0_3 o0, e1, bdS, b2S, bxL, bxR, onN, onS, g5_12 do0, dn5, nI_le (show y.1 5 ≤ k by omega) (by omega), if_true, lp, nI_1]
      by_cases h0 : f = 0
      · simp only [h0, if_true]
      · simp only [h0, if_false]
  | succ m ih =>
    intro k n f hk hn
    cases n with
    | zero => omega
    | succ n =>
      have hlt : k < y.1 5 := by omega
      have het : y.2 19 k = nI (etV y k) ∧ etV y k < y.1 4 := by
        obtain ⟨S, e1, D, lE, K⟩ := id Z
        obtain ⟨hz, hfu0, o0, o1, r0_0, o2, r0_2, o3, r2_0, r2_1, o4, r2_2, o5, r0_8, o6, o7, o8, r6_0, r6_1, o9, o10, o11, r9_0, r9_1, o32, o33, o34, r32_0, r32_1, o35, o36, o37, r35_0, r35_1, o38, o39, o40, r38_0, r38_1, r0_9, r0_10, o12, r0_12, o13, r0_13, o14, r0_14, o15, r0_15, o16, r0_18, o17, r0_19, o18, r0_20, o19, r0_22, o20, r0_23, o21, r0_24, o22, r0_25, o23, r0_28, o24, r0_29, o25, r0_30, o26, r0_31, o27, r0_35, o28, r0_36, o29, r0_37, o30, r0_38, o31, r0_39, d5_0, d5_1, d5_2⟩ := id S
        obtain ⟨dlo, do0, dr0, da0, dr1, da1, dr2, da2, dr3, da3, dr4, da4, dr5, da5, dr6, da6, dr7, da7, dr8, da8, dn2, dn3, dn4, dn5, dn6, dn8, dn9, dn7, dv17, dv18, dvf, dt0, dt1, dt2, dt3, dt4, dt5, dt6⟩ := id D
        obtain ⟨yc2, yc3, yc4, yc5, yc6, yc7, yc8, yc9, yyk, yyd, yyf, yyh, yyc, yyl, yyp, yyhot, yyby⟩ := id K
        exact (yyh k hlt).2.1
      have hb := qx_barred Z het.2 hd
      have ih1 := fun f => ih (k + 1) n f (by omega) (by omega)
      obtain ⟨S, e1, D, lE, K⟩ := id Z
      obtain ⟨hz, hfu0, o0, o1, r0_0, o2, r0_2, o3, r2_0, r2_1, o4, r2_2, o5, r0_8, o6, o7, o8, r6_0, r6_1, o9, o10, o11, r9_0, r9_1, o32, o33, o34, r32_0, r32_1, o35, o36, o37, r35_0, r35_1, o38, o39, o40, r38_0, r38_1, r0_9, r0_10, o12, r0_12, o13, r0_13, o14, r0_14, o15, r0_15, o16, r0_18, o17, r0_19, o18, r0_20, o19, r0_22, o20, r0_23, o21, r0_24, o22, r0_25, o23, r0_28, o24, r0_29, o25, r0_30, o26, r0_31, o27, r0_35, o28, r0_36, o29, r0_37, o30, r0_38, o31, r0_39, d5_0, d5_1, d5_2⟩ := id S
      obtain ⟨dlo, do0, dr0, da0, dr1, da1, dr2, da2, dr3, da3, dr4, da4, dr5, da5, dr6, da6, dr7, da7, dr8, da8, dn2, dn3, dn4, dn5, dn6, dn8, dn9, dn7, dv17, dv18, dvf, dt0, dt1, dt2, dt3, dt4, dt5, dt6⟩ := id D
      obtain ⟨yc2, yc3, yc4, yc5, yc6, yc7, yc8, yc9, yyk, yyd, yyf, yyh, yyc, yyl, yyp, yyhot, yyby⟩ := id K
      obtain ⟨z1, z2, z3, z4, z5, z6, z7, z8, z9, z10⟩ := dt3 k hlt
      simp only [fX1_forAll_l37, g0_3 o0, e1, bdS, b2S, bxL, bxR, onN, onS, g5_12 do0, dn5, nI_ge hlt (by omega), if_false, g5_3 do0, dr3, aRn da3 (show k < 6 by omega), z2, g9_7 z3, z10, show (y.2 19 k).toNatClampNeg = etV y k from rfl, hb, nI_1, ih1, lp, faS]
      by_cases h0 : f = 0
      · simp only [h0, if_true]
      · by_cases h1 : brdV y (etV y k) dd = 0
        · simp only [h0, h1, if_true, if_false]
        · simp only [h0, h1, if_false]
theorem qx_faO {h : Hp} {N E d : Nat} {qa : Nat → Nat → Nat} {y : Dy} (Z : XD h N E d qa y) : ∀ (m k n : Nat) (a : Int32), k + m = y.1 3 → m < n → fX1_forAll_l21 N n a (nI k) h = some (lp (faO y) m k a, h) := by
  intro m
  induction m with
  | zero =>
    intro k n a hk hn
    cases n with
    | zero => omega
    | succ n =>
      skip
      obtain ⟨S, e1, D, lE, K⟩ := id Z
      obtain ⟨hz, hfu0, o0, o1, r0_0, o2, r0_2, o3, r2_0, r2_1, o4, r2_2, o5, r0_8, o6, o7, o8, r6_0, r6_1, o9, o10, o11, r9_0, r9_1, o32, o33, o34, r32_0, r32_1, o35, o36, o37, r35_0, r35_1, o38, o39, o40, r38_0, r38_1, r0_9, r0_10, o12, r0_12, o13, r0_13, o14, r0_14, o15, r0_15, o16, r0_18, o17, r0_19, o18, r0_20, o19, r0_22, o20, r0_23, o21, r0_24, o22, r0_25, o23, r0_28, o24, r0_29, o25, r0_30, o26, r0_31, o27, r0_35, o28, r0_36, o29, r0_37, o30, r0_38, o31, r0_39, d5_0, d5_1, d5_2⟩ := id S
      obtain ⟨dlo, do0, dr0, da0, dr1, da1, dr2, da2, dr3, da3, dr4, da4, dr5, da5, dr6, da6, dr7, da7, dr8, da8, dn2, dn3, dn4, dn5, dn6, dn8, dn9, dn7, dv17, dv18, dvf, dt0, dt1, dt2, dt3, dt4, dt5, dt6⟩ := id D
      obtain ⟨yc2, yc3, yc4, yc5, yc6, yc7, yc8, yc9, yyk, yyd, yyf, yyh, yyc, yyl, yyp, yyhot, yyby⟩ := id K
      simp only [fX1_forAll_l21, g0_3 o0, e1, bdS, b2S, bxL, bxR, onN, onS, g5_10 do0, dn3, nI_le (show y.1 3 ≤ k by omega) (by omega), if_true, lp]
  | succ m ih =>
    intro k n a hk hn
    cases n with
    | zero => omega
    | succ n =>
      have hlt : k < y.1 3 := by omega
      have hh := qx_faL Z hlt a (K := fX1_forAll_l21 N n) (y.1 5) 0 300000 1 (by omega) (by have := Z.2.2.2.2.h5; omega)
      rw [nI_0] at hh
      have ih1 := fun a => ih (k + 1) n a (by omega) (by omega)
      obtain ⟨S, e1, D, lE, K⟩ := id Z
      obtain ⟨hz, hfu0, o0, o1, r0_0, o2, r0_2, o3, r2_0, r2_1, o4, r2_2, o5, r0_8, o6, o7, o8, r6_0, r6_1, o9, o10, o11, r9_0, r9_1, o32, o33, o34, r32_0, r32_1, o35, o36, o37, r35_0, r35_1, o38, o39, o40, r38_0, r38_1, r0_9, r0_10, o12, r0_12, o13, r0_13, o14, r0_14, o15, r0_15, o16, r0_18, o17, r0_19, o18, r0_20, o19, r0_22, o20, r0_23, o21, r0_24, o22, r0_25, o23, r0_28, o24, r0_29, o25, r0_30, o26, r0_31, o27, r0_35, o28, r0_36, o29, r0_37, o30, r0_38, o31, r0_39, d5_0, d5_1, d5_2⟩ := id S
      obtain ⟨dlo, do0, dr0, da0, dr1, da1, dr2, da2, dr3, da3, dr4, da4, dr5, da5, dr6, da6, dr7, da7, dr8, da8, dn2, dn3, dn4, dn5, dn6, dn8, dn9, dn7, dv17, dv18, dvf, dt0, dt1, dt2, dt3, dt4, dt5, dt6⟩ := id D
      obtain ⟨yc2, yc3, yc4, yc5, yc6, yc7, yc8, yc9, yyk, yyd, yyf, yyh, yyc, yyl, yyp, yyhot, yyby⟩ := id K
      simp only [fX1_forAll_l21, g0_3 o0, e1, bdS, b2S, bxL, bxR, onN, onS, g5_10 do0, dn3, nI_ge hlt (by omega), if_false, hfu0, hh, ih1, lp, faO, faV]
      rfl
theorem qm_faL {h : Hp} {N E d : Nat} {y : Dy} (Z : MD h N E d y) {dd : Nat} (hd : dd < y.1 3) (a : Int32) {K : Int32 → Int32 → Hp → Option (Int32 × Hp)} : ∀ (m k n : Nat) (f : Int32), k + m = y.1 5 → m < n → fX5_forAll_l38 N K n a (nI dd) f (nI k) h = K (if lp (faS y dd) m k f = 0 then a ||| 0 else a ||| ((1 : Int32) <<< (nI dd &&& 31))) (nI (dd + 1)) h := by
  intro m
  induction m with
  | zero =>
    intro k n f hk hn
    cases n with
    | zero => omega
    | succ n =>
      obtain ⟨S, e1, D, lE, K⟩ := id Z
      obtain ⟨hz, hfu0, o0, o1, r0_5, o2, r0_17, o3, r0_18, o4, r0_22, o5, r0_23, o6, r0_26, o7, r0_28, o8, r0_29, o9, r0_30, o10, r0_31, o11, r0_32, o12, r0_35, o13, r0_36, o14, r0_38, o15, r0_39, o16, r0_40, o17, r0_41, o18, r0_43, o19, r0_44, o20, r0_45⟩ := id S
      obtain ⟨dlo, do0, dv0, dv1, dn2, dn3, dn4, dn5, dn6, dn7, dn8, dn9, dr11, da11, dv11, dr12, da12, dv12, dr13, da13, dv13, dr14, da14, dv14, dr15, da15, dv15, dr16, da16, dv16, dr17, da17, dv17, dr18, da18, dv18, dr19, da19, dv19, dr20, da20, dv20, dr21, da21, dv21, dr22, da22, dv22, dr23, da23, dv23, dr24, da24, dv24, dr25, da25, dv25, dr26, da26, dv26, dr27, da27, dv27, dr28, da28, dv28, dr29, da29, dv29, dr30, da30, dv30, dr31, da31, dv31, dr32, da32, dv32, dr33, da33, dv33⟩ := id D
      obtain ⟨yc2, yc3, yc4, yc5, yc6, yc7, yc8, yc9, yyk, yyd, yyf, yyh, yyc, yyl, yyp, yyhot, yyby⟩ := id K
      simp only [fX5_forAll_l38, g4_3 o0, e1, bdS, b2S, bxL, bxR, onN, onS, g13_5 do0, dn5, nI_le (show y.1 5 ≤ k by omega) (by omega), if_true, lp, nI_1]
      by_cases h0 : f = 0
      · simp only [h0, if_true]
      · simp only [h0, if_false]
  | succ m ih =>
    intro k n f hk hn
    cases n with
    | zero => omega
    | succ n =>
      have hlt : k < y.1 5 := by omega
      have het : y.2 19 k = nI (etV y k) ∧ etV y k < y.1 4 := by
        obtain ⟨S, e1, D, lE, K⟩ := id Z
        obtain ⟨hz, hfu0, o0, o1, r0_5, o2, r0_17, o3, r0_18, o4, r0_22, o5, r0_23, o6, r0_26, o7, r0_28, o8, r0_29, o9, r0_30, o10, r0_31, o11, r0_32, o12, r0_35, o13, r0_36, o14, r0_38, o15, r0_39, o16, r0_40, o17, r0_41, o18, r0_43, o19, r0_44, o20, r0_45⟩ := id S
        obtain ⟨dlo, do0, dv0, dv1, dn2, dn3, dn4, dn5, dn6, dn7, dn8, dn9, dr11, da11, dv11, dr12, da12, dv12, dr13, da13, dv13, dr14, da14, dv14, dr15, da15, dv15, dr16, da16, dv16, dr17, da17, dv17, dr18, da18, dv18, dr19, da19, dv19, dr20, da20, dv20, dr21, da21, dv21, dr22, da22, dv22, dr23, da23, dv23, dr24, da24, dv24, dr25, da25, dv25, dr26, da26, dv26, dr27, da27, dv27, dr28, da28, dv28, dr29, da29, dv29, dr30, da30, dv30, dr31, da31, dv31, dr32, da32, dv32, dr33, da33, dv33⟩ := id D
        obtain ⟨yc2, yc3, yc4, yc5, yc6, yc7, yc8, yc9, yyk, yyd, yyf, yyh, yyc, yyl, yyp, yyhot, yyby⟩ := id K
        exact (yyh k hlt).2.1
      have hb := qm_barred Z het.2 hd
      have ih1 := fun f => ih (k + 1) n f (by omega) (by omega)
      obtain ⟨S, e1, D, lE, K⟩ := id Z
      obtain ⟨hz, hfu0, o0, o1, r0_5, o2, r0_17, o3, r0_18, o4, r0_22, o5, r0_23, o6, r0_26, o7, r0_28, o8, r0_29, o9, r0_30, o10, r0_31, o11, r0_32, o12, r0_35, o13, r0_36, o14, r0_38, o15, r0_39, o16, r0_40, o17, r0_41, o18, r0_43, o19, r0_44, o20, r0_45⟩ := id S
      obtain ⟨dlo, do0, dv0, dv1, dn2, dn3, dn4, dn5, dn6, dn7, dn8, dn9, dr11, da11, dv11, dr12, da12, dv12, dr13, da13, dv13, dr14, da14, dv14, dr15, da15, dv15, dr16, da16, dv16, dr17, da17, dv17, dr18, da18, dv18, dr19, da19, dv19, dr20, da20, dv20, dr21, da21, dv21, dr22, da22, dv22, dr23, da23, dv23, dr24, da24, dv24, dr25, da25, dv25, dr26, da26, dv26, dr27, da27, dv27, dr28, da28, dv28, dr29, da29, dv29, dr30, da30, dv30, dr31, da31, dv31, dr32, da32, dv32, dr33, da33, dv33⟩ := id D
      obtain ⟨yc2, yc3, yc4, yc5, yc6, yc7, yc8, yc9, yyk, yyd, yyf, yyh, yyc, yyl, yyp, yyhot, yyby⟩ := id K
      skip
      simp only [fX5_forAll_l38, g4_3 o0, e1, bdS, b2S, bxL, bxR, onN, onS, g13_5 do0, dn5, nI_ge hlt (by omega), if_false, g13_19 do0, dr19, aIn da19 (show k < 6 by omega), dv19, het.1, hb, nI_1, ih1, lp, faS]
      by_cases h0 : f = 0
      · simp only [h0, if_true]
      · by_cases h1 : brdV y (etV y k) dd = 0
        · simp only [h0, h1, if_true, if_false]
        · simp only [h0, h1, if_false]
theorem qm_faO {h : Hp} {N E d : Nat} {y : Dy} (Z : MD h N E d y) : ∀ (m k n : Nat) (a : Int32), k + m = y.1 3 → m < n → fX5_forAll_l22 N n a (nI k) h = some (lp (faO y) m k a, rf h N 0) := by
  intro m
  induction m with
  | zero =>
    intro k n a hk hn
    cases n with
    | zero => omega
    | succ n =>
      have hdn := fun v => qm_done Z.1 v
      obtain ⟨S, e1, D, lE, K⟩ := id Z
      obtain ⟨hz, hfu0, o0, o1, r0_5, o2, r0_17, o3, r0_18, o4, r0_22, o5, r0_23, o6, r0_26, o7, r0_28, o8, r0_29, o9, r0_30, o10, r0_31, o11, r0_32, o12, r0_35, o13, r0_36, o14, r0_38, o15, r0_39, o16, r0_40, o17, r0_41, o18, r0_43, o19, r0_44, o20, r0_45⟩ := id S
      obtain ⟨dlo, do0, dv0, dv1, dn2, dn3, dn4, dn5, dn6, dn7, dn8, dn9, dr11, da11, dv11, dr12, da12, dv12, dr13, da13, dv13, dr14, da14, dv14, dr15, da15, dv15, dr16, da16, dv16, dr17, da17, dv17, dr18, da18, dv18, dr19, da19, dv19, dr20, da20, dv20, dr21, da21, dv21, dr22, da22, dv22, dr23, da23, dv23, dr24, da24, dv24, dr25, da25, dv25, dr26, da26, dv26, dr27, da27, dv27, dr28, da28, dv28, dr29, da29, dv29, dr30, da30, dv30, dr31, da31, dv31, dr32, da32, dv32, dr33, da33, dv33⟩ := id D
      obtain ⟨yc2, yc3, yc4, yc5, yc6, yc7, yc8, yc9, yyk, yyd, yyf, yyh, yyc, yyl, yyp, yyhot, yyby⟩ := id K
      simp only [fX5_forAll_l22, g4_3 o0, e1, bdS, b2S, bxL, bxR, onN, onS, g13_3 do0, dn3, nI_le (show y.1 3 ≤ k by omega) (by omega), if_true, lp, hdn, rf]
  | succ m ih =>
    intro k n a hk hn
    cases n with
    | zero => omega
    | succ n =>
      have hlt : k < y.1 3 := by omega
      have hh := qm_faL Z hlt a (K := fX5_forAll_l22 N n) (y.1 5) 0 300000 1 (by omega) (by have := Z.2.2.2.2.h5; omega)
      rw [nI_0] at hh
      have ih1 := fun a => ih (k + 1) n a (by omega) (by omega)
      obtain ⟨S, e1, D, lE, K⟩ := id Z
      obtain ⟨hz, hfu0, o0, o1, r0_5, o2, r0_17, o3, r0_18, o4, r0_22, o5, r0_23, o6, r0_26, o7, r0_28, o8, r0_29, o9, r0_30, o10, r0_31, o11, r0_32, o12, r0_35, o13, r0_36, o14, r0_38, o15, r0_39, o16, r0_40, o17, r0_41, o18, r0_43, o19, r0_44, o20, r0_45⟩ := id S
      obtain ⟨dlo, do0, dv0, dv1, dn2, dn3, dn4, dn5, dn6, dn7, dn8, dn9, dr11, da11, dv11, dr12, da12, dv12, dr13, da13, dv13, dr14, da14, dv14, dr15, da15, dv15, dr16, da16, dv16, dr17, da17, dv17, dr18, da18, dv18, dr19, da19, dv19, dr20, da20, dv20, dr21, da21, dv21, dr22, da22, dv22, dr23, da23, dv23, dr24, da24, dv24, dr25, da25, dv25, dr26, da26, dv26, dr27, da27, dv27, dr28, da28, dv28, dr29, da29, dv29, dr30, da30, dv30, dr31, da31, dv31, dr32, da32, dv32, dr33, da33, dv33⟩ := id D
      obtain ⟨yc2, yc3, yc4, yc5, yc6, yc7, yc8, yc9, yyk, yyd, yyf, yyh, yyc, yyl, yyp, yyhot, yyby⟩ := id K
      simp only [fX5_forAll_l22, g4_3 o0, e1, bdS, b2S, bxL, bxR, onN, onS, g13_3 do0, dn3, nI_ge hlt (by omega), if_false, hfu0, hh, ih1, lp, faO, faV]
      rfl
theorem x_forAll {N E : Nat} : XOp N E (fX1_forAll N) forAllR := by
  intro h yo s ⟨S, P, V, lE⟩ I
  obtain ⟨f1, S1, Q1, t1⟩ := an_all S
  have P1 := P.kept f1.1 (fun q hq => f1.2 q (by omega))
  have han : fX1_anew N h = some (an h N) := qx_anew S
  cases yo with
  | none =>
    obtain ⟨f2, S2, Q2, t2⟩ := no_all S1 1
    refine ⟨sI (an h N) N 4 1, ?_, f1.trans f2, V.fin (Q1.trans Q2) t2 (by decide)⟩
    simp only [PX] at P1
    simp only [fX1_forAll, ab_ckq S.o, han, bdS, b2S, bxL, bxR, onN, onS, g0_3 S1.o, P1, qx_no S1, forAllR]
  | some y =>
    obtain ⟨d, qa, e1, D, K⟩ := P1
    have Z1 : XD (an h N) N E d qa y := ⟨S1, e1, D, lE, K⟩
    have hh := qx_faO Z1 (y.1 3) 0 300000 0 (by omega) (by have := K.lt (j := 3) (by omega) (by omega); omega)
    rw [nI_0] at hh
    refine ⟨an h N, ?_, f1, V.fin Q1 t1 (by decide)⟩
    simp only [fX1_forAll, ab_ckq S.o, han, bdS, b2S, bxL, bxR, onN, onS, g0_3 S1.o, e1, S1.f, hh, forAllR, forAllV]
theorem m_forAll {N E : Nat} : MOp N E (fX5_forAll N) forAllR := by
  intro h yo s ⟨S, P, V, lE⟩ I
  obtain ⟨f1, S1, Q1⟩ := th_all S 0
  have P1 := P.kept f1.1 (fun q hq => f1.2 q (by omega))
  cases yo with
  | none =>
    obtain ⟨f2, S2, Q2, t2, w2⟩ := rf_all S1 1
    refine ⟨rf (sI h N 0 0) N 1, ?_, f1.trans f2, V.fin (Q1.trans Q2) t2 w2⟩
    simp only [PM] at P1
    simp only [fX5_forAll, ab_ckq S.o, ab_pIq S.o S.1, bdS, b2S, bxL, bxR, onN, onS, g4_3 S1.o, P1, qm_refused S1, forAllR, rf]
  | some y =>
    obtain ⟨d, e1, D, K⟩ := P1
    have Z1 : MD (sI h N 0 0) N E d y := ⟨S1, e1, D, lE, K⟩
    have hh := qm_faO Z1 (y.1 3) 0 300000 0 (by omega) (by have := K.lt (j := 3) (by omega) (by omega); omega)
    rw [nI_0] at hh
    obtain ⟨f2, S2, Q2, t2, w2⟩ := rf_all S1 0
    refine ⟨rf (sI h N 0 0) N 0, ?_, f1.trans f2, V.fin (Q1.trans Q2) t2 w2⟩
    simp only [fX5_forAll, ab_ckq S.o, ab_pIq S.o S.1, bdS, b2S, bxL, bxR, onN, onS, g4_3 S1.o, e1, S1.f, hh, forAllR, forAllV]
