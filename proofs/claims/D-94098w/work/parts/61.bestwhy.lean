/-! why a best round can't be told -/
def bwV (yo : Option Dy) (c x : Int32) : Int32 := onI yo 6 c 1 fun y i => if x < 0 then 1 else if nI (2 ^ y.1 5) ≤ x then 1 else if nI (pc x.toNatClampNeg) ≤ y.2 28 i then 0 else 3
theorem qx_isSet {h : Hp} {N E d : Nat} {qa : Nat → Nat → Nat} {y : Dy} (Z : XD h N E d qa y) (x : Int32) : fX1_isSet N x h = some (if x < 0 then 0 else if nI (2 ^ y.1 5) ≤ x then 0 else 1, h) := by
  have hk5 := Z.2.2.2.2.h5
  have h2 := two6 (y.1 5) hk5.2
  have h3 := nI_m1 (n := 2 ^ y.1 5) (by omega) x
  have hs := shl6 (y.1 5) hk5.2
  obtain ⟨S, e1, D, lE, K⟩ := id Z
  obtain ⟨hz, hfu0, o0, o1, r0_0, o2, r0_2, o3, r2_0, r2_1, o4, r2_2, o5, r0_8, o6, o7, o8, r6_0, r6_1, o9, o10, o11, r9_0, r9_1, o32, o33, o34, r32_0, r32_1, o35, o36, o37, r35_0, r35_1, o38, o39, o40, r38_0, r38_1, r0_9, r0_10, o12, r0_12, o13, r0_13, o14, r0_14, o15, r0_15, o16, r0_18, o17, r0_19, o18, r0_20, o19, r0_22, o20, r0_23, o21, r0_24, o22, r0_25, o23, r0_28, o24, r0_29, o25, r0_30, o26, r0_31, o27, r0_35, o28, r0_36, o29, r0_37, o30, r0_38, o31, r0_39, d5_0, d5_1, d5_2⟩ := id S
  obtain ⟨dlo, do0, dr0, da0, dr1, da1, dr2, da2, dr3, da3, dr4, da4, dr5, da5, dr6, da6, dr7, da7, dr8, da8, dn2, dn3, dn4, dn5, dn6, dn8, dn9, dn7, dv17, dv18, dvf, dt0, dt1, dt2, dt3, dt4, dt5, dt6⟩ := id D
  obtain ⟨yc2, yc3, yc4, yc5, yc6, yc7, yc8, yc9, yyk, yyd, yyf, yyh, yyc, yyl, yyp, yyhot, yyby⟩ := id K
  simp only [fX1_isSet, ab_ckq o0, g0_3 o0, e1, bdS, b2S, bxL, bxR, onN, onS, g5_12 do0, dn5, hs, qx_in, h3]
  by_cases h1 : x < 0
  · simp only [h1, if_true]
  · by_cases h4 : nI (2 ^ y.1 5) ≤ x
    · simp only [h1, h4, if_true, if_false]
    · simp only [h1, h4, if_false, show ¬ ((1 : Int32) = 0) from by decide]
theorem set_lt {y : Dy} (K : Yk y) {x : Int32} (h1 : ¬ x < 0) (h4 : ¬ nI (2 ^ y.1 5) ≤ x) : ∃ j, j < 2 ^ y.1 5 ∧ j < 64 ∧ x = nI j := by
  obtain ⟨j, hj, rfl⟩ := nI_of h1
  have hk5 := K.h5
  have h2 := two6 (y.1 5) hk5.2
  have hlt : j < 2 ^ y.1 5 := Nat.not_le.mp fun h => h4 (nI_le h hj)
  exact ⟨j, hlt, by omega, rfl⟩
theorem qx_bestWhy {h : Hp} {N E d : Nat} {qa : Nat → Nat → Nat} {y : Dy} (Z : XD h N E d qa y) (c x : Int32) : fX1_bestWhy N c x h = some (bwV (some y) c x, h) := by
  have hh := qx_isCar (E := E) (yo := some y) Z.1 ⟨d, qa, Z.2.1, Z.2.2.1, Z.2.2.2.2⟩ c
  have hs := qx_isSet Z x
  have K := Z.2.2.2.2
  cases hc : ixo (some y) 6 c with
  | none =>
    rw [hc] at hh
    simp only [fX1_bestWhy, ab_ckq Z.1.o, hh, b01z, bdS, b2S, bxL, bxR, onN, onS, if_true, bwV, onI_none hc]
  | some i =>
    rw [hc] at hh
    obtain ⟨y', e', rfl, hi, hi6⟩ := ixo_fits (yo := some y) (by omega) (fun y' e => by cases e; exact K) hc
    cases e'
    by_cases h1 : x < 0
    · simp only [fX1_bestWhy, ab_ckq Z.1.o, hh, if_neg b01n, hs, h1, bdS, b2S, bxL, bxR, onN, onS, if_true, bwV, onI_some hc]
    · by_cases h4 : nI (2 ^ y.1 5) ≤ x
      · simp only [fX1_bestWhy, ab_ckq Z.1.o, hh, if_neg b01n, hs, h1, h4, bdS, b2S, bxL, bxR, onN, onS, if_true, if_false, bwV, onI_some hc]
      · obtain ⟨j, hj, hj64, rfl⟩ := set_lt K h1 h4
        have ho := qx_ones Z.1.f hj64
        have hc3 := K.h6
        obtain ⟨S, e1, D, lE, K⟩ := id Z
        obtain ⟨hz, hfu0, o0, o1, r0_0, o2, r0_2, o3, r2_0, r2_1, o4, r2_2, o5, r0_8, o6, o7, o8, r6_0, r6_1, o9, o10, o11, r9_0, r9_1, o32, o33, o34, r32_0, r32_1, o35, o36, o37, r35_0, r35_1, o38, o39, o40, r38_0, r38_1, r0_9, r0_10, o12, r0_12, o13, r0_13, o14, r0_14, o15, r0_15, o16, r0_18, o17, r0_19, o18, r0_20, o19, r0_22, o20, r0_23, o21, r0_24, o22, r0_25, o23, r0_28, o24, r0_29, o25, r0_30, o26, r0_31, o27, r0_35, o28, r0_36, o29, r0_37, o30, r0_38, o31, r0_39, d5_0, d5_1, d5_2⟩ := id S
        obtain ⟨dlo, do0, dr0, da0, dr1, da1, dr2, da2, dr3, da3, dr4, da4, dr5, da5, dr6, da6, dr7, da7, dr8, da8, dn2, dn3, dn4, dn5, dn6, dn8, dn9, dn7, dv17, dv18, dvf, dt0, dt1, dt2, dt3, dt4, dt5, dt6⟩ := id D
        obtain ⟨yc2, yc3, yc4, yc5, yc6, yc7, yc8, yc9, yyk, yyd, yyf, yyh, yyc, yyl, yyp, yyhot, yyby⟩ := id K
        obtain ⟨z1, z2, z3, z4, z5, z6, z7, z8⟩ := dt4 i hi
        simp only [fX1_bestWhy, ab_ckq o0, hh, if_neg b01n, hs, h1, h4, bdS, b2S, bxL, bxR, onN, onS, if_false, show ¬ ((1 : Int32) = 0) from by decide, ho, g0_3 o0, e1, g5_4 do0, dr4, aRn da4 (show i < 3 by omega), z2, g10_4 z3, z5, bwV, onI_some hc, nI_clamp (show j < 2 ^ 31 by omega)]
        by_cases h5 : nI (pc j) ≤ y.2 28 i
        · simp only [h5, if_true]
        · simp only [h5, if_false]
theorem qm_bestWhy {h : Hp} {N E d : Nat} {y : Dy} (Z : MD h N E d y) (c x : Int32) : fX5_refusesBest N c x h = some (bwV (some y) c x, h) := by
  have hh := qm_isCar (E := E) (yo := some y) Z.1 ⟨d, Z.2.1, Z.2.2.1, Z.2.2.2.2⟩ c
  have K := Z.2.2.2.2
  have hk5 := K.h5
  have hs := shl6 (y.1 5) hk5.2
  cases hc : ixo (some y) 6 c with
  | none =>
    rw [hc] at hh
    simp only [fX5_refusesBest, ab_ckq Z.1.o, hh, b01z, bdS, b2S, bxL, bxR, onN, onS, if_true, bwV, onI_none hc]
  | some i =>
    rw [hc] at hh
    obtain ⟨y', e', rfl, hi, hi6⟩ := ixo_fits (yo := some y) (by omega) (fun y' e => by cases e; exact K) hc
    cases e'
    obtain ⟨S, e1, D, lE, K⟩ := id Z
    obtain ⟨hz, hfu0, o0, o1, r0_5, o2, r0_17, o3, r0_18, o4, r0_22, o5, r0_23, o6, r0_26, o7, r0_28, o8, r0_29, o9, r0_30, o10, r0_31, o11, r0_32, o12, r0_35, o13, r0_36, o14, r0_38, o15, r0_39, o16, r0_40, o17, r0_41, o18, r0_43, o19, r0_44, o20, r0_45⟩ := id S
    obtain ⟨dlo, do0, dv0, dv1, dn2, dn3, dn4, dn5, dn6, dn7, dn8, dn9, dr11, da11, dv11, dr12, da12, dv12, dr13, da13, dv13, dr14, da14, dv14, dr15, da15, dv15, dr16, da16, dv16, dr17, da17, dv17, dr18, da18, dv18, dr19, da19, dv19, dr20, da20, dv20, dr21, da21, dv21, dr22, da22, dv22, dr23, da23, dv23, dr24, da24, dv24, dr25, da25, dv25, dr26, da26, dv26, dr27, da27, dv27, dr28, da28, dv28, dr29, da29, dv29, dr30, da30, dv30, dr31, da31, dv31, dr32, da32, dv32, dr33, da33, dv33⟩ := id D
    obtain ⟨yc2, yc3, yc4, yc5, yc6, yc7, yc8, yc9, yyk, yyd, yyf, yyh, yyc, yyl, yyp, yyhot, yyby⟩ := id K
    by_cases h1 : x < 0
    · simp only [fX5_refusesBest, ab_ckq Z.1.o, hh, if_neg b01n, h1, bdS, b2S, bxL, bxR, onN, onS, if_true, bwV, onI_some hc]
    · by_cases h4 : nI (2 ^ y.1 5) ≤ x
      · simp only [fX5_refusesBest, ab_ckq Z.1.o, hh, if_neg b01n, h1, h4, bdS, b2S, bxL, bxR, onN, onS, g4_3 o0, e1, g13_5 do0, dn5, hs, Int32.not_lt.mpr h4, if_true, if_false, bwV, onI_some hc]
      · obtain ⟨j, hj, hj64, rfl⟩ := set_lt K h1 h4
        have ho := qm_bits Z.1.f hj64
        have hc3 := K.h6
        simp only [fX5_refusesBest, ab_ckq o0, hh, if_neg b01n, h1, h4, bdS, b2S, bxL, bxR, onN, onS, if_false, g4_3 o0, e1, g13_5 do0, dn5, hs, Int32.not_le.mp h4, if_true, ho, g13_28 do0, dr28, aIn da28 (show i < 3 by omega), dv28, bwV, onI_some hc, nI_clamp (show j < 2 ^ 31 by omega)]
        by_cases h5 : nI (pc j) ≤ y.2 28 i
        · simp only [h5, if_true]
        · simp only [h5, if_false]
