/-! OPS over walks: comes, heat, bad, costs, way -/
theorem b01n {x : Nat} : ¬ (b01 (some x).isSome = 0) := show ¬ ((1 : Int32) = 0) from by decide
theorem b01z : b01 (none : Option Nat).isSome = 0 := rfl
theorem Yk.h5 {y : Dy} (K : Yk y) : 1 ≤ y.1 5 ∧ y.1 5 ≤ 6 := K.2.2.2.1
theorem Yk.h6 {y : Dy} (K : Yk y) : 1 ≤ y.1 6 ∧ y.1 6 ≤ 3 := K.2.2.2.2.1
theorem Yk.lt {y : Dy} (K : Yk y) {j : Nat} (h1 : 2 ≤ j) (h2 : j ≤ 9) : y.1 j ≤ 6 := by
  obtain ⟨c2, c3, c4, c5, c6, c7, c8, c9, yk, yd, yf, yh, yc, yl, yp, yhot, yby⟩ := id K
  have hj : j = 2 ∨ j = 3 ∨ j = 4 ∨ j = 5 ∨ j = 6 ∨ j = 7 ∨ j = 8 ∨ j = 9 := by omega
  rcases hj with rfl | rfl | rfl | rfl | rfl | rfl | rfl | rfl <;> omega
theorem ixo_nI {y : Dy} {j i : Nat} (hi : i < y.1 j) (hj : y.1 j < 2 ^ 31) : ixo (some y) j (nI i) = some i := by
  simp only [ixo, nI_pos (show i < 2 ^ 31 by omega), if_false, nI_ge hi hj, nI_clamp (show i < 2 ^ 31 by omega)]
def XOp (N E : Nat) (f : Hp → Option (Int32 × Hp)) (op : Option Dy → St → Int32 × St) : Prop := ∀ h yo s, RXs h N E yo s → Inv yo s → ∃ h', f h = some ((op yo s).1, h') ∧ Fr N (N + 41) h h' ∧ VX h' N (m5 yo) (op yo s).2
def MOp (N E : Nat) (f : Hp → Option (Int32 × Hp)) (op : Option Dy → St → Int32 × St) : Prop := ∀ h yo s, RMs h N E yo s → Inv yo s → ∃ h', f h = some ((op yo s).1, h') ∧ Fr N (N + 21) h h' ∧ VM h' N (op yo s).2
theorem VX.xr {h : Hp} {N m : Nat} {s : St} (V : VX h N m s) {yo : Option Dy} (I : Inv yo s) (hc : ∀ y, yo = some y → Yk y) : XR h N s.1 := by
  obtain ⟨v1, v2, v3, v4, v5, v6, v7, v8, v9, v10, v11, v12, v13, v14, v15, v16, v17, v18, v19, v20, v21, v22, v23, v24⟩ := V
  intro c hc3
  refine ⟨v22 c hc3, fun j hj => by rw [show N + (32 + 3 * c) + 1 = N + (33 + 3 * c) by omega]; exact v23 c hc3 j hj, ?_⟩
  cases yo with
  | none => rw [I.2.1 c]; exact Nat.zero_le _
  | some y =>
    obtain ⟨i1, i2, i3, i4⟩ := I.2.1 c hc3
    by_cases h1 : y.1 6 ≤ c
    · rw [i1 h1]; exact Nat.zero_le _
    · have h2 := i4 (by omega)
      have K := hc y rfl
      obtain ⟨c2, c3, c4, c5, c6, c7, c8, c9, yk, yd, yf, yh, yc, yl, yp, yhot, yby⟩ := id K
      obtain ⟨-, -, ⟨n, hn1, hn2, hn3⟩, -⟩ := yc c (by omega)
      rw [hn1, nI_clamp (by omega)] at h2
      omega
theorem VM.mr {h : Hp} {N : Nat} {s : St} (V : VM h N s) {yo : Option Dy} (I : Inv yo s) (hc : ∀ y, yo = some y → Yk y) : MR h N s.1 := by
  obtain ⟨v1, v2, v3, v4, v5, v6, v7, v8, v9, v10, v11, v12, v13, v14, v15, v16, v17, v18, v19, v20, v21, v22⟩ := V
  intro c hc3
  refine ⟨v21 c hc3, ?_, v22 c hc3⟩
  cases yo with
  | none => rw [I.2.1 c]; exact Nat.zero_le _
  | some y =>
    obtain ⟨i1, i2, i3, i4⟩ := I.2.1 c hc3
    by_cases h1 : y.1 6 ≤ c
    · rw [i1 h1]; exact Nat.zero_le _
    · have h2 := i4 (by omega)
      have K := hc y rfl
      obtain ⟨c2, c3, c4, c5, c6, c7, c8, c9, yk, yd, yf, yh, yc, yl, yp, yhot, yby⟩ := id K
      obtain ⟨-, -, ⟨n, hn1, hn2, hn3⟩, -⟩ := yc c (by omega)
      rw [hn1, nI_clamp (by omega)] at h2
      omega
theorem Inv.rh {y : Dy} {s : St} (I : Inv (some y) s) : RH y s.1 := fun c hc x hx => (I.2.1 c hc).2.1 x hx
theorem qx_walked {N E d : Nat} {qa : Nat → Nat → Nat} {y : Dy} {c : Nat} {h : Hp} {rd : Nat → List Nat} (Z : XD h N E d qa y) (R : XR h N rd) (H : RH y rd) (hc : c < y.1 6) (tea : Int32) :
    ∃ h', fX1_walked N (nI c) tea h = some (some (N + (32 + 3 * c)), h') ∧ Fr (N + (32 + 3 * c)) (N + (32 + 3 * c) + 3) h h' ∧ RL h' (N + (32 + 3 * c)) (rd c) ∧ gI h' (N + (32 + 3 * c)) 3 = bV y c tea (rd c) ∧ (∀ j, j < (rd c).length → aF h' (N + (32 + 3 * c) + 2) j = (cV y c tea (rd c)).getD j 0) ∧ SVX h h' N ∧ XR h' N rd := by
  have hc3 : c < 3 := by
    obtain ⟨S, e1, D, lE, K⟩ := id Z
    obtain ⟨hz, hfu0, o0, o1, r0_0, o2, r0_2, o3, r2_0, r2_1, o4, r2_2, o5, r0_8, o6, o7, o8, r6_0, r6_1, o9, o10, o11, r9_0, r9_1, o32, o33, o34, r32_0, r32_1, o35, o36, o37, r35_0, r35_1, o38, o39, o40, r38_0, r38_1, r0_9, r0_10, o12, r0_12, o13, r0_13, o14, r0_14, o15, r0_15, o16, r0_18, o17, r0_19, o18, r0_20, o19, r0_22, o20, r0_23, o21, r0_24, o22, r0_25, o23, r0_28, o24, r0_29, o25, r0_30, o26, r0_31, o27, r0_35, o28, r0_36, o29, r0_37, o30, r0_38, o31, r0_39, d5_0, d5_1, d5_2⟩ := id S
    obtain ⟨dlo, do0, dr0, da0, dr1, da1, dr2, da2, dr3, da3, dr4, da4, dr5, da5, dr6, da6, dr7, da7, dr8, da8, dn2, dn3, dn4, dn5, dn6, dn8, dn9, dn7, dv17, dv18, dvf, dt0, dt1, dt2, dt3, dt4, dt5, dt6⟩ := id D
    obtain ⟨yc2, yc3, yc4, yc5, yc6, yc7, yc8, yc9, yyk, yyd, yyf, yyh, yyc, yyl, yyp, yyhot, yyby⟩ := id K
    omega
  obtain ⟨Ro, ea⟩ := SX.ro Z.1 hc3
  obtain ⟨h', q1, q2, q3, q4, q5, q6, q7⟩ := qx_walks Z Ro hc tea (R c hc3) (H c hc3)
  have hS : SVX h h' N := by
    refine ⟨fun k _ => q2.gI (by omega) k, fun j hj => q2.aF (by omega), fun c' hc' => ?_⟩
    by_cases e : c' = c
    · subst e
      exact ⟨q7, by rw [show N + (33 + 3 * c') = N + (32 + 3 * c') + 1 by omega]; exact q6⟩
    · exact ⟨q2.gI (by omega) 2, q2.aF (by omega)⟩
  refine ⟨h', ?_, q2, q3, q4, q5, hS, fun c' hc' => ?_⟩
  · obtain ⟨S, e1, D, lE, K⟩ := id Z
    obtain ⟨hz, hfu0, o0, o1, r0_0, o2, r0_2, o3, r2_0, r2_1, o4, r2_2, o5, r0_8, o6, o7, o8, r6_0, r6_1, o9, o10, o11, r9_0, r9_1, o32, o33, o34, r32_0, r32_1, o35, o36, o37, r35_0, r35_1, o38, o39, o40, r38_0, r38_1, r0_9, r0_10, o12, r0_12, o13, r0_13, o14, r0_14, o15, r0_15, o16, r0_18, o17, r0_19, o18, r0_20, o19, r0_22, o20, r0_23, o21, r0_24, o22, r0_25, o23, r0_28, o24, r0_29, o25, r0_30, o26, r0_31, o27, r0_35, o28, r0_36, o29, r0_37, o30, r0_38, o31, r0_39, d5_0, d5_1, d5_2⟩ := id S
    obtain ⟨dlo, do0, dr0, da0, dr1, da1, dr2, da2, dr3, da3, dr4, da4, dr5, da5, dr6, da6, dr7, da7, dr8, da8, dn2, dn3, dn4, dn5, dn6, dn8, dn9, dn7, dv17, dv18, dvf, dt0, dt1, dt2, dt3, dt4, dt5, dt6⟩ := id D
    obtain ⟨yc2, yc3, yc4, yc5, yc6, yc7, yc8, yc9, yyk, yyd, yyf, yyh, yyc, yyl, yyp, yyhot, yyby⟩ := id K
    obtain ⟨z1, z2, z3, z4⟩ := dt4 c hc
    simp only [fX1_walked, ab_ckq o0, g0_8 o0, r0_8, bdS, b2S, bxL, bxR, onN, onS, aRn o5 hc3, ea, g0_3 o0, e1, g5_4 do0, dr4, aRn da4 (show c < 3 by omega), z2, q1]
  · obtain ⟨a1, a2, a3⟩ := R c' hc'
    refine ⟨(hS.2.2 c' hc').1.trans a1, fun j hj => ?_, a3⟩
    rw [show N + (32 + 3 * c') + 1 = N + (33 + 3 * c') by omega, (hS.2.2 c' hc').2, show N + (33 + 3 * c') = N + (32 + 3 * c') + 1 by omega]
    exact a2 j hj
theorem qx_why {N E d : Nat} {qa : Nat → Nat → Nat} {y : Dy} {h : Hp} {x : Nat} {rd : Nat → List Nat} (Z : XD h N E d qa y) (R : XR h N rd) (H : RH y rd) (hx : x < y.1 5) : fX1_drivenWhy N (nI x) h = some (match caF rd x (y.1 6) 0 with | none => 6 | some _ => 0, h) := by
  have hx6 : x < 6 := by
    obtain ⟨S, e1, D, lE, K⟩ := id Z
    obtain ⟨hz, hfu0, o0, o1, r0_0, o2, r0_2, o3, r2_0, r2_1, o4, r2_2, o5, r0_8, o6, o7, o8, r6_0, r6_1, o9, o10, o11, r9_0, r9_1, o32, o33, o34, r32_0, r32_1, o35, o36, o37, r35_0, r35_1, o38, o39, o40, r38_0, r38_1, r0_9, r0_10, o12, r0_12, o13, r0_13, o14, r0_14, o15, r0_15, o16, r0_18, o17, r0_19, o18, r0_20, o19, r0_22, o20, r0_23, o21, r0_24, o22, r0_25, o23, r0_28, o24, r0_29, o25, r0_30, o26, r0_31, o27, r0_35, o28, r0_36, o29, r0_37, o30, r0_38, o31, r0_39, d5_0, d5_1, d5_2⟩ := id S
    obtain ⟨dlo, do0, dr0, da0, dr1, da1, dr2, da2, dr3, da3, dr4, da4, dr5, da5, dr6, da6, dr7, da7, dr8, da8, dn2, dn3, dn4, dn5, dn6, dn8, dn9, dn7, dv17, dv18, dvf, dt0, dt1, dt2, dt3, dt4, dt5, dt6⟩ := id D
    obtain ⟨yc2, yc3, yc4, yc5, yc6, yc7, yc8, yc9, yyk, yyd, yyf, yyh, yyc, yyl, yyp, yyhot, yyby⟩ := id K
    omega
  have h1 := qx_carOf Z R H hx6
  have h2 := qx_isHouse (E := E) (yo := some y) Z.1 ⟨d, qa, Z.2.1, Z.2.2.1, Z.2.2.2.2⟩ (nI x)
  have h3 := ixo_nI (y := y) (j := 5) hx (by have := Z.2.2.2.2.h5; omega)
  rw [h3] at h2
  have hz : ¬ (b01 (some x).isSome = 0) := b01n
  cases hq : caF rd x (y.1 6) 0 with
  | none =>
    rw [hq] at h1
    simp only [fX1_drivenWhy, ab_ckq Z.1.o, h2, bdS, b2S, bxL, bxR, onN, onS, h1, oI, if_true, if_neg hz]
  | some c =>
    rw [hq] at h1
    have hc := caF_lt hq
    have hc3 : c < 2 ^ 31 := by
      obtain ⟨S, e1, D, lE, K⟩ := id Z
      obtain ⟨hz, hfu0, o0, o1, r0_0, o2, r0_2, o3, r2_0, r2_1, o4, r2_2, o5, r0_8, o6, o7, o8, r6_0, r6_1, o9, o10, o11, r9_0, r9_1, o32, o33, o34, r32_0, r32_1, o35, o36, o37, r35_0, r35_1, o38, o39, o40, r38_0, r38_1, r0_9, r0_10, o12, r0_12, o13, r0_13, o14, r0_14, o15, r0_15, o16, r0_18, o17, r0_19, o18, r0_20, o19, r0_22, o20, r0_23, o21, r0_24, o22, r0_25, o23, r0_28, o24, r0_29, o25, r0_30, o26, r0_31, o27, r0_35, o28, r0_36, o29, r0_37, o30, r0_38, o31, r0_39, d5_0, d5_1, d5_2⟩ := id S
      obtain ⟨dlo, do0, dr0, da0, dr1, da1, dr2, da2, dr3, da3, dr4, da4, dr5, da5, dr6, da6, dr7, da7, dr8, da8, dn2, dn3, dn4, dn5, dn6, dn8, dn9, dn7, dv17, dv18, dvf, dt0, dt1, dt2, dt3, dt4, dt5, dt6⟩ := id D
      obtain ⟨yc2, yc3, yc4, yc5, yc6, yc7, yc8, yc9, yyk, yyd, yyf, yyh, yyc, yyl, yyp, yyhot, yyby⟩ := id K
      omega
    simp only [fX1_drivenWhy, ab_ckq Z.1.o, h2, bdS, b2S, bxL, bxR, onN, onS, h1, oI, nI_m1ne hc3, if_false, if_neg hz]
def plV (x : Nat) (l : List Nat) : Nat := (plF x l 0).getD 0
theorem qx_comesTo {N E d : Nat} {qa : Nat → Nat → Nat} {y : Dy} {c x : Nat} {h : Hp} {rd : Nat → List Nat} (Z : XD h N E d qa y) (R : XR h N rd) (H : RH y rd) (hc : c < y.1 6) (hx : x ∈ rd c) :
    ∃ h', fX1_comesTo N (nI c) (nI x) h = some ((cV y c (gI h N 7) (rd c)).getD (plV x (rd c)) 0, h') ∧ Fr (N + (32 + 3 * c)) (N + (32 + 3 * c) + 3) h h' ∧ SVX h h' N ∧ XR h' N rd := by
  have hc3 : c < 3 := by
    obtain ⟨S, e1, D, lE, K⟩ := id Z
    obtain ⟨hz, hfu0, o0, o1, r0_0, o2, r0_2, o3, r2_0, r2_1, o4, r2_2, o5, r0_8, o6, o7, o8, r6_0, r6_1, o9, o10, o11, r9_0, r9_1, o32, o33, o34, r32_0, r32_1, o35, o36, o37, r35_0, r35_1, o38, o39, o40, r38_0, r38_1, r0_9, r0_10, o12, r0_12, o13, r0_13, o14, r0_14, o15, r0_15, o16, r0_18, o17, r0_19, o18, r0_20, o19, r0_22, o20, r0_23, o21, r0_24, o22, r0_25, o23, r0_28, o24, r0_29, o25, r0_30, o26, r0_31, o27, r0_35, o28, r0_36, o29, r0_37, o30, r0_38, o31, r0_39, d5_0, d5_1, d5_2⟩ := id S
    obtain ⟨dlo, do0, dr0, da0, dr1, da1, dr2, da2, dr3, da3, dr4, da4, dr5, da5, dr6, da6, dr7, da7, dr8, da8, dn2, dn3, dn4, dn5, dn6, dn8, dn9, dn7, dv17, dv18, dvf, dt0, dt1, dt2, dt3, dt4, dt5, dt6⟩ := id D
    obtain ⟨yc2, yc3, yc4, yc5, yc6, yc7, yc8, yc9, yyk, yyd, yyf, yyh, yyc, yyl, yyp, yyhot, yyby⟩ := id K
    omega
  have hr6 : ∀ z ∈ rd c, z < 6 := fun z hz => by
    have := H c hc3 z hz
    obtain ⟨S, e1, D, lE, K⟩ := id Z
    obtain ⟨hz, hfu0, o0, o1, r0_0, o2, r0_2, o3, r2_0, r2_1, o4, r2_2, o5, r0_8, o6, o7, o8, r6_0, r6_1, o9, o10, o11, r9_0, r9_1, o32, o33, o34, r32_0, r32_1, o35, o36, o37, r35_0, r35_1, o38, o39, o40, r38_0, r38_1, r0_9, r0_10, o12, r0_12, o13, r0_13, o14, r0_14, o15, r0_15, o16, r0_18, o17, r0_19, o18, r0_20, o19, r0_22, o20, r0_23, o21, r0_24, o22, r0_25, o23, r0_28, o24, r0_29, o25, r0_30, o26, r0_31, o27, r0_35, o28, r0_36, o29, r0_37, o30, r0_38, o31, r0_39, d5_0, d5_1, d5_2⟩ := id S
    obtain ⟨dlo, do0, dr0, da0, dr1, da1, dr2, da2, dr3, da3, dr4, da4, dr5, da5, dr6, da6, dr7, da7, dr8, da8, dn2, dn3, dn4, dn5, dn6, dn8, dn9, dn7, dv17, dv18, dvf, dt0, dt1, dt2, dt3, dt4, dt5, dt6⟩ := id D
    obtain ⟨yc2, yc3, yc4, yc5, yc6, yc7, yc8, yc9, yyk, yyd, yyf, yyh, yyc, yyl, yyp, yyhot, yyby⟩ := id K
    omega
  obtain ⟨h', q1, q2, q3, q4, q5, q6, q7⟩ := qx_walked Z R H hc (gI h N 7)
  have Ro := (SX.ro Z.1 hc3).1.kept q2.1
  have hp := qx_placeOf Ro ((Z.1.kept q2.1).f) (hr6 x hx) q3 hr6
  obtain ⟨i, hi⟩ : ∃ i, plF x (rd c) 0 = some i := by
    cases hq : plF x (rd c) 0 with
    | none => exact absurd hx (plF_mem.mp hq)
    | some i => exact ⟨i, rfl⟩
  obtain ⟨p1, p2, p3⟩ := plF_lt hi
  have hl6 := q3.2.2
  obtain ⟨R1, R2, R3, R4, R5, R6, R7⟩ := Ro
  refine ⟨h', ?_, q2, q6, q7⟩
  rw [hi] at hp
  simp only [fX1_comesTo, ab_ckq Z.1.o, g0_7 Z.1.o, bdS, b2S, bxL, bxR, onN, onS, q1, g3_1 R3, R5, hp, oI, aIn R7 (show i < 6 by omega), plV, hi, Option.getD_some, q5 i (by omega)]
