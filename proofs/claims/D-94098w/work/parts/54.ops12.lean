/-! firstCold, faulty -/
def fcS (y : Dy) (s : St) (k : Nat) (b : Int32) : Int32 := if y.2 0 0 ≤ s.2 12 k then b else if b = (-2 : Int32) then nI k else if s.2 11 b.toNatClampNeg ≤ s.2 11 k then b else nI k
def coldR (yo : Option Dy) (s : St) : Int32 × St := match yo with
  | none => (-1, fin s 1)
  | some y => (lp (fcS y s) (s.2 0 9).toNatClampNeg 0 (-2), fin s 0)
theorem nI_m2ne {n : Nat} (h : n < 2 ^ 31) : ¬ nI n = (-2 : Int32) := by
  intro e
  have := congrArg Int32.toInt e
  rw [nI_toInt h, show (-2 : Int32).toInt = -2 from rfl] at this
  omega
def fyW (y : Dy) (s : St) (k : Nat) : Int32 := heatV y (s.2 10 k).toNatClampNeg (s.2 11 k) - s.2 12 k
def fyS (y : Dy) (s : St) (t : Int32) (k : Nat) (a : Int32) : Int32 := if (if 0 ≤ fyW y s k then fyW y s k else -(fyW y s k)) ≤ t then a ||| 0 else a ||| ((1 : Int32) <<< (nI k &&& 31))
def faultyR (yo : Option Dy) (s : St) (t : Int32) : Int32 × St := match yo with
  | none => (-1, fin s 1)
  | some y => if t < 0 then (-1, fin s 2) else if 99 < t then (-1, fin s 2) else (lp (fyS y s t) (s.2 0 9).toNatClampNeg 0 0, fin s 0)
theorem Int32_negI (v : Int32) : (-v).toInt = if v.toInt = -2147483648 then -2147483648 else -v.toInt := by
  have h1 := v.toInt_lt
  have h2 := v.le_toInt
  rw [Int32.toInt_neg, Int.bmod]
  split <;> split <;> omega
theorem fy_abs (v t : Int32) (ht : ¬ t < 0) : ((if 0 ≤ v then v else -v) ≤ t) ↔ (¬ t < -v ∧ -(-v) ≤ t) := by
  have h1 := v.toInt_lt
  have h2 := v.le_toInt
  have hn := Int32_negI v
  have hnn : -(-v) = v := Int32.neg_neg
  rw [hnn]
  rw [Int32.lt_iff_toInt_lt] at ht
  have h0 : (0 : Int32).toInt = 0 := rfl
  rw [h0] at ht
  by_cases h3 : 0 ≤ v
  · rw [if_pos h3]
    rw [Int32.le_iff_toInt_le, h0] at h3
    rw [Int32.le_iff_toInt_le, Int32.lt_iff_toInt_lt, hn]
    split <;> omega
  · rw [if_neg h3]
    rw [Int32.le_iff_toInt_le, h0] at h3
    rw [Int32.le_iff_toInt_le, Int32.lt_iff_toInt_lt, Int32.le_iff_toInt_le, hn]
    split <;> omega
theorem qx_coldL {h : Hp} {N E d : Nat} {qa : Nat → Nat → Nat} {y : Dy} {s : St} {p : Nat} (Z : XD h N E d qa y) (hp : p ≤ 16) (ep : gI h N 40 = nI p) (a11 : aF h (N + 30) = s.2 11) (a12 : aF h (N + 31) = s.2 12) : ∀ (m k n : Nat) (b : Int32), k + m = p → m < n → (b = -2 ∨ ∃ j, j < 16 ∧ b = nI j) → fX1_firstCold_l22 N n b (nI k) h = some (lp (fcS y s) m k b, h) := by
  intro m
  induction m with
  | zero =>
    intro k n b hk hn hb
    cases n with
    | zero => omega
    | succ n =>
      skip
      obtain ⟨S, e1, D, lE, K⟩ := id Z
      obtain ⟨hz, hfu0, o0, o1, r0_0, o2, r0_2, o3, r2_0, r2_1, o4, r2_2, o5, r0_8, o6, o7, o8, r6_0, r6_1, o9, o10, o11, r9_0, r9_1, o32, o33, o34, r32_0, r32_1, o35, o36, o37, r35_0, r35_1, o38, o39, o40, r38_0, r38_1, r0_9, r0_10, o12, r0_12, o13, r0_13, o14, r0_14, o15, r0_15, o16, r0_18, o17, r0_19, o18, r0_20, o19, r0_22, o20, r0_23, o21, r0_24, o22, r0_25, o23, r0_28, o24, r0_29, o25, r0_30, o26, r0_31, o27, r0_35, o28, r0_36, o29, r0_37, o30, r0_38, o31, r0_39, d5_0, d5_1, d5_2⟩ := id S
      obtain ⟨dlo, do0, dr0, da0, dr1, da1, dr2, da2, dr3, da3, dr4, da4, dr5, da5, dr6, da6, dr7, da7, dr8, da8, dn2, dn3, dn4, dn5, dn6, dn8, dn9, dn7, dv17, dv18, dvf, dt0, dt1, dt2, dt3, dt4, dt5, dt6⟩ := id D
      obtain ⟨yc2, yc3, yc4, yc5, yc6, yc7, yc8, yc9, yyk, yyd, yyf, yyh, yyc, yyl, yyp, yyhot, yyby⟩ := id K
      simp only [fX1_firstCold_l22, g0_40 o0, ep, bdS, b2S, bxL, bxR, onN, onS, nI_le (show p ≤ k by omega) (by omega), if_true, lp]
  | succ m ih =>
    intro k n b hk hn hb
    cases n with
    | zero => omega
    | succ n =>
      have hlt : k < p := by omega
      have hk16 : k < 16 := by omega
      have ih1 := fun b hb => ih (k + 1) n b (by omega) (by omega) hb
      have i1 := ih1 b hb
      have i2 := ih1 (nI k) (Or.inr ⟨k, hk16, rfl⟩)
      obtain ⟨S, e1, D, lE, K⟩ := id Z
      obtain ⟨hz, hfu0, o0, o1, r0_0, o2, r0_2, o3, r2_0, r2_1, o4, r2_2, o5, r0_8, o6, o7, o8, r6_0, r6_1, o9, o10, o11, r9_0, r9_1, o32, o33, o34, r32_0, r32_1, o35, o36, o37, r35_0, r35_1, o38, o39, o40, r38_0, r38_1, r0_9, r0_10, o12, r0_12, o13, r0_13, o14, r0_14, o15, r0_15, o16, r0_18, o17, r0_19, o18, r0_20, o19, r0_22, o20, r0_23, o21, r0_24, o22, r0_25, o23, r0_28, o24, r0_29, o25, r0_30, o26, r0_31, o27, r0_35, o28, r0_36, o29, r0_37, o30, r0_38, o31, r0_39, d5_0, d5_1, d5_2⟩ := id S
      obtain ⟨dlo, do0, dr0, da0, dr1, da1, dr2, da2, dr3, da3, dr4, da4, dr5, da5, dr6, da6, dr7, da7, dr8, da8, dn2, dn3, dn4, dn5, dn6, dn8, dn9, dn7, dv17, dv18, dvf, dt0, dt1, dt2, dt3, dt4, dt5, dt6⟩ := id D
      obtain ⟨yc2, yc3, yc4, yc5, yc6, yc7, yc8, yc9, yyk, yyd, yyf, yyh, yyc, yyl, yyp, yyhot, yyby⟩ := id K
      simp only [fX1_firstCold_l22, g0_40 o0, ep, bdS, b2S, bxL, bxR, onN, onS, nI_ge hlt (by omega), if_false, g0_39 o0, r0_39, aIn o31 hk16, a12, g0_3 o0, e1, g5_17 do0, dv17, nI_1, i1, i2, lp, fcS]
      by_cases h1 : y.2 0 0 ≤ s.2 12 k
      · simp only [h1, if_true]
      · rcases hb with rfl | ⟨j, hj, rfl⟩
        · simp only [h1, if_true, if_false]
        · simp only [h1, if_false, nI_m2ne (show j < 2 ^ 31 by omega), g0_38 o0, r0_38, bdS, b2S, bxL, bxR, onN, onS, aIn o30 hk16, aIn o30 hj, a11, nI_clamp (show j < 2 ^ 31 by omega)]
          by_cases h2 : s.2 11 j ≤ s.2 11 k
          · simp only [h2, if_true]
          · simp only [h2, if_false]
theorem qx_faultL {h : Hp} {N E d : Nat} {qa : Nat → Nat → Nat} {y : Dy} {s : St} {p : Nat} {t : Int32} (ht : ¬ t < 0) (Z : XD h N E d qa y) (hp : p ≤ 16) (ep : gI h N 40 = nI p) (a10 : aF h (N + 29) = s.2 10) (a11 : aF h (N + 30) = s.2 11) (a12 : aF h (N + 31) = s.2 12) (hc : ∀ k, k < p → ∃ c, c < y.1 6 ∧ s.2 10 k = nI c) : ∀ (m k n : Nat) (a : Int32), k + m = p → m < n → fX1_faulty_l37 N n t a (nI k) h = some (lp (fyS y s t) m k a, h) := by
  intro m
  induction m with
  | zero =>
    intro k n a hk hn
    cases n with
    | zero => omega
    | succ n =>
      skip
      obtain ⟨S, e1, D, lE, K⟩ := id Z
      obtain ⟨hz, hfu0, o0, o1, r0_0, o2, r0_2, o3, r2_0, r2_1, o4, r2_2, o5, r0_8, o6, o7, o8, r6_0, r6_1, o9, o10, o11, r9_0, r9_1, o32, o33, o34, r32_0, r32_1, o35, o36, o37, r35_0, r35_1, o38, o39, o40, r38_0, r38_1, r0_9, r0_10, o12, r0_12, o13, r0_13, o14, r0_14, o15, r0_15, o16, r0_18, o17, r0_19, o18, r0_20, o19, r0_22, o20, r0_23, o21, r0_24, o22, r0_25, o23, r0_28, o24, r0_29, o25, r0_30, o26, r0_31, o27, r0_35, o28, r0_36, o29, r0_37, o30, r0_38, o31, r0_39, d5_0, d5_1, d5_2⟩ := id S
      obtain ⟨dlo, do0, dr0, da0, dr1, da1, dr2, da2, dr3, da3, dr4, da4, dr5, da5, dr6, da6, dr7, da7, dr8, da8, dn2, dn3, dn4, dn5, dn6, dn8, dn9, dn7, dv17, dv18, dvf, dt0, dt1, dt2, dt3, dt4, dt5, dt6⟩ := id D
      obtain ⟨yc2, yc3, yc4, yc5, yc6, yc7, yc8, yc9, yyk, yyd, yyf, yyh, yyc, yyl, yyp, yyhot, yyby⟩ := id K
      simp only [fX1_faulty_l37, g0_40 o0, ep, bdS, b2S, bxL, bxR, onN, onS, nI_le (show p ≤ k by omega) (by omega), if_true, lp]
  | succ m ih =>
    intro k n a hk hn
    cases n with
    | zero => omega
    | succ n =>
      have hlt : k < p := by omega
      have hk16 : k < 16 := by omega
      obtain ⟨c, hc6, ec⟩ := hc k hlt
      have ih1 := fun a => ih (k + 1) n a (by omega) (by omega)
      have hht := qx_heat Z hc6 (s.2 11 k)
      have hc3 := Z.2.2.2.2.h6
      obtain ⟨S, e1, D, lE, K⟩ := id Z
      obtain ⟨hz, hfu0, o0, o1, r0_0, o2, r0_2, o3, r2_0, r2_1, o4, r2_2, o5, r0_8, o6, o7, o8, r6_0, r6_1, o9, o10, o11, r9_0, r9_1, o32, o33, o34, r32_0, r32_1, o35, o36, o37, r35_0, r35_1, o38, o39, o40, r38_0, r38_1, r0_9, r0_10, o12, r0_12, o13, r0_13, o14, r0_14, o15, r0_15, o16, r0_18, o17, r0_19, o18, r0_20, o19, r0_22, o20, r0_23, o21, r0_24, o22, r0_25, o23, r0_28, o24, r0_29, o25, r0_30, o26, r0_31, o27, r0_35, o28, r0_36, o29, r0_37, o30, r0_38, o31, r0_39, d5_0, d5_1, d5_2⟩ := id S
      obtain ⟨dlo, do0, dr0, da0, dr1, da1, dr2, da2, dr3, da3, dr4, da4, dr5, da5, dr6, da6, dr7, da7, dr8, da8, dn2, dn3, dn4, dn5, dn6, dn8, dn9, dn7, dv17, dv18, dvf, dt0, dt1, dt2, dt3, dt4, dt5, dt6⟩ := id D
      obtain ⟨yc2, yc3, yc4, yc5, yc6, yc7, yc8, yc9, yyk, yyd, yyf, yyh, yyc, yyl, yyp, yyhot, yyby⟩ := id K
      obtain ⟨z1, z2, z3, z4⟩ := dt4 c hc6
      simp only [fX1_faulty_l37, g0_40 o0, ep, bdS, b2S, bxL, bxR, onN, onS, nI_ge hlt (by omega), if_false, g0_3 o0, e1, g5_4 do0, dr4, g0_37 o0, r0_37, aIn o29 hk16, a10, ec, aRn da4 (show c < 3 by omega), z2, g0_38 o0, r0_38, aIn o30 hk16, a11, hht, g0_39 o0, r0_39, aIn o31 hk16, a12, fX1_faulty_b91, nI_1, ih1, lp, fyS, fyW, ec, nI_clamp (show c < 2 ^ 31 by omega)]
      by_cases h1 : 0 ≤ heatV y c (s.2 11 k) - s.2 12 k
      · simp only [h1, if_true]
        by_cases h2 : heatV y c (s.2 11 k) - s.2 12 k ≤ t
        · simp only [h2, if_true]
        · simp only [h2, if_false]
      · simp only [h1, if_false]
        by_cases h2 : -(heatV y c (s.2 11 k) - s.2 12 k) ≤ t
        · simp only [h2, if_true]
        · simp only [h2, if_false]
theorem x_firstCold {N E : Nat} : XOp N E (fX1_firstCold N) (fun yo s => coldR yo s) := by
  intro h yo s ⟨S, P, V, lE⟩ I
  obtain ⟨f1, S1, Q1, t1⟩ := an_all S
  have P1 := P.kept f1.1 (fun q hq => f1.2 q (by omega))
  have han : fX1_anew N h = some (an h N) := qx_anew S
  cases yo with
  | none =>
    obtain ⟨f2, S2, Q2, t2⟩ := no_all S1 1
    refine ⟨sI (an h N) N 4 1, ?_, f1.trans f2, V.fin (Q1.trans Q2) t2 (by decide)⟩
    simp only [PX] at P1
    simp only [fX1_firstCold, ab_ckq S.o, han, bdS, b2S, bxL, bxR, onN, onS, g0_3 S1.o, P1, qx_no S1, coldR]
  | some y =>
    obtain ⟨d, qa, e1, D, K⟩ := P1
    have Z1 : XD (an h N) N E d qa y := ⟨S1, e1, D, lE, K⟩
    obtain ⟨p, hp, ep, hpc⟩ := I.2.2.2.1
    obtain ⟨v1, v2, v3, v4, v5, v6, v7, v8, v9, v10, v11, v12, v13, v14, v15, v16, v17, v18, v19, v20, v21, v22, v23, v24⟩ := V.fin Q1 t1 (by decide)
    have e9 : gI (an h N) N 40 = nI p := v9.trans ep
    have hh := qx_coldL (s := s) Z1 hp e9 v16 v17 p 0 300000 (-2) (by omega) (by omega) (Or.inl rfl)
    rw [nI_0] at hh
    refine ⟨an h N, ?_, f1, V.fin Q1 t1 (by decide)⟩
    simp only [fX1_firstCold, ab_ckq S.o, han, bdS, b2S, bxL, bxR, onN, onS, g0_3 S1.o, e1, S1.f, hh, coldR, ep, nI_clamp (show p < 2 ^ 31 by omega)]
theorem x_faulty {N E : Nat} (t : Int32) : XOp N E (fX1_faulty N t) (fun yo s => faultyR yo s t) := by
  intro h yo s ⟨S, P, V, lE⟩ I
  obtain ⟨f1, S1, Q1, t1⟩ := an_all S
  have P1 := P.kept f1.1 (fun q hq => f1.2 q (by omega))
  have han : fX1_anew N h = some (an h N) := qx_anew S
  cases yo with
  | none =>
    obtain ⟨f2, S2, Q2, t2⟩ := no_all S1 1
    refine ⟨sI (an h N) N 4 1, ?_, f1.trans f2, V.fin (Q1.trans Q2) t2 (by decide)⟩
    simp only [PX] at P1
    simp only [fX1_faulty, ab_ckq S.o, han, bdS, b2S, bxL, bxR, onN, onS, g0_3 S1.o, P1, qx_no S1, faultyR]
  | some y =>
    obtain ⟨d, qa, e1, D, K⟩ := P1
    have Z1 : XD (an h N) N E d qa y := ⟨S1, e1, D, lE, K⟩
    obtain ⟨p, hp, ep, hpc⟩ := I.2.2.2.1
    obtain ⟨v1, v2, v3, v4, v5, v6, v7, v8, v9, v10, v11, v12, v13, v14, v15, v16, v17, v18, v19, v20, v21, v22, v23, v24⟩ := V.fin Q1 t1 (by decide)
    have e9 : gI (an h N) N 40 = nI p := v9.trans ep
    have bad : ∀ r : Int32 × St, r = (-1, fin s 2) → fX1_faulty N t h = some (r.1, sI (an h N) N 4 2) → ∃ h', fX1_faulty N t h = some (r.1, h') ∧ Fr N (N + 41) h h' ∧ VX h' N (m5 (some y)) r.2 := fun r e hr => by
      subst e
      obtain ⟨f2, S2, Q2, t2⟩ := no_all S1 2
      exact ⟨_, hr, f1.trans f2, V.fin (Q1.trans Q2) t2 (by decide)⟩
    by_cases h1 : t < 0
    · exact bad _ (by simp only [faultyR, h1, if_true]) (by simp only [fX1_faulty, ab_ckq S.o, han, bdS, b2S, bxL, bxR, onN, onS, g0_3 S1.o, e1, qx_in, h1, if_true, qx_no S1, faultyR])
    · by_cases h2 : 99 < t
      · exact bad _ (by simp only [faultyR, h1, h2, if_true, if_false]) (by simp only [fX1_faulty, ab_ckq S.o, han, bdS, b2S, bxL, bxR, onN, onS, g0_3 S1.o, e1, qx_in, h1, h2, if_true, if_false, qx_no S1, faultyR])
      · have hh := qx_faultL (s := s) h1 Z1 hp e9 v15 v16 v17 (fun k hk => by obtain ⟨c, c1, c2, c3⟩ := hpc k hk; exact ⟨c, c2 y rfl, c3⟩) p 0 300000 0 (by omega) (by omega)
        rw [nI_0] at hh
        refine ⟨an h N, ?_, f1, ?_⟩
        · simp only [fX1_faulty, ab_ckq S.o, han, bdS, b2S, bxL, bxR, onN, onS, g0_3 S1.o, e1, qx_in, h1, h2, if_false, show ¬ ((1 : Int32) = 0) from by decide, S1.f, hh, faultyR, ep, nI_clamp (show p < 2 ^ 31 by omega)]
        · simp only [faultyR, h1, h2, if_false]
          exact V.fin Q1 t1 (by decide)
theorem qm_coldL {h : Hp} {N E d : Nat} {y : Dy} {s : St} {p : Nat} (Z : MD h N E d y) (hp : p ≤ 16) (ep : gI h N 42 = nI p) (a11 : aF h (N + 19) = s.2 11) (a12 : aF h (N + 20) = s.2 12) : ∀ (m k n : Nat) (b : Int32), k + m = p → m < n → (b = -2 ∨ ∃ j, j < 16 ∧ b = nI j) → fX5_firstCold_l23 N n b (nI k) h = some (lp (fcS y s) m k b, rf h N 0) := by
  intro m
  induction m with
  | zero =>
    intro k n b hk hn hb
    cases n with
    | zero => omega
    | succ n =>
      have hdn := fun v => qm_done Z.1 v
      obtain ⟨S, e1, D, lE, K⟩ := id Z
      obtain ⟨hz, hfu0, o0, o1, r0_5, o2, r0_17, o3, r0_18, o4, r0_22, o5, r0_23, o6, r0_26, o7, r0_28, o8, r0_29, o9, r0_30, o10, r0_31, o11, r0_32, o12, r0_35, o13, r0_36, o14, r0_38, o15, r0_39, o16, r0_40, o17, r0_41, o18, r0_43, o19, r0_44, o20, r0_45⟩ := id S
      obtain ⟨dlo, do0, dv0, dv1, dn2, dn3, dn4, dn5, dn6, dn7, dn8, dn9, dr11, da11, dv11, dr12, da12, dv12, dr13, da13, dv13, dr14, da14, dv14, dr15, da15, dv15, dr16, da16, dv16, dr17, da17, dv17, dr18, da18, dv18, dr19, da19, dv19, dr20, da20, dv20, dr21, da21, dv21, dr22, da22, dv22, dr23, da23, dv23, dr24, da24, dv24, dr25, da25, dv25, dr26, da26, dv26, dr27, da27, dv27, dr28, da28, dv28, dr29, da29, dv29, dr30, da30, dv30, dr31, da31, dv31, dr32, da32, dv32, dr33, da33, dv33⟩ := id D
      obtain ⟨yc2, yc3, yc4, yc5, yc6, yc7, yc8, yc9, yyk, yyd, yyf, yyh, yyc, yyl, yyp, yyhot, yyby⟩ := id K
      simp only [fX5_firstCold_l23, g4_42 o0, ep, bdS, b2S, bxL, bxR, onN, onS, nI_le (show p ≤ k by omega) (by omega), if_true, lp, hdn, rf]
  | succ m ih =>
    intro k n b hk hn hb
    cases n with
    | zero => omega
    | succ n =>
      have hlt : k < p := by omega
      have hk16 : k < 16 := by omega
      have ih1 := fun b hb => ih (k + 1) n b (by omega) (by omega) hb
      have i1 := ih1 b hb
      have i2 := ih1 (nI k) (Or.inr ⟨k, hk16, rfl⟩)
      obtain ⟨S, e1, D, lE, K⟩ := id Z
      obtain ⟨hz, hfu0, o0, o1, r0_5, o2, r0_17, o3, r0_18, o4, r0_22, o5, r0_23, o6, r0_26, o7, r0_28, o8, r0_29, o9, r0_30, o10, r0_31, o11, r0_32, o12, r0_35, o13, r0_36, o14, r0_38, o15, r0_39, o16, r0_40, o17, r0_41, o18, r0_43, o19, r0_44, o20, r0_45⟩ := id S
      obtain ⟨dlo, do0, dv0, dv1, dn2, dn3, dn4, dn5, dn6, dn7, dn8, dn9, dr11, da11, dv11, dr12, da12, dv12, dr13, da13, dv13, dr14, da14, dv14, dr15, da15, dv15, dr16, da16, dv16, dr17, da17, dv17, dr18, da18, dv18, dr19, da19, dv19, dr20, da20, dv20, dr21, da21, dv21, dr22, da22, dv22, dr23, da23, dv23, dr24, da24, dv24, dr25, da25, dv25, dr26, da26, dv26, dr27, da27, dv27, dr28, da28, dv28, dr29, da29, dv29, dr30, da30, dv30, dr31, da31, dv31, dr32, da32, dv32, dr33, da33, dv33⟩ := id D
      obtain ⟨yc2, yc3, yc4, yc5, yc6, yc7, yc8, yc9, yyk, yyd, yyf, yyh, yyc, yyl, yyp, yyhot, yyby⟩ := id K
      simp only [fX5_firstCold_l23, g4_42 o0, ep, bdS, b2S, bxL, bxR, onN, onS, nI_ge hlt (by omega), if_false, g4_45 o0, r0_45, aIn o20 hk16, a12, g4_3 o0, e1, g13_0 do0, dv0, nI_1, i1, i2, lp, fcS]
      by_cases h1 : y.2 0 0 ≤ s.2 12 k
      · simp only [h1, if_true]
      · rcases hb with rfl | ⟨j, hj, rfl⟩
        · simp only [h1, if_true, if_false]
        · simp only [h1, if_false, nI_m2ne (show j < 2 ^ 31 by omega), g4_44 o0, r0_44, bdS, b2S, bxL, bxR, onN, onS, aIn o19 hk16, aIn o19 hj, a11, nI_clamp (show j < 2 ^ 31 by omega)]
          by_cases h2 : s.2 11 j ≤ s.2 11 k
          · simp only [h2, if_true]
          · simp only [h2, if_false]
theorem qm_faultL {h : Hp} {N E d : Nat} {y : Dy} {s : St} {p : Nat} {t : Int32} (ht : ¬ t < 0) (Z : MD h N E d y) (hp : p ≤ 16) (ep : gI h N 42 = nI p) (a10 : aF h (N + 18) = s.2 10) (a11 : aF h (N + 19) = s.2 11) (a12 : aF h (N + 20) = s.2 12) (hc : ∀ k, k < p → ∃ c, c < y.1 6 ∧ s.2 10 k = nI c) : ∀ (m k n : Nat) (a : Int32), k + m = p → m < n → fX5_faulty_l38 N n t a (nI k) h = some (lp (fyS y s t) m k a, rf h N 0) := by
  intro m
  induction m with
  | zero =>
    intro k n a hk hn
    cases n with
    | zero => omega
    | succ n =>
      have hdn := fun v => qm_done Z.1 v
      obtain ⟨S, e1, D, lE, K⟩ := id Z
      obtain ⟨hz, hfu0, o0, o1, r0_5, o2, r0_17, o3, r0_18, o4, r0_22, o5, r0_23, o6, r0_26, o7, r0_28, o8, r0_29, o9, r0_30, o10, r0_31, o11, r0_32, o12, r0_35, o13, r0_36, o14, r0_38, o15, r0_39, o16, r0_40, o17, r0_41, o18, r0_43, o19, r0_44, o20, r0_45⟩ := id S
      obtain ⟨dlo, do0, dv0, dv1, dn2, dn3, dn4, dn5, dn6, dn7, dn8, dn9, dr11, da11, dv11, dr12, da12, dv12, dr13, da13, dv13, dr14, da14, dv14, dr15, da15, dv15, dr16, da16, dv16, dr17, da17, dv17, dr18, da18, dv18, dr19, da19, dv19, dr20, da20, dv20, dr21, da21, dv21, dr22, da22, dv22, dr23, da23, dv23, dr24, da24, dv24, dr25, da25, dv25, dr26, da26, dv26, dr27, da27, dv27, dr28, da28, dv28, dr29, da29, dv29, dr30, da30, dv30, dr31, da31, dv31, dr32, da32, dv32, dr33, da33, dv33⟩ := id D
      obtain ⟨yc2, yc3, yc4, yc5, yc6, yc7, yc8, yc9, yyk, yyd, yyf, yyh, yyc, yyl, yyp, yyhot, yyby⟩ := id K
      simp only [fX5_faulty_l38, g4_42 o0, ep, bdS, b2S, bxL, bxR, onN, onS, nI_le (show p ≤ k by omega) (by omega), if_true, lp, hdn, rf]
  | succ m ih =>
    intro k n a hk hn
    cases n with
    | zero => omega
    | succ n =>
      have hlt : k < p := by omega
      have hk16 : k < 16 := by omega
      obtain ⟨c, hc6, ec⟩ := hc k hlt
      have ih1 := fun a => ih (k + 1) n a (by omega) (by omega)
      have hht := qm_heat Z hc6 (s.2 11 k)
      have hc3 := Z.2.2.2.2.h6
      obtain ⟨S, e1, D, lE, K⟩ := id Z
      obtain ⟨hz, hfu0, o0, o1, r0_5, o2, r0_17, o3, r0_18, o4, r0_22, o5, r0_23, o6, r0_26, o7, r0_28, o8, r0_29, o9, r0_30, o10, r0_31, o11, r0_32, o12, r0_35, o13, r0_36, o14, r0_38, o15, r0_39, o16, r0_40, o17, r0_41, o18, r0_43, o19, r0_44, o20, r0_45⟩ := id S
      obtain ⟨dlo, do0, dv0, dv1, dn2, dn3, dn4, dn5, dn6, dn7, dn8, dn9, dr11, da11, dv11, dr12, da12, dv12, dr13, da13, dv13, dr14, da14, dv14, dr15, da15, dv15, dr16, da16, dv16, dr17, da17, dv17, dr18, da18, dv18, dr19, da19, dv19, dr20, da20, dv20, dr21, da21, dv21, dr22, da22, dv22, dr23, da23, dv23, dr24, da24, dv24, dr25, da25, dv25, dr26, da26, dv26, dr27, da27, dv27, dr28, da28, dv28, dr29, da29, dv29, dr30, da30, dv30, dr31, da31, dv31, dr32, da32, dv32, dr33, da33, dv33⟩ := id D
      obtain ⟨yc2, yc3, yc4, yc5, yc6, yc7, yc8, yc9, yyk, yyd, yyf, yyh, yyc, yyl, yyp, yyhot, yyby⟩ := id K
      skip
      have hneg : s.2 12 k - heatV y c (s.2 11 k) = -(heatV y c (s.2 11 k) - s.2 12 k) := Int32.neg_sub.symm
      simp only [fX5_faulty_l38, g4_42 o0, ep, bdS, b2S, bxL, bxR, onN, onS, nI_ge hlt (by omega), if_false, g4_45 o0, r0_45, aIn o20 hk16, a12, g4_43 o0, r0_43, aIn o18 hk16, a10, ec, g4_44 o0, r0_44, aIn o19 hk16, a11, hht, hneg, nI_1, ih1, lp, fyS, fyW, nI_clamp (show c < 2 ^ 31 by omega)]
      have hab := fy_abs (heatV y c (s.2 11 k) - s.2 12 k) t ht
      by_cases h1 : t < -(heatV y c (s.2 11 k) - s.2 12 k)
      · rw [if_pos h1, if_neg (fun e => (hab.mp e).1 h1)]
      · by_cases h2 : -(-(heatV y c (s.2 11 k) - s.2 12 k)) ≤ t
        · rw [if_neg h1, if_pos h2, if_pos (hab.mpr ⟨h1, h2⟩)]
        · rw [if_neg h1, if_neg h2, if_neg (fun e => h2 (hab.mp e).2)]
theorem m_firstCold {N E : Nat} : MOp N E (fX5_firstCold N) (fun yo s => coldR yo s) := by
  intro h yo s ⟨S, P, V, lE⟩ I
  obtain ⟨f1, S1, Q1⟩ := th_all S 0
  have P1 := P.kept f1.1 (fun q hq => f1.2 q (by omega))
  cases yo with
  | none =>
    obtain ⟨f2, S2, Q2, t2, w2⟩ := rf_all S1 1
    refine ⟨rf (sI h N 0 0) N 1, ?_, f1.trans f2, V.fin (Q1.trans Q2) t2 w2⟩
    simp only [PM] at P1
    simp only [fX5_firstCold, ab_ckq S.o, ab_pIq S.o S.1, bdS, b2S, bxL, bxR, onN, onS, g4_3 S1.o, P1, qm_refused S1, rf, coldR]
  | some y =>
    obtain ⟨d, e1, D, K⟩ := P1
    have Z1 : MD (sI h N 0 0) N E d y := ⟨S1, e1, D, lE, K⟩
    obtain ⟨p, hp, ep, hpc⟩ := I.2.2.2.1
    obtain ⟨v1, v2, v3, v4, v5, v6, v7, v8, v9, v10, v11, v12, v13, v14, v15, v16, v17, v18, v19, v20, v21, v22⟩ := V.th S
    have e9 : gI (sI h N 0 0) N 42 = nI p := v10.trans ep
    have hh := qm_coldL (s := s) Z1 hp e9 v19 v20 p 0 300000 (-2) (by omega) (by omega) (Or.inl rfl)
    rw [nI_0] at hh
    obtain ⟨f2, S2, Q2, t2, w2⟩ := rf_all S1 0
    refine ⟨rf (sI h N 0 0) N 0, ?_, f1.trans f2, V.fin (Q1.trans Q2) t2 w2⟩
    simp only [fX5_firstCold, ab_ckq S.o, ab_pIq S.o S.1, bdS, b2S, bxL, bxR, onN, onS, g4_3 S1.o, e1, S1.f, hh, coldR, ep, nI_clamp (show p < 2 ^ 31 by omega)]
theorem m_faulty {N E : Nat} (t : Int32) : MOp N E (fX5_faulty N t) (fun yo s => faultyR yo s t) := by
  intro h yo s ⟨S, P, V, lE⟩ I
  obtain ⟨f1, S1, Q1⟩ := th_all S 0
  have P1 := P.kept f1.1 (fun q hq => f1.2 q (by omega))
  cases yo with
  | none =>
    obtain ⟨f2, S2, Q2, t2, w2⟩ := rf_all S1 1
    refine ⟨rf (sI h N 0 0) N 1, ?_, f1.trans f2, V.fin (Q1.trans Q2) t2 w2⟩
    simp only [PM] at P1
    simp only [fX5_faulty, ab_ckq S.o, ab_pIq S.o S.1, bdS, b2S, bxL, bxR, onN, onS, g4_3 S1.o, P1, qm_refused S1, rf, faultyR]
  | some y =>
    obtain ⟨d, e1, D, K⟩ := P1
    have Z1 : MD (sI h N 0 0) N E d y := ⟨S1, e1, D, lE, K⟩
    obtain ⟨p, hp, ep, hpc⟩ := I.2.2.2.1
    obtain ⟨v1, v2, v3, v4, v5, v6, v7, v8, v9, v10, v11, v12, v13, v14, v15, v16, v17, v18, v19, v20, v21, v22⟩ := V.th S
    have e9 : gI (sI h N 0 0) N 42 = nI p := v10.trans ep
    have bad : ∀ r : Int32 × St, r = (-1, fin s 2) → fX5_faulty N t h = some (r.1, rf (sI h N 0 0) N 2) → ∃ h', fX5_faulty N t h = some (r.1, h') ∧ Fr N (N + 21) h h' ∧ VM h' N r.2 := fun r e hr => by
      subst e
      obtain ⟨f2, S2, Q2, t2, w2⟩ := rf_all S1 2
      exact ⟨_, hr, f1.trans f2, V.fin (Q1.trans Q2) t2 w2⟩
    by_cases h1 : t < 0
    · exact bad _ (by simp only [faultyR, h1, if_true]) (by simp only [fX5_faulty, ab_ckq S.o, ab_pIq S.o S.1, bdS, b2S, bxL, bxR, onN, onS, g4_3 S1.o, e1, qm_in, h1, if_true, qm_refused S1, rf, faultyR])
    · by_cases h2 : 99 < t
      · exact bad _ (by simp only [faultyR, h1, h2, if_true, if_false]) (by simp only [fX5_faulty, ab_ckq S.o, ab_pIq S.o S.1, bdS, b2S, bxL, bxR, onN, onS, g4_3 S1.o, e1, qm_in, h1, h2, if_true, if_false, qm_refused S1, rf, faultyR])
      · have hh := qm_faultL (s := s) h1 Z1 hp e9 v18 v19 v20 (fun k hk => by obtain ⟨c, c1, c2, c3⟩ := hpc k hk; exact ⟨c, c2 y rfl, c3⟩) p 0 300000 0 (by omega) (by omega)
        rw [nI_0] at hh
        obtain ⟨f2, S2, Q2, t2, w2⟩ := rf_all S1 0
        refine ⟨rf (sI h N 0 0) N 0, ?_, f1.trans f2, ?_⟩
        · simp only [fX5_faulty, ab_ckq S.o, ab_pIq S.o S.1, bdS, b2S, bxL, bxR, onN, onS, g4_3 S1.o, e1, qm_in, h1, h2, if_false, show ¬ ((1 : Int32) = 0) from by decide, S1.f, hh, faultyR, ep, nI_clamp (show p < 2 ^ 31 by omega)]
        · simp only [faultyR, h1, h2, if_false]
          exact V.fin (Q1.trans Q2) t2 w2
