noncomputable def wayR (yo : Option Dy) (s : St) (a b : Int32) : Int32 × St := match yo with
  | none => (-1, fin s 1)
  | some y => if a < 0 then (-1, fin s 2) else if 99 < a then (-1, fin s 2) else if b < 0 then (-1, fin s 2) else if 99 < b then (-1, fin s 2) else (wayV y a b, fin s 0)
theorem x_way {N E : Nat} (a b : Int32) : XOp N E (fX1_way N a b) (fun yo s => wayR yo s a b) := by
  intro h yo s ⟨S, P, V, lE⟩ I
  obtain ⟨f1, S1, Q1, t1⟩ := an_all S
  have P1 := P.kept f1.1 (fun q hq => f1.2 q (by omega))
  have han : fX1_anew N h = some (an h N) := qx_anew S
  cases yo with
  | none =>
    obtain ⟨f2, S2, Q2, t2⟩ := no_all S1 1
    refine ⟨sI (an h N) N 4 1, ?_, f1.trans f2, V.fin (Q1.trans Q2) t2 (by decide)⟩
    simp only [PX] at P1
    simp only [fX1_way, ab_ckq S.o, han, bdS, b2S, bxL, bxR, onN, onS, g0_3 S1.o, P1, qx_no S1, wayR]
  | some y =>
    obtain ⟨d, qa, e1, D, K⟩ := P1
    have Z1 : XD (an h N) N E d qa y := ⟨S1, e1, D, lE, K⟩
    have hw := qx_way Z1 a b
    obtain ⟨f2, S2, Q2, t2⟩ := no_all S1 2
    have bad : ∀ r : Int32 × St, r = (-1, fin s 2) → fX1_way N a b h = some (r.1, sI (an h N) N 4 2) → ∃ h', fX1_way N a b h = some (r.1, h') ∧ Fr N (N + 41) h h' ∧ VX h' N (m5 (some y)) r.2 := fun r e hr => by
      subst e
      exact ⟨_, hr, f1.trans f2, V.fin (Q1.trans Q2) t2 (by decide)⟩
    by_cases h1 : a < 0
    · exact bad _ (by simp only [wayR, h1, if_true]) (by simp only [fX1_way, ab_ckq S.o, han, bdS, b2S, bxL, bxR, onN, onS, g0_3 S1.o, e1, qx_in, h1, if_true, qx_no S1, wayR])
    · by_cases h2 : 99 < a
      · exact bad _ (by simp only [wayR, h1, h2, if_true, if_false]) (by simp only [fX1_way, ab_ckq S.o, han, bdS, b2S, bxL, bxR, onN, onS, g0_3 S1.o, e1, qx_in, h1, h2, if_true, if_false, qx_no S1, wayR])
      · by_cases h3 : b < 0
        · exact bad _ (by simp only [wayR, h1, h2, h3, if_true, if_false]) (by simp only [fX1_way, ab_ckq S.o, han, bdS, b2S, bxL, bxR, onN, onS, g0_3 S1.o, e1, qx_in, h1, h2, h3, show ¬ ((1 : Int32) = 0) from by decide, if_true, if_false, qx_no S1, wayR])
        · by_cases h4 : 99 < b
          · exact bad _ (by simp only [wayR, h1, h2, h3, h4, if_true, if_false]) (by simp only [fX1_way, ab_ckq S.o, han, bdS, b2S, bxL, bxR, onN, onS, g0_3 S1.o, e1, qx_in, h1, h2, h3, h4, show ¬ ((1 : Int32) = 0) from by decide, if_true, if_false, qx_no S1, wayR])
          · refine ⟨an h N, ?_, f1, ?_⟩
            · simp only [fX1_way, ab_ckq S.o, han, bdS, b2S, bxL, bxR, onN, onS, g0_3 S1.o, e1, qx_in, h1, h2, h3, h4, show ¬ ((1 : Int32) = 0) from by decide, if_false, hw, wayR]
            · simp only [wayR, h1, h2, h3, h4, if_false]
              exact V.fin Q1 t1 (by decide)
theorem m_way {N E : Nat} (a b : Int32) : MOp N E (fX5_way N a b) (fun yo s => wayR yo s a b) := by
  intro h yo s ⟨S, P, V, lE⟩ I
  obtain ⟨f1, S1, Q1⟩ := th_all S 0
  have P1 := P.kept f1.1 (fun q hq => f1.2 q (by omega))
  cases yo with
  | none =>
    obtain ⟨f2, S2, Q2, t2, w2⟩ := rf_all S1 1
    refine ⟨rf (sI h N 0 0) N 1, ?_, f1.trans f2, V.fin (Q1.trans Q2) t2 w2⟩
    simp only [PM] at P1
    simp only [fX5_way, ab_ckq S.o, ab_pIq S.o S.1, bdS, b2S, bxL, bxR, onN, onS, g4_3 S1.o, P1, qm_refused S1, wayR, rf]
  | some y =>
    obtain ⟨d, e1, D, K⟩ := P1
    have Z1 : MD (sI h N 0 0) N E d y := ⟨S1, e1, D, lE, K⟩
    have hw := qm_way Z1 a b
    obtain ⟨f2, S2, Q2, t2, w2⟩ := rf_all S1 2
    obtain ⟨f3, S3, Q3, t3, w3⟩ := rf_all S1 0
    have bad : ∀ r : Int32 × St, r = (-1, fin s 2) → fX5_way N a b h = some (r.1, rf (sI h N 0 0) N 2) → ∃ h', fX5_way N a b h = some (r.1, h') ∧ Fr N (N + 21) h h' ∧ VM h' N r.2 := fun r e hr => by
      subst e
      exact ⟨_, hr, f1.trans f2, V.fin (Q1.trans Q2) t2 w2⟩
    by_cases h1 : a < 0
    · exact bad _ (by simp only [wayR, h1, if_true]) (by simp only [fX5_way, ab_ckq S.o, ab_pIq S.o S.1, bdS, b2S, bxL, bxR, onN, onS, g4_3 S1.o, e1, qm_in, h1, if_true, qm_refused S1, wayR, rf])
    · by_cases h2 : 99 < a
      · exact bad _ (by simp only [wayR, h1, h2, if_true, if_false]) (by simp only [fX5_way, ab_ckq S.o, ab_pIq S.o S.1, bdS, b2S, bxL, bxR, onN, onS, g4_3 S1.o, e1, qm_in, h1, h2, if_true, if_false, qm_refused S1, wayR, rf])
      · by_cases h3 : b < 0
        · exact bad _ (by simp only [wayR, h1, h2, h3, if_true, if_false]) (by simp only [fX5_way, ab_ckq S.o, ab_pIq S.o S.1, bdS, b2S, bxL, bxR, onN, onS, g4_3 S1.o, e1, qm_in, h1, h2, h3, show ¬ ((1 : Int32) = 0) from by decide, if_true, if_false, qm_refused S1, wayR, rf])
        · by_cases h4 : 99 < b
          · exact bad _ (by simp only [wayR, h1, h2, h3, h4, if_true, if_false]) (by simp only [fX5_way, ab_ckq S.o, ab_pIq S.o S.1, bdS, b2S, bxL, bxR, onN, onS, g4_3 S1.o, e1, qm_in, h1, h2, h3, h4, show ¬ ((1 : Int32) = 0) from by decide, if_true, if_false, qm_refused S1, wayR, rf])
          · refine ⟨rf (sI h N 0 0) N 0, ?_, f1.trans f3, ?_⟩
            · simp only [fX5_way, ab_ckq S.o, ab_pIq S.o S.1, bdS, b2S, bxL, bxR, onN, onS, g4_3 S1.o, e1, qm_in, h1, h2, h3, h4, show ¬ ((1 : Int32) = 0) from by decide, if_false, hw, qm_done S1, wayR, rf]
            · simp only [wayR, h1, h2, h3, h4, if_false]
              exact V.fin (Q1.trans Q3) t3 w3
def sizeR (yo : Option Dy) (s : St) (x : Int32) : Int32 := if x = 10 then s.2 0 0 else if x < 0 then -1 else if 9 < x then -1 else match yo with
  | none => 0
  | some y => if x = 0 then nI (y.1 2) else if x = 1 then nI (y.1 3) else if x = 2 then nI (y.1 4) else if x = 3 then nI (y.1 5) else if x = 4 then nI (y.1 6) else if x = 5 then nI (y.1 7) else if x = 6 then nI (y.1 8) else if x = 7 then nI (y.1 9) else if x = 8 then s.2 0 9 else s.2 0 4
theorem x_cases9 {x : Int32} (h1 : ¬ x < 0) (h2 : ¬ 9 < x) : x = 0 ∨ x = 1 ∨ x = 2 ∨ x = 3 ∨ x = 4 ∨ x = 5 ∨ x = 6 ∨ x = 7 ∨ x = 8 ∨ x = 9 := by
  obtain ⟨j, hj, rfl⟩ := nI_of h1
  have hj9 : j ≤ 9 := by
    refine Nat.not_lt.mp fun h => h2 ?_
    rw [show (9 : Int32) = nI 9 from rfl]
    exact nI_lt h hj
  have hc : j = 0 ∨ j = 1 ∨ j = 2 ∨ j = 3 ∨ j = 4 ∨ j = 5 ∨ j = 6 ∨ j = 7 ∨ j = 8 ∨ j = 9 := by omega
  rcases hc with rfl | rfl | rfl | rfl | rfl | rfl | rfl | rfl | rfl | rfl <;> decide
theorem x_size {N E : Nat} (x : Int32) : XOp N E (fX1_size N x) (fun yo s => (sizeR yo s x, s)) := by
  intro h yo s ⟨S, P, V, lE⟩ I
  refine ⟨h, ?_, Fr.rf, V⟩
  obtain ⟨v1, v2, v3, v4, v5, v6, v7, v8, v9, -⟩ := V
  simp only [fX1_size, ab_ckq S.o, g0_1 S.o, v1, bdS, b2S, bxL, bxR, onN, onS, sizeR]
  by_cases h10 : x = 10
  · simp only [h10, if_true]
  · simp only [h10, if_false]
    cases yo with
    | none =>
      simp only [PX] at P
      simp only [g0_3 S.o, P, bdS, b2S, bxL, bxR, onN, onS, qx_in]
      by_cases h1 : x < 0
      · simp only [h1, if_true]
      · by_cases h2 : 9 < x
        · simp only [h1, h2, if_true, if_false]
        · simp only [h1, h2, if_false, show ¬ ((1 : Int32) = 0) from by decide]
    | some y =>
      obtain ⟨d, qa, e1, D, K⟩ := P
      obtain ⟨dlo, do0, dr0, da0, dr1, da1, dr2, da2, dr3, da3, dr4, da4, dr5, da5, dr6, da6, dr7, da7, dr8, da8, dn2, dn3, dn4, dn5, dn6, dn8, dn9, dn7, dv17, dv18, dvf, dt0, dt1, dt2, dt3, dt4, dt5, dt6⟩ := id D
      simp only [g0_3 S.o, e1, bdS, b2S, bxL, bxR, onN, onS, g5_9 do0, dn2, g5_10 do0, dn3, g5_11 do0, dn4, g5_12 do0, dn5, g5_13 do0, dn6, g5_16 do0, dn7, g5_14 do0, dn8, g5_15 do0, dn9, g0_40 S.o, v9, g0_7 S.o, v4]
      by_cases h1 : x < 0
      · simp only [h1, if_true, show ¬ x = 0 from fun e => by rw [e] at h1; exact absurd h1 (by decide), show ¬ x = 1 from fun e => by rw [e] at h1; exact absurd h1 (by decide), show ¬ x = 2 from fun e => by rw [e] at h1; exact absurd h1 (by decide), show ¬ x = 3 from fun e => by rw [e] at h1; exact absurd h1 (by decide), show ¬ x = 4 from fun e => by rw [e] at h1; exact absurd h1 (by decide), show ¬ x = 5 from fun e => by rw [e] at h1; exact absurd h1 (by decide), show ¬ x = 6 from fun e => by rw [e] at h1; exact absurd h1 (by decide), show ¬ x = 7 from fun e => by rw [e] at h1; exact absurd h1 (by decide), show ¬ x = 8 from fun e => by rw [e] at h1; exact absurd h1 (by decide), show ¬ x = 9 from fun e => by rw [e] at h1; exact absurd h1 (by decide), if_false]
      · by_cases h2 : 9 < x
        · simp only [h1, h2, if_true, if_false, show ¬ x = 0 from fun e => by rw [e] at h2; exact absurd h2 (by decide), show ¬ x = 1 from fun e => by rw [e] at h2; exact absurd h2 (by decide), show ¬ x = 2 from fun e => by rw [e] at h2; exact absurd h2 (by decide), show ¬ x = 3 from fun e => by rw [e] at h2; exact absurd h2 (by decide), show ¬ x = 4 from fun e => by rw [e] at h2; exact absurd h2 (by decide), show ¬ x = 5 from fun e => by rw [e] at h2; exact absurd h2 (by decide), show ¬ x = 6 from fun e => by rw [e] at h2; exact absurd h2 (by decide), show ¬ x = 7 from fun e => by rw [e] at h2; exact absurd h2 (by decide), show ¬ x = 8 from fun e => by rw [e] at h2; exact absurd h2 (by decide), show ¬ x = 9 from fun e => by rw [e] at h2; exact absurd h2 (by decide)]
        · simp only [h1, h2, if_false]
          rcases x_cases9 h1 h2 with rfl | rfl | rfl | rfl | rfl | rfl | rfl | rfl | rfl | rfl <;> rfl
theorem m_size {N E : Nat} (x : Int32) : MOp N E (fX5_size N x) (fun yo s => (sizeR yo s x, s)) := by
  intro h yo s ⟨S, P, V, lE⟩ I
  obtain ⟨f1, S1, Q1⟩ := th_all S 0
  have P1 := P.kept f1.1 (fun q hq => f1.2 q (by omega))
  refine ⟨_, ?_, f1, V.th S⟩
  obtain ⟨v1, v2, v3, v4, v5, v6, v7, v8, v9, v10, -⟩ := V.th S
  simp only [fX5_size, ab_ckq S.o, ab_pIq S.o S.1, g4_6 S1.o, v1, bdS, b2S, bxL, bxR, onN, onS, sizeR, qm_in]
  by_cases h10 : x = 10
  · simp only [h10, if_true]
  · simp only [h10, if_false]
    by_cases h1 : x < 0
    · simp only [h1, if_true]
    · by_cases h2 : 9 < x
      · simp only [h1, h2, if_true, if_false]
      · simp only [h1, h2, if_false, show ¬ ((1 : Int32) = 0) from by decide]
        cases yo with
        | none =>
          simp only [PM] at P1
          simp only [g4_3 S1.o, P1, bdS, b2S, bxL, bxR, onN, onS]
        | some y =>
          obtain ⟨d, e1, D, K⟩ := P1
          obtain ⟨dlo, do0, dv0, dv1, dn2, dn3, dn4, dn5, dn6, dn7, dn8, dn9, dr11, da11, dv11, dr12, da12, dv12, dr13, da13, dv13, dr14, da14, dv14, dr15, da15, dv15, dr16, da16, dv16, dr17, da17, dv17, dr18, da18, dv18, dr19, da19, dv19, dr20, da20, dv20, dr21, da21, dv21, dr22, da22, dv22, dr23, da23, dv23, dr24, da24, dv24, dr25, da25, dv25, dr26, da26, dv26, dr27, da27, dv27, dr28, da28, dv28, dr29, da29, dv29, dr30, da30, dv30, dr31, da31, dv31, dr32, da32, dv32, dr33, da33, dv33⟩ := id D
          simp only [g4_3 S1.o, e1, bdS, b2S, bxL, bxR, onN, onS, g13_2 do0, dn2, g13_3 do0, dn3, g13_4 do0, dn4, g13_5 do0, dn5, g13_6 do0, dn6, g13_7 do0, dn7, g13_8 do0, dn8, g13_9 do0, dn9, g4_42 S1.o, v10, g4_19 S1.o, v5]
          rcases x_cases9 h1 h2 with rfl | rfl | rfl | rfl | rfl | rfl | rfl | rfl | rfl | rfl <;> rfl
/-- what of a dish a diet bars -/
def brdV (y : Dy) (t d : Nat) : Int32 := y.2 15 t &&& y.2 13 d
def etV (y : Dy) (x : Nat) : Nat := (y.2 19 x).toNatClampNeg
theorem Int32_and_comm (a b : Int32) : a &&& b = b &&& a := by
  apply Int32.toBitVec_inj.mp
  simp [BitVec.and_comm]
theorem qx_barred {h : Hp} {N E d : Nat} {qa : Nat → Nat → Nat} {y : Dy} (Z : XD h N E d qa y) {t k : Nat} (ht : t < y.1 4) (hk : k < y.1 3) : fX1_barred N (some (qa 2 t)) (nI k) h = some (brdV y t k, h) := by
  obtain ⟨S, e1, D, lE, K⟩ := id Z
  obtain ⟨hz, hfu0, o0, o1, r0_0, o2, r0_2, o3, r2_0, r2_1, o4, r2_2, o5, r0_8, o6, o7, o8, r6_0, r6_1, o9, o10, o11, r9_0, r9_1, o32, o33, o34, r32_0, r32_1, o35, o36, o37, r35_0, r35_1, o38, o39, o40, r38_0, r38_1, r0_9, r0_10, o12, r0_12, o13, r0_13, o14, r0_14, o15, r0_15, o16, r0_18, o17, r0_19, o18, r0_20, o19, r0_22, o20, r0_23, o21, r0_24, o22, r0_25, o23, r0_28, o24, r0_29, o25, r0_30, o26, r0_31, o27, r0_35, o28, r0_36, o29, r0_37, o30, r0_38, o31, r0_39, d5_0, d5_1, d5_2⟩ := id S
  obtain ⟨dlo, do0, dr0, da0, dr1, da1, dr2, da2, dr3, da3, dr4, da4, dr5, da5, dr6, da6, dr7, da7, dr8, da8, dn2, dn3, dn4, dn5, dn6, dn8, dn9, dn7, dv17, dv18, dvf, dt0, dt1, dt2, dt3, dt4, dt5, dt6⟩ := id D
  obtain ⟨yc2, yc3, yc4, yc5, yc6, yc7, yc8, yc9, yyk, yyd, yyf, yyh, yyc, yyl, yyp, yyhot, yyby⟩ := id K
  obtain ⟨z1, z2, z3, z4⟩ := dt2 t ht
  obtain ⟨u1, u2, u3, u4, u5⟩ := dt1 k hk
  simp only [fX1_barred, ab_ckq o0, bdS, b2S, bxL, bxR, onN, onS, g8_2 z3, z4, g0_3 o0, e1, g5_1 do0, dr1, aRn da1 (show k < 6 by omega), u2, g7_2 u3, u4, brdV]
theorem qm_barred {h : Hp} {N E d : Nat} {y : Dy} (Z : MD h N E d y) {t k : Nat} (ht : t < y.1 4) (hk : k < y.1 3) : fX5_barred N (nI t) (nI k) h = some (brdV y t k, h) := by
  obtain ⟨S, e1, D, lE, K⟩ := id Z
  obtain ⟨hz, hfu0, o0, o1, r0_5, o2, r0_17, o3, r0_18, o4, r0_22, o5, r0_23, o6, r0_26, o7, r0_28, o8, r0_29, o9, r0_30, o10, r0_31, o11, r0_32, o12, r0_35, o13, r0_36, o14, r0_38, o15, r0_39, o16, r0_40, o17, r0_41, o18, r0_43, o19, r0_44, o20, r0_45⟩ := id S
  obtain ⟨dlo, do0, dv0, dv1, dn2, dn3, dn4, dn5, dn6, dn7, dn8, dn9, dr11, da11, dv11, dr12, da12, dv12, dr13, da13, dv13, dr14, da14, dv14, dr15, da15, dv15, dr16, da16, dv16, dr17, da17, dv17, dr18, da18, dv18, dr19, da19, dv19, dr20, da20, dv20, dr21, da21, dv21, dr22, da22, dv22, dr23, da23, dv23, dr24, da24, dv24, dr25, da25, dv25, dr26, da26, dv26, dr27, da27, dv27, dr28, da28, dv28, dr29, da29, dv29, dr30, da30, dv30, dr31, da31, dv31, dr32, da32, dv32, dr33, da33, dv33⟩ := id D
  obtain ⟨yc2, yc3, yc4, yc5, yc6, yc7, yc8, yc9, yyk, yyd, yyf, yyh, yyc, yyl, yyp, yyhot, yyby⟩ := id K
  simp only [fX5_barred, ab_ckq o0, g4_3 o0, e1, bdS, b2S, bxL, bxR, onN, onS, g13_13 do0, dr13, aIn da13 (show k < 6 by omega), dv13, g13_15 do0, dr15, aIn da15 (show t < 4 by omega), dv15, brdV, Int32_and_comm]
