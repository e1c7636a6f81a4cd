/-! tea, sign -/
def setT (s : St) (a b : Nat) (v : Int32) : St := (s.1, fun j k => if j = a ∧ k = b then v else s.2 j k)
theorem shl6 : ∀ n, n ≤ 6 → ((1 : Int32) <<< (nI n &&& 31)) = nI (2 ^ n) := by decide +kernel
theorem two6 : ∀ n, n ≤ 6 → 2 ^ n ≤ 64 := by decide +kernel
noncomputable def teaR (yo : Option Dy) (s : St) (x : Int32) : Int32 × St := match yo with
  | none => (0, fin s 1)
  | some y => if x < 0 then (0, fin s 2) else if nI (2 ^ y.1 5) ≤ x then (0, fin s 2) else (1, fin (setT s 0 4 x) 0)
theorem x_yes {h : Hp} {N : Nat} (S : SX h N) (w : Int32) : fX1_yes N w h = some (if w = 0 then 1 else 0, sI (an h N) N 4 w) := by
  have han : fX1_anew N h = some (an h N) := qx_anew S
  obtain ⟨f1, S1, Q1, t1⟩ := an_all S
  simp only [fX1_yes, ab_ckq S.o, han, bdS, b2S, bxL, bxR, onN, onS, ab_pIq S1.o S1.1]
  by_cases h0 : w = 0
  · simp only [h0, if_true]
  · simp only [h0, if_false]
theorem x_tea {N E : Nat} (x : Int32) : XOp N E (fX1_tea N x) (fun yo s => teaR yo s x) := by
  intro h yo s ⟨S, P, V, lE⟩ I
  obtain ⟨f1, S1, Q1, t1⟩ := an_all S
  have bad : ∀ (r : Int32 × St) (w : Int32), r = (0, fin s w) → w ≠ 4 → fX1_tea N x h = some (r.1, sI (an h N) N 4 w) → ∃ h', fX1_tea N x h = some (r.1, h') ∧ Fr N (N + 41) h h' ∧ VX h' N (m5 yo) r.2 := fun r w e hw hr => by
    subst e
    obtain ⟨f2, S2, Q2, t2⟩ := no_all S1 w
    exact ⟨_, hr, f1.trans f2, V.fin (Q1.trans Q2) t2 hw⟩
  cases yo with
  | none =>
    simp only [PX] at P
    exact bad _ 1 rfl (by decide) (by simp only [fX1_tea, ab_ckq S.o, g0_3 S.o, P, bdS, b2S, bxL, bxR, onN, onS, fX1_tea_b25, x_yes S, show ¬ ((1 : Int32) = 0) from by decide, if_false, if_true, teaR])
  | some y =>
    have K := P.yk y rfl
    have hk5 := K.h5
    obtain ⟨d, qa, e1, D, -⟩ := P
    obtain ⟨dlo, do0, dr0, da0, dr1, da1, dr2, da2, dr3, da3, dr4, da4, dr5, da5, dr6, da6, dr7, da7, dr8, da8, dn2, dn3, dn4, dn5, dn6, dn8, dn9, dn7, dv17, dv18, dvf, dt0, dt1, dt2, dt3, dt4, dt5, dt6⟩ := id D
    have h2 := two6 (y.1 5) hk5.2
    have h3 := nI_m1 (n := 2 ^ y.1 5) (by omega) x
    have hs := shl6 (y.1 5) hk5.2
    have hset : fX1_isSet N x h = some (if x < 0 then 0 else if nI (2 ^ y.1 5) ≤ x then 0 else 1, h) := by
      simp only [fX1_isSet, ab_ckq S.o, g0_3 S.o, e1, bdS, b2S, bxL, bxR, onN, onS, g5_12 do0, dn5, hs, qx_in, h3]
      by_cases h1 : x < 0
      · simp only [h1, if_true]
      · by_cases h4 : nI (2 ^ y.1 5) ≤ x
        · simp only [h1, h4, if_true, if_false]
        · simp only [h1, h4, if_false, show ¬ ((1 : Int32) = 0) from by decide]
    by_cases h1 : x < 0
    · exact bad _ 2 (by simp only [teaR, h1, if_true]) (by decide) (by simp only [fX1_tea, ab_ckq S.o, g0_3 S.o, e1, bdS, b2S, bxL, bxR, onN, onS, hset, h1, if_true, fX1_tea_b25, x_yes S, show ¬ ((2 : Int32) = 0) from by decide, if_false, teaR])
    · by_cases h4 : nI (2 ^ y.1 5) ≤ x
      · exact bad _ 2 (by simp only [teaR, h1, h4, if_true, if_false]) (by decide) (by simp only [fX1_tea, ab_ckq S.o, g0_3 S.o, e1, bdS, b2S, bxL, bxR, onN, onS, hset, h1, h4, if_true, fX1_tea_b25, x_yes S, show ¬ ((2 : Int32) = 0) from by decide, if_false, teaR])
      · obtain ⟨f2, S2, Q2, t2⟩ := no_all S1 0
        have f3 : Fr N (N + 41) (sI (an h N) N 4 0) (sI (sI (an h N) N 4 0) N 7 x) := Fr.sI S2.o rfl (by omega) (by omega)
        refine ⟨sI (sI (an h N) N 4 0) N 7 x, ?_, (f1.trans f2).trans f3, ?_⟩
        · simp only [fX1_tea, ab_ckq S.o, g0_3 S.o, e1, bdS, b2S, bxL, bxR, onN, onS, hset, h1, h4, if_false, if_true, fX1_tea_b25, x_yes S, show ¬ ((1 : Int32) = 0) from by decide, ab_pIq S2.o S2.1, teaR]
        · simp only [teaR, h1, h4, if_false]
          have V1 := V.fin (Q1.trans Q2) t2 (by decide)
          obtain ⟨v1, v2, v3, v4, v5, v6, v7, v8, v9, v10, v11, v12, v13, v14, v15, v16, v17, v18, v19, v20, v21, v22, v23, v24⟩ := V1
          have g : ∀ k, k ≠ 7 → gI (sI (sI (an h N) N 4 0) N 7 x) N k = gI (sI (an h N) N 4 0) N k := fun k hk => by rw [gI_sI S2.o, if_neg (by omega)]
          refine ⟨(g 1 (by omega)).trans v1, (g 4 (by omega)).trans v2, (g 5 (by omega)).trans v3, by rw [gI_sI S2.o, if_pos ⟨rfl, rfl⟩]; rfl, (g 16 (by omega)).trans v5, (g 21 (by omega)).trans v6, (g 26 (by omega)).trans v7, (g 32 (by omega)).trans v8, (g 40 (by omega)).trans v9, fun e => (g 6 (by omega)).trans (v10 e), v11, aF_sI.trans v12, aF_sI.trans v13, aF_sI.trans v14, aF_sI.trans v15, aF_sI.trans v16, aF_sI.trans v17, ?_, ?_, ?_, ?_, fun c hc => by rw [gI_sI S2.o, if_neg (by omega)]; exact v22 c hc, fun c hc k hk => by rw [aF_sI]; exact v23 c hc k hk, fun c hc => by rw [aF_sI]; exact v24 c hc⟩ <;> rw [aF_sI] <;> assumption
theorem m_tea {N E : Nat} (x : Int32) : MOp N E (fX5_tea N x) (fun yo s => teaR yo s x) := by
  intro h yo s ⟨S, P, V, lE⟩ I
  obtain ⟨f1, S1, Q1⟩ := th_all S 0
  have P1 := P.kept f1.1 (fun q hq => f1.2 q (by omega))
  have bad : ∀ (r : Int32 × St) (w : Int32), r = (0, fin s w) → fX5_tea N x h = some (r.1, rf (sI h N 0 0) N w) → ∃ h', fX5_tea N x h = some (r.1, h') ∧ Fr N (N + 21) h h' ∧ VM h' N r.2 := fun r w e hr => by
    subst e
    obtain ⟨f2, S2, Q2, t2, w2⟩ := rf_all S1 w
    exact ⟨_, hr, f1.trans f2, V.fin (Q1.trans Q2) t2 w2⟩
  cases yo with
  | none =>
    simp only [PM] at P1
    exact bad _ 1 rfl (by simp only [fX5_tea, ab_ckq S.o, ab_pIq S.o S.1, g4_3 S1.o, P1, bdS, b2S, bxL, bxR, onN, onS, fX5_tea_b29, qm_refused S1, teaR, rf])
  | some y =>
    have K := P.yk y rfl
    have hk5 := K.h5
    obtain ⟨d, e1, D, -⟩ := P1
    obtain ⟨dlo, do0, dv0, dv1, dn2, dn3, dn4, dn5, dn6, dn7, dn8, dn9, dr11, da11, dv11, dr12, da12, dv12, dr13, da13, dv13, dr14, da14, dv14, dr15, da15, dv15, dr16, da16, dv16, dr17, da17, dv17, dr18, da18, dv18, dr19, da19, dv19, dr20, da20, dv20, dr21, da21, dv21, dr22, da22, dv22, dr23, da23, dv23, dr24, da24, dv24, dr25, da25, dv25, dr26, da26, dv26, dr27, da27, dv27, dr28, da28, dv28, dr29, da29, dv29, dr30, da30, dv30, dr31, da31, dv31, dr32, da32, dv32, dr33, da33, dv33⟩ := id D
    have h2 := two6 (y.1 5) hk5.2
    have hs := shl6 (y.1 5) hk5.2
    by_cases h1 : x < 0
    · exact bad _ 2 (by simp only [teaR, h1, if_true]) (by simp only [fX5_tea, ab_ckq S.o, ab_pIq S.o S.1, g4_3 S1.o, e1, bdS, b2S, bxL, bxR, onN, onS, h1, if_true, fX5_tea_b29, qm_refused S1, teaR, rf])
    · by_cases h4 : nI (2 ^ y.1 5) ≤ x
      · exact bad _ 2 (by simp only [teaR, h1, h4, if_true, if_false]) (by simp only [fX5_tea, ab_ckq S.o, ab_pIq S.o S.1, g4_3 S1.o, e1, bdS, b2S, bxL, bxR, onN, onS, h1, g13_5 do0, dn5, hs, Int32.not_lt.mpr h4, if_false, fX5_tea_b29, qm_refused S1, teaR, h4, if_true, rf])
      · have f2 : Fr N (N + 21) (sI h N 0 0) (sI (sI h N 0 0) N 19 x) := Fr.sI S1.o rfl (by omega) (by omega)
        have S2 := S1.kept f2.1
        obtain ⟨f3, S3, Q3, t3, w3⟩ := rf_all S2 0
        refine ⟨rf (sI (sI h N 0 0) N 19 x) N 0, ?_, (f1.trans f2).trans f3, ?_⟩
        · simp only [fX5_tea, ab_ckq S.o, ab_pIq S.o S.1, g4_3 S1.o, e1, bdS, b2S, bxL, bxR, onN, onS, h1, if_false, g13_5 do0, dn5, hs, Int32.not_le.mp h4, if_true, ab_pIq S1.o S1.1, qm_done S2, teaR, h4, rf]
        · simp only [teaR, h1, h4, if_false]
          have g : ∀ k, k ≠ 19 → gI (sI (sI h N 0 0) N 19 x) N k = gI (sI h N 0 0) N k := fun k hk => by rw [gI_sI S1.o, if_neg (by omega)]
          obtain ⟨v1, v2, v3, v4, v5, v6, v7, v8, v9, v10, v11, v12, v13, v14, v15, v16, v17, v18, v19, v20, v21, v22⟩ := V.th S
          obtain ⟨Qa, Qb⟩ := Q3
          have a := fun j hj => (Qb j hj).trans (aF_sI (h := sI h N 0 0) (a := N) (k := 19) (v := x) (q := N + j))
          exact ⟨((Qa 6 (by omega)).trans (g 6 (by omega))).trans v1, t3, ((Qa 13 (by omega)).trans (g 13 (by omega))).trans v3, w3, (Qa 19 (by omega)).trans (by rw [gI_sI S1.o, if_pos ⟨rfl, rfl⟩]; rfl), ((Qa 27 (by omega)).trans (g 27 (by omega))).trans v6, ((Qa 33 (by omega)).trans (g 33 (by omega))).trans v7, ((Qa 34 (by omega)).trans (g 34 (by omega))).trans v8, ((Qa 37 (by omega)).trans (g 37 (by omega))).trans v9, ((Qa 42 (by omega)).trans (g 42 (by omega))).trans v10, (a 1 (by omega)).trans v11, (a 7 (by omega)).trans v12, (a 11 (by omega)).trans v13, (a 13 (by omega)).trans v14, (a 14 (by omega)).trans v15, (a 16 (by omega)).trans v16, (a 17 (by omega)).trans v17, (a 18 (by omega)).trans v18, (a 19 (by omega)).trans v19, (a 20 (by omega)).trans v20, fun c hc => by rw [a 2 (by omega)]; exact v21 c hc, fun c hc k hk => by rw [a 3 (by omega)]; exact v22 c hc k hk⟩
