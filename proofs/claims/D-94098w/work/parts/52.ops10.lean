/-! probe -/
def setP (s : St) (c m t : Int32) : St := (s.1, fun j => if j = 0 then upd (s.2 0) 9 (s.2 0 9 + 1) else if j = 10 then upd (s.2 10) (s.2 0 9).toNatClampNeg c else if j = 11 then upd (s.2 11) (s.2 0 9).toNatClampNeg m else if j = 12 then upd (s.2 12) (s.2 0 9).toNatClampNeg t else s.2 j)
noncomputable def probeR (yo : Option Dy) (s : St) (x m t : Int32) : Int32 × St := onI yo 6 x (-1, fin s 1) fun y c => if m < y.2 27 c then (-1, fin s 2) else if 999 < m then (-1, fin s 2) else if t < 0 then (-1, fin s 2) else if 99 < t then (-1, fin s 2) else if s.2 0 9 = 16 then (-1, fin s 3) else (s.2 0 9 + 1, fin (setP s x m t) 0)
theorem x_probe {N E : Nat} (x m t : Int32) : XOp N E (fX1_probe N x m t) (fun yo s => probeR yo s x m t) := by
  intro h yo s ⟨S, P, V, lE⟩ I
  obtain ⟨f1, S1, Q1, t1⟩ := an_all S
  have P1 := P.kept f1.1 (fun q hq => f1.2 q (by omega))
  have hh := qx_isCar S1 P1 x
  have han : fX1_anew N h = some (an h N) := qx_anew S
  have bad : ∀ (r : Int32 × St) (w : Int32), r = (-1, fin s w) → w ≠ 4 → fX1_probe N x m t h = some (r.1, sI (an h N) N 4 w) → ∃ h', fX1_probe N x m t h = some (r.1, h') ∧ Fr N (N + 41) h h' ∧ VX h' N (m5 yo) r.2 := fun r w e hw hr => by
    subst e
    obtain ⟨f2, S2, Q2, t2⟩ := no_all S1 w
    exact ⟨_, hr, f1.trans f2, V.fin (Q1.trans Q2) t2 hw⟩
  cases hx : ixo yo 6 x with
  | none =>
    rw [hx] at hh
    exact bad _ 1 (by simp only [probeR, onI_none hx]) (by decide) (by simp only [fX1_probe, ab_ckq S.o, han, bdS, b2S, bxL, bxR, onN, onS, hh, b01z, if_true, qx_no S1, probeR, onI_none hx])
  | some c =>
    obtain ⟨y, rfl, rfl, hi, hi6⟩ := ixo_fits (by omega) P.yk hx
    rw [hx] at hh
    have K := P.yk y rfl
    have hc3 := K.h6
    obtain ⟨d, qa, e1, D, -⟩ := P1
    obtain ⟨dlo, do0, dr0, da0, dr1, da1, dr2, da2, dr3, da3, dr4, da4, dr5, da5, dr6, da6, dr7, da7, dr8, da8, dn2, dn3, dn4, dn5, dn6, dn8, dn9, dn7, dv17, dv18, dvf, dt0, dt1, dt2, dt3, dt4, dt5, dt6⟩ := id D
    obtain ⟨z1, z2, z3, z4, z5, z6, z7, z8⟩ := dt4 c hi
    have V1 := V.fin Q1 t1 (by decide)
    obtain ⟨v1, v2, v3, v4, v5, v6, v7, v8, v9, v10, v11, v12, v13, v14, v15, v16, v17, v18, v19, v20, v21, v22, v23, v24⟩ := V1
    have e9 : gI (an h N) N 40 = s.2 0 9 := v9
    obtain ⟨whz, whfu0, wo0, wo1, wr0_0, wo2, wr0_2, wo3, wr2_0, wr2_1, wo4, wr2_2, wo5, wr0_8, wo6, wo7, wo8, wr6_0, wr6_1, wo9, wo10, wo11, wr9_0, wr9_1, wo32, wo33, wo34, wr32_0, wr32_1, wo35, wo36, wo37, wr35_0, wr35_1, wo38, wo39, wo40, wr38_0, wr38_1, wr0_9, wr0_10, wo12, wr0_12, wo13, wr0_13, wo14, wr0_14, wo15, wr0_15, wo16, wr0_18, wo17, wr0_19, wo18, wr0_20, wo19, wr0_22, wo20, wr0_23, wo21, wr0_24, wo22, wr0_25, wo23, wr0_28, wo24, wr0_29, wo25, wr0_30, wo26, wr0_31, wo27, wr0_35, wo28, wr0_36, wo29, wr0_37, wo30, wr0_38, wo31, wr0_39, wd5_0, wd5_1, wd5_2⟩ := id S1
    by_cases h1 : m < y.2 27 c
    · exact bad _ 2 (by simp only [probeR, onI_some hx, h1, if_true]) (by decide) (by simp only [fX1_probe, ab_ckq S.o, han, bdS, b2S, bxL, bxR, onN, onS, hh, if_neg b01n, g0_3 wo0, e1, g5_4 do0, dr4, aRn da4 (show c < 3 by omega), z2, g10_3 z3, z4, qx_in, h1, if_true, qx_no S1, probeR, onI_some hx])
    · by_cases h2 : 999 < m
      · exact bad _ 2 (by simp only [probeR, onI_some hx, h1, h2, if_true, if_false]) (by decide) (by simp only [fX1_probe, ab_ckq S.o, han, bdS, b2S, bxL, bxR, onN, onS, hh, if_neg b01n, g0_3 wo0, e1, g5_4 do0, dr4, aRn da4 (show c < 3 by omega), z2, g10_3 z3, z4, qx_in, h1, h2, if_true, if_false, qx_no S1, probeR, onI_some hx])
      · by_cases h3 : t < 0
        · exact bad _ 2 (by simp only [probeR, onI_some hx, h1, h2, h3, if_true, if_false]) (by decide) (by simp only [fX1_probe, ab_ckq S.o, han, bdS, b2S, bxL, bxR, onN, onS, hh, if_neg b01n, g0_3 wo0, e1, g5_4 do0, dr4, aRn da4 (show c < 3 by omega), z2, g10_3 z3, z4, qx_in, h1, h2, h3, show ¬ ((1 : Int32) = 0) from by decide, if_true, if_false, qx_no S1, probeR, onI_some hx])
        · by_cases h4 : 99 < t
          · exact bad _ 2 (by simp only [probeR, onI_some hx, h1, h2, h3, h4, if_true, if_false]) (by decide) (by simp only [fX1_probe, ab_ckq S.o, han, bdS, b2S, bxL, bxR, onN, onS, hh, if_neg b01n, g0_3 wo0, e1, g5_4 do0, dr4, aRn da4 (show c < 3 by omega), z2, g10_3 z3, z4, qx_in, h1, h2, h3, h4, show ¬ ((1 : Int32) = 0) from by decide, if_true, if_false, qx_no S1, probeR, onI_some hx])
          · by_cases h5 : s.2 0 9 = 16
            · exact bad _ 3 (by simp only [probeR, onI_some hx, h1, h2, h3, h4, h5, if_true, if_false]) (by decide) (by simp only [fX1_probe, ab_ckq S.o, han, bdS, b2S, bxL, bxR, onN, onS, hh, if_neg b01n, g0_3 wo0, e1, g5_4 do0, dr4, aRn da4 (show c < 3 by omega), z2, g10_3 z3, z4, qx_in, h1, h2, h3, h4, show ¬ ((1 : Int32) = 0) from by decide, if_true, if_false, g0_40 wo0, e9, h5, qx_no S1, probeR, onI_some hx])
            · obtain ⟨p, hp, ep, -⟩ := I.2.2.2.1
              have hp16 : p < 16 := by
                rw [ep] at h5
                have : p ≠ 16 := fun e => h5 (by rw [e]; rfl)
                omega
              rw [ep] at e9
              have f2 : Fr N (N + 41) (an h N) (sA (an h N) (N + 29) p (nI c)) := Fr.sA (by omega) (by omega)
              have S2 := S1.kept f2.1
              obtain ⟨uhz, uhfu0, uo0, uo1, ur0_0, uo2, ur0_2, uo3, ur2_0, ur2_1, uo4, ur2_2, uo5, ur0_8, uo6, uo7, uo8, ur6_0, ur6_1, uo9, uo10, uo11, ur9_0, ur9_1, uo32, uo33, uo34, ur32_0, ur32_1, uo35, uo36, uo37, ur35_0, ur35_1, uo38, uo39, uo40, ur38_0, ur38_1, ur0_9, ur0_10, uo12, ur0_12, uo13, ur0_13, uo14, ur0_14, uo15, ur0_15, uo16, ur0_18, uo17, ur0_19, uo18, ur0_20, uo19, ur0_22, uo20, ur0_23, uo21, ur0_24, uo22, ur0_25, uo23, ur0_28, uo24, ur0_29, uo25, ur0_30, uo26, ur0_31, uo27, ur0_35, uo28, ur0_36, uo29, ur0_37, uo30, ur0_38, uo31, ur0_39, ud5_0, ud5_1, ud5_2⟩ := id S2
              have f3 : Fr N (N + 41) (sA (an h N) (N + 29) p (nI c)) (sA (sA (an h N) (N + 29) p (nI c)) (N + 30) p m) := Fr.sA (by omega) (by omega)
              have S3 := S2.kept f3.1
              obtain ⟨thz, thfu0, to0, to1, tr0_0, to2, tr0_2, to3, tr2_0, tr2_1, to4, tr2_2, to5, tr0_8, to6, to7, to8, tr6_0, tr6_1, to9, to10, to11, tr9_0, tr9_1, to32, to33, to34, tr32_0, tr32_1, to35, to36, to37, tr35_0, tr35_1, to38, to39, to40, tr38_0, tr38_1, tr0_9, tr0_10, to12, tr0_12, to13, tr0_13, to14, tr0_14, to15, tr0_15, to16, tr0_18, to17, tr0_19, to18, tr0_20, to19, tr0_22, to20, tr0_23, to21, tr0_24, to22, tr0_25, to23, tr0_28, to24, tr0_29, to25, tr0_30, to26, tr0_31, to27, tr0_35, to28, tr0_36, to29, tr0_37, to30, tr0_38, to31, tr0_39, td5_0, td5_1, td5_2⟩ := id S3
              have f4 : Fr N (N + 41) (sA (sA (an h N) (N + 29) p (nI c)) (N + 30) p m) (sA (sA (sA (an h N) (N + 29) p (nI c)) (N + 30) p m) (N + 31) p t) := Fr.sA (by omega) (by omega)
              have S4 := S3.kept f4.1
              have f5 : Fr N (N + 41) (sA (sA (sA (an h N) (N + 29) p (nI c)) (N + 30) p m) (N + 31) p t) (sI (sA (sA (sA (an h N) (N + 29) p (nI c)) (N + 30) p m) (N + 31) p t) N 40 (nI (p + 1))) := Fr.sI S4.o rfl (by omega) (by omega)
              have S5 := S4.kept f5.1
              have g5 : gI (sI (sA (sA (sA (an h N) (N + 29) p (nI c)) (N + 30) p m) (N + 31) p t) N 40 (nI (p + 1))) N 40 = nI (p + 1) := by rw [gI_sI S4.o, if_pos ⟨rfl, rfl⟩]
              refine ⟨_, ?_, (((f1.trans f2).trans f3).trans f4).trans f5, ?_⟩
              · simp only [fX1_probe, ab_ckq S.o, han, bdS, b2S, bxL, bxR, onN, onS, hh, if_neg b01n, g0_3 wo0, e1, g5_4 do0, dr4, aRn da4 (show c < 3 by omega), z2, g10_3 z3, z4, qx_in, h1, h2, h3, h4, show ¬ ((1 : Int32) = 0) from by decide, if_false, g0_40 wo0, e9, show ¬ (nI p = (16 : Int32)) from fun e => h5 (by rw [ep]; exact e), g0_37 wo0, wr0_37, sIn wo29 (show hfz (an h N) ≤ N + 29 by omega) hp16, g0_38 uo0, ur0_38, g0_40 uo0, gI_sA, sIn uo30 (show hfz (sA (an h N) (N + 29) p (nI c)) ≤ N + 30 by omega) hp16, g0_39 to0, tr0_39, g0_40 to0, sIn to31 (show hfz (sA (sA (an h N) (N + 29) p (nI c)) (N + 30) p m) ≤ N + 31 by omega) hp16, g0_40 S4.o, nI_1, ab_pIq S4.o S4.1, g0_40 S5.o, g5, probeR, onI_some hx, h5, ep]
              · simp only [probeR, onI_some hx, h1, h2, h3, h4, h5, if_false]
                have gg : ∀ q j, ¬ (q = N ∧ j = 40) → gI (sI (sA (sA (sA (an h N) (N + 29) p (nI c)) (N + 30) p m) (N + 31) p t) N 40 (nI (p + 1))) q j = gI (an h N) q j := fun q j hq => by rw [gI_sI S4.o, if_neg hq, gI_sA, gI_sA, gI_sA]
                have aa : ∀ j, j ≠ 29 → j ≠ 30 → j ≠ 31 → aF (sI (sA (sA (sA (an h N) (N + 29) p (nI c)) (N + 30) p m) (N + 31) p t) N 40 (nI (p + 1))) (N + j) = aF (an h N) (N + j) := fun j h1 h2 h3 => by rw [aF_sI, aF_sA to31, if_neg (by omega), aF_sA uo30, if_neg (by omega), aF_sA wo29, if_neg (by omega)]
                refine ⟨(gg _ _ (by omega)).trans v1, (gg _ _ (by omega)).trans v2, (gg _ _ (by omega)).trans v3, (gg _ _ (by omega)).trans v4, (gg _ _ (by omega)).trans v5, (gg _ _ (by omega)).trans v6, (gg _ _ (by omega)).trans v7, (gg _ _ (by omega)).trans v8, ?_, fun e => absurd e (show ¬ ((0 : Int32) = 4) from by decide), fun _ => rfl, (aa 1 (by omega) (by omega) (by omega)).trans v12, (aa 28 (by omega) (by omega) (by omega)).trans v13, (aa 27 (by omega) (by omega) (by omega)).trans v14, ?_, ?_, ?_, ?_, ?_, ?_, ?_, fun c hc => (gg _ _ (by omega)).trans (v22 c hc), fun c hc k hk => by rw [aa (33 + 3 * c) (by omega) (by omega) (by omega)]; exact v23 c hc k hk, fun c hc => by rw [aa 26 (by omega) (by omega) (by omega)]; exact v24 c hc⟩
                · rw [g5]
                  show _ = s.2 0 9 + 1
                  rw [ep, nI_1]
                · rw [aF_sI, aF_sA to31, if_neg (by omega), aF_sA uo30, if_neg (by omega), aF_sA wo29, if_pos rfl, v15]
                  show _ = upd (s.2 10) (s.2 0 9).toNatClampNeg (nI c)
                  rw [ep, nI_clamp (by omega)]
                  rfl
                · rw [aF_sI, aF_sA to31, if_neg (by omega), aF_sA uo30, if_pos rfl, aF_sA wo29, if_neg (by omega), v16]
                  show _ = upd (s.2 11) (s.2 0 9).toNatClampNeg m
                  rw [ep, nI_clamp (by omega)]
                  rfl
                · rw [aF_sI, aF_sA to31, if_pos rfl, aF_sA uo30, if_neg (by omega), aF_sA wo29, if_neg (by omega), v17]
                  show _ = upd (s.2 12) (s.2 0 9).toNatClampNeg t
                  rw [ep, nI_clamp (by omega)]
                  rfl
                · rw [aa 15 (by omega) (by omega) (by omega)]; exact v18
                · rw [aa 18 (by omega) (by omega) (by omega)]; exact v19
                · rw [aa 22 (by omega) (by omega) (by omega)]; exact v20
                · rw [aa 25 (by omega) (by omega) (by omega)]; exact v21
theorem m_probe {N E : Nat} (x m t : Int32) : MOp N E (fX5_probe N x m t) (fun yo s => probeR yo s x m t) := by
  intro h yo s ⟨S, P, V, lE⟩ I
  obtain ⟨f1, S1, Q1⟩ := th_all S 0
  have P1 := P.kept f1.1 (fun q hq => f1.2 q (by omega))
  have hh := qm_isCar S1 P1 x
  have bad : ∀ (r : Int32 × St) (w : Int32), r = (-1, fin s w) → fX5_probe N x m t h = some (r.1, rf (sI h N 0 0) N w) → ∃ h', fX5_probe N x m t h = some (r.1, h') ∧ Fr N (N + 21) h h' ∧ VM h' N r.2 := fun r w e hr => by
    subst e
    obtain ⟨f2, S2, Q2, t2, w2⟩ := rf_all S1 w
    exact ⟨_, hr, f1.trans f2, V.fin (Q1.trans Q2) t2 w2⟩
  cases hx : ixo yo 6 x with
  | none =>
    rw [hx] at hh
    exact bad _ 1 (by simp only [probeR, onI_none hx]) (by simp only [fX5_probe, ab_ckq S.o, ab_pIq S.o S.1, bdS, b2S, bxL, bxR, onN, onS, hh, b01z, if_true, qm_refused S1, probeR, onI_none hx, rf])
  | some c =>
    obtain ⟨y, rfl, rfl, hi, hi6⟩ := ixo_fits (by omega) P.yk hx
    rw [hx] at hh
    have K := P.yk y rfl
    have hc3 := K.h6
    obtain ⟨d, e1, D, -⟩ := P1
    obtain ⟨dlo, do0, dv0, dv1, dn2, dn3, dn4, dn5, dn6, dn7, dn8, dn9, dr11, da11, dv11, dr12, da12, dv12, dr13, da13, dv13, dr14, da14, dv14, dr15, da15, dv15, dr16, da16, dv16, dr17, da17, dv17, dr18, da18, dv18, dr19, da19, dv19, dr20, da20, dv20, dr21, da21, dv21, dr22, da22, dv22, dr23, da23, dv23, dr24, da24, dv24, dr25, da25, dv25, dr26, da26, dv26, dr27, da27, dv27, dr28, da28, dv28, dr29, da29, dv29, dr30, da30, dv30, dr31, da31, dv31, dr32, da32, dv32, dr33, da33, dv33⟩ := id D
    obtain ⟨v1, v2, v3, v4, v5, v6, v7, v8, v9, v10, v11, v12, v13, v14, v15, v16, v17, v18, v19, v20, v21, v22⟩ := V.th S
    obtain ⟨whz, whfu0, wo0, wo1, wr0_5, wo2, wr0_17, wo3, wr0_18, wo4, wr0_22, wo5, wr0_23, wo6, wr0_26, wo7, wr0_28, wo8, wr0_29, wo9, wr0_30, wo10, wr0_31, wo11, wr0_32, wo12, wr0_35, wo13, wr0_36, wo14, wr0_38, wo15, wr0_39, wo16, wr0_40, wo17, wr0_41, wo18, wr0_43, wo19, wr0_44, wo20, wr0_45⟩ := id S1
    have e9 := v10
    by_cases h1 : m < y.2 27 c
    · exact bad _ 2 (by simp only [probeR, onI_some hx, h1, if_true]) (by simp only [fX5_probe, ab_ckq S.o, ab_pIq S.o S.1, bdS, b2S, bxL, bxR, onN, onS, hh, if_neg b01n, g4_3 wo0, e1, g13_27 do0, dr27, aIn da27 (show c < 3 by omega), dv27, qm_in, h1, if_true, qm_refused S1, probeR, onI_some hx, rf])
    · by_cases h2 : 999 < m
      · exact bad _ 2 (by simp only [probeR, onI_some hx, h1, h2, if_true, if_false]) (by simp only [fX5_probe, ab_ckq S.o, ab_pIq S.o S.1, bdS, b2S, bxL, bxR, onN, onS, hh, if_neg b01n, g4_3 wo0, e1, g13_27 do0, dr27, aIn da27 (show c < 3 by omega), dv27, qm_in, h1, h2, if_true, if_false, qm_refused S1, probeR, onI_some hx, rf])
      · by_cases h3 : t < 0
        · exact bad _ 2 (by simp only [probeR, onI_some hx, h1, h2, h3, if_true, if_false]) (by simp only [fX5_probe, ab_ckq S.o, ab_pIq S.o S.1, bdS, b2S, bxL, bxR, onN, onS, hh, if_neg b01n, g4_3 wo0, e1, g13_27 do0, dr27, aIn da27 (show c < 3 by omega), dv27, qm_in, h1, h2, h3, show ¬ ((1 : Int32) = 0) from by decide, if_true, if_false, qm_refused S1, probeR, onI_some hx, rf])
        · by_cases h4 : 99 < t
          · exact bad _ 2 (by simp only [probeR, onI_some hx, h1, h2, h3, h4, if_true, if_false]) (by simp only [fX5_probe, ab_ckq S.o, ab_pIq S.o S.1, bdS, b2S, bxL, bxR, onN, onS, hh, if_neg b01n, g4_3 wo0, e1, g13_27 do0, dr27, aIn da27 (show c < 3 by omega), dv27, qm_in, h1, h2, h3, h4, show ¬ ((1 : Int32) = 0) from by decide, if_true, if_false, qm_refused S1, probeR, onI_some hx, rf])
          · by_cases h5 : s.2 0 9 = 16
            · exact bad _ 3 (by simp only [probeR, onI_some hx, h1, h2, h3, h4, h5, if_true, if_false]) (by simp only [fX5_probe, ab_ckq S.o, ab_pIq S.o S.1, bdS, b2S, bxL, bxR, onN, onS, hh, if_neg b01n, g4_3 wo0, e1, g13_27 do0, dr27, aIn da27 (show c < 3 by omega), dv27, qm_in, h1, h2, h3, h4, show ¬ ((1 : Int32) = 0) from by decide, if_true, if_false, g4_42 wo0, e9, h5, qm_refused S1, probeR, onI_some hx, rf])
            · obtain ⟨p, hp, ep, -⟩ := I.2.2.2.1
              have hp16 : p < 16 := by
                rw [ep] at h5
                have : p ≠ 16 := fun e => h5 (by rw [e]; rfl)
                omega
              rw [ep] at e9
              have f2 : Fr N (N + 21) (sI h N 0 0) (sA (sI h N 0 0) (N + 18) p (nI c)) := Fr.sA (by omega) (by omega)
              have S2 := S1.kept f2.1
              obtain ⟨uhz, uhfu0, uo0, uo1, ur0_5, uo2, ur0_17, uo3, ur0_18, uo4, ur0_22, uo5, ur0_23, uo6, ur0_26, uo7, ur0_28, uo8, ur0_29, uo9, ur0_30, uo10, ur0_31, uo11, ur0_32, uo12, ur0_35, uo13, ur0_36, uo14, ur0_38, uo15, ur0_39, uo16, ur0_40, uo17, ur0_41, uo18, ur0_43, uo19, ur0_44, uo20, ur0_45⟩ := id S2
              have f3 : Fr N (N + 21) (sA (sI h N 0 0) (N + 18) p (nI c)) (sA (sA (sI h N 0 0) (N + 18) p (nI c)) (N + 19) p m) := Fr.sA (by omega) (by omega)
              have S3 := S2.kept f3.1
              obtain ⟨thz, thfu0, to0, to1, tr0_5, to2, tr0_17, to3, tr0_18, to4, tr0_22, to5, tr0_23, to6, tr0_26, to7, tr0_28, to8, tr0_29, to9, tr0_30, to10, tr0_31, to11, tr0_32, to12, tr0_35, to13, tr0_36, to14, tr0_38, to15, tr0_39, to16, tr0_40, to17, tr0_41, to18, tr0_43, to19, tr0_44, to20, tr0_45⟩ := id S3
              have f4 : Fr N (N + 21) (sA (sA (sI h N 0 0) (N + 18) p (nI c)) (N + 19) p m) (sA (sA (sA (sI h N 0 0) (N + 18) p (nI c)) (N + 19) p m) (N + 20) p t) := Fr.sA (by omega) (by omega)
              have S4 := S3.kept f4.1
              have f5 : Fr N (N + 21) (sA (sA (sA (sI h N 0 0) (N + 18) p (nI c)) (N + 19) p m) (N + 20) p t) (sI (sA (sA (sA (sI h N 0 0) (N + 18) p (nI c)) (N + 19) p m) (N + 20) p t) N 42 (nI (p + 1))) := Fr.sI S4.o rfl (by omega) (by omega)
              have S5 := S4.kept f5.1
              obtain ⟨f6, S6, Q6, t6, w6⟩ := rf_all S5 0
              have g5 : gI (sI (sA (sA (sA (sI h N 0 0) (N + 18) p (nI c)) (N + 19) p m) (N + 20) p t) N 42 (nI (p + 1))) N 42 = nI (p + 1) := by rw [gI_sI S4.o, if_pos ⟨rfl, rfl⟩]
              refine ⟨rf (sI (sA (sA (sA (sI h N 0 0) (N + 18) p (nI c)) (N + 19) p m) (N + 20) p t) N 42 (nI (p + 1))) N 0, ?_, ((((f1.trans f2).trans f3).trans f4).trans f5).trans f6, ?_⟩
              · simp only [fX5_probe, ab_ckq S.o, ab_pIq S.o S.1, bdS, b2S, bxL, bxR, onN, onS, hh, if_neg b01n, g4_3 wo0, e1, g13_27 do0, dr27, aIn da27 (show c < 3 by omega), dv27, qm_in, h1, h2, h3, h4, show ¬ ((1 : Int32) = 0) from by decide, if_false, g4_42 wo0, e9, show ¬ (nI p = (16 : Int32)) from fun e => h5 (by rw [ep]; exact e), g4_43 wo0, wr0_43, sIn wo18 (show hfz (sI h N 0 0) ≤ N + 18 by omega) hp16, g4_44 uo0, ur0_44, g4_42 uo0, gI_sA, sIn uo19 (show hfz (sA (sI h N 0 0) (N + 18) p (nI c)) ≤ N + 19 by omega) hp16, g4_45 to0, tr0_45, g4_42 to0, sIn to20 (show hfz (sA (sA (sI h N 0 0) (N + 18) p (nI c)) (N + 19) p m) ≤ N + 20 by omega) hp16, g4_42 S4.o, nI_1, ab_pIq S4.o S4.1, g4_42 S5.o, g5, qm_done S5, probeR, onI_some hx, h5, ep, rf]
              · simp only [probeR, onI_some hx, h1, h2, h3, h4, h5, if_false]
                have gg : ∀ j, j = 6 ∨ j = 13 ∨ j = 19 ∨ j = 27 ∨ j = 33 ∨ j = 34 ∨ j = 37 → gI (rf (sI (sA (sA (sA (sI h N 0 0) (N + 18) p (nI c)) (N + 19) p m) (N + 20) p t) N 42 (nI (p + 1))) N 0) N j = gI (sI h N 0 0) N j := fun j hq => (Q6.1 j (by omega)).trans (by rw [gI_sI S4.o, if_neg (by omega), gI_sA, gI_sA, gI_sA])
                have aa : ∀ j, (1 ≤ j ∧ j ≤ 3) ∨ j = 7 ∨ j = 11 ∨ j = 13 ∨ j = 14 ∨ j = 16 ∨ j = 17 → aF (rf (sI (sA (sA (sA (sI h N 0 0) (N + 18) p (nI c)) (N + 19) p m) (N + 20) p t) N 42 (nI (p + 1))) N 0) (N + j) = aF (sI h N 0 0) (N + j) := fun j hj => (Q6.2 j (by omega)).trans (by rw [aF_sI, aF_sA to20, if_neg (by omega), aF_sA uo19, if_neg (by omega), aF_sA wo18, if_neg (by omega)])
                refine ⟨(gg 6 (by omega)).trans v1, t6, (gg 13 (by omega)).trans v3, w6, (gg 19 (by omega)).trans v5, (gg 27 (by omega)).trans v6, (gg 33 (by omega)).trans v7, (gg 34 (by omega)).trans v8, (gg 37 (by omega)).trans v9, ?_, (aa 1 (by omega)).trans v11, (aa 7 (by omega)).trans v12, (aa 11 (by omega)).trans v13, (aa 13 (by omega)).trans v14, (aa 14 (by omega)).trans v15, (aa 16 (by omega)).trans v16, (aa 17 (by omega)).trans v17, ?_, ?_, ?_, fun c hc => by rw [aa 2 (by omega)]; exact v21 c hc, fun c hc k hk => by rw [aa 3 (by omega)]; exact v22 c hc k hk⟩
                · rw [Q6.1 42 (by omega), g5]
                  show _ = s.2 0 9 + 1
                  rw [ep, nI_1]
                · rw [Q6.2 18 (by omega), aF_sI, aF_sA to20, if_neg (by omega), aF_sA uo19, if_neg (by omega), aF_sA wo18, if_pos rfl, v18]
                  show _ = upd (s.2 10) (s.2 0 9).toNatClampNeg (nI c)
                  rw [ep, nI_clamp (by omega)]
                · rw [Q6.2 19 (by omega), aF_sI, aF_sA to20, if_neg (by omega), aF_sA uo19, if_pos rfl, aF_sA wo18, if_neg (by omega), v19]
                  show _ = upd (s.2 11) (s.2 0 9).toNatClampNeg m
                  rw [ep, nI_clamp (by omega)]
                · rw [Q6.2 20 (by omega), aF_sI, aF_sA to20, if_pos rfl, aF_sA uo19, if_neg (by omega), aF_sA wo18, if_neg (by omega), v20]
                  show _ = upd (s.2 12) (s.2 0 9).toNatClampNeg t
                  rw [ep, nI_clamp (by omega)]
