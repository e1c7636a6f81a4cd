noncomputable def fitsR (yo : Option Dy) (s : St) (x z : Int32) : Int32 × St := onI yo 5 x (-1, fin s 1) fun y i => match ixo (some y) 3 z with
  | none => (-1, fin s 1)
  | some k => (if brdV y (etV y i) k = 0 then 1 else 0, fin s 0)
noncomputable def breachR (yo : Option Dy) (s : St) (x z : Int32) : Int32 × St := onI yo 5 x (-1, fin s 1) fun y i => match ixo (some y) 3 z with
  | none => (-1, fin s 1)
  | some k => (brdV y (etV y i) k, fin s 0)
theorem x_fits2 {N E : Nat} (x z : Int32) : XOp N E (fX1_fits N x z) (fun yo s => fitsR yo s x z) ∧ XOp N E (fX1_breach N x z) (fun yo s => breachR yo s x z) := by
  refine ⟨?_, ?_⟩ <;>
  · intro h yo s ⟨S, P, V, lE⟩ I
    obtain ⟨f1, S1, Q1, t1⟩ := an_all S
    have P1 := P.kept f1.1 (fun q hq => f1.2 q (by omega))
    have hh := qx_isHouse S1 P1 x
    have hd := qx_isDish S1 P1 z
    have han : fX1_anew N h = some (an h N) := qx_anew S
    obtain ⟨f2, S2, Q2, t2⟩ := no_all S1 1
    cases hx : ixo yo 5 x with
    | none =>
      rw [hx] at hh
      refine ⟨sI (an h N) N 4 1, ?_, f1.trans f2, ?_⟩
      · simp only [fX1_fits, fX1_breach, ab_ckq S.o, han, bdS, b2S, bxL, bxR, onN, onS, hh, b01z, if_true, qx_no S1, fitsR, breachR, onI_none hx]
      · simp only [fitsR, breachR, onI_none hx]
        exact V.fin (Q1.trans Q2) t2 (by decide)
    | some i =>
      obtain ⟨y, rfl, rfl, hi, hi6⟩ := ixo_fits (by omega) P.yk hx
      rw [hx] at hh
      cases hz : ixo (some y) 3 z with
      | none =>
        rw [hz] at hd
        refine ⟨sI (an h N) N 4 1, ?_, f1.trans f2, ?_⟩
        · simp only [fX1_fits, fX1_breach, ab_ckq S.o, han, bdS, b2S, bxL, bxR, onN, onS, hh, hd, b01z, if_neg b01n, if_true, qx_no S1, fitsR, breachR, onI_some hx, hz]
        · simp only [fitsR, breachR, onI_some hx, hz]
          exact V.fin (Q1.trans Q2) t2 (by decide)
      | some k =>
        obtain ⟨y', e', rfl, hk, hk6⟩ := ixo_fits (by omega) P.yk hz
        cases e'
        rw [hz] at hd
        obtain ⟨d, qa, e1, D, K⟩ := P1
        have Z1 : XD (an h N) N E d qa y := ⟨S1, e1, D, lE, K⟩
        have het : etV y i < y.1 4 := by
          obtain ⟨c2, c3, c4, c5, c6, c7, c8, c9, yk, yd, yf, yh, yc, yl, yp, yhot, yby⟩ := id K
          exact (yh i hi).2.1.2
        have hb := qx_barred Z1 het hk
        refine ⟨an h N, ?_, f1, ?_⟩
        · obtain ⟨wS, we1, wD, wlE, wK⟩ := id Z1
          obtain ⟨whz, whfu0, wo0, wo1, wr0_0, wo2, wr0_2, wo3, wr2_0, wr2_1, wo4, wr2_2, wo5, wr0_8, wo6, wo7, wo8, wr6_0, wr6_1, wo9, wo10, wo11, wr9_0, wr9_1, wo32, wo33, wo34, wr32_0, wr32_1, wo35, wo36, wo37, wr35_0, wr35_1, wo38, wo39, wo40, wr38_0, wr38_1, wr0_9, wr0_10, wo12, wr0_12, wo13, wr0_13, wo14, wr0_14, wo15, wr0_15, wo16, wr0_18, wo17, wr0_19, wo18, wr0_20, wo19, wr0_22, wo20, wr0_23, wo21, wr0_24, wo22, wr0_25, wo23, wr0_28, wo24, wr0_29, wo25, wr0_30, wo26, wr0_31, wo27, wr0_35, wo28, wr0_36, wo29, wr0_37, wo30, wr0_38, wo31, wr0_39, wd5_0, wd5_1, wd5_2⟩ := id wS
          obtain ⟨wdlo, wdo0, wdr0, wda0, wdr1, wda1, wdr2, wda2, wdr3, wda3, wdr4, wda4, wdr5, wda5, wdr6, wda6, wdr7, wda7, wdr8, wda8, wdn2, wdn3, wdn4, wdn5, wdn6, wdn8, wdn9, wdn7, wdv17, wdv18, wdvf, wdt0, wdt1, wdt2, wdt3, wdt4, wdt5, wdt6⟩ := id wD
          obtain ⟨wyc2, wyc3, wyc4, wyc5, wyc6, wyc7, wyc8, wyc9, wyyk, wyyd, wyyf, wyyh, wyyc, wyyl, wyyp, wyyhot, wyyby⟩ := id wK
          obtain ⟨z1, z2, z3, z4, z5, z6, z7, z8, z9, z10⟩ := wdt3 i hi
          simp only [fX1_fits, fX1_breach, ab_ckq S.o, han, bdS, b2S, bxL, bxR, onN, onS, hh, hd, if_neg b01n, g0_3 S1.o, e1, g5_3 wdo0, wdr3, aRn wda3 hi6, z2, g9_7 z3, z10, show (y.2 19 i).toNatClampNeg = etV y i from rfl, hb, fitsR, breachR, onI_some hx, hz]
          try (by_cases h0 : brdV y (etV y i) k = 0
               · simp only [h0, if_true]
               · simp only [h0, if_false])
        · simp only [fitsR, breachR, onI_some hx, hz]
          exact V.fin Q1 t1 (by decide)
theorem m_fits2 {N E : Nat} (x z : Int32) : MOp N E (fX5_fits N x z) (fun yo s => fitsR yo s x z) ∧ MOp N E (fX5_breach N x z) (fun yo s => breachR yo s x z) := by
  refine ⟨?_, ?_⟩ <;>
  · intro h yo s ⟨S, P, V, lE⟩ I
    obtain ⟨f1, S1, Q1⟩ := th_all S 0
    have P1 := P.kept f1.1 (fun q hq => f1.2 q (by omega))
    have hh := qm_isHouse S1 P1 x
    have hd := qm_isDish S1 P1 z
    obtain ⟨f2, S2, Q2, t2, w2⟩ := rf_all S1 1
    obtain ⟨f3, S3, Q3, t3, w3⟩ := rf_all S1 0
    cases hx : ixo yo 5 x with
    | none =>
      rw [hx] at hh
      refine ⟨rf (sI h N 0 0) N 1, ?_, f1.trans f2, ?_⟩
      · simp only [fX5_fits, fX5_breach, ab_ckq S.o, ab_pIq S.o S.1, bdS, b2S, bxL, bxR, onN, onS, hh, b01z, if_true, qm_refused S1, fitsR, breachR, onI_none hx, rf]
      · simp only [fitsR, breachR, onI_none hx]
        exact V.fin (Q1.trans Q2) t2 w2
    | some i =>
      obtain ⟨y, rfl, rfl, hi, hi6⟩ := ixo_fits (by omega) P.yk hx
      rw [hx] at hh
      cases hz : ixo (some y) 3 z with
      | none =>
        rw [hz] at hd
        refine ⟨rf (sI h N 0 0) N 1, ?_, f1.trans f2, ?_⟩
        · simp only [fX5_fits, fX5_breach, ab_ckq S.o, ab_pIq S.o S.1, bdS, b2S, bxL, bxR, onN, onS, hh, hd, b01z, if_neg b01n, if_true, qm_refused S1, fitsR, breachR, onI_some hx, hz, rf]
        · simp only [fitsR, breachR, onI_some hx, hz]
          exact V.fin (Q1.trans Q2) t2 w2
      | some k =>
        obtain ⟨y', e', rfl, hk, hk6⟩ := ixo_fits (by omega) P.yk hz
        cases e'
        rw [hz] at hd
        obtain ⟨d, e1, D, K⟩ := P1
        have Z1 : MD (sI h N 0 0) N E d y := ⟨S1, e1, D, lE, K⟩
        have het : y.2 19 i = nI (etV y i) ∧ etV y i < y.1 4 := by
          obtain ⟨c2, c3, c4, c5, c6, c7, c8, c9, yk, yd, yf, yh, yc, yl, yp, yhot, yby⟩ := id K
          exact (yh i hi).2.1
        have hb := qm_barred Z1 het.2 hk
        refine ⟨rf (sI h N 0 0) N 0, ?_, f1.trans f3, ?_⟩
        · obtain ⟨wS, we1, wD, wlE, wK⟩ := id Z1
          obtain ⟨whz, whfu0, wo0, wo1, wr0_5, wo2, wr0_17, wo3, wr0_18, wo4, wr0_22, wo5, wr0_23, wo6, wr0_26, wo7, wr0_28, wo8, wr0_29, wo9, wr0_30, wo10, wr0_31, wo11, wr0_32, wo12, wr0_35, wo13, wr0_36, wo14, wr0_38, wo15, wr0_39, wo16, wr0_40, wo17, wr0_41, wo18, wr0_43, wo19, wr0_44, wo20, wr0_45⟩ := id wS
          obtain ⟨wdlo, wdo0, wdv0, wdv1, wdn2, wdn3, wdn4, wdn5, wdn6, wdn7, wdn8, wdn9, wdr11, wda11, wdv11, wdr12, wda12, wdv12, wdr13, wda13, wdv13, wdr14, wda14, wdv14, wdr15, wda15, wdv15, wdr16, wda16, wdv16, wdr17, wda17, wdv17, wdr18, wda18, wdv18, wdr19, wda19, wdv19, wdr20, wda20, wdv20, wdr21, wda21, wdv21, wdr22, wda22, wdv22, wdr23, wda23, wdv23, wdr24, wda24, wdv24, wdr25, wda25, wdv25, wdr26, wda26, wdv26, wdr27, wda27, wdv27, wdr28, wda28, wdv28, wdr29, wda29, wdv29, wdr30, wda30, wdv30, wdr31, wda31, wdv31, wdr32, wda32, wdv32, wdr33, wda33, wdv33⟩ := id wD
          obtain ⟨wyc2, wyc3, wyc4, wyc5, wyc6, wyc7, wyc8, wyc9, wyyk, wyyd, wyyf, wyyh, wyyc, wyyl, wyyp, wyyhot, wyyby⟩ := id wK
          simp only [fX5_fits, fX5_breach, ab_ckq S.o, ab_pIq S.o S.1, bdS, b2S, bxL, bxR, onN, onS, hh, hd, if_neg b01n, g4_3 S1.o, e1, g13_19 wdo0, wdr19, aIn wda19 hi6, wdv19, het.1, hb, qm_done S1, fitsR, breachR, onI_some hx, hz, rf]
          try (by_cases h0 : brdV y (etV y i) k = 0
               · simp only [h0, if_true]
               · simp only [h0, if_false])
        · simp only [fitsR, breachR, onI_some hx, hz]
          exact V.fin (Q1.trans Q3) t3 w3
noncomputable def costsR (yo : Option Dy) (s : St) (x : Int32) : Int32 × St := onI yo 5 x (-1000, fin s 1) fun y i => match caF s.1 i (y.1 6) 0 with
  | none => (-1000, fin s 6)
  | some c => (nI (pc (bN y c ((1 : Int32) <<< (x &&& 31)) (s.1 c))) - nI (pc (bN y c 0 (s.1 c))), fin s 0)
theorem x_costs {N E : Nat} (x : Int32) : XOp N E (fX1_costs N x) (fun yo s => costsR yo s x) := by
  intro h yo s ⟨S, P, V, lE⟩ I
  obtain ⟨f1, S1, Q1, t1⟩ := an_all S
  have P1 := P.kept f1.1 (fun q hq => f1.2 q (by omega))
  have hh := qx_isHouse S1 P1 x
  have han : fX1_anew N h = some (an h N) := qx_anew S
  cases hx : ixo yo 5 x with
  | none =>
    rw [hx] at hh
    obtain ⟨f2, S2, Q2, t2⟩ := no_all S1 1
    refine ⟨sI (an h N) N 4 1, ?_, f1.trans f2, ?_⟩
    · simp only [fX1_costs, ab_ckq S.o, han, bdS, b2S, bxL, bxR, onN, onS, fX1_drivenWhy, ab_ckq S1.o, hh, b01z, if_true, ab_pIq S1.o S1.1, g0_4 S2.o, t2, show ¬ ((1 : Int32) = 0) from by decide, if_false, costsR, onI_none hx]
    · simp only [costsR, onI_none hx]
      exact V.fin (Q1.trans Q2) t2 (by decide)
  | some i =>
    obtain ⟨y, rfl, rfl, hi, hi6⟩ := ixo_fits (by omega) P.yk hx
    have R1 := (V.xr I P.yk).kept Q1
    obtain ⟨d, qa, e1, D, K⟩ := P1
    have Z1 : XD (an h N) N E d qa y := ⟨S1, e1, D, lE, K⟩
    have hw := qx_why Z1 R1 I.rh hi
    cases hq : caF s.1 i (y.1 6) 0 with
    | none =>
      rw [hq] at hw
      obtain ⟨f2, S2, Q2, t2⟩ := no_all S1 6
      refine ⟨sI (an h N) N 4 6, ?_, f1.trans f2, ?_⟩
      · simp only [fX1_costs, ab_ckq S.o, han, bdS, b2S, bxL, bxR, onN, onS, hw, ab_pIq S1.o S1.1, g0_4 S2.o, t2, show ¬ ((6 : Int32) = 0) from by decide, if_false, costsR, onI_some hx, hq]
      · simp only [costsR, onI_some hx, hq]
        exact V.fin (Q1.trans Q2) t2 (by decide)
    | some c =>
      rw [hq] at hw
      obtain ⟨f2, S2, Q2, t2⟩ := no_all S1 0
      have Z2 := Z1.kept f2
      have R2 := R1.kept Q2
      have hc := qx_carOf Z2 R2 I.rh hi6
      rw [hq] at hc
      obtain ⟨k1, k2, k3⟩ := caF_lt hq
      have hc3 := K.h6
      have hk5 := K.h5
      have hcl : c < y.1 6 := by omega
      have hr6 : ∀ z ∈ s.1 c, z < 6 := fun z hz => by have := I.rh c (by omega) z hz; omega
      obtain ⟨ha, q1, q2, q3, q4, q5, q6, q7⟩ := qx_walked Z2 R2 I.rh hcl ((1 : Int32) <<< (nI i &&& 31))
      have w2 := q2.wide (show N ≤ N + (32 + 3 * c) by omega) (show N + (32 + 3 * c) + 3 ≤ N + 41 by omega)
      have Z3 := Z2.kept w2
      have Ra := (SX.ro Z3.1 (show c < 3 by omega)).1
      obtain ⟨hb, u1, u2, u3, u4, u5, u6, u7⟩ := qx_walked Z3 q7 I.rh hcl 0
      have w3 := u2.wide (show N ≤ N + (32 + 3 * c) by omega) (show N + (32 + 3 * c) + 3 ≤ N + 41 by omega)
      have Z4 := Z3.kept w3
      have Rb := (SX.ro Z4.1 (show c < 3 by omega)).1
      obtain ⟨b1, b2⟩ := bN_ok (y := y) (c := c) (tea := (1 : Int32) <<< (nI i &&& 31)) hr6
      obtain ⟨b3, b4⟩ := bN_ok (y := y) (c := c) (tea := 0) hr6
      refine ⟨hb, ?_, ((f1.trans f2).trans w2).trans w3, ?_⟩
      · simp only [fX1_costs, ab_ckq S.o, han, bdS, b2S, bxL, bxR, onN, onS, hw, ab_pIq S1.o S1.1, g0_4 S2.o, t2, if_true, hc, oI, q1, g3_3 Ra.2.2.1, q4, b2, qx_ones Z3.1.f b1, u1, g3_3 Rb.2.2.1, u4, b4, qx_ones Z4.1.f b3, costsR, onI_some hx, hq]
      · simp only [costsR, onI_some hx, hq]
        exact V.fin (((Q1.trans Q2).trans q6).trans u6) ((u2.gI (by omega) 4).trans ((q2.gI (by omega) 4).trans t2)) (by decide)
theorem m_costs {N E : Nat} (x : Int32) : MOp N E (fX5_costs N x) (fun yo s => costsR yo s x) := by
  intro h yo s ⟨S, P, V, lE⟩ I
  obtain ⟨f1, S1, Q1⟩ := th_all S 0
  have P1 := P.kept f1.1 (fun q hq => f1.2 q (by omega))
  have hh := qm_isHouse S1 P1 x
  cases hx : ixo yo 5 x with
  | none =>
    rw [hx] at hh
    obtain ⟨f2, S2, Q2, t2, w2⟩ := rf_all S1 1
    refine ⟨rf (sI h N 0 0) N 1, ?_, f1.trans f2, ?_⟩
    · simp only [fX5_costs, ab_ckq S.o, ab_pIq S.o S.1, bdS, b2S, bxL, bxR, onN, onS, hh, b01z, if_true, qm_lost S1, costsR, onI_none hx, rf]
    · simp only [costsR, onI_none hx]
      exact V.fin (Q1.trans Q2) t2 w2
  | some i =>
    obtain ⟨y, rfl, rfl, hi, hi6⟩ := ixo_fits (by omega) P.yk hx
    rw [hx] at hh
    have R1 := (V.mr I P.yk).kept Q1
    obtain ⟨d, e1, D, K⟩ := P1
    have Z1 : MD (sI h N 0 0) N E d y := ⟨S1, e1, D, lE, K⟩
    have hc := qm_carOf Z1 R1 I.rh hi6
    cases hq : caF s.1 i (y.1 6) 0 with
    | none =>
      rw [hq] at hc
      obtain ⟨f2, S2, Q2, t2, w2⟩ := rf_all S1 6
      refine ⟨rf (sI h N 0 0) N 6, ?_, f1.trans f2, ?_⟩
      · simp only [fX5_costs, ab_ckq S.o, ab_pIq S.o S.1, bdS, b2S, bxL, bxR, onN, onS, hh, if_neg b01n, hc, oI, if_true, qm_lost S1, costsR, onI_some hx, hq, rf]
      · simp only [costsR, onI_some hx, hq]
        exact V.fin (Q1.trans Q2) t2 w2
    | some c =>
      rw [hq] at hc
      obtain ⟨k1, k2, k3⟩ := caF_lt hq
      have hc3 := K.h6
      have hk5 := K.h5
      have hcl : c < y.1 6 := by omega
      have hr6 : ∀ z ∈ s.1 c, z < 6 := fun z hz => by have := I.rh c (by omega) z hz; omega
      obtain ⟨r1, r2, r3⟩ := R1 c (by omega)
      obtain ⟨ha, q1, q2, q3, q4, q5, q6, q7⟩ := qm_driven Z1 hcl 0 (fun z hz => I.rh c (by omega) z hz) r2 r1 r3
      have Z2 := Z1.kept q2
      have Qa : SVM (sI h N 0 0) ha N := ⟨fun j hj => q4 j (by omega) (by omega), fun j hj => aF_of (q3 _ (by omega) (by omega) (by omega))⟩
      obtain ⟨r1, r2, r3⟩ := R1.kept Qa c (by omega)
      obtain ⟨hb, u1, u2, u3, u4, u5, u6, u7⟩ := qm_driven Z2 hcl ((1 : Int32) <<< (nI i &&& 31)) (fun z hz => I.rh c (by omega) z hz) r2 r1 r3
      have Z3 := Z2.kept u2
      have Qb : SVM ha hb N := ⟨fun j hj => u4 j (by omega) (by omega), fun j hj => aF_of (u3 _ (by omega) (by omega) (by omega))⟩
      obtain ⟨f3, S3, Q3, t3, w3⟩ := rf_all Z3.1 0
      obtain ⟨b1, b2⟩ := bN_ok (y := y) (c := c) (tea := (1 : Int32) <<< (nI i &&& 31)) hr6
      obtain ⟨b3, b4⟩ := bN_ok (y := y) (c := c) (tea := 0) hr6
      refine ⟨rf hb N 0, ?_, ((f1.trans q2).trans u2).trans f3, ?_⟩
      · simp only [fX5_costs, ab_ckq S.o, ab_pIq S.o S.1, bdS, b2S, bxL, bxR, onN, onS, hh, if_neg b01n, hc, oI, nI_m1ne (show c < 2 ^ 31 by omega), if_false, q1, g4_21 Z2.1.o, q6, b4, qm_bits Z2.1.f b3, u1, g4_21 Z3.1.o, u6, b2, qm_bits Z3.1.f b1, qm_done Z3.1, costsR, onI_some hx, hq, rf]
      · simp only [costsR, onI_some hx, hq]
        exact V.fin (((Q1.trans Qa).trans Qb).trans Q3) t3 w3
