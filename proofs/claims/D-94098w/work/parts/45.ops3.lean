theorem or_bit : ∀ a, a < 64 → ∀ x, x < 6 → (nI a ||| ((1 : Int32) <<< (nI x &&& 31))) = nI (a ||| 2 ^ x) ∧ (a ||| 2 ^ x) < 64 := by decide +kernel
theorem wkB_n {y : Dy} {c : Nat} {tea : Int32} : ∀ (l : List Nat) (m p : Int32) (a : Nat), (∀ z ∈ l, z < 6) → a < 64 → ∃ b, b < 64 ∧ wkB y c tea l m p (nI a) = nI b := by
  intro l
  induction l with
  | nil => intro m p a _ ha; exact ⟨a, ha, rfl⟩
  | cons x t ih =>
    intro m p a hz ha
    have hx := hz x List.mem_cons_self
    have ht : ∀ z ∈ t, z < 6 := fun z h => hz z (List.mem_cons_of_mem _ h)
    unfold wkB badB
    obtain ⟨o1, o2⟩ := or_bit a ha x hx
    split
    · rw [o1]; exact ih _ _ _ ht o2
    · split
      · rw [Int32_or0]; exact ih _ _ _ ht ha
      · rw [o1]; exact ih _ _ _ ht o2
theorem bV_n {y : Dy} {c : Nat} {tea : Int32} {l : List Nat} (hl : ∀ z ∈ l, z < 6) : ∃ b, b < 64 ∧ bV y c tea l = nI b := by
  unfold bV
  rw [← nI_0]
  exact wkB_n l _ _ 0 hl (by omega)
noncomputable def bN (y : Dy) (c : Nat) (tea : Int32) (l : List Nat) : Nat := (bV y c tea l).toNatClampNeg
theorem bN_ok {y : Dy} {c : Nat} {tea : Int32} {l : List Nat} (hl : ∀ z ∈ l, z < 6) : bN y c tea l < 64 ∧ bV y c tea l = nI (bN y c tea l) := by
  obtain ⟨b, h1, h2⟩ := bV_n (y := y) (c := c) (tea := tea) hl
  unfold bN
  rw [h2, nI_clamp (by omega)]
  exact ⟨h1, rfl⟩
noncomputable def heatR (yo : Option Dy) (s : St) (x : Int32) : Int32 × St := onI yo 5 x (-1000, fin s 1) fun y i => match caF s.1 i (y.1 6) 0 with
  | none => (-1000, fin s 6)
  | some c => (heatV y c ((cV y c (s.2 0 4) (s.1 c)).getD (plV i (s.1 c)) 0), fin s 0)
theorem x_heat {N E : Nat} (x : Int32) : XOp N E (fX1_heat N x) (fun yo s => heatR yo s x) := by
  intro h yo s ⟨S, P, V, lE⟩ I
  obtain ⟨f1, S1, Q1, t1⟩ := an_all S
  have P1 := P.kept f1.1 (fun q hq => f1.2 q (by omega))
  have hh := qx_isHouse S1 P1 x
  have han : fX1_anew N h = some (an h N) := qx_anew S
  cases hx : ixo yo 5 x with
  | none =>
    rw [hx] at hh
    obtain ⟨f2, S2, Q2, t2⟩ := no_all S1 1
    refine ⟨sI (an h N) N 4 1, ?_, f1.trans f2, ?_⟩
    · simp only [fX1_heat, ab_ckq S.o, han, bdS, b2S, bxL, bxR, onN, onS, fX1_drivenWhy, ab_ckq S1.o, hh, b01z, if_true, ab_pIq S1.o S1.1, g0_4 S2.o, t2, show ¬ ((1 : Int32) = 0) from by decide, if_false, heatR, onI_none hx]
    · simp only [heatR, onI_none hx]
      exact V.fin (Q1.trans Q2) t2 (by decide)
  | some i =>
    obtain ⟨y, rfl, rfl, hi, hi6⟩ := ixo_fits (by omega) P.yk hx
    have R1 := (V.xr I P.yk).kept Q1
    obtain ⟨d, qa, e1, D, K⟩ := P1
    have Z1 : XD (an h N) N E d qa y := ⟨S1, e1, D, lE, K⟩
    have hw := qx_why Z1 R1 I.rh hi
    cases hq : caF s.1 i (y.1 6) 0 with
    | none =>
      rw [hq] at hw
      obtain ⟨f2, S2, Q2, t2⟩ := no_all S1 6
      refine ⟨sI (an h N) N 4 6, ?_, f1.trans f2, ?_⟩
      · simp only [fX1_heat, ab_ckq S.o, han, bdS, b2S, bxL, bxR, onN, onS, hw, ab_pIq S1.o S1.1, g0_4 S2.o, t2, show ¬ ((6 : Int32) = 0) from by decide, if_false, heatR, onI_some hx, hq]
      · simp only [heatR, onI_some hx, hq]
        exact V.fin (Q1.trans Q2) t2 (by decide)
    | some c =>
      rw [hq] at hw
      obtain ⟨f2, S2, Q2, t2⟩ := no_all S1 0
      have Z2 := Z1.kept f2
      have R2 := R1.kept Q2
      have hc := qx_carOf Z2 R2 I.rh hi6
      rw [hq] at hc
      obtain ⟨k1, k2, k3⟩ := caF_lt hq
      have V7 : gI (sI (an h N) N 4 0) N 7 = s.2 0 4 := ((Q1.trans Q2).1 7 (by omega)).trans V.teas
      obtain ⟨h', q1, q2, q3, q4⟩ := qx_comesTo Z2 R2 I.rh (show c < y.1 6 by omega) k3
      have hc3 := K.h6
      have hht := qx_heat (Z2.kept (q2.wide (by omega) (by omega))) (show c < y.1 6 by omega) ((cV y c (s.2 0 4) (s.1 c)).getD (plV i (s.1 c)) 0)
      refine ⟨h', ?_, (f1.trans f2).trans (q2.wide (by omega) (by omega)), ?_⟩
      · obtain ⟨wS, we1, wD, wlE, wK⟩ := id Z2
        obtain ⟨whz, whfu0, wo0, wo1, wr0_0, wo2, wr0_2, wo3, wr2_0, wr2_1, wo4, wr2_2, wo5, wr0_8, wo6, wo7, wo8, wr6_0, wr6_1, wo9, wo10, wo11, wr9_0, wr9_1, wo32, wo33, wo34, wr32_0, wr32_1, wo35, wo36, wo37, wr35_0, wr35_1, wo38, wo39, wo40, wr38_0, wr38_1, wr0_9, wr0_10, wo12, wr0_12, wo13, wr0_13, wo14, wr0_14, wo15, wr0_15, wo16, wr0_18, wo17, wr0_19, wo18, wr0_20, wo19, wr0_22, wo20, wr0_23, wo21, wr0_24, wo22, wr0_25, wo23, wr0_28, wo24, wr0_29, wo25, wr0_30, wo26, wr0_31, wo27, wr0_35, wo28, wr0_36, wo29, wr0_37, wo30, wr0_38, wo31, wr0_39, wd5_0, wd5_1, wd5_2⟩ := id wS
        obtain ⟨wdlo, wdo0, wdr0, wda0, wdr1, wda1, wdr2, wda2, wdr3, wda3, wdr4, wda4, wdr5, wda5, wdr6, wda6, wdr7, wda7, wdr8, wda8, wdn2, wdn3, wdn4, wdn5, wdn6, wdn8, wdn9, wdn7, wdv17, wdv18, wdvf, wdt0, wdt1, wdt2, wdt3, wdt4, wdt5, wdt6⟩ := id wD
        obtain ⟨wyc2, wyc3, wyc4, wyc5, wyc6, wyc7, wyc8, wyc9, wyyk, wyyd, wyyf, wyyh, wyyc, wyyl, wyyp, wyyhot, wyyby⟩ := id wK
        obtain ⟨z1, z2, z3, z4⟩ := wdt4 c (show c < y.1 6 by omega)
        rw [V7] at q1
        simp only [fX1_heat, ab_ckq S.o, han, bdS, b2S, bxL, bxR, onN, onS, hw, ab_pIq S1.o S1.1, g0_4 S2.o, t2, if_true, g0_3 S2.o, we1, g5_4 wdo0, wdr4, hc, oI, aRn wda4 (show c < 3 by omega), z2, q1, hht, heatR, onI_some hx, hq]
      · simp only [heatR, onI_some hx, hq]
        exact V.fin ((Q1.trans Q2).trans q3) ((q2.gI (by omega) 4).trans t2) (by decide)
theorem m_heat {N E : Nat} (x : Int32) : MOp N E (fX5_heat N x) (fun yo s => heatR yo s x) := by
  intro h yo s ⟨S, P, V, lE⟩ I
  obtain ⟨f1, S1, Q1⟩ := th_all S 0
  have P1 := P.kept f1.1 (fun q hq => f1.2 q (by omega))
  have hh := qm_isHouse S1 P1 x
  cases hx : ixo yo 5 x with
  | none =>
    rw [hx] at hh
    obtain ⟨f2, S2, Q2, t2, w2⟩ := rf_all S1 1
    refine ⟨rf (sI h N 0 0) N 1, ?_, f1.trans f2, ?_⟩
    · simp only [fX5_heat, ab_ckq S.o, ab_pIq S.o S.1, bdS, b2S, bxL, bxR, onN, onS, hh, b01z, if_true, qm_lost S1, heatR, onI_none hx, rf]
    · simp only [heatR, onI_none hx]
      exact V.fin (Q1.trans Q2) t2 w2
  | some i =>
    obtain ⟨y, rfl, rfl, hi, hi6⟩ := ixo_fits (by omega) P.yk hx
    rw [hx] at hh
    have R1 := (V.mr I P.yk).kept Q1
    have V7 : gI (sI h N 0 0) N 19 = s.2 0 4 := (Q1.1 19 (by omega)).trans V.teas
    obtain ⟨d, e1, D, K⟩ := P1
    have Z1 : MD (sI h N 0 0) N E d y := ⟨S1, e1, D, lE, K⟩
    have hc := qm_carOf Z1 R1 I.rh hi6
    cases hq : caF s.1 i (y.1 6) 0 with
    | none =>
      rw [hq] at hc
      obtain ⟨f2, S2, Q2, t2, w2⟩ := rf_all S1 6
      refine ⟨rf (sI h N 0 0) N 6, ?_, f1.trans f2, ?_⟩
      · simp only [fX5_heat, ab_ckq S.o, ab_pIq S.o S.1, bdS, b2S, bxL, bxR, onN, onS, hh, if_neg b01n, hc, oI, if_true, qm_lost S1, heatR, onI_some hx, hq, rf]
      · simp only [heatR, onI_some hx, hq]
        exact V.fin (Q1.trans Q2) t2 w2
    | some c =>
      rw [hq] at hc
      obtain ⟨k1, k2, k3⟩ := caF_lt hq
      have hc3 := K.h6
      have hk5 := K.h5
      obtain ⟨r1, r2, r3⟩ := R1 c (by omega)
      obtain ⟨h', q1, q2, q3, q4, q5, q6, q7⟩ := qm_driven Z1 (show c < y.1 6 by omega) (s.2 0 4) (fun z hz => I.rh c (by omega) z hz) r2 r1 r3
      have Z2 := Z1.kept q2
      have Q2 : SVM (sI h N 0 0) h' N := ⟨fun j hj => q4 j (by omega) (by omega), fun j hj => aF_of (q3 _ (by omega) (by omega) (by omega))⟩
      have hct := qm_comesTo Z2 q5 (fun z hz => by have := I.rh c (by omega) z hz; omega) k3
      obtain ⟨f3, S3, Q3, t3, w3⟩ := rf_all Z2.1 0
      have hpl : plV i (s.1 c) < (s.1 c).length := by
        obtain ⟨j, hj⟩ : ∃ j, plF i (s.1 c) 0 = some j := by
          cases hq2 : plF i (s.1 c) 0 with
          | none => exact absurd k3 (plF_mem.mp hq2)
          | some j => exact ⟨j, rfl⟩
        have := plF_lt hj
        simp only [plV, hj, Option.getD_some]
        omega
      rw [q7 _ hpl] at hct
      have hht := qm_heat Z2 (show c < y.1 6 by omega) ((cV y c (s.2 0 4) (s.1 c)).getD (plV i (s.1 c)) 0)
      refine ⟨rf h' N 0, ?_, (f1.trans q2).trans f3, ?_⟩
      · simp only [fX5_heat, ab_ckq S.o, ab_pIq S.o S.1, bdS, b2S, bxL, bxR, onN, onS, hh, if_neg b01n, hc, oI, nI_m1ne (show c < 2 ^ 31 by omega), if_false, g4_19 S1.o, V7, q1, hct, hht, qm_done Z2.1, heatR, onI_some hx, hq, rf]
      · simp only [heatR, onI_some hx, hq]
        exact V.fin ((Q1.trans Q2).trans Q3) t3 w3
noncomputable def badR (yo : Option Dy) (s : St) (x : Int32) : Int32 × St := onI yo 6 x (-1, fin s 1) fun y c => (bV y c (s.2 0 4) (s.1 c), fin s 0)
theorem x_bad {N E : Nat} (x : Int32) : XOp N E (fX1_bad N x) (fun yo s => badR yo s x) := by
  intro h yo s ⟨S, P, V, lE⟩ I
  obtain ⟨f1, S1, Q1, t1⟩ := an_all S
  have P1 := P.kept f1.1 (fun q hq => f1.2 q (by omega))
  have hh := qx_isCar S1 P1 x
  have han : fX1_anew N h = some (an h N) := qx_anew S
  cases hx : ixo yo 6 x with
  | none =>
    rw [hx] at hh
    obtain ⟨f2, S2, Q2, t2⟩ := no_all S1 1
    refine ⟨sI (an h N) N 4 1, ?_, f1.trans f2, ?_⟩
    · simp only [fX1_bad, ab_ckq S.o, han, bdS, b2S, bxL, bxR, onN, onS, hh, b01z, if_true, qx_no S1, badR, onI_none hx]
    · simp only [badR, onI_none hx]
      exact V.fin (Q1.trans Q2) t2 (by decide)
  | some c =>
    obtain ⟨y, rfl, rfl, hi, hi6⟩ := ixo_fits (by omega) P.yk hx
    rw [hx] at hh
    have R1 := (V.xr I P.yk).kept Q1
    have V7 : gI (an h N) N 7 = s.2 0 4 := (Q1.1 7 (by omega)).trans V.teas
    obtain ⟨d, qa, e1, D, K⟩ := P1
    have Z1 : XD (an h N) N E d qa y := ⟨S1, e1, D, lE, K⟩
    obtain ⟨h', q1, q2, q3, q4, q5, q6, q7⟩ := qx_walked Z1 R1 I.rh hi (s.2 0 4)
    have hc3 := K.h6
    have Ro := (SX.ro S1 (show c < 3 by omega)).1.kept q2.1
    refine ⟨h', ?_, f1.trans (q2.wide (by omega) (by omega)), ?_⟩
    · simp only [fX1_bad, ab_ckq S.o, han, bdS, b2S, bxL, bxR, onN, onS, hh, if_neg b01n, g0_7 S1.o, V7, q1, g3_3 Ro.2.2.1, q4, badR, onI_some hx]
    · simp only [badR, onI_some hx]
      exact V.fin (Q1.trans q6) ((q2.gI (by omega) 4).trans t1) (by decide)
theorem m_bad {N E : Nat} (x : Int32) : MOp N E (fX5_bad N x) (fun yo s => badR yo s x) := by
  intro h yo s ⟨S, P, V, lE⟩ I
  obtain ⟨f1, S1, Q1⟩ := th_all S 0
  have P1 := P.kept f1.1 (fun q hq => f1.2 q (by omega))
  have hh := qm_isCar S1 P1 x
  cases hx : ixo yo 6 x with
  | none =>
    rw [hx] at hh
    obtain ⟨f2, S2, Q2, t2, w2⟩ := rf_all S1 1
    refine ⟨rf (sI h N 0 0) N 1, ?_, f1.trans f2, ?_⟩
    · simp only [fX5_bad, ab_ckq S.o, ab_pIq S.o S.1, bdS, b2S, bxL, bxR, onN, onS, hh, b01z, if_true, qm_refused S1, badR, onI_none hx, rf]
    · simp only [badR, onI_none hx]
      exact V.fin (Q1.trans Q2) t2 w2
  | some c =>
    obtain ⟨y, rfl, rfl, hi, hi6⟩ := ixo_fits (by omega) P.yk hx
    rw [hx] at hh
    have R1 := (V.mr I P.yk).kept Q1
    have V7 : gI (sI h N 0 0) N 19 = s.2 0 4 := (Q1.1 19 (by omega)).trans V.teas
    obtain ⟨d, e1, D, K⟩ := P1
    have Z1 : MD (sI h N 0 0) N E d y := ⟨S1, e1, D, lE, K⟩
    have hc3 := K.h6
    obtain ⟨r1, r2, r3⟩ := R1 c (by omega)
    obtain ⟨h', q1, q2, q3, q4, q5, q6, q7⟩ := qm_driven Z1 hi (s.2 0 4) (fun z hz => I.rh c (by omega) z hz) r2 r1 r3
    have Z2 := Z1.kept q2
    have Q2 : SVM (sI h N 0 0) h' N := ⟨fun j hj => q4 j (by omega) (by omega), fun j hj => aF_of (q3 _ (by omega) (by omega) (by omega))⟩
    obtain ⟨f3, S3, Q3, t3, w3⟩ := rf_all Z2.1 0
    refine ⟨rf h' N 0, ?_, (f1.trans q2).trans f3, ?_⟩
    · simp only [fX5_bad, ab_ckq S.o, ab_pIq S.o S.1, bdS, b2S, bxL, bxR, onN, onS, hh, if_neg b01n, g4_19 S1.o, V7, q1, g4_21 Z2.1.o, q6, qm_done Z2.1, badR, onI_some hx, rf]
    · simp only [badR, onI_some hx]
      exact V.fin ((Q1.trans Q2).trans Q3) t3 w3
