/-! ops that change rounds and teas -/
def setR (s : St) (c : Nat) (l : List Nat) : St := (fun c' => if c' = c then l else s.1 c', s.2)
theorem vxRd {h h' : Hp} {N m5 c : Nat} {s : St} {t : Int32} {l : List Nat} (V : VX h N m5 s) (Q1 : ∀ k, k = 1 ∨ k = 5 ∨ k = 7 ∨ k = 16 ∨ k = 21 ∨ k = 26 ∨ k = 32 ∨ k = 40 → gI h' N k = gI h N k) (Q2 : ∀ j, j = 1 ∨ j = 15 ∨ j = 18 ∨ j = 22 ∨ j = 25 ∨ (26 ≤ j ∧ j ≤ 31) → aF h' (N + j) = aF h (N + j)) (Q3 : ∀ c', c' < 3 → c' ≠ c → gI h' (N + (32 + 3 * c')) 2 = gI h (N + (32 + 3 * c')) 2 ∧ aF h' (N + (33 + 3 * c')) = aF h (N + (33 + 3 * c'))) (q4 : gI h' (N + (32 + 3 * c)) 2 = nI l.length) (q5 : ∀ k, k < l.length → aF h' (N + (33 + 3 * c)) k = nI (l.getD k 0)) (ht : gI h' N 4 = t) (h4 : t ≠ 4) : VX h' N m5 (fin (setR s c l) t) := by
  obtain ⟨v1, v2, v3, v4, v5, v6, v7, v8, v9, v10, v11, v12, v13, v14, v15, v16, v17, v18, v19, v20, v21, v22, v23, v24⟩ := V
  refine ⟨(Q1 1 (by omega)).trans v1, ht, (Q1 5 (by omega)).trans v3, (Q1 7 (by omega)).trans v4, (Q1 16 (by omega)).trans v5, (Q1 21 (by omega)).trans v6, (Q1 26 (by omega)).trans v7, (Q1 32 (by omega)).trans v8, (Q1 40 (by omega)).trans v9, fun e => absurd e h4, fun _ => rfl, (Q2 1 (by omega)).trans v12, (Q2 28 (by omega)).trans v13, (Q2 27 (by omega)).trans v14, (Q2 29 (by omega)).trans v15, (Q2 30 (by omega)).trans v16, (Q2 31 (by omega)).trans v17, ?_, ?_, ?_, ?_, ?_, ?_, fun c hc => by rw [Q2 26 (by omega)]; exact v24 c hc⟩
  · rw [Q2 15 (by omega)]; exact v18
  · rw [Q2 18 (by omega)]; exact v19
  · rw [Q2 22 (by omega)]; exact v20
  · rw [Q2 25 (by omega)]; exact v21
  · intro c' hc'
    by_cases e : c' = c
    · subst e
      simp only [fin, setR, if_true]
      exact q4
    · simp only [fin, setR, e, if_false]
      exact (Q3 c' hc' e).1.trans (v22 c' hc')
  · intro c' hc' k hk
    by_cases e : c' = c
    · subst e
      simp only [fin, setR, if_true] at hk ⊢
      exact q5 k hk
    · simp only [fin, setR, e, if_false] at hk ⊢
      rw [(Q3 c' hc' e).2]
      exact v23 c' hc' k hk
theorem vmRd {h h' : Hp} {N c : Nat} {s : St} {t : Int32} {l : List Nat} (V : VM h N s) (Q1 : ∀ k, k = 6 ∨ k = 13 ∨ k = 19 ∨ k = 27 ∨ k = 33 ∨ k = 34 ∨ k = 37 ∨ k = 42 → gI h' N k = gI h N k) (Q2 : ∀ j, j = 1 ∨ j = 7 ∨ j = 11 ∨ j = 13 ∨ j = 14 ∨ (16 ≤ j ∧ j ≤ 20) → aF h' (N + j) = aF h (N + j)) (Q3 : ∀ c', c' < 3 → c' ≠ c → aF h' (N + 2) c' = aF h (N + 2) c' ∧ ∀ k, k < (s.1 c').length → aF h' (N + 3) (6 * c' + k) = aF h (N + 3) (6 * c' + k)) (q4 : aF h' (N + 2) c = nI l.length) (q5 : ∀ k, k < l.length → aF h' (N + 3) (6 * c + k) = nI (l.getD k 0)) (ht : gI h' N 1 = t) (hw : gI h' N 2 = -1) : VM h' N (fin (setR s c l) t) := by
  obtain ⟨v1, v2, v3, v4, v5, v6, v7, v8, v9, v10, v11, v12, v13, v14, v15, v16, v17, v18, v19, v20, v21, v22⟩ := V
  refine ⟨(Q1 6 (by omega)).trans v1, ht, (Q1 13 (by omega)).trans v3, hw, (Q1 19 (by omega)).trans v5, (Q1 27 (by omega)).trans v6, (Q1 33 (by omega)).trans v7, (Q1 34 (by omega)).trans v8, (Q1 37 (by omega)).trans v9, (Q1 42 (by omega)).trans v10, (Q2 1 (by omega)).trans v11, (Q2 7 (by omega)).trans v12, (Q2 11 (by omega)).trans v13, (Q2 13 (by omega)).trans v14, (Q2 14 (by omega)).trans v15, (Q2 16 (by omega)).trans v16, (Q2 17 (by omega)).trans v17, (Q2 18 (by omega)).trans v18, (Q2 19 (by omega)).trans v19, (Q2 20 (by omega)).trans v20, ?_, ?_⟩
  · intro c' hc'
    by_cases e : c' = c
    · subst e
      simp only [fin, setR, if_true]
      exact q4
    · simp only [fin, setR, e, if_false]
      exact (Q3 c' hc' e).1.trans (v21 c' hc')
  · intro c' hc' k hk
    by_cases e : c' = c
    · subst e
      simp only [fin, setR, if_true] at hk ⊢
      exact q5 k hk
    · simp only [fin, setR, e, if_false] at hk ⊢
      rw [(Q3 c' hc' e).2 k hk]
      exact v22 c' hc' k hk
noncomputable def unloadR (yo : Option Dy) (s : St) (x : Int32) : Int32 × St := onI yo 6 x (-1, fin s 1) fun _ c => (nI (s.1 c).length, fin (setR s c []) 0)
theorem x_unload {N E : Nat} (x : Int32) : XOp N E (fX1_unload N x) (fun yo s => unloadR yo s x) := by
  intro h yo s ⟨S, P, V, lE⟩ I
  obtain ⟨f1, S1, Q1, t1⟩ := an_all S
  have P1 := P.kept f1.1 (fun q hq => f1.2 q (by omega))
  have hh := qx_isCar S1 P1 x
  have han : fX1_anew N h = some (an h N) := qx_anew S
  cases hx : ixo yo 6 x with
  | none =>
    rw [hx] at hh
    obtain ⟨f2, S2, Q2, t2⟩ := no_all S1 1
    refine ⟨sI (an h N) N 4 1, ?_, f1.trans f2, ?_⟩
    · simp only [fX1_unload, ab_ckq S.o, han, bdS, b2S, bxL, bxR, onN, onS, hh, b01z, if_true, qx_no S1, unloadR, onI_none hx]
    · simp only [unloadR, onI_none hx]
      exact V.fin (Q1.trans Q2) t2 (by decide)
  | some c =>
    obtain ⟨y, rfl, rfl, hi, hi6⟩ := ixo_fits (by omega) P.yk hx
    rw [hx] at hh
    have K := P.yk y rfl
    have hc3 := K.h6
    have R1 := (V.xr I P.yk).kept Q1
    obtain ⟨Ro, ea⟩ := SX.ro S1 (show c < 3 by omega)
    have f2 : Fr N (N + 41) (an h N) (sI (an h N) (N + (32 + 3 * c)) 2 0) := Fr.sI Ro.2.2.1 rfl (by omega) (by omega)
    refine ⟨sI (an h N) (N + (32 + 3 * c)) 2 0, ?_, f1.trans f2, ?_⟩
    · obtain ⟨whz, whfu0, wo0, wo1, wr0_0, wo2, wr0_2, wo3, wr2_0, wr2_1, wo4, wr2_2, wo5, wr0_8, wo6, wo7, wo8, wr6_0, wr6_1, wo9, wo10, wo11, wr9_0, wr9_1, wo32, wo33, wo34, wr32_0, wr32_1, wo35, wo36, wo37, wr35_0, wr35_1, wo38, wo39, wo40, wr38_0, wr38_1, wr0_9, wr0_10, wo12, wr0_12, wo13, wr0_13, wo14, wr0_14, wo15, wr0_15, wo16, wr0_18, wo17, wr0_19, wo18, wr0_20, wo19, wr0_22, wo20, wr0_23, wo21, wr0_24, wo22, wr0_25, wo23, wr0_28, wo24, wr0_29, wo25, wr0_30, wo26, wr0_31, wo27, wr0_35, wo28, wr0_36, wo29, wr0_37, wo30, wr0_38, wo31, wr0_39, wd5_0, wd5_1, wd5_2⟩ := id S1
      have hrz : hfz (an h N) ≤ N + (32 + 3 * c) := by omega
      simp only [fX1_unload, ab_ckq S.o, han, bdS, b2S, bxL, bxR, onN, onS, hh, if_neg b01n, g0_8 wo0, wr0_8, aRn wo5 (show c < 3 by omega), ea, g3_2 Ro.2.2.1, (R1 c (by omega)).1, ab_pIq Ro.2.2.1 hrz, unloadR, onI_some hx]
    · simp only [unloadR, onI_some hx]
      exact vxRd V (fun k hk => by rw [gI_sI Ro.2.2.1, if_neg (by omega)]; exact Q1.1 k hk) (fun j hj => by rw [aF_sI]; exact Q1.2.1 j hj) (fun c' hc' e => ⟨by rw [gI_sI Ro.2.2.1, if_neg (by omega)]; exact (Q1.2.2 c' hc').1, by rw [aF_sI]; exact (Q1.2.2 c' hc').2⟩) (by rw [gI_sI Ro.2.2.1, if_pos ⟨rfl, rfl⟩]; rfl) (fun k hk => absurd hk (Nat.not_lt_zero _)) (by rw [gI_sI Ro.2.2.1, if_neg (by omega)]; exact t1) (by decide)
theorem m_unload {N E : Nat} (x : Int32) : MOp N E (fX5_unload N x) (fun yo s => unloadR yo s x) := by
  intro h yo s ⟨S, P, V, lE⟩ I
  obtain ⟨f1, S1, Q1⟩ := th_all S 0
  have P1 := P.kept f1.1 (fun q hq => f1.2 q (by omega))
  have hh := qm_isCar S1 P1 x
  cases hx : ixo yo 6 x with
  | none =>
    rw [hx] at hh
    obtain ⟨f2, S2, Q2, t2, w2⟩ := rf_all S1 1
    refine ⟨rf (sI h N 0 0) N 1, ?_, f1.trans f2, ?_⟩
    · simp only [fX5_unload, ab_ckq S.o, ab_pIq S.o S.1, bdS, b2S, bxL, bxR, onN, onS, hh, b01z, if_true, qm_refused S1, unloadR, onI_none hx, rf]
    · simp only [unloadR, onI_none hx]
      exact V.fin (Q1.trans Q2) t2 w2
  | some c =>
    obtain ⟨y, rfl, rfl, hi, hi6⟩ := ixo_fits (by omega) P.yk hx
    rw [hx] at hh
    have K := P.yk y rfl
    have hc3 := K.h6
    have R1 := (V.mr I P.yk).kept Q1
    have o2 : isA (sI h N 0 0) (N + 2) 0 3 := by
      obtain ⟨hz, hfu0, o0, o1, r0_5, o2, r0_17, o3, r0_18, o4, r0_22, o5, r0_23, o6, r0_26, o7, r0_28, o8, r0_29, o9, r0_30, o10, r0_31, o11, r0_32, o12, r0_35, o13, r0_36, o14, r0_38, o15, r0_39, o16, r0_40, o17, r0_41, o18, r0_43, o19, r0_44, o20, r0_45⟩ := id S1
      exact o2
    have f2 : Fr N (N + 21) (sI h N 0 0) (sA (sI h N 0 0) (N + 2) c 0) := Fr.sA (by omega) (by omega)
    have S2 := S1.kept f2.1
    obtain ⟨f3, S3, Q3, t3, w3⟩ := rf_all S2 0
    refine ⟨rf (sA (sI h N 0 0) (N + 2) c 0) N 0, ?_, (f1.trans f2).trans f3, ?_⟩
    · obtain ⟨whz, whfu0, wo0, wo1, wr0_5, wo2, wr0_17, wo3, wr0_18, wo4, wr0_22, wo5, wr0_23, wo6, wr0_26, wo7, wr0_28, wo8, wr0_29, wo9, wr0_30, wo10, wr0_31, wo11, wr0_32, wo12, wr0_35, wo13, wr0_36, wo14, wr0_38, wo15, wr0_39, wo16, wr0_40, wo17, wr0_41, wo18, wr0_43, wo19, wr0_44, wo20, wr0_45⟩ := id S1
      simp only [fX5_unload, ab_ckq S.o, ab_pIq S.o S.1, bdS, b2S, bxL, bxR, onN, onS, hh, if_neg b01n, g4_17 wo0, wr0_17, aIn wo2 (show c < 3 by omega), (R1 c (by omega)).1, sIn wo2 (show hfz (sI h N 0 0) ≤ N + 2 by omega) (show c < 3 by omega), qm_done S2, unloadR, onI_some hx, rf]
    · simp only [unloadR, onI_some hx]
      refine vmRd V (fun k hk => (Q3.1 k hk).trans (by rw [gI_sA]; exact Q1.1 k hk)) (fun j hj => (Q3.2 j (by omega)).trans (by rw [aF_sA o2, if_neg (by omega)]; exact Q1.2 j (by omega))) (fun c' hc' e => ⟨?_, fun k _ => ?_⟩) ?_ (fun k hk => absurd hk (Nat.not_lt_zero _)) t3 w3
      · rw [Q3.2 2 (by omega), aF_sA o2, if_pos rfl, Q1.2 2 (by omega)]
        simp [upd, e]
      · rw [Q3.2 3 (by omega), aF_sA o2, if_neg (by omega), Q1.2 3 (by omega)]
      · rw [Q3.2 2 (by omega), aF_sA o2, if_pos rfl]
        simp [upd, nI_0]
noncomputable def driveR (yo : Option Dy) (s : St) (x z : Int32) : Int32 × St := onI yo 6 x (-1, fin s 1) fun y c => match ixo (some y) 5 z with
  | none => (-1, fin s 1)
  | some i => match caF s.1 i (y.1 6) 0 with
    | some _ => (-1, fin s 5)
    | none => if nI (s.1 c).length = y.2 28 c then (-1, fin s 3) else (nI ((s.1 c).length + 1), fin (setR s c (s.1 c ++ [i])) 0)
theorem getD_app {l : List Nat} {i k : Nat} : (l ++ [i]).getD k 0 = if k < l.length then l.getD k 0 else if k = l.length then i else 0 := by
  simp only [List.getD_eq_getElem?_getD, List.getElem?_append]
  split
  · rfl
  · rename_i h
    split
    · rename_i e
      subst e
      simp
    · rename_i e
      rw [List.getElem?_eq_none (by simp; omega)]
      rfl
theorem x_drive {N E : Nat} (x z : Int32) : XOp N E (fX1_drive N x z) (fun yo s => driveR yo s x z) := by
  intro h yo s ⟨S, P, V, lE⟩ I
  obtain ⟨f1, S1, Q1, t1⟩ := an_all S
  have P1 := P.kept f1.1 (fun q hq => f1.2 q (by omega))
  have hh := qx_isCar S1 P1 x
  have hz := qx_isHouse S1 P1 z
  have han : fX1_anew N h = some (an h N) := qx_anew S
  have bad : ∀ (r : Int32 × St) (w : Int32), r = (-1, fin s w) → w ≠ 4 → fX1_drive N x z h = some (r.1, sI (an h N) N 4 w) → ∃ h', fX1_drive N x z h = some (r.1, h') ∧ Fr N (N + 41) h h' ∧ VX h' N (m5 yo) r.2 := fun r w e hw hr => by
    subst e
    obtain ⟨f2, S2, Q2, t2⟩ := no_all S1 w
    exact ⟨_, hr, f1.trans f2, V.fin (Q1.trans Q2) t2 hw⟩
  cases hx : ixo yo 6 x with
  | none =>
    rw [hx] at hh
    exact bad _ 1 (by simp only [driveR, onI_none hx]) (by decide) (by simp only [fX1_drive, ab_ckq S.o, han, bdS, b2S, bxL, bxR, onN, onS, hh, b01z, if_true, qx_no S1, driveR, onI_none hx])
  | some c =>
    obtain ⟨y, rfl, rfl, hi, hi6⟩ := ixo_fits (by omega) P.yk hx
    rw [hx] at hh
    cases hzz : ixo (some y) 5 z with
    | none =>
      rw [hzz] at hz
      exact bad _ 1 (by simp only [driveR, onI_some hx, hzz]) (by decide) (by simp only [fX1_drive, ab_ckq S.o, han, bdS, b2S, bxL, bxR, onN, onS, hh, hz, b01z, if_neg b01n, if_true, qx_no S1, driveR, onI_some hx, hzz])
    | some i =>
      obtain ⟨y', e', rfl, hk, hk6⟩ := ixo_fits (by omega) P.yk hzz
      cases e'
      rw [hzz] at hz
      have K := P.yk y rfl
      have hc3 := K.h6
      have R1 := (V.xr I P.yk).kept Q1
      obtain ⟨d, qa, e1, D, -⟩ := P1
      have Z1 : XD (an h N) N E d qa y := ⟨S1, e1, D, lE, K⟩
      have hca := qx_carOf Z1 R1 I.rh hk6
      cases hq : caF s.1 i (y.1 6) 0 with
      | some c' =>
        have hcl := caF_lt hq
        rw [hq] at hca
        exact bad _ 5 (by simp only [driveR, onI_some hx, hzz, hq]) (by decide) (by simp only [fX1_drive, ab_ckq S.o, han, bdS, b2S, bxL, bxR, onN, onS, hh, hz, if_neg b01n, hca, oI, nI_m1ne (show c' < 2 ^ 31 by omega), if_false, qx_no S1, driveR, onI_some hx, hzz, hq])
      | none =>
        rw [hq] at hca
        obtain ⟨Ro, ea⟩ := SX.ro S1 (show c < 3 by omega)
        obtain ⟨R1a, R1b, R1c⟩ := R1 c (by omega)
        obtain ⟨wS, we1, wD, wlE, wK⟩ := id Z1
        obtain ⟨whz, whfu0, wo0, wo1, wr0_0, wo2, wr0_2, wo3, wr2_0, wr2_1, wo4, wr2_2, wo5, wr0_8, wo6, wo7, wo8, wr6_0, wr6_1, wo9, wo10, wo11, wr9_0, wr9_1, wo32, wo33, wo34, wr32_0, wr32_1, wo35, wo36, wo37, wr35_0, wr35_1, wo38, wo39, wo40, wr38_0, wr38_1, wr0_9, wr0_10, wo12, wr0_12, wo13, wr0_13, wo14, wr0_14, wo15, wr0_15, wo16, wr0_18, wo17, wr0_19, wo18, wr0_20, wo19, wr0_22, wo20, wr0_23, wo21, wr0_24, wo22, wr0_25, wo23, wr0_28, wo24, wr0_29, wo25, wr0_30, wo26, wr0_31, wo27, wr0_35, wo28, wr0_36, wo29, wr0_37, wo30, wr0_38, wo31, wr0_39, wd5_0, wd5_1, wd5_2⟩ := id wS
        obtain ⟨wdlo, wdo0, wdr0, wda0, wdr1, wda1, wdr2, wda2, wdr3, wda3, wdr4, wda4, wdr5, wda5, wdr6, wda6, wdr7, wda7, wdr8, wda8, wdn2, wdn3, wdn4, wdn5, wdn6, wdn8, wdn9, wdn7, wdv17, wdv18, wdvf, wdt0, wdt1, wdt2, wdt3, wdt4, wdt5, wdt6⟩ := id wD
        obtain ⟨wyc2, wyc3, wyc4, wyc5, wyc6, wyc7, wyc8, wyc9, wyyk, wyyd, wyyf, wyyh, wyyc, wyyl, wyyp, wyyhot, wyyby⟩ := id wK
        obtain ⟨z1, z2, z3, z4, z5, z6, z7, z8⟩ := wdt4 c hi
        by_cases hfull : nI (s.1 c).length = y.2 28 c
        · exact bad _ 3 (by simp only [driveR, onI_some hx, hzz, hq, hfull, if_true]) (by decide) (by simp only [fX1_drive, ab_ckq S.o, han, bdS, b2S, bxL, bxR, onN, onS, hh, hz, if_neg b01n, hca, oI, if_true, g0_8 wo0, wr0_8, aRn wo5 (show c < 3 by omega), ea, g3_2 Ro.2.2.1, R1a, g0_3 wo0, e1, g5_4 wdo0, wdr4, aRn wda4 (show c < 3 by omega), z2, g10_4 z3, z5, hfull, qx_no S1, driveR, onI_some hx, hzz, hq])
        · have hlen : (s.1 c).length < 6 := by
            obtain ⟨-, -, -, i4⟩ := I.2.1 c (by omega)
            have h2 := i4 hi
            obtain ⟨-, -, ⟨n, hn1, hn2, hn3⟩, -⟩ := wyyc c hi
            rw [hn1, nI_clamp (by omega)] at h2
            rw [hn1, nI_eq (by omega) (by omega)] at hfull
            omega
          have o33 := Ro.2.2.2.2.2.1
          have f2 : Fr N (N + 41) (an h N) (sA (an h N) (N + (32 + 3 * c) + 1) (s.1 c).length (nI i)) := Fr.sA (by omega) (by omega)
          have Ro2 := Ro.kept f2.1
          have f3 : Fr N (N + 41) (sA (an h N) (N + (32 + 3 * c) + 1) (s.1 c).length (nI i)) (sI (sA (an h N) (N + (32 + 3 * c) + 1) (s.1 c).length (nI i)) (N + (32 + 3 * c)) 2 (nI ((s.1 c).length + 1))) := Fr.sI Ro2.2.2.1 rfl (by omega) (by omega)
          have Ro3 := Ro2.kept f3.1
          refine ⟨_, ?_, (f1.trans f2).trans f3, ?_⟩
          · have hrz : hfz (sA (an h N) (N + (32 + 3 * c) + 1) (s.1 c).length (nI i)) ≤ N + (32 + 3 * c) := by
              have := (S1.kept f2.1).1
              omega
            have g1 : gI (sI (sA (an h N) (N + (32 + 3 * c) + 1) (s.1 c).length (nI i)) (N + (32 + 3 * c)) 2 (nI ((s.1 c).length + 1))) (N + (32 + 3 * c)) 2 = nI ((s.1 c).length + 1) := by
              rw [gI_sI Ro2.2.2.1, if_pos ⟨rfl, rfl⟩]
            simp only [fX1_drive, ab_ckq S.o, han, bdS, b2S, bxL, bxR, onN, onS, hh, hz, if_neg b01n, hca, oI, if_true, g0_8 wo0, wr0_8, aRn wo5 (show c < 3 by omega), ea, g3_2 Ro.2.2.1, R1a, g0_3 wo0, e1, g5_4 wdo0, wdr4, aRn wda4 (show c < 3 by omega), z2, g10_4 z3, z5, hfull, if_false, g3_0 Ro.2.2.1, Ro.2.2.2.1, sIn o33 (show hfz (an h N) ≤ N + (32 + 3 * c) + 1 by omega) hlen, g3_2 Ro2.2.2.1, gI_sA, nI_1, ab_pIq Ro2.2.2.1 hrz, g3_2 Ro3.2.2.1, g1, driveR, onI_some hx, hzz, hq]
          · simp only [driveR, onI_some hx, hzz, hq, hfull, if_false]
            refine vxRd V (fun k hk => by rw [gI_sI Ro2.2.2.1, if_neg (by omega), gI_sA]; exact Q1.1 k hk) (fun j hj => by rw [aF_sI, aF_sA o33, if_neg (by omega)]; exact Q1.2.1 j hj) (fun c' hc' e => ⟨by rw [gI_sI Ro2.2.2.1, if_neg (by omega), gI_sA]; exact (Q1.2.2 c' hc').1, by rw [aF_sI, aF_sA o33, if_neg (by omega)]; exact (Q1.2.2 c' hc').2⟩) ?_ ?_ (by rw [gI_sI Ro2.2.2.1, if_neg (by omega), gI_sA]; exact t1) (by decide)
            · rw [gI_sI Ro2.2.2.1, if_pos ⟨rfl, rfl⟩]
              simp
            · intro k hk
              have hk : k < (s.1 c).length + 1 := by simpa using hk
              rw [aF_sI, aF_sA o33, if_pos (by omega), getD_app]
              by_cases ek : k = (s.1 c).length
              · simp [upd, ek]
              · simp only [upd, ek, if_false, show k < (s.1 c).length by omega, if_true]
                exact R1b k (by omega)
theorem m_drive {N E : Nat} (x z : Int32) : MOp N E (fX5_drive N x z) (fun yo s => driveR yo s x z) := by
  intro h yo s ⟨S, P, V, lE⟩ I
  obtain ⟨f1, S1, Q1⟩ := th_all S 0
  have P1 := P.kept f1.1 (fun q hq => f1.2 q (by omega))
  have hh := qm_isCar S1 P1 x
  have hz := qm_isHouse S1 P1 z
  have bad : ∀ (r : Int32 × St) (w : Int32), r = (-1, fin s w) → fX5_drive N x z h = some (r.1, rf (sI h N 0 0) N w) → ∃ h', fX5_drive N x z h = some (r.1, h') ∧ Fr N (N + 21) h h' ∧ VM h' N r.2 := fun r w e hr => by
    subst e
    obtain ⟨f2, S2, Q2, t2, w2⟩ := rf_all S1 w
    exact ⟨_, hr, f1.trans f2, V.fin (Q1.trans Q2) t2 w2⟩
  cases hx : ixo yo 6 x with
  | none =>
    rw [hx] at hh
    exact bad _ 1 (by simp only [driveR, onI_none hx]) (by simp only [fX5_drive, ab_ckq S.o, ab_pIq S.o S.1, bdS, b2S, bxL, bxR, onN, onS, hh, b01z, if_true, qm_refused S1, driveR, onI_none hx, rf])
  | some c =>
    obtain ⟨y, rfl, rfl, hi, hi6⟩ := ixo_fits (by omega) P.yk hx
    rw [hx] at hh
    cases hzz : ixo (some y) 5 z with
    | none =>
      rw [hzz] at hz
      exact bad _ 1 (by simp only [driveR, onI_some hx, hzz]) (by simp only [fX5_drive, ab_ckq S.o, ab_pIq S.o S.1, bdS, b2S, bxL, bxR, onN, onS, hh, hz, b01z, if_neg b01n, if_true, qm_refused S1, driveR, onI_some hx, hzz, rf])
    | some i =>
      obtain ⟨y', e', rfl, hk, hk6⟩ := ixo_fits (by omega) P.yk hzz
      cases e'
      rw [hzz] at hz
      have K := P.yk y rfl
      have hc3 := K.h6
      have R1 := (V.mr I P.yk).kept Q1
      obtain ⟨d, e1, D, -⟩ := P1
      have Z1 : MD (sI h N 0 0) N E d y := ⟨S1, e1, D, lE, K⟩
      have hca := qm_carOf Z1 R1 I.rh hk6
      cases hq : caF s.1 i (y.1 6) 0 with
      | some c' =>
        have hcl := caF_lt hq
        rw [hq] at hca
        exact bad _ 5 (by simp only [driveR, onI_some hx, hzz, hq]) (by simp only [fX5_drive, ab_ckq S.o, ab_pIq S.o S.1, bdS, b2S, bxL, bxR, onN, onS, hh, hz, if_neg b01n, hca, oI, nI_m1ne (show c' < 2 ^ 31 by omega), if_false, qm_refused S1, driveR, onI_some hx, hzz, hq, rf])
      | none =>
        rw [hq] at hca
        obtain ⟨R1a, R1b, R1c⟩ := R1 c (by omega)
        obtain ⟨wS, we1, wD, wlE, wK⟩ := id Z1
        obtain ⟨whz, whfu0, wo0, wo1, wr0_5, wo2, wr0_17, wo3, wr0_18, wo4, wr0_22, wo5, wr0_23, wo6, wr0_26, wo7, wr0_28, wo8, wr0_29, wo9, wr0_30, wo10, wr0_31, wo11, wr0_32, wo12, wr0_35, wo13, wr0_36, wo14, wr0_38, wo15, wr0_39, wo16, wr0_40, wo17, wr0_41, wo18, wr0_43, wo19, wr0_44, wo20, wr0_45⟩ := id wS
        obtain ⟨wdlo, wdo0, wdv0, wdv1, wdn2, wdn3, wdn4, wdn5, wdn6, wdn7, wdn8, wdn9, wdr11, wda11, wdv11, wdr12, wda12, wdv12, wdr13, wda13, wdv13, wdr14, wda14, wdv14, wdr15, wda15, wdv15, wdr16, wda16, wdv16, wdr17, wda17, wdv17, wdr18, wda18, wdv18, wdr19, wda19, wdv19, wdr20, wda20, wdv20, wdr21, wda21, wdv21, wdr22, wda22, wdv22, wdr23, wda23, wdv23, wdr24, wda24, wdv24, wdr25, wda25, wdv25, wdr26, wda26, wdv26, wdr27, wda27, wdv27, wdr28, wda28, wdv28, wdr29, wda29, wdv29, wdr30, wda30, wdv30, wdr31, wda31, wdv31, wdr32, wda32, wdv32, wdr33, wda33, wdv33⟩ := id wD
        obtain ⟨wyc2, wyc3, wyc4, wyc5, wyc6, wyc7, wyc8, wyc9, wyyk, wyyd, wyyf, wyyh, wyyc, wyyl, wyyp, wyyhot, wyyby⟩ := id wK
        by_cases hfull : nI (s.1 c).length = y.2 28 c
        · exact bad _ 3 (by simp only [driveR, onI_some hx, hzz, hq, hfull, if_true]) (by simp only [fX5_drive, ab_ckq S.o, ab_pIq S.o S.1, bdS, b2S, bxL, bxR, onN, onS, hh, hz, if_neg b01n, hca, oI, if_true, g4_17 wo0, wr0_17, aIn wo2 (show c < 3 by omega), R1a, g4_3 wo0, e1, g13_28 wdo0, wdr28, aIn wda28 (show c < 3 by omega), wdv28, hfull, qm_refused S1, driveR, onI_some hx, hzz, hq, rf])
        · have hlen : (s.1 c).length < 6 := by
            obtain ⟨-, -, -, i4⟩ := I.2.1 c (by omega)
            have h2 := i4 hi
            obtain ⟨-, -, ⟨n, hn1, hn2, hn3⟩, -⟩ := wyyc c hi
            rw [hn1, nI_clamp (by omega)] at h2
            rw [hn1, nI_eq (by omega) (by omega)] at hfull
            omega
          have f2 : Fr N (N + 21) (sI h N 0 0) (sA (sI h N 0 0) (N + 3) (6 * c + (s.1 c).length) (nI i)) := Fr.sA (by omega) (by omega)
          have S2 := S1.kept f2.1
          obtain ⟨vhz, vhfu0, vo0, vo1, vr0_5, vo2, vr0_17, vo3, vr0_18, vo4, vr0_22, vo5, vr0_23, vo6, vr0_26, vo7, vr0_28, vo8, vr0_29, vo9, vr0_30, vo10, vr0_31, vo11, vr0_32, vo12, vr0_35, vo13, vr0_36, vo14, vr0_38, vo15, vr0_39, vo16, vr0_40, vo17, vr0_41, vo18, vr0_43, vo19, vr0_44, vo20, vr0_45⟩ := id S2
          have f3 : Fr N (N + 21) (sA (sI h N 0 0) (N + 3) (6 * c + (s.1 c).length) (nI i)) (sA (sA (sI h N 0 0) (N + 3) (6 * c + (s.1 c).length) (nI i)) (N + 2) c (nI ((s.1 c).length + 1))) := Fr.sA (by omega) (by omega)
          have S3 := S2.kept f3.1
          obtain ⟨uhz, uhfu0, uo0, uo1, ur0_5, uo2, ur0_17, uo3, ur0_18, uo4, ur0_22, uo5, ur0_23, uo6, ur0_26, uo7, ur0_28, uo8, ur0_29, uo9, ur0_30, uo10, ur0_31, uo11, ur0_32, uo12, ur0_35, uo13, ur0_36, uo14, ur0_38, uo15, ur0_39, uo16, ur0_40, uo17, ur0_41, uo18, ur0_43, uo19, ur0_44, uo20, ur0_45⟩ := id S3
          obtain ⟨f4, S4, Q4, t4, w4⟩ := rf_all S3 0
          have a2 : aF (sA (sI h N 0 0) (N + 3) (6 * c + (s.1 c).length) (nI i)) (N + 2) c = nI (s.1 c).length := by rw [aF_sA wo3, if_neg (by omega)]; exact R1a
          have a3 : aF (sA (sA (sI h N 0 0) (N + 3) (6 * c + (s.1 c).length) (nI i)) (N + 2) c (nI ((s.1 c).length + 1))) (N + 2) c = nI ((s.1 c).length + 1) := by
            rw [aF_sA vo2, if_pos rfl]
            simp [upd]
          refine ⟨rf (sA (sA (sI h N 0 0) (N + 3) (6 * c + (s.1 c).length) (nI i)) (N + 2) c (nI ((s.1 c).length + 1))) N 0, ?_, ((f1.trans f2).trans f3).trans f4, ?_⟩
          · simp only [fX5_drive, ab_ckq S.o, ab_pIq S.o S.1, bdS, b2S, bxL, bxR, onN, onS, hh, hz, if_neg b01n, hca, oI, if_true, g4_17 wo0, wr0_17, aIn wo2 (show c < 3 by omega), R1a, g4_3 wo0, e1, g13_28 wdo0, wdr28, aIn wda28 (show c < 3 by omega), wdv28, hfull, if_false, g4_18 wo0, wr0_18, nI6, sIn wo3 (show hfz (sI h N 0 0) ≤ N + 3 by omega) (show 6 * c + (s.1 c).length < 18 by omega), g4_17 vo0, vr0_17, aIn vo2 (show c < 3 by omega), a2, nI_1, sIn vo2 (show hfz (sA (sI h N 0 0) (N + 3) (6 * c + (s.1 c).length) (nI i)) ≤ N + 2 by omega) (show c < 3 by omega), g4_17 uo0, ur0_17, aIn uo2 (show c < 3 by omega), a3, qm_done S3, driveR, onI_some hx, hzz, hq, rf]
          · simp only [driveR, onI_some hx, hzz, hq, hfull, if_false]
            refine vmRd V (fun k hk => (Q4.1 k hk).trans (by rw [gI_sA, gI_sA]; exact Q1.1 k hk)) (fun j hj => (Q4.2 j (by omega)).trans (by rw [aF_sA vo2, if_neg (by omega), aF_sA wo3, if_neg (by omega)]; exact Q1.2 j (by omega))) (fun c' hc' e => ⟨?_, fun k hk => ?_⟩) ?_ ?_ t4 w4
            · rw [Q4.2 2 (by omega), aF_sA vo2, if_pos rfl]
              simp only [upd, e, if_false]
              rw [aF_sA wo3, if_neg (by omega), Q1.2 2 (by omega)]
            · have hl2 := (R1 c' hc').2.1
              rw [Q4.2 3 (by omega), aF_sA vo2, if_neg (by omega), aF_sA wo3, if_pos rfl, Q1.2 3 (by omega)]
              simp only [upd, show ¬ 6 * c' + k = 6 * c + (s.1 c).length by omega, if_false]
            · rw [Q4.2 2 (by omega), aF_sA vo2, if_pos rfl]
              simp [upd]
            · intro k hk
              have hk : k < (s.1 c).length + 1 := by simpa using hk
              rw [Q4.2 3 (by omega), aF_sA vo2, if_neg (by omega), aF_sA wo3, if_pos rfl, getD_app]
              by_cases ek : k = (s.1 c).length
              · simp [upd, ek]
              · simp only [upd, show ¬ 6 * c + k = 6 * c + (s.1 c).length by omega, if_false, show k < (s.1 c).length by omega, if_true]
                exact R1c k (by omega)
