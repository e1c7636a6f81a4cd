/-! ops that only look -/
theorem VM.same {h h' : Hp} {N : Nat} {s : St} (V : VM h N s) (Q : SVM h h' N) (ht : gI h' N 1 = gI h N 1) (hw : gI h' N 2 = gI h N 2) : VM h' N s := by
  obtain ⟨v1, v2, v3, v4, v5, v6, v7, v8, v9, v10, v11, v12, v13, v14, v15, v16, v17, v18, v19, v20, v21, v22⟩ := V
  obtain ⟨Q1, Q2⟩ := Q
  exact ⟨(Q1 6 (by omega)).trans v1, ht.trans v2, (Q1 13 (by omega)).trans v3, hw.trans v4, (Q1 19 (by omega)).trans v5, (Q1 27 (by omega)).trans v6, (Q1 33 (by omega)).trans v7, (Q1 34 (by omega)).trans v8, (Q1 37 (by omega)).trans v9, (Q1 42 (by omega)).trans v10, (Q2 1 (by omega)).trans v11, (Q2 7 (by omega)).trans v12, (Q2 11 (by omega)).trans v13, (Q2 13 (by omega)).trans v14, (Q2 14 (by omega)).trans v15, (Q2 16 (by omega)).trans v16, (Q2 17 (by omega)).trans v17, (Q2 18 (by omega)).trans v18, (Q2 19 (by omega)).trans v19, (Q2 20 (by omega)).trans v20, fun c hc => by rw [Q2 2 (by omega)]; exact v21 c hc, fun c hc k hk => by rw [Q2 3 (by omega)]; exact v22 c hc k hk⟩
theorem VM.th {h : Hp} {N : Nat} {s : St} (V : VM h N s) (S : SM h N) : VM (sI h N 0 0) N s :=
  V.same (th_all S 0).2.2 (by rw [gI_sI S.o, if_neg (by omega)]) (by rw [gI_sI S.o, if_neg (by omega)])
theorem x_fault {N E : Nat} : XOp N E (fX1_fault N) (fun _ s => (s.2 0 2, s)) := by
  intro h yo s ⟨S, P, V, lE⟩ I
  refine ⟨h, ?_, Fr.rf, V⟩
  simp only [fX1_fault, ab_ckq S.o, g0_5 S.o, bdS, b2S, bxL, bxR, onN, onS, V.2.2.1]
theorem m_fault {N E : Nat} : MOp N E (fX5_fault N) (fun _ s => (s.2 0 2, s)) := by
  intro h yo s ⟨S, P, V, lE⟩ I
  obtain ⟨f1, S1, Q1⟩ := th_all S 0
  refine ⟨_, ?_, f1, V.th S⟩
  simp only [fX5_fault, ab_ckq S.o, ab_pIq S.o S.1, g4_13 S1.o, bdS, b2S, bxL, bxR, onN, onS, (V.th S).2.2.1]
theorem x_trouble {N E : Nat} : XOp N E (fX1_trouble N) (fun _ s => (s.2 0 1, s)) := by
  intro h yo s ⟨S, P, V, lE⟩ I
  refine ⟨h, ?_, Fr.rf, V⟩
  simp only [fX1_trouble, ab_ckq S.o, g0_4 S.o, bdS, b2S, bxL, bxR, onN, onS, V.2.1]
theorem m_trouble {N E : Nat} : MOp N E (fX5_trouble N) (fun _ s => (s.2 0 1, s)) := by
  intro h yo s ⟨S, P, V, lE⟩ I
  obtain ⟨f1, S1, Q1⟩ := th_all S 0
  refine ⟨_, ?_, f1, V.th S⟩
  simp only [fX5_trouble, ab_ckq S.o, ab_pIq S.o S.1, g4_1 S1.o, bdS, b2S, bxL, bxR, onN, onS, (V.th S).2.1]
theorem x_where {N E : Nat} : XOp N E (fX1_where N) (fun _ s => (s.2 0 3, s)) := by
  intro h yo s ⟨S, P, V, lE⟩ I
  refine ⟨h, ?_, Fr.rf, V⟩
  obtain ⟨v1, v2, v3, v4, v5, v6, v7, v8, v9, v10, v11, -⟩ := V
  simp only [fX1_where, ab_ckq S.o, g0_4 S.o, bdS, b2S, bxL, bxR, onN, onS, v2, g0_6 S.o]
  by_cases h1 : s.2 0 1 = 4
  · rw [if_pos h1, v10 h1]
  · rw [if_neg h1, v11 h1]
theorem m_where {N E : Nat} : MOp N E (fX5_where N) (fun _ s => (s.2 0 3, s)) := by
  intro h yo s ⟨S, P, V, lE⟩ I
  obtain ⟨f1, S1, Q1⟩ := th_all S 0
  refine ⟨_, ?_, f1, V.th S⟩
  simp only [fX5_where, ab_ckq S.o, ab_pIq S.o S.1, g4_2 S1.o, bdS, b2S, bxL, bxR, onN, onS, (V.th S).2.2.2.1]
noncomputable def sharedR (yo : Option Dy) (s : St) (x : Int32) : Int32 := onI yo 5 x (-1) fun _ i => if s.2 0 5 = 0 then -1 else s.2 4 i
theorem x_shared {N E : Nat} (x : Int32) : XOp N E (fX1_shared N x) (fun yo s => (sharedR yo s x, s)) := by
  intro h yo s ⟨S, P, V, lE⟩ I
  refine ⟨h, ?_, Fr.rf, V⟩
  have hh := qx_isHouse S P x
  have v5 := V.2.2.2.2.1
  cases hx : ixo yo 5 x with
  | none =>
    rw [hx] at hh
    simp only [fX1_shared, ab_ckq S.o, hh, bdS, b2S, bxL, bxR, onN, onS, b01z, if_true, sharedR, onI_none hx]
  | some i =>
    obtain ⟨y, rfl, rfl, hi, hi6⟩ := ixo_fits (by omega) P.yk hx
    rw [hx] at hh
    simp only [fX1_shared, ab_ckq S.o, hh, bdS, b2S, bxL, bxR, onN, onS, if_neg b01n, g0_16 S.o, v5, sharedR, onI_some hx]
    rcases I.2.2.2.2.2.2.1 with e | e
    · simp only [e, if_true]
    · have v18 := V.2.2.2.2.2.2.2.2.2.2.2.2.2.2.2.2.2.1 e i hi
      obtain ⟨hz, hfu0, o0, o1, r0_0, o2, r0_2, o3, r2_0, r2_1, o4, r2_2, o5, r0_8, o6, o7, o8, r6_0, r6_1, o9, o10, o11, r9_0, r9_1, o32, o33, o34, r32_0, r32_1, o35, o36, o37, r35_0, r35_1, o38, o39, o40, r38_0, r38_1, r0_9, r0_10, o12, r0_12, o13, r0_13, o14, r0_14, o15, r0_15, o16, r0_18, o17, r0_19, o18, r0_20, o19, r0_22, o20, r0_23, o21, r0_24, o22, r0_25, o23, r0_28, o24, r0_29, o25, r0_30, o26, r0_31, o27, r0_35, o28, r0_36, o29, r0_37, o30, r0_38, o31, r0_39, d5_0, d5_1, d5_2⟩ := id S
      simp only [e, show ¬ ((1 : Int32) = 0) from by decide, if_false, g0_15 o0, r0_15, bdS, b2S, bxL, bxR, onN, onS, aIn o15 hi6, v18]
theorem m_shared {N E : Nat} (x : Int32) : MOp N E (fX5_shared N x) (fun yo s => (sharedR yo s x, s)) := by
  intro h yo s ⟨S, P, V, lE⟩ I
  obtain ⟨f1, S1, Q1⟩ := th_all S 0
  have P1 := P.kept f1.1 (fun q hq => f1.2 q (by omega))
  refine ⟨_, ?_, f1, V.th S⟩
  have hh := qm_isHouse S1 P1 x
  have V1 := V.th S
  obtain ⟨v1, v2, v3, v4, v5, v6, v7, v8, v9, v10, v11, v12, v13⟩ := V1
  cases hx : ixo yo 5 x with
  | none =>
    rw [hx] at hh
    simp only [fX5_shared, ab_ckq S.o, ab_pIq S.o S.1, hh, bdS, b2S, bxL, bxR, onN, onS, b01z, if_true, sharedR, onI_none hx]
  | some i =>
    obtain ⟨y, rfl, rfl, hi, hi6⟩ := ixo_fits (by omega) P.yk hx
    rw [hx] at hh
    simp only [fX5_shared, ab_ckq S.o, ab_pIq S.o S.1, hh, bdS, b2S, bxL, bxR, onN, onS, if_neg b01n, g4_27 S1.o, v6, sharedR, onI_some hx]
    obtain ⟨whz, whfu0, wo0, wo1, wr0_5, wo2, wr0_17, wo3, wr0_18, wo4, wr0_22, wo5, wr0_23, wo6, wr0_26, wo7, wr0_28, wo8, wr0_29, wo9, wr0_30, wo10, wr0_31, wo11, wr0_32, wo12, wr0_35, wo13, wr0_36, wo14, wr0_38, wo15, wr0_39, wo16, wr0_40, wo17, wr0_41, wo18, wr0_43, wo19, wr0_44, wo20, wr0_45⟩ := id S1
    by_cases e : s.2 0 5 = 0
    · simp only [e, if_true]
    · simp only [e, if_false, g4_28 wo0, wr0_28, bdS, b2S, bxL, bxR, onN, onS, aIn wo7 hi6, v12]
def atR (s : St) (a b : Nat) (x : Int32) : Int32 := if x < 0 then -1 else if s.2 0 a ≤ x then -1 else s.2 b x.toNatClampNeg
theorem x_menuAt {N E : Nat} (x : Int32) : XOp N E (fX1_menuAt N x) (fun _ s => (atR s 6 5 x, s)) := by
  intro h yo s ⟨S, P, V, lE⟩ I
  refine ⟨h, ?_, Fr.rf, V⟩
  obtain ⟨v1, v2, v3, v4, v5, v6, v7, v8, v9, v10, v11, v12, v13, v14, v15, v16, v17, v18, v19, v20, v21, v22, v23, v24⟩ := V
  obtain ⟨m, hm, em⟩ := I.2.2.2.2.1
  have h3 := nI_m1 (n := m) (by omega) x
  simp only [fX1_menuAt, ab_ckq S.o, g0_21 S.o, v6, em, bdS, b2S, bxL, bxR, onN, onS, qx_in, h3, atR]
  by_cases h1 : x < 0
  · simp only [h1, if_true]
  · by_cases h2 : nI m ≤ x
    · simp only [h1, h2, if_true, if_false]
    · obtain ⟨j, hj, rfl⟩ := nI_of h1
      have hjm : j < m := Nat.not_le.mp fun h => h2 (nI_le h hj)
      obtain ⟨hz, hfu0, o0, o1, r0_0, o2, r0_2, o3, r2_0, r2_1, o4, r2_2, o5, r0_8, o6, o7, o8, r6_0, r6_1, o9, o10, o11, r9_0, r9_1, o32, o33, o34, r32_0, r32_1, o35, o36, o37, r35_0, r35_1, o38, o39, o40, r38_0, r38_1, r0_9, r0_10, o12, r0_12, o13, r0_13, o14, r0_14, o15, r0_15, o16, r0_18, o17, r0_19, o18, r0_20, o19, r0_22, o20, r0_23, o21, r0_24, o22, r0_25, o23, r0_28, o24, r0_29, o25, r0_30, o26, r0_31, o27, r0_35, o28, r0_36, o29, r0_37, o30, r0_38, o31, r0_39, d5_0, d5_1, d5_2⟩ := id S
      simp only [h1, h2, if_false, show ¬ ((1 : Int32) = 0) from by decide, g0_20 o0, r0_20, bdS, b2S, bxL, bxR, onN, onS, aIn o18 (show j < 14 by omega), nI_clamp hj]
      rw [v19 j (by rw [em]; exact nI_lt hjm (by omega)) (by omega)]
theorem m_menuAt {N E : Nat} (x : Int32) : MOp N E (fX5_menuAt N x) (fun _ s => (atR s 6 5 x, s)) := by
  intro h yo s ⟨S, P, V, lE⟩ I
  obtain ⟨f1, S1, Q1⟩ := th_all S 0
  refine ⟨_, ?_, f1, V.th S⟩
  obtain ⟨v1, v2, v3, v4, v5, v6, v7, v8, v9, v10, v11, v12, v13, v14, v15, v16, v17, v18, v19, v20, v21, v22⟩ := V.th S
  obtain ⟨m, hm, em⟩ := I.2.2.2.2.1
  simp only [fX5_menuAt, ab_ckq S.o, ab_pIq S.o S.1, g4_33 S1.o, v7, em, bdS, b2S, bxL, bxR, onN, onS, atR]
  by_cases h1 : x < 0
  · simp only [h1, if_true]
  · by_cases h2 : nI m ≤ x
    · simp only [h1, h2, if_true, if_false]
    · obtain ⟨j, hj, rfl⟩ := nI_of h1
      have hjm : j < m := Nat.not_le.mp fun h => h2 (nI_le h hj)
      obtain ⟨whz, whfu0, wo0, wo1, wr0_5, wo2, wr0_17, wo3, wr0_18, wo4, wr0_22, wo5, wr0_23, wo6, wr0_26, wo7, wr0_28, wo8, wr0_29, wo9, wr0_30, wo10, wr0_31, wo11, wr0_32, wo12, wr0_35, wo13, wr0_36, wo14, wr0_38, wo15, wr0_39, wo16, wr0_40, wo17, wr0_41, wo18, wr0_43, wo19, wr0_44, wo20, wr0_45⟩ := id S1
      simp only [h1, h2, if_false, g4_32 wo0, wr0_32, bdS, b2S, bxL, bxR, onN, onS, aIn wo11 (show j < 14 by omega), nI_clamp hj, v13]
theorem x_callAt {N E : Nat} (x : Int32) : XOp N E (fX1_callAt N x) (fun _ s => (atR s 7 6 x, s)) := by
  intro h yo s ⟨S, P, V, lE⟩ I
  refine ⟨h, ?_, Fr.rf, V⟩
  obtain ⟨v1, v2, v3, v4, v5, v6, v7, v8, v9, v10, v11, v12, v13, v14, v15, v16, v17, v18, v19, v20, v21, v22, v23, v24⟩ := V
  obtain ⟨m, hm, em⟩ := I.2.2.2.2.2.1
  have h3 := nI_m1 (n := m) (by omega) x
  simp only [fX1_callAt, ab_ckq S.o, g0_26 S.o, v7, em, bdS, b2S, bxL, bxR, onN, onS, qx_in, h3, atR]
  by_cases h1 : x < 0
  · simp only [h1, if_true]
  · by_cases h2 : nI m ≤ x
    · simp only [h1, h2, if_true, if_false]
    · obtain ⟨j, hj, rfl⟩ := nI_of h1
      have hjm : j < m := Nat.not_le.mp fun h => h2 (nI_le h hj)
      obtain ⟨hz, hfu0, o0, o1, r0_0, o2, r0_2, o3, r2_0, r2_1, o4, r2_2, o5, r0_8, o6, o7, o8, r6_0, r6_1, o9, o10, o11, r9_0, r9_1, o32, o33, o34, r32_0, r32_1, o35, o36, o37, r35_0, r35_1, o38, o39, o40, r38_0, r38_1, r0_9, r0_10, o12, r0_12, o13, r0_13, o14, r0_14, o15, r0_15, o16, r0_18, o17, r0_19, o18, r0_20, o19, r0_22, o20, r0_23, o21, r0_24, o22, r0_25, o23, r0_28, o24, r0_29, o25, r0_30, o26, r0_31, o27, r0_35, o28, r0_36, o29, r0_37, o30, r0_38, o31, r0_39, d5_0, d5_1, d5_2⟩ := id S
      simp only [h1, h2, if_false, show ¬ ((1 : Int32) = 0) from by decide, g0_25 o0, r0_25, bdS, b2S, bxL, bxR, onN, onS, aIn o22 (show j < 5 by omega), nI_clamp hj]
      rw [v20 j (by rw [em]; exact nI_lt hjm (by omega)) (by omega)]
theorem m_callAt {N E : Nat} (x : Int32) : MOp N E (fX5_callAt N x) (fun _ s => (atR s 7 6 x, s)) := by
  intro h yo s ⟨S, P, V, lE⟩ I
  obtain ⟨f1, S1, Q1⟩ := th_all S 0
  refine ⟨_, ?_, f1, V.th S⟩
  obtain ⟨v1, v2, v3, v4, v5, v6, v7, v8, v9, v10, v11, v12, v13, v14, v15, v16, v17, v18, v19, v20, v21, v22⟩ := V.th S
  obtain ⟨m, hm, em⟩ := I.2.2.2.2.2.1
  simp only [fX5_callAt, ab_ckq S.o, ab_pIq S.o S.1, g4_34 S1.o, v8, em, bdS, b2S, bxL, bxR, onN, onS, atR]
  by_cases h1 : x < 0
  · simp only [h1, if_true]
  · by_cases h2 : nI m ≤ x
    · simp only [h1, h2, if_true, if_false]
    · obtain ⟨j, hj, rfl⟩ := nI_of h1
      have hjm : j < m := Nat.not_le.mp fun h => h2 (nI_le h hj)
      obtain ⟨whz, whfu0, wo0, wo1, wr0_5, wo2, wr0_17, wo3, wr0_18, wo4, wr0_22, wo5, wr0_23, wo6, wr0_26, wo7, wr0_28, wo8, wr0_29, wo9, wr0_30, wo10, wr0_31, wo11, wr0_32, wo12, wr0_35, wo13, wr0_36, wo14, wr0_38, wo15, wr0_39, wo16, wr0_40, wo17, wr0_41, wo18, wr0_43, wo19, wr0_44, wo20, wr0_45⟩ := id S1
      simp only [h1, h2, if_false, g4_36 wo0, wr0_36, bdS, b2S, bxL, bxR, onN, onS, aIn wo13 (show j < 5 by omega), nI_clamp hj, v14]
def helpR (s : St) (x : Int32) : Int32 := if s.2 0 8 = 0 then -1 else if x < 0 then -1 else if 6 < x then -1 else s.2 7 x.toNatClampNeg
theorem x_helper {N E : Nat} (x : Int32) : XOp N E (fX1_helper N x) (fun _ s => (helpR s x, s)) := by
  intro h yo s ⟨S, P, V, lE⟩ I
  refine ⟨h, ?_, Fr.rf, V⟩
  obtain ⟨v1, v2, v3, v4, v5, v6, v7, v8, v9, v10, v11, v12, v13, v14, v15, v16, v17, v18, v19, v20, v21, v22, v23, v24⟩ := V
  simp only [fX1_helper, ab_ckq S.o, g0_32 S.o, v8, bdS, b2S, bxL, bxR, onN, onS, qx_in, helpR]
  rcases I.2.2.2.2.2.2.2 with e | e
  · simp only [e, if_true]
  · simp only [e, show ¬ ((1 : Int32) = 0) from by decide, if_false]
    by_cases h1 : x < 0
    · simp only [h1, if_true]
    · by_cases h2 : 6 < x
      · simp only [h1, h2, if_true, if_false]
      · obtain ⟨j, hj, rfl⟩ := nI_of h1
        have hjm : j < 7 := Nat.not_le.mp fun h => h2 (by rw [show (6 : Int32) = nI 6 from rfl]; exact nI_lt (by omega) hj)
        obtain ⟨hz, hfu0, o0, o1, r0_0, o2, r0_2, o3, r2_0, r2_1, o4, r2_2, o5, r0_8, o6, o7, o8, r6_0, r6_1, o9, o10, o11, r9_0, r9_1, o32, o33, o34, r32_0, r32_1, o35, o36, o37, r35_0, r35_1, o38, o39, o40, r38_0, r38_1, r0_9, r0_10, o12, r0_12, o13, r0_13, o14, r0_14, o15, r0_15, o16, r0_18, o17, r0_19, o18, r0_20, o19, r0_22, o20, r0_23, o21, r0_24, o22, r0_25, o23, r0_28, o24, r0_29, o25, r0_30, o26, r0_31, o27, r0_35, o28, r0_36, o29, r0_37, o30, r0_38, o31, r0_39, d5_0, d5_1, d5_2⟩ := id S
        simp only [h1, h2, if_false, show ¬ ((1 : Int32) = 0) from by decide, g0_30 o0, r0_30, bdS, b2S, bxL, bxR, onN, onS, aIn o25 hjm, nI_clamp hj, v21 e j hjm]
theorem m_helper {N E : Nat} (x : Int32) : MOp N E (fX5_helper N x) (fun _ s => (helpR s x, s)) := by
  intro h yo s ⟨S, P, V, lE⟩ I
  obtain ⟨f1, S1, Q1⟩ := th_all S 0
  refine ⟨_, ?_, f1, V.th S⟩
  obtain ⟨v1, v2, v3, v4, v5, v6, v7, v8, v9, v10, v11, v12, v13, v14, v15, v16, v17, v18, v19, v20, v21, v22⟩ := V.th S
  simp only [fX5_helper, ab_ckq S.o, ab_pIq S.o S.1, g4_37 S1.o, v9, bdS, b2S, bxL, bxR, onN, onS, qm_in, helpR]
  by_cases e : s.2 0 8 = 0
  · simp only [e, if_true]
  · simp only [e, if_false]
    by_cases h1 : x < 0
    · simp only [h1, if_true]
    · by_cases h2 : 6 < x
      · simp only [h1, h2, if_true, if_false]
      · obtain ⟨j, hj, rfl⟩ := nI_of h1
        have hjm : j < 7 := Nat.not_le.mp fun h => h2 (by rw [show (6 : Int32) = nI 6 from rfl]; exact nI_lt (by omega) hj)
        obtain ⟨whz, whfu0, wo0, wo1, wr0_5, wo2, wr0_17, wo3, wr0_18, wo4, wr0_22, wo5, wr0_23, wo6, wr0_26, wo7, wr0_28, wo8, wr0_29, wo9, wr0_30, wo10, wr0_31, wo11, wr0_32, wo12, wr0_35, wo13, wr0_36, wo14, wr0_38, wo15, wr0_39, wo16, wr0_40, wo17, wr0_41, wo18, wr0_43, wo19, wr0_44, wo20, wr0_45⟩ := id S1
        simp only [h1, h2, if_false, show ¬ ((1 : Int32) = 0) from by decide, g4_38 wo0, wr0_38, bdS, b2S, bxL, bxR, onN, onS, aIn wo14 hjm, nI_clamp hj, v15]
