/-! fading -/
def fd3 (f : Nat → Int32) (fr : Nat) (last : Int32) (i j k : Nat) (a : Int32) : Int32 := if ((f (fr + i) + f (fr + j)) + f (fr + k)) < last then a + 0 else a + 1
def fd2 (f : Nat → Int32) (fr : Nat) (last : Int32) (m i j : Nat) (a : Int32) : Int32 := lp (fd3 f fr last i j) (m - (j + 1)) (j + 1) a
def fd1 (f : Nat → Int32) (fr : Nat) (last : Int32) (m i : Nat) (a : Int32) : Int32 := lp (fd2 f fr last m i) (m - (i + 1)) (i + 1) a
def fadingR (yo : Option Dy) (s : St) (x : Int32) : Int32 × St := onI yo 5 x (-1, fin s 1) fun _ i => if (4 : Int32) ≤ s.2 8 i then (lp (fd1 (s.2 9) (10 * i) ((s.2 9 (10 * i + (s.2 8 i).toNatClampNeg - 1) + s.2 9 (10 * i + (s.2 8 i).toNatClampNeg - 2)) + s.2 9 (10 * i + (s.2 8 i).toNatClampNeg - 3)) (s.2 8 i).toNatClampNeg) (s.2 8 i).toNatClampNeg 0 0, fin s 0) else (-1, fin s 5)
theorem nI_sub {a b : Nat} (h : b ≤ a) : nI a - nI b = nI (a - b) := by
  have h1 : nI a = nI (a - b) + nI b := by rw [nI_add, Nat.sub_add_cancel h]
  rw [h1, Int32.add_sub_cancel]
theorem nI10' (c : Nat) : (10 : Int32) * nI c = nI (10 * c) := by
  rw [show (10 : Int32) = nI 10 from rfl, nI_mul]
theorem qx_fd3 {h : Hp} {N : Nat} {F : Nat → Int32} {fr M i j : Nat} {last : Int32} (S : SX h N) (ea : aF h (N + 27) = F) (hfr : fr ≤ 50) (hM : M ≤ 10) (hi : i < 10) (hj : j < 10) {K1 : Int32 → Int32 → Int32 → Int32 → Int32 → Hp → Option (Int32 × Hp)} {K2 : Int32 → Int32 → Int32 → Int32 → Int32 → Int32 → Hp → Option (Int32 × Hp)} : ∀ (m k n : Nat) (acc : Int32), k + m = M → m < n → fX1_fading_l105 N K1 K2 n (nI M) (nI fr) last acc (nI i) (nI j) (nI k) h = K2 (nI M) (nI fr) last (lp (fd3 F fr last i j) m k acc) (nI i) (nI (j + 1)) h := by
  intro m
  induction m with
  | zero =>
    intro k n acc hk hn
    cases n with
    | zero => omega
    | succ n => simp only [fX1_fading_l105, nI_le (show M ≤ k by omega) (by omega), if_true, lp, nI_1]
  | succ m ih =>
    intro k n acc hk hn
    cases n with
    | zero => omega
    | succ n =>
      have ih1 := fun a => ih (k + 1) n a (by omega) (by omega)
      obtain ⟨hz, hfu0, o0, o1, r0_0, o2, r0_2, o3, r2_0, r2_1, o4, r2_2, o5, r0_8, o6, o7, o8, r6_0, r6_1, o9, o10, o11, r9_0, r9_1, o32, o33, o34, r32_0, r32_1, o35, o36, o37, r35_0, r35_1, o38, o39, o40, r38_0, r38_1, r0_9, r0_10, o12, r0_12, o13, r0_13, o14, r0_14, o15, r0_15, o16, r0_18, o17, r0_19, o18, r0_20, o19, r0_22, o20, r0_23, o21, r0_24, o22, r0_25, o23, r0_28, o24, r0_29, o25, r0_30, o26, r0_31, o27, r0_35, o28, r0_36, o29, r0_37, o30, r0_38, o31, r0_39, d5_0, d5_1, d5_2⟩ := id S
      simp only [fX1_fading_l105, nI_ge (show k < M by omega) (by omega), if_false, nI_add, bdS, b2S, bxL, bxR, onN, onS, g0_35 o0, r0_35, aIn o27 (show fr + i < 60 by omega), g0_35 o0, r0_35, aIn o27 (show fr + j < 60 by omega), g0_35 o0, r0_35, aIn o27 (show fr + k < 60 by omega), ea, lp, fd3]
      have e1 : nI k + 1 = nI (k + 1) := nI_1 k
      simp only [e1, ih1]
      by_cases h1 : ((F (fr + i) + F (fr + j)) + F (fr + k)) < last
      · simp only [h1, if_true]
      · simp only [h1, if_false]
theorem qx_fd2 {h : Hp} {N : Nat} {F : Nat → Int32} {fr M i : Nat} {last : Int32} (S : SX h N) (ea : aF h (N + 27) = F) (hfr : fr ≤ 50) (hM : M ≤ 10) (hi : i < 10) {K1 : Int32 → Int32 → Int32 → Int32 → Int32 → Hp → Option (Int32 × Hp)} : ∀ (m j n : Nat) (acc : Int32), j + m = M → m < n → fX1_fading_l93 N K1 n (nI M) (nI fr) last acc (nI i) (nI j) h = K1 (nI M) (nI fr) last (lp (fd2 F fr last M i) m j acc) (nI (i + 1)) h := by
  intro m
  induction m with
  | zero =>
    intro j n acc hk hn
    cases n with
    | zero => omega
    | succ n =>
      simp only [fX1_fading_l93, nI_le (show M ≤ j by omega) (by omega), if_true, lp, nI_1]
  | succ m ih =>
    intro j n acc hk hn
    cases n with
    | zero => omega
    | succ n =>
      have hh := qx_fd3 (i := i) (j := j) (last := last) S ea hfr hM hi (by omega) (K1 := K1) (K2 := fX1_fading_l93 N K1 n) (M - (j + 1)) (j + 1) 300000 acc (by omega) (by omega)
      have ih1 := fun a => ih (j + 1) n a (by omega) (by omega)
      simp only [fX1_fading_l93, nI_ge (show j < M by omega) (by omega), if_false, S.f, nI_1, hh, ih1, lp, fd2]
theorem qx_fd1 {h : Hp} {N : Nat} {F : Nat → Int32} {fr M : Nat} {last : Int32} (S : SX h N) (ea : aF h (N + 27) = F) (hfr : fr ≤ 50) (hM : M ≤ 10) : ∀ (m i n : Nat) (acc : Int32), i + m = M → m < n → fX1_fading_l81 N n (nI M) (nI fr) last acc (nI i) h = some (lp (fd1 F fr last M) m i acc, h) := by
  intro m
  induction m with
  | zero =>
    intro i n acc hk hn
    cases n with
    | zero => omega
    | succ n =>
      skip
      simp only [fX1_fading_l81, nI_le (show M ≤ i by omega) (by omega), if_true, lp]
  | succ m ih =>
    intro i n acc hk hn
    cases n with
    | zero => omega
    | succ n =>
      have hh := qx_fd2 (i := i) (last := last) S ea hfr hM (by omega) (K1 := fX1_fading_l81 N n) (M - (i + 1)) (i + 1) 300000 acc (by omega) (by omega)
      have ih1 := fun a => ih (i + 1) n a (by omega) (by omega)
      simp only [fX1_fading_l81, nI_ge (show i < M by omega) (by omega), if_false, S.f, nI_1, hh, ih1, lp, fd1]
theorem qm_fd3 {h : Hp} {N : Nat} {F : Nat → Int32} {fr M i j : Nat} {last : Int32} (S : SM h N) (ea : aF h (N + 17) = F) (hfr : fr ≤ 50) (hM : M ≤ 10) (hi : i < 10) (hj : j < 10) {K1 : Int32 → Int32 → Int32 → Int32 → Int32 → Hp → Option (Int32 × Hp)} {K2 : Int32 → Int32 → Int32 → Int32 → Int32 → Int32 → Hp → Option (Int32 × Hp)} : ∀ (m k n : Nat) (acc : Int32), k + m = M → m < n → fX5_fading_l106 N K1 K2 n (nI M) (nI fr) last acc (nI i) (nI j) (nI k) h = K2 (nI M) (nI fr) last (lp (fd3 F fr last i j) m k acc) (nI i) (nI (j + 1)) h := by
  intro m
  induction m with
  | zero =>
    intro k n acc hk hn
    cases n with
    | zero => omega
    | succ n => simp only [fX5_fading_l106, nI_le (show M ≤ k by omega) (by omega), if_true, lp, nI_1]
  | succ m ih =>
    intro k n acc hk hn
    cases n with
    | zero => omega
    | succ n =>
      have ih1 := fun a => ih (k + 1) n a (by omega) (by omega)
      obtain ⟨hz, hfu0, o0, o1, r0_5, o2, r0_17, o3, r0_18, o4, r0_22, o5, r0_23, o6, r0_26, o7, r0_28, o8, r0_29, o9, r0_30, o10, r0_31, o11, r0_32, o12, r0_35, o13, r0_36, o14, r0_38, o15, r0_39, o16, r0_40, o17, r0_41, o18, r0_43, o19, r0_44, o20, r0_45⟩ := id S
      simp only [fX5_fading_l106, nI_ge (show k < M by omega) (by omega), if_false, nI_add, bdS, b2S, bxL, bxR, onN, onS, g4_41 o0, r0_41, aIn o17 (show fr + i < 60 by omega), g4_41 o0, r0_41, aIn o17 (show fr + j < 60 by omega), g4_41 o0, r0_41, aIn o17 (show fr + k < 60 by omega), ea, lp, fd3]
      have e1 : nI k + 1 = nI (k + 1) := nI_1 k
      simp only [e1, ih1]
      by_cases h1 : ((F (fr + i) + F (fr + j)) + F (fr + k)) < last
      · simp only [h1, if_true]
      · simp only [h1, if_false]
theorem qm_fd2 {h : Hp} {N : Nat} {F : Nat → Int32} {fr M i : Nat} {last : Int32} (S : SM h N) (ea : aF h (N + 17) = F) (hfr : fr ≤ 50) (hM : M ≤ 10) (hi : i < 10) {K1 : Int32 → Int32 → Int32 → Int32 → Int32 → Hp → Option (Int32 × Hp)} : ∀ (m j n : Nat) (acc : Int32), j + m = M → m < n → fX5_fading_l94 N K1 n (nI M) (nI fr) last acc (nI i) (nI j) h = K1 (nI M) (nI fr) last (lp (fd2 F fr last M i) m j acc) (nI (i + 1)) h := by
  intro m
  induction m with
  | zero =>
    intro j n acc hk hn
    cases n with
    | zero => omega
    | succ n =>
      simp only [fX5_fading_l94, nI_le (show M ≤ j by omega) (by omega), if_true, lp, nI_1]
  | succ m ih =>
    intro j n acc hk hn
    cases n with
    | zero => omega
    | succ n =>
      have hh := qm_fd3 (i := i) (j := j) (last := last) S ea hfr hM hi (by omega) (K1 := K1) (K2 := fX5_fading_l94 N K1 n) (M - (j + 1)) (j + 1) 300000 acc (by omega) (by omega)
      have ih1 := fun a => ih (j + 1) n a (by omega) (by omega)
      simp only [fX5_fading_l94, nI_ge (show j < M by omega) (by omega), if_false, S.f, nI_1, hh, ih1, lp, fd2]
theorem qm_fd1 {h : Hp} {N : Nat} {F : Nat → Int32} {fr M : Nat} {last : Int32} (S : SM h N) (ea : aF h (N + 17) = F) (hfr : fr ≤ 50) (hM : M ≤ 10) : ∀ (m i n : Nat) (acc : Int32), i + m = M → m < n → fX5_fading_l82 N n (nI M) (nI fr) last acc (nI i) h = some (lp (fd1 F fr last M) m i acc, rf h N 0) := by
  intro m
  induction m with
  | zero =>
    intro i n acc hk hn
    cases n with
    | zero => omega
    | succ n =>
      have hdn := fun v => qm_done S v
      simp only [fX5_fading_l82, nI_le (show M ≤ i by omega) (by omega), if_true, lp, hdn, bdS, b2S, bxL, bxR, onN, onS, rf]
  | succ m ih =>
    intro i n acc hk hn
    cases n with
    | zero => omega
    | succ n =>
      have hh := qm_fd2 (i := i) (last := last) S ea hfr hM (by omega) (K1 := fX5_fading_l82 N n) (M - (i + 1)) (i + 1) 300000 acc (by omega) (by omega)
      have ih1 := fun a => ih (i + 1) n a (by omega) (by omega)
      simp only [fX5_fading_l82, nI_ge (show i < M by omega) (by omega), if_false, S.f, nI_1, hh, ih1, lp, fd1]
theorem x_fading {N E : Nat} (x : Int32) : XOp N E (fX1_fading N x) (fun yo s => fadingR yo s x) := by
  intro h yo s ⟨S, P, V, lE⟩ I
  obtain ⟨f1, S1, Q1, t1⟩ := an_all S
  have P1 := P.kept f1.1 (fun q hq => f1.2 q (by omega))
  have hh := qx_isHouse S1 P1 x
  have han : fX1_anew N h = some (an h N) := qx_anew S
  cases hx : ixo yo 5 x with
  | none =>
    rw [hx] at hh
    obtain ⟨f2, S2, Q2, t2⟩ := no_all S1 1
    refine ⟨sI (an h N) N 4 1, ?_, f1.trans f2, ?_⟩
    · simp only [fX1_fading, ab_ckq S.o, han, bdS, b2S, bxL, bxR, onN, onS, hh, b01z, if_true, qx_no S1, fadingR, onI_none hx]
    · simp only [fadingR, onI_none hx]
      exact V.fin (Q1.trans Q2) t2 (by decide)
  | some i =>
    obtain ⟨y, rfl, rfl, hi, hi6⟩ := ixo_fits (by omega) P.yk hx
    rw [hx] at hh
    obtain ⟨v1, v2, v3, v4, v5, v6, v7, v8, v9, v10, v11, v12, v13, v14, v15, v16, v17, v18, v19, v20, v21, v22, v23, v24⟩ := V.fin Q1 t1 (by decide)
    have e8 : aF (an h N) (N + 28) = s.2 8 := v13
    have e9 : aF (an h N) (N + 27) = s.2 9 := v14
    obtain ⟨k, hk, ek⟩ := I.2.2.1 i hi6
    obtain ⟨whz, whfu0, wo0, wo1, wr0_0, wo2, wr0_2, wo3, wr2_0, wr2_1, wo4, wr2_2, wo5, wr0_8, wo6, wo7, wo8, wr6_0, wr6_1, wo9, wo10, wo11, wr9_0, wr9_1, wo32, wo33, wo34, wr32_0, wr32_1, wo35, wo36, wo37, wr35_0, wr35_1, wo38, wo39, wo40, wr38_0, wr38_1, wr0_9, wr0_10, wo12, wr0_12, wo13, wr0_13, wo14, wr0_14, wo15, wr0_15, wo16, wr0_18, wo17, wr0_19, wo18, wr0_20, wo19, wr0_22, wo20, wr0_23, wo21, wr0_24, wo22, wr0_25, wo23, wr0_28, wo24, wr0_29, wo25, wr0_30, wo26, wr0_31, wo27, wr0_35, wo28, wr0_36, wo29, wr0_37, wo30, wr0_38, wo31, wr0_39, wd5_0, wd5_1, wd5_2⟩ := id S1
    by_cases h4 : (4 : Int32) ≤ nI k
    · have hk4 : 4 ≤ k := Nat.not_lt.mp fun h => absurd (show nI 4 ≤ nI k from h4) (nI_ge h (by decide))
      have hl := fun acc => qx_fd1 (F := s.2 9) (fr := 10 * i) (M := k) (last := (s.2 9 (10 * i + k - 1) + s.2 9 (10 * i + k - 2)) + s.2 9 (10 * i + k - 3)) S1 e9 (by omega) hk k 0 300000 acc (by omega) (by omega)
      have hl := hl 0
      rw [nI_0] at hl
      have s1 : nI (10 * i + k) - (1 : Int32) = nI (10 * i + k - 1) := nI_sub (b := 1) (by omega)
      have s2 : nI (10 * i + k) - (2 : Int32) = nI (10 * i + k - 2) := nI_sub (b := 2) (by omega)
      have s3 : nI (10 * i + k) - (3 : Int32) = nI (10 * i + k - 3) := nI_sub (b := 3) (by omega)
      refine ⟨an h N, ?_, f1, ?_⟩
      · simp only [fX1_fading, ab_ckq S.o, han, bdS, b2S, bxL, bxR, onN, onS, hh, if_neg b01n, g0_36 wo0, wr0_36, aIn wo28 hi6, e8, ek, h4, if_true, g0_35 wo0, wr0_35, nI10', nI_add, s1, s2, s3, aIn wo27 (show 10 * i + k - 1 < 60 by omega), aIn wo27 (show 10 * i + k - 2 < 60 by omega), aIn wo27 (show 10 * i + k - 3 < 60 by omega), e9, S1.f, hl, fadingR, onI_some hx, nI_clamp (show k < 2 ^ 31 by omega)]
      · simp only [fadingR, onI_some hx, ek, h4, if_true]
        exact V.fin Q1 t1 (by decide)
    · obtain ⟨f2, S2, Q2, t2⟩ := no_all S1 5
      refine ⟨sI (an h N) N 4 5, ?_, f1.trans f2, ?_⟩
      · simp only [fX1_fading, ab_ckq S.o, han, bdS, b2S, bxL, bxR, onN, onS, hh, if_neg b01n, g0_36 wo0, wr0_36, aIn wo28 hi6, e8, ek, h4, if_false, qx_no S1, fadingR, onI_some hx]
      · simp only [fadingR, onI_some hx, ek, h4, if_false]
        exact V.fin (Q1.trans Q2) t2 (by decide)
theorem m_fading {N E : Nat} (x : Int32) : MOp N E (fX5_fading N x) (fun yo s => fadingR yo s x) := by
  intro h yo s ⟨S, P, V, lE⟩ I
  obtain ⟨f1, S1, Q1⟩ := th_all S 0
  have P1 := P.kept f1.1 (fun q hq => f1.2 q (by omega))
  have hh := qm_isHouse S1 P1 x
  cases hx : ixo yo 5 x with
  | none =>
    rw [hx] at hh
    obtain ⟨f2, S2, Q2, t2, w2⟩ := rf_all S1 1
    refine ⟨rf (sI h N 0 0) N 1, ?_, f1.trans f2, ?_⟩
    · simp only [fX5_fading, ab_ckq S.o, ab_pIq S.o S.1, bdS, b2S, bxL, bxR, onN, onS, hh, b01z, if_true, qm_refused S1, fadingR, onI_none hx, rf]
    · simp only [fadingR, onI_none hx]
      exact V.fin (Q1.trans Q2) t2 w2
  | some i =>
    obtain ⟨y, rfl, rfl, hi, hi6⟩ := ixo_fits (by omega) P.yk hx
    rw [hx] at hh
    obtain ⟨v1, v2, v3, v4, v5, v6, v7, v8, v9, v10, v11, v12, v13, v14, v15, e8, e9, v18, v19, v20, v21, v22⟩ := V.th S
    obtain ⟨k, hk, ek⟩ := I.2.2.1 i hi6
    obtain ⟨whz, whfu0, wo0, wo1, wr0_5, wo2, wr0_17, wo3, wr0_18, wo4, wr0_22, wo5, wr0_23, wo6, wr0_26, wo7, wr0_28, wo8, wr0_29, wo9, wr0_30, wo10, wr0_31, wo11, wr0_32, wo12, wr0_35, wo13, wr0_36, wo14, wr0_38, wo15, wr0_39, wo16, wr0_40, wo17, wr0_41, wo18, wr0_43, wo19, wr0_44, wo20, wr0_45⟩ := id S1
    by_cases h4 : (4 : Int32) ≤ nI k
    · have hk4 : 4 ≤ k := Nat.not_lt.mp fun h => absurd (show nI 4 ≤ nI k from h4) (nI_ge h (by decide))
      have hl := qm_fd1 (F := s.2 9) (fr := 10 * i) (M := k) (last := (s.2 9 (10 * i + k - 1) + s.2 9 (10 * i + k - 2)) + s.2 9 (10 * i + k - 3)) S1 e9 (by omega) hk k 0 300000 0 (by omega) (by omega)
      rw [nI_0] at hl
      have s1 : nI (10 * i + k) - (1 : Int32) = nI (10 * i + k - 1) := nI_sub (b := 1) (by omega)
      have s2 : nI (10 * i + k) - (2 : Int32) = nI (10 * i + k - 2) := nI_sub (b := 2) (by omega)
      have s3 : nI (10 * i + k) - (3 : Int32) = nI (10 * i + k - 3) := nI_sub (b := 3) (by omega)
      obtain ⟨f2, S2, Q2, t2, w2⟩ := rf_all S1 0
      refine ⟨rf (sI h N 0 0) N 0, ?_, f1.trans f2, ?_⟩
      · simp only [fX5_fading, ab_ckq S.o, ab_pIq S.o S.1, bdS, b2S, bxL, bxR, onN, onS, hh, if_neg b01n, g4_40 wo0, wr0_40, aIn wo16 hi6, e8, ek, h4, if_true, g4_41 wo0, wr0_41, nI10', nI_add, s1, s2, s3, aIn wo17 (show 10 * i + k - 1 < 60 by omega), aIn wo17 (show 10 * i + k - 2 < 60 by omega), aIn wo17 (show 10 * i + k - 3 < 60 by omega), e9, S1.f, hl, fadingR, onI_some hx, nI_clamp (show k < 2 ^ 31 by omega)]
      · simp only [fadingR, onI_some hx, ek, h4, if_true]
        exact V.fin (Q1.trans Q2) t2 w2
    · obtain ⟨f2, S2, Q2, t2, w2⟩ := rf_all S1 5
      refine ⟨rf (sI h N 0 0) N 5, ?_, f1.trans f2, ?_⟩
      · simp only [fX5_fading, ab_ckq S.o, ab_pIq S.o S.1, bdS, b2S, bxL, bxR, onN, onS, hh, if_neg b01n, g4_40 wo0, wr0_40, aIn wo16 hi6, e8, ek, h4, if_false, qm_refused S1, fadingR, onI_some hx, rf]
      · simp only [fadingR, onI_some hx, ek, h4, if_false]
        exact V.fin (Q1.trans Q2) t2 w2
