/-! where the days lie; indices; small functions of both -/
theorem bdS {α β : Type} {a : α} {k : α → Option β} : ab_bd (some a) k = k a := rfl
theorem b2S {α β : Type} {a : α} {h : Hp} {k : α → Hp → Option β} : ab_b2 (some (a, h)) k = k a h := rfl
theorem bxL {α β : Type} {a : α} {h : Hp} {k : α → Hp → Option β} {t : Nat → Hp → Option β} : ab_bx (some (.inl a, h)) k t = k a h := rfl
theorem bxR {α β : Type} {q : Nat} {h : Hp} {k : α → Hp → Option β} {t : Nat → Hp → Option β} : ab_bx (some (.inr q, h)) k t = t q h := rfl
theorem onN {β : Type} {A : Option β} {B : Nat → Option β} : ab_on none A B = A := rfl
theorem onS {β : Type} {a : Nat} {A : Option β} {B : Nat → Option β} : ab_on (some a) A B = B a := rfl
def PX (h : Hp) (N E : Nat) (yo : Option Dy) : Prop := match yo with
  | none => gR h N 3 = none
  | some y => ∃ d qa, gR h N 3 = some d ∧ DX h E d qa y ∧ Yk y
def PM (h : Hp) (N E : Nat) (yo : Option Dy) : Prop := match yo with
  | none => gR h N 3 = none
  | some y => ∃ d, gR h N 3 = some d ∧ DM h E d y ∧ Yk y
theorem PX.kept {h h1 : Hp} {N E : Nat} {yo : Option Dy} (s : PX h N E yo) (k : Kp h h1) (e : ∀ q, E ≤ q → h1.1 q = h.1 q) : PX h1 N E yo := by
  cases yo with
  | none => exact (k.2.2.2.2.2.1 _ _).trans s
  | some y =>
    obtain ⟨d, qa, h1, h2, h3⟩ := s
    exact ⟨d, qa, (k.2.2.2.2.2.1 _ _).trans h1, h2.kept k e, h3⟩
theorem PM.kept {h h1 : Hp} {N E : Nat} {yo : Option Dy} (s : PM h N E yo) (k : Kp h h1) (e : ∀ q, E ≤ q → h1.1 q = h.1 q) : PM h1 N E yo := by
  cases yo with
  | none => exact (k.2.2.2.2.2.1 _ _).trans s
  | some y =>
    obtain ⟨d, h1, h2, h3⟩ := s
    exact ⟨d, (k.2.2.2.2.2.1 _ _).trans h1, h2.kept k e, h3⟩
/-- the place that an int names among a day's things of a sort -/
def ixo (yo : Option Dy) (j : Nat) (c : Int32) : Option Nat := match yo with
  | none => none
  | some y => if c < 0 then none else if nI (y.1 j) ≤ c then none else some c.toNatClampNeg
theorem ixo_some {yo : Option Dy} {j i : Nat} {c : Int32} (h : ixo yo j c = some i) (hj : ∀ y, yo = some y → y.1 j < 2 ^ 31) : ∃ y, yo = some y ∧ c = nI i ∧ i < y.1 j := by
  unfold ixo at h
  cases yo with
  | none => cases h
  | some y =>
    simp only at h
    split at h
    · cases h
    · split at h
      · cases h
      · rename_i h1 h2
        cases h
        obtain ⟨k, hk, rfl⟩ := nI_of h1
        refine ⟨y, rfl, by rw [nI_clamp hk], ?_⟩
        rw [nI_clamp hk]
        exact Nat.not_le.mp fun h => h2 (nI_le h hk)
theorem nI_m1 {n : Nat} (hn : n < 2 ^ 31) (c : Int32) : nI n - 1 < c ↔ nI n ≤ c := by
  rw [Int32.lt_iff_toInt_lt, Int32.le_iff_toInt_le]
  cases n with
  | zero => rw [show nI 0 - 1 = (-1 : Int32) from by decide +kernel, show nI 0 = (0 : Int32) from by decide +kernel]; simp; omega
  | succ n => rw [nI_pred, nI_toInt (by omega), nI_toInt hn]; omega
theorem qx_in (v a b : Int32) (h : Hp) : fX1_in v a b h = some (if v < a then 0 else if b < v then 0 else 1, h) := by
  unfold fX1_in
  split
  · rfl
  · split <;> rfl
theorem qm_in (v a b : Int32) (h : Hp) : fX5_in v a b h = some (if v < a then 0 else if b < v then 0 else 1, h) := by
  unfold fX5_in
  split
  · rfl
  · split <;> rfl
theorem qx_anew {h : Hp} {N : Nat} (S : SX h N) : fX1_anew N h = some (sI (sI h N 4 0) N 6 (-1)) := by
  obtain ⟨hz, hfu0, o0, o1, r0_0, o2, r0_2, o3, r2_0, r2_1, o4, r2_2, o5, r0_8, o6, o7, o8, r6_0, r6_1, o9, o10, o11, r9_0, r9_1, o32, o33, o34, r32_0, r32_1, o35, o36, o37, r35_0, r35_1, o38, o39, o40, r38_0, r38_1, r0_9, r0_10, o12, r0_12, o13, r0_13, o14, r0_14, o15, r0_15, o16, r0_18, o17, r0_19, o18, r0_20, o19, r0_22, o20, r0_23, o21, r0_24, o22, r0_25, o23, r0_28, o24, r0_29, o25, r0_30, o26, r0_31, o27, r0_35, o28, r0_36, o29, r0_37, o30, r0_38, o31, r0_39, d5_0, d5_1, d5_2⟩ := id S
  have S1 : SX (sI h N 4 0) N := S.kept (Kp.sI o0 rfl)
  obtain ⟨phz, phfu0, po0, po1, pr0_0, po2, pr0_2, po3, pr2_0, pr2_1, po4, pr2_2, po5, pr0_8, po6, po7, po8, pr6_0, pr6_1, po9, po10, po11, pr9_0, pr9_1, po32, po33, po34, pr32_0, pr32_1, po35, po36, po37, pr35_0, pr35_1, po38, po39, po40, pr38_0, pr38_1, pr0_9, pr0_10, po12, pr0_12, po13, pr0_13, po14, pr0_14, po15, pr0_15, po16, pr0_18, po17, pr0_19, po18, pr0_20, po19, pr0_22, po20, pr0_23, po21, pr0_24, po22, pr0_25, po23, pr0_28, po24, pr0_29, po25, pr0_30, po26, pr0_31, po27, pr0_35, po28, pr0_36, po29, pr0_37, po30, pr0_38, po31, pr0_39, pd5_0, pd5_1, pd5_2⟩ := id S1
  simp only [fX1_anew, ab_ckq o0, ab_pIq o0 hz, bdS, b2S, bxL, bxR, onN, onS, ab_pIq po0 phz]
theorem qx_no {h : Hp} {N : Nat} (S : SX h N) (w : Int32) : fX1_no N w h = some (-1, sI h N 4 w) := by
  obtain ⟨hz, hfu0, o0, o1, r0_0, o2, r0_2, o3, r2_0, r2_1, o4, r2_2, o5, r0_8, o6, o7, o8, r6_0, r6_1, o9, o10, o11, r9_0, r9_1, o32, o33, o34, r32_0, r32_1, o35, o36, o37, r35_0, r35_1, o38, o39, o40, r38_0, r38_1, r0_9, r0_10, o12, r0_12, o13, r0_13, o14, r0_14, o15, r0_15, o16, r0_18, o17, r0_19, o18, r0_20, o19, r0_22, o20, r0_23, o21, r0_24, o22, r0_25, o23, r0_28, o24, r0_29, o25, r0_30, o26, r0_31, o27, r0_35, o28, r0_36, o29, r0_37, o30, r0_38, o31, r0_39, d5_0, d5_1, d5_2⟩ := id S
  simp only [fX1_no, ab_ckq o0, ab_pIq o0 hz, bdS, b2S, bxL, bxR, onN, onS]
theorem qm_refused {h : Hp} {N : Nat} (S : SM h N) (w : Int32) : fX5_refused N w h = some (-1, sI (sI h N 1 w) N 2 (-1)) := by
  obtain ⟨hz, hfu0, o0, o1, r0_5, o2, r0_17, o3, r0_18, o4, r0_22, o5, r0_23, o6, r0_26, o7, r0_28, o8, r0_29, o9, r0_30, o10, r0_31, o11, r0_32, o12, r0_35, o13, r0_36, o14, r0_38, o15, r0_39, o16, r0_40, o17, r0_41, o18, r0_43, o19, r0_44, o20, r0_45⟩ := id S
  have S1 : SM (sI h N 1 w) N := S.kept (Kp.sI o0 rfl)
  obtain ⟨phz, phfu0, po0, po1, pr0_5, po2, pr0_17, po3, pr0_18, po4, pr0_22, po5, pr0_23, po6, pr0_26, po7, pr0_28, po8, pr0_29, po9, pr0_30, po10, pr0_31, po11, pr0_32, po12, pr0_35, po13, pr0_36, po14, pr0_38, po15, pr0_39, po16, pr0_40, po17, pr0_41, po18, pr0_43, po19, pr0_44, po20, pr0_45⟩ := id S1
  simp only [fX5_refused, ab_ckq o0, ab_pIq o0 hz, bdS, b2S, bxL, bxR, onN, onS, ab_pIq po0 phz]
theorem qm_lost {h : Hp} {N : Nat} (S : SM h N) (w : Int32) : fX5_lost N w h = some (-1000, sI (sI h N 1 w) N 2 (-1)) := by
  obtain ⟨hz, hfu0, o0, o1, r0_5, o2, r0_17, o3, r0_18, o4, r0_22, o5, r0_23, o6, r0_26, o7, r0_28, o8, r0_29, o9, r0_30, o10, r0_31, o11, r0_32, o12, r0_35, o13, r0_36, o14, r0_38, o15, r0_39, o16, r0_40, o17, r0_41, o18, r0_43, o19, r0_44, o20, r0_45⟩ := id S
  simp only [fX5_lost, ab_ckq o0, bdS, b2S, bxL, bxR, onN, onS, qm_refused S]
theorem qm_done {h : Hp} {N : Nat} (S : SM h N) (v : Int32) : fX5_done N v h = some (v, sI (sI h N 1 0) N 2 (-1)) := by
  obtain ⟨hz, hfu0, o0, o1, r0_5, o2, r0_17, o3, r0_18, o4, r0_22, o5, r0_23, o6, r0_26, o7, r0_28, o8, r0_29, o9, r0_30, o10, r0_31, o11, r0_32, o12, r0_35, o13, r0_36, o14, r0_38, o15, r0_39, o16, r0_40, o17, r0_41, o18, r0_43, o19, r0_44, o20, r0_45⟩ := id S
  have S1 : SM (sI h N 1 0) N := S.kept (Kp.sI o0 rfl)
  obtain ⟨phz, phfu0, po0, po1, pr0_5, po2, pr0_17, po3, pr0_18, po4, pr0_22, po5, pr0_23, po6, pr0_26, po7, pr0_28, po8, pr0_29, po9, pr0_30, po10, pr0_31, po11, pr0_32, po12, pr0_35, po13, pr0_36, po14, pr0_38, po15, pr0_39, po16, pr0_40, po17, pr0_41, po18, pr0_43, po19, pr0_44, po20, pr0_45⟩ := id S1
  simp only [fX5_done, ab_ckq o0, ab_pIq o0 hz, bdS, b2S, bxL, bxR, onN, onS, ab_pIq po0 phz]
def b01 (b : Bool) : Int32 := if b then 1 else 0
theorem qx_isCar {h : Hp} {N E : Nat} {yo : Option Dy} (S : SX h N) (Pd : PX h N E yo) (c : Int32) : fX1_isCar N c h = some (b01 (ixo yo 6 c).isSome, h) := by
  obtain ⟨hz, hfu0, o0, o1, r0_0, o2, r0_2, o3, r2_0, r2_1, o4, r2_2, o5, r0_8, o6, o7, o8, r6_0, r6_1, o9, o10, o11, r9_0, r9_1, o32, o33, o34, r32_0, r32_1, o35, o36, o37, r35_0, r35_1, o38, o39, o40, r38_0, r38_1, r0_9, r0_10, o12, r0_12, o13, r0_13, o14, r0_14, o15, r0_15, o16, r0_18, o17, r0_19, o18, r0_20, o19, r0_22, o20, r0_23, o21, r0_24, o22, r0_25, o23, r0_28, o24, r0_29, o25, r0_30, o26, r0_31, o27, r0_35, o28, r0_36, o29, r0_37, o30, r0_38, o31, r0_39, d5_0, d5_1, d5_2⟩ := id S
  cases yo with
  | none =>
    simp only [PX] at Pd
    simp only [fX1_isCar, ab_ckq o0, g0_3 o0, bdS, b2S, bxL, bxR, onN, onS, Pd, ixo, b01]
    rfl
  | some y =>
    obtain ⟨d, qa, e1, D, K⟩ := Pd
    obtain ⟨dlo, do0, dr0, da0, dr1, da1, dr2, da2, dr3, da3, dr4, da4, dr5, da5, dr6, da6, dr7, da7, dr8, da8, dn2, dn3, dn4, dn5, dn6, dn8, dn9, dn7, dv17, dv18, dvf, dt0, dt1, dt2, dt3, dt4, dt5, dt6⟩ := id D
    obtain ⟨yc2, yc3, yc4, yc5, yc6, yc7, yc8, yc9, yyk, yyd, yyf, yyh, yyc, yyl, yyp, yyhot, yyby⟩ := id K
    have h3 := nI_m1 (n := y.1 6) (by omega) c
    simp only [fX1_isCar, ab_ckq o0, g0_3 o0, bdS, b2S, bxL, bxR, onN, onS, e1, g5_13 do0, dn6, qx_in, h3]
    by_cases h1 : c < 0
    · simp [h1, b01, ixo]
    · by_cases h2 : nI (y.1 6) ≤ c
      · simp [h1, h2, b01, ixo]
      · simp [h1, h2, b01, ixo]
theorem qx_isHouse {h : Hp} {N E : Nat} {yo : Option Dy} (S : SX h N) (Pd : PX h N E yo) (c : Int32) : fX1_isHouse N c h = some (b01 (ixo yo 5 c).isSome, h) := by
  obtain ⟨hz, hfu0, o0, o1, r0_0, o2, r0_2, o3, r2_0, r2_1, o4, r2_2, o5, r0_8, o6, o7, o8, r6_0, r6_1, o9, o10, o11, r9_0, r9_1, o32, o33, o34, r32_0, r32_1, o35, o36, o37, r35_0, r35_1, o38, o39, o40, r38_0, r38_1, r0_9, r0_10, o12, r0_12, o13, r0_13, o14, r0_14, o15, r0_15, o16, r0_18, o17, r0_19, o18, r0_20, o19, r0_22, o20, r0_23, o21, r0_24, o22, r0_25, o23, r0_28, o24, r0_29, o25, r0_30, o26, r0_31, o27, r0_35, o28, r0_36, o29, r0_37, o30, r0_38, o31, r0_39, d5_0, d5_1, d5_2⟩ := id S
  cases yo with
  | none =>
    simp only [PX] at Pd
    simp only [fX1_isHouse, ab_ckq o0, g0_3 o0, bdS, b2S, bxL, bxR, onN, onS, Pd, ixo, b01]
    rfl
  | some y =>
    obtain ⟨d, qa, e1, D, K⟩ := Pd
    obtain ⟨dlo, do0, dr0, da0, dr1, da1, dr2, da2, dr3, da3, dr4, da4, dr5, da5, dr6, da6, dr7, da7, dr8, da8, dn2, dn3, dn4, dn5, dn6, dn8, dn9, dn7, dv17, dv18, dvf, dt0, dt1, dt2, dt3, dt4, dt5, dt6⟩ := id D
    obtain ⟨yc2, yc3, yc4, yc5, yc6, yc7, yc8, yc9, yyk, yyd, yyf, yyh, yyc, yyl, yyp, yyhot, yyby⟩ := id K
    have h3 := nI_m1 (n := y.1 5) (by omega) c
    simp only [fX1_isHouse, ab_ckq o0, g0_3 o0, bdS, b2S, bxL, bxR, onN, onS, e1, g5_12 do0, dn5, qx_in, h3]
    by_cases h1 : c < 0
    · simp [h1, b01, ixo]
    · by_cases h2 : nI (y.1 5) ≤ c
      · simp [h1, h2, b01, ixo]
      · simp [h1, h2, b01, ixo]
theorem qx_isDish {h : Hp} {N E : Nat} {yo : Option Dy} (S : SX h N) (Pd : PX h N E yo) (c : Int32) : fX1_isDish N c h = some (b01 (ixo yo 3 c).isSome, h) := by
  obtain ⟨hz, hfu0, o0, o1, r0_0, o2, r0_2, o3, r2_0, r2_1, o4, r2_2, o5, r0_8, o6, o7, o8, r6_0, r6_1, o9, o10, o11, r9_0, r9_1, o32, o33, o34, r32_0, r32_1, o35, o36, o37, r35_0, r35_1, o38, o39, o40, r38_0, r38_1, r0_9, r0_10, o12, r0_12, o13, r0_13, o14, r0_14, o15, r0_15, o16, r0_18, o17, r0_19, o18, r0_20, o19, r0_22, o20, r0_23, o21, r0_24, o22, r0_25, o23, r0_28, o24, r0_29, o25, r0_30, o26, r0_31, o27, r0_35, o28, r0_36, o29, r0_37, o30, r0_38, o31, r0_39, d5_0, d5_1, d5_2⟩ := id S
  cases yo with
  | none =>
    simp only [PX] at Pd
    simp only [fX1_isDish, ab_ckq o0, g0_3 o0, bdS, b2S, bxL, bxR, onN, onS, Pd, ixo, b01]
    rfl
  | some y =>
    obtain ⟨d, qa, e1, D, K⟩ := Pd
    obtain ⟨dlo, do0, dr0, da0, dr1, da1, dr2, da2, dr3, da3, dr4, da4, dr5, da5, dr6, da6, dr7, da7, dr8, da8, dn2, dn3, dn4, dn5, dn6, dn8, dn9, dn7, dv17, dv18, dvf, dt0, dt1, dt2, dt3, dt4, dt5, dt6⟩ := id D
    obtain ⟨yc2, yc3, yc4, yc5, yc6, yc7, yc8, yc9, yyk, yyd, yyf, yyh, yyc, yyl, yyp, yyhot, yyby⟩ := id K
    have h3 := nI_m1 (n := y.1 3) (by omega) c
    simp only [fX1_isDish, ab_ckq o0, g0_3 o0, bdS, b2S, bxL, bxR, onN, onS, e1, g5_10 do0, dn3, qx_in, h3]
    by_cases h1 : c < 0
    · simp [h1, b01, ixo]
    · by_cases h2 : nI (y.1 3) ≤ c
      · simp [h1, h2, b01, ixo]
      · simp [h1, h2, b01, ixo]
theorem qm_isCar {h : Hp} {N E : Nat} {yo : Option Dy} (S : SM h N) (Pd : PM h N E yo) (c : Int32) : fX5_isCar N c h = some (b01 (ixo yo 6 c).isSome, h) := by
  obtain ⟨hz, hfu0, o0, o1, r0_5, o2, r0_17, o3, r0_18, o4, r0_22, o5, r0_23, o6, r0_26, o7, r0_28, o8, r0_29, o9, r0_30, o10, r0_31, o11, r0_32, o12, r0_35, o13, r0_36, o14, r0_38, o15, r0_39, o16, r0_40, o17, r0_41, o18, r0_43, o19, r0_44, o20, r0_45⟩ := id S
  cases yo with
  | none =>
    simp only [PM] at Pd
    simp only [fX5_isCar, ab_ckq o0, g4_3 o0, bdS, b2S, bxL, bxR, onN, onS, Pd, ixo, b01]
    rfl
  | some y =>
    obtain ⟨d, e1, D, K⟩ := Pd
    obtain ⟨dlo, do0, dv0, dv1, dn2, dn3, dn4, dn5, dn6, dn7, dn8, dn9, dr11, da11, dv11, dr12, da12, dv12, dr13, da13, dv13, dr14, da14, dv14, dr15, da15, dv15, dr16, da16, dv16, dr17, da17, dv17, dr18, da18, dv18, dr19, da19, dv19, dr20, da20, dv20, dr21, da21, dv21, dr22, da22, dv22, dr23, da23, dv23, dr24, da24, dv24, dr25, da25, dv25, dr26, da26, dv26, dr27, da27, dv27, dr28, da28, dv28, dr29, da29, dv29, dr30, da30, dv30, dr31, da31, dv31, dr32, da32, dv32, dr33, da33, dv33⟩ := id D
    simp only [fX5_isCar, ab_ckq o0, g4_3 o0, bdS, b2S, bxL, bxR, onN, onS, e1, g13_6 do0, dn6]
    by_cases h1 : c < 0
    · simp [h1, b01, ixo]
    · by_cases h2 : nI (y.1 6) ≤ c
      · simp [h1, h2, b01, ixo]
      · simp [h1, h2, b01, ixo]
theorem qm_isHouse {h : Hp} {N E : Nat} {yo : Option Dy} (S : SM h N) (Pd : PM h N E yo) (c : Int32) : fX5_isHouse N c h = some (b01 (ixo yo 5 c).isSome, h) := by
  obtain ⟨hz, hfu0, o0, o1, r0_5, o2, r0_17, o3, r0_18, o4, r0_22, o5, r0_23, o6, r0_26, o7, r0_28, o8, r0_29, o9, r0_30, o10, r0_31, o11, r0_32, o12, r0_35, o13, r0_36, o14, r0_38, o15, r0_39, o16, r0_40, o17, r0_41, o18, r0_43, o19, r0_44, o20, r0_45⟩ := id S
  cases yo with
  | none =>
    simp only [PM] at Pd
    simp only [fX5_isHouse, ab_ckq o0, g4_3 o0, bdS, b2S, bxL, bxR, onN, onS, Pd, ixo, b01]
    rfl
  | some y =>
    obtain ⟨d, e1, D, K⟩ := Pd
    obtain ⟨dlo, do0, dv0, dv1, dn2, dn3, dn4, dn5, dn6, dn7, dn8, dn9, dr11, da11, dv11, dr12, da12, dv12, dr13, da13, dv13, dr14, da14, dv14, dr15, da15, dv15, dr16, da16, dv16, dr17, da17, dv17, dr18, da18, dv18, dr19, da19, dv19, dr20, da20, dv20, dr21, da21, dv21, dr22, da22, dv22, dr23, da23, dv23, dr24, da24, dv24, dr25, da25, dv25, dr26, da26, dv26, dr27, da27, dv27, dr28, da28, dv28, dr29, da29, dv29, dr30, da30, dv30, dr31, da31, dv31, dr32, da32, dv32, dr33, da33, dv33⟩ := id D
    simp only [fX5_isHouse, ab_ckq o0, g4_3 o0, bdS, b2S, bxL, bxR, onN, onS, e1, g13_5 do0, dn5]
    by_cases h1 : c < 0
    · simp [h1, b01, ixo]
    · by_cases h2 : nI (y.1 5) ≤ c
      · simp [h1, h2, b01, ixo]
      · simp [h1, h2, b01, ixo]
theorem qm_isDish {h : Hp} {N E : Nat} {yo : Option Dy} (S : SM h N) (Pd : PM h N E yo) (c : Int32) : fX5_isDish N c h = some (b01 (ixo yo 3 c).isSome, h) := by
  obtain ⟨hz, hfu0, o0, o1, r0_5, o2, r0_17, o3, r0_18, o4, r0_22, o5, r0_23, o6, r0_26, o7, r0_28, o8, r0_29, o9, r0_30, o10, r0_31, o11, r0_32, o12, r0_35, o13, r0_36, o14, r0_38, o15, r0_39, o16, r0_40, o17, r0_41, o18, r0_43, o19, r0_44, o20, r0_45⟩ := id S
  cases yo with
  | none =>
    simp only [PM] at Pd
    simp only [fX5_isDish, ab_ckq o0, g4_3 o0, bdS, b2S, bxL, bxR, onN, onS, Pd, ixo, b01]
    rfl
  | some y =>
    obtain ⟨d, e1, D, K⟩ := Pd
    obtain ⟨dlo, do0, dv0, dv1, dn2, dn3, dn4, dn5, dn6, dn7, dn8, dn9, dr11, da11, dv11, dr12, da12, dv12, dr13, da13, dv13, dr14, da14, dv14, dr15, da15, dv15, dr16, da16, dv16, dr17, da17, dv17, dr18, da18, dv18, dr19, da19, dv19, dr20, da20, dv20, dr21, da21, dv21, dr22, da22, dv22, dr23, da23, dv23, dr24, da24, dv24, dr25, da25, dv25, dr26, da26, dv26, dr27, da27, dv27, dr28, da28, dv28, dr29, da29, dv29, dr30, da30, dv30, dr31, da31, dv31, dr32, da32, dv32, dr33, da33, dv33⟩ := id D
    simp only [fX5_isDish, ab_ckq o0, g4_3 o0, bdS, b2S, bxL, bxR, onN, onS, e1, g13_3 do0, dn3]
    by_cases h1 : c < 0
    · simp [h1, b01, ixo]
    · by_cases h2 : nI (y.1 3) ≤ c
      · simp [h1, h2, b01, ixo]
      · simp [h1, h2, b01, ixo]
