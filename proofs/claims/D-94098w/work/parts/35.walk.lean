/-! WALKING -/
theorem ixN {i n : Nat} (hi : i < n) (hn : n < 2 ^ 31) : ixI (nI i) n := ⟨nI_pos' (by omega), by rw [nI_clamp (by omega)]; exact hi⟩
theorem aIn {h : Hp} {a t n i : Nat} (o : isA h a t n) (hi : i < n) (hn : n < 2 ^ 31 := by decide) : ab_aI h a t (nI i) = some (aF h a i) := by
  rw [ab_aIq o (ixN hi hn), nI_clamp (by omega)]
theorem aRn {h : Hp} {a t n i : Nat} (o : isR h a t n) (hi : i < n) (hn : n < 2 ^ 31 := by decide) : ab_aR h a t (nI i) = some (aR h a i) := by
  rw [ab_aRq o (ixN hi hn), nI_clamp (by omega)]
theorem sIn {h : Hp} {a n i : Nat} {v : Int32} (o : isA h a 0 n) (hz : hfz h ≤ a) (hi : i < n) (hn : n < 2 ^ 31 := by decide) : ab_sI h a (nI i) v = some (sA h a i v) := by
  rw [ab_sIq o hz (ixN hi hn), nI_clamp (by omega)]
def XD (h : Hp) (N E d : Nat) (qa : Nat → Nat → Nat) (y : Dy) : Prop := SX h N ∧ gR h N 3 = some d ∧ DX h E d qa y ∧ N + 41 ≤ E ∧ Yk y
def MD (h : Hp) (N E d : Nat) (y : Dy) : Prop := SM h N ∧ gR h N 3 = some d ∧ DM h E d y ∧ N + 21 ≤ E ∧ Yk y
theorem XD.kept {h h1 : Hp} {N E d : Nat} {qa : Nat → Nat → Nat} {y : Dy} (s : XD h N E d qa y) (f : Fr N (N + 41) h h1) : XD h1 N E d qa y := by
  obtain ⟨S, e1, D, lE, K⟩ := s
  exact ⟨S.kept f.1, (f.1.2.2.2.2.2.1 _ _).trans e1, D.kept f.1 (fun q hq => f.2 q (by omega)), lE, K⟩
theorem MD.kept {h h1 : Hp} {N E d : Nat} {y : Dy} (s : MD h N E d y) (f : Fr N (N + 21) h h1) : MD h1 N E d y := by
  obtain ⟨S, e1, D, lE, K⟩ := s
  exact ⟨S.kept f.1, (f.1.2.2.2.2.2.1 _ _).trans e1, D.kept f.1 (fun q hq => f.2 q (by omega)), lE, K⟩
/-- n rounds from k on -/
def lp {α : Type} (f : Nat → α → α) : Nat → Nat → α → α
  | 0, _, a => a
  | n + 1, k, a => lp f n (k + 1) (f k a)
def wayS (y : Dy) (lo hi : Int32) (k : Nat) (s : Int32) : Int32 := s + (if y.2 16 k < lo then 0 else if hi ≤ y.2 16 k then 0 else y.2 17 k)
def wayV (y : Dy) (a b : Int32) : Int32 := lp (wayS y (ab_min a b) (ab_max a b)) (y.1 7) 0 (ab_max a b - ab_min a b)
theorem qx_wayL {h : Hp} {N E d : Nat} {qa : Nat → Nat → Nat} {y : Dy} (Z : XD h N E d qa y) (lo hi : Int32) : ∀ (m k n : Nat) (s : Int32), k + m = y.1 7 → m < n → fX6_way_l22 d n lo hi s (nI k) h = some (lp (wayS y lo hi) m k s, h) := by
  obtain ⟨S, e1, D, lE, K⟩ := id Z
  obtain ⟨hz, hfu0, o0, o1, r0_0, o2, r0_2, o3, r2_0, r2_1, o4, r2_2, o5, r0_8, o6, o7, o8, r6_0, r6_1, o9, o10, o11, r9_0, r9_1, o32, o33, o34, r32_0, r32_1, o35, o36, o37, r35_0, r35_1, o38, o39, o40, r38_0, r38_1, r0_9, r0_10, o12, r0_12, o13, r0_13, o14, r0_14, o15, r0_15, o16, r0_18, o17, r0_19, o18, r0_20, o19, r0_22, o20, r0_23, o21, r0_24, o22, r0_25, o23, r0_28, o24, r0_29, o25, r0_30, o26, r0_31, o27, r0_35, o28, r0_36, o29, r0_37, o30, r0_38, o31, r0_39, d5_0, d5_1, d5_2⟩ := id S
  obtain ⟨dlo, do0, dr0, da0, dr1, da1, dr2, da2, dr3, da3, dr4, da4, dr5, da5, dr6, da6, dr7, da7, dr8, da8, dn2, dn3, dn4, dn5, dn6, dn8, dn9, dn7, dv17, dv18, dvf, dt0, dt1, dt2, dt3, dt4, dt5, dt6⟩ := id D
  obtain ⟨yc2, yc3, yc4, yc5, yc6, yc7, yc8, yc9, yyk, yyd, yyf, yyh, yyc, yyl, yyp, yyhot, yyby⟩ := id K
  intro m
  induction m with
  | zero =>
    intro k n s hk hn
    cases n with
    | zero => omega
    | succ n => simp only [fX6_way_l22, g5_16 do0, bdS, b2S, bxL, bxR, onN, onS, dn7, nI_le (show y.1 7 ≤ k by omega) (by omega), if_true, lp]
  | succ m ih =>
    intro k n s hk hn
    cases n with
    | zero => omega
    | succ n =>
      have hlt : k < y.1 7 := by omega
      have h3 : k < 3 := by omega
      simp only [fX6_way_l22, g5_16 do0, bdS, b2S, bxL, bxR, onN, onS, dn7, nI_ge hlt (by omega), if_false, g5_7 do0, dr7, aIn da7 h3, (dvf k hlt).1, g5_8 do0, dr8, aIn da8 h3, (dvf k hlt).2, nI_1, lp, wayS]
      by_cases h1 : y.2 16 k < lo
      · simp only [h1, if_true]
        exact ih (k + 1) n _ (by omega) (by omega)
      · by_cases h2 : hi ≤ y.2 16 k
        · simp only [h1, h2, if_true, if_false]
          exact ih (k + 1) n _ (by omega) (by omega)
        · simp only [h1, h2, if_false]
          exact ih (k + 1) n _ (by omega) (by omega)
theorem qx_way {h : Hp} {N E d : Nat} {qa : Nat → Nat → Nat} {y : Dy} (Z : XD h N E d qa y) (a b : Int32) : fX6_way d a b h = some (wayV y a b, h) := by
  have hL := qx_wayL Z (ab_min a b) (ab_max a b) (y.1 7) 0 300000
  obtain ⟨S, e1, D, lE, K⟩ := id Z
  obtain ⟨hz, hfu0, o0, o1, r0_0, o2, r0_2, o3, r2_0, r2_1, o4, r2_2, o5, r0_8, o6, o7, o8, r6_0, r6_1, o9, o10, o11, r9_0, r9_1, o32, o33, o34, r32_0, r32_1, o35, o36, o37, r35_0, r35_1, o38, o39, o40, r38_0, r38_1, r0_9, r0_10, o12, r0_12, o13, r0_13, o14, r0_14, o15, r0_15, o16, r0_18, o17, r0_19, o18, r0_20, o19, r0_22, o20, r0_23, o21, r0_24, o22, r0_25, o23, r0_28, o24, r0_29, o25, r0_30, o26, r0_31, o27, r0_35, o28, r0_36, o29, r0_37, o30, r0_38, o31, r0_39, d5_0, d5_1, d5_2⟩ := id S
  obtain ⟨dlo, do0, dr0, da0, dr1, da1, dr2, da2, dr3, da3, dr4, da4, dr5, da5, dr6, da6, dr7, da7, dr8, da8, dn2, dn3, dn4, dn5, dn6, dn8, dn9, dn7, dv17, dv18, dvf, dt0, dt1, dt2, dt3, dt4, dt5, dt6⟩ := id D
  obtain ⟨yc2, yc3, yc4, yc5, yc6, yc7, yc8, yc9, yyk, yyd, yyf, yyh, yyc, yyl, yyp, yyhot, yyby⟩ := id K
  simp only [fX6_way, ab_ckq do0, hfu0]
  rw [← nI_0]
  exact hL _ (by omega) (by omega)
theorem qm_wayL {h : Hp} {N E d : Nat} {y : Dy} (Z : MD h N E d y) (lo hi : Int32) : ∀ (m k n : Nat) (s : Int32), k + m = y.1 7 → m < n → fX15_way_l32 d n lo hi s (nI k) h = some (lp (wayS y lo hi) m k s, h) := by
  obtain ⟨S, e1, D, lE, K⟩ := id Z
  obtain ⟨hz, hfu0, o0, o1, r0_5, o2, r0_17, o3, r0_18, o4, r0_22, o5, r0_23, o6, r0_26, o7, r0_28, o8, r0_29, o9, r0_30, o10, r0_31, o11, r0_32, o12, r0_35, o13, r0_36, o14, r0_38, o15, r0_39, o16, r0_40, o17, r0_41, o18, r0_43, o19, r0_44, o20, r0_45⟩ := id S
  obtain ⟨dlo, do0, dv0, dv1, dn2, dn3, dn4, dn5, dn6, dn7, dn8, dn9, dr11, da11, dv11, dr12, da12, dv12, dr13, da13, dv13, dr14, da14, dv14, dr15, da15, dv15, dr16, da16, dv16, dr17, da17, dv17, dr18, da18, dv18, dr19, da19, dv19, dr20, da20, dv20, dr21, da21, dv21, dr22, da22, dv22, dr23, da23, dv23, dr24, da24, dv24, dr25, da25, dv25, dr26, da26, dv26, dr27, da27, dv27, dr28, da28, dv28, dr29, da29, dv29, dr30, da30, dv30, dr31, da31, dv31, dr32, da32, dv32, dr33, da33, dv33⟩ := id D
  obtain ⟨yc2, yc3, yc4, yc5, yc6, yc7, yc8, yc9, yyk, yyd, yyf, yyh, yyc, yyl, yyp, yyhot, yyby⟩ := id K
  intro m
  induction m with
  | zero =>
    intro k n s hk hn
    cases n with
    | zero => omega
    | succ n => simp only [fX15_way_l32, g13_7 do0, bdS, b2S, bxL, bxR, onN, onS, dn7, nI_le (show y.1 7 ≤ k by omega) (by omega), if_true, lp]
  | succ m ih =>
    intro k n s hk hn
    cases n with
    | zero => omega
    | succ n =>
      have hlt : k < y.1 7 := by omega
      have h3 : k < 3 := by omega
      simp only [fX15_way_l32, g13_7 do0, bdS, b2S, bxL, bxR, onN, onS, dn7, nI_ge hlt (by omega), if_false, g13_16 do0, dr16, aIn da16 h3, dv16, g13_17 do0, dr17, aIn da17 h3, dv17, nI_1, lp, wayS]
      by_cases h1 : y.2 16 k < lo
      · simp only [h1, if_true]
        exact ih (k + 1) n _ (by omega) (by omega)
      · by_cases h2 : hi ≤ y.2 16 k
        · simp only [h1, h2, if_true, if_false]
          exact ih (k + 1) n _ (by omega) (by omega)
        · simp only [h1, h2, if_false]
          exact ih (k + 1) n _ (by omega) (by omega)
theorem qmin (a b : Int32) : ab_min a b = if b ≤ a then b else a := by
  unfold ab_min
  by_cases h1 : b < a
  · rw [if_pos h1, if_pos (Int32.le_of_lt h1)]
  · rw [if_neg h1]
    by_cases h2 : b ≤ a
    · rw [if_pos h2]
      exact Int32.le_antisymm (Int32.not_lt.mp h1) h2
    · rw [if_neg h2]
theorem qmax (a b : Int32) : ab_max a b = if b ≤ a then a else b := by
  unfold ab_max
  by_cases h2 : b ≤ a
  · rw [if_neg (Int32.not_lt.mpr h2), if_pos h2]
  · rw [if_pos (Int32.not_le.mp h2), if_neg h2]
theorem qm_way {h : Hp} {N E d : Nat} {y : Dy} (Z : MD h N E d y) (a b : Int32) : fX15_way d a b h = some (wayV y a b, h) := by
  have hL := fun lo hi => qm_wayL Z lo hi (y.1 7) 0 300000
  obtain ⟨S, e1, D, lE, K⟩ := id Z
  obtain ⟨hz, hfu0, o0, o1, r0_5, o2, r0_17, o3, r0_18, o4, r0_22, o5, r0_23, o6, r0_26, o7, r0_28, o8, r0_29, o9, r0_30, o10, r0_31, o11, r0_32, o12, r0_35, o13, r0_36, o14, r0_38, o15, r0_39, o16, r0_40, o17, r0_41, o18, r0_43, o19, r0_44, o20, r0_45⟩ := id S
  obtain ⟨dlo, do0, dv0, dv1, dn2, dn3, dn4, dn5, dn6, dn7, dn8, dn9, dr11, da11, dv11, dr12, da12, dv12, dr13, da13, dv13, dr14, da14, dv14, dr15, da15, dv15, dr16, da16, dv16, dr17, da17, dv17, dr18, da18, dv18, dr19, da19, dv19, dr20, da20, dv20, dr21, da21, dv21, dr22, da22, dv22, dr23, da23, dv23, dr24, da24, dv24, dr25, da25, dv25, dr26, da26, dv26, dr27, da27, dv27, dr28, da28, dv28, dr29, da29, dv29, dr30, da30, dv30, dr31, da31, dv31, dr32, da32, dv32, dr33, da33, dv33⟩ := id D
  obtain ⟨yc2, yc3, yc4, yc5, yc6, yc7, yc8, yc9, yyk, yyd, yyf, yyh, yyc, yyl, yyp, yyhot, yyby⟩ := id K
  have hL := fun lo hi s => hL lo hi s (by omega) (by omega)
  rw [nI_0] at hL
  simp only [fX15_way, ab_ckq do0, fX15_way_b10, hfu0, wayV, qmin, qmax]
  by_cases h2 : b ≤ a
  · simp only [h2, if_true, hL]
  · simp only [h2, if_false, hL]
def frV (y : Dy) (c : Nat) : Nat := (y.2 26 c).toNatClampNeg
def heatV (y : Dy) (c : Nat) (m : Int32) : Int32 := y.2 12 (frV y c) - (y.2 29 c * (m - y.2 27 c)) / 10
theorem qx_heat {h : Hp} {N E d : Nat} {qa : Nat → Nat → Nat} {y : Dy} (Z : XD h N E d qa y) {c : Nat} (hc : c < y.1 6) (m : Int32) : fX12_heat (qa 4 c) m h = some (heatV y c m, h) := by
  obtain ⟨S, e1, D, lE, K⟩ := id Z
  obtain ⟨hz, hfu0, o0, o1, r0_0, o2, r0_2, o3, r2_0, r2_1, o4, r2_2, o5, r0_8, o6, o7, o8, r6_0, r6_1, o9, o10, o11, r9_0, r9_1, o32, o33, o34, r32_0, r32_1, o35, o36, o37, r35_0, r35_1, o38, o39, o40, r38_0, r38_1, r0_9, r0_10, o12, r0_12, o13, r0_13, o14, r0_14, o15, r0_15, o16, r0_18, o17, r0_19, o18, r0_20, o19, r0_22, o20, r0_23, o21, r0_24, o22, r0_25, o23, r0_28, o24, r0_29, o25, r0_30, o26, r0_31, o27, r0_35, o28, r0_36, o29, r0_37, o30, r0_38, o31, r0_39, d5_0, d5_1, d5_2⟩ := id S
  obtain ⟨dlo, do0, dr0, da0, dr1, da1, dr2, da2, dr3, da3, dr4, da4, dr5, da5, dr6, da6, dr7, da7, dr8, da8, dn2, dn3, dn4, dn5, dn6, dn8, dn9, dn7, dv17, dv18, dvf, dt0, dt1, dt2, dt3, dt4, dt5, dt6⟩ := id D
  obtain ⟨yc2, yc3, yc4, yc5, yc6, yc7, yc8, yc9, yyk, yyd, yyf, yyh, yyc, yyl, yyp, yyhot, yyby⟩ := id K
  obtain ⟨z1, z2, z3, z4, z5, z6, z7, z8⟩ := dt4 c hc
  obtain ⟨⟨w1, w2⟩, -⟩ := yyc c hc
  obtain ⟨u1, u2, u3, u4, u5, u6⟩ := dt0 _ w2
  simp only [fX12_heat, ab_ckq z3, g10_2 z3, z8, bdS, b2S, bxL, bxR, onN, onS, g6_3 u3, u6, g10_5 z3, z6, g10_3 z3, z4, heatV, frV]
theorem qm_heat {h : Hp} {N E d : Nat} {y : Dy} (Z : MD h N E d y) {c : Nat} (hc : c < y.1 6) (m : Int32) : fX5_heatBy N (nI c) m h = some (heatV y c m, h) := by
  obtain ⟨S, e1, D, lE, K⟩ := id Z
  obtain ⟨hz, hfu0, o0, o1, r0_5, o2, r0_17, o3, r0_18, o4, r0_22, o5, r0_23, o6, r0_26, o7, r0_28, o8, r0_29, o9, r0_30, o10, r0_31, o11, r0_32, o12, r0_35, o13, r0_36, o14, r0_38, o15, r0_39, o16, r0_40, o17, r0_41, o18, r0_43, o19, r0_44, o20, r0_45⟩ := id S
  obtain ⟨dlo, do0, dv0, dv1, dn2, dn3, dn4, dn5, dn6, dn7, dn8, dn9, dr11, da11, dv11, dr12, da12, dv12, dr13, da13, dv13, dr14, da14, dv14, dr15, da15, dv15, dr16, da16, dv16, dr17, da17, dv17, dr18, da18, dv18, dr19, da19, dv19, dr20, da20, dv20, dr21, da21, dv21, dr22, da22, dv22, dr23, da23, dv23, dr24, da24, dv24, dr25, da25, dv25, dr26, da26, dv26, dr27, da27, dv27, dr28, da28, dv28, dr29, da29, dv29, dr30, da30, dv30, dr31, da31, dv31, dr32, da32, dv32, dr33, da33, dv33⟩ := id D
  obtain ⟨yc2, yc3, yc4, yc5, yc6, yc7, yc8, yc9, yyk, yyd, yyf, yyh, yyc, yyl, yyp, yyhot, yyby⟩ := id K
  obtain ⟨⟨w1, w2⟩, -⟩ := yyc c hc
  have h3 : c < 3 := by omega
  have h4 : frV y c < 3 := by unfold frV; omega
  have h5 : aF h (d + 16) c = nI (frV y c) := by rw [dv26]; exact w1
  simp only [fX5_heatBy, ab_ckq o0, g4_3 o0, e1, bdS, b2S, bxL, bxR, onN, onS, g13_12 do0, dr12, g13_26 do0, dr26, aIn da26 h3, h5, aIn da12 h4, dv12, g13_29 do0, dr29, aIn da29 h3, dv29, g13_27 do0, dr27, aIn da27 h3, dv27, heatV]
