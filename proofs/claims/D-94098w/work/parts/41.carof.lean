/-! in whose round a house is -/
theorem SX.ro {h : Hp} {N : Nat} (S : SX h N) {c : Nat} (hc : c < 3) : RO h N (N + (32 + 3 * c)) ∧ aR h (N + 5) c = some (N + (32 + 3 * c)) := by
  obtain ⟨hz, hfu0, o0, o1, r0_0, o2, r0_2, o3, r2_0, r2_1, o4, r2_2, o5, r0_8, o6, o7, o8, r6_0, r6_1, o9, o10, o11, r9_0, r9_1, o32, o33, o34, r32_0, r32_1, o35, o36, o37, r35_0, r35_1, o38, o39, o40, r38_0, r38_1, r0_9, r0_10, o12, r0_12, o13, r0_13, o14, r0_14, o15, r0_15, o16, r0_18, o17, r0_19, o18, r0_20, o19, r0_22, o20, r0_23, o21, r0_24, o22, r0_25, o23, r0_28, o24, r0_29, o25, r0_30, o26, r0_31, o27, r0_35, o28, r0_36, o29, r0_37, o30, r0_38, o31, r0_39, d5_0, d5_1, d5_2⟩ := id S
  have hcs : c = 0 ∨ c = 1 ∨ c = 2 := by omega
  rcases hcs with rfl | rfl | rfl
  · exact ⟨⟨by omega, by omega, o32, r32_0, r32_1, o33, o34⟩, d5_0⟩
  · exact ⟨⟨by omega, by omega, o35, r35_0, r35_1, o36, o37⟩, d5_1⟩
  · exact ⟨⟨by omega, by omega, o38, r38_0, r38_1, o39, o40⟩, d5_2⟩
def XR (h : Hp) (N : Nat) (rd : Nat → List Nat) : Prop := ∀ c, c < 3 → RL h (N + (32 + 3 * c)) (rd c)
def MR (h : Hp) (N : Nat) (rd : Nat → List Nat) : Prop := ∀ c, c < 3 → aF h (N + 2) c = nI (rd c).length ∧ (rd c).length ≤ 6 ∧ ∀ j, j < (rd c).length → aF h (N + 3) (6 * c + j) = nI ((rd c).getD j 0)
/-- rounds hold houses of the day -/
def RH (y : Dy) (rd : Nat → List Nat) : Prop := ∀ c, c < 3 → ∀ x ∈ rd c, x < y.1 5
def caF (rd : Nat → List Nat) (x : Nat) : Nat → Nat → Option Nat
  | 0, _ => none
  | m + 1, c => if x ∈ rd c then some c else caF rd x m (c + 1)
theorem caF_lt {rd : Nat → List Nat} {x : Nat} : ∀ {m c i : Nat}, caF rd x m c = some i → c ≤ i ∧ i < c + m ∧ x ∈ rd i := by
  intro m
  induction m with
  | zero => intro c i h; cases h
  | succ m ih =>
    intro c i h
    unfold caF at h
    split at h
    · rename_i e
      cases h
      exact ⟨by omega, by omega, e⟩
    · obtain ⟨h1, h2, h3⟩ := ih h
      exact ⟨by omega, by omega, h3⟩
theorem caF_none {rd : Nat → List Nat} {x : Nat} : ∀ {m c : Nat}, caF rd x m c = none → ∀ i, c ≤ i → i < c + m → x ∉ rd i := by
  intro m
  induction m with
  | zero => intro c h i h1 h2; omega
  | succ m ih =>
    intro c h i h1 h2
    unfold caF at h
    split at h
    · cases h
    · rename_i e
      by_cases hi : i = c
      · rw [hi]; exact e
      · exact ih h i (by omega) (by omega)
theorem nI_m1ne {n : Nat} (h : n < 2 ^ 31) : ¬ nI n = (-1 : Int32) := by
  intro e
  have := congrArg Int32.toInt e
  rw [nI_toInt h, show (-1 : Int32).toInt = -1 from rfl] at this
  omega
theorem qx_carL {N E d : Nat} {qa : Nat → Nat → Nat} {y : Dy} {h : Hp} {x : Nat} {rd : Nat → List Nat} (Z : XD h N E d qa y) (R : XR h N rd) (H : RH y rd) (hxs : x < 6) : ∀ (m c n : Nat), c + m = y.1 6 → m < n → fX1_carOf_l2 N n (nI x) (nI c) h = some (oI (caF rd x m c), h) := by
  intro m
  induction m with
  | zero =>
    intro c n hc hn
    cases n with
    | zero => omega
    | succ n =>
      obtain ⟨S, e1, D, lE, K⟩ := id Z
      obtain ⟨hz, hfu0, o0, o1, r0_0, o2, r0_2, o3, r2_0, r2_1, o4, r2_2, o5, r0_8, o6, o7, o8, r6_0, r6_1, o9, o10, o11, r9_0, r9_1, o32, o33, o34, r32_0, r32_1, o35, o36, o37, r35_0, r35_1, o38, o39, o40, r38_0, r38_1, r0_9, r0_10, o12, r0_12, o13, r0_13, o14, r0_14, o15, r0_15, o16, r0_18, o17, r0_19, o18, r0_20, o19, r0_22, o20, r0_23, o21, r0_24, o22, r0_25, o23, r0_28, o24, r0_29, o25, r0_30, o26, r0_31, o27, r0_35, o28, r0_36, o29, r0_37, o30, r0_38, o31, r0_39, d5_0, d5_1, d5_2⟩ := id S
      obtain ⟨dlo, do0, dr0, da0, dr1, da1, dr2, da2, dr3, da3, dr4, da4, dr5, da5, dr6, da6, dr7, da7, dr8, da8, dn2, dn3, dn4, dn5, dn6, dn8, dn9, dn7, dv17, dv18, dvf, dt0, dt1, dt2, dt3, dt4, dt5, dt6⟩ := id D
      obtain ⟨yc2, yc3, yc4, yc5, yc6, yc7, yc8, yc9, yyk, yyd, yyf, yyh, yyc, yyl, yyp, yyhot, yyby⟩ := id K
      simp only [fX1_carOf_l2, g0_3 o0, e1, bdS, b2S, bxL, bxR, onN, onS, g5_13 do0, dn6, nI_le (show y.1 6 ≤ c by omega) (by omega), if_true, caF, oI]
  | succ m ih =>
    intro c n hc hn
    cases n with
    | zero => omega
    | succ n =>
      have ih1 := ih (c + 1) n (by omega) (by omega)
      have hc3 : c < 3 := by
        obtain ⟨S, e1, D, lE, K⟩ := id Z
        obtain ⟨hz, hfu0, o0, o1, r0_0, o2, r0_2, o3, r2_0, r2_1, o4, r2_2, o5, r0_8, o6, o7, o8, r6_0, r6_1, o9, o10, o11, r9_0, r9_1, o32, o33, o34, r32_0, r32_1, o35, o36, o37, r35_0, r35_1, o38, o39, o40, r38_0, r38_1, r0_9, r0_10, o12, r0_12, o13, r0_13, o14, r0_14, o15, r0_15, o16, r0_18, o17, r0_19, o18, r0_20, o19, r0_22, o20, r0_23, o21, r0_24, o22, r0_25, o23, r0_28, o24, r0_29, o25, r0_30, o26, r0_31, o27, r0_35, o28, r0_36, o29, r0_37, o30, r0_38, o31, r0_39, d5_0, d5_1, d5_2⟩ := id S
        obtain ⟨dlo, do0, dr0, da0, dr1, da1, dr2, da2, dr3, da3, dr4, da4, dr5, da5, dr6, da6, dr7, da7, dr8, da8, dn2, dn3, dn4, dn5, dn6, dn8, dn9, dn7, dv17, dv18, dvf, dt0, dt1, dt2, dt3, dt4, dt5, dt6⟩ := id D
        obtain ⟨yc2, yc3, yc4, yc5, yc6, yc7, yc8, yc9, yyk, yyd, yyf, yyh, yyc, yyl, yyp, yyhot, yyby⟩ := id K
        omega
      obtain ⟨Ro, ea⟩ := SX.ro Z.1 hc3
      have hf : hfu h = 300000 := by
        obtain ⟨⟨-, hf, -⟩, -⟩ := id Z
        exact hf
      have hr6 : ∀ z ∈ rd c, z < 6 := fun z hz => by
        have := H c hc3 z hz
        obtain ⟨S, e1, D, lE, K⟩ := id Z
        obtain ⟨hz, hfu0, o0, o1, r0_0, o2, r0_2, o3, r2_0, r2_1, o4, r2_2, o5, r0_8, o6, o7, o8, r6_0, r6_1, o9, o10, o11, r9_0, r9_1, o32, o33, o34, r32_0, r32_1, o35, o36, o37, r35_0, r35_1, o38, o39, o40, r38_0, r38_1, r0_9, r0_10, o12, r0_12, o13, r0_13, o14, r0_14, o15, r0_15, o16, r0_18, o17, r0_19, o18, r0_20, o19, r0_22, o20, r0_23, o21, r0_24, o22, r0_25, o23, r0_28, o24, r0_29, o25, r0_30, o26, r0_31, o27, r0_35, o28, r0_36, o29, r0_37, o30, r0_38, o31, r0_39, d5_0, d5_1, d5_2⟩ := id S
        obtain ⟨dlo, do0, dr0, da0, dr1, da1, dr2, da2, dr3, da3, dr4, da4, dr5, da5, dr6, da6, dr7, da7, dr8, da8, dn2, dn3, dn4, dn5, dn6, dn8, dn9, dn7, dv17, dv18, dvf, dt0, dt1, dt2, dt3, dt4, dt5, dt6⟩ := id D
        obtain ⟨yc2, yc3, yc4, yc5, yc6, yc7, yc8, yc9, yyk, yyd, yyf, yyh, yyc, yyl, yyp, yyhot, yyby⟩ := id K
        omega
      have hp := qx_placeOf Ro hf hxs (R c hc3) hr6
      have hl6 := (R c hc3).2.2
      obtain ⟨S, e1, D, lE, K⟩ := id Z
      obtain ⟨hz, hfu0, o0, o1, r0_0, o2, r0_2, o3, r2_0, r2_1, o4, r2_2, o5, r0_8, o6, o7, o8, r6_0, r6_1, o9, o10, o11, r9_0, r9_1, o32, o33, o34, r32_0, r32_1, o35, o36, o37, r35_0, r35_1, o38, o39, o40, r38_0, r38_1, r0_9, r0_10, o12, r0_12, o13, r0_13, o14, r0_14, o15, r0_15, o16, r0_18, o17, r0_19, o18, r0_20, o19, r0_22, o20, r0_23, o21, r0_24, o22, r0_25, o23, r0_28, o24, r0_29, o25, r0_30, o26, r0_31, o27, r0_35, o28, r0_36, o29, r0_37, o30, r0_38, o31, r0_39, d5_0, d5_1, d5_2⟩ := id S
      obtain ⟨dlo, do0, dr0, da0, dr1, da1, dr2, da2, dr3, da3, dr4, da4, dr5, da5, dr6, da6, dr7, da7, dr8, da8, dn2, dn3, dn4, dn5, dn6, dn8, dn9, dn7, dv17, dv18, dvf, dt0, dt1, dt2, dt3, dt4, dt5, dt6⟩ := id D
      obtain ⟨yc2, yc3, yc4, yc5, yc6, yc7, yc8, yc9, yyk, yyd, yyf, yyh, yyc, yyl, yyp, yyhot, yyby⟩ := id K
      simp only [fX1_carOf_l2, g0_3 o0, e1, bdS, b2S, bxL, bxR, onN, onS, g5_13 do0, dn6, nI_ge (show c < y.1 6 by omega) (by omega), if_false, g0_8 o0, r0_8, aRn o5 hc3, ea, hp, nI_1, ih1, caF]
      by_cases hm : x ∈ rd c
      · obtain ⟨i, hi⟩ : ∃ i, plF x (rd c) 0 = some i := by
          cases hq : plF x (rd c) 0 with
          | none => exact absurd hm (plF_mem.mp hq)
          | some i => exact ⟨i, rfl⟩
        have := plF_lt hi
        simp only [hi, hm, if_true, oI, nI_m1ne (show i < 2 ^ 31 by omega), if_false]
      · simp only [plF_mem.mpr hm, hm, if_false, oI, if_true]
theorem qx_carOf {N E d : Nat} {qa : Nat → Nat → Nat} {y : Dy} {h : Hp} {x : Nat} {rd : Nat → List Nat} (Z : XD h N E d qa y) (R : XR h N rd) (H : RH y rd) (hxs : x < 6) : fX1_carOf N (nI x) h = some (oI (caF rd x (y.1 6) 0), h) := by
  have hh := qx_carL Z R H hxs (y.1 6) 0 300000 (by omega)
  obtain ⟨S, e1, D, lE, K⟩ := id Z
  obtain ⟨hz, hfu0, o0, o1, r0_0, o2, r0_2, o3, r2_0, r2_1, o4, r2_2, o5, r0_8, o6, o7, o8, r6_0, r6_1, o9, o10, o11, r9_0, r9_1, o32, o33, o34, r32_0, r32_1, o35, o36, o37, r35_0, r35_1, o38, o39, o40, r38_0, r38_1, r0_9, r0_10, o12, r0_12, o13, r0_13, o14, r0_14, o15, r0_15, o16, r0_18, o17, r0_19, o18, r0_20, o19, r0_22, o20, r0_23, o21, r0_24, o22, r0_25, o23, r0_28, o24, r0_29, o25, r0_30, o26, r0_31, o27, r0_35, o28, r0_36, o29, r0_37, o30, r0_38, o31, r0_39, d5_0, d5_1, d5_2⟩ := id S
  obtain ⟨dlo, do0, dr0, da0, dr1, da1, dr2, da2, dr3, da3, dr4, da4, dr5, da5, dr6, da6, dr7, da7, dr8, da8, dn2, dn3, dn4, dn5, dn6, dn8, dn9, dn7, dv17, dv18, dvf, dt0, dt1, dt2, dt3, dt4, dt5, dt6⟩ := id D
  obtain ⟨yc2, yc3, yc4, yc5, yc6, yc7, yc8, yc9, yyk, yyd, yyf, yyh, yyc, yyl, yyp, yyhot, yyby⟩ := id K
  simp only [fX1_carOf, ab_ckq o0, hfu0]
  rw [← nI_0]
  exact hh (by omega)
theorem qm_car15 {N E d : Nat} {y : Dy} {h : Hp} {x c : Nat} (Z : MD h N E d y) (hc3 : c < 3) (hxs : x < 6) (l0 : List Nat) (hr6 : ∀ z ∈ l0, z < 6) (hm : aF h (N + 2) c = nI l0.length) (hl : l0.length ≤ 6) (ha : ∀ j, j < l0.length → aF h (N + 3) (6 * c + j) = nI (l0.getD j 0)) {K : Int32 → Int32 → Hp → Option (Int32 × Hp)} : ∀ (l : List Nat) (k n : Nat), l0.drop k = l → k + l.length = l0.length → l.length < n → fX5_carOf_l15 N K n (nI x) (nI c) (nI k) h = if x ∈ l then some (nI c, h) else K (nI x) (nI (c + 1)) h := by
  obtain ⟨S, e1, D, lE, K⟩ := id Z
  obtain ⟨hz, hfu0, o0, o1, r0_5, o2, r0_17, o3, r0_18, o4, r0_22, o5, r0_23, o6, r0_26, o7, r0_28, o8, r0_29, o9, r0_30, o10, r0_31, o11, r0_32, o12, r0_35, o13, r0_36, o14, r0_38, o15, r0_39, o16, r0_40, o17, r0_41, o18, r0_43, o19, r0_44, o20, r0_45⟩ := id S
  obtain ⟨dlo, do0, dv0, dv1, dn2, dn3, dn4, dn5, dn6, dn7, dn8, dn9, dr11, da11, dv11, dr12, da12, dv12, dr13, da13, dv13, dr14, da14, dv14, dr15, da15, dv15, dr16, da16, dv16, dr17, da17, dv17, dr18, da18, dv18, dr19, da19, dv19, dr20, da20, dv20, dr21, da21, dv21, dr22, da22, dv22, dr23, da23, dv23, dr24, da24, dv24, dr25, da25, dv25, dr26, da26, dv26, dr27, da27, dv27, dr28, da28, dv28, dr29, da29, dv29, dr30, da30, dv30, dr31, da31, dv31, dr32, da32, dv32, dr33, da33, dv33⟩ := id D
  obtain ⟨yc2, yc3, yc4, yc5, yc6, yc7, yc8, yc9, yyk, yyd, yyf, yyh, yyc, yyl, yyp, yyhot, yyby⟩ := id K
  intro l
  induction l with
  | nil =>
    intro k n hd hk hn
    cases n with
    | zero => simp at hn
    | succ n =>
      have hk : k = l0.length := by simpa using hk
      simp only [fX5_carOf_l15, g4_17 o0, r0_17, bdS, b2S, bxL, bxR, onN, onS, aIn o2 hc3, hm, hk, Int32.le_refl, if_true, List.not_mem_nil, if_false, nI_1]
  | cons a t ih =>
    intro k n hd hk hn
    have hL : (a :: t).length = t.length + 1 := rfl
    rw [hL] at hk hn
    cases n with
    | zero => omega
    | succ n =>
      have hlt : k < l0.length := by omega
      have hcons := List.drop_eq_getElem_cons hlt
      rw [hd] at hcons
      injection hcons with hc1 hc2
      have hg : l0.getD k 0 = a := by rw [List.getD_eq_getElem?_getD, List.getElem?_eq_getElem hlt, hc1]; rfl
      have ha6 : a < 6 := hr6 a (by rw [hc1]; exact List.getElem_mem hlt)
      have ih1 := ih (k + 1) n hc2.symm (by omega) (by omega)
      simp only [fX5_carOf_l15, g4_17 o0, r0_17, bdS, b2S, bxL, bxR, onN, onS, aIn o2 hc3, hm, nI_ge hlt (by omega), if_false, g4_18 o0, r0_18, nI6, aIn o3 (show 6 * c + k < 18 by omega), ha k hlt, hg, nI_eq (show a < 2 ^ 31 by omega) (show x < 2 ^ 31 by omega), nI_1, ih1]
      by_cases e : a = x
      · simp [e]
      · simp [e, Ne.symm e]
theorem qm_carL {N E d : Nat} {y : Dy} {h : Hp} {x : Nat} {rd : Nat → List Nat} (Z : MD h N E d y) (R : MR h N rd) (H : RH y rd) (hxs : x < 6) : ∀ (m c n : Nat), c + m = y.1 6 → m < n → fX5_carOf_l2 N n (nI x) (nI c) h = some (oI (caF rd x m c), h) := by
  intro m
  induction m with
  | zero =>
    intro c n hc hn
    cases n with
    | zero => omega
    | succ n =>
      obtain ⟨S, e1, D, lE, K⟩ := id Z
      obtain ⟨hz, hfu0, o0, o1, r0_5, o2, r0_17, o3, r0_18, o4, r0_22, o5, r0_23, o6, r0_26, o7, r0_28, o8, r0_29, o9, r0_30, o10, r0_31, o11, r0_32, o12, r0_35, o13, r0_36, o14, r0_38, o15, r0_39, o16, r0_40, o17, r0_41, o18, r0_43, o19, r0_44, o20, r0_45⟩ := id S
      obtain ⟨dlo, do0, dv0, dv1, dn2, dn3, dn4, dn5, dn6, dn7, dn8, dn9, dr11, da11, dv11, dr12, da12, dv12, dr13, da13, dv13, dr14, da14, dv14, dr15, da15, dv15, dr16, da16, dv16, dr17, da17, dv17, dr18, da18, dv18, dr19, da19, dv19, dr20, da20, dv20, dr21, da21, dv21, dr22, da22, dv22, dr23, da23, dv23, dr24, da24, dv24, dr25, da25, dv25, dr26, da26, dv26, dr27, da27, dv27, dr28, da28, dv28, dr29, da29, dv29, dr30, da30, dv30, dr31, da31, dv31, dr32, da32, dv32, dr33, da33, dv33⟩ := id D
      obtain ⟨yc2, yc3, yc4, yc5, yc6, yc7, yc8, yc9, yyk, yyd, yyf, yyh, yyc, yyl, yyp, yyhot, yyby⟩ := id K
      simp only [fX5_carOf_l2, g4_3 o0, e1, bdS, b2S, bxL, bxR, onN, onS, g13_6 do0, dn6, nI_le (show y.1 6 ≤ c by omega) (by omega), if_true, caF, oI]
  | succ m ih =>
    intro c n hc hn
    cases n with
    | zero => omega
    | succ n =>
      have ih1 := ih (c + 1) n (by omega) (by omega)
      have hc3 : c < 3 := by
        obtain ⟨S, e1, D, lE, K⟩ := id Z
        obtain ⟨hz, hfu0, o0, o1, r0_5, o2, r0_17, o3, r0_18, o4, r0_22, o5, r0_23, o6, r0_26, o7, r0_28, o8, r0_29, o9, r0_30, o10, r0_31, o11, r0_32, o12, r0_35, o13, r0_36, o14, r0_38, o15, r0_39, o16, r0_40, o17, r0_41, o18, r0_43, o19, r0_44, o20, r0_45⟩ := id S
        obtain ⟨dlo, do0, dv0, dv1, dn2, dn3, dn4, dn5, dn6, dn7, dn8, dn9, dr11, da11, dv11, dr12, da12, dv12, dr13, da13, dv13, dr14, da14, dv14, dr15, da15, dv15, dr16, da16, dv16, dr17, da17, dv17, dr18, da18, dv18, dr19, da19, dv19, dr20, da20, dv20, dr21, da21, dv21, dr22, da22, dv22, dr23, da23, dv23, dr24, da24, dv24, dr25, da25, dv25, dr26, da26, dv26, dr27, da27, dv27, dr28, da28, dv28, dr29, da29, dv29, dr30, da30, dv30, dr31, da31, dv31, dr32, da32, dv32, dr33, da33, dv33⟩ := id D
        obtain ⟨yc2, yc3, yc4, yc5, yc6, yc7, yc8, yc9, yyk, yyd, yyf, yyh, yyc, yyl, yyp, yyhot, yyby⟩ := id K
        omega
      have hr6 : ∀ z ∈ rd c, z < 6 := fun z hz => by
        have := H c hc3 z hz
        obtain ⟨S, e1, D, lE, K⟩ := id Z
        obtain ⟨hz, hfu0, o0, o1, r0_5, o2, r0_17, o3, r0_18, o4, r0_22, o5, r0_23, o6, r0_26, o7, r0_28, o8, r0_29, o9, r0_30, o10, r0_31, o11, r0_32, o12, r0_35, o13, r0_36, o14, r0_38, o15, r0_39, o16, r0_40, o17, r0_41, o18, r0_43, o19, r0_44, o20, r0_45⟩ := id S
        obtain ⟨dlo, do0, dv0, dv1, dn2, dn3, dn4, dn5, dn6, dn7, dn8, dn9, dr11, da11, dv11, dr12, da12, dv12, dr13, da13, dv13, dr14, da14, dv14, dr15, da15, dv15, dr16, da16, dv16, dr17, da17, dv17, dr18, da18, dv18, dr19, da19, dv19, dr20, da20, dv20, dr21, da21, dv21, dr22, da22, dv22, dr23, da23, dv23, dr24, da24, dv24, dr25, da25, dv25, dr26, da26, dv26, dr27, da27, dv27, dr28, da28, dv28, dr29, da29, dv29, dr30, da30, dv30, dr31, da31, dv31, dr32, da32, dv32, dr33, da33, dv33⟩ := id D
        obtain ⟨yc2, yc3, yc4, yc5, yc6, yc7, yc8, yc9, yyk, yyd, yyf, yyh, yyc, yyl, yyp, yyhot, yyby⟩ := id K
        omega
      obtain ⟨R1, R2, R3⟩ := R c hc3
      have hin := qm_car15 Z hc3 hxs (rd c) hr6 R1 R2 R3 (K := fX5_carOf_l2 N n) (rd c) 0 300000 rfl (by omega) (by omega)
      rw [nI_0] at hin
      obtain ⟨S, e1, D, lE, K⟩ := id Z
      obtain ⟨hz, hfu0, o0, o1, r0_5, o2, r0_17, o3, r0_18, o4, r0_22, o5, r0_23, o6, r0_26, o7, r0_28, o8, r0_29, o9, r0_30, o10, r0_31, o11, r0_32, o12, r0_35, o13, r0_36, o14, r0_38, o15, r0_39, o16, r0_40, o17, r0_41, o18, r0_43, o19, r0_44, o20, r0_45⟩ := id S
      obtain ⟨dlo, do0, dv0, dv1, dn2, dn3, dn4, dn5, dn6, dn7, dn8, dn9, dr11, da11, dv11, dr12, da12, dv12, dr13, da13, dv13, dr14, da14, dv14, dr15, da15, dv15, dr16, da16, dv16, dr17, da17, dv17, dr18, da18, dv18, dr19, da19, dv19, dr20, da20, dv20, dr21, da21, dv21, dr22, da22, dv22, dr23, da23, dv23, dr24, da24, dv24, dr25, da25, dv25, dr26, da26, dv26, dr27, da27, dv27, dr28, da28, dv28, dr29, da29, dv29, dr30, da30, dv30, dr31, da31, dv31, dr32, da32, dv32, dr33, da33, dv33⟩ := id D
      obtain ⟨yc2, yc3, yc4, yc5, yc6, yc7, yc8, yc9, yyk, yyd, yyf, yyh, yyc, yyl, yyp, yyhot, yyby⟩ := id K
      simp only [fX5_carOf_l2, g4_3 o0, e1, bdS, b2S, bxL, bxR, onN, onS, g13_6 do0, dn6, nI_ge (show c < y.1 6 by omega) (by omega), if_false, hfu0, hin, ih1, caF]
      by_cases hm : x ∈ rd c
      · simp only [hm, if_true, oI]
      · simp only [hm, if_false]
theorem qm_carOf {N E d : Nat} {y : Dy} {h : Hp} {x : Nat} {rd : Nat → List Nat} (Z : MD h N E d y) (R : MR h N rd) (H : RH y rd) (hxs : x < 6) : fX5_carOf N (nI x) h = some (oI (caF rd x (y.1 6) 0), h) := by
  have hh := qm_carL Z R H hxs (y.1 6) 0 300000 (by omega)
  obtain ⟨S, e1, D, lE, K⟩ := id Z
  obtain ⟨hz, hfu0, o0, o1, r0_5, o2, r0_17, o3, r0_18, o4, r0_22, o5, r0_23, o6, r0_26, o7, r0_28, o8, r0_29, o9, r0_30, o10, r0_31, o11, r0_32, o12, r0_35, o13, r0_36, o14, r0_38, o15, r0_39, o16, r0_40, o17, r0_41, o18, r0_43, o19, r0_44, o20, r0_45⟩ := id S
  obtain ⟨dlo, do0, dv0, dv1, dn2, dn3, dn4, dn5, dn6, dn7, dn8, dn9, dr11, da11, dv11, dr12, da12, dv12, dr13, da13, dv13, dr14, da14, dv14, dr15, da15, dv15, dr16, da16, dv16, dr17, da17, dv17, dr18, da18, dv18, dr19, da19, dv19, dr20, da20, dv20, dr21, da21, dv21, dr22, da22, dv22, dr23, da23, dv23, dr24, da24, dv24, dr25, da25, dv25, dr26, da26, dv26, dr27, da27, dv27, dr28, da28, dv28, dr29, da29, dv29, dr30, da30, dv30, dr31, da31, dv31, dr32, da32, dv32, dr33, da33, dv33⟩ := id D
  obtain ⟨yc2, yc3, yc4, yc5, yc6, yc7, yc8, yc9, yyk, yyd, yyf, yyh, yyc, yyl, yyp, yyhot, yyby⟩ := id K
  simp only [fX5_carOf, ab_ckq o0, hfu0]
  rw [← nI_0]
  exact hh (by omega)
