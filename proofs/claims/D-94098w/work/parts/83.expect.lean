/-! what an order of calls comes to -/
def tkY (y : Dy) (c : Nat) : Int64 := (y.2 30 c).toInt64
def naY (y : Dy) (c : Nat) : Int64 := ((100 : Int32) - y.2 31 c).toInt64
def pwJ : Nat → Int64
  | 0 => 1
  | m + 1 => pwJ m * 100
def exF (y : Dy) : List Nat → Int64 → Int64 → Int64
  | [], _, acc => acc
  | c :: t, ah, acc => exF y t (ah * naY y c) (acc + tkY y c * ah * pwJ (t.length + 1))
theorem pwJ_div : ∀ m, m < 5 → pwJ (m + 1) / (100 : Int64) = pwJ m := by decide +kernel
def prJ (y : Dy) : List Nat → Int64 → Int64
  | [], v => v
  | c :: t, v => prJ y t (v * naY y c)
theorem prJ_mul {y : Dy} : ∀ (l : List Nat) (v w : Int64), prJ y l (v * w) = v * prJ y l w := by
  intro l
  induction l with
  | nil => intro v w; rfl
  | cons c t ih => intro v w; rw [prJ, prJ, Int64.mul_assoc, ih]
theorem prJ_app {y : Dy} : ∀ (l : List Nat) (c : Nat) (v : Int64), prJ y (l ++ [c]) v = prJ y l v * naY y c := by
  intro l
  induction l with
  | nil => intro c v; rfl
  | cons a t ih => intro c v; rw [List.cons_append, prJ, ih, prJ]
def t1J : Nat → Int64 → Int64
  | 0, v => v
  | m + 1, v => t1J m (v * 100)
theorem t1J_pw : ∀ m v, t1J m v = v * pwJ m := by
  intro m
  induction m with
  | zero => intro v; rw [t1J, pwJ, Int64.mul_one]
  | succ m ih => intro v; rw [t1J, ih, pwJ, Int64.mul_assoc, Int64.mul_comm 100]
theorem Yk.h8 {y : Dy} (K : Yk y) : y.1 8 ≤ 5 := by
  obtain ⟨c2, c3, c4, c5, c6, c7, c8, c9, yk, yd, yf, yh, yc, yl, yp, yhot, yby⟩ := id K
  exact c8
/-- an order of calls in an array -/
def CL (h : Hp) (a : Nat) (l : List Nat) : Prop := isA h a 0 5 ∧ ∀ j, j < l.length → aF h a j = nI (l.getD j 0)
theorem qx_exL {h : Hp} {N E d : Nat} {qa : Nat → Nat → Nat} {y : Dy} (Z : XD h N E d qa y) {a : Nat} {l : List Nat} (C : CL h a l) (hl : l.length = y.1 8) (hx : ∀ x ∈ l, x < y.1 8) : ∀ (t : List Nat) (k f : Nat) (ah acc : Int64), l.drop k = t → k + t.length = l.length → t.length < f → fX1_expected_l40 N f (some a) acc ah (pwJ t.length) (nI k) h = some (exF y t ah acc, h) := by
  have h8 := Z.2.2.2.2.h8
  intro t
  induction t with
  | nil =>
    intro k f ah acc hd hk hf
    cases f with
    | zero => simp at hf
    | succ f =>
      have hk : k = l.length := by simpa using hk
      obtain ⟨S, e1, D, lE, K⟩ := id Z
      obtain ⟨hz, hfu0, o0, o1, r0_0, o2, r0_2, o3, r2_0, r2_1, o4, r2_2, o5, r0_8, o6, o7, o8, r6_0, r6_1, o9, o10, o11, r9_0, r9_1, o32, o33, o34, r32_0, r32_1, o35, o36, o37, r35_0, r35_1, o38, o39, o40, r38_0, r38_1, r0_9, r0_10, o12, r0_12, o13, r0_13, o14, r0_14, o15, r0_15, o16, r0_18, o17, r0_19, o18, r0_20, o19, r0_22, o20, r0_23, o21, r0_24, o22, r0_25, o23, r0_28, o24, r0_29, o25, r0_30, o26, r0_31, o27, r0_35, o28, r0_36, o29, r0_37, o30, r0_38, o31, r0_39, d5_0, d5_1, d5_2⟩ := id S
      obtain ⟨dlo, do0, dr0, da0, dr1, da1, dr2, da2, dr3, da3, dr4, da4, dr5, da5, dr6, da6, dr7, da7, dr8, da8, dn2, dn3, dn4, dn5, dn6, dn8, dn9, dn7, dv17, dv18, dvf, dt0, dt1, dt2, dt3, dt4, dt5, dt6⟩ := id D
      obtain ⟨yc2, yc3, yc4, yc5, yc6, yc7, yc8, yc9, yyk, yyd, yyf, yyh, yyc, yyl, yyp, yyhot, yyby⟩ := id K
      simp only [fX1_expected_l40, g0_3 o0, e1, bdS, b2S, bxL, bxR, onN, onS, g5_14 do0, dn8, nI_le (show y.1 8 ≤ k by omega) (by omega), if_true, exF]
  | cons c t ih =>
    intro k f ah acc hd hk hf
    have hL : (c :: t).length = t.length + 1 := rfl
    rw [hL] at hk hf
    cases f with
    | zero => omega
    | succ f =>
      have hlt : k < l.length := by omega
      have hcons := List.drop_eq_getElem_cons hlt
      rw [hd] at hcons
      injection hcons with hc1 hc2
      have hg : l.getD k 0 = c := by rw [List.getD_eq_getElem?_getD, List.getElem?_eq_getElem hlt, hc1]; rfl
      have hc8 : c < y.1 8 := hx c (by rw [hc1]; exact List.getElem_mem hlt)
      have i1 := ih (k + 1) f (ah * naY y c) (acc + tkY y c * ah * pwJ (t.length + 1)) hc2.symm (by omega) (by omega)
      rw [exF, ← i1]
      have hdv := pwJ_div t.length (by omega)
      obtain ⟨S, e1, D, lE, K⟩ := id Z
      obtain ⟨hz, hfu0, o0, o1, r0_0, o2, r0_2, o3, r2_0, r2_1, o4, r2_2, o5, r0_8, o6, o7, o8, r6_0, r6_1, o9, o10, o11, r9_0, r9_1, o32, o33, o34, r32_0, r32_1, o35, o36, o37, r35_0, r35_1, o38, o39, o40, r38_0, r38_1, r0_9, r0_10, o12, r0_12, o13, r0_13, o14, r0_14, o15, r0_15, o16, r0_18, o17, r0_19, o18, r0_20, o19, r0_22, o20, r0_23, o21, r0_24, o22, r0_25, o23, r0_28, o24, r0_29, o25, r0_30, o26, r0_31, o27, r0_35, o28, r0_36, o29, r0_37, o30, r0_38, o31, r0_39, d5_0, d5_1, d5_2⟩ := id S
      obtain ⟨dlo, do0, dr0, da0, dr1, da1, dr2, da2, dr3, da3, dr4, da4, dr5, da5, dr6, da6, dr7, da7, dr8, da8, dn2, dn3, dn4, dn5, dn6, dn8, dn9, dn7, dv17, dv18, dvf, dt0, dt1, dt2, dt3, dt4, dt5, dt6⟩ := id D
      obtain ⟨yc2, yc3, yc4, yc5, yc6, yc7, yc8, yc9, yyk, yyd, yyf, yyh, yyc, yyl, yyp, yyhot, yyby⟩ := id K
      obtain ⟨z1, z2, z3, z4, z5⟩ := dt5 c hc8
      simp only [fX1_expected_l40, g0_3 o0, e1, bdS, b2S, bxL, bxR, onN, onS, g5_14 do0, dn8, nI_ge (show k < y.1 8 by omega) (by omega), if_false, g5_5 do0, dr5, aIn C.1 (show k < 5 by omega), C.2 k hlt, hg, aRn da5 (show c < 5 by omega), z2, g11_2 z3, z4, g11_3 z3, z5, nI_1, hL, hdv]
      rfl
theorem qx_exN {h : Hp} {N E d : Nat} {qa : Nat → Nat → Nat} {y : Dy} (Z : XD h N E d qa y) {p : Option Nat} {acc ah : Int64} : ∀ (j k f : Nat), k + j = y.1 8 → j < f → fX1_expected_l11 N f p acc ah (pwJ k) (nI k) h = fX1_expected_l40 N 300000 p acc ah (pwJ (y.1 8)) 0 h := by
  have h8 := Z.2.2.2.2.h8
  intro j
  induction j with
  | zero =>
    intro k f hk hf
    cases f with
    | zero => omega
    | succ f =>
      have e : k = y.1 8 := by omega
      obtain ⟨S, e1, D, lE, K⟩ := id Z
      obtain ⟨hz, hfu0, o0, o1, r0_0, o2, r0_2, o3, r2_0, r2_1, o4, r2_2, o5, r0_8, o6, o7, o8, r6_0, r6_1, o9, o10, o11, r9_0, r9_1, o32, o33, o34, r32_0, r32_1, o35, o36, o37, r35_0, r35_1, o38, o39, o40, r38_0, r38_1, r0_9, r0_10, o12, r0_12, o13, r0_13, o14, r0_14, o15, r0_15, o16, r0_18, o17, r0_19, o18, r0_20, o19, r0_22, o20, r0_23, o21, r0_24, o22, r0_25, o23, r0_28, o24, r0_29, o25, r0_30, o26, r0_31, o27, r0_35, o28, r0_36, o29, r0_37, o30, r0_38, o31, r0_39, d5_0, d5_1, d5_2⟩ := id S
      obtain ⟨dlo, do0, dr0, da0, dr1, da1, dr2, da2, dr3, da3, dr4, da4, dr5, da5, dr6, da6, dr7, da7, dr8, da8, dn2, dn3, dn4, dn5, dn6, dn8, dn9, dn7, dv17, dv18, dvf, dt0, dt1, dt2, dt3, dt4, dt5, dt6⟩ := id D
      obtain ⟨yc2, yc3, yc4, yc5, yc6, yc7, yc8, yc9, yyk, yyd, yyf, yyh, yyc, yyl, yyp, yyhot, yyby⟩ := id K
      simp only [fX1_expected_l11, g0_3 o0, e1, bdS, b2S, bxL, bxR, onN, onS, g5_14 do0, dn8, nI_le (show y.1 8 ≤ k by omega) (by omega), if_true, hfu0]
      rw [e]
  | succ j ih =>
    intro k f hk hf
    cases f with
    | zero => omega
    | succ f =>
      rw [← ih (k + 1) f (by omega) (by omega), pwJ]
      obtain ⟨S, e1, D, lE, K⟩ := id Z
      obtain ⟨hz, hfu0, o0, o1, r0_0, o2, r0_2, o3, r2_0, r2_1, o4, r2_2, o5, r0_8, o6, o7, o8, r6_0, r6_1, o9, o10, o11, r9_0, r9_1, o32, o33, o34, r32_0, r32_1, o35, o36, o37, r35_0, r35_1, o38, o39, o40, r38_0, r38_1, r0_9, r0_10, o12, r0_12, o13, r0_13, o14, r0_14, o15, r0_15, o16, r0_18, o17, r0_19, o18, r0_20, o19, r0_22, o20, r0_23, o21, r0_24, o22, r0_25, o23, r0_28, o24, r0_29, o25, r0_30, o26, r0_31, o27, r0_35, o28, r0_36, o29, r0_37, o30, r0_38, o31, r0_39, d5_0, d5_1, d5_2⟩ := id S
      obtain ⟨dlo, do0, dr0, da0, dr1, da1, dr2, da2, dr3, da3, dr4, da4, dr5, da5, dr6, da6, dr7, da7, dr8, da8, dn2, dn3, dn4, dn5, dn6, dn8, dn9, dn7, dv17, dv18, dvf, dt0, dt1, dt2, dt3, dt4, dt5, dt6⟩ := id D
      obtain ⟨yc2, yc3, yc4, yc5, yc6, yc7, yc8, yc9, yyk, yyd, yyf, yyh, yyc, yyl, yyp, yyhot, yyby⟩ := id K
      simp only [fX1_expected_l11, g0_3 o0, e1, bdS, b2S, bxL, bxR, onN, onS, g5_14 do0, dn8, nI_ge (show k < y.1 8 by omega) (by omega), if_false, nI_1]
theorem qx_expected {h : Hp} {N E d : Nat} {qa : Nat → Nat → Nat} {y : Dy} (Z : XD h N E d qa y) {a : Nat} {l : List Nat} (C : CL h a l) (hl : l.length = y.1 8) (hx : ∀ x ∈ l, x < y.1 8) : fX1_expected N (some a) h = some (exF y l 1 0, h) := by
  have h8 := Z.2.2.2.2.h8
  have e1 := qx_exN Z (p := some a) (acc := 0) (ah := 1) (y.1 8) 0 300000 (by omega) (by omega)
  have e2 := qx_exL Z C hl hx l 0 300000 1 0 rfl (by omega) (by omega)
  rw [hl, nI_0] at e2
  rw [nI_0, pwJ] at e1
  simp only [fX1_expected, ab_ckq Z.1.o, Z.1.f]
  exact e1.trans e2
theorem qm_ex2 {h : Hp} {N E d : Nat} {y : Dy} (Z : MD h N E d y) {a k : Nat} {acc : Int64} {K5 : Option Nat → Int64 → Int32 → Hp → Option (Int64 × Hp)} : ∀ (m j f : Nat) (v : Int64), k ≤ j → j + m = y.1 8 → m < f → fX5_expected_l35 N K5 f a acc (nI k) v (nI j) h = K5 (some a) (acc + t1J m v) (nI (k + 1)) h := by
  have h8 := Z.2.2.2.2.h8
  intro m
  induction m with
  | zero =>
    intro j f v hkj hj hf
    cases f with
    | zero => omega
    | succ f =>
      obtain ⟨S, e1, D, lE, K⟩ := id Z
      obtain ⟨hz, hfu0, o0, o1, r0_5, o2, r0_17, o3, r0_18, o4, r0_22, o5, r0_23, o6, r0_26, o7, r0_28, o8, r0_29, o9, r0_30, o10, r0_31, o11, r0_32, o12, r0_35, o13, r0_36, o14, r0_38, o15, r0_39, o16, r0_40, o17, r0_41, o18, r0_43, o19, r0_44, o20, r0_45⟩ := id S
      obtain ⟨dlo, do0, dv0, dv1, dn2, dn3, dn4, dn5, dn6, dn7, dn8, dn9, dr11, da11, dv11, dr12, da12, dv12, dr13, da13, dv13, dr14, da14, dv14, dr15, da15, dv15, dr16, da16, dv16, dr17, da17, dv17, dr18, da18, dv18, dr19, da19, dv19, dr20, da20, dv20, dr21, da21, dv21, dr22, da22, dv22, dr23, da23, dv23, dr24, da24, dv24, dr25, da25, dv25, dr26, da26, dv26, dr27, da27, dv27, dr28, da28, dv28, dr29, da29, dv29, dr30, da30, dv30, dr31, da31, dv31, dr32, da32, dv32, dr33, da33, dv33⟩ := id D
      obtain ⟨yc2, yc3, yc4, yc5, yc6, yc7, yc8, yc9, yyk, yyd, yyf, yyh, yyc, yyl, yyp, yyhot, yyby⟩ := id K
      simp only [fX5_expected_l35, g4_3 o0, e1, bdS, b2S, bxL, bxR, onN, onS, g13_8 do0, dn8, nI_le (show y.1 8 ≤ j by omega) (by omega), if_true, t1J, nI_1]
  | succ m ih =>
    intro j f v hkj hj hf
    cases f with
    | zero => omega
    | succ f =>
      have i1 := ih (j + 1) f (v * 100) (by omega) (by omega) (by omega)
      rw [t1J, ← i1]
      obtain ⟨S, e1, D, lE, K⟩ := id Z
      obtain ⟨hz, hfu0, o0, o1, r0_5, o2, r0_17, o3, r0_18, o4, r0_22, o5, r0_23, o6, r0_26, o7, r0_28, o8, r0_29, o9, r0_30, o10, r0_31, o11, r0_32, o12, r0_35, o13, r0_36, o14, r0_38, o15, r0_39, o16, r0_40, o17, r0_41, o18, r0_43, o19, r0_44, o20, r0_45⟩ := id S
      obtain ⟨dlo, do0, dv0, dv1, dn2, dn3, dn4, dn5, dn6, dn7, dn8, dn9, dr11, da11, dv11, dr12, da12, dv12, dr13, da13, dv13, dr14, da14, dv14, dr15, da15, dv15, dr16, da16, dv16, dr17, da17, dv17, dr18, da18, dv18, dr19, da19, dv19, dr20, da20, dv20, dr21, da21, dv21, dr22, da22, dv22, dr23, da23, dv23, dr24, da24, dv24, dr25, da25, dv25, dr26, da26, dv26, dr27, da27, dv27, dr28, da28, dv28, dr29, da29, dv29, dr30, da30, dv30, dr31, da31, dv31, dr32, da32, dv32, dr33, da33, dv33⟩ := id D
      obtain ⟨yc2, yc3, yc4, yc5, yc6, yc7, yc8, yc9, yyk, yyd, yyf, yyh, yyc, yyl, yyp, yyhot, yyby⟩ := id K
      simp only [fX5_expected_l35, g4_3 o0, e1, bdS, b2S, bxL, bxR, onN, onS, g13_8 do0, dn8, nI_ge (show j < y.1 8 by omega) (by omega), if_false, nI_le hkj (show j < 2 ^ 31 by omega), if_true, nI_1]
theorem qm_ex1 {h : Hp} {N E d : Nat} {y : Dy} (Z : MD h N E d y) {a k : Nat} {l : List Nat} (C : CL h a l) (hl : l.length = y.1 8) (hx : ∀ x ∈ l, x < y.1 8) (hk : k < y.1 8) {acc : Int64} {K5 : Option Nat → Int64 → Int32 → Hp → Option (Int64 × Hp)} : ∀ (t : List Nat) (j f : Nat) (v : Int64), (l.take k).drop j = t → j + t.length = k → y.1 8 - j < f → fX5_expected_l35 N K5 f a acc (nI k) v (nI j) h = K5 (some a) (acc + t1J (y.1 8 - k) (prJ y t v)) (nI (k + 1)) h := by
  have h8 := Z.2.2.2.2.h8
  intro t
  induction t with
  | nil =>
    intro j f v hd hj hf
    have hj : j = k := by simpa using hj
    subst hj
    exact qm_ex2 Z (y.1 8 - j) j f v (Nat.le_refl _) (by omega) hf
  | cons c t ih =>
    intro j f v hd hj hf
    have hL : (c :: t).length = t.length + 1 := rfl
    rw [hL] at hj
    cases f with
    | zero => omega
    | succ f =>
      have hlt : j < (l.take k).length := by rw [List.length_take]; omega
      have hcons := List.drop_eq_getElem_cons hlt
      rw [hd] at hcons
      injection hcons with hc1 hc2
      rw [List.getElem_take] at hc1
      have hjl : j < l.length := by omega
      have hg : l.getD j 0 = c := by rw [List.getD_eq_getElem?_getD, List.getElem?_eq_getElem hjl, hc1]; rfl
      have hc8 : c < y.1 8 := hx c (by rw [hc1]; exact List.getElem_mem hjl)
      have i1 := ih (j + 1) f (v * naY y c) hc2.symm (by omega) (by omega)
      rw [prJ, ← i1]
      obtain ⟨S, e1, D, lE, K⟩ := id Z
      obtain ⟨hz, hfu0, o0, o1, r0_5, o2, r0_17, o3, r0_18, o4, r0_22, o5, r0_23, o6, r0_26, o7, r0_28, o8, r0_29, o9, r0_30, o10, r0_31, o11, r0_32, o12, r0_35, o13, r0_36, o14, r0_38, o15, r0_39, o16, r0_40, o17, r0_41, o18, r0_43, o19, r0_44, o20, r0_45⟩ := id S
      obtain ⟨dlo, do0, dv0, dv1, dn2, dn3, dn4, dn5, dn6, dn7, dn8, dn9, dr11, da11, dv11, dr12, da12, dv12, dr13, da13, dv13, dr14, da14, dv14, dr15, da15, dv15, dr16, da16, dv16, dr17, da17, dv17, dr18, da18, dv18, dr19, da19, dv19, dr20, da20, dv20, dr21, da21, dv21, dr22, da22, dv22, dr23, da23, dv23, dr24, da24, dv24, dr25, da25, dv25, dr26, da26, dv26, dr27, da27, dv27, dr28, da28, dv28, dr29, da29, dv29, dr30, da30, dv30, dr31, da31, dv31, dr32, da32, dv32, dr33, da33, dv33⟩ := id D
      obtain ⟨yc2, yc3, yc4, yc5, yc6, yc7, yc8, yc9, yyk, yyd, yyf, yyh, yyc, yyl, yyp, yyhot, yyby⟩ := id K
      simp only [fX5_expected_l35, g4_3 o0, e1, bdS, b2S, bxL, bxR, onN, onS, g13_8 do0, dn8, nI_ge (show j < y.1 8 by omega) (by omega), if_false, nI_ge (show j < k by omega) (by omega), g13_31 do0, dr31, aIn C.1 (show j < 5 by omega), C.2 j hjl, hg, aIn da31 (show c < 5 by omega), dv31, nI_1, naY]
theorem qm_exL {h : Hp} {N E d : Nat} {y : Dy} (Z : MD h N E d y) {a : Nat} {l : List Nat} (C : CL h a l) (hl : l.length = y.1 8) (hx : ∀ x ∈ l, x < y.1 8) : ∀ (t : List Nat) (k f : Nat) (acc : Int64), l.drop k = t → k + t.length = l.length → t.length < f → fX5_expected_l5 N f (some a) acc (nI k) h = some (exF y t (prJ y (l.take k) 1) acc, h) := by
  have h8 := Z.2.2.2.2.h8
  intro t
  induction t with
  | nil =>
    intro k f acc hd hk hf
    cases f with
    | zero => simp at hf
    | succ f =>
      have hk : k = l.length := by simpa using hk
      obtain ⟨S, e1, D, lE, K⟩ := id Z
      obtain ⟨hz, hfu0, o0, o1, r0_5, o2, r0_17, o3, r0_18, o4, r0_22, o5, r0_23, o6, r0_26, o7, r0_28, o8, r0_29, o9, r0_30, o10, r0_31, o11, r0_32, o12, r0_35, o13, r0_36, o14, r0_38, o15, r0_39, o16, r0_40, o17, r0_41, o18, r0_43, o19, r0_44, o20, r0_45⟩ := id S
      obtain ⟨dlo, do0, dv0, dv1, dn2, dn3, dn4, dn5, dn6, dn7, dn8, dn9, dr11, da11, dv11, dr12, da12, dv12, dr13, da13, dv13, dr14, da14, dv14, dr15, da15, dv15, dr16, da16, dv16, dr17, da17, dv17, dr18, da18, dv18, dr19, da19, dv19, dr20, da20, dv20, dr21, da21, dv21, dr22, da22, dv22, dr23, da23, dv23, dr24, da24, dv24, dr25, da25, dv25, dr26, da26, dv26, dr27, da27, dv27, dr28, da28, dv28, dr29, da29, dv29, dr30, da30, dv30, dr31, da31, dv31, dr32, da32, dv32, dr33, da33, dv33⟩ := id D
      obtain ⟨yc2, yc3, yc4, yc5, yc6, yc7, yc8, yc9, yyk, yyd, yyf, yyh, yyc, yyl, yyp, yyhot, yyby⟩ := id K
      simp only [fX5_expected_l5, g4_3 o0, e1, bdS, b2S, bxL, bxR, onN, onS, g13_8 do0, dn8, nI_le (show y.1 8 ≤ k by omega) (by omega), if_true, exF]
  | cons c t ih =>
    intro k f acc hd hk hf
    have hL : (c :: t).length = t.length + 1 := rfl
    rw [hL] at hk hf
    cases f with
    | zero => omega
    | succ f =>
      have hlt : k < l.length := by omega
      have hcons := List.drop_eq_getElem_cons hlt
      rw [hd] at hcons
      injection hcons with hc1 hc2
      have hg : l.getD k 0 = c := by rw [List.getD_eq_getElem?_getD, List.getElem?_eq_getElem hlt, hc1]; rfl
      have hc8 : c < y.1 8 := hx c (by rw [hc1]; exact List.getElem_mem hlt)
      have htk : l.take (k + 1) = l.take k ++ [c] := by rw [hc1]; exact (List.take_append_getElem hlt).symm
      have i1 := ih (k + 1) f (acc + t1J (y.1 8 - k) (prJ y (l.take k) (tkY y c))) hc2.symm (by omega) (by omega)
      rw [htk, prJ_app] at i1
      have hv : t1J (y.1 8 - k) (prJ y (l.take k) (tkY y c)) = tkY y c * prJ y (l.take k) 1 * pwJ (t.length + 1) := by
        have := prJ_mul (y := y) (l.take k) (tkY y c) 1
        rw [Int64.mul_one] at this
        rw [t1J_pw, this, show y.1 8 - k = t.length + 1 by omega]
      rw [exF, ← hv, ← i1]
      have hin := qm_ex1 Z C hl hx (show k < y.1 8 by omega) (acc := acc) (K5 := fX5_expected_l5 N f) (l.take k) 0 300000 (tkY y c) rfl (by rw [List.length_take]; omega) (by omega)
      rw [← hin, nI_0]
      obtain ⟨S, e1, D, lE, K⟩ := id Z
      obtain ⟨hz, hfu0, o0, o1, r0_5, o2, r0_17, o3, r0_18, o4, r0_22, o5, r0_23, o6, r0_26, o7, r0_28, o8, r0_29, o9, r0_30, o10, r0_31, o11, r0_32, o12, r0_35, o13, r0_36, o14, r0_38, o15, r0_39, o16, r0_40, o17, r0_41, o18, r0_43, o19, r0_44, o20, r0_45⟩ := id S
      obtain ⟨dlo, do0, dv0, dv1, dn2, dn3, dn4, dn5, dn6, dn7, dn8, dn9, dr11, da11, dv11, dr12, da12, dv12, dr13, da13, dv13, dr14, da14, dv14, dr15, da15, dv15, dr16, da16, dv16, dr17, da17, dv17, dr18, da18, dv18, dr19, da19, dv19, dr20, da20, dv20, dr21, da21, dv21, dr22, da22, dv22, dr23, da23, dv23, dr24, da24, dv24, dr25, da25, dv25, dr26, da26, dv26, dr27, da27, dv27, dr28, da28, dv28, dr29, da29, dv29, dr30, da30, dv30, dr31, da31, dv31, dr32, da32, dv32, dr33, da33, dv33⟩ := id D
      obtain ⟨yc2, yc3, yc4, yc5, yc6, yc7, yc8, yc9, yyk, yyd, yyf, yyh, yyc, yyl, yyp, yyhot, yyby⟩ := id K
      simp only [fX5_expected_l5, g4_3 o0, e1, bdS, b2S, bxL, bxR, onN, onS, g13_8 do0, dn8, nI_ge (show k < y.1 8 by omega) (by omega), if_false, g13_30 do0, dr30, aIn C.1 (show k < 5 by omega), C.2 k hlt, hg, aIn da30 (show c < 5 by omega), dv30, hfu0, tkY]
theorem qm_expected {h : Hp} {N E d : Nat} {y : Dy} (Z : MD h N E d y) {a : Nat} {l : List Nat} (C : CL h a l) (hl : l.length = y.1 8) (hx : ∀ x ∈ l, x < y.1 8) : fX5_expected N (some a) h = some (exF y l 1 0, h) := by
  have h8 := Z.2.2.2.2.h8
  have e2 := qm_exL Z C hl hx l 0 300000 0 rfl (by omega) (by omega)
  rw [nI_0, List.take_zero, prJ] at e2
  simp only [fX5_expected, ab_ckq Z.1.o, Z.1.f]
  exact e2
