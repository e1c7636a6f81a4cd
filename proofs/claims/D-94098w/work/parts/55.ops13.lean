/-! recall -/
def lset : List Nat → Int32 → Int32
  | [], a => a
  | x :: t, a => lset t (a ||| ((1 : Int32) <<< (nI x &&& 31)))
theorem Int32_or_assoc (a b c : Int32) : (a ||| b) ||| c = a ||| (b ||| c) := by
  apply Int32.toBitVec_inj.mp
  simp [BitVec.or_assoc]
theorem Int32_0or (a : Int32) : 0 ||| a = a := by
  apply Int32.toBitVec_inj.mp
  simp
theorem lset_0 : ∀ (l : List Nat) (a : Int32), lset l a = a ||| lset l 0 := by
  intro l
  induction l with
  | nil => intro a; rw [lset, lset, Int32_or0]
  | cons x t ih =>
    intro a
    rw [lset, lset, ih, ih (0 ||| _), Int32_0or, Int32_or_assoc]
theorem qx_setL {h : Hp} {N r : Nat} (R : RO h N r) : ∀ (l : List Nat) (k n : Nat) (a : Int32), gI h r 2 = nI (k + l.length) → (∀ j, j < l.length → aF h (r + 1) (k + j) = nI (l.getD j 0)) → k + l.length ≤ 6 → l.length < n → fX4_set_l4 r n a (nI k) h = some (lset l a, h) := by
  obtain ⟨R1, R2, R3, R4, R5, R6, R7⟩ := R
  intro l
  induction l with
  | nil =>
    intro k n a hm ha hk hn
    cases n with
    | zero => simp at hn
    | succ n => simp only [fX4_set_l4, g3_2 R3, bdS, b2S, bxL, bxR, onN, onS, hm, List.length_nil, Nat.add_zero, Int32.le_refl, if_true, lset]
  | cons x t ih =>
    intro k n a hm ha hk hn
    have hL : (x :: t).length = t.length + 1 := rfl
    rw [hL] at hm hk hn
    cases n with
    | zero => omega
    | succ n =>
      have ha0 : aF h (r + 1) k = nI x := ha 0 (by rw [hL]; omega)
      simp only [fX4_set_l4, g3_2 R3, bdS, b2S, bxL, bxR, onN, onS, hm, nI_ge (show k < k + (t.length + 1) by omega) (by omega), if_false, g3_0 R3, R4, aIn R6 (show k < 6 by omega), ha0, nI_1, lset]
      exact ih (k + 1) n _ (by rw [hm]; congr 1; omega) (fun j hj => by rw [show k + 1 + j = k + (j + 1) by omega]; exact ha (j + 1) (by rw [hL]; omega)) (by omega) (by omega)
theorem qx_set {h : Hp} {N r : Nat} (R : RO h N r) (hf : hfu h = 300000) {l : List Nat} (Hl : RL h r l) : fX4_set r h = some (lset l 0, h) := by
  obtain ⟨H1, H2, H3⟩ := Hl
  have hh := qx_setL R l 0 300000 0 (by rw [Nat.zero_add]; exact H1) (fun j hj => by rw [Nat.zero_add]; exact H2 j hj) (by omega) (by omega)
  obtain ⟨R1, R2, R3, R4, R5, R6, R7⟩ := R
  simp only [fX4_set, ab_ckq R3, hf]
  rw [← nI_0] at hh ⊢
  exact hh
def rcS (y : Dy) (rd : Nat → List Nat) (kt c : Nat) (a : Int32) : Int32 := if frV y c = kt then a ||| lset (rd c) 0 else a ||| 0
def recallR (yo : Option Dy) (s : St) (x : Int32) : Int32 × St := onI yo 2 x (-1, fin s 1) fun y kt => (lp (rcS y s.1 kt) (y.1 6) 0 0, fin s 0)
theorem qx_recL {h : Hp} {N E d : Nat} {qa : Nat → Nat → Nat} {y : Dy} {rd : Nat → List Nat} (Z : XD h N E d qa y) (R : XR h N rd) {kt : Nat} (hkt : kt < 6) : ∀ (m c n : Nat) (a : Int32), c + m = y.1 6 → m < n → fX1_recall_l38 N n (nI kt) a (nI c) h = some (lp (rcS y rd kt) m c a, h) := by
  intro m
  induction m with
  | zero =>
    intro c n a hc hn
    cases n with
    | zero => omega
    | succ n =>
      obtain ⟨S, e1, D, lE, K⟩ := id Z
      obtain ⟨hz, hfu0, o0, o1, r0_0, o2, r0_2, o3, r2_0, r2_1, o4, r2_2, o5, r0_8, o6, o7, o8, r6_0, r6_1, o9, o10, o11, r9_0, r9_1, o32, o33, o34, r32_0, r32_1, o35, o36, o37, r35_0, r35_1, o38, o39, o40, r38_0, r38_1, r0_9, r0_10, o12, r0_12, o13, r0_13, o14, r0_14, o15, r0_15, o16, r0_18, o17, r0_19, o18, r0_20, o19, r0_22, o20, r0_23, o21, r0_24, o22, r0_25, o23, r0_28, o24, r0_29, o25, r0_30, o26, r0_31, o27, r0_35, o28, r0_36, o29, r0_37, o30, r0_38, o31, r0_39, d5_0, d5_1, d5_2⟩ := id S
      obtain ⟨dlo, do0, dr0, da0, dr1, da1, dr2, da2, dr3, da3, dr4, da4, dr5, da5, dr6, da6, dr7, da7, dr8, da8, dn2, dn3, dn4, dn5, dn6, dn8, dn9, dn7, dv17, dv18, dvf, dt0, dt1, dt2, dt3, dt4, dt5, dt6⟩ := id D
      obtain ⟨yc2, yc3, yc4, yc5, yc6, yc7, yc8, yc9, yyk, yyd, yyf, yyh, yyc, yyl, yyp, yyhot, yyby⟩ := id K
      simp only [fX1_recall_l38, g0_3 o0, e1, bdS, b2S, bxL, bxR, onN, onS, g5_13 do0, dn6, nI_le (show y.1 6 ≤ c by omega) (by omega), if_true, lp]
  | succ m ih =>
    intro c n a hc hn
    cases n with
    | zero => omega
    | succ n =>
      have hlt : c < y.1 6 := by omega
      have ih1 := fun a => ih (c + 1) n a (by omega) (by omega)
      have hc3 := Z.2.2.2.2.h6
      obtain ⟨Ro, ea⟩ := SX.ro Z.1 (show c < 3 by omega)
      have hs := qx_set Ro Z.1.f (R c (by omega))
      obtain ⟨S, e1, D, lE, K⟩ := id Z
      obtain ⟨hz, hfu0, o0, o1, r0_0, o2, r0_2, o3, r2_0, r2_1, o4, r2_2, o5, r0_8, o6, o7, o8, r6_0, r6_1, o9, o10, o11, r9_0, r9_1, o32, o33, o34, r32_0, r32_1, o35, o36, o37, r35_0, r35_1, o38, o39, o40, r38_0, r38_1, r0_9, r0_10, o12, r0_12, o13, r0_13, o14, r0_14, o15, r0_15, o16, r0_18, o17, r0_19, o18, r0_20, o19, r0_22, o20, r0_23, o21, r0_24, o22, r0_25, o23, r0_28, o24, r0_29, o25, r0_30, o26, r0_31, o27, r0_35, o28, r0_36, o29, r0_37, o30, r0_38, o31, r0_39, d5_0, d5_1, d5_2⟩ := id S
      obtain ⟨dlo, do0, dr0, da0, dr1, da1, dr2, da2, dr3, da3, dr4, da4, dr5, da5, dr6, da6, dr7, da7, dr8, da8, dn2, dn3, dn4, dn5, dn6, dn8, dn9, dn7, dv17, dv18, dvf, dt0, dt1, dt2, dt3, dt4, dt5, dt6⟩ := id D
      obtain ⟨yc2, yc3, yc4, yc5, yc6, yc7, yc8, yc9, yyk, yyd, yyf, yyh, yyc, yyl, yyp, yyhot, yyby⟩ := id K
      obtain ⟨z1, z2, z3, z4, z5, z6, z7, z8⟩ := dt4 c hlt
      obtain ⟨⟨w1, w2⟩, -⟩ := yyc c hlt
      obtain ⟨u1, u2, u3, u4, u5, u6⟩ := dt0 _ w2
      simp only [fX1_recall_l38, g0_3 o0, e1, bdS, b2S, bxL, bxR, onN, onS, g5_13 do0, dn6, nI_ge hlt (by omega), if_false, g5_4 do0, dr4, aRn da4 (show c < 3 by omega), z2, g10_2 z3, z8, g6_1 u3, u4, nI_eq (show (y.2 26 c).toNatClampNeg < 2 ^ 31 by omega) (show kt < 2 ^ 31 by omega), g0_8 o0, r0_8, aRn o5 (show c < 3 by omega), ea, hs, nI_1, ih1, lp, rcS, frV]
      by_cases h1 : (y.2 26 c).toNatClampNeg = kt
      · simp only [h1, if_true]
      · simp only [h1, if_false]
theorem qm_rec51 {N E d : Nat} {y : Dy} {h : Hp} {c kt : Nat} (Z : MD h N E d y) (hlt : c < y.1 6) (hkt : kt < 6) (l0 : List Nat) (hm : aF h (N + 2) c = nI l0.length) (hl : l0.length ≤ 6) (ha : ∀ j, j < l0.length → aF h (N + 3) (6 * c + j) = nI (l0.getD j 0)) {K : Int32 → Int32 → Int32 → Hp → Option (Int32 × Hp)} : ∀ (l : List Nat) (k n : Nat) (a : Int32), l0.drop k = l → k + l.length = l0.length → l.length < n → fX5_recall_l51 N K n (nI kt) a (nI c) (nI k) h = K (nI kt) (if frV y c = kt then lset l a else a) (nI (c + 1)) h := by
  intro l
  induction l with
  | nil =>
    intro k n a hd hk hn
    cases n with
    | zero => simp at hn
    | succ n =>
      have hk : k = l0.length := by simpa using hk
      have hc3 := Z.2.2.2.2.h6
      obtain ⟨S, e1, D, lE, K⟩ := id Z
      obtain ⟨hz, hfu0, o0, o1, r0_5, o2, r0_17, o3, r0_18, o4, r0_22, o5, r0_23, o6, r0_26, o7, r0_28, o8, r0_29, o9, r0_30, o10, r0_31, o11, r0_32, o12, r0_35, o13, r0_36, o14, r0_38, o15, r0_39, o16, r0_40, o17, r0_41, o18, r0_43, o19, r0_44, o20, r0_45⟩ := id S
      obtain ⟨dlo, do0, dv0, dv1, dn2, dn3, dn4, dn5, dn6, dn7, dn8, dn9, dr11, da11, dv11, dr12, da12, dv12, dr13, da13, dv13, dr14, da14, dv14, dr15, da15, dv15, dr16, da16, dv16, dr17, da17, dv17, dr18, da18, dv18, dr19, da19, dv19, dr20, da20, dv20, dr21, da21, dv21, dr22, da22, dv22, dr23, da23, dv23, dr24, da24, dv24, dr25, da25, dv25, dr26, da26, dv26, dr27, da27, dv27, dr28, da28, dv28, dr29, da29, dv29, dr30, da30, dv30, dr31, da31, dv31, dr32, da32, dv32, dr33, da33, dv33⟩ := id D
      obtain ⟨yc2, yc3, yc4, yc5, yc6, yc7, yc8, yc9, yyk, yyd, yyf, yyh, yyc, yyl, yyp, yyhot, yyby⟩ := id K
      simp only [fX5_recall_l51, g4_17 o0, r0_17, bdS, b2S, bxL, bxR, onN, onS, aIn o2 (show c < 3 by omega), hm, hk, Int32.le_refl, if_true, nI_1, lset, ite_self]
  | cons x t ih =>
    intro k n a hd hk hn
    have hL : (x :: t).length = t.length + 1 := rfl
    rw [hL] at hk hn
    cases n with
    | zero => omega
    | succ n =>
      have hlk : k < l0.length := by omega
      have hcons := List.drop_eq_getElem_cons hlk
      rw [hd] at hcons
      injection hcons with hc1 hc2
      have hg : l0.getD k 0 = x := by rw [List.getD_eq_getElem?_getD, List.getElem?_eq_getElem hlk, hc1]; rfl
      have ih1 := fun a => ih (k + 1) n a hc2.symm (by omega) (by omega)
      have hc3 := Z.2.2.2.2.h6
      have hfr : y.2 26 c = nI (frV y c) ∧ frV y c < y.1 2 := by
        obtain ⟨S, e1, D, lE, K⟩ := id Z
        obtain ⟨hz, hfu0, o0, o1, r0_5, o2, r0_17, o3, r0_18, o4, r0_22, o5, r0_23, o6, r0_26, o7, r0_28, o8, r0_29, o9, r0_30, o10, r0_31, o11, r0_32, o12, r0_35, o13, r0_36, o14, r0_38, o15, r0_39, o16, r0_40, o17, r0_41, o18, r0_43, o19, r0_44, o20, r0_45⟩ := id S
        obtain ⟨dlo, do0, dv0, dv1, dn2, dn3, dn4, dn5, dn6, dn7, dn8, dn9, dr11, da11, dv11, dr12, da12, dv12, dr13, da13, dv13, dr14, da14, dv14, dr15, da15, dv15, dr16, da16, dv16, dr17, da17, dv17, dr18, da18, dv18, dr19, da19, dv19, dr20, da20, dv20, dr21, da21, dv21, dr22, da22, dv22, dr23, da23, dv23, dr24, da24, dv24, dr25, da25, dv25, dr26, da26, dv26, dr27, da27, dv27, dr28, da28, dv28, dr29, da29, dv29, dr30, da30, dv30, dr31, da31, dv31, dr32, da32, dv32, dr33, da33, dv33⟩ := id D
        obtain ⟨yc2, yc3, yc4, yc5, yc6, yc7, yc8, yc9, yyk, yyd, yyf, yyh, yyc, yyl, yyp, yyhot, yyby⟩ := id K
        exact (yyc c hlt).1
      obtain ⟨S, e1, D, lE, K⟩ := id Z
      obtain ⟨hz, hfu0, o0, o1, r0_5, o2, r0_17, o3, r0_18, o4, r0_22, o5, r0_23, o6, r0_26, o7, r0_28, o8, r0_29, o9, r0_30, o10, r0_31, o11, r0_32, o12, r0_35, o13, r0_36, o14, r0_38, o15, r0_39, o16, r0_40, o17, r0_41, o18, r0_43, o19, r0_44, o20, r0_45⟩ := id S
      obtain ⟨dlo, do0, dv0, dv1, dn2, dn3, dn4, dn5, dn6, dn7, dn8, dn9, dr11, da11, dv11, dr12, da12, dv12, dr13, da13, dv13, dr14, da14, dv14, dr15, da15, dv15, dr16, da16, dv16, dr17, da17, dv17, dr18, da18, dv18, dr19, da19, dv19, dr20, da20, dv20, dr21, da21, dv21, dr22, da22, dv22, dr23, da23, dv23, dr24, da24, dv24, dr25, da25, dv25, dr26, da26, dv26, dr27, da27, dv27, dr28, da28, dv28, dr29, da29, dv29, dr30, da30, dv30, dr31, da31, dv31, dr32, da32, dv32, dr33, da33, dv33⟩ := id D
      obtain ⟨yc2, yc3, yc4, yc5, yc6, yc7, yc8, yc9, yyk, yyd, yyf, yyh, yyc, yyl, yyp, yyhot, yyby⟩ := id K
      simp only [fX5_recall_l51, g4_17 o0, r0_17, bdS, b2S, bxL, bxR, onN, onS, aIn o2 (show c < 3 by omega), hm, nI_ge hlk (by omega), if_false, g4_3 o0, e1, g13_26 do0, dr26, aIn da26 (show c < 3 by omega), dv26, hfr.1, nI_eq (show frV y c < 2 ^ 31 by omega) (show kt < 2 ^ 31 by omega), g4_18 o0, r0_18, nI6, aIn o3 (show 6 * c + k < 18 by omega), ha k hlk, hg, nI_1, ih1, lset]
      by_cases h1 : frV y c = kt
      · simp only [h1, if_true]
      · simp only [h1, if_false, Int32_or0]
theorem qm_recL {N E d : Nat} {y : Dy} {h : Hp} {rd : Nat → List Nat} (Z : MD h N E d y) (R : MR h N rd) {kt : Nat} (hkt : kt < 6) : ∀ (m c n : Nat) (a : Int32), c + m = y.1 6 → m < n → fX5_recall_l37 N n (nI kt) a (nI c) h = some (lp (rcS y rd kt) m c a, rf h N 0) := by
  intro m
  induction m with
  | zero =>
    intro c n a hc hn
    cases n with
    | zero => omega
    | succ n =>
      have hdn := fun v => qm_done Z.1 v
      obtain ⟨S, e1, D, lE, K⟩ := id Z
      obtain ⟨hz, hfu0, o0, o1, r0_5, o2, r0_17, o3, r0_18, o4, r0_22, o5, r0_23, o6, r0_26, o7, r0_28, o8, r0_29, o9, r0_30, o10, r0_31, o11, r0_32, o12, r0_35, o13, r0_36, o14, r0_38, o15, r0_39, o16, r0_40, o17, r0_41, o18, r0_43, o19, r0_44, o20, r0_45⟩ := id S
      obtain ⟨dlo, do0, dv0, dv1, dn2, dn3, dn4, dn5, dn6, dn7, dn8, dn9, dr11, da11, dv11, dr12, da12, dv12, dr13, da13, dv13, dr14, da14, dv14, dr15, da15, dv15, dr16, da16, dv16, dr17, da17, dv17, dr18, da18, dv18, dr19, da19, dv19, dr20, da20, dv20, dr21, da21, dv21, dr22, da22, dv22, dr23, da23, dv23, dr24, da24, dv24, dr25, da25, dv25, dr26, da26, dv26, dr27, da27, dv27, dr28, da28, dv28, dr29, da29, dv29, dr30, da30, dv30, dr31, da31, dv31, dr32, da32, dv32, dr33, da33, dv33⟩ := id D
      obtain ⟨yc2, yc3, yc4, yc5, yc6, yc7, yc8, yc9, yyk, yyd, yyf, yyh, yyc, yyl, yyp, yyhot, yyby⟩ := id K
      simp only [fX5_recall_l37, g4_3 o0, e1, bdS, b2S, bxL, bxR, onN, onS, g13_6 do0, dn6, nI_le (show y.1 6 ≤ c by omega) (by omega), if_true, lp, hdn, rf]
  | succ m ih =>
    intro c n a hc hn
    cases n with
    | zero => omega
    | succ n =>
      have hlt : c < y.1 6 := by omega
      have ih1 := fun a => ih (c + 1) n a (by omega) (by omega)
      have hc3 := Z.2.2.2.2.h6
      obtain ⟨R1, R2, R3⟩ := R c (by omega)
      have hin := qm_rec51 Z hlt hkt (rd c) R1 R2 R3 (K := fX5_recall_l37 N n) (rd c) 0 300000 a rfl (by omega) (by omega)
      rw [nI_0] at hin
      obtain ⟨S, e1, D, lE, K⟩ := id Z
      obtain ⟨hz, hfu0, o0, o1, r0_5, o2, r0_17, o3, r0_18, o4, r0_22, o5, r0_23, o6, r0_26, o7, r0_28, o8, r0_29, o9, r0_30, o10, r0_31, o11, r0_32, o12, r0_35, o13, r0_36, o14, r0_38, o15, r0_39, o16, r0_40, o17, r0_41, o18, r0_43, o19, r0_44, o20, r0_45⟩ := id S
      obtain ⟨dlo, do0, dv0, dv1, dn2, dn3, dn4, dn5, dn6, dn7, dn8, dn9, dr11, da11, dv11, dr12, da12, dv12, dr13, da13, dv13, dr14, da14, dv14, dr15, da15, dv15, dr16, da16, dv16, dr17, da17, dv17, dr18, da18, dv18, dr19, da19, dv19, dr20, da20, dv20, dr21, da21, dv21, dr22, da22, dv22, dr23, da23, dv23, dr24, da24, dv24, dr25, da25, dv25, dr26, da26, dv26, dr27, da27, dv27, dr28, da28, dv28, dr29, da29, dv29, dr30, da30, dv30, dr31, da31, dv31, dr32, da32, dv32, dr33, da33, dv33⟩ := id D
      obtain ⟨yc2, yc3, yc4, yc5, yc6, yc7, yc8, yc9, yyk, yyd, yyf, yyh, yyc, yyl, yyp, yyhot, yyby⟩ := id K
      simp only [fX5_recall_l37, g4_3 o0, e1, bdS, b2S, bxL, bxR, onN, onS, g13_6 do0, dn6, nI_ge hlt (by omega), if_false, hfu0, hin, ih1, lp, rcS]
      by_cases h1 : frV y c = kt
      · simp only [h1, if_true]
        rw [lset_0]
      · simp only [h1, if_false, Int32_or0]
theorem x_recall {N E : Nat} (x : Int32) : XOp N E (fX1_recall N x) (fun yo s => recallR yo s x) := by
  intro h yo s ⟨S, P, V, lE⟩ I
  obtain ⟨f1, S1, Q1, t1⟩ := an_all S
  have P1 := P.kept f1.1 (fun q hq => f1.2 q (by omega))
  have han : fX1_anew N h = some (an h N) := qx_anew S
  obtain ⟨f2, S2, Q2, t2⟩ := no_all S1 1
  cases yo with
  | none =>
    simp only [PX] at P1
    refine ⟨sI (an h N) N 4 1, ?_, f1.trans f2, V.fin (Q1.trans Q2) t2 (by decide)⟩
    simp only [fX1_recall, ab_ckq S.o, han, bdS, b2S, bxL, bxR, onN, onS, g0_3 S1.o, P1, qx_no S1, recallR, onI]
  | some y =>
    have R1 := (V.xr I P.yk).kept Q1
    obtain ⟨d, qa, e1, D, K⟩ := P1
    have Z1 : XD (an h N) N E d qa y := ⟨S1, e1, D, lE, K⟩
    have hk6 := K.lt (j := 2) (by omega) (by omega)
    have h3 := nI_m1 (n := y.1 2) (by omega) x
    obtain ⟨dlo, do0, dr0, da0, dr1, da1, dr2, da2, dr3, da3, dr4, da4, dr5, da5, dr6, da6, dr7, da7, dr8, da8, dn2, dn3, dn4, dn5, dn6, dn8, dn9, dn7, dv17, dv18, dvf, dt0, dt1, dt2, dt3, dt4, dt5, dt6⟩ := id D
    cases hx : ixo (some y) 2 x with
    | none =>
      refine ⟨sI (an h N) N 4 1, ?_, f1.trans f2, ?_⟩
      · simp only [fX1_recall, ab_ckq S.o, han, bdS, b2S, bxL, bxR, onN, onS, g0_3 S1.o, e1, g5_9 do0, dn2, qx_in, h3, recallR, onI_none hx]
        unfold ixo at hx
        by_cases h1 : x < 0
        · simp only [h1, if_true, bdS, b2S, bxL, bxR, onN, onS, qx_no S1]
        · by_cases h2 : nI (y.1 2) ≤ x
          · simp only [h1, h2, if_true, if_false, bdS, b2S, bxL, bxR, onN, onS, qx_no S1]
          · simp only [h1, h2, if_false] at hx
            cases hx
      · simp only [recallR, onI_none hx]
        exact V.fin (Q1.trans Q2) t2 (by decide)
    | some kt =>
      obtain ⟨y', e', rfl, hi, hi6⟩ := ixo_fits (by omega) P.yk hx
      cases e'
      have hh := qx_recL Z1 R1 hi6 (y.1 6) 0 300000 0 (by omega) (by have := K.h6; omega)
      rw [nI_0] at hh
      refine ⟨an h N, ?_, f1, ?_⟩
      · simp only [fX1_recall, ab_ckq S.o, han, bdS, b2S, bxL, bxR, onN, onS, g0_3 S1.o, e1, g5_9 do0, dn2, qx_in, h3, nI_pos (show kt < 2 ^ 31 by omega), nI_ge hi (show y.1 2 < 2 ^ 31 by omega), if_false, show ¬ ((1 : Int32) = 0) from by decide, S1.f, hh, recallR, onI_some hx]
      · simp only [recallR, onI_some hx]
        exact V.fin Q1 t1 (by decide)
theorem m_recall {N E : Nat} (x : Int32) : MOp N E (fX5_recall N x) (fun yo s => recallR yo s x) := by
  intro h yo s ⟨S, P, V, lE⟩ I
  obtain ⟨f1, S1, Q1⟩ := th_all S 0
  have P1 := P.kept f1.1 (fun q hq => f1.2 q (by omega))
  obtain ⟨f2, S2, Q2, t2, w2⟩ := rf_all S1 1
  cases yo with
  | none =>
    simp only [PM] at P1
    refine ⟨rf (sI h N 0 0) N 1, ?_, f1.trans f2, V.fin (Q1.trans Q2) t2 w2⟩
    simp only [fX5_recall, ab_ckq S.o, ab_pIq S.o S.1, bdS, b2S, bxL, bxR, onN, onS, g4_3 S1.o, P1, fX5_recall_b27, qm_refused S1, recallR, onI, rf]
  | some y =>
    have R1 := (V.mr I P.yk).kept Q1
    obtain ⟨d, e1, D, K⟩ := P1
    have Z1 : MD (sI h N 0 0) N E d y := ⟨S1, e1, D, lE, K⟩
    have hk6 := K.lt (j := 2) (by omega) (by omega)
    obtain ⟨dlo, do0, dv0, dv1, dn2, dn3, dn4, dn5, dn6, dn7, dn8, dn9, dr11, da11, dv11, dr12, da12, dv12, dr13, da13, dv13, dr14, da14, dv14, dr15, da15, dv15, dr16, da16, dv16, dr17, da17, dv17, dr18, da18, dv18, dr19, da19, dv19, dr20, da20, dv20, dr21, da21, dv21, dr22, da22, dv22, dr23, da23, dv23, dr24, da24, dv24, dr25, da25, dv25, dr26, da26, dv26, dr27, da27, dv27, dr28, da28, dv28, dr29, da29, dv29, dr30, da30, dv30, dr31, da31, dv31, dr32, da32, dv32, dr33, da33, dv33⟩ := id D
    cases hx : ixo (some y) 2 x with
    | none =>
      refine ⟨rf (sI h N 0 0) N 1, ?_, f1.trans f2, ?_⟩
      · simp only [fX5_recall, ab_ckq S.o, ab_pIq S.o S.1, bdS, b2S, bxL, bxR, onN, onS, g4_3 S1.o, e1, g13_2 do0, dn2, recallR, onI_none hx, fX5_recall_b27, qm_refused S1, rf]
        unfold ixo at hx
        by_cases h1 : x < 0
        · simp only [h1, if_true]
        · by_cases h2 : nI (y.1 2) ≤ x
          · simp only [h1, Int32.not_lt.mpr h2, if_false]
          · simp only [h1, h2, if_false] at hx
            cases hx
      · simp only [recallR, onI_none hx]
        exact V.fin (Q1.trans Q2) t2 w2
    | some kt =>
      obtain ⟨y', e', rfl, hi, hi6⟩ := ixo_fits (by omega) P.yk hx
      cases e'
      have hh := qm_recL Z1 R1 hi6 (y.1 6) 0 300000 0 (by omega) (by have := K.h6; omega)
      rw [nI_0] at hh
      obtain ⟨f3, S3, Q3, t3, w3⟩ := rf_all S1 0
      refine ⟨rf (sI h N 0 0) N 0, ?_, f1.trans f3, ?_⟩
      · simp only [fX5_recall, ab_ckq S.o, ab_pIq S.o S.1, bdS, b2S, bxL, bxR, onN, onS, g4_3 S1.o, e1, g13_2 do0, dn2, nI_pos (show kt < 2 ^ 31 by omega), nI_lt hi (show y.1 2 < 2 ^ 31 by omega), if_true, if_false, S1.f, hh, recallR, onI_some hx]
      · simp only [recallR, onI_some hx]
        exact V.fin (Q1.trans Q3) t3 w3
