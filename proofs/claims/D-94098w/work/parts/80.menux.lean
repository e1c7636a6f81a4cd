/-! menu: the component -/
theorem qx_cheapL {h : Hp} {N E d : Nat} {qa : Nat → Nat → Nat} {y : Dy} (Z : XD h N E d qa y) {i : Nat} (hi : i < 14) {but : Int32} : ∀ (j k n : Nat) (st : Option Nat), (∀ b, st = some b → b < y.1 3) → k + j = y.1 3 → j < n → fX1_cheapest_l5 N n (nI i) but (oI st) (nI k) h = some (oI (lp (chS (fun d => aF h (N + 17) (6 * i + d)) but) j k st), h) := by
  have h3 := Z.2.2.2.2.lt (j := 3) (by omega) (by omega)
  intro j
  induction j with
  | zero =>
    intro k n st hb hk hn
    cases n with
    | zero => omega
    | succ n =>
      obtain ⟨S, e1, D, lE, K⟩ := id Z
      obtain ⟨hz, hfu0, o0, o1, r0_0, o2, r0_2, o3, r2_0, r2_1, o4, r2_2, o5, r0_8, o6, o7, o8, r6_0, r6_1, o9, o10, o11, r9_0, r9_1, o32, o33, o34, r32_0, r32_1, o35, o36, o37, r35_0, r35_1, o38, o39, o40, r38_0, r38_1, r0_9, r0_10, o12, r0_12, o13, r0_13, o14, r0_14, o15, r0_15, o16, r0_18, o17, r0_19, o18, r0_20, o19, r0_22, o20, r0_23, o21, r0_24, o22, r0_25, o23, r0_28, o24, r0_29, o25, r0_30, o26, r0_31, o27, r0_35, o28, r0_36, o29, r0_37, o30, r0_38, o31, r0_39, d5_0, d5_1, d5_2⟩ := id S
      obtain ⟨dlo, do0, dr0, da0, dr1, da1, dr2, da2, dr3, da3, dr4, da4, dr5, da5, dr6, da6, dr7, da7, dr8, da8, dn2, dn3, dn4, dn5, dn6, dn8, dn9, dn7, dv17, dv18, dvf, dt0, dt1, dt2, dt3, dt4, dt5, dt6⟩ := id D
      obtain ⟨yc2, yc3, yc4, yc5, yc6, yc7, yc8, yc9, yyk, yyd, yyf, yyh, yyc, yyl, yyp, yyhot, yyby⟩ := id K
      simp only [fX1_cheapest_l5, g0_3 o0, e1, bdS, b2S, bxL, bxR, onN, onS, g5_10 do0, dn3, nI_le (show y.1 3 ≤ k by omega) (by omega), if_true, lp]
  | succ j ih =>
    intro k n st hb hk hn
    cases n with
    | zero => omega
    | succ n =>
      have hk3 : k < y.1 3 := by omega
      have hb' : ∀ b, chS (fun d => aF h (N + 17) (6 * i + d)) but k st = some b → b < y.1 3 := fun b e => by
        rcases chS_c (r := fun d => aF h (N + 17) (6 * i + d)) (but := but) (k := k) (st := st) with e2 | e2
        · rw [e2] at e; exact hb b e
        · rw [e2] at e
          have := Option.some.inj e
          omega
      have i1 := ih (k + 1) n _ hb' (by omega) (by omega)
      rw [lp, ← i1]
      obtain ⟨S, e1, D, lE, K⟩ := id Z
      obtain ⟨hz, hfu0, o0, o1, r0_0, o2, r0_2, o3, r2_0, r2_1, o4, r2_2, o5, r0_8, o6, o7, o8, r6_0, r6_1, o9, o10, o11, r9_0, r9_1, o32, o33, o34, r32_0, r32_1, o35, o36, o37, r35_0, r35_1, o38, o39, o40, r38_0, r38_1, r0_9, r0_10, o12, r0_12, o13, r0_13, o14, r0_14, o15, r0_15, o16, r0_18, o17, r0_19, o18, r0_20, o19, r0_22, o20, r0_23, o21, r0_24, o22, r0_25, o23, r0_28, o24, r0_29, o25, r0_30, o26, r0_31, o27, r0_35, o28, r0_36, o29, r0_37, o30, r0_38, o31, r0_39, d5_0, d5_1, d5_2⟩ := id S
      obtain ⟨dlo, do0, dr0, da0, dr1, da1, dr2, da2, dr3, da3, dr4, da4, dr5, da5, dr6, da6, dr7, da7, dr8, da8, dn2, dn3, dn4, dn5, dn6, dn8, dn9, dn7, dv17, dv18, dvf, dt0, dt1, dt2, dt3, dt4, dt5, dt6⟩ := id D
      obtain ⟨yc2, yc3, yc4, yc5, yc6, yc7, yc8, yc9, yyk, yyd, yyf, yyh, yyc, yyl, yyp, yyhot, yyby⟩ := id K
      have hv := aIn o17 (show 6 * i + k < 84 by omega)
      by_cases c1 : nI k = but
      · simp only [fX1_cheapest_l5, g0_3 o0, e1, bdS, b2S, bxL, bxR, onN, onS, g5_10 do0, dn3, nI_ge hk3 (by omega), if_false, g0_19 o0, r0_19, nI6, hv, if_pos c1, chS, nI_1]
      · by_cases c2 : aF h (N + 17) (6 * i + k) = -1
        · simp only [fX1_cheapest_l5, g0_3 o0, e1, bdS, b2S, bxL, bxR, onN, onS, g5_10 do0, dn3, nI_ge hk3 (by omega), if_false, g0_19 o0, r0_19, nI6, hv, if_neg c1, if_pos c2, chS, nI_1]
        · cases st with
          | none =>
            simp only [fX1_cheapest_l5, g0_3 o0, e1, bdS, b2S, bxL, bxR, onN, onS, g5_10 do0, dn3, nI_ge hk3 (by omega), if_false, g0_19 o0, r0_19, nI6, hv, if_neg c1, if_neg c2, chS, nI_1, oI, if_true]
          | some b =>
            have hb3 := hb b rfl
            have hv2 := aIn o17 (show 6 * i + b < 84 by omega)
            by_cases c3 : aF h (N + 17) (6 * i + b) ≤ aF h (N + 17) (6 * i + k)
            · simp only [fX1_cheapest_l5, g0_3 o0, e1, bdS, b2S, bxL, bxR, onN, onS, g5_10 do0, dn3, nI_ge hk3 (by omega), if_false, g0_19 o0, r0_19, nI6, hv, if_neg c1, if_neg c2, chS, nI_1, oI, nI_m1ne (show b < 2 ^ 31 by omega), hv2, if_pos c3]
            · simp only [fX1_cheapest_l5, g0_3 o0, e1, bdS, b2S, bxL, bxR, onN, onS, g5_10 do0, dn3, nI_ge hk3 (by omega), if_false, g0_19 o0, r0_19, nI6, hv, if_neg c1, if_neg c2, chS, nI_1, oI, nI_m1ne (show b < 2 ^ 31 by omega), hv2, if_neg c3]
theorem qx_cheap {h : Hp} {N E d : Nat} {qa : Nat → Nat → Nat} {y : Dy} (Z : XD h N E d qa y) {i : Nat} (hi : i < 14) {but : Int32} {r : Nat → Int32} (hr : ∀ d, d < y.1 3 → aF h (N + 17) (6 * i + d) = r d) : fX1_cheapest N (nI i) but h = some (oI (chI r (y.1 3) but), h) := by
  have h3 := Z.2.2.2.2.lt (j := 3) (by omega) (by omega)
  have := qx_cheapL Z hi (but := but) (y.1 3) 0 300000 none (fun b e => by cases e) (by omega) (by omega)
  rw [nI_0] at this
  rw [← chI_cong hr]
  simp only [fX1_cheapest, ab_ckq Z.1.o, Z.1.f]
  exact this
/-- the table of least coin from a row on -/
def TL (h : Hp) (a : Nat) (y : Dy) (t n i : Nat) : Prop := ∀ i', i ≤ i' → i' < n → ∀ d, d < y.1 3 → aF h a (6 * i' + d) = rowR y t (n - 1 - i') d
theorem qx_layRow {N E d : Nat} {qa : Nat → Nat → Nat} {y : Dy} {t n i : Nat} (ht : t < y.1 4) (hn : n ≤ 14) (hi : i < n) {K4 : Option Nat → Int32 → Int32 → Hp → Option (Int32 × Hp)} : ∀ (j k f : Nat) (h : Hp), XD h N E d qa y → TL h (N + 17) y t n (i + 1) → (∀ d, d < k → aF h (N + 17) (6 * i + d) = rowR y t (n - 1 - i) d) → k + j = y.1 3 → j < f → ∃ h', fX1_lays_l11 N K4 f (some (qa 2 t)) (nI n) (nI i) (nI k) h = K4 (some (qa 2 t)) (nI n) (nI i - 1) h' ∧ Fw N (Aq (N + 17)) B0 h h' ∧ TL h' (N + 17) y t n i := by
  intro j
  induction j with
  | zero =>
    intro k f h Z T Tk hk hf
    cases f with
    | zero => omega
    | succ f =>
      have h3 := Z.2.2.2.2.lt (j := 3) (by omega) (by omega)
      have hm1 : nI i + (-1 : Int32) = nI i - 1 := (Int32.sub_eq_add_neg _ _).symm
      refine ⟨h, ?_, Fw.rf, fun i' h1 h2 d' hd => ?_⟩
      · obtain ⟨S, e1, D, lE, K⟩ := id Z
        obtain ⟨hz, hfu0, o0, o1, r0_0, o2, r0_2, o3, r2_0, r2_1, o4, r2_2, o5, r0_8, o6, o7, o8, r6_0, r6_1, o9, o10, o11, r9_0, r9_1, o32, o33, o34, r32_0, r32_1, o35, o36, o37, r35_0, r35_1, o38, o39, o40, r38_0, r38_1, r0_9, r0_10, o12, r0_12, o13, r0_13, o14, r0_14, o15, r0_15, o16, r0_18, o17, r0_19, o18, r0_20, o19, r0_22, o20, r0_23, o21, r0_24, o22, r0_25, o23, r0_28, o24, r0_29, o25, r0_30, o26, r0_31, o27, r0_35, o28, r0_36, o29, r0_37, o30, r0_38, o31, r0_39, d5_0, d5_1, d5_2⟩ := id S
        obtain ⟨dlo, do0, dr0, da0, dr1, da1, dr2, da2, dr3, da3, dr4, da4, dr5, da5, dr6, da6, dr7, da7, dr8, da8, dn2, dn3, dn4, dn5, dn6, dn8, dn9, dn7, dv17, dv18, dvf, dt0, dt1, dt2, dt3, dt4, dt5, dt6⟩ := id D
        obtain ⟨yc2, yc3, yc4, yc5, yc6, yc7, yc8, yc9, yyk, yyd, yyf, yyh, yyc, yyl, yyp, yyhot, yyby⟩ := id K
        simp only [fX1_lays_l11, g0_3 o0, e1, bdS, b2S, bxL, bxR, onN, onS, g5_10 do0, dn3, nI_le (show y.1 3 ≤ k by omega) (by omega), if_true, hm1]
      · by_cases e : i' = i
        · subst e; exact Tk d' (by omega)
        · exact T i' (by omega) h2 d' hd
  | succ j ih =>
    intro k f h Z T Tk hk hf
    cases f with
    | zero => omega
    | succ f =>
      have h3 := Z.2.2.2.2.lt (j := 3) (by omega) (by omega)
      have hk3 : k < y.1 3 := by omega
      have fw : Fw N (Aq (N + 17)) B0 h (sA h (N + 17) (6 * i + k) (rowR y t (n - 1 - i) k)) := Fw.sA rfl
      have Z1 := Z.fw fw (fun q a => by simp only [Aq] at a; omega)
      have p17 : isA h (N + 17) 0 84 := by
        have hS := Z.1
        obtain ⟨hz, hfu0, o0, o1, r0_0, o2, r0_2, o3, r2_0, r2_1, o4, r2_2, o5, r0_8, o6, o7, o8, r6_0, r6_1, o9, o10, o11, r9_0, r9_1, o32, o33, o34, r32_0, r32_1, o35, o36, o37, r35_0, r35_1, o38, o39, o40, r38_0, r38_1, r0_9, r0_10, o12, r0_12, o13, r0_13, o14, r0_14, o15, r0_15, o16, r0_18, o17, r0_19, o18, r0_20, o19, r0_22, o20, r0_23, o21, r0_24, o22, r0_25, o23, r0_28, o24, r0_29, o25, r0_30, o26, r0_31, o27, r0_35, o28, r0_36, o29, r0_37, o30, r0_38, o31, r0_39, d5_0, d5_1, d5_2⟩ := id hS
        exact o17
      have es : ∀ q, aF (sA h (N + 17) (6 * i + k) (rowR y t (n - 1 - i) k)) (N + 17) q = if q = 6 * i + k then rowR y t (n - 1 - i) k else aF h (N + 17) q := fun q => by rw [aF_sA p17, if_pos rfl, upd]
      obtain ⟨h', s1, s2, s3⟩ := ih (k + 1) f _ Z1 (fun i' a b d' hd => by rw [es, if_neg (by omega)]; exact T i' a b d' hd) (fun d' hd => by
        rw [es]
        by_cases e : d' = k
        · subst e; rw [if_pos rfl]
        · rw [if_neg (by omega)]; exact Tk d' (by omega)) (by omega) (by omega)
      refine ⟨h', ?_, fw.trans s2, s3⟩
      rw [← s1]
      have hbar := qx_barred Z ht hk3
      obtain ⟨n', hn'⟩ : ∃ n', n = n' + 1 := ⟨n - 1, by omega⟩
      have hz := Z.1.1
      have hst := fun v => sIn (v := v) p17 (show hfz h ≤ N + 17 by omega) (show 6 * i + k < 84 by omega)
      by_cases hlast : i = n'
      · have e0 : n - 1 - i = 0 := by omega
        rw [e0]
        have hc1 : nI i = nI n - 1 := by rw [hn', nI_pred, hlast]
        obtain ⟨S, e1, D, lE, K⟩ := id Z
        obtain ⟨hz, hfu0, o0, o1, r0_0, o2, r0_2, o3, r2_0, r2_1, o4, r2_2, o5, r0_8, o6, o7, o8, r6_0, r6_1, o9, o10, o11, r9_0, r9_1, o32, o33, o34, r32_0, r32_1, o35, o36, o37, r35_0, r35_1, o38, o39, o40, r38_0, r38_1, r0_9, r0_10, o12, r0_12, o13, r0_13, o14, r0_14, o15, r0_15, o16, r0_18, o17, r0_19, o18, r0_20, o19, r0_22, o20, r0_23, o21, r0_24, o22, r0_25, o23, r0_28, o24, r0_29, o25, r0_30, o26, r0_31, o27, r0_35, o28, r0_36, o29, r0_37, o30, r0_38, o31, r0_39, d5_0, d5_1, d5_2⟩ := id S
        obtain ⟨dlo, do0, dr0, da0, dr1, da1, dr2, da2, dr3, da3, dr4, da4, dr5, da5, dr6, da6, dr7, da7, dr8, da8, dn2, dn3, dn4, dn5, dn6, dn8, dn9, dn7, dv17, dv18, dvf, dt0, dt1, dt2, dt3, dt4, dt5, dt6⟩ := id D
        obtain ⟨yc2, yc3, yc4, yc5, yc6, yc7, yc8, yc9, yyk, yyd, yyf, yyh, yyc, yyl, yyp, yyhot, yyby⟩ := id K
        obtain ⟨u1, u2, u3, u4, u5⟩ := dt1 k hk3
        by_cases hb : brdV y t k = 0
        · have ea : ∀ v : Int32, v + 0 = v := fun v => Int32.add_zero v
          simp only [fX1_lays_l11, g0_3 o0, e1, bdS, b2S, bxL, bxR, onN, onS, g5_10 do0, dn3, nI_ge hk3 (by omega), if_false, if_pos hc1, fX1_lays_b43, hbar, hb, if_true, fX1_lays_b73, g0_19 o0, r0_19, show ¬ ((1 : Int32) = 0) from by decide, g5_1 do0, dr1, aRn da1 (show k < 6 by omega), u2, g7_3 u3, u5, ea, nI6, hst, nI_1, rowR]
        · simp only [fX1_lays_l11, g0_3 o0, e1, bdS, b2S, bxL, bxR, onN, onS, g5_10 do0, dn3, nI_ge hk3 (by omega), if_false, if_pos hc1, fX1_lays_b43, hbar, hb, if_true, fX1_lays_b73, g0_19 o0, r0_19, nI6, hst, nI_1, rowR]
      · obtain ⟨m, hm⟩ : ∃ m, n - 1 - i = m + 1 := ⟨n - 1 - i - 1, by omega⟩
        rw [hm]
        have hc1 : ¬ nI i = nI n - 1 := by rw [hn', nI_pred, nI_eq (by omega) (by omega)]; exact hlast
        have hch := qx_cheap Z (i := i + 1) (by omega) (but := nI k) (r := rowR y t m) (fun d' hd => by
          have := T (i + 1) (by omega) (by omega) d' hd
          rw [this]
          congr 1; omega)
        obtain ⟨S, e1, D, lE, K⟩ := id Z
        obtain ⟨hz, hfu0, o0, o1, r0_0, o2, r0_2, o3, r2_0, r2_1, o4, r2_2, o5, r0_8, o6, o7, o8, r6_0, r6_1, o9, o10, o11, r9_0, r9_1, o32, o33, o34, r32_0, r32_1, o35, o36, o37, r35_0, r35_1, o38, o39, o40, r38_0, r38_1, r0_9, r0_10, o12, r0_12, o13, r0_13, o14, r0_14, o15, r0_15, o16, r0_18, o17, r0_19, o18, r0_20, o19, r0_22, o20, r0_23, o21, r0_24, o22, r0_25, o23, r0_28, o24, r0_29, o25, r0_30, o26, r0_31, o27, r0_35, o28, r0_36, o29, r0_37, o30, r0_38, o31, r0_39, d5_0, d5_1, d5_2⟩ := id S
        obtain ⟨dlo, do0, dr0, da0, dr1, da1, dr2, da2, dr3, da3, dr4, da4, dr5, da5, dr6, da6, dr7, da7, dr8, da8, dn2, dn3, dn4, dn5, dn6, dn8, dn9, dn7, dv17, dv18, dvf, dt0, dt1, dt2, dt3, dt4, dt5, dt6⟩ := id D
        obtain ⟨yc2, yc3, yc4, yc5, yc6, yc7, yc8, yc9, yyk, yyd, yyf, yyh, yyc, yyl, yyp, yyhot, yyby⟩ := id K
        obtain ⟨u1, u2, u3, u4, u5⟩ := dt1 k hk3
        by_cases hb : brdV y t k = 0
        · cases ho : chI (rowR y t m) (y.1 3) (nI k) with
          | none =>
            rw [ho] at hch
            simp only [fX1_lays_l11, g0_3 o0, e1, bdS, b2S, bxL, bxR, onN, onS, g5_10 do0, dn3, nI_ge hk3 (by omega), if_false, if_neg hc1, nI_1, hch, fX1_lays_b43, hbar, hb, if_true, oI, fX1_lays_b73, g0_19 o0, r0_19, nI6, hst, rowR, ho]
          | some b =>
            have hb3 := (chI_some ho).1
            rw [ho] at hch
            have hT := T (i + 1) (by omega) (by omega) b hb3
            rw [show n - 1 - (i + 1) = m by omega] at hT
            simp only [fX1_lays_l11, g0_3 o0, e1, bdS, b2S, bxL, bxR, onN, onS, g5_10 do0, dn3, nI_ge hk3 (by omega), if_false, if_neg hc1, nI_1, hch, fX1_lays_b43, hbar, hb, if_true, oI, nI_m1ne (show b < 2 ^ 31 by omega), fX1_lays_b73, g0_19 o0, r0_19, show ¬ ((1 : Int32) = 0) from by decide, g5_1 do0, dr1, aRn da1 (show k < 6 by omega), u2, g7_3 u3, u5, nI6, aIn o17 (show 6 * (i + 1) + b < 84 by omega), hT, hst, rowR, ho]
        · simp only [fX1_lays_l11, g0_3 o0, e1, bdS, b2S, bxL, bxR, onN, onS, g5_10 do0, dn3, nI_ge hk3 (by omega), if_false, if_neg hc1, nI_1, hch, fX1_lays_b43, hbar, hb, if_true, fX1_lays_b73, g0_19 o0, r0_19, nI6, hst, rowR]
theorem qx_laysL {N E d : Nat} {qa : Nat → Nat → Nat} {y : Dy} {t n : Nat} (ht : t < y.1 4) (hn : n ≤ 14) (hn1 : 1 ≤ n) : ∀ (m f : Nat) (h : Hp), XD h N E d qa y → TL h (N + 17) y t n m → m ≤ n → m < f → ∃ h', fX1_lays_l4 N f (some (qa 2 t)) (nI n) (nI m - 1) h = some (coV y t n, h') ∧ Fw N (Aq (N + 17)) B0 h h' ∧ TL h' (N + 17) y t n 0 := by
  intro m
  induction m with
  | zero =>
    intro f h Z T hm hf
    cases f with
    | zero => omega
    | succ f =>
      have h3 := Z.2.2.2.2.lt (j := 3) (by omega) (by omega)
      have hch := qx_cheap Z (i := 0) (by omega) (but := -1) (r := rowR y t (n - 1)) (fun d' hd => by
        have := T 0 (by omega) (by omega) d' hd
        rw [Nat.sub_zero] at this
        exact this)
      rw [nI_0] at hch
      refine ⟨h, ?_, Fw.rf, T⟩
      obtain ⟨S, e1, D, lE, K⟩ := id Z
      obtain ⟨hz, hfu0, o0, o1, r0_0, o2, r0_2, o3, r2_0, r2_1, o4, r2_2, o5, r0_8, o6, o7, o8, r6_0, r6_1, o9, o10, o11, r9_0, r9_1, o32, o33, o34, r32_0, r32_1, o35, o36, o37, r35_0, r35_1, o38, o39, o40, r38_0, r38_1, r0_9, r0_10, o12, r0_12, o13, r0_13, o14, r0_14, o15, r0_15, o16, r0_18, o17, r0_19, o18, r0_20, o19, r0_22, o20, r0_23, o21, r0_24, o22, r0_25, o23, r0_28, o24, r0_29, o25, r0_30, o26, r0_31, o27, r0_35, o28, r0_36, o29, r0_37, o30, r0_38, o31, r0_39, d5_0, d5_1, d5_2⟩ := id S
      obtain ⟨dlo, do0, dr0, da0, dr1, da1, dr2, da2, dr3, da3, dr4, da4, dr5, da5, dr6, da6, dr7, da7, dr8, da8, dn2, dn3, dn4, dn5, dn6, dn8, dn9, dn7, dv17, dv18, dvf, dt0, dt1, dt2, dt3, dt4, dt5, dt6⟩ := id D
      obtain ⟨yc2, yc3, yc4, yc5, yc6, yc7, yc8, yc9, yyk, yyd, yyf, yyh, yyc, yyl, yyp, yyhot, yyby⟩ := id K
      cases ho : chI (rowR y t (n - 1)) (y.1 3) (-1) with
      | none =>
        rw [ho] at hch
        simp only [fX1_lays_l4, show nI 0 - 1 < (0 : Int32) from by decide +kernel, if_true, hch, bdS, b2S, bxL, bxR, onN, onS, oI, coV, ho, vlO]
      | some b =>
        rw [ho] at hch
        have hb3 := (chI_some ho).1
        have hT := T 0 (by omega) (by omega) b hb3
        rw [Nat.sub_zero, Nat.mul_zero, Nat.zero_add] at hT
        simp only [fX1_lays_l4, show nI 0 - 1 < (0 : Int32) from by decide +kernel, if_true, hch, bdS, b2S, bxL, bxR, onN, onS, oI, nI_m1ne (show b < 2 ^ 31 by omega), if_false, g0_19 o0, r0_19, aIn o17 (show b < 84 by omega), hT, coV, ho, vlO]
  | succ m ih =>
    intro f h Z T hm hf
    cases f with
    | zero => omega
    | succ f =>
      have h3 := Z.2.2.2.2.lt (j := 3) (by omega) (by omega)
      obtain ⟨h1, q1, q2, q3⟩ := qx_layRow ht hn (show m < n by omega) (K4 := fX1_lays_l4 N f) (y.1 3) 0 300000 h Z T (fun d' hd => absurd hd (Nat.not_lt_zero d')) (by omega) (by omega)
      have Z1 := Z.fw q2 (fun q a => by simp only [Aq] at a; omega)
      obtain ⟨h', s1, s2, s3⟩ := ih f h1 Z1 q3 (by omega) (by omega)
      refine ⟨h', ?_, q2.trans s2, s3⟩
      rw [← s1, ← q1, nI_0]
      simp only [fX1_lays_l4, nI_pred, nI_pos (show m < 2 ^ 31 by omega), if_false, Z.1.f]
theorem qx_lays {N E d : Nat} {qa : Nat → Nat → Nat} {y : Dy} {t n : Nat} {h : Hp} (Z : XD h N E d qa y) (ht : t < y.1 4) (hn : n ≤ 14) (hn1 : 1 ≤ n) : ∃ h', fX1_lays N (some (qa 2 t)) (nI n) h = some (coV y t n, h') ∧ Fw N (Aq (N + 17)) B0 h h' ∧ TL h' (N + 17) y t n 0 := by
  obtain ⟨h', q1, q2, q3⟩ := qx_laysL ht hn hn1 n 300000 h Z (fun i' a b => by omega) (Nat.le_refl _) (by omega)
  refine ⟨h', ?_, q2, q3⟩
  simp only [fX1_lays, ab_ckq Z.1.o, Z.1.f, q1]
theorem qx_menuL {N E d : Nat} {qa : Nat → Nat → Nat} {y : Dy} {t n : Nat} (hc : ¬ coV y t n = -1) (hn : n ≤ 14) : ∀ (j k f : Nat) (h : Hp), XD h N E d qa y → TL h (N + 17) y t n 0 → (∀ k', k' < k → aF h (N + 18) k' = mnL y t n k') → k + j = n → j < f → ∃ h', fX1_menu_l85 N f (nI n) (coV y t n) (nI k) h = some (coV y t n, h') ∧ Fw N (Aq (N + 18)) B0 h h' ∧ ∀ k', k' < n → aF h' (N + 18) k' = mnL y t n k' := by
  intro j
  induction j with
  | zero =>
    intro k f h Z T M hk hf
    cases f with
    | zero => omega
    | succ f =>
      refine ⟨h, ?_, Fw.rf, fun k' a => M k' (by omega)⟩
      simp only [fX1_menu_l85, nI_le (show n ≤ k by omega) (by omega), if_true]
  | succ j ih =>
    intro k f h Z T M hk hf
    cases f with
    | zero => omega
    | succ f =>
      have hkn : k < n := by omega
      obtain ⟨b, b1, b2, b3⟩ := mnL_some hc k hkn
      have fw : Fw N (Aq (N + 18)) B0 h (sA h (N + 18) k (mnL y t n k)) := Fw.sA rfl
      have Z1 := Z.fw fw (fun q a => by simp only [Aq] at a; omega)
      have p18 : isA h (N + 18) 0 14 := by
        have hS := Z.1
        obtain ⟨hz, hfu0, o0, o1, r0_0, o2, r0_2, o3, r2_0, r2_1, o4, r2_2, o5, r0_8, o6, o7, o8, r6_0, r6_1, o9, o10, o11, r9_0, r9_1, o32, o33, o34, r32_0, r32_1, o35, o36, o37, r35_0, r35_1, o38, o39, o40, r38_0, r38_1, r0_9, r0_10, o12, r0_12, o13, r0_13, o14, r0_14, o15, r0_15, o16, r0_18, o17, r0_19, o18, r0_20, o19, r0_22, o20, r0_23, o21, r0_24, o22, r0_25, o23, r0_28, o24, r0_29, o25, r0_30, o26, r0_31, o27, r0_35, o28, r0_36, o29, r0_37, o30, r0_38, o31, r0_39, d5_0, d5_1, d5_2⟩ := id hS
        exact o18
      obtain ⟨h', s1, s2, s3⟩ := ih (k + 1) f _ Z1 (fun i' a b' d' hd => by rw [aF_sA p18, if_neg (by omega)]; exact T i' a b' d' hd) (fun k' hk' => by
        rw [aF_sA p18, if_pos rfl, upd]
        by_cases e : k' = k
        · subst e; rw [if_pos rfl]
        · rw [if_neg e]; exact M k' (by omega)) (by omega) (by omega)
      refine ⟨h', ?_, fw.trans s2, s3⟩
      have hz := Z.1.1
      have hst := fun v => sIn (v := v) p18 (show hfz h ≤ N + 18 by omega) (show k < 14 by omega)
      have hch := qx_cheap Z (i := k) (by omega) (but := if k = 0 then -1 else mnL y t n (k - 1)) (r := rowR y t (n - 1 - k)) (fun d' hd => T k (by omega) hkn d' hd)
      rw [b3] at hch
      have e3 : oI (some b) = mnL y t n k := b1.symm
      rw [e3] at hch
      rw [← s1]
      obtain ⟨S, e1, D, lE, K⟩ := id Z
      obtain ⟨hz, hfu0, o0, o1, r0_0, o2, r0_2, o3, r2_0, r2_1, o4, r2_2, o5, r0_8, o6, o7, o8, r6_0, r6_1, o9, o10, o11, r9_0, r9_1, o32, o33, o34, r32_0, r32_1, o35, o36, o37, r35_0, r35_1, o38, o39, o40, r38_0, r38_1, r0_9, r0_10, o12, r0_12, o13, r0_13, o14, r0_14, o15, r0_15, o16, r0_18, o17, r0_19, o18, r0_20, o19, r0_22, o20, r0_23, o21, r0_24, o22, r0_25, o23, r0_28, o24, r0_29, o25, r0_30, o26, r0_31, o27, r0_35, o28, r0_36, o29, r0_37, o30, r0_38, o31, r0_39, d5_0, d5_1, d5_2⟩ := id S
      obtain ⟨dlo, do0, dr0, da0, dr1, da1, dr2, da2, dr3, da3, dr4, da4, dr5, da5, dr6, da6, dr7, da7, dr8, da8, dn2, dn3, dn4, dn5, dn6, dn8, dn9, dn7, dv17, dv18, dvf, dt0, dt1, dt2, dt3, dt4, dt5, dt6⟩ := id D
      obtain ⟨yc2, yc3, yc4, yc5, yc6, yc7, yc8, yc9, yyk, yyd, yyf, yyh, yyc, yyl, yyp, yyhot, yyby⟩ := id K
      cases k with
      | zero =>
        rw [if_pos rfl] at hch
        simp only [fX1_menu_l85, nI_ge hkn (by omega), if_false, g0_20 o0, r0_20, bdS, b2S, bxL, bxR, onN, onS, if_pos nI_0, hch, hst, nI_1]
      | succ k =>
        rw [if_neg (by omega), Nat.add_sub_cancel] at hch
        have hk0 : ¬ nI (k + 1) = 0 := nI_ne0 (by omega) (by omega)
        simp only [fX1_menu_l85, nI_ge hkn (by omega), if_false, g0_20 o0, r0_20, bdS, b2S, bxL, bxR, onN, onS, if_neg hk0, nI_pred, aIn o18 (show k < 14 by omega), M k (by omega), hch, hst, nI_1]
def setM (s : St) (n : Nat) (g : Nat → Int32) : St := (s.1, fun j => if j = 0 then upd (s.2 0) 6 (nI n) else if j = 5 then fun i => if i < n then g i else s.2 5 i else s.2 j)
noncomputable def menuR (yo : Option Dy) (s : St) (x n : Int32) : Int32 × St := onI yo 4 x (-1, fin s 1) fun y t => if n < 1 then (-1, fin s 2) else if 14 < n then (-1, fin s 2) else if coV y t n.toNatClampNeg = -1 then (-1, fin s 6) else (coV y t n.toNatClampNeg, setM (fin s 0) n.toNatClampNeg (mnL y t n.toNatClampNeg))
theorem days_n {n : Int32} (h1 : ¬ n < 1) (h2 : ¬ 14 < n) : ∃ m, n = nI m ∧ 1 ≤ m ∧ m ≤ 14 := by
  have h0 : ¬ n < 0 := fun h => h1 (Int32.lt_trans h (by decide))
  obtain ⟨m, hm, rfl⟩ := nI_of h0
  refine ⟨m, rfl, ?_, ?_⟩
  · rcases Nat.eq_zero_or_pos m with e | e
    · subst e; exact absurd (show nI 0 < (1 : Int32) from by decide +kernel) h1
    · exact e
  · exact Nat.not_lt.mp fun h => h2 (nI_lt (a := 14) h hm)
theorem qx_isDiet {h : Hp} {N E d : Nat} {qa : Nat → Nat → Nat} {y : Dy} (Z : XD h N E d qa y) (c : Int32) : fX1_in c 0 (nI (y.1 4) - 1) h = some (b01 (ixo (some y) 4 c).isSome, h) := by
  have h4 := Z.2.2.2.2.lt (j := 4) (by omega) (by omega)
  have h3 := nI_m1 (n := y.1 4) (by omega) c
  rw [qx_in, ixo]
  simp only [h3]
  by_cases h1 : c < 0
  · simp only [h1, if_true]; rfl
  · by_cases h2 : nI (y.1 4) ≤ c
    · simp only [h1, h2, if_true, if_false]; rfl
    · simp only [h1, h2, if_false]; rfl
theorem x_menu {N E : Nat} (x n : Int32) : XOp N E (fX1_menu N x n) (fun yo s => menuR yo s x n) := by
  intro h yo s R I
  obtain ⟨S, P, V, lE⟩ := id R
  obtain ⟨f1, S1, Q1, t1⟩ := an_all S
  have han : fX1_anew N h = some (an h N) := qx_anew S
  cases yo with
  | none =>
    obtain ⟨a1, a2⟩ := xq_end R 1 (by decide)
    refine ⟨_, ?_, a1, a2⟩
    have P1 : gR (an h N) N 3 = none := (P.kept f1.1 (fun q hq => f1.2 q (by omega)))
    simp only [fX1_menu, ab_ckq S.o, han, bdS, b2S, bxL, bxR, onN, onS, g0_3 S1.o, P1, qx_no S1]
    rfl
  | some y =>
    obtain ⟨d, qa, e1, D, K⟩ := id P
    have Z := x_beg R e1 D
    have hdi := qx_isDiet Z x
    cases hx : ixo (some y) 4 x with
    | none =>
      rw [hx] at hdi
      obtain ⟨a1, a2⟩ := xq_end R 1 (by decide)
      simp only [menuR, onI_none hx]
      refine ⟨_, ?_, a1, a2⟩
      obtain ⟨wS, we1, wD, wlE, wK⟩ := id Z
      obtain ⟨whz, whfu0, wo0, wo1, wr0_0, wo2, wr0_2, wo3, wr2_0, wr2_1, wo4, wr2_2, wo5, wr0_8, wo6, wo7, wo8, wr6_0, wr6_1, wo9, wo10, wo11, wr9_0, wr9_1, wo32, wo33, wo34, wr32_0, wr32_1, wo35, wo36, wo37, wr35_0, wr35_1, wo38, wo39, wo40, wr38_0, wr38_1, wr0_9, wr0_10, wo12, wr0_12, wo13, wr0_13, wo14, wr0_14, wo15, wr0_15, wo16, wr0_18, wo17, wr0_19, wo18, wr0_20, wo19, wr0_22, wo20, wr0_23, wo21, wr0_24, wo22, wr0_25, wo23, wr0_28, wo24, wr0_29, wo25, wr0_30, wo26, wr0_31, wo27, wr0_35, wo28, wr0_36, wo29, wr0_37, wo30, wr0_38, wo31, wr0_39, wd5_0, wd5_1, wd5_2⟩ := id wS
      obtain ⟨wdlo, wdo0, wdr0, wda0, wdr1, wda1, wdr2, wda2, wdr3, wda3, wdr4, wda4, wdr5, wda5, wdr6, wda6, wdr7, wda7, wdr8, wda8, wdn2, wdn3, wdn4, wdn5, wdn6, wdn8, wdn9, wdn7, wdv17, wdv18, wdvf, wdt0, wdt1, wdt2, wdt3, wdt4, wdt5, wdt6⟩ := id wD
      obtain ⟨wyc2, wyc3, wyc4, wyc5, wyc6, wyc7, wyc8, wyc9, wyyk, wyyd, wyyf, wyyh, wyyc, wyyl, wyyp, wyyhot, wyyby⟩ := id wK
      simp only [fX1_menu, ab_ckq S.o, han, bdS, b2S, bxL, bxR, onN, onS, g0_3 S1.o, we1, g5_11 wdo0, wdn4, hdi, b01z, if_true, qx_no S1]
    | some t =>
      obtain ⟨y', e', rfl, ht, ht6⟩ := ixo_fits (yo := some y) (by omega) (fun y' e => by cases e; exact K) hx
      cases e'
      rw [hx] at hdi
      simp only [menuR, onI_some hx]
      have bad2 : (n < 1 ∨ 14 < n) → ∃ h', fX1_menu N (nI t) n h = some (-1, h') ∧ Fr N (N + 41) h h' ∧ VX h' N (m5 (some y)) (fin s 2) := fun hb => by
        obtain ⟨a1, a2⟩ := xq_end R 2 (by decide)
        refine ⟨_, ?_, a1, a2⟩
        obtain ⟨wS, we1, wD, wlE, wK⟩ := id Z
        obtain ⟨whz, whfu0, wo0, wo1, wr0_0, wo2, wr0_2, wo3, wr2_0, wr2_1, wo4, wr2_2, wo5, wr0_8, wo6, wo7, wo8, wr6_0, wr6_1, wo9, wo10, wo11, wr9_0, wr9_1, wo32, wo33, wo34, wr32_0, wr32_1, wo35, wo36, wo37, wr35_0, wr35_1, wo38, wo39, wo40, wr38_0, wr38_1, wr0_9, wr0_10, wo12, wr0_12, wo13, wr0_13, wo14, wr0_14, wo15, wr0_15, wo16, wr0_18, wo17, wr0_19, wo18, wr0_20, wo19, wr0_22, wo20, wr0_23, wo21, wr0_24, wo22, wr0_25, wo23, wr0_28, wo24, wr0_29, wo25, wr0_30, wo26, wr0_31, wo27, wr0_35, wo28, wr0_36, wo29, wr0_37, wo30, wr0_38, wo31, wr0_39, wd5_0, wd5_1, wd5_2⟩ := id wS
        obtain ⟨wdlo, wdo0, wdr0, wda0, wdr1, wda1, wdr2, wda2, wdr3, wda3, wdr4, wda4, wdr5, wda5, wdr6, wda6, wdr7, wda7, wdr8, wda8, wdn2, wdn3, wdn4, wdn5, wdn6, wdn8, wdn9, wdn7, wdv17, wdv18, wdvf, wdt0, wdt1, wdt2, wdt3, wdt4, wdt5, wdt6⟩ := id wD
        obtain ⟨wyc2, wyc3, wyc4, wyc5, wyc6, wyc7, wyc8, wyc9, wyyk, wyyd, wyyf, wyyh, wyyc, wyyl, wyyp, wyyhot, wyyby⟩ := id wK
        have hin : fX1_in n 1 14 (an h N) = some (0, an h N) := by
          rw [qx_in]
          by_cases g1 : n < 1
          · rw [if_pos g1]
          · rw [if_neg g1, if_pos (hb.resolve_left g1)]
        simp only [fX1_menu, ab_ckq S.o, han, bdS, b2S, bxL, bxR, onN, onS, g0_3 S1.o, we1, g5_11 wdo0, wdn4, hdi, if_neg b01n, hin, if_true, qx_no S1]
      by_cases g1 : n < 1
      · simp only [g1, if_true]
        exact bad2 (Or.inl g1)
      · by_cases g2 : 14 < n
        · simp only [g1, g2, if_true, if_false]
          exact bad2 (Or.inr g2)
        · obtain ⟨m, rfl, hm1, hm14⟩ := days_n g1 g2
          simp only [g1, g2, if_false, nI_clamp (show m < 2 ^ 31 by omega)]
          obtain ⟨h2, q1, q2, q3⟩ := qx_lays Z ht hm14 hm1
          have Z2 := Z.fw q2 (fun q a => by simp only [Aq] at a; omega)
          have hin : fX1_in (nI m) 1 14 (an h N) = some (1, an h N) := by rw [qx_in, if_neg g1, if_neg g2]
          by_cases hc : coV y t m = -1
          · simp only [hc, if_true]
            obtain ⟨a1, a2⟩ := x_fin2 R q2 (fun q a => by simp only [Aq] at a; omega) (fun k a => a.elim) (fun k a => by simp only [Aq] at a; omega) 6 (by decide)
            refine ⟨_, ?_, a1, a2⟩
            rw [hc] at q1
            obtain ⟨wS, we1, wD, wlE, wK⟩ := id Z
            obtain ⟨whz, whfu0, wo0, wo1, wr0_0, wo2, wr0_2, wo3, wr2_0, wr2_1, wo4, wr2_2, wo5, wr0_8, wo6, wo7, wo8, wr6_0, wr6_1, wo9, wo10, wo11, wr9_0, wr9_1, wo32, wo33, wo34, wr32_0, wr32_1, wo35, wo36, wo37, wr35_0, wr35_1, wo38, wo39, wo40, wr38_0, wr38_1, wr0_9, wr0_10, wo12, wr0_12, wo13, wr0_13, wo14, wr0_14, wo15, wr0_15, wo16, wr0_18, wo17, wr0_19, wo18, wr0_20, wo19, wr0_22, wo20, wr0_23, wo21, wr0_24, wo22, wr0_25, wo23, wr0_28, wo24, wr0_29, wo25, wr0_30, wo26, wr0_31, wo27, wr0_35, wo28, wr0_36, wo29, wr0_37, wo30, wr0_38, wo31, wr0_39, wd5_0, wd5_1, wd5_2⟩ := id wS
            obtain ⟨wdlo, wdo0, wdr0, wda0, wdr1, wda1, wdr2, wda2, wdr3, wda3, wdr4, wda4, wdr5, wda5, wdr6, wda6, wdr7, wda7, wdr8, wda8, wdn2, wdn3, wdn4, wdn5, wdn6, wdn8, wdn9, wdn7, wdv17, wdv18, wdvf, wdt0, wdt1, wdt2, wdt3, wdt4, wdt5, wdt6⟩ := id wD
            obtain ⟨wyc2, wyc3, wyc4, wyc5, wyc6, wyc7, wyc8, wyc9, wyyk, wyyd, wyyf, wyyh, wyyc, wyyl, wyyp, wyyhot, wyyby⟩ := id wK
            obtain ⟨z1, z2, z3, z4⟩ := wdt2 t ht
            simp only [fX1_menu, ab_ckq S.o, han, bdS, b2S, bxL, bxR, onN, onS, g0_3 S1.o, we1, g5_11 wdo0, wdn4, hdi, if_neg b01n, hin, show ¬ ((1 : Int32) = 0) from by decide, if_false, g5_2 wdo0, wdr2, aRn wda2 (show t < 4 by omega), z2, q1, if_true, qx_no Z2.1]
          · simp only [hc, if_false]
            have f3 : Fw N (Aq (N + 17)) (Aq 21) h2 (sI h2 N 21 (nI m)) := Fw.sI Z2.1.o rfl rfl
            have Z3 := Z2.fw f3 (fun q a => by simp only [Aq] at a; omega)
            obtain ⟨h', s1, s2, s3⟩ := qx_menuL hc hm14 m 0 300000 _ Z3 (fun i' a b d' hd => by rw [aF_sI]; exact q3 i' a b d' hd) (fun k' hk' => absurd hk' (Nat.not_lt_zero k')) (by omega) (by omega)
            have f9 : Fw N (fun q => q = N + 17 ∨ q = N + 18) (Aq 21) (an h N) h' := ((q2.wide (fun q a => Or.inl a) (fun k a => a.elim)).trans (f3.wide (fun q a => Or.inl a) (fun k a => a))).trans (s2.wide (fun q a => Or.inr a) (fun k a => a.elim))
            refine ⟨h', ?_, f1.trans (f9.fr (by omega) (fun q a => by omega)), ?_⟩
            · rw [nI_0] at s1
              obtain ⟨wS, we1, wD, wlE, wK⟩ := id Z
              obtain ⟨whz, whfu0, wo0, wo1, wr0_0, wo2, wr0_2, wo3, wr2_0, wr2_1, wo4, wr2_2, wo5, wr0_8, wo6, wo7, wo8, wr6_0, wr6_1, wo9, wo10, wo11, wr9_0, wr9_1, wo32, wo33, wo34, wr32_0, wr32_1, wo35, wo36, wo37, wr35_0, wr35_1, wo38, wo39, wo40, wr38_0, wr38_1, wr0_9, wr0_10, wo12, wr0_12, wo13, wr0_13, wo14, wr0_14, wo15, wr0_15, wo16, wr0_18, wo17, wr0_19, wo18, wr0_20, wo19, wr0_22, wo20, wr0_23, wo21, wr0_24, wo22, wr0_25, wo23, wr0_28, wo24, wr0_29, wo25, wr0_30, wo26, wr0_31, wo27, wr0_35, wo28, wr0_36, wo29, wr0_37, wo30, wr0_38, wo31, wr0_39, wd5_0, wd5_1, wd5_2⟩ := id wS
              obtain ⟨wdlo, wdo0, wdr0, wda0, wdr1, wda1, wdr2, wda2, wdr3, wda3, wdr4, wda4, wdr5, wda5, wdr6, wda6, wdr7, wda7, wdr8, wda8, wdn2, wdn3, wdn4, wdn5, wdn6, wdn8, wdn9, wdn7, wdv17, wdv18, wdvf, wdt0, wdt1, wdt2, wdt3, wdt4, wdt5, wdt6⟩ := id wD
              obtain ⟨wyc2, wyc3, wyc4, wyc5, wyc6, wyc7, wyc8, wyc9, wyyk, wyyd, wyyf, wyyh, wyyc, wyyl, wyyp, wyyhot, wyyby⟩ := id wK
              obtain ⟨z1, z2, z3, z4⟩ := wdt2 t ht
              simp only [fX1_menu, ab_ckq S.o, han, bdS, b2S, bxL, bxR, onN, onS, g0_3 S1.o, we1, g5_11 wdo0, wdn4, hdi, if_neg b01n, hin, show ¬ ((1 : Int32) = 0) from by decide, if_false, g5_2 wdo0, wdr2, aRn wda2 (show t < 4 by omega), z2, q1, hc, ab_pIq Z2.1.o Z2.1.1, Z3.1.f, s1]
            · obtain ⟨v1, v2, v3, v4, v5, v6, v7, v8, v9, v10, v11, v12, v13, v14, v15, v16, v17, v18, v19, v20, v21, v22, v23, v24⟩ := V.fin Q1 t1 (by decide)
              have gg : ∀ k, k ≠ 21 → gI h' N k = gI (an h N) N k := fun k h1 => f9.2.2 k h1
              have aa : ∀ j, j ≠ 0 → j ≠ 17 → j ≠ 18 → aF h' (N + j) = aF (an h N) (N + j) := fun j h0 h1 h2 => f9.aF (by omega) (by omega)
              refine ⟨(gg 1 (by omega)).trans v1, (gg 4 (by omega)).trans v2, (gg 5 (by omega)).trans v3, (gg 7 (by omega)).trans v4, (gg 16 (by omega)).trans v5, ?_, (gg 26 (by omega)).trans v7, (gg 32 (by omega)).trans v8, (gg 40 (by omega)).trans v9, fun e => absurd e (show ¬ ((0 : Int32) = 4) from by decide), fun _ => rfl, (aa 1 (by omega) (by omega) (by omega)).trans v12, (aa 28 (by omega) (by omega) (by omega)).trans v13, (aa 27 (by omega) (by omega) (by omega)).trans v14, (aa 29 (by omega) (by omega) (by omega)).trans v15, (aa 30 (by omega) (by omega) (by omega)).trans v16, (aa 31 (by omega) (by omega) (by omega)).trans v17, ?_, fun j hj h14 => ?_, ?_, ?_, fun c hc => (f9.gI (by omega) (by omega) 2).trans (v22 c hc), fun c hc k hk => by rw [aa (33 + 3 * c) (by omega) (by omega) (by omega)]; exact v23 c hc k hk, fun c hc => by rw [aa 26 (by omega) (by omega) (by omega)]; exact v24 c hc⟩
              · rw [s2.2.2 21 (fun z => z), gI_sI Z2.1.o, if_pos ⟨rfl, rfl⟩]
                rfl
              · rw [aa 15 (by omega) (by omega) (by omega)]; exact v18
              · have hj : nI j < nI m := hj
                have hjm : j < m := (nI_ltI (by omega) (by omega)).mp hj
                rw [s3 j hjm]
                show _ = if j < m then _ else _
                rw [if_pos hjm]
              · rw [aa 22 (by omega) (by omega) (by omega)]; exact v20
              · rw [aa 25 (by omega) (by omega) (by omega)]; exact v21
