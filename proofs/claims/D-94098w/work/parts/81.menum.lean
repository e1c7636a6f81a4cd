/-! menu: the model -/
theorem qm_cheapL {h : Hp} {N E d : Nat} {y : Dy} (Z : MD h N E d y) {i : Nat} (hi : i < 14) {but : Int32} : ∀ (j k n : Nat) (st : Option Nat), (∀ b, st = some b → b < y.1 3 ∧ ¬ aF h (N + 10) (6 * i + b) = -1) → k + j = y.1 3 → j < n → fX5_cheapest_l5 N n (nI i) but (vlO (fun d => aF h (N + 10) (6 * i + d)) st) (nI k) h = some (vlO (fun d => aF h (N + 10) (6 * i + d)) (lp (chS (fun d => aF h (N + 10) (6 * i + d)) but) j k st), h) := by
  have h3 := Z.2.2.2.2.lt (j := 3) (by omega) (by omega)
  intro j
  induction j with
  | zero =>
    intro k n st hb hk hn
    cases n with
    | zero => omega
    | succ n =>
      obtain ⟨S, e1, D, lE, K⟩ := id Z
      obtain ⟨hz, hfu0, o0, o1, r0_5, o2, r0_17, o3, r0_18, o4, r0_22, o5, r0_23, o6, r0_26, o7, r0_28, o8, r0_29, o9, r0_30, o10, r0_31, o11, r0_32, o12, r0_35, o13, r0_36, o14, r0_38, o15, r0_39, o16, r0_40, o17, r0_41, o18, r0_43, o19, r0_44, o20, r0_45⟩ := id S
      obtain ⟨dlo, do0, dv0, dv1, dn2, dn3, dn4, dn5, dn6, dn7, dn8, dn9, dr11, da11, dv11, dr12, da12, dv12, dr13, da13, dv13, dr14, da14, dv14, dr15, da15, dv15, dr16, da16, dv16, dr17, da17, dv17, dr18, da18, dv18, dr19, da19, dv19, dr20, da20, dv20, dr21, da21, dv21, dr22, da22, dv22, dr23, da23, dv23, dr24, da24, dv24, dr25, da25, dv25, dr26, da26, dv26, dr27, da27, dv27, dr28, da28, dv28, dr29, da29, dv29, dr30, da30, dv30, dr31, da31, dv31, dr32, da32, dv32, dr33, da33, dv33⟩ := id D
      obtain ⟨yc2, yc3, yc4, yc5, yc6, yc7, yc8, yc9, yyk, yyd, yyf, yyh, yyc, yyl, yyp, yyhot, yyby⟩ := id K
      simp only [fX5_cheapest_l5, g4_3 o0, e1, bdS, b2S, bxL, bxR, onN, onS, g13_3 do0, dn3, nI_le (show y.1 3 ≤ k by omega) (by omega), if_true, lp]
  | succ j ih =>
    intro k n st hb hk hn
    cases n with
    | zero => omega
    | succ n =>
      have hk3 : k < y.1 3 := by omega
      rw [lp]
      have i1 := fun st' h' => ih (k + 1) n st' h' (by omega) (by omega)
      obtain ⟨S, e1, D, lE, K⟩ := id Z
      obtain ⟨hz, hfu0, o0, o1, r0_5, o2, r0_17, o3, r0_18, o4, r0_22, o5, r0_23, o6, r0_26, o7, r0_28, o8, r0_29, o9, r0_30, o10, r0_31, o11, r0_32, o12, r0_35, o13, r0_36, o14, r0_38, o15, r0_39, o16, r0_40, o17, r0_41, o18, r0_43, o19, r0_44, o20, r0_45⟩ := id S
      obtain ⟨dlo, do0, dv0, dv1, dn2, dn3, dn4, dn5, dn6, dn7, dn8, dn9, dr11, da11, dv11, dr12, da12, dv12, dr13, da13, dv13, dr14, da14, dv14, dr15, da15, dv15, dr16, da16, dv16, dr17, da17, dv17, dr18, da18, dv18, dr19, da19, dv19, dr20, da20, dv20, dr21, da21, dv21, dr22, da22, dv22, dr23, da23, dv23, dr24, da24, dv24, dr25, da25, dv25, dr26, da26, dv26, dr27, da27, dv27, dr28, da28, dv28, dr29, da29, dv29, dr30, da30, dv30, dr31, da31, dv31, dr32, da32, dv32, dr33, da33, dv33⟩ := id D
      obtain ⟨yc2, yc3, yc4, yc5, yc6, yc7, yc8, yc9, yyk, yyd, yyf, yyh, yyc, yyl, yyp, yyhot, yyby⟩ := id K
      have hv := aIn o10 (show 6 * i + k < 84 by omega)
      by_cases c1 : nI k = but
      · have := i1 st hb
        simp only [fX5_cheapest_l5, g4_3 o0, e1, bdS, b2S, bxL, bxR, onN, onS, g13_3 do0, dn3, nI_ge hk3 (by omega), if_false, g4_31 o0, r0_31, nI6, hv, if_pos c1, nI_1, this]
        rw [show chS (fun d => aF h (N + 10) (6 * i + d)) but k st = st by unfold chS; rw [if_pos c1]]
      · by_cases c2 : aF h (N + 10) (6 * i + k) = -1
        · have := i1 st hb
          simp only [fX5_cheapest_l5, g4_3 o0, e1, bdS, b2S, bxL, bxR, onN, onS, g13_3 do0, dn3, nI_ge hk3 (by omega), if_false, g4_31 o0, r0_31, nI6, hv, if_neg c1, if_pos c2, nI_1, this]
          rw [show chS (fun d => aF h (N + 10) (6 * i + d)) but k st = st by unfold chS; rw [if_neg c1, if_pos c2]]
        · have hk' := i1 (some k) (fun b e => by cases e; exact ⟨hk3, c2⟩)
          cases st with
          | none =>
            rw [show chS (fun d => aF h (N + 10) (6 * i + d)) but k none = some k by simp only [chS, if_neg c1, if_neg c2], ← hk']
            simp only [fX5_cheapest_l5, g4_3 o0, e1, bdS, b2S, bxL, bxR, onN, onS, g13_3 do0, dn3, nI_ge hk3 (by omega), if_false, g4_31 o0, r0_31, nI6, hv, if_neg c1, if_neg c2, nI_1, vlO, if_true]
          | some b =>
            obtain ⟨hb3, hbv⟩ := hb b rfl
            have hb' := i1 (some b) hb
            by_cases c3 : aF h (N + 10) (6 * i + b) ≤ aF h (N + 10) (6 * i + k)
            · rw [show chS (fun d => aF h (N + 10) (6 * i + d)) but k (some b) = some b by simp only [chS, if_neg c1, if_neg c2, c3, if_true], ← hb']
              simp only [fX5_cheapest_l5, g4_3 o0, e1, bdS, b2S, bxL, bxR, onN, onS, g13_3 do0, dn3, nI_ge hk3 (by omega), if_false, g4_31 o0, r0_31, nI6, hv, if_neg c1, if_neg c2, nI_1, vlO, if_neg hbv, if_pos c3]
            · rw [show chS (fun d => aF h (N + 10) (6 * i + d)) but k (some b) = some k by simp only [chS, if_neg c1, if_neg c2, c3, if_false], ← hk']
              simp only [fX5_cheapest_l5, g4_3 o0, e1, bdS, b2S, bxL, bxR, onN, onS, g13_3 do0, dn3, nI_ge hk3 (by omega), if_false, g4_31 o0, r0_31, nI6, hv, if_neg c1, if_neg c2, nI_1, vlO, if_neg hbv, if_neg c3]
theorem qm_cheap {h : Hp} {N E d : Nat} {y : Dy} (Z : MD h N E d y) {i : Nat} (hi : i < 14) {but : Int32} {r : Nat → Int32} (hr : ∀ d, d < y.1 3 → aF h (N + 10) (6 * i + d) = r d) : fX5_cheapest N (nI i) but h = some (vlO r (chI r (y.1 3) but), h) := by
  have h3 := Z.2.2.2.2.lt (j := 3) (by omega) (by omega)
  have := qm_cheapL Z hi (but := but) (y.1 3) 0 300000 none (fun b e => by cases e) (by omega) (by omega)
  rw [nI_0] at this
  have e1 : chI r (y.1 3) but = chI (fun d => aF h (N + 10) (6 * i + d)) (y.1 3) but := (chI_cong hr).symm
  have e2 : vlO r (chI r (y.1 3) but) = vlO (fun d => aF h (N + 10) (6 * i + d)) (chI (fun d => aF h (N + 10) (6 * i + d)) (y.1 3) but) := by
    rw [← e1]
    cases ho : chI r (y.1 3) but with
    | none => rfl
    | some b => exact (hr b (chI_some ho).1).symm
  rw [e2]
  simp only [fX5_cheapest, ab_ckq Z.1.o, Z.1.f]
  exact this
theorem qm_layRow {N E d : Nat} {y : Dy} {t n i : Nat} (ht : t < y.1 4) (hn : n ≤ 14) (hi : i < n) {K4 : Int32 → Int32 → Int32 → Hp → Option (Int32 × Hp)} : ∀ (j k f : Nat) (h : Hp), MD h N E d y → TL h (N + 10) y t n (i + 1) → (∀ d, d < k → aF h (N + 10) (6 * i + d) = rowR y t (n - 1 - i) d) → k + j = y.1 3 → j < f → ∃ h', fX5_coinOf_l11 N K4 f (nI t) (nI n) (nI i) (nI k) h = K4 (nI t) (nI n) (nI i - 1) h' ∧ Fw N (Aq (N + 10)) B0 h h' ∧ TL h' (N + 10) y t n i := by
  intro j
  induction j with
  | zero =>
    intro k f h Z T Tk hk hf
    cases f with
    | zero => omega
    | succ f =>
      have h3 := Z.2.2.2.2.lt (j := 3) (by omega) (by omega)
      have hm1 : nI i + (-1 : Int32) = nI i - 1 := (Int32.sub_eq_add_neg _ _).symm
      refine ⟨h, ?_, Fw.rf, fun i' h1 h2 d' hd => ?_⟩
      · obtain ⟨S, e1, D, lE, K⟩ := id Z
        obtain ⟨hz, hfu0, o0, o1, r0_5, o2, r0_17, o3, r0_18, o4, r0_22, o5, r0_23, o6, r0_26, o7, r0_28, o8, r0_29, o9, r0_30, o10, r0_31, o11, r0_32, o12, r0_35, o13, r0_36, o14, r0_38, o15, r0_39, o16, r0_40, o17, r0_41, o18, r0_43, o19, r0_44, o20, r0_45⟩ := id S
        obtain ⟨dlo, do0, dv0, dv1, dn2, dn3, dn4, dn5, dn6, dn7, dn8, dn9, dr11, da11, dv11, dr12, da12, dv12, dr13, da13, dv13, dr14, da14, dv14, dr15, da15, dv15, dr16, da16, dv16, dr17, da17, dv17, dr18, da18, dv18, dr19, da19, dv19, dr20, da20, dv20, dr21, da21, dv21, dr22, da22, dv22, dr23, da23, dv23, dr24, da24, dv24, dr25, da25, dv25, dr26, da26, dv26, dr27, da27, dv27, dr28, da28, dv28, dr29, da29, dv29, dr30, da30, dv30, dr31, da31, dv31, dr32, da32, dv32, dr33, da33, dv33⟩ := id D
        obtain ⟨yc2, yc3, yc4, yc5, yc6, yc7, yc8, yc9, yyk, yyd, yyf, yyh, yyc, yyl, yyp, yyhot, yyby⟩ := id K
        simp only [fX5_coinOf_l11, g4_3 o0, e1, bdS, b2S, bxL, bxR, onN, onS, g13_3 do0, dn3, nI_le (show y.1 3 ≤ k by omega) (by omega), if_true, hm1]
      · by_cases e : i' = i
        · subst e; exact Tk d' (by omega)
        · exact T i' (by omega) h2 d' hd
  | succ j ih =>
    intro k f h Z T Tk hk hf
    cases f with
    | zero => omega
    | succ f =>
      have h3 := Z.2.2.2.2.lt (j := 3) (by omega) (by omega)
      have hk3 : k < y.1 3 := by omega
      have fw : Fw N (Aq (N + 10)) B0 h (sA h (N + 10) (6 * i + k) (rowR y t (n - 1 - i) k)) := Fw.sA rfl
      have Z1 := Z.fw fw (fun q a => by simp only [Aq] at a; omega)
      have p10 : isA h (N + 10) 0 84 := by
        have hS := Z.1
        obtain ⟨hz, hfu0, o0, o1, r0_5, o2, r0_17, o3, r0_18, o4, r0_22, o5, r0_23, o6, r0_26, o7, r0_28, o8, r0_29, o9, r0_30, o10, r0_31, o11, r0_32, o12, r0_35, o13, r0_36, o14, r0_38, o15, r0_39, o16, r0_40, o17, r0_41, o18, r0_43, o19, r0_44, o20, r0_45⟩ := id hS
        exact o10
      have es : ∀ q, aF (sA h (N + 10) (6 * i + k) (rowR y t (n - 1 - i) k)) (N + 10) q = if q = 6 * i + k then rowR y t (n - 1 - i) k else aF h (N + 10) q := fun q => by rw [aF_sA p10, if_pos rfl, upd]
      obtain ⟨h', s1, s2, s3⟩ := ih (k + 1) f _ Z1 (fun i' a b d' hd => by rw [es, if_neg (by omega)]; exact T i' a b d' hd) (fun d' hd => by
        rw [es]
        by_cases e : d' = k
        · subst e; rw [if_pos rfl]
        · rw [if_neg (by omega)]; exact Tk d' (by omega)) (by omega) (by omega)
      refine ⟨h', ?_, fw.trans s2, s3⟩
      rw [← s1]
      have hbar := qm_barred Z ht hk3
      obtain ⟨n', hn'⟩ : ∃ n', n = n' + 1 := ⟨n - 1, by omega⟩
      have hz := Z.1.1
      have hst := fun v => sIn (v := v) p10 (show hfz h ≤ N + 10 by omega) (show 6 * i + k < 84 by omega)
      by_cases hlast : i = n'
      · have e0 : n - 1 - i = 0 := by omega
        rw [e0]
        have hc1 : nI i = nI n - 1 := by rw [hn', nI_pred, hlast]
        obtain ⟨S, e1, D, lE, K⟩ := id Z
        obtain ⟨hz, hfu0, o0, o1, r0_5, o2, r0_17, o3, r0_18, o4, r0_22, o5, r0_23, o6, r0_26, o7, r0_28, o8, r0_29, o9, r0_30, o10, r0_31, o11, r0_32, o12, r0_35, o13, r0_36, o14, r0_38, o15, r0_39, o16, r0_40, o17, r0_41, o18, r0_43, o19, r0_44, o20, r0_45⟩ := id S
        obtain ⟨dlo, do0, dv0, dv1, dn2, dn3, dn4, dn5, dn6, dn7, dn8, dn9, dr11, da11, dv11, dr12, da12, dv12, dr13, da13, dv13, dr14, da14, dv14, dr15, da15, dv15, dr16, da16, dv16, dr17, da17, dv17, dr18, da18, dv18, dr19, da19, dv19, dr20, da20, dv20, dr21, da21, dv21, dr22, da22, dv22, dr23, da23, dv23, dr24, da24, dv24, dr25, da25, dv25, dr26, da26, dv26, dr27, da27, dv27, dr28, da28, dv28, dr29, da29, dv29, dr30, da30, dv30, dr31, da31, dv31, dr32, da32, dv32, dr33, da33, dv33⟩ := id D
        obtain ⟨yc2, yc3, yc4, yc5, yc6, yc7, yc8, yc9, yyk, yyd, yyf, yyh, yyc, yyl, yyp, yyhot, yyby⟩ := id K
        by_cases hb : brdV y t k = 0
        · have ea : ∀ v : Int32, v + 0 = v := fun v => Int32.add_zero v
          simp only [fX5_coinOf_l11, g4_3 o0, e1, bdS, b2S, bxL, bxR, onN, onS, g13_3 do0, dn3, nI_ge hk3 (by omega), if_false, if_pos hc1, fX5_coinOf_b43, hbar, hb, if_true, g4_31 o0, r0_31, show ¬ ((0 : Int32) = -1) from by decide, g13_14 do0, dr14, aIn da14 (show k < 6 by omega), dv14, ea, nI6, hst, nI_1, rowR]
        · simp only [fX5_coinOf_l11, g4_3 o0, e1, bdS, b2S, bxL, bxR, onN, onS, g13_3 do0, dn3, nI_ge hk3 (by omega), if_false, if_pos hc1, fX5_coinOf_b43, hbar, hb, g4_31 o0, r0_31, nI6, hst, nI_1, rowR]
      · obtain ⟨m, hm⟩ : ∃ m, n - 1 - i = m + 1 := ⟨n - 1 - i - 1, by omega⟩
        rw [hm]
        have hc1 : ¬ nI i = nI n - 1 := by rw [hn', nI_pred, nI_eq (by omega) (by omega)]; exact hlast
        have hch := qm_cheap Z (i := i + 1) (by omega) (but := nI k) (r := rowR y t m) (fun d' hd => by
          have := T (i + 1) (by omega) (by omega) d' hd
          rw [this]
          congr 1; omega)
        obtain ⟨S, e1, D, lE, K⟩ := id Z
        obtain ⟨hz, hfu0, o0, o1, r0_5, o2, r0_17, o3, r0_18, o4, r0_22, o5, r0_23, o6, r0_26, o7, r0_28, o8, r0_29, o9, r0_30, o10, r0_31, o11, r0_32, o12, r0_35, o13, r0_36, o14, r0_38, o15, r0_39, o16, r0_40, o17, r0_41, o18, r0_43, o19, r0_44, o20, r0_45⟩ := id S
        obtain ⟨dlo, do0, dv0, dv1, dn2, dn3, dn4, dn5, dn6, dn7, dn8, dn9, dr11, da11, dv11, dr12, da12, dv12, dr13, da13, dv13, dr14, da14, dv14, dr15, da15, dv15, dr16, da16, dv16, dr17, da17, dv17, dr18, da18, dv18, dr19, da19, dv19, dr20, da20, dv20, dr21, da21, dv21, dr22, da22, dv22, dr23, da23, dv23, dr24, da24, dv24, dr25, da25, dv25, dr26, da26, dv26, dr27, da27, dv27, dr28, da28, dv28, dr29, da29, dv29, dr30, da30, dv30, dr31, da31, dv31, dr32, da32, dv32, dr33, da33, dv33⟩ := id D
        obtain ⟨yc2, yc3, yc4, yc5, yc6, yc7, yc8, yc9, yyk, yyd, yyf, yyh, yyc, yyl, yyp, yyhot, yyby⟩ := id K
        by_cases hb : brdV y t k = 0
        · cases ho : chI (rowR y t m) (y.1 3) (nI k) with
          | none =>
            rw [ho] at hch
            simp only [fX5_coinOf_l11, g4_3 o0, e1, bdS, b2S, bxL, bxR, onN, onS, g13_3 do0, dn3, nI_ge hk3 (by omega), if_false, if_neg hc1, nI_1, hch, fX5_coinOf_b43, hbar, hb, if_true, vlO, g4_31 o0, r0_31, nI6, hst, rowR, ho]
          | some b =>
            have hb3 := (chI_some ho).2.2.1
            rw [ho] at hch
            simp only [fX5_coinOf_l11, g4_3 o0, e1, bdS, b2S, bxL, bxR, onN, onS, g13_3 do0, dn3, nI_ge hk3 (by omega), if_false, if_neg hc1, nI_1, hch, fX5_coinOf_b43, hbar, hb, if_true, vlO, hb3, g4_31 o0, r0_31, g13_14 do0, dr14, aIn da14 (show k < 6 by omega), dv14, nI6, hst, rowR, ho]
        · simp only [fX5_coinOf_l11, g4_3 o0, e1, bdS, b2S, bxL, bxR, onN, onS, g13_3 do0, dn3, nI_ge hk3 (by omega), if_false, if_neg hc1, nI_1, hch, fX5_coinOf_b43, hbar, hb, g4_31 o0, r0_31, nI6, hst, rowR]
theorem qm_laysL {N E d : Nat} {y : Dy} {t n : Nat} (ht : t < y.1 4) (hn : n ≤ 14) (hn1 : 1 ≤ n) : ∀ (m f : Nat) (h : Hp), MD h N E d y → TL h (N + 10) y t n m → m ≤ n → m < f → ∃ h', fX5_coinOf_l4 N f (nI t) (nI n) (nI m - 1) h = some (coV y t n, h') ∧ Fw N (Aq (N + 10)) B0 h h' ∧ TL h' (N + 10) y t n 0 := by
  intro m
  induction m with
  | zero =>
    intro f h Z T hm hf
    cases f with
    | zero => omega
    | succ f =>
      have hch := qm_cheap Z (i := 0) (by omega) (but := -1) (r := rowR y t (n - 1)) (fun d' hd => by
        have := T 0 (by omega) (by omega) d' hd
        rw [Nat.sub_zero] at this
        exact this)
      rw [nI_0] at hch
      refine ⟨h, ?_, Fw.rf, T⟩
      simp only [fX5_coinOf_l4, show nI 0 - 1 < (0 : Int32) from by decide +kernel, if_true, hch, bdS, b2S, bxL, bxR, onN, onS, coV]
  | succ m ih =>
    intro f h Z T hm hf
    cases f with
    | zero => omega
    | succ f =>
      have h3 := Z.2.2.2.2.lt (j := 3) (by omega) (by omega)
      obtain ⟨h1, q1, q2, q3⟩ := qm_layRow ht hn (show m < n by omega) (K4 := fX5_coinOf_l4 N f) (y.1 3) 0 300000 h Z T (fun d' hd => absurd hd (Nat.not_lt_zero d')) (by omega) (by omega)
      have Z1 := Z.fw q2 (fun q a => by simp only [Aq] at a; omega)
      obtain ⟨h', s1, s2, s3⟩ := ih f h1 Z1 q3 (by omega) (by omega)
      refine ⟨h', ?_, q2.trans s2, s3⟩
      rw [← s1, ← q1, nI_0]
      simp only [fX5_coinOf_l4, nI_pred, nI_pos (show m < 2 ^ 31 by omega), if_false, Z.1.f]
theorem qm_lays {N E d : Nat} {y : Dy} {t n : Nat} {h : Hp} (Z : MD h N E d y) (ht : t < y.1 4) (hn : n ≤ 14) (hn1 : 1 ≤ n) : ∃ h', fX5_coinOf N (nI t) (nI n) h = some (coV y t n, h') ∧ Fw N (Aq (N + 10)) B0 h h' ∧ TL h' (N + 10) y t n 0 := by
  obtain ⟨h', q1, q2, q3⟩ := qm_laysL ht hn hn1 n 300000 h Z (fun i' a b => by omega) (Nat.le_refl _) (by omega)
  refine ⟨h', ?_, q2, q3⟩
  simp only [fX5_coinOf, ab_ckq Z.1.o, Z.1.f, q1]
theorem qm_find {N E d : Nat} {y : Dy} {r : Nat → Int32} {b kk : Nat} {but : Int32} {h : Hp} (Z : MD h N E d y) (hk : kk < 14) (hr : ∀ d, d < y.1 3 → aF h (N + 10) (6 * kk + d) = r d) (hb : b < y.1 3) (h1 : ¬ nI b = but) (h2 : ∀ d, d < b → ¬ nI d = but → ¬ r d = r b) {K : Int32 → Int32 → Int32 → Int32 → Hp → Option (Int32 × Hp)} {l2 l3 : Int32} : ∀ (j k f : Nat), k + j = b → j < f → fX5_menu_l98 N K f l2 l3 but (nI kk) (r b) (nI k) h = K l2 l3 (nI b) (nI (kk + 1)) (sA h (N + 11) kk (nI b)) := by
  have h3 := Z.2.2.2.2.lt (j := 3) (by omega) (by omega)
  intro j
  induction j with
  | zero =>
    intro k f hk' hf
    cases f with
    | zero => omega
    | succ f =>
      have e : k = b := by omega
      subst e
      obtain ⟨S, e1, D, lE, K⟩ := id Z
      obtain ⟨hz, hfu0, o0, o1, r0_5, o2, r0_17, o3, r0_18, o4, r0_22, o5, r0_23, o6, r0_26, o7, r0_28, o8, r0_29, o9, r0_30, o10, r0_31, o11, r0_32, o12, r0_35, o13, r0_36, o14, r0_38, o15, r0_39, o16, r0_40, o17, r0_41, o18, r0_43, o19, r0_44, o20, r0_45⟩ := id S
      obtain ⟨dlo, do0, dv0, dv1, dn2, dn3, dn4, dn5, dn6, dn7, dn8, dn9, dr11, da11, dv11, dr12, da12, dv12, dr13, da13, dv13, dr14, da14, dv14, dr15, da15, dv15, dr16, da16, dv16, dr17, da17, dv17, dr18, da18, dv18, dr19, da19, dv19, dr20, da20, dv20, dr21, da21, dv21, dr22, da22, dv22, dr23, da23, dv23, dr24, da24, dv24, dr25, da25, dv25, dr26, da26, dv26, dr27, da27, dv27, dr28, da28, dv28, dr29, da29, dv29, dr30, da30, dv30, dr31, da31, dv31, dr32, da32, dv32, dr33, da33, dv33⟩ := id D
      obtain ⟨yc2, yc3, yc4, yc5, yc6, yc7, yc8, yc9, yyk, yyd, yyf, yyh, yyc, yyl, yyp, yyhot, yyby⟩ := id K
      simp only [fX5_menu_l98, if_neg h1, g4_31 o0, r0_31, bdS, b2S, bxL, bxR, onN, onS, nI6, aIn o10 (show 6 * kk + k < 84 by omega), hr k hb, if_true, g4_32 o0, r0_32, sIn o11 (show hfz h ≤ N + 11 by omega) hk, nI_1]
  | succ j ih =>
    intro k f hk' hf
    cases f with
    | zero => omega
    | succ f =>
      have i1 := ih (k + 1) f (by omega) (by omega)
      rw [← i1]
      obtain ⟨S, e1, D, lE, K⟩ := id Z
      obtain ⟨hz, hfu0, o0, o1, r0_5, o2, r0_17, o3, r0_18, o4, r0_22, o5, r0_23, o6, r0_26, o7, r0_28, o8, r0_29, o9, r0_30, o10, r0_31, o11, r0_32, o12, r0_35, o13, r0_36, o14, r0_38, o15, r0_39, o16, r0_40, o17, r0_41, o18, r0_43, o19, r0_44, o20, r0_45⟩ := id S
      obtain ⟨dlo, do0, dv0, dv1, dn2, dn3, dn4, dn5, dn6, dn7, dn8, dn9, dr11, da11, dv11, dr12, da12, dv12, dr13, da13, dv13, dr14, da14, dv14, dr15, da15, dv15, dr16, da16, dv16, dr17, da17, dv17, dr18, da18, dv18, dr19, da19, dv19, dr20, da20, dv20, dr21, da21, dv21, dr22, da22, dv22, dr23, da23, dv23, dr24, da24, dv24, dr25, da25, dv25, dr26, da26, dv26, dr27, da27, dv27, dr28, da28, dv28, dr29, da29, dv29, dr30, da30, dv30, dr31, da31, dv31, dr32, da32, dv32, dr33, da33, dv33⟩ := id D
      obtain ⟨yc2, yc3, yc4, yc5, yc6, yc7, yc8, yc9, yyk, yyd, yyf, yyh, yyc, yyl, yyp, yyhot, yyby⟩ := id K
      by_cases c1 : nI k = but
      · simp only [fX5_menu_l98, if_pos c1, nI_1]
      · simp only [fX5_menu_l98, if_neg c1, g4_31 o0, r0_31, bdS, b2S, bxL, bxR, onN, onS, nI6, aIn o10 (show 6 * kk + k < 84 by omega), hr k (by omega), if_neg (h2 k (by omega) c1), nI_1]
theorem qm_menuL {N E d : Nat} {y : Dy} {t n : Nat} (hc : ¬ coV y t n = -1) (hn : n ≤ 14) : ∀ (j k f : Nat) (h : Hp), MD h N E d y → TL h (N + 10) y t n 0 → k + j = n → j < f → ∃ h', fX5_menu_l79 N f (nI n) (coV y t n) (if k = 0 then -1 else mnL y t n (k - 1)) (nI k) h = some (coV y t n, rf h' N 0) ∧ Fw N (Aq (N + 11)) B0 h h' ∧ aF h' (N + 11) = fun i => if k ≤ i ∧ i < n then mnL y t n i else aF h (N + 11) i := by
  intro j
  induction j with
  | zero =>
    intro k f h Z T hk hf
    cases f with
    | zero => omega
    | succ f =>
      refine ⟨h, ?_, Fw.rf, ?_⟩
      · simp only [fX5_menu_l79, nI_le (show n ≤ k by omega) (by omega), if_true, qm_done Z.1, bdS, b2S, bxL, bxR, onN, onS, rf]
      · funext i
        rw [if_neg (by omega)]
  | succ j ih =>
    intro k f h Z T hk hf
    cases f with
    | zero => omega
    | succ f =>
      have hkn : k < n := by omega
      obtain ⟨b, b1, b2, b3⟩ := mnL_some hc k hkn
      obtain ⟨c1, c2, c3, c4⟩ := chI_some b3
      have fw : Fw N (Aq (N + 11)) B0 h (sA h (N + 11) k (nI b)) := Fw.sA rfl
      have Z1 := Z.fw fw (fun q a => by simp only [Aq] at a; omega)
      have p11 : isA h (N + 11) 0 14 := by
        have hS := Z.1
        obtain ⟨hz, hfu0, o0, o1, r0_5, o2, r0_17, o3, r0_18, o4, r0_22, o5, r0_23, o6, r0_26, o7, r0_28, o8, r0_29, o9, r0_30, o10, r0_31, o11, r0_32, o12, r0_35, o13, r0_36, o14, r0_38, o15, r0_39, o16, r0_40, o17, r0_41, o18, r0_43, o19, r0_44, o20, r0_45⟩ := id hS
        exact o11
      obtain ⟨h', s1, s2, s3⟩ := ih (k + 1) f _ Z1 (fun i' a b' d' hd => by rw [aF_sA p11, if_neg (by omega)]; exact T i' a b' d' hd) (by omega) (by omega)
      rw [if_neg (by omega), Nat.add_sub_cancel, b1] at s1
      refine ⟨h', ?_, fw.trans s2, ?_⟩
      · have hr : ∀ d', d' < y.1 3 → aF h (N + 10) (6 * k + d') = rowR y t (n - 1 - k) d' := fun d' hd => T k (by omega) hkn d' hd
        have hch := qm_cheap Z (i := k) (by omega) (but := if k = 0 then -1 else mnL y t n (k - 1)) hr
        rw [b3] at hch
        have hfi := qm_find Z (show k < 14 by omega) hr b2 c2 c4 (K := fX5_menu_l79 N f) (l2 := nI n) (l3 := coV y t n) b 0 300000 (by omega) (by have := Z.2.2.2.2.lt (j := 3) (by omega) (by omega); omega)
        rw [nI_0] at hfi
        simp only [fX5_menu_l79, nI_ge hkn (by omega), if_false, hch, bdS, b2S, bxL, bxR, onN, onS, vlO, Z.1.f, hfi, s1]
      · rw [s3]
        funext i
        rw [aF_sA p11, if_pos rfl, upd]
        by_cases e : i = k
        · subst e
          rw [if_neg (by omega), if_pos rfl, if_pos (by omega), b1]
        · by_cases e2 : k ≤ i ∧ i < n
          · rw [if_pos (by omega), if_pos e2]
          · rw [if_neg (by omega), if_neg e, if_neg e2]
theorem qm_isDiet {y : Dy} (K : Yk y) (c : Int32) : (ixo (some y) 4 c = none ∧ (c < 0 ∨ (¬ c < 0 ∧ ¬ c < nI (y.1 4)))) ∨ ∃ t, ixo (some y) 4 c = some t ∧ ¬ c < 0 ∧ c < nI (y.1 4) := by
  unfold ixo
  by_cases h1 : c < 0
  · simp only [h1, if_true]; exact Or.inl ⟨trivial, Or.inl trivial⟩
  · by_cases h2 : nI (y.1 4) ≤ c
    · simp only [h1, h2, if_true, if_false]; exact Or.inl ⟨trivial, Or.inr ⟨not_false, Int32.not_lt.mpr h2⟩⟩
    · simp only [h1, h2, if_false]; exact Or.inr ⟨_, rfl, not_false, Int32.not_le.mp h2⟩
theorem m_menu {N E : Nat} (x n : Int32) : MOp N E (fX5_menu N x n) (fun yo s => menuR yo s x n) := by
  intro h yo s R I
  obtain ⟨S, P, V, lE⟩ := id R
  obtain ⟨f1, S1, Q1⟩ := th_all S 0
  cases yo with
  | none =>
    obtain ⟨a1, a2⟩ := m_end R 1
    refine ⟨_, ?_, a1, a2⟩
    have P1 : gR (sI h N 0 0) N 3 = none := (P.kept f1.1 (fun q hq => f1.2 q (by omega)))
    simp only [fX5_menu, fX5_menu_b27, ab_ckq S.o, ab_pIq S.o S.1, bdS, b2S, bxL, bxR, onN, onS, g4_3 S1.o, P1, qm_refused S1]
    rfl
  | some y =>
    obtain ⟨d, e1, D, K⟩ := id P
    have Z := m_beg R e1 D
    rcases qm_isDiet K x with ⟨hx, hb⟩ | ⟨t, hx, hb1, hb2⟩
    · obtain ⟨a1, a2⟩ := m_end R 1
      simp only [menuR, onI_none hx]
      refine ⟨_, ?_, a1, a2⟩
      obtain ⟨wS, we1, wD, wlE, wK⟩ := id Z
      obtain ⟨whz, whfu0, wo0, wo1, wr0_5, wo2, wr0_17, wo3, wr0_18, wo4, wr0_22, wo5, wr0_23, wo6, wr0_26, wo7, wr0_28, wo8, wr0_29, wo9, wr0_30, wo10, wr0_31, wo11, wr0_32, wo12, wr0_35, wo13, wr0_36, wo14, wr0_38, wo15, wr0_39, wo16, wr0_40, wo17, wr0_41, wo18, wr0_43, wo19, wr0_44, wo20, wr0_45⟩ := id wS
      obtain ⟨wdlo, wdo0, wdv0, wdv1, wdn2, wdn3, wdn4, wdn5, wdn6, wdn7, wdn8, wdn9, wdr11, wda11, wdv11, wdr12, wda12, wdv12, wdr13, wda13, wdv13, wdr14, wda14, wdv14, wdr15, wda15, wdv15, wdr16, wda16, wdv16, wdr17, wda17, wdv17, wdr18, wda18, wdv18, wdr19, wda19, wdv19, wdr20, wda20, wdv20, wdr21, wda21, wdv21, wdr22, wda22, wdv22, wdr23, wda23, wdv23, wdr24, wda24, wdv24, wdr25, wda25, wdv25, wdr26, wda26, wdv26, wdr27, wda27, wdv27, wdr28, wda28, wdv28, wdr29, wda29, wdv29, wdr30, wda30, wdv30, wdr31, wda31, wdv31, wdr32, wda32, wdv32, wdr33, wda33, wdv33⟩ := id wD
      obtain ⟨wyc2, wyc3, wyc4, wyc5, wyc6, wyc7, wyc8, wyc9, wyyk, wyyd, wyyf, wyyh, wyyc, wyyl, wyyp, wyyhot, wyyby⟩ := id wK
      rcases hb with hb | ⟨hb1, hb2⟩
      · simp only [fX5_menu, fX5_menu_b27, ab_ckq S.o, ab_pIq S.o S.1, bdS, b2S, bxL, bxR, onN, onS, g4_3 S1.o, we1, hb, if_true, qm_refused S1, rf]
      · simp only [fX5_menu, fX5_menu_b27, ab_ckq S.o, ab_pIq S.o S.1, bdS, b2S, bxL, bxR, onN, onS, g4_3 S1.o, we1, hb1, if_false, g13_4 wdo0, wdn4, hb2, qm_refused S1, rf]
    · obtain ⟨y', e', rfl, ht, ht6⟩ := ixo_fits (yo := some y) (by omega) (fun y' e => by cases e; exact K) hx
      cases e'
      simp only [menuR, onI_some hx]
      have bad2 : (n < 1 ∨ 14 < n) → ∃ h', fX5_menu N (nI t) n h = some (-1, h') ∧ Fr N (N + 21) h h' ∧ VM h' N (fin s 2) := fun hb => by
        obtain ⟨a1, a2⟩ := m_end R 2
        refine ⟨_, ?_, a1, a2⟩
        obtain ⟨wS, we1, wD, wlE, wK⟩ := id Z
        obtain ⟨whz, whfu0, wo0, wo1, wr0_5, wo2, wr0_17, wo3, wr0_18, wo4, wr0_22, wo5, wr0_23, wo6, wr0_26, wo7, wr0_28, wo8, wr0_29, wo9, wr0_30, wo10, wr0_31, wo11, wr0_32, wo12, wr0_35, wo13, wr0_36, wo14, wr0_38, wo15, wr0_39, wo16, wr0_40, wo17, wr0_41, wo18, wr0_43, wo19, wr0_44, wo20, wr0_45⟩ := id wS
        obtain ⟨wdlo, wdo0, wdv0, wdv1, wdn2, wdn3, wdn4, wdn5, wdn6, wdn7, wdn8, wdn9, wdr11, wda11, wdv11, wdr12, wda12, wdv12, wdr13, wda13, wdv13, wdr14, wda14, wdv14, wdr15, wda15, wdv15, wdr16, wda16, wdv16, wdr17, wda17, wdv17, wdr18, wda18, wdv18, wdr19, wda19, wdv19, wdr20, wda20, wdv20, wdr21, wda21, wdv21, wdr22, wda22, wdv22, wdr23, wda23, wdv23, wdr24, wda24, wdv24, wdr25, wda25, wdv25, wdr26, wda26, wdv26, wdr27, wda27, wdv27, wdr28, wda28, wdv28, wdr29, wda29, wdv29, wdr30, wda30, wdv30, wdr31, wda31, wdv31, wdr32, wda32, wdv32, wdr33, wda33, wdv33⟩ := id wD
        obtain ⟨wyc2, wyc3, wyc4, wyc5, wyc6, wyc7, wyc8, wyc9, wyyk, wyyd, wyyf, wyyh, wyyc, wyyl, wyyp, wyyhot, wyyby⟩ := id wK
        have hin : fX5_in n 1 14 (sI h N 0 0) = some (0, sI h N 0 0) := by
          rw [qm_in]
          by_cases g1 : n < 1
          · rw [if_pos g1]
          · rw [if_neg g1, if_pos (hb.resolve_left g1)]
        simp only [fX5_menu, ab_ckq S.o, ab_pIq S.o S.1, bdS, b2S, bxL, bxR, onN, onS, g4_3 S1.o, we1, hb1, if_false, g13_4 wdo0, wdn4, hb2, if_true, hin, qm_refused S1, rf]
      by_cases g1 : n < 1
      · simp only [g1, if_true]
        exact bad2 (Or.inl g1)
      · by_cases g2 : 14 < n
        · simp only [g1, g2, if_true, if_false]
          exact bad2 (Or.inr g2)
        · obtain ⟨m, rfl, hm1, hm14⟩ := days_n g1 g2
          simp only [g1, g2, if_false, nI_clamp (show m < 2 ^ 31 by omega)]
          obtain ⟨h2, q1, q2, q3⟩ := qm_lays Z ht hm14 hm1
          have Z2 := Z.fw q2 (fun q a => by simp only [Aq] at a; omega)
          have hin : fX5_in (nI m) 1 14 (sI h N 0 0) = some (1, sI h N 0 0) := by rw [qm_in, if_neg g1, if_neg g2]
          by_cases hc : coV y t m = -1
          · simp only [hc, if_true]
            have f2 := q2.fr (show N < N + 21 by omega) (fun q a => by simp only [Aq] at a; omega)
            obtain ⟨f3, S3, Q3, t3, w3⟩ := rf_all Z2.1 6
            refine ⟨rf h2 N 6, ?_, (f1.trans f2).trans f3, V.fin ((Q1.trans (q2.svm (fun k a => a.elim) (fun j a => by simp only [Aq] at a; omega))).trans Q3) t3 w3⟩
            rw [hc] at q1
            obtain ⟨wS, we1, wD, wlE, wK⟩ := id Z
            obtain ⟨whz, whfu0, wo0, wo1, wr0_5, wo2, wr0_17, wo3, wr0_18, wo4, wr0_22, wo5, wr0_23, wo6, wr0_26, wo7, wr0_28, wo8, wr0_29, wo9, wr0_30, wo10, wr0_31, wo11, wr0_32, wo12, wr0_35, wo13, wr0_36, wo14, wr0_38, wo15, wr0_39, wo16, wr0_40, wo17, wr0_41, wo18, wr0_43, wo19, wr0_44, wo20, wr0_45⟩ := id wS
            obtain ⟨wdlo, wdo0, wdv0, wdv1, wdn2, wdn3, wdn4, wdn5, wdn6, wdn7, wdn8, wdn9, wdr11, wda11, wdv11, wdr12, wda12, wdv12, wdr13, wda13, wdv13, wdr14, wda14, wdv14, wdr15, wda15, wdv15, wdr16, wda16, wdv16, wdr17, wda17, wdv17, wdr18, wda18, wdv18, wdr19, wda19, wdv19, wdr20, wda20, wdv20, wdr21, wda21, wdv21, wdr22, wda22, wdv22, wdr23, wda23, wdv23, wdr24, wda24, wdv24, wdr25, wda25, wdv25, wdr26, wda26, wdv26, wdr27, wda27, wdv27, wdr28, wda28, wdv28, wdr29, wda29, wdv29, wdr30, wda30, wdv30, wdr31, wda31, wdv31, wdr32, wda32, wdv32, wdr33, wda33, wdv33⟩ := id wD
            obtain ⟨wyc2, wyc3, wyc4, wyc5, wyc6, wyc7, wyc8, wyc9, wyyk, wyyd, wyyf, wyyh, wyyc, wyyl, wyyp, wyyhot, wyyby⟩ := id wK
            simp only [fX5_menu, ab_ckq S.o, ab_pIq S.o S.1, bdS, b2S, bxL, bxR, onN, onS, g4_3 S1.o, we1, hb1, if_false, g13_4 wdo0, wdn4, hb2, if_true, hin, show ¬ ((1 : Int32) = 0) from by decide, q1, qm_refused Z2.1, rf]
          · simp only [hc, if_false]
            have f3 : Fw N (Aq (N + 10)) (Aq 33) h2 (sI h2 N 33 (nI m)) := Fw.sI Z2.1.o rfl rfl
            have Z3 := Z2.fw f3 (fun q a => by simp only [Aq] at a; omega)
            obtain ⟨h', s1, s2, s3⟩ := qm_menuL hc hm14 m 0 300000 _ Z3 (fun i' a b d' hd => by rw [aF_sI]; exact q3 i' a b d' hd) (by omega) (by omega)
            have Z4 := Z3.fw s2 (fun q a => by simp only [Aq] at a; omega)
            have f9 : Fw N (fun q => q = N + 10 ∨ q = N + 11) (Aq 33) (sI h N 0 0) h' := ((q2.wide (fun q a => Or.inl a) (fun k a => a.elim)).trans (f3.wide (fun q a => Or.inl a) (fun k a => a))).trans (s2.wide (fun q a => Or.inr a) (fun k a => a.elim))
            obtain ⟨f4, S4, Q4, t4, w4⟩ := rf_all Z4.1 0
            refine ⟨rf h' N 0, ?_, (f1.trans (f9.fr (by omega) (fun q a => by omega))).trans f4, ?_⟩
            · rw [nI_0, if_pos rfl] at s1
              obtain ⟨wS, we1, wD, wlE, wK⟩ := id Z
              obtain ⟨whz, whfu0, wo0, wo1, wr0_5, wo2, wr0_17, wo3, wr0_18, wo4, wr0_22, wo5, wr0_23, wo6, wr0_26, wo7, wr0_28, wo8, wr0_29, wo9, wr0_30, wo10, wr0_31, wo11, wr0_32, wo12, wr0_35, wo13, wr0_36, wo14, wr0_38, wo15, wr0_39, wo16, wr0_40, wo17, wr0_41, wo18, wr0_43, wo19, wr0_44, wo20, wr0_45⟩ := id wS
              obtain ⟨wdlo, wdo0, wdv0, wdv1, wdn2, wdn3, wdn4, wdn5, wdn6, wdn7, wdn8, wdn9, wdr11, wda11, wdv11, wdr12, wda12, wdv12, wdr13, wda13, wdv13, wdr14, wda14, wdv14, wdr15, wda15, wdv15, wdr16, wda16, wdv16, wdr17, wda17, wdv17, wdr18, wda18, wdv18, wdr19, wda19, wdv19, wdr20, wda20, wdv20, wdr21, wda21, wdv21, wdr22, wda22, wdv22, wdr23, wda23, wdv23, wdr24, wda24, wdv24, wdr25, wda25, wdv25, wdr26, wda26, wdv26, wdr27, wda27, wdv27, wdr28, wda28, wdv28, wdr29, wda29, wdv29, wdr30, wda30, wdv30, wdr31, wda31, wdv31, wdr32, wda32, wdv32, wdr33, wda33, wdv33⟩ := id wD
              obtain ⟨wyc2, wyc3, wyc4, wyc5, wyc6, wyc7, wyc8, wyc9, wyyk, wyyd, wyyf, wyyh, wyyc, wyyl, wyyp, wyyhot, wyyby⟩ := id wK
              simp only [fX5_menu, ab_ckq S.o, ab_pIq S.o S.1, bdS, b2S, bxL, bxR, onN, onS, g4_3 S1.o, we1, hb1, if_false, g13_4 wdo0, wdn4, hb2, if_true, hin, show ¬ ((1 : Int32) = 0) from by decide, q1, hc, ab_pIq Z2.1.o Z2.1.1, Z3.1.f, s1]
            · obtain ⟨v1, v2, v3, v4, v5, v6, v7, v8, v9, v10, v11, v12, v13, v14, v15, v16, v17, v18, v19, v20, v21, v22⟩ := V.th S
              have gg : ∀ k, k = 6 ∨ k = 13 ∨ k = 19 ∨ k = 27 ∨ k = 34 ∨ k = 37 ∨ k = 42 → gI (rf h' N 0) N k = gI (sI h N 0 0) N k := fun k hk => (Q4.1 k (by omega)).trans (f9.2.2 k (by simp only [Aq]; omega))
              have aa : ∀ j, (1 ≤ j ∧ j ≤ 3) ∨ j = 7 ∨ j = 13 ∨ j = 14 ∨ (16 ≤ j ∧ j ≤ 20) → aF (rf h' N 0) (N + j) = aF (sI h N 0 0) (N + j) := fun j hj => (Q4.2 j (by omega)).trans (f9.aF (by omega) (by omega))
              have a11 : aF (rf h' N 0) (N + 11) = fun i => if i < m then mnL y t m i else s.2 5 i := by
                rw [Q4.2 11 (by omega), s3]
                funext i
                rw [aF_sI, q2.aF (by omega) (by simp only [Aq]; omega), v13]
                by_cases e : i < m
                · rw [if_pos (by omega), if_pos e]
                · rw [if_neg (by omega), if_neg e]
              have g33 : gI (rf h' N 0) N 33 = nI m := by
                rw [Q4.1 33 (by omega), s2.2.2 33 (fun z => z), gI_sI Z2.1.o, if_pos ⟨rfl, rfl⟩]
              exact ⟨(gg 6 (by omega)).trans v1, t4, (gg 13 (by omega)).trans v3, w4, (gg 19 (by omega)).trans v5, (gg 27 (by omega)).trans v6, g33, (gg 34 (by omega)).trans v8, (gg 37 (by omega)).trans v9, (gg 42 (by omega)).trans v10, (aa 1 (by omega)).trans v11, (aa 7 (by omega)).trans v12, a11, (aa 13 (by omega)).trans v14, (aa 14 (by omega)).trans v15, (aa 16 (by omega)).trans v16, (aa 17 (by omega)).trans v17, (aa 18 (by omega)).trans v18, (aa 19 (by omega)).trans v19, (aa 20 (by omega)).trans v20, fun c hc => by rw [aa 2 (by omega)]; exact v21 c hc, fun c hc k hk => by rw [aa 3 (by omega)]; exact v22 c hc k hk⟩
