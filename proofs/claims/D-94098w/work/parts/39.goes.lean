/-! the model's way along a row -/
theorem qm_b190 {h : Hp} {N E d : Nat} {y : Dy} (Z : MD h N E d y) {c x k : Nat} (hx : x < y.1 5) {K : Int32 → Int32 → Int32 → Int32 → Int32 → Hp → Option Hp} {l1 tea s0 s1 s2 : Int32} : fX5_goes_b190 N K l1 tea (nI k) (nI x) s0 s1 s2 h = K l1 tea (s2 + (s1 + s0)) (y.2 18 x) (nI (k + 1)) h := by
  obtain ⟨S, e1, D, lE, K⟩ := id Z
  obtain ⟨hz, hfu0, o0, o1, r0_5, o2, r0_17, o3, r0_18, o4, r0_22, o5, r0_23, o6, r0_26, o7, r0_28, o8, r0_29, o9, r0_30, o10, r0_31, o11, r0_32, o12, r0_35, o13, r0_36, o14, r0_38, o15, r0_39, o16, r0_40, o17, r0_41, o18, r0_43, o19, r0_44, o20, r0_45⟩ := id S
  obtain ⟨dlo, do0, dv0, dv1, dn2, dn3, dn4, dn5, dn6, dn7, dn8, dn9, dr11, da11, dv11, dr12, da12, dv12, dr13, da13, dv13, dr14, da14, dv14, dr15, da15, dv15, dr16, da16, dv16, dr17, da17, dv17, dr18, da18, dv18, dr19, da19, dv19, dr20, da20, dv20, dr21, da21, dv21, dr22, da22, dv22, dr23, da23, dv23, dr24, da24, dv24, dr25, da25, dv25, dr26, da26, dv26, dr27, da27, dv27, dr28, da28, dv28, dr29, da29, dv29, dr30, da30, dv30, dr31, da31, dv31, dr32, da32, dv32, dr33, da33, dv33⟩ := id D
  obtain ⟨yc2, yc3, yc4, yc5, yc6, yc7, yc8, yc9, yyk, yyd, yyf, yyh, yyc, yyl, yyp, yyhot, yyby⟩ := id K
  simp only [fX5_goes_b190, g4_3 o0, e1, bdS, b2S, bxL, bxR, onN, onS, g13_18 do0, dr18, aIn da18 (show x < 6 by omega), dv18, nI_1]
theorem qm_b166 {h : Hp} {N E d : Nat} {y : Dy} (Z : MD h N E d y) {c x k : Nat} (hx : x < y.1 5) {K : Int32 → Int32 → Int32 → Int32 → Int32 → Hp → Option Hp} {l1 tea s0 s1 s2 : Int32} : fX5_goes_b166 N K l1 tea (nI k) (nI x) s0 s1 s2 h = K l1 tea (s2 + ((s1 + s0) + (if lieB tea x then y.2 21 x else 0))) (y.2 18 x) (nI (k + 1)) h := by
  have hb := fun s0 s1 s2 => qm_b190 Z (c := c) hx (K := K) (k := k) (l1 := l1) (tea := tea) (s0 := s0) (s1 := s1) (s2 := s2)
  obtain ⟨S, e1, D, lE, K⟩ := id Z
  obtain ⟨hz, hfu0, o0, o1, r0_5, o2, r0_17, o3, r0_18, o4, r0_22, o5, r0_23, o6, r0_26, o7, r0_28, o8, r0_29, o9, r0_30, o10, r0_31, o11, r0_32, o12, r0_35, o13, r0_36, o14, r0_38, o15, r0_39, o16, r0_40, o17, r0_41, o18, r0_43, o19, r0_44, o20, r0_45⟩ := id S
  obtain ⟨dlo, do0, dv0, dv1, dn2, dn3, dn4, dn5, dn6, dn7, dn8, dn9, dr11, da11, dv11, dr12, da12, dv12, dr13, da13, dv13, dr14, da14, dv14, dr15, da15, dv15, dr16, da16, dv16, dr17, da17, dv17, dr18, da18, dv18, dr19, da19, dv19, dr20, da20, dv20, dr21, da21, dv21, dr22, da22, dv22, dr23, da23, dv23, dr24, da24, dv24, dr25, da25, dv25, dr26, da26, dv26, dr27, da27, dv27, dr28, da28, dv28, dr29, da29, dv29, dr30, da30, dv30, dr31, da31, dv31, dr32, da32, dv32, dr33, da33, dv33⟩ := id D
  obtain ⟨yc2, yc3, yc4, yc5, yc6, yc7, yc8, yc9, yyk, yyd, yyf, yyh, yyc, yyl, yyp, yyhot, yyby⟩ := id K
  simp only [fX5_goes_b166, qm_has, bdS, b2S, bxL, bxR, onN, onS, g4_3 o0, e1, g13_21 do0, dr21, aIn da21 (show x < 6 by omega), dv21, hb]
  by_cases h1 : lieB tea x
  · simp [h1]
  · simp [h1]
theorem qm_b125 {h : Hp} {N E d : Nat} {y : Dy} (Z : MD h N E d y) {c x k : Nat} (hc : c < y.1 6) (hx : x < y.1 5) {K : Int32 → Int32 → Int32 → Int32 → Int32 → Hp → Option Hp} {tea m1 : Int32} : fX5_goes_b125 N K (nI c) tea m1 (nI k) (nI x) h = K (nI c) tea (m2V y c tea m1 x) (y.2 18 x) (nI (k + 1)) h := by
  have hb := fun s0 s1 s2 => qm_b166 Z (c := c) hx (K := K) (k := k) (l1 := nI c) (tea := tea) (s0 := s0) (s1 := s1) (s2 := s2)
  obtain ⟨S, e1, D, lE, K⟩ := id Z
  obtain ⟨hz, hfu0, o0, o1, r0_5, o2, r0_17, o3, r0_18, o4, r0_22, o5, r0_23, o6, r0_26, o7, r0_28, o8, r0_29, o9, r0_30, o10, r0_31, o11, r0_32, o12, r0_35, o13, r0_36, o14, r0_38, o15, r0_39, o16, r0_40, o17, r0_41, o18, r0_43, o19, r0_44, o20, r0_45⟩ := id S
  obtain ⟨dlo, do0, dv0, dv1, dn2, dn3, dn4, dn5, dn6, dn7, dn8, dn9, dr11, da11, dv11, dr12, da12, dv12, dr13, da13, dv13, dr14, da14, dv14, dr15, da15, dv15, dr16, da16, dv16, dr17, da17, dv17, dr18, da18, dv18, dr19, da19, dv19, dr20, da20, dv20, dr21, da21, dv21, dr22, da22, dv22, dr23, da23, dv23, dr24, da24, dv24, dr25, da25, dv25, dr26, da26, dv26, dr27, da27, dv27, dr28, da28, dv28, dr29, da29, dv29, dr30, da30, dv30, dr31, da31, dv31, dr32, da32, dv32, dr33, da33, dv33⟩ := id D
  obtain ⟨yc2, yc3, yc4, yc5, yc6, yc7, yc8, yc9, yyk, yyd, yyf, yyh, yyc, yyl, yyp, yyhot, yyby⟩ := id K
  simp only [fX5_goes_b125, bdS, b2S, bxL, bxR, onN, onS, g4_3 o0, e1, g13_20 do0, dr20, aIn da20 (show x < 6 by omega), dv20, g13_24 do0, dr24, aIn da24 (show x < 6 by omega), dv24, g13_25 do0, dr25, aIn da25 (show c < 3 by omega), dv25, hb, m2V, frtV]
  by_cases h1 : y.2 24 x = 0
  · simp only [h1, if_true]
  · by_cases h2 : y.2 25 c = 0
    · simp only [h1, h2, if_true, if_false]
    · simp only [h1, h2, if_false]
theorem qm_goL {N E d : Nat} {y : Dy} {c : Nat} (hc : c < y.1 6) (tea : Int32) : ∀ (l : List Nat) (k n : Nat) (h : Hp) (m p : Int32), MD h N E d y → gI h N 20 = nI (k + l.length) → (∀ j, j < l.length → aF h (N + 4) (k + j) = nI (l.getD j 0)) → (∀ x ∈ l, x < y.1 5) → k + l.length ≤ 6 → l.length < n →
    ∃ h', fX5_goes_l37 N n (nI c) tea m p (nI k) h = some h' ∧ Fr N (N + 21) h h' ∧ (∀ q, q ≠ N → q ≠ N + 5 → h'.1 q = h.1 q) ∧ (∀ j, j ≠ 21 → gI h' N j = gI h N j) ∧ gI h' N 21 = wkB y c tea l m p (gI h N 21) ∧ (∀ j, j < l.length → aF h' (N + 5) (k + j) = (wkC y c tea l m p).getD j 0) ∧ ∀ j, j < k → aF h' (N + 5) j = aF h (N + 5) j := by
  intro l
  induction l with
  | nil =>
    intro k n h m p Z hm ha hx hk hn
    cases n with
    | zero => simp at hn
    | succ n =>
      refine ⟨h, ?_, Fr.rf, fun q _ _ => rfl, fun j _ => rfl, rfl, fun j hj => by simp at hj, fun j _ => rfl⟩
      obtain ⟨S, e1, D, lE, K⟩ := id Z
      obtain ⟨hz, hfu0, o0, o1, r0_5, o2, r0_17, o3, r0_18, o4, r0_22, o5, r0_23, o6, r0_26, o7, r0_28, o8, r0_29, o9, r0_30, o10, r0_31, o11, r0_32, o12, r0_35, o13, r0_36, o14, r0_38, o15, r0_39, o16, r0_40, o17, r0_41, o18, r0_43, o19, r0_44, o20, r0_45⟩ := id S
      obtain ⟨dlo, do0, dv0, dv1, dn2, dn3, dn4, dn5, dn6, dn7, dn8, dn9, dr11, da11, dv11, dr12, da12, dv12, dr13, da13, dv13, dr14, da14, dv14, dr15, da15, dv15, dr16, da16, dv16, dr17, da17, dv17, dr18, da18, dv18, dr19, da19, dv19, dr20, da20, dv20, dr21, da21, dv21, dr22, da22, dv22, dr23, da23, dv23, dr24, da24, dv24, dr25, da25, dv25, dr26, da26, dv26, dr27, da27, dv27, dr28, da28, dv28, dr29, da29, dv29, dr30, da30, dv30, dr31, da31, dv31, dr32, da32, dv32, dr33, da33, dv33⟩ := id D
      obtain ⟨yc2, yc3, yc4, yc5, yc6, yc7, yc8, yc9, yyk, yyd, yyf, yyh, yyc, yyl, yyp, yyhot, yyby⟩ := id K
      simp only [fX5_goes_l37, g4_20 o0, bdS, b2S, bxL, bxR, onN, onS, hm, List.length_nil, Nat.add_zero, Int32.le_refl, if_true]
  | cons x t ih =>
    intro k n h m p Z hm ha hx hk hn
    have hL : (x :: t).length = t.length + 1 := rfl
    rw [hL] at hm hk hn
    cases n with
    | zero => omega
    | succ n =>
      have hx0 : x < y.1 5 := hx x List.mem_cons_self
      have ha0 : aF h (N + 4) k = nI x := ha 0 (by rw [hL]; omega)
      have hway := qm_way Z p (y.2 18 x)
      have o5 : isA h (N + 5) 0 6 := by
        obtain ⟨S, e1, D, lE, K⟩ := id Z
        obtain ⟨hz, hfu0, o0, o1, r0_5, o2, r0_17, o3, r0_18, o4, r0_22, o5, r0_23, o6, r0_26, o7, r0_28, o8, r0_29, o9, r0_30, o10, r0_31, o11, r0_32, o12, r0_35, o13, r0_36, o14, r0_38, o15, r0_39, o16, r0_40, o17, r0_41, o18, r0_43, o19, r0_44, o20, r0_45⟩ := id S
        obtain ⟨dlo, do0, dv0, dv1, dn2, dn3, dn4, dn5, dn6, dn7, dn8, dn9, dr11, da11, dv11, dr12, da12, dv12, dr13, da13, dv13, dr14, da14, dv14, dr15, da15, dv15, dr16, da16, dv16, dr17, da17, dv17, dr18, da18, dv18, dr19, da19, dv19, dr20, da20, dv20, dr21, da21, dv21, dr22, da22, dv22, dr23, da23, dv23, dr24, da24, dv24, dr25, da25, dv25, dr26, da26, dv26, dr27, da27, dv27, dr28, da28, dv28, dr29, da29, dv29, dr30, da30, dv30, dr31, da31, dv31, dr32, da32, dv32, dr33, da33, dv33⟩ := id D
        obtain ⟨yc2, yc3, yc4, yc5, yc6, yc7, yc8, yc9, yyk, yyd, yyf, yyh, yyc, yyl, yyp, yyhot, yyby⟩ := id K
        exact o5
      have f1 : Fr N (N + 21) h (sA h (N + 5) k (m1V y m p x)) := Fr.sA (by omega) (by omega)
      have Z1 := Z.kept f1
      have O1 : isO (sA h (N + 5) k (m1V y m p x)) N 4 := by
        obtain ⟨S, e1, D, lE, K⟩ := id Z1
        obtain ⟨hz, hfu0, o0, o1, r0_5, o2, r0_17, o3, r0_18, o4, r0_22, o5, r0_23, o6, r0_26, o7, r0_28, o8, r0_29, o9, r0_30, o10, r0_31, o11, r0_32, o12, r0_35, o13, r0_36, o14, r0_38, o15, r0_39, o16, r0_40, o17, r0_41, o18, r0_43, o19, r0_44, o20, r0_45⟩ := id S
        obtain ⟨dlo, do0, dv0, dv1, dn2, dn3, dn4, dn5, dn6, dn7, dn8, dn9, dr11, da11, dv11, dr12, da12, dv12, dr13, da13, dv13, dr14, da14, dv14, dr15, da15, dv15, dr16, da16, dv16, dr17, da17, dv17, dr18, da18, dv18, dr19, da19, dv19, dr20, da20, dv20, dr21, da21, dv21, dr22, da22, dv22, dr23, da23, dv23, dr24, da24, dv24, dr25, da25, dv25, dr26, da26, dv26, dr27, da27, dv27, dr28, da28, dv28, dr29, da29, dv29, dr30, da30, dv30, dr31, da31, dv31, dr32, da32, dv32, dr33, da33, dv33⟩ := id D
        obtain ⟨yc2, yc3, yc4, yc5, yc6, yc7, yc8, yc9, yyk, yyd, yyf, yyh, yyc, yyl, yyp, yyhot, yyby⟩ := id K
        exact o0
      have hheat := qm_heat Z1 hc (m1V y m p x)
      have hb1 := fun (K : Int32 → Int32 → Int32 → Int32 → Int32 → Hp → Option Hp) => qm_b125 Z1 hc hx0 (K := K) (k := k) (tea := tea) (m1 := m1V y m p x)
      have f2 : ∀ v, Fr N (N + 21) (sA h (N + 5) k (m1V y m p x)) (sI (sA h (N + 5) k (m1V y m p x)) N 21 v) := fun v => Fr.sI O1 rfl (by omega) (by omega)
      have hb2 := fun (v : Int32) (K : Int32 → Int32 → Int32 → Int32 → Int32 → Hp → Option Hp) => qm_b125 (Z1.kept (f2 v)) hc hx0 (K := K) (k := k) (tea := tea) (m1 := m1V y m p x)
      -- the heap that goes on
      have hgo : ∃ hh, Fr N (N + 21) h hh ∧ (∀ q, q ≠ N → q ≠ N + 5 → hh.1 q = h.1 q) ∧ (∀ j, j ≠ 21 → gI hh N j = gI h N j) ∧ gI hh N 21 = gI h N 21 ||| badB y c (m1V y m p x) x ∧ aF hh (N + 5) = upd (aF h (N + 5)) k (m1V y m p x) ∧ fX5_goes_l37 N (n + 1) (nI c) tea m p (nI k) h = fX5_goes_l37 N n (nI c) tea (m2V y c tea (m1V y m p x) x) (y.2 18 x) (nI (k + 1)) hh := by
        have step : ∀ v, (∀ q, q ≠ N → q ≠ N + 5 → (sI (sA h (N + 5) k (m1V y m p x)) N 21 v).1 q = h.1 q) ∧ (∀ j, j ≠ 21 → gI (sI (sA h (N + 5) k (m1V y m p x)) N 21 v) N j = gI h N j) ∧ gI (sI (sA h (N + 5) k (m1V y m p x)) N 21 v) N 21 = v ∧ aF (sI (sA h (N + 5) k (m1V y m p x)) N 21 v) (N + 5) = upd (aF h (N + 5)) k (m1V y m p x) := fun v =>
          ⟨fun q h1 h2 => (sV_o h1).trans (sA_o h2), fun j hj => by rw [gI_sI O1, if_neg (by omega), gI_sA], by rw [gI_sI O1, if_pos ⟨rfl, rfl⟩], by rw [aF_sI, aF_sA o5, if_pos rfl]⟩
        have em : m + wayV y p (y.2 18 x) = m1V y m p x := rfl
        have hbB : badB y c (m1V y m p x) x = if y.2 0 1 < m1V y m p x then (1 : Int32) <<< (nI x &&& 31) else if y.2 0 0 ≤ heatV y c (m1V y m p x) then 0 else (1 : Int32) <<< (nI x &&& 31) := rfl
        obtain ⟨S, e1, D, lE, K⟩ := id Z
        obtain ⟨hz, hfu0, o0, o1, r0_5, o2, r0_17, o3, r0_18, o4, r0_22, o5, r0_23, o6, r0_26, o7, r0_28, o8, r0_29, o9, r0_30, o10, r0_31, o11, r0_32, o12, r0_35, o13, r0_36, o14, r0_38, o15, r0_39, o16, r0_40, o17, r0_41, o18, r0_43, o19, r0_44, o20, r0_45⟩ := id S
        obtain ⟨dlo, do0, dv0, dv1, dn2, dn3, dn4, dn5, dn6, dn7, dn8, dn9, dr11, da11, dv11, dr12, da12, dv12, dr13, da13, dv13, dr14, da14, dv14, dr15, da15, dv15, dr16, da16, dv16, dr17, da17, dv17, dr18, da18, dv18, dr19, da19, dv19, dr20, da20, dv20, dr21, da21, dv21, dr22, da22, dv22, dr23, da23, dv23, dr24, da24, dv24, dr25, da25, dv25, dr26, da26, dv26, dr27, da27, dv27, dr28, da28, dv28, dr29, da29, dv29, dr30, da30, dv30, dr31, da31, dv31, dr32, da32, dv32, dr33, da33, dv33⟩ := id D
        obtain ⟨yc2, yc3, yc4, yc5, yc6, yc7, yc8, yc9, yyk, yyd, yyf, yyh, yyc, yyl, yyp, yyhot, yyby⟩ := id K
        obtain ⟨wS, we1, wD, wlE, wK⟩ := id Z1
        obtain ⟨whz, whfu0, wo0, wo1, wr0_5, wo2, wr0_17, wo3, wr0_18, wo4, wr0_22, wo5, wr0_23, wo6, wr0_26, wo7, wr0_28, wo8, wr0_29, wo9, wr0_30, wo10, wr0_31, wo11, wr0_32, wo12, wr0_35, wo13, wr0_36, wo14, wr0_38, wo15, wr0_39, wo16, wr0_40, wo17, wr0_41, wo18, wr0_43, wo19, wr0_44, wo20, wr0_45⟩ := id wS
        obtain ⟨wdlo, wdo0, wdv0, wdv1, wdn2, wdn3, wdn4, wdn5, wdn6, wdn7, wdn8, wdn9, wdr11, wda11, wdv11, wdr12, wda12, wdv12, wdr13, wda13, wdv13, wdr14, wda14, wdv14, wdr15, wda15, wdv15, wdr16, wda16, wdv16, wdr17, wda17, wdv17, wdr18, wda18, wdv18, wdr19, wda19, wdv19, wdr20, wda20, wdv20, wdr21, wda21, wdv21, wdr22, wda22, wdv22, wdr23, wda23, wdv23, wdr24, wda24, wdv24, wdr25, wda25, wdv25, wdr26, wda26, wdv26, wdr27, wda27, wdv27, wdr28, wda28, wdv28, wdr29, wda29, wdv29, wdr30, wda30, wdv30, wdr31, wda31, wdv31, wdr32, wda32, wdv32, wdr33, wda33, wdv33⟩ := id wD
        obtain ⟨wyc2, wyc3, wyc4, wyc5, wyc6, wyc7, wyc8, wyc9, wyyk, wyyd, wyyf, wyyh, wyyc, wyyl, wyyp, wyyhot, wyyby⟩ := id wK
        have hu : fX5_goes_l37 N (n + 1) (nI c) tea m p (nI k) h = if y.2 0 1 < m1V y m p x then fX5_goes_l37 N n (nI c) tea (m2V y c tea (m1V y m p x) x) (y.2 18 x) (nI (k + 1)) (sI (sA h (N + 5) k (m1V y m p x)) N 21 (gI h N 21 ||| ((1 : Int32) <<< (nI x &&& 31)))) else if y.2 0 0 ≤ heatV y c (m1V y m p x) then fX5_goes_l37 N n (nI c) tea (m2V y c tea (m1V y m p x) x) (y.2 18 x) (nI (k + 1)) (sA h (N + 5) k (m1V y m p x)) else fX5_goes_l37 N n (nI c) tea (m2V y c tea (m1V y m p x) x) (y.2 18 x) (nI (k + 1)) (sI (sA h (N + 5) k (m1V y m p x)) N 21 (gI h N 21 ||| ((1 : Int32) <<< (nI x &&& 31)))) := by
          simp only [fX5_goes_l37, g4_20 o0, bdS, b2S, bxL, bxR, onN, onS, hm, nI_ge (show k < k + (t.length + 1) by omega) (by omega), if_false, g4_22 o0, r0_22, aIn o4 (show k < 6 by omega), ha0, g4_3 o0, e1, g13_18 do0, dr18, aIn da18 (show x < 6 by omega), dv18, hway, em, g4_23 o0, r0_23, sIn o5 (show hfz h ≤ N + 5 by omega) (show k < 6 by omega), g4_3 wo0, we1, g13_1 wdo0, wdv1, g4_21 wo0, gI_sA, ab_pIq wo0 whz, hheat, g13_0 wdo0, wdv0, hb1, hb2]
        by_cases h1 : y.2 0 1 < m1V y m p x
        · rw [if_pos h1] at hu hbB
          obtain ⟨s1, s2, s3, s4⟩ := step (gI h N 21 ||| ((1 : Int32) <<< (nI x &&& 31)))
          exact ⟨_, f1.trans (f2 _), s1, s2, by rw [hbB]; exact s3, s4, hu⟩
        · rw [if_neg h1] at hu hbB
          by_cases h2 : y.2 0 0 ≤ heatV y c (m1V y m p x)
          · rw [if_pos h2] at hu hbB
            exact ⟨_, f1, fun q _ h2 => sA_o h2, fun j _ => gI_sA, by rw [hbB, gI_sA, Int32_or0], by rw [aF_sA o5, if_pos rfl], hu⟩
          · rw [if_neg h2] at hu hbB
            obtain ⟨s1, s2, s3, s4⟩ := step (gI h N 21 ||| ((1 : Int32) <<< (nI x &&& 31)))
            exact ⟨_, f1.trans (f2 _), s1, s2, by rw [hbB]; exact s3, s4, hu⟩
      obtain ⟨hh, t1, t2, t3, t4, t5, t6⟩ := hgo
      obtain ⟨h', q1, q2, q3, q4, q5, q6, q7⟩ := ih (k + 1) n hh (m2V y c tea (m1V y m p x) x) (y.2 18 x) (Z.kept t1) (by rw [t3 20 (by omega), hm]; congr 1; omega) (fun j hj => by rw [aF_of (t2 _ (by omega) (by omega)), show k + 1 + j = k + (j + 1) by omega]; exact ha (j + 1) (by rw [hL]; omega)) (fun z hz => hx z (List.mem_cons_of_mem _ hz)) (by omega) (by omega)
      refine ⟨h', t6.trans q1, t1.trans q2, fun q h1 h2 => (q3 q h1 h2).trans (t2 q h1 h2), fun j hj => (q4 j hj).trans (t3 j hj), by rw [q5, t4]; rfl, ?_, ?_⟩
      · intro j hj
        cases j with
        | zero =>
          rw [q7 (k + 0) (by omega), t5]
          simp [upd, wkC]
        | succ j =>
          have := q6 j (by rw [hL] at hj; omega)
          rw [show k + (j + 1) = k + 1 + j by omega, this]
          rfl
      · intro j hj
        rw [q7 j (by omega), t5]
        simp [upd, show j ≠ k by omega]
/-- what the model's row holds -/
def ML (h : Hp) (N : Nat) (l : List Nat) : Prop := gI h N 20 = nI l.length ∧ (∀ j, j < l.length → aF h (N + 4) j = nI (l.getD j 0)) ∧ l.length ≤ 6
theorem qm_goes {N E d : Nat} {y : Dy} {c : Nat} {h : Hp} (Z : MD h N E d y) (hc : c < y.1 6) (tea : Int32) {l : List Nat} (Hl : ML h N l) (hx : ∀ x ∈ l, x < y.1 5) :
    ∃ h', fX5_goes N (nI c) tea h = some h' ∧ Fr N (N + 21) h h' ∧ (∀ q, q ≠ N → q ≠ N + 5 → h'.1 q = h.1 q) ∧ (∀ j, j ≠ 21 → gI h' N j = gI h N j) ∧ ML h' N l ∧ gI h' N 21 = bV y c tea l ∧ ∀ j, j < l.length → aF h' (N + 5) j = (cV y c tea l).getD j 0 := by
  obtain ⟨H1, H2, H3⟩ := Hl
  have O0 : isO h N 4 := by
    obtain ⟨S, e1, D, lE, K⟩ := id Z
    obtain ⟨hz, hfu0, o0, o1, r0_5, o2, r0_17, o3, r0_18, o4, r0_22, o5, r0_23, o6, r0_26, o7, r0_28, o8, r0_29, o9, r0_30, o10, r0_31, o11, r0_32, o12, r0_35, o13, r0_36, o14, r0_38, o15, r0_39, o16, r0_40, o17, r0_41, o18, r0_43, o19, r0_44, o20, r0_45⟩ := id S
    obtain ⟨dlo, do0, dv0, dv1, dn2, dn3, dn4, dn5, dn6, dn7, dn8, dn9, dr11, da11, dv11, dr12, da12, dv12, dr13, da13, dv13, dr14, da14, dv14, dr15, da15, dv15, dr16, da16, dv16, dr17, da17, dv17, dr18, da18, dv18, dr19, da19, dv19, dr20, da20, dv20, dr21, da21, dv21, dr22, da22, dv22, dr23, da23, dv23, dr24, da24, dv24, dr25, da25, dv25, dr26, da26, dv26, dr27, da27, dv27, dr28, da28, dv28, dr29, da29, dv29, dr30, da30, dv30, dr31, da31, dv31, dr32, da32, dv32, dr33, da33, dv33⟩ := id D
    obtain ⟨yc2, yc3, yc4, yc5, yc6, yc7, yc8, yc9, yyk, yyd, yyf, yyh, yyc, yyl, yyp, yyhot, yyby⟩ := id K
    exact o0
  have f : Fr N (N + 21) h (sI h N 21 0) := Fr.sI O0 rfl (by omega) (by omega)
  have Z1 := Z.kept f
  obtain ⟨h', q1, q2, q3, q4, q5, q6, -⟩ := qm_goL hc tea l 0 300000 (sI h N 21 0) (y.2 27 c) (y.2 11 (frV y c)) Z1 (by rw [gI_sI O0, if_neg (by omega), H1, Nat.zero_add]) (fun j hj => by rw [aF_sI, Nat.zero_add]; exact H2 j hj) hx (by omega) (by omega)
  have e0 : gI (sI h N 21 0) N 21 = 0 := by rw [gI_sI O0, if_pos ⟨rfl, rfl⟩]
  have g3 : ∀ q, q ≠ N → q ≠ N + 5 → h'.1 q = h.1 q := fun q h1 h2 => (q3 q h1 h2).trans (sV_o h1)
  have g4 : ∀ j, j ≠ 21 → gI h' N j = gI h N j := fun j hj => (q4 j hj).trans (by rw [gI_sI O0, if_neg (by omega)])
  refine ⟨h', ?_, f.trans q2, g3, g4, ⟨(g4 20 (by omega)).trans H1, fun j hj => by rw [aF_of (g3 _ (by omega) (by omega))]; exact H2 j hj, H3⟩, by rw [q5, e0]; rfl, fun j hj => by have := q6 j hj; rw [Nat.zero_add] at this; exact this⟩
  obtain ⟨S, e1, D, lE, K⟩ := id Z
  obtain ⟨hz, hfu0, o0, o1, r0_5, o2, r0_17, o3, r0_18, o4, r0_22, o5, r0_23, o6, r0_26, o7, r0_28, o8, r0_29, o9, r0_30, o10, r0_31, o11, r0_32, o12, r0_35, o13, r0_36, o14, r0_38, o15, r0_39, o16, r0_40, o17, r0_41, o18, r0_43, o19, r0_44, o20, r0_45⟩ := id S
  obtain ⟨dlo, do0, dv0, dv1, dn2, dn3, dn4, dn5, dn6, dn7, dn8, dn9, dr11, da11, dv11, dr12, da12, dv12, dr13, da13, dv13, dr14, da14, dv14, dr15, da15, dv15, dr16, da16, dv16, dr17, da17, dv17, dr18, da18, dv18, dr19, da19, dv19, dr20, da20, dv20, dr21, da21, dv21, dr22, da22, dv22, dr23, da23, dv23, dr24, da24, dv24, dr25, da25, dv25, dr26, da26, dv26, dr27, da27, dv27, dr28, da28, dv28, dr29, da29, dv29, dr30, da30, dv30, dr31, da31, dv31, dr32, da32, dv32, dr33, da33, dv33⟩ := id D
  obtain ⟨yc2, yc3, yc4, yc5, yc6, yc7, yc8, yc9, yyk, yyd, yyf, yyh, yyc, yyl, yyp, yyhot, yyby⟩ := id K
  obtain ⟨wS, we1, wD, wlE, wK⟩ := id Z1
  obtain ⟨whz, whfu0, wo0, wo1, wr0_5, wo2, wr0_17, wo3, wr0_18, wo4, wr0_22, wo5, wr0_23, wo6, wr0_26, wo7, wr0_28, wo8, wr0_29, wo9, wr0_30, wo10, wr0_31, wo11, wr0_32, wo12, wr0_35, wo13, wr0_36, wo14, wr0_38, wo15, wr0_39, wo16, wr0_40, wo17, wr0_41, wo18, wr0_43, wo19, wr0_44, wo20, wr0_45⟩ := id wS
  obtain ⟨wdlo, wdo0, wdv0, wdv1, wdn2, wdn3, wdn4, wdn5, wdn6, wdn7, wdn8, wdn9, wdr11, wda11, wdv11, wdr12, wda12, wdv12, wdr13, wda13, wdv13, wdr14, wda14, wdv14, wdr15, wda15, wdv15, wdr16, wda16, wdv16, wdr17, wda17, wdv17, wdr18, wda18, wdv18, wdr19, wda19, wdv19, wdr20, wda20, wdv20, wdr21, wda21, wdv21, wdr22, wda22, wdv22, wdr23, wda23, wdv23, wdr24, wda24, wdv24, wdr25, wda25, wdv25, wdr26, wda26, wdv26, wdr27, wda27, wdv27, wdr28, wda28, wdv28, wdr29, wda29, wdv29, wdr30, wda30, wdv30, wdr31, wda31, wdv31, wdr32, wda32, wdv32, wdr33, wda33, wdv33⟩ := id wD
  obtain ⟨wyc2, wyc3, wyc4, wyc5, wyc6, wyc7, wyc8, wyc9, wyyk, wyyd, wyyf, wyyh, wyyc, wyyl, wyyp, wyyhot, wyyby⟩ := id wK
  obtain ⟨⟨w1, w2⟩, -⟩ := yyc c hc
  have h3 : c < 3 := by omega
  have h4 : frV y c < 3 := by unfold frV; omega
  have h5 : aF h (d + 16) c = nI (frV y c) := by rw [dv26]; exact w1
  simp only [fX5_goes, ab_ckq o0, g4_3 o0, e1, bdS, b2S, bxL, bxR, onN, onS, g13_27 do0, dr27, aIn da27 h3, dv27, g13_11 do0, dr11, g13_26 do0, dr26, aIn da26 h3, h5, aIn da11 h4, dv11, ab_pIq o0 hz, whfu0]
  rw [← nI_0]
  exact q1
