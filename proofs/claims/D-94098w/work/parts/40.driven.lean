theorem nI_mul (a b : Nat) : nI a * nI b = nI (a * b) := (Int32.ofNat_mul a b).symm
theorem nI6 (c k : Nat) : (6 : Int32) * nI c + nI k = nI (6 * c + k) := by
  rw [show (6 : Int32) = nI 6 from rfl, nI_mul, nI_add]
theorem nI10 (c k : Nat) : (10 : Int32) * nI c + nI k = nI (10 * c + k) := by
  rw [show (10 : Int32) = nI 10 from rfl, nI_mul, nI_add]
theorem qm_drvL {N E d : Nat} {y : Dy} {c : Nat} (hc : c < y.1 6) (tea : Int32) (l : List Nat) (hx : ∀ x ∈ l, x < y.1 5) (hl : l.length ≤ 6) : ∀ (m k n : Nat) (h : Hp), MD h N E d y → gI h N 20 = nI l.length → (∀ j, j < k → aF h (N + 4) j = nI (l.getD j 0)) → (∀ j, j < l.length → aF h (N + 3) (6 * c + j) = nI (l.getD j 0)) → k + m = l.length → m < n →
    ∃ h', fX5_goesAsDriven_l12 N n (nI c) tea (nI k) h = some h' ∧ Fr N (N + 21) h h' ∧ (∀ q, q ≠ N → q ≠ N + 4 → q ≠ N + 5 → h'.1 q = h.1 q) ∧ (∀ j, j ≠ 21 → gI h' N j = gI h N j) ∧ ML h' N l ∧ gI h' N 21 = bV y c tea l ∧ ∀ j, j < l.length → aF h' (N + 5) j = (cV y c tea l).getD j 0 := by
  intro m
  induction m with
  | zero =>
    intro k n h Z hm hk0 ha hk hn
    cases n with
    | zero => omega
    | succ n =>
      have hkl : k = l.length := by omega
      obtain ⟨h', q1, q2, q3, q4, q5, q6, q7⟩ := qm_goes Z hc tea (l := l) ⟨hm, fun j hj => hk0 j (by omega), hl⟩ hx
      refine ⟨h', ?_, q2, fun q h1 _ h3 => q3 q h1 h3, q4, q5, q6, q7⟩
      obtain ⟨S, e1, D, lE, K⟩ := id Z
      obtain ⟨hz, hfu0, o0, o1, r0_5, o2, r0_17, o3, r0_18, o4, r0_22, o5, r0_23, o6, r0_26, o7, r0_28, o8, r0_29, o9, r0_30, o10, r0_31, o11, r0_32, o12, r0_35, o13, r0_36, o14, r0_38, o15, r0_39, o16, r0_40, o17, r0_41, o18, r0_43, o19, r0_44, o20, r0_45⟩ := id S
      obtain ⟨dlo, do0, dv0, dv1, dn2, dn3, dn4, dn5, dn6, dn7, dn8, dn9, dr11, da11, dv11, dr12, da12, dv12, dr13, da13, dv13, dr14, da14, dv14, dr15, da15, dv15, dr16, da16, dv16, dr17, da17, dv17, dr18, da18, dv18, dr19, da19, dv19, dr20, da20, dv20, dr21, da21, dv21, dr22, da22, dv22, dr23, da23, dv23, dr24, da24, dv24, dr25, da25, dv25, dr26, da26, dv26, dr27, da27, dv27, dr28, da28, dv28, dr29, da29, dv29, dr30, da30, dv30, dr31, da31, dv31, dr32, da32, dv32, dr33, da33, dv33⟩ := id D
      obtain ⟨yc2, yc3, yc4, yc5, yc6, yc7, yc8, yc9, yyk, yyd, yyf, yyh, yyc, yyl, yyp, yyhot, yyby⟩ := id K
      simp only [fX5_goesAsDriven_l12, g4_20 o0, bdS, b2S, bxL, bxR, onN, onS, hm, hkl, Int32.le_refl, if_true, q1]
  | succ m ih =>
    intro k n h Z hm hk0 ha hk hn
    cases n with
    | zero => omega
    | succ n =>
      have hc3 : c < 3 := by
        obtain ⟨S, e1, D, lE, K⟩ := id Z
        obtain ⟨hz, hfu0, o0, o1, r0_5, o2, r0_17, o3, r0_18, o4, r0_22, o5, r0_23, o6, r0_26, o7, r0_28, o8, r0_29, o9, r0_30, o10, r0_31, o11, r0_32, o12, r0_35, o13, r0_36, o14, r0_38, o15, r0_39, o16, r0_40, o17, r0_41, o18, r0_43, o19, r0_44, o20, r0_45⟩ := id S
        obtain ⟨dlo, do0, dv0, dv1, dn2, dn3, dn4, dn5, dn6, dn7, dn8, dn9, dr11, da11, dv11, dr12, da12, dv12, dr13, da13, dv13, dr14, da14, dv14, dr15, da15, dv15, dr16, da16, dv16, dr17, da17, dv17, dr18, da18, dv18, dr19, da19, dv19, dr20, da20, dv20, dr21, da21, dv21, dr22, da22, dv22, dr23, da23, dv23, dr24, da24, dv24, dr25, da25, dv25, dr26, da26, dv26, dr27, da27, dv27, dr28, da28, dv28, dr29, da29, dv29, dr30, da30, dv30, dr31, da31, dv31, dr32, da32, dv32, dr33, da33, dv33⟩ := id D
        obtain ⟨yc2, yc3, yc4, yc5, yc6, yc7, yc8, yc9, yyk, yyd, yyf, yyh, yyc, yyl, yyp, yyhot, yyby⟩ := id K
        omega
      have o4 : isA h (N + 4) 0 6 := by
        obtain ⟨S, e1, D, lE, K⟩ := id Z
        obtain ⟨hz, hfu0, o0, o1, r0_5, o2, r0_17, o3, r0_18, o4, r0_22, o5, r0_23, o6, r0_26, o7, r0_28, o8, r0_29, o9, r0_30, o10, r0_31, o11, r0_32, o12, r0_35, o13, r0_36, o14, r0_38, o15, r0_39, o16, r0_40, o17, r0_41, o18, r0_43, o19, r0_44, o20, r0_45⟩ := id S
        obtain ⟨dlo, do0, dv0, dv1, dn2, dn3, dn4, dn5, dn6, dn7, dn8, dn9, dr11, da11, dv11, dr12, da12, dv12, dr13, da13, dv13, dr14, da14, dv14, dr15, da15, dv15, dr16, da16, dv16, dr17, da17, dv17, dr18, da18, dv18, dr19, da19, dv19, dr20, da20, dv20, dr21, da21, dv21, dr22, da22, dv22, dr23, da23, dv23, dr24, da24, dv24, dr25, da25, dv25, dr26, da26, dv26, dr27, da27, dv27, dr28, da28, dv28, dr29, da29, dv29, dr30, da30, dv30, dr31, da31, dv31, dr32, da32, dv32, dr33, da33, dv33⟩ := id D
        obtain ⟨yc2, yc3, yc4, yc5, yc6, yc7, yc8, yc9, yyk, yyd, yyf, yyh, yyc, yyl, yyp, yyhot, yyby⟩ := id K
        exact o4
      have f1 : Fr N (N + 21) h (sA h (N + 4) k (nI (l.getD k 0))) := Fr.sA (by omega) (by omega)
      obtain ⟨h', q1, q2, q3, q4, q5, q6, q7⟩ := ih (k + 1) n (sA h (N + 4) k (nI (l.getD k 0))) (Z.kept f1) (by rw [gI_sA]; exact hm) (fun j hj => by
        rw [aF_sA o4, if_pos rfl]
        by_cases h1 : j = k
        · simp [upd, h1]
        · simp only [upd, h1, if_false]
          exact hk0 j (by omega)) (fun j hj => by rw [aF_sA o4, if_neg (by omega)]; exact ha j hj) (by omega) (by omega)
      refine ⟨h', ?_, f1.trans q2, fun q h1 h2 h3 => (q3 q h1 h2 h3).trans (sA_o h2), fun j hj => (q4 j hj).trans gI_sA, q5, q6, q7⟩
      obtain ⟨S, e1, D, lE, K⟩ := id Z
      obtain ⟨hz, hfu0, o0, o1, r0_5, o2, r0_17, o3, r0_18, o4, r0_22, o5, r0_23, o6, r0_26, o7, r0_28, o8, r0_29, o9, r0_30, o10, r0_31, o11, r0_32, o12, r0_35, o13, r0_36, o14, r0_38, o15, r0_39, o16, r0_40, o17, r0_41, o18, r0_43, o19, r0_44, o20, r0_45⟩ := id S
      obtain ⟨dlo, do0, dv0, dv1, dn2, dn3, dn4, dn5, dn6, dn7, dn8, dn9, dr11, da11, dv11, dr12, da12, dv12, dr13, da13, dv13, dr14, da14, dv14, dr15, da15, dv15, dr16, da16, dv16, dr17, da17, dv17, dr18, da18, dv18, dr19, da19, dv19, dr20, da20, dv20, dr21, da21, dv21, dr22, da22, dv22, dr23, da23, dv23, dr24, da24, dv24, dr25, da25, dv25, dr26, da26, dv26, dr27, da27, dv27, dr28, da28, dv28, dr29, da29, dv29, dr30, da30, dv30, dr31, da31, dv31, dr32, da32, dv32, dr33, da33, dv33⟩ := id D
      obtain ⟨yc2, yc3, yc4, yc5, yc6, yc7, yc8, yc9, yyk, yyd, yyf, yyh, yyc, yyl, yyp, yyhot, yyby⟩ := id K
      simp only [fX5_goesAsDriven_l12, g4_20 o0, bdS, b2S, bxL, bxR, onN, onS, hm, nI_ge (show k < l.length by omega) (by omega), if_false, g4_22 o0, r0_22, g4_18 o0, r0_18, nI6, aIn o3 (show 6 * c + k < 18 by omega), ha k (by omega), sIn o4 (show hfz h ≤ N + 4 by omega) (show k < 6 by omega), nI_1, q1]
theorem qm_driven {N E d : Nat} {y : Dy} {c : Nat} {h : Hp} (Z : MD h N E d y) (hc : c < y.1 6) (tea : Int32) {l : List Nat} (hx : ∀ x ∈ l, x < y.1 5) (hl : l.length ≤ 6) (hm : aF h (N + 2) c = nI l.length) (ha : ∀ j, j < l.length → aF h (N + 3) (6 * c + j) = nI (l.getD j 0)) :
    ∃ h', fX5_goesAsDriven N (nI c) tea h = some h' ∧ Fr N (N + 21) h h' ∧ (∀ q, q ≠ N → q ≠ N + 4 → q ≠ N + 5 → h'.1 q = h.1 q) ∧ (∀ j, j ≠ 20 → j ≠ 21 → gI h' N j = gI h N j) ∧ ML h' N l ∧ gI h' N 21 = bV y c tea l ∧ ∀ j, j < l.length → aF h' (N + 5) j = (cV y c tea l).getD j 0 := by
  have O0 : isO h N 4 := by
    obtain ⟨S, e1, D, lE, K⟩ := id Z
    obtain ⟨hz, hfu0, o0, o1, r0_5, o2, r0_17, o3, r0_18, o4, r0_22, o5, r0_23, o6, r0_26, o7, r0_28, o8, r0_29, o9, r0_30, o10, r0_31, o11, r0_32, o12, r0_35, o13, r0_36, o14, r0_38, o15, r0_39, o16, r0_40, o17, r0_41, o18, r0_43, o19, r0_44, o20, r0_45⟩ := id S
    obtain ⟨dlo, do0, dv0, dv1, dn2, dn3, dn4, dn5, dn6, dn7, dn8, dn9, dr11, da11, dv11, dr12, da12, dv12, dr13, da13, dv13, dr14, da14, dv14, dr15, da15, dv15, dr16, da16, dv16, dr17, da17, dv17, dr18, da18, dv18, dr19, da19, dv19, dr20, da20, dv20, dr21, da21, dv21, dr22, da22, dv22, dr23, da23, dv23, dr24, da24, dv24, dr25, da25, dv25, dr26, da26, dv26, dr27, da27, dv27, dr28, da28, dv28, dr29, da29, dv29, dr30, da30, dv30, dr31, da31, dv31, dr32, da32, dv32, dr33, da33, dv33⟩ := id D
    obtain ⟨yc2, yc3, yc4, yc5, yc6, yc7, yc8, yc9, yyk, yyd, yyf, yyh, yyc, yyl, yyp, yyhot, yyby⟩ := id K
    exact o0
  have f : Fr N (N + 21) h (sI h N 20 (nI l.length)) := Fr.sI O0 rfl (by omega) (by omega)
  have Z1 := Z.kept f
  obtain ⟨h', q1, q2, q3, q4, q5, q6, q7⟩ := qm_drvL hc tea l hx hl l.length 0 300000 (sI h N 20 (nI l.length)) Z1 (by rw [gI_sI O0, if_pos ⟨rfl, rfl⟩]) (fun j hj => absurd hj (by omega)) (fun j hj => by rw [aF_sI]; exact ha j hj) (by omega) (by omega)
  refine ⟨h', ?_, f.trans q2, fun q h1 h2 h3 => (q3 q h1 h2 h3).trans (sV_o h1), fun j h1 h2 => (q4 j h2).trans (by rw [gI_sI O0, if_neg (by omega)]), q5, q6, q7⟩
  obtain ⟨S, e1, D, lE, K⟩ := id Z
  obtain ⟨hz, hfu0, o0, o1, r0_5, o2, r0_17, o3, r0_18, o4, r0_22, o5, r0_23, o6, r0_26, o7, r0_28, o8, r0_29, o9, r0_30, o10, r0_31, o11, r0_32, o12, r0_35, o13, r0_36, o14, r0_38, o15, r0_39, o16, r0_40, o17, r0_41, o18, r0_43, o19, r0_44, o20, r0_45⟩ := id S
  obtain ⟨dlo, do0, dv0, dv1, dn2, dn3, dn4, dn5, dn6, dn7, dn8, dn9, dr11, da11, dv11, dr12, da12, dv12, dr13, da13, dv13, dr14, da14, dv14, dr15, da15, dv15, dr16, da16, dv16, dr17, da17, dv17, dr18, da18, dv18, dr19, da19, dv19, dr20, da20, dv20, dr21, da21, dv21, dr22, da22, dv22, dr23, da23, dv23, dr24, da24, dv24, dr25, da25, dv25, dr26, da26, dv26, dr27, da27, dv27, dr28, da28, dv28, dr29, da29, dv29, dr30, da30, dv30, dr31, da31, dv31, dr32, da32, dv32, dr33, da33, dv33⟩ := id D
  obtain ⟨yc2, yc3, yc4, yc5, yc6, yc7, yc8, yc9, yyk, yyd, yyf, yyh, yyc, yyl, yyp, yyhot, yyby⟩ := id K
  obtain ⟨wS, we1, wD, wlE, wK⟩ := id Z1
  obtain ⟨whz, whfu0, wo0, wo1, wr0_5, wo2, wr0_17, wo3, wr0_18, wo4, wr0_22, wo5, wr0_23, wo6, wr0_26, wo7, wr0_28, wo8, wr0_29, wo9, wr0_30, wo10, wr0_31, wo11, wr0_32, wo12, wr0_35, wo13, wr0_36, wo14, wr0_38, wo15, wr0_39, wo16, wr0_40, wo17, wr0_41, wo18, wr0_43, wo19, wr0_44, wo20, wr0_45⟩ := id wS
  obtain ⟨wdlo, wdo0, wdv0, wdv1, wdn2, wdn3, wdn4, wdn5, wdn6, wdn7, wdn8, wdn9, wdr11, wda11, wdv11, wdr12, wda12, wdv12, wdr13, wda13, wdv13, wdr14, wda14, wdv14, wdr15, wda15, wdv15, wdr16, wda16, wdv16, wdr17, wda17, wdv17, wdr18, wda18, wdv18, wdr19, wda19, wdv19, wdr20, wda20, wdv20, wdr21, wda21, wdv21, wdr22, wda22, wdv22, wdr23, wda23, wdv23, wdr24, wda24, wdv24, wdr25, wda25, wdv25, wdr26, wda26, wdv26, wdr27, wda27, wdv27, wdr28, wda28, wdv28, wdr29, wda29, wdv29, wdr30, wda30, wdv30, wdr31, wda31, wdv31, wdr32, wda32, wdv32, wdr33, wda33, wdv33⟩ := id wD
  obtain ⟨wyc2, wyc3, wyc4, wyc5, wyc6, wyc7, wyc8, wyc9, wyyk, wyyd, wyyf, wyyh, wyyc, wyyl, wyyp, wyyhot, wyyby⟩ := id wK
  have h3 : c < 3 := by omega
  simp only [fX5_goesAsDriven, ab_ckq o0, g4_17 o0, r0_17, bdS, b2S, bxL, bxR, onN, onS, aIn o2 h3, hm, ab_pIq o0 hz, whfu0]
  rw [← nI_0]
  exact q1
/-- the place of a house in a list -/
def plF (x : Nat) : List Nat → Nat → Option Nat
  | [], _ => none
  | a :: t, k => if a = x then some k else plF x t (k + 1)
theorem plF_lt {x : Nat} : ∀ {l : List Nat} {k i : Nat}, plF x l k = some i → k ≤ i ∧ i < k + l.length ∧ l.getD (i - k) 0 = x := by
  intro l
  induction l with
  | nil => intro k i h; cases h
  | cons a t ih =>
    intro k i h
    unfold plF at h
    split at h
    · rename_i e
      cases h
      simp [e]
    · obtain ⟨h1, h2, h3⟩ := ih h
      refine ⟨by omega, by simp; omega, ?_⟩
      rw [show i - k = (i - (k + 1)) + 1 by omega]
      simpa using h3
theorem plF_mem {x : Nat} : ∀ {l : List Nat} {k : Nat}, plF x l k = none ↔ x ∉ l := by
  intro l
  induction l with
  | nil => intro k; simp [plF]
  | cons a t ih =>
    intro k
    unfold plF
    by_cases e : a = x
    · simp [e]
    · simp only [e, if_false, ih, List.mem_cons, not_or]
      exact ⟨fun h => ⟨fun h1 => e h1.symm, h⟩, fun h => h.2⟩
/-- an int out of an option -/
def oI (o : Option Nat) : Int32 := match o with
  | none => -1
  | some i => nI i
theorem qx_placeL {h : Hp} {N r x : Nat} (R : RO h N r) (hxs : x < 6) : ∀ (l : List Nat) (k n : Nat), gI h r 2 = nI (k + l.length) → (∀ j, j < l.length → aF h (r + 1) (k + j) = nI (l.getD j 0)) → (∀ z ∈ l, z < 6) → k + l.length ≤ 6 → l.length < n → fX4_placeOf_l2 r n (nI x) (nI k) h = some (oI (plF x l k), h) := by
  obtain ⟨R1, R2, R3, R4, R5, R6, R7⟩ := R
  intro l
  induction l with
  | nil =>
    intro k n hm ha hx hk hn
    cases n with
    | zero => simp at hn
    | succ n => simp only [fX4_placeOf_l2, g3_2 R3, bdS, b2S, bxL, bxR, onN, onS, hm, List.length_nil, Nat.add_zero, Int32.le_refl, if_true, plF, oI]
  | cons a t ih =>
    intro k n hm ha hx hk hn
    have hL : (a :: t).length = t.length + 1 := rfl
    rw [hL] at hm hk hn
    cases n with
    | zero => omega
    | succ n =>
      have ha0 : aF h (r + 1) k = nI a := ha 0 (by rw [hL]; omega)
      have ha6 : a < 6 := hx a List.mem_cons_self
      simp only [fX4_placeOf_l2, g3_2 R3, bdS, b2S, bxL, bxR, onN, onS, hm, nI_ge (show k < k + (t.length + 1) by omega) (by omega), if_false, g3_0 R3, R4, aIn R6 (show k < 6 by omega), ha0, nI_eq (show a < 2 ^ 31 by omega) (show x < 2 ^ 31 by omega), nI_1, plF]
      by_cases e : a = x
      · simp only [e, if_true, oI]
      · simp only [e, if_false]
        exact ih (k + 1) n (by rw [hm]; congr 1; omega) (fun j hj => by rw [show k + 1 + j = k + (j + 1) by omega]; exact ha (j + 1) (by rw [hL]; omega)) (fun z hz => hx z (List.mem_cons_of_mem _ hz)) (by omega) (by omega)
theorem qx_placeOf {h : Hp} {N r x : Nat} (R : RO h N r) (hf : hfu h = 300000) (hxs : x < 6) {l : List Nat} (Hl : RL h r l) (hx : ∀ z ∈ l, z < 6) : fX4_placeOf r (nI x) h = some (oI (plF x l 0), h) := by
  obtain ⟨H1, H2, H3⟩ := Hl
  have hh := qx_placeL R hxs l 0 300000 (by rw [Nat.zero_add]; exact H1) (fun j hj => by rw [Nat.zero_add]; exact H2 j hj) hx (by omega) (by omega)
  obtain ⟨R1, R2, R3, R4, R5, R6, R7⟩ := R
  simp only [fX4_placeOf, ab_ckq R3, hf]
  rw [← nI_0]
  exact hh
