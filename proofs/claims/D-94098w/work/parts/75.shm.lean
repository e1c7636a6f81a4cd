/-! share: the model -/
theorem low_bit : ∀ m, m < 6 → ∀ s, s < 64 → s % 2 ^ (m + 1) = 0 → (nI s ||| ((1 : Int32) <<< (nI m &&& 31))) = nI (2 ^ m + s) := by decide +kernel
theorem ldF_mod (c : Nat) : ∀ l k, ldF c l k % 2 ^ k = 0 := by
  intro l
  induction l with
  | nil => intro k; simp [ldF]
  | cons a t ih =>
    intro k
    have h1 := ih (k + 1)
    rw [Nat.pow_succ] at h1
    have h2 : ldF c t (k + 1) % 2 ^ k = 0 := by
      have := Nat.mod_mod_of_dvd (ldF c t (k + 1)) (Nat.dvd_mul_right (2 ^ k) 2)
      rw [h1] at this
      rw [← this]; simp
    rw [ldF]
    split
    · rw [Nat.add_mod, h2]; simp
    · rw [Nat.zero_add]; exact h2
theorem lie_top1 : ∀ x, x < 6 → ∀ a, a < 64 → ∀ j, j < 6 → a < 2 ^ x → lieB (nI (a + 2 ^ x)) j = (decide (j = x) || lieB (nI a) j) := by decide +kernel
theorem lie_top2 : ∀ x, x < 6 → ∀ a, a < 64 → ∀ j, j < 6 → (a < 2 ^ x ∧ x ≤ j) → lieB (nI a) j = false := by decide +kernel
theorem lie_top {x : Nat} (hx : x < 6) {a : Nat} (ha : a < 64) (h : a < 2 ^ x) {j : Nat} (hj : j < 6) : lieB (nI (a + 2 ^ x)) j = (decide (j = x) || lieB (nI a) j) ∧ (x ≤ j → lieB (nI a) j = false) := ⟨lie_top1 x hx a ha j hj h, fun g => lie_top2 x hx a ha j hj ⟨h, g⟩⟩
theorem lie_ldF (c : Nat) : ∀ n (l : List Nat), l.length = n → n ≤ 6 → ∀ j, j < 6 → lieB (nI (ldF c l 0)) j = decide (j < n ∧ l.getD j 0 = c) := by
  intro n
  induction n with
  | zero =>
    intro l hl _ j hj
    rw [List.length_eq_zero_iff.mp hl]
    have : ∀ j, j < 6 → lieB (nI 0) j = false := by decide +kernel
    simp [ldF, this j hj]
  | succ n ih =>
    intro l hl hn j hj
    obtain ⟨t, x, rfl⟩ : ∃ t x, l = t ++ [x] := by
      refine ⟨l.dropLast, l.getLast (fun e => by rw [e] at hl; simp at hl), (List.dropLast_concat_getLast _).symm⟩
    rw [List.length_append] at hl
    have hl : t.length + 1 = n + 1 := hl
    have i1 := ih t (by omega) (by omega) j hj
    obtain ⟨b1, b2⟩ := ldF_64 c (l := t) (by omega)
    obtain ⟨c1, c2⟩ := lie_top (x := t.length) (by omega) b2 b1 hj
    rw [ldF_app, Nat.zero_add]
    by_cases e : j = t.length
    · subst e
      rw [getD_app_e]
      have h2 : t.length < n + 1 := by omega
      by_cases e2 : x = c
      · rw [if_pos e2, c1]; simp [e2, h2]
      · rw [if_neg e2, Nat.add_zero, c2 (Nat.le_refl _)]; simp [e2]
    · by_cases hjl : j < t.length
      · rw [getD_app_l hjl]
        have h1 : j < n := by omega
        have h2 : j < n + 1 := by omega
        by_cases e2 : x = c
        · rw [if_pos e2, c1, i1]; simp only [e, h1, h2, decide_false, Bool.false_or]
        · rw [if_neg e2, Nat.add_zero, i1]; simp only [h1, h2]
      · have : ¬ j < n + 1 := by omega
        have h3 := c2 (by omega)
        by_cases e2 : x = c
        · rw [if_pos e2, c1, h3]; simp [e, this]
        · rw [if_neg e2, Nat.add_zero, h3]; simp [this]
theorem pow36 : ∀ c, c ≤ 3 → ∀ n, n ≤ 6 → c ^ n ≤ 729 := by decide +kernel
theorem vl_bound {C : Nat} (hC : C ≤ 3) {l : List Nat} (h : ∀ x ∈ l, x < C) (hl : l.length ≤ 6) : vlF C l < 729 := Nat.lt_of_lt_of_le (vlF_lt C l h) (pow36 C hC _ hl)
theorem qm_hoL {N E d : Nat} {y : Dy} {h : Hp} (Z : MD h N E d y) {a : List Nat} (ha : a.length = y.1 5) (hx : ∀ x ∈ a, x < y.1 6) {c : Nat} (hc : c < 2 ^ 31) : ∀ (m n : Nat), m ≤ a.length → m < n → fX5_housesOf_l16 N n (nI c) (nI (ldF c (a.drop m) m)) (nI (vlF (y.1 6) (a.take m))) (nI m - 1) h = some (nI (ldF c a 0), h) := by
  have h5 := Z.2.2.2.2.h5
  have h6 := Z.2.2.2.2.h6
  intro m
  induction m with
  | zero =>
    intro n hm hn
    cases n with
    | zero => omega
    | succ n => simp only [fX5_housesOf_l16, show nI 0 - 1 < (0 : Int32) from by decide +kernel, if_true, List.drop_zero]
  | succ m ih =>
    intro n hm hn
    cases n with
    | zero => omega
    | succ n =>
      have hlt : m < a.length := by omega
      have i1 := ih n (by omega) (by omega)
      have hd : a.drop m = a[m] :: a.drop (m + 1) := List.drop_eq_getElem_cons hlt
      have ht : a.take (m + 1) = a.take m ++ [a[m]] := (List.take_append_getElem hlt).symm
      have hxm : a[m] < y.1 6 := hx _ (List.getElem_mem hlt)
      have hv := vl_bound (C := y.1 6) h6.2 (l := a.take m) (fun x h => hx x (List.mem_of_mem_take h)) (by rw [List.length_take]; omega)
      have hv2 := vl_bound (C := y.1 6) h6.2 (l := a.take (m + 1)) (fun x h => hx x (List.mem_of_mem_take h)) (by rw [List.length_take]; omega)
      rw [ht, vlF_app] at hv2
      rw [ht, vlF_app]
      have hdv : (vlF (y.1 6) (a.take m) * y.1 6 + a[m]) / y.1 6 = vlF (y.1 6) (a.take m) := by
        rw [Nat.mul_comm, Nat.mul_add_div (by omega), Nat.div_eq_of_lt hxm, Nat.add_zero]
      have e1' : nI (vlF (y.1 6) (a.take m) * y.1 6 + a[m]) / nI (y.1 6) = nI (vlF (y.1 6) (a.take m)) := by rw [nI_div (by omega) (by omega), hdv]
      have e2' : nI (vlF (y.1 6) (a.take m) * y.1 6 + a[m]) - nI (vlF (y.1 6) (a.take m)) * nI (y.1 6) = nI a[m] := by rw [nI_mul, nI_sb (by omega)]; congr 1; omega
      have hm1 : nI m + (-1 : Int32) = nI m - 1 := (Int32.sub_eq_add_neg _ _).symm
      rw [hd, ldF] at i1
      have hlt' : ldF c (a.drop (m + 1)) (m + 1) < 64 := by
        have g1 := ldF_lt c (a.drop (m + 1)) (m + 1)
        rw [List.length_drop, show m + 1 + (a.length - (m + 1)) = a.length by omega] at g1
        have := two6 a.length (by omega)
        have := Nat.pow_pos (n := m + 1) (show 0 < 2 by omega)
        omega
      have hor := low_bit m (by omega) _ hlt' (ldF_mod c _ _)
      obtain ⟨S, e1, D, lE, K⟩ := id Z
      obtain ⟨hz, hfu0, o0, o1, r0_5, o2, r0_17, o3, r0_18, o4, r0_22, o5, r0_23, o6, r0_26, o7, r0_28, o8, r0_29, o9, r0_30, o10, r0_31, o11, r0_32, o12, r0_35, o13, r0_36, o14, r0_38, o15, r0_39, o16, r0_40, o17, r0_41, o18, r0_43, o19, r0_44, o20, r0_45⟩ := id S
      obtain ⟨dlo, do0, dv0, dv1, dn2, dn3, dn4, dn5, dn6, dn7, dn8, dn9, dr11, da11, dv11, dr12, da12, dv12, dr13, da13, dv13, dr14, da14, dv14, dr15, da15, dv15, dr16, da16, dv16, dr17, da17, dv17, dr18, da18, dv18, dr19, da19, dv19, dr20, da20, dv20, dr21, da21, dv21, dr22, da22, dv22, dr23, da23, dv23, dr24, da24, dv24, dr25, da25, dv25, dr26, da26, dv26, dr27, da27, dv27, dr28, da28, dv28, dr29, da29, dv29, dr30, da30, dv30, dr31, da31, dv31, dr32, da32, dv32, dr33, da33, dv33⟩ := id D
      obtain ⟨yc2, yc3, yc4, yc5, yc6, yc7, yc8, yc9, yyk, yyd, yyf, yyh, yyc, yyl, yyp, yyhot, yyby⟩ := id K
      by_cases e : a[m] = c
      · rw [if_pos e] at i1
        simp only [fX5_housesOf_l16, nI_pred, nI_pos (show m < 2 ^ 31 by omega), if_false, g4_3 o0, e1, bdS, b2S, bxL, bxR, onN, onS, g13_6 do0, dn6, ab_nz, nI_z (show y.1 6 < 2 ^ 31 by omega), show ¬ y.1 6 = 0 by omega, e1', e2', if_pos (congrArg nI e), hor, hm1]
        exact i1
      · rw [if_neg e, Nat.zero_add] at i1
        simp only [fX5_housesOf_l16, nI_pred, nI_pos (show m < 2 ^ 31 by omega), if_false, g4_3 o0, e1, bdS, b2S, bxL, bxR, onN, onS, g13_6 do0, dn6, ab_nz, nI_z (show y.1 6 < 2 ^ 31 by omega), show ¬ y.1 6 = 0 by omega, e1', e2', nI_eq (show a[m] < 2 ^ 31 by omega) hc, e, hm1]
        exact i1
theorem qm_housesOf {N E d : Nat} {y : Dy} {h : Hp} (Z : MD h N E d y) {a : List Nat} (ha : a.length = y.1 5) (hx : ∀ x ∈ a, x < y.1 6) {c : Nat} (hc : c < 2 ^ 31) : fX5_housesOf N (nI (vlF (y.1 6) a)) (nI c) h = some (nI (ldF c a 0), h) := by
  have h5 := Z.2.2.2.2.h5
  have := qm_hoL Z ha hx hc a.length 300000 (Nat.le_refl _) (by omega)
  rw [List.drop_length, List.take_length, ha] at this
  obtain ⟨S, e1, D, lE, K⟩ := id Z
  obtain ⟨hz, hfu0, o0, o1, r0_5, o2, r0_17, o3, r0_18, o4, r0_22, o5, r0_23, o6, r0_26, o7, r0_28, o8, r0_29, o9, r0_30, o10, r0_31, o11, r0_32, o12, r0_35, o13, r0_36, o14, r0_38, o15, r0_39, o16, r0_40, o17, r0_41, o18, r0_43, o19, r0_44, o20, r0_45⟩ := id S
  obtain ⟨dlo, do0, dv0, dv1, dn2, dn3, dn4, dn5, dn6, dn7, dn8, dn9, dr11, da11, dv11, dr12, da12, dv12, dr13, da13, dv13, dr14, da14, dv14, dr15, da15, dv15, dr16, da16, dv16, dr17, da17, dv17, dr18, da18, dv18, dr19, da19, dv19, dr20, da20, dv20, dr21, da21, dv21, dr22, da22, dv22, dr23, da23, dv23, dr24, da24, dv24, dr25, da25, dv25, dr26, da26, dv26, dr27, da27, dv27, dr28, da28, dv28, dr29, da29, dv29, dr30, da30, dv30, dr31, da31, dv31, dr32, da32, dv32, dr33, da33, dv33⟩ := id D
  obtain ⟨yc2, yc3, yc4, yc5, yc6, yc7, yc8, yc9, yyk, yyd, yyf, yyh, yyc, yyl, yyp, yyhot, yyby⟩ := id K
  simp only [fX5_housesOf, ab_ckq o0, g4_3 o0, e1, bdS, b2S, bxL, bxR, onN, onS, g13_5 do0, dn5, hfu0]
  rw [← nI_0]
  exact this
theorem qm_shNL {N E d : Nat} {y : Dy} {h : Hp} (Z : MD h N E d y) : ∀ (j k n : Nat), k + j = y.1 5 → j < n → fX5_shares_l4 N n (nI (y.1 6 ^ k)) (nI k) h = some (nI (y.1 6 ^ y.1 5), h) := by
  have h5 := Z.2.2.2.2.h5
  intro j
  induction j with
  | zero =>
    intro k n hk hn
    cases n with
    | zero => omega
    | succ n =>
      have e : k = y.1 5 := by omega
      subst e
      obtain ⟨S, e1, D, lE, K⟩ := id Z
      obtain ⟨hz, hfu0, o0, o1, r0_5, o2, r0_17, o3, r0_18, o4, r0_22, o5, r0_23, o6, r0_26, o7, r0_28, o8, r0_29, o9, r0_30, o10, r0_31, o11, r0_32, o12, r0_35, o13, r0_36, o14, r0_38, o15, r0_39, o16, r0_40, o17, r0_41, o18, r0_43, o19, r0_44, o20, r0_45⟩ := id S
      obtain ⟨dlo, do0, dv0, dv1, dn2, dn3, dn4, dn5, dn6, dn7, dn8, dn9, dr11, da11, dv11, dr12, da12, dv12, dr13, da13, dv13, dr14, da14, dv14, dr15, da15, dv15, dr16, da16, dv16, dr17, da17, dv17, dr18, da18, dv18, dr19, da19, dv19, dr20, da20, dv20, dr21, da21, dv21, dr22, da22, dv22, dr23, da23, dv23, dr24, da24, dv24, dr25, da25, dv25, dr26, da26, dv26, dr27, da27, dv27, dr28, da28, dv28, dr29, da29, dv29, dr30, da30, dv30, dr31, da31, dv31, dr32, da32, dv32, dr33, da33, dv33⟩ := id D
      obtain ⟨yc2, yc3, yc4, yc5, yc6, yc7, yc8, yc9, yyk, yyd, yyf, yyh, yyc, yyl, yyp, yyhot, yyby⟩ := id K
      simp only [fX5_shares_l4, g4_3 o0, e1, bdS, b2S, bxL, bxR, onN, onS, g13_5 do0, dn5, Int32.le_refl, if_true]
  | succ j ih =>
    intro k n hk hn
    cases n with
    | zero => omega
    | succ n =>
      have := ih (k + 1) n (by omega) (by omega)
      rw [Nat.pow_succ] at this
      obtain ⟨S, e1, D, lE, K⟩ := id Z
      obtain ⟨hz, hfu0, o0, o1, r0_5, o2, r0_17, o3, r0_18, o4, r0_22, o5, r0_23, o6, r0_26, o7, r0_28, o8, r0_29, o9, r0_30, o10, r0_31, o11, r0_32, o12, r0_35, o13, r0_36, o14, r0_38, o15, r0_39, o16, r0_40, o17, r0_41, o18, r0_43, o19, r0_44, o20, r0_45⟩ := id S
      obtain ⟨dlo, do0, dv0, dv1, dn2, dn3, dn4, dn5, dn6, dn7, dn8, dn9, dr11, da11, dv11, dr12, da12, dv12, dr13, da13, dv13, dr14, da14, dv14, dr15, da15, dv15, dr16, da16, dv16, dr17, da17, dv17, dr18, da18, dv18, dr19, da19, dv19, dr20, da20, dv20, dr21, da21, dv21, dr22, da22, dv22, dr23, da23, dv23, dr24, da24, dv24, dr25, da25, dv25, dr26, da26, dv26, dr27, da27, dv27, dr28, da28, dv28, dr29, da29, dv29, dr30, da30, dv30, dr31, da31, dv31, dr32, da32, dv32, dr33, da33, dv33⟩ := id D
      obtain ⟨yc2, yc3, yc4, yc5, yc6, yc7, yc8, yc9, yyk, yyd, yyf, yyh, yyc, yyl, yyp, yyhot, yyby⟩ := id K
      simp only [fX5_shares_l4, g4_3 o0, e1, bdS, b2S, bxL, bxR, onN, onS, g13_5 do0, dn5, nI_ge (show k < y.1 5 by omega) (by omega), if_false, g13_6 do0, dn6, nI_mul, nI_1, this]
theorem qm_sharesN {N E d : Nat} {y : Dy} {h : Hp} (Z : MD h N E d y) : fX5_shares N h = some (nI (y.1 6 ^ y.1 5), h) := by
  have h5 := Z.2.2.2.2.h5
  have := qm_shNL Z (y.1 5) 0 300000 (by omega) (by omega)
  rw [nI_0] at this
  simp only [fX5_shares, ab_ckq Z.1.o, Z.1.f]
  exact this
/-- the model's tables -/
def WM (h : Hp) (N : Nat) (y : Dy) : Prop := ∀ c, c < y.1 6 → ∀ S, S < 2 ^ y.1 5 → pc S ≤ hol y c → aF h (N + 8) (64 * c + S) = nI (bBN y c S) ∧ aF h (N + 9) (64 * c + S) = nI (bLN y c S)
def TM (h : Hp) (N : Nat) (y : Dy) (c k : Nat) : Prop := (∀ c' S, c' < c → c' < y.1 6 → S < 2 ^ y.1 5 → pc S ≤ hol y c' → aF h (N + 8) (64 * c' + S) = nI (bBN y c' S) ∧ aF h (N + 9) (64 * c' + S) = nI (bLN y c' S)) ∧ ∀ S, S < k → pc S ≤ hol y c → aF h (N + 8) (64 * c + S) = nI (bBN y c S) ∧ aF h (N + 9) (64 * c + S) = nI (bLN y c S)
abbrev Am (N : Nat) : Nat → Prop := fun q => (N + 4 ≤ q ∧ q ≤ N + 6) ∨ q = N + 8 ∨ q = N + 9
theorem qm_wtL {N E d : Nat} {y : Dy} {c : Nat} (hc : c < y.1 6) {K2 : Int32 → Hp → Option Hp} : ∀ (j k n : Nat) (h : Hp), MD h N E d y → TM h N y c k → k + j = 2 ^ y.1 5 → j < n → ∃ h', fX5_weighsCars_l15 N K2 n (nI c) (nI k) h = K2 (nI (c + 1)) h' ∧ Fw N (Am N) Bb h h' ∧ TM h' N y c (2 ^ y.1 5) := by
  intro j
  induction j with
  | zero =>
    intro k n h Z T hk hn
    cases n with
    | zero => omega
    | succ n =>
      have h5 := Z.2.2.2.2.h5
      have h2 := two6 (y.1 5) h5.2
      have hs := shl6 (y.1 5) h5.2
      have e : k = 2 ^ y.1 5 := by omega
      refine ⟨h, ?_, Fw.rf, by rw [← e]; exact T⟩
      obtain ⟨S, e1, D, lE, K⟩ := id Z
      obtain ⟨hz, hfu0, o0, o1, r0_5, o2, r0_17, o3, r0_18, o4, r0_22, o5, r0_23, o6, r0_26, o7, r0_28, o8, r0_29, o9, r0_30, o10, r0_31, o11, r0_32, o12, r0_35, o13, r0_36, o14, r0_38, o15, r0_39, o16, r0_40, o17, r0_41, o18, r0_43, o19, r0_44, o20, r0_45⟩ := id S
      obtain ⟨dlo, do0, dv0, dv1, dn2, dn3, dn4, dn5, dn6, dn7, dn8, dn9, dr11, da11, dv11, dr12, da12, dv12, dr13, da13, dv13, dr14, da14, dv14, dr15, da15, dv15, dr16, da16, dv16, dr17, da17, dv17, dr18, da18, dv18, dr19, da19, dv19, dr20, da20, dv20, dr21, da21, dv21, dr22, da22, dv22, dr23, da23, dv23, dr24, da24, dv24, dr25, da25, dv25, dr26, da26, dv26, dr27, da27, dv27, dr28, da28, dv28, dr29, da29, dv29, dr30, da30, dv30, dr31, da31, dv31, dr32, da32, dv32, dr33, da33, dv33⟩ := id D
      obtain ⟨yc2, yc3, yc4, yc5, yc6, yc7, yc8, yc9, yyk, yyd, yyf, yyh, yyc, yyl, yyp, yyhot, yyby⟩ := id K
      simp only [fX5_weighsCars_l15, g4_3 o0, e1, bdS, b2S, bxL, bxR, onN, onS, g13_5 do0, dn5, hs, nI_le (show 2 ^ y.1 5 ≤ k by omega) (by omega), if_true, nI_1]
  | succ j ih =>
    intro k n h Z T hk hn
    cases n with
    | zero => omega
    | succ n =>
      have h5 := Z.2.2.2.2.h5
      have h6 := Z.2.2.2.2.h6
      have h2 := two6 (y.1 5) h5.2
      have hs := shl6 (y.1 5) h5.2
      have hk64 : k < 64 := by omega
      obtain ⟨u1, u2, u3⟩ := hol_ok Z.2.2.2.2 hc
      have hp6 := pc_le k hk64
      have ho := qm_bits (h := h) Z.1.f hk64
      by_cases hle : pc k ≤ hol y c
      · obtain ⟨h1, q1, q2, q3⟩ := qm_bests Z hc hk64 (els_day (y.1 5) h5.2 k hk64 (by omega))
        obtain ⟨b1, b2, b3, b4⟩ := bBL Z.2.2.2.2 hc hk64 (by omega)
        have Z1 := Z.fw q2 (fun q a => by simp only [Ab] at a; omega)
        have q2' : Fw N (Am N) Bb h h1 := q2.wide (fun q a => Or.inl (by simp only [Ab] at a; omega)) (fun k a => a)
        have f2 : Fw N (Am N) Bb h1 (sA h1 (N + 8) (64 * c + k) (nI (bBN y c k))) := Fw.sA (Or.inr (Or.inl rfl))
        have Z2 := Z1.fw f2 (fun q a => by simp only [Am] at a; omega)
        have f3 : Fw N (Am N) Bb (sA h1 (N + 8) (64 * c + k) (nI (bBN y c k))) (sA (sA h1 (N + 8) (64 * c + k) (nI (bBN y c k))) (N + 9) (64 * c + k) (nI (bLN y c k))) := Fw.sA (Or.inr (Or.inr rfl))
        have Z3 := Z2.fw f3 (fun q a => by simp only [Am] at a; omega)
        have hS1 := Z1.1
        have hS2 := Z2.1
        obtain ⟨whz, whfu0, wo0, wo1, wr0_5, wo2, wr0_17, wo3, wr0_18, wo4, wr0_22, wo5, wr0_23, wo6, wr0_26, wo7, wr0_28, wo8, wr0_29, wo9, wr0_30, wo10, wr0_31, wo11, wr0_32, wo12, wr0_35, wo13, wr0_36, wo14, wr0_38, wo15, wr0_39, wo16, wr0_40, wo17, wr0_41, wo18, wr0_43, wo19, wr0_44, wo20, wr0_45⟩ := id hS1
        obtain ⟨uhz, uhfu0, uo0, uo1, ur0_5, uo2, ur0_17, uo3, ur0_18, uo4, ur0_22, uo5, ur0_23, uo6, ur0_26, uo7, ur0_28, uo8, ur0_29, uo9, ur0_30, uo10, ur0_31, uo11, ur0_32, uo12, ur0_35, uo13, ur0_36, uo14, ur0_38, uo15, ur0_39, uo16, ur0_40, uo17, ur0_41, uo18, ur0_43, uo19, ur0_44, uo20, ur0_45⟩ := id hS2
        have hT : ∀ q, q = N + 8 ∨ q = N + 9 → ∀ i, aF h1 q i = aF h q i := fun q hq i => by rw [q2.aF (by omega) (by simp only [Ab]; omega)]
        have T3 : TM (sA (sA h1 (N + 8) (64 * c + k) (nI (bBN y c k))) (N + 9) (64 * c + k) (nI (bLN y c k))) N y c (k + 1) := by
          have e8 : ∀ i, aF (sA (sA h1 (N + 8) (64 * c + k) (nI (bBN y c k))) (N + 9) (64 * c + k) (nI (bLN y c k))) (N + 8) i = if i = 64 * c + k then nI (bBN y c k) else aF h (N + 8) i := fun i => by
            rw [aF_sA uo9, if_neg (by omega), aF_sA wo8, if_pos rfl, upd, hT _ (Or.inl rfl)]
          have e9 : ∀ i, aF (sA (sA h1 (N + 8) (64 * c + k) (nI (bBN y c k))) (N + 9) (64 * c + k) (nI (bLN y c k))) (N + 9) i = if i = 64 * c + k then nI (bLN y c k) else aF h (N + 9) i := fun i => by
            rw [aF_sA uo9, if_pos rfl, aF_sA wo8, if_neg (by omega), upd, hT _ (Or.inr rfl)]
          refine ⟨fun c' S g1 g2 g3 g4 => ?_, fun S g1 g2 => ?_⟩
          · rw [e8, e9, if_neg (by omega), if_neg (by omega)]
            exact T.1 c' S g1 g2 g3 g4
          · rw [e8, e9]
            by_cases e : S = k
            · subst e; rw [if_pos rfl, if_pos rfl]; exact ⟨rfl, rfl⟩
            · rw [if_neg (by omega), if_neg (by omega)]
              exact T.2 S (by omega) g2
        obtain ⟨h', s1, s2, s3⟩ := ih (k + 1) n _ Z3 T3 (by omega) (by omega)
        refine ⟨h', ?_, ((q2'.trans f2).trans f3).trans s2, s3⟩
        rw [← s1]
        have g24 : gI h1 N 24 = nI (bBN y c k) := q3.1
        obtain ⟨S, e1, D, lE, K⟩ := id Z
        obtain ⟨hz, hfu0, o0, o1, r0_5, o2, r0_17, o3, r0_18, o4, r0_22, o5, r0_23, o6, r0_26, o7, r0_28, o8, r0_29, o9, r0_30, o10, r0_31, o11, r0_32, o12, r0_35, o13, r0_36, o14, r0_38, o15, r0_39, o16, r0_40, o17, r0_41, o18, r0_43, o19, r0_44, o20, r0_45⟩ := id S
        obtain ⟨dlo, do0, dv0, dv1, dn2, dn3, dn4, dn5, dn6, dn7, dn8, dn9, dr11, da11, dv11, dr12, da12, dv12, dr13, da13, dv13, dr14, da14, dv14, dr15, da15, dv15, dr16, da16, dv16, dr17, da17, dv17, dr18, da18, dv18, dr19, da19, dv19, dr20, da20, dv20, dr21, da21, dv21, dr22, da22, dv22, dr23, da23, dv23, dr24, da24, dv24, dr25, da25, dv25, dr26, da26, dv26, dr27, da27, dv27, dr28, da28, dv28, dr29, da29, dv29, dr30, da30, dv30, dr31, da31, dv31, dr32, da32, dv32, dr33, da33, dv33⟩ := id D
        obtain ⟨yc2, yc3, yc4, yc5, yc6, yc7, yc8, yc9, yyk, yyd, yyf, yyh, yyc, yyl, yyp, yyhot, yyby⟩ := id K
        by_cases hk0 : k = 0
        · have el : nI (bLN y c k) = 0 := by rw [(b4 hk0).2]; exact nI_0
          subst hk0
          have hsi := sIn (v := (0 : Int32)) uo9 (show hfz (sA h1 (N + 8) (64 * c + 0) (nI (bBN y c 0))) ≤ N + 9 by omega) (show 64 * c + 0 < 192 by omega)
          simp only [fX5_weighsCars_l15, g4_3 o0, e1, bdS, b2S, bxL, bxR, onN, onS, g13_5 do0, dn5, hs, nI_ge (show 0 < 2 ^ y.1 5 by omega) (by omega), if_false, ho, g13_28 do0, dr28, aIn da28 (show c < 3 by omega), dv28, u1, nI_le hle (show hol y c < 2 ^ 31 by omega), if_true, q1, g4_29 wo0, wr0_29, g4_24 wo0, g24, shl64 c (by omega), nI_add, sIn wo8 (show hfz h1 ≤ N + 8 by omega) (show 64 * c + 0 < 192 by omega), g4_30 uo0, ur0_30, if_pos nI_0, hsi, nI_1, el]
        · have el : lastV y c (bst y c k).2 = nI (bLN y c k) := (b3 hk0).2
          have g25 : gI (sA h1 (N + 8) (64 * c + k) (nI (bBN y c k))) N 25 = nI (bLN y c k) := by rw [gI_sA, q3.2.1, el]
          simp only [fX5_weighsCars_l15, g4_3 o0, e1, bdS, b2S, bxL, bxR, onN, onS, g13_5 do0, dn5, hs, nI_ge (show k < 2 ^ y.1 5 by omega) (by omega), if_false, ho, g13_28 do0, dr28, aIn da28 (show c < 3 by omega), dv28, u1, nI_le hle (show hol y c < 2 ^ 31 by omega), if_true, q1, g4_29 wo0, wr0_29, g4_24 wo0, g24, shl64 c (by omega), nI_add, sIn wo8 (show hfz h1 ≤ N + 8 by omega) (show 64 * c + k < 192 by omega), g4_30 uo0, ur0_30, show (nI k = 0) = (k = 0) from propext (nI_z (by omega)), hk0, g4_25 uo0, g25, sIn uo9 (show hfz (sA h1 (N + 8) (64 * c + k) (nI (bBN y c k))) ≤ N + 9 by omega) (show 64 * c + k < 192 by omega), nI_1]
      · have T2 : TM h N y c (k + 1) := ⟨T.1, fun S g1 g3 => by
          by_cases e : S = k
          · subst e; exact absurd g3 hle
          · exact T.2 S (by omega) g3⟩
        obtain ⟨h', s1, s2, s3⟩ := ih (k + 1) n h Z T2 (by omega) (by omega)
        refine ⟨h', ?_, s2, s3⟩
        rw [← s1]
        obtain ⟨S, e1, D, lE, K⟩ := id Z
        obtain ⟨hz, hfu0, o0, o1, r0_5, o2, r0_17, o3, r0_18, o4, r0_22, o5, r0_23, o6, r0_26, o7, r0_28, o8, r0_29, o9, r0_30, o10, r0_31, o11, r0_32, o12, r0_35, o13, r0_36, o14, r0_38, o15, r0_39, o16, r0_40, o17, r0_41, o18, r0_43, o19, r0_44, o20, r0_45⟩ := id S
        obtain ⟨dlo, do0, dv0, dv1, dn2, dn3, dn4, dn5, dn6, dn7, dn8, dn9, dr11, da11, dv11, dr12, da12, dv12, dr13, da13, dv13, dr14, da14, dv14, dr15, da15, dv15, dr16, da16, dv16, dr17, da17, dv17, dr18, da18, dv18, dr19, da19, dv19, dr20, da20, dv20, dr21, da21, dv21, dr22, da22, dv22, dr23, da23, dv23, dr24, da24, dv24, dr25, da25, dv25, dr26, da26, dv26, dr27, da27, dv27, dr28, da28, dv28, dr29, da29, dv29, dr30, da30, dv30, dr31, da31, dv31, dr32, da32, dv32, dr33, da33, dv33⟩ := id D
        obtain ⟨yc2, yc3, yc4, yc5, yc6, yc7, yc8, yc9, yyk, yyd, yyf, yyh, yyc, yyl, yyp, yyhot, yyby⟩ := id K
        simp only [fX5_weighsCars_l15, g4_3 o0, e1, bdS, b2S, bxL, bxR, onN, onS, g13_5 do0, dn5, hs, nI_ge (show k < 2 ^ y.1 5 by omega) (by omega), if_false, ho, g13_28 do0, dr28, aIn da28 (show c < 3 by omega), dv28, u1, nI_ge (show hol y c < pc k by omega) (by omega), nI_1]
theorem qm_wt {N E d : Nat} {y : Dy} : ∀ (j c n : Nat) (h : Hp), MD h N E d y → (∀ c' S, c' < c → c' < y.1 6 → S < 2 ^ y.1 5 → pc S ≤ hol y c' → aF h (N + 8) (64 * c' + S) = nI (bBN y c' S) ∧ aF h (N + 9) (64 * c' + S) = nI (bLN y c' S)) → c + j = y.1 6 → j < n → ∃ h', fX5_weighsCars_l2 N n (nI c) h = some h' ∧ Fw N (Am N) Bb h h' ∧ WM h' N y := by
  intro j
  induction j with
  | zero =>
    intro c n h Z T hc hn
    cases n with
    | zero => omega
    | succ n =>
      have h6 := Z.2.2.2.2.h6
      refine ⟨h, ?_, Fw.rf, fun c' hc' S a b => T c' S (by omega) hc' a b⟩
      obtain ⟨S, e1, D, lE, K⟩ := id Z
      obtain ⟨hz, hfu0, o0, o1, r0_5, o2, r0_17, o3, r0_18, o4, r0_22, o5, r0_23, o6, r0_26, o7, r0_28, o8, r0_29, o9, r0_30, o10, r0_31, o11, r0_32, o12, r0_35, o13, r0_36, o14, r0_38, o15, r0_39, o16, r0_40, o17, r0_41, o18, r0_43, o19, r0_44, o20, r0_45⟩ := id S
      obtain ⟨dlo, do0, dv0, dv1, dn2, dn3, dn4, dn5, dn6, dn7, dn8, dn9, dr11, da11, dv11, dr12, da12, dv12, dr13, da13, dv13, dr14, da14, dv14, dr15, da15, dv15, dr16, da16, dv16, dr17, da17, dv17, dr18, da18, dv18, dr19, da19, dv19, dr20, da20, dv20, dr21, da21, dv21, dr22, da22, dv22, dr23, da23, dv23, dr24, da24, dv24, dr25, da25, dv25, dr26, da26, dv26, dr27, da27, dv27, dr28, da28, dv28, dr29, da29, dv29, dr30, da30, dv30, dr31, da31, dv31, dr32, da32, dv32, dr33, da33, dv33⟩ := id D
      obtain ⟨yc2, yc3, yc4, yc5, yc6, yc7, yc8, yc9, yyk, yyd, yyf, yyh, yyc, yyl, yyp, yyhot, yyby⟩ := id K
      simp only [fX5_weighsCars_l2, g4_3 o0, e1, bdS, b2S, bxL, bxR, onN, onS, g13_6 do0, dn6, nI_le (show y.1 6 ≤ c by omega) (by omega), if_true]
  | succ j ih =>
    intro c n h Z T hc hn
    cases n with
    | zero => omega
    | succ n =>
      have hc6 : c < y.1 6 := by omega
      have h5 := Z.2.2.2.2.h5
      have h6 := Z.2.2.2.2.h6
      have h2 := two6 (y.1 5) h5.2
      obtain ⟨h3, q1, q2, q3⟩ := qm_wtL hc6 (K2 := fX5_weighsCars_l2 N n) (2 ^ y.1 5) 0 300000 h Z ⟨T, fun S a => by omega⟩ (by omega) (by omega)
      have Z3 := Z.fw q2 (fun q a => by simp only [Am] at a; omega)
      obtain ⟨h', s1, s2, s3⟩ := ih (c + 1) n h3 Z3 (fun c' S a b e g => by
        by_cases e' : c' = c
        · subst e'; exact q3.2 S e g
        · exact q3.1 c' S (by omega) b e g) (by omega) (by omega)
      refine ⟨h', ?_, q2.trans s2, s3⟩
      rw [← s1, ← q1, nI_0]
      obtain ⟨S, e1, D, lE, K⟩ := id Z
      obtain ⟨hz, hfu0, o0, o1, r0_5, o2, r0_17, o3, r0_18, o4, r0_22, o5, r0_23, o6, r0_26, o7, r0_28, o8, r0_29, o9, r0_30, o10, r0_31, o11, r0_32, o12, r0_35, o13, r0_36, o14, r0_38, o15, r0_39, o16, r0_40, o17, r0_41, o18, r0_43, o19, r0_44, o20, r0_45⟩ := id S
      obtain ⟨dlo, do0, dv0, dv1, dn2, dn3, dn4, dn5, dn6, dn7, dn8, dn9, dr11, da11, dv11, dr12, da12, dv12, dr13, da13, dv13, dr14, da14, dv14, dr15, da15, dv15, dr16, da16, dv16, dr17, da17, dv17, dr18, da18, dv18, dr19, da19, dv19, dr20, da20, dv20, dr21, da21, dv21, dr22, da22, dv22, dr23, da23, dv23, dr24, da24, dv24, dr25, da25, dv25, dr26, da26, dv26, dr27, da27, dv27, dr28, da28, dv28, dr29, da29, dv29, dr30, da30, dv30, dr31, da31, dv31, dr32, da32, dv32, dr33, da33, dv33⟩ := id D
      obtain ⟨yc2, yc3, yc4, yc5, yc6, yc7, yc8, yc9, yyk, yyd, yyf, yyh, yyc, yyl, yyp, yyhot, yyby⟩ := id K
      simp only [fX5_weighsCars_l2, g4_3 o0, e1, bdS, b2S, bxL, bxR, onN, onS, g13_6 do0, dn6, nI_ge hc6 (by omega), if_false, hfu0]
theorem qm_weighs {N E d : Nat} {y : Dy} {h : Hp} (Z : MD h N E d y) : ∃ h', fX5_weighsCars N h = some h' ∧ Fw N (Am N) Bb h h' ∧ WM h' N y := by
  have h6 := Z.2.2.2.2.h6
  obtain ⟨h', q1, q2, q3⟩ := qm_wt (y.1 6) 0 300000 h Z (fun c' S a => by omega) (by omega) (by omega)
  refine ⟨h', ?_, q2, q3⟩
  rw [nI_0] at q1
  simp only [fX5_weighsCars, ab_ckq Z.1.o, Z.1.f, q1]
