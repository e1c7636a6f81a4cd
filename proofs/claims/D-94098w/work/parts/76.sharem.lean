/-! share: the model's search and end -/
/-- a load's place in the tables -/
theorem ld_ix {y : Dy} (K : Yk y) {a : List Nat} (ha : a.length = y.1 5) {c : Nat} (hc : c < y.1 6) : ldF c a 0 < 2 ^ y.1 5 ∧ ldF c a 0 < 64 ∧ 64 * c + ldF c a 0 < 192 ∧ pc (ldF c a 0) = a.count c ∧ a.count c ≤ 6 := by
  have h5 := K.h5
  have h6 := K.h6
  obtain ⟨t1, t2⟩ := ldF_64 c (l := a) (by omega)
  rw [ha] at t1
  exact ⟨t1, t2, by omega, pc_ldF c a.length a rfl (by omega), Nat.le_trans List.count_le_length (by omega)⟩
/-- the sums do not matter once something does not fit -/
theorem qm_sumNo {N E d : Nat} {y : Dy} {h : Hp} (Z : MD h N E d y) {a : List Nat} (ha : a.length = y.1 5) (hx : ∀ x ∈ a, x < y.1 6) {K31 : Int32 → Int32 → Int32 → Int32 → Hp → Option (Int32 × Hp)} {l1 l2 l3 : Int32} : ∀ (j k n : Nat) (u v : Int32), k + j = y.1 6 → j < n → fX5_share_l52 N K31 n l1 l2 l3 (nI (vlF (y.1 6) a)) u v 0 (nI k) h = K31 l1 l2 l3 (nI (vlF (y.1 6) a + 1)) h := by
  have h6 := Z.2.2.2.2.h6
  intro j
  induction j with
  | zero =>
    intro k n u v hk hn
    cases n with
    | zero => omega
    | succ n =>
      obtain ⟨S, e1, D, lE, K⟩ := id Z
      obtain ⟨hz, hfu0, o0, o1, r0_5, o2, r0_17, o3, r0_18, o4, r0_22, o5, r0_23, o6, r0_26, o7, r0_28, o8, r0_29, o9, r0_30, o10, r0_31, o11, r0_32, o12, r0_35, o13, r0_36, o14, r0_38, o15, r0_39, o16, r0_40, o17, r0_41, o18, r0_43, o19, r0_44, o20, r0_45⟩ := id S
      obtain ⟨dlo, do0, dv0, dv1, dn2, dn3, dn4, dn5, dn6, dn7, dn8, dn9, dr11, da11, dv11, dr12, da12, dv12, dr13, da13, dv13, dr14, da14, dv14, dr15, da15, dv15, dr16, da16, dv16, dr17, da17, dv17, dr18, da18, dv18, dr19, da19, dv19, dr20, da20, dv20, dr21, da21, dv21, dr22, da22, dv22, dr23, da23, dv23, dr24, da24, dv24, dr25, da25, dv25, dr26, da26, dv26, dr27, da27, dv27, dr28, da28, dv28, dr29, da29, dv29, dr30, da30, dv30, dr31, da31, dv31, dr32, da32, dv32, dr33, da33, dv33⟩ := id D
      obtain ⟨yc2, yc3, yc4, yc5, yc6, yc7, yc8, yc9, yyk, yyd, yyf, yyh, yyc, yyl, yyp, yyhot, yyby⟩ := id K
      simp only [fX5_share_l52, g4_3 o0, e1, bdS, b2S, bxL, bxR, onN, onS, g13_6 do0, dn6, nI_le (show y.1 6 ≤ k by omega) (by omega), if_true, nI_1]
  | succ j ih =>
    intro k n u v hk hn
    cases n with
    | zero => omega
    | succ n =>
      have hk6 : k < y.1 6 := by omega
      obtain ⟨i1, i2, i3, i4, i5⟩ := ld_ix Z.2.2.2.2 ha hk6
      have hh := qm_housesOf Z ha hx (c := k) (by omega)
      have := ih (k + 1) n (u + aF h (N + 8) (64 * k + ldF k a 0)) (v + aF h (N + 9) (64 * k + ldF k a 0)) (by omega) (by omega)
      obtain ⟨S, e1, D, lE, K⟩ := id Z
      obtain ⟨hz, hfu0, o0, o1, r0_5, o2, r0_17, o3, r0_18, o4, r0_22, o5, r0_23, o6, r0_26, o7, r0_28, o8, r0_29, o9, r0_30, o10, r0_31, o11, r0_32, o12, r0_35, o13, r0_36, o14, r0_38, o15, r0_39, o16, r0_40, o17, r0_41, o18, r0_43, o19, r0_44, o20, r0_45⟩ := id S
      obtain ⟨dlo, do0, dv0, dv1, dn2, dn3, dn4, dn5, dn6, dn7, dn8, dn9, dr11, da11, dv11, dr12, da12, dv12, dr13, da13, dv13, dr14, da14, dv14, dr15, da15, dv15, dr16, da16, dv16, dr17, da17, dv17, dr18, da18, dv18, dr19, da19, dv19, dr20, da20, dv20, dr21, da21, dv21, dr22, da22, dv22, dr23, da23, dv23, dr24, da24, dv24, dr25, da25, dv25, dr26, da26, dv26, dr27, da27, dv27, dr28, da28, dv28, dr29, da29, dv29, dr30, da30, dv30, dr31, da31, dv31, dr32, da32, dv32, dr33, da33, dv33⟩ := id D
      obtain ⟨yc2, yc3, yc4, yc5, yc6, yc7, yc8, yc9, yyk, yyd, yyf, yyh, yyc, yyl, yyp, yyhot, yyby⟩ := id K
      simp only [fX5_share_l52, fX5_share_b102, g4_3 o0, e1, bdS, b2S, bxL, bxR, onN, onS, g13_6 do0, dn6, nI_ge hk6 (by omega), if_false, hh, if_true, g4_29 o0, r0_29, shl64 k (by omega), nI_add, aIn o8 i3, g4_30 o0, r0_30, aIn o9 i3, nI_1, this]
def fitG (y : Dy) (a : List Nat) (k j : Nat) : Bool := (List.range' k j).all fun c => decide (a.count c ≤ hol y c)
theorem fitG_s {y : Dy} {a : List Nat} {k j : Nat} : fitG y a k (j + 1) = (decide (a.count k ≤ hol y k) && fitG y a (k + 1) j) := by
  rw [fitG, List.range'_succ, List.all_cons]
  rfl
theorem fitG_B {y : Dy} {a : List Nat} : fitG y a 0 (y.1 6) = fitB y a := by
  rw [fitG, fitB, List.range_eq_range']
/-- the sums of one that fits so far -/
theorem qm_sum {N E d : Nat} {y : Dy} {h : Hp} (Z : MD h N E d y) (T : WM h N y) {a : List Nat} (ha : a.length = y.1 5) (hx : ∀ x ∈ a, x < y.1 6) {K31 : Int32 → Int32 → Int32 → Int32 → Hp → Option (Int32 × Hp)} {l1 l2 l3 : Int32} : ∀ (j k n u v : Nat), k + j = y.1 6 → j < n → fX5_share_l52 N K31 n l1 l2 l3 (nI (vlF (y.1 6) a)) (nI u) (nI v) 1 (nI k) h = if fitG y a k j = true then (if l1 = -1 then K31 (nI (vlF (y.1 6) a)) (nI (u + smF (fun c => bBN y c (ldF c a 0)) j k)) (nI (v + smF (fun c => bLN y c (ldF c a 0)) j k)) (nI (vlF (y.1 6) a + 1)) h else if l2 < nI (u + smF (fun c => bBN y c (ldF c a 0)) j k) then K31 l1 l2 l3 (nI (vlF (y.1 6) a + 1)) h else if nI (u + smF (fun c => bBN y c (ldF c a 0)) j k) = l2 then (if nI (v + smF (fun c => bLN y c (ldF c a 0)) j k) < l3 then K31 (nI (vlF (y.1 6) a)) (nI (u + smF (fun c => bBN y c (ldF c a 0)) j k)) (nI (v + smF (fun c => bLN y c (ldF c a 0)) j k)) (nI (vlF (y.1 6) a + 1)) h else K31 l1 l2 l3 (nI (vlF (y.1 6) a + 1)) h) else K31 (nI (vlF (y.1 6) a)) (nI (u + smF (fun c => bBN y c (ldF c a 0)) j k)) (nI (v + smF (fun c => bLN y c (ldF c a 0)) j k)) (nI (vlF (y.1 6) a + 1)) h) else K31 l1 l2 l3 (nI (vlF (y.1 6) a + 1)) h := by
  have h6 := Z.2.2.2.2.h6
  intro j
  induction j with
  | zero =>
    intro k n u v hk hn
    cases n with
    | zero => omega
    | succ n =>
      rw [if_pos (show fitG y a k 0 = true from rfl)]
      obtain ⟨S, e1, D, lE, K⟩ := id Z
      obtain ⟨hz, hfu0, o0, o1, r0_5, o2, r0_17, o3, r0_18, o4, r0_22, o5, r0_23, o6, r0_26, o7, r0_28, o8, r0_29, o9, r0_30, o10, r0_31, o11, r0_32, o12, r0_35, o13, r0_36, o14, r0_38, o15, r0_39, o16, r0_40, o17, r0_41, o18, r0_43, o19, r0_44, o20, r0_45⟩ := id S
      obtain ⟨dlo, do0, dv0, dv1, dn2, dn3, dn4, dn5, dn6, dn7, dn8, dn9, dr11, da11, dv11, dr12, da12, dv12, dr13, da13, dv13, dr14, da14, dv14, dr15, da15, dv15, dr16, da16, dv16, dr17, da17, dv17, dr18, da18, dv18, dr19, da19, dv19, dr20, da20, dv20, dr21, da21, dv21, dr22, da22, dv22, dr23, da23, dv23, dr24, da24, dv24, dr25, da25, dv25, dr26, da26, dv26, dr27, da27, dv27, dr28, da28, dv28, dr29, da29, dv29, dr30, da30, dv30, dr31, da31, dv31, dr32, da32, dv32, dr33, da33, dv33⟩ := id D
      obtain ⟨yc2, yc3, yc4, yc5, yc6, yc7, yc8, yc9, yyk, yyd, yyf, yyh, yyc, yyl, yyp, yyhot, yyby⟩ := id K
      simp only [fX5_share_l52, fX5_share_b177, g4_3 o0, e1, bdS, b2S, bxL, bxR, onN, onS, g13_6 do0, dn6, nI_le (show y.1 6 ≤ k by omega) (by omega), if_true, show ¬ ((1 : Int32) = 0) from by decide, if_false, nI_1, smF, Nat.add_zero]
      rfl
  | succ j ih =>
    intro k n u v hk hn
    cases n with
    | zero => omega
    | succ n =>
      have hk6 : k < y.1 6 := by omega
      obtain ⟨i1, i2, i3, i4, i5⟩ := ld_ix Z.2.2.2.2 ha hk6
      obtain ⟨u1, u2, u3⟩ := hol_ok Z.2.2.2.2 hk6
      have hh := qm_housesOf Z ha hx (c := k) (by omega)
      have hb := qm_bits (h := h) Z.1.f i2
      rw [i4] at hb
      by_cases hle : a.count k ≤ hol y k
      · obtain ⟨t1, t2⟩ := T k hk6 _ i1 (by omega)
        have := ih (k + 1) n (u + bBN y k (ldF k a 0)) (v + bLN y k (ldF k a 0)) (by omega) (by omega)
        have hiff : fitG y a k (j + 1) = fitG y a (k + 1) j := by rw [fitG_s, decide_eq_true hle, Bool.true_and]
        have es : ∀ f : Nat → Nat, ∀ w, w + smF f (j + 1) k = w + f k + smF f j (k + 1) := fun f w => by rw [smF]; omega
        rw [hiff, es, es, ← this]
        obtain ⟨S, e1, D, lE, K⟩ := id Z
        obtain ⟨hz, hfu0, o0, o1, r0_5, o2, r0_17, o3, r0_18, o4, r0_22, o5, r0_23, o6, r0_26, o7, r0_28, o8, r0_29, o9, r0_30, o10, r0_31, o11, r0_32, o12, r0_35, o13, r0_36, o14, r0_38, o15, r0_39, o16, r0_40, o17, r0_41, o18, r0_43, o19, r0_44, o20, r0_45⟩ := id S
        obtain ⟨dlo, do0, dv0, dv1, dn2, dn3, dn4, dn5, dn6, dn7, dn8, dn9, dr11, da11, dv11, dr12, da12, dv12, dr13, da13, dv13, dr14, da14, dv14, dr15, da15, dv15, dr16, da16, dv16, dr17, da17, dv17, dr18, da18, dv18, dr19, da19, dv19, dr20, da20, dv20, dr21, da21, dv21, dr22, da22, dv22, dr23, da23, dv23, dr24, da24, dv24, dr25, da25, dv25, dr26, da26, dv26, dr27, da27, dv27, dr28, da28, dv28, dr29, da29, dv29, dr30, da30, dv30, dr31, da31, dv31, dr32, da32, dv32, dr33, da33, dv33⟩ := id D
        obtain ⟨yc2, yc3, yc4, yc5, yc6, yc7, yc8, yc9, yyk, yyd, yyf, yyh, yyc, yyl, yyp, yyhot, yyby⟩ := id K
        simp only [fX5_share_l52, fX5_share_b102, g4_3 o0, e1, bdS, b2S, bxL, bxR, onN, onS, g13_6 do0, dn6, nI_ge hk6 (by omega), if_false, hh, show ¬ ((1 : Int32) = 0) from by decide, hb, g13_28 do0, dr28, aIn da28 (show k < 3 by omega), dv28, u1, nI_nlt hle (show hol y k < 2 ^ 31 by omega), g4_29 o0, r0_29, shl64 k (by omega), nI_add, aIn o8 i3, g4_30 o0, r0_30, aIn o9 i3, t1, t2, nI_1]
      · rw [if_neg (show ¬ fitG y a k (j + 1) = true by rw [fitG_s, decide_eq_false hle, Bool.false_and]; decide)]
        have := qm_sumNo Z ha hx (K31 := K31) (l1 := l1) (l2 := l2) (l3 := l3) j (k + 1) n (nI u + aF h (N + 8) (64 * k + ldF k a 0)) (nI v + aF h (N + 9) (64 * k + ldF k a 0)) (by omega) (by omega)
        obtain ⟨S, e1, D, lE, K⟩ := id Z
        obtain ⟨hz, hfu0, o0, o1, r0_5, o2, r0_17, o3, r0_18, o4, r0_22, o5, r0_23, o6, r0_26, o7, r0_28, o8, r0_29, o9, r0_30, o10, r0_31, o11, r0_32, o12, r0_35, o13, r0_36, o14, r0_38, o15, r0_39, o16, r0_40, o17, r0_41, o18, r0_43, o19, r0_44, o20, r0_45⟩ := id S
        obtain ⟨dlo, do0, dv0, dv1, dn2, dn3, dn4, dn5, dn6, dn7, dn8, dn9, dr11, da11, dv11, dr12, da12, dv12, dr13, da13, dv13, dr14, da14, dv14, dr15, da15, dv15, dr16, da16, dv16, dr17, da17, dv17, dr18, da18, dv18, dr19, da19, dv19, dr20, da20, dv20, dr21, da21, dv21, dr22, da22, dv22, dr23, da23, dv23, dr24, da24, dv24, dr25, da25, dv25, dr26, da26, dv26, dr27, da27, dv27, dr28, da28, dv28, dr29, da29, dv29, dr30, da30, dv30, dr31, da31, dv31, dr32, da32, dv32, dr33, da33, dv33⟩ := id D
        obtain ⟨yc2, yc3, yc4, yc5, yc6, yc7, yc8, yc9, yyk, yyd, yyf, yyh, yyc, yyl, yyp, yyhot, yyby⟩ := id K
        simp only [fX5_share_l52, fX5_share_b102, g4_3 o0, e1, bdS, b2S, bxL, bxR, onN, onS, g13_6 do0, dn6, nI_ge hk6 (by omega), if_false, hh, show ¬ ((1 : Int32) = 0) from by decide, hb, g13_28 do0, dr28, aIn da28 (show k < 3 by omega), dv28, u1, nI_lt (show hol y k < a.count k by omega) (by omega), if_true, g4_29 o0, r0_29, shl64 k (by omega), nI_add, aIn o8 i3, g4_30 o0, r0_30, aIn o9 i3, nI_1, this]
/-- the model's state of the search -/
def MS (y : Dy) (l1 l2 l3 : Int32) (st : Int32 × List Nat) : Prop := (l1 = -1 ∧ st.1 = -1) ∨ (st.2 ∈ asgF (y.1 6) (y.1 5) ∧ fitB y st.2 = true ∧ l1 = nI (vlF (y.1 6) st.2) ∧ l2 = nI (shB y st.2) ∧ l3 = nI (shL y st.2) ∧ st.1 = nI (shV y st.2))
theorem qm_shL {N E d : Nat} {y : Dy} {h : Hp} (Z : MD h N E d y) (T : WM h N y) : ∀ (j k n : Nat) (l1 l2 l3 : Int32) (st : Int32 × List Nat), MS y l1 l2 l3 st → k + j = y.1 6 ^ y.1 5 → j < n → ∃ m r1 r2 r3, fX5_share_l31 N n l1 l2 l3 (nI k) h = fX5_share_l31 N (m + 1) r1 r2 r3 (nI (y.1 6 ^ y.1 5)) h ∧ MS y r1 r2 r3 (((asgF (y.1 6) (y.1 5)).drop k).foldl (shS y) st) := by
  have h5 := Z.2.2.2.2.h5
  have h6 := Z.2.2.2.2.h6
  have hlen := asgF_len (y.1 6) (y.1 5)
  have hpw := pow36 (y.1 6) h6.2 (y.1 5) h5.2
  intro j
  induction j with
  | zero =>
    intro k n l1 l2 l3 st M hk hn
    cases n with
    | zero => omega
    | succ n =>
      refine ⟨n, l1, l2, l3, by rw [show k = y.1 6 ^ y.1 5 by omega], ?_⟩
      rw [List.drop_eq_nil_of_le (by omega)]
      exact M
  | succ j ih =>
    intro k n l1 l2 l3 st M hk hn
    cases n with
    | zero => omega
    | succ n =>
      have hkl : k < (asgF (y.1 6) (y.1 5)).length := by omega
      obtain ⟨a, hl⟩ : ∃ a, a = (asgF (y.1 6) (y.1 5)).getD k [] := ⟨_, rfl⟩
      have hdrop : (asgF (y.1 6) (y.1 5)).drop k = a :: (asgF (y.1 6) (y.1 5)).drop (k + 1) := by
        rw [List.drop_eq_getElem_cons hkl, hl, List.getD_eq_getElem?_getD, List.getElem?_eq_getElem hkl]
        rfl
      have hmem : a ∈ asgF (y.1 6) (y.1 5) := by rw [hl]; exact getD_mem hkl
      obtain ⟨m1, m2⟩ := asgF_mem _ _ a hmem
      have hvl : vlF (y.1 6) a = k := by rw [hl]; exact asgF_vl _ _ k (by omega)
      obtain ⟨q1, q2⟩ := shBL Z.2.2.2.2 m1
      have hs := qm_sum Z T m1 m2 (K31 := fX5_share_l31 N n) (l1 := l1) (l2 := l2) (l3 := l3) (y.1 6) 0 300000 0 0 (by omega) (by omega)
      simp only [Nat.zero_add] at hs
      have eB : smF (fun c => bBN y c (ldF c a 0)) (y.1 6) 0 = shB y a := rfl
      have eL : smF (fun c => bLN y c (ldF c a 0)) (y.1 6) 0 = shL y a := rfl
      rw [eB, eL, hvl, nI_0, fitG_B] at hs
      have hup : fX5_share_l31 N (n + 1) l1 l2 l3 (nI k) h = fX5_share_l52 N (fX5_share_l31 N n) 300000 l1 l2 l3 (nI k) 0 0 1 0 h := by
        simp only [fX5_share_l31, qm_sharesN Z, bdS, b2S, bxL, bxR, onN, onS, nI_ge (show k < y.1 6 ^ y.1 5 by omega) (by omega), if_false, Z.1.f]
      rw [hs] at hup
      have take := ih (k + 1) n (nI k) (nI (shB y a)) (nI (shL y a)) (nI (shV y a), a)
      have skip := ih (k + 1) n l1 l2 l3 st M (by omega) (by omega)
      have hv : shV y a = 10000 * shB y a + shL y a := rfl
      rw [hdrop, List.foldl_cons]
      by_cases hf : fitB y a = true
      · have take := take (Or.inr ⟨hmem, hf, by rw [hvl], rfl, rfl, rfl⟩) (by omega) (by omega)
        rw [if_pos hf] at hup
        rw [shS, if_pos hf]
        rcases M with ⟨M1, M2⟩ | ⟨M1, M2, M3, M4, M5, M6⟩
        · rw [if_pos M1] at hup
          rw [if_pos M2, hup]
          exact take
        · obtain ⟨p1, p2⟩ := asgF_mem _ _ _ M1
          obtain ⟨q1', q2'⟩ := shBL Z.2.2.2.2 p1
          have hv' : shV y st.2 = 10000 * shB y st.2 + shL y st.2 := rfl
          have hvb := vl_bound (C := y.1 6) h6.2 p2 (by omega)
          have hne : ¬ l1 = -1 := by rw [M3]; exact nI_m1ne (by omega)
          have hne' : ¬ st.1 = -1 := by rw [M6]; exact nI_m1ne (by omega)
          rw [if_neg hne, M4, M5] at hup
          simp only [nI_ltI (show shB y st.2 < 2 ^ 31 by omega) (show shB y a < 2 ^ 31 by omega), nI_eq (show shB y a < 2 ^ 31 by omega) (show shB y st.2 < 2 ^ 31 by omega), nI_ltI (show shL y a < 2 ^ 31 by omega) (show shL y st.2 < 2 ^ 31 by omega)] at hup
          rw [if_neg hne', M6, M4, M5]
          simp only [nI_ltI (show shV y a < 2 ^ 31 by omega) (show shV y st.2 < 2 ^ 31 by omega)]
          rw [M4, M5] at skip
          by_cases t1 : shB y st.2 < shB y a
          · rw [if_pos t1] at hup
            rw [if_neg (by omega), hup]
            exact skip
          · rw [if_neg t1] at hup
            by_cases t2 : shB y a = shB y st.2
            · rw [if_pos t2] at hup
              by_cases t3 : shL y a < shL y st.2
              · rw [if_pos t3] at hup
                rw [if_pos (by omega), hup]
                exact take
              · rw [if_neg t3] at hup
                rw [if_neg (by omega), hup]
                exact skip
            · rw [if_neg t2] at hup
              rw [if_pos (by omega), hup]
              exact take
      · rw [if_neg hf] at hup
        rw [shS, if_neg hf, hup]
        exact skip
/-- the found share is written -/
def GW (h h0 : Hp) (N n : Nat) (a : List Nat) (c k : Nat) : Prop := ∀ j, aF h (N + 7) j = if j < n ∧ (a.getD j 0 < c ∨ (a.getD j 0 = c ∧ j < k)) then nI (a.getD j 0) else aF h0 (N + 7) j
theorem qm_wrL {N E d : Nat} {y : Dy} {h0 : Hp} {a : List Nat} (ha : a.length = y.1 5) (hx : ∀ x ∈ a, x < y.1 6) {K : Int32 → Int32 → Int32 → Hp → Option (Int32 × Hp)} {l2 : Int32} {c : Nat} (hc : c < y.1 6) : ∀ (j k n : Nat) (h : Hp), MD h N E d y → GW h h0 N (y.1 5) a c k → k + j = y.1 5 → j < n → ∃ h', fX5_share_l227 N K n (nI (vlF (y.1 6) a)) l2 (nI c) (nI k) h = K (nI (vlF (y.1 6) a)) l2 (nI (c + 1)) h' ∧ Fw N (Aq (N + 7)) B0 h h' ∧ GW h' h0 N (y.1 5) a (c + 1) 0 := by
  intro j
  induction j with
  | zero =>
    intro k n h Z G hk hn
    cases n with
    | zero => omega
    | succ n =>
      have h5 := Z.2.2.2.2.h5
      refine ⟨h, ?_, Fw.rf, fun j => ?_⟩
      · obtain ⟨S, e1, D, lE, K⟩ := id Z
        obtain ⟨hz, hfu0, o0, o1, r0_5, o2, r0_17, o3, r0_18, o4, r0_22, o5, r0_23, o6, r0_26, o7, r0_28, o8, r0_29, o9, r0_30, o10, r0_31, o11, r0_32, o12, r0_35, o13, r0_36, o14, r0_38, o15, r0_39, o16, r0_40, o17, r0_41, o18, r0_43, o19, r0_44, o20, r0_45⟩ := id S
        obtain ⟨dlo, do0, dv0, dv1, dn2, dn3, dn4, dn5, dn6, dn7, dn8, dn9, dr11, da11, dv11, dr12, da12, dv12, dr13, da13, dv13, dr14, da14, dv14, dr15, da15, dv15, dr16, da16, dv16, dr17, da17, dv17, dr18, da18, dv18, dr19, da19, dv19, dr20, da20, dv20, dr21, da21, dv21, dr22, da22, dv22, dr23, da23, dv23, dr24, da24, dv24, dr25, da25, dv25, dr26, da26, dv26, dr27, da27, dv27, dr28, da28, dv28, dr29, da29, dv29, dr30, da30, dv30, dr31, da31, dv31, dr32, da32, dv32, dr33, da33, dv33⟩ := id D
        obtain ⟨yc2, yc3, yc4, yc5, yc6, yc7, yc8, yc9, yyk, yyd, yyf, yyh, yyc, yyl, yyp, yyhot, yyby⟩ := id K
        simp only [fX5_share_l227, g4_3 o0, e1, bdS, b2S, bxL, bxR, onN, onS, g13_5 do0, dn5, nI_le (show y.1 5 ≤ k by omega) (by omega), if_true, nI_1]
      · rw [G j]
        by_cases e : j < y.1 5 ∧ a.getD j 0 < c + 1
        · rw [if_pos (by omega), if_pos (by omega)]
        · rw [if_neg (by omega), if_neg (by omega)]
  | succ j ih =>
    intro k n h Z G hk hn
    cases n with
    | zero => omega
    | succ n =>
      have h5 := Z.2.2.2.2.h5
      have h6 := Z.2.2.2.2.h6
      have hh := qm_housesOf Z ha hx (c := c) (by omega)
      have hhas := qm_has (nI (ldF c a 0)) k h
      rw [lie_ldF c a.length a rfl (by omega) k (by omega), ha] at hhas
      by_cases hm : a.getD k 0 = c
      · have fw : Fw N (Aq (N + 7)) B0 h (sA h (N + 7) k (nI c)) := Fw.sA rfl
        have Z1 := Z.fw fw (fun q a => by simp only [Aq] at a; omega)
        have o7 : isA h (N + 7) 0 6 := by
          have hS := Z.1
          obtain ⟨hz, hfu0, o0, o1, r0_5, o2, r0_17, o3, r0_18, o4, r0_22, o5, r0_23, o6, r0_26, o7, r0_28, o8, r0_29, o9, r0_30, o10, r0_31, o11, r0_32, o12, r0_35, o13, r0_36, o14, r0_38, o15, r0_39, o16, r0_40, o17, r0_41, o18, r0_43, o19, r0_44, o20, r0_45⟩ := id hS
          exact o7
        obtain ⟨h', s1, s2, s3⟩ := ih (k + 1) n _ Z1 (fun j => by
          rw [aF_sA o7, if_pos rfl, upd]
          by_cases e : j = k
          · subst e; rw [if_pos rfl, if_pos (by omega), hm]
          · rw [if_neg e, G j]
            by_cases e2 : j < y.1 5 ∧ (a.getD j 0 < c ∨ (a.getD j 0 = c ∧ j < k))
            · rw [if_pos e2, if_pos (by omega)]
            · rw [if_neg e2, if_neg (by omega)]) (by omega) (by omega)
        refine ⟨h', ?_, fw.trans s2, s3⟩
        rw [← s1]
        obtain ⟨S, e1, D, lE, K⟩ := id Z
        obtain ⟨hz, hfu0, o0, o1, r0_5, o2, r0_17, o3, r0_18, o4, r0_22, o5, r0_23, o6, r0_26, o7, r0_28, o8, r0_29, o9, r0_30, o10, r0_31, o11, r0_32, o12, r0_35, o13, r0_36, o14, r0_38, o15, r0_39, o16, r0_40, o17, r0_41, o18, r0_43, o19, r0_44, o20, r0_45⟩ := id S
        obtain ⟨dlo, do0, dv0, dv1, dn2, dn3, dn4, dn5, dn6, dn7, dn8, dn9, dr11, da11, dv11, dr12, da12, dv12, dr13, da13, dv13, dr14, da14, dv14, dr15, da15, dv15, dr16, da16, dv16, dr17, da17, dv17, dr18, da18, dv18, dr19, da19, dv19, dr20, da20, dv20, dr21, da21, dv21, dr22, da22, dv22, dr23, da23, dv23, dr24, da24, dv24, dr25, da25, dv25, dr26, da26, dv26, dr27, da27, dv27, dr28, da28, dv28, dr29, da29, dv29, dr30, da30, dv30, dr31, da31, dv31, dr32, da32, dv32, dr33, da33, dv33⟩ := id D
        obtain ⟨yc2, yc3, yc4, yc5, yc6, yc7, yc8, yc9, yyk, yyd, yyf, yyh, yyc, yyl, yyp, yyhot, yyby⟩ := id K
        simp only [fX5_share_l227, g4_3 o0, e1, bdS, b2S, bxL, bxR, onN, onS, g13_5 do0, dn5, nI_ge (show k < y.1 5 by omega) (by omega), if_false, hh, hhas, hm, show k < y.1 5 by omega, and_self, decide_true, if_true, show ¬ ((1 : Int32) = 0) from by decide, g4_28 o0, r0_28, sIn o7 (show hfz h ≤ N + 7 by omega) (show k < 6 by omega), nI_1]
      · obtain ⟨h', s1, s2, s3⟩ := ih (k + 1) n h Z (fun j => by
          rw [G j]
          by_cases e2 : j < y.1 5 ∧ (a.getD j 0 < c ∨ (a.getD j 0 = c ∧ j < k))
          · rw [if_pos e2, if_pos (by omega)]
          · by_cases e : j = k
            · subst e; rw [if_neg e2, if_neg (by omega)]
            · rw [if_neg e2, if_neg (by omega)]) (by omega) (by omega)
        refine ⟨h', ?_, s2, s3⟩
        rw [← s1]
        obtain ⟨S, e1, D, lE, K⟩ := id Z
        obtain ⟨hz, hfu0, o0, o1, r0_5, o2, r0_17, o3, r0_18, o4, r0_22, o5, r0_23, o6, r0_26, o7, r0_28, o8, r0_29, o9, r0_30, o10, r0_31, o11, r0_32, o12, r0_35, o13, r0_36, o14, r0_38, o15, r0_39, o16, r0_40, o17, r0_41, o18, r0_43, o19, r0_44, o20, r0_45⟩ := id S
        obtain ⟨dlo, do0, dv0, dv1, dn2, dn3, dn4, dn5, dn6, dn7, dn8, dn9, dr11, da11, dv11, dr12, da12, dv12, dr13, da13, dv13, dr14, da14, dv14, dr15, da15, dv15, dr16, da16, dv16, dr17, da17, dv17, dr18, da18, dv18, dr19, da19, dv19, dr20, da20, dv20, dr21, da21, dv21, dr22, da22, dv22, dr23, da23, dv23, dr24, da24, dv24, dr25, da25, dv25, dr26, da26, dv26, dr27, da27, dv27, dr28, da28, dv28, dr29, da29, dv29, dr30, da30, dv30, dr31, da31, dv31, dr32, da32, dv32, dr33, da33, dv33⟩ := id D
        obtain ⟨yc2, yc3, yc4, yc5, yc6, yc7, yc8, yc9, yyk, yyd, yyf, yyh, yyc, yyl, yyp, yyhot, yyby⟩ := id K
        simp only [fX5_share_l227, g4_3 o0, e1, bdS, b2S, bxL, bxR, onN, onS, g13_5 do0, dn5, nI_ge (show k < y.1 5 by omega) (by omega), if_false, hh, hhas, hm, and_false, decide_false, Bool.false_eq_true, if_true, nI_1]
theorem qm_wr {N E d : Nat} {y : Dy} {h0 : Hp} {a : List Nat} (ha : a.length = y.1 5) (hx : ∀ x ∈ a, x < y.1 6) {l2 : Int32} : ∀ (j c n : Nat) (h : Hp), MD h N E d y → GW h h0 N (y.1 5) a c 0 → c + j = y.1 6 → j < n → ∃ h', fX5_share_l212 N n (nI (vlF (y.1 6) a)) l2 (nI c) h = some (l2, rf h' N 0) ∧ Fw N (Aq (N + 7)) B0 h h' ∧ GW h' h0 N (y.1 5) a (y.1 6) 0 := by
  intro j
  induction j with
  | zero =>
    intro c n h Z G hk hn
    cases n with
    | zero => omega
    | succ n =>
      have h6 := Z.2.2.2.2.h6
      refine ⟨h, ?_, Fw.rf, by rw [show y.1 6 = c by omega]; exact G⟩
      have hd := qm_done Z.1 l2
      obtain ⟨S, e1, D, lE, K⟩ := id Z
      obtain ⟨hz, hfu0, o0, o1, r0_5, o2, r0_17, o3, r0_18, o4, r0_22, o5, r0_23, o6, r0_26, o7, r0_28, o8, r0_29, o9, r0_30, o10, r0_31, o11, r0_32, o12, r0_35, o13, r0_36, o14, r0_38, o15, r0_39, o16, r0_40, o17, r0_41, o18, r0_43, o19, r0_44, o20, r0_45⟩ := id S
      obtain ⟨dlo, do0, dv0, dv1, dn2, dn3, dn4, dn5, dn6, dn7, dn8, dn9, dr11, da11, dv11, dr12, da12, dv12, dr13, da13, dv13, dr14, da14, dv14, dr15, da15, dv15, dr16, da16, dv16, dr17, da17, dv17, dr18, da18, dv18, dr19, da19, dv19, dr20, da20, dv20, dr21, da21, dv21, dr22, da22, dv22, dr23, da23, dv23, dr24, da24, dv24, dr25, da25, dv25, dr26, da26, dv26, dr27, da27, dv27, dr28, da28, dv28, dr29, da29, dv29, dr30, da30, dv30, dr31, da31, dv31, dr32, da32, dv32, dr33, da33, dv33⟩ := id D
      obtain ⟨yc2, yc3, yc4, yc5, yc6, yc7, yc8, yc9, yyk, yyd, yyf, yyh, yyc, yyl, yyp, yyhot, yyby⟩ := id K
      simp only [fX5_share_l212, g4_3 o0, e1, bdS, b2S, bxL, bxR, onN, onS, g13_6 do0, dn6, nI_le (show y.1 6 ≤ c by omega) (by omega), if_true, hd, rf]
  | succ j ih =>
    intro c n h Z G hk hn
    cases n with
    | zero => omega
    | succ n =>
      have h5 := Z.2.2.2.2.h5
      have h6 := Z.2.2.2.2.h6
      obtain ⟨h1, q1, q2, q3⟩ := qm_wrL (K := fX5_share_l212 N n) (l2 := l2) ha hx (show c < y.1 6 by omega) (y.1 5) 0 300000 h Z G (by omega) (by omega)
      have Z1 := Z.fw q2 (fun q a => by simp only [Aq] at a; omega)
      obtain ⟨h', s1, s2, s3⟩ := ih (c + 1) n h1 Z1 q3 (by omega) (by omega)
      refine ⟨h', ?_, q2.trans s2, s3⟩
      rw [← s1, ← q1, nI_0]
      obtain ⟨S, e1, D, lE, K⟩ := id Z
      obtain ⟨hz, hfu0, o0, o1, r0_5, o2, r0_17, o3, r0_18, o4, r0_22, o5, r0_23, o6, r0_26, o7, r0_28, o8, r0_29, o9, r0_30, o10, r0_31, o11, r0_32, o12, r0_35, o13, r0_36, o14, r0_38, o15, r0_39, o16, r0_40, o17, r0_41, o18, r0_43, o19, r0_44, o20, r0_45⟩ := id S
      obtain ⟨dlo, do0, dv0, dv1, dn2, dn3, dn4, dn5, dn6, dn7, dn8, dn9, dr11, da11, dv11, dr12, da12, dv12, dr13, da13, dv13, dr14, da14, dv14, dr15, da15, dv15, dr16, da16, dv16, dr17, da17, dv17, dr18, da18, dv18, dr19, da19, dv19, dr20, da20, dv20, dr21, da21, dv21, dr22, da22, dv22, dr23, da23, dv23, dr24, da24, dv24, dr25, da25, dv25, dr26, da26, dv26, dr27, da27, dv27, dr28, da28, dv28, dr29, da29, dv29, dr30, da30, dv30, dr31, da31, dv31, dr32, da32, dv32, dr33, da33, dv33⟩ := id D
      obtain ⟨yc2, yc3, yc4, yc5, yc6, yc7, yc8, yc9, yyk, yyd, yyf, yyh, yyc, yyl, yyp, yyhot, yyby⟩ := id K
      simp only [fX5_share_l212, g4_3 o0, e1, bdS, b2S, bxL, bxR, onN, onS, g13_6 do0, dn6, nI_ge (show c < y.1 6 by omega) (by omega), if_false, hfu0]
abbrev Am2 (N : Nat) : Nat → Prop := fun q => (N + 4 ≤ q ∧ q ≤ N + 9)
abbrev Bm2 : Nat → Prop := fun k => k = 20 ∨ k = 21 ∨ k = 24 ∨ k = 25 ∨ k = 27
theorem m_share {N E : Nat} : MOp N E (fX5_share N) (fun yo s => shareR yo s) := by
  intro h yo s R I
  obtain ⟨S, P, V, lE⟩ := id R
  obtain ⟨f1, S1, Q1⟩ := th_all S 0
  cases yo with
  | none =>
    obtain ⟨a1, a2⟩ := m_end R 1
    refine ⟨_, ?_, a1, a2⟩
    have P1 : gR (sI h N 0 0) N 3 = none := (P.kept f1.1 (fun q hq => f1.2 q (by omega)))
    simp only [fX5_share, ab_ckq S.o, ab_pIq S.o S.1, bdS, b2S, bxL, bxR, onN, onS, g4_3 S1.o, P1, qm_refused S1]
    rfl
  | some y =>
    obtain ⟨d, e1, D, K⟩ := id P
    have Z := m_beg R e1 D
    have h5 := K.h5
    have h6 := K.h6
    have hpw := pow36 (y.1 6) h6.2 (y.1 5) h5.2
    obtain ⟨h2, q1, q2, q3⟩ := qm_weighs Z
    have Z2 := Z.fw q2 (fun q a => by simp only [Am] at a; omega)
    obtain ⟨m, r1, r2, r3, g1, g2⟩ := qm_shL Z2 q3 (y.1 6 ^ y.1 5) 0 300000 (-1) 0 0 (-1, []) (Or.inl ⟨rfl, rfl⟩) (by omega) (by omega)
    rw [List.drop_zero] at g2
    have g2 : MS y r1 r2 r3 (shr y) := g2
    have hup : fX5_share N h = fX5_share_l31 N (m + 1) r1 r2 r3 (nI (y.1 6 ^ y.1 5)) h2 := by
      rw [← g1, nI_0]
      simp only [fX5_share, ab_ckq S.o, ab_pIq S.o S.1, bdS, b2S, bxL, bxR, onN, onS, g4_3 S1.o, Z.2.1, q1, Z2.1.f]
    rcases g2 with ⟨M1, M2⟩ | ⟨M1, M2, M3, M4, M5, M6⟩
    · simp only [shareR, M2, if_true]
      have f2 := q2.fr (show N < N + 21 by omega) (fun q a => by simp only [Am] at a; omega)
      obtain ⟨f3, S3, Q3, t3, w3⟩ := rf_all Z2.1 6
      refine ⟨rf h2 N 6, ?_, (f1.trans f2).trans f3, V.fin ((Q1.trans (q2.svm (fun k a => by simp only [Bb] at a; omega) (fun j a => by simp only [Am] at a; omega))).trans Q3) t3 w3⟩
      rw [hup]
      simp only [fX5_share_l31, qm_sharesN Z2, bdS, b2S, bxL, bxR, onN, onS, Int32.le_refl, if_true, M1, qm_refused Z2.1, rf]
    · obtain ⟨p1, p2⟩ := asgF_mem _ _ _ M1
      have hvb := vl_bound (C := y.1 6) h6.2 p2 (by omega)
      obtain ⟨q1', q2'⟩ := shBL K p1
      have hne : ¬ r1 = -1 := by rw [M3]; exact nI_m1ne (by omega)
      have hne' : ¬ (shr y).1 = -1 := by rw [M6]; exact nI_m1ne (by have hv' : shV y (shr y).2 = 10000 * shB y (shr y).2 + shL y (shr y).2 := rfl; omega)
      have f3 : Fw N (Am2 N) Bm2 h2 (sI h2 N 27 1) := Fw.sI Z2.1.o rfl (Or.inr (Or.inr (Or.inr (Or.inr rfl))))
      have Z3 := Z2.fw f3 (fun q a => by simp only [Am2] at a; omega)
      obtain ⟨h', s1, s2, s3⟩ := qm_wr (h0 := sI h2 N 27 1) (l2 := r2) p1 p2 (y.1 6) 0 300000 _ Z3 (fun j => by rw [if_neg (by omega)]) (by omega) (by omega)
      have Z4 := Z3.fw s2 (fun q a => by simp only [Aq] at a; omega)
      have f9 : Fw N (Am2 N) Bm2 (sI h N 0 0) h' := (q2.wide (fun q a => by simp only [Am] at a; simp only [Am2]; omega) (fun k a => by simp only [Bb] at a; simp only [Bm2]; omega)).trans (f3.trans (s2.wide (fun q a => by simp only [Aq] at a; simp only [Am2]; omega) (fun k a => a.elim)))
      obtain ⟨f4, S4, Q4, t4, w4⟩ := rf_all Z4.1 0
      simp only [shareR, hne', if_false]
      refine ⟨rf h' N 0, ?_, (f1.trans (f9.fr (by omega) (fun q a => by simp only [Am2] at a; omega))).trans f4, ?_⟩
      · rw [hup]
        rw [nI_0, ← M3, M4] at s1
        simp only [fX5_share_l31, qm_sharesN Z2, bdS, b2S, bxL, bxR, onN, onS, Int32.le_refl, if_true, hne, if_false, ab_pIq Z2.1.o Z2.1.1, Z3.1.f, s1, M4]
      · obtain ⟨v1, v2, v3, v4, v5, v6, v7, v8, v9, v10, v11, v12, v13, v14, v15, v16, v17, v18, v19, v20, v21, v22⟩ := V.th S
        have gg : ∀ k, k = 6 ∨ k = 13 ∨ k = 19 ∨ k = 33 ∨ k = 34 ∨ k = 37 ∨ k = 42 → gI (rf h' N 0) N k = gI (sI h N 0 0) N k := fun k hk => (Q4.1 k (by omega)).trans (f9.2.2 k (by simp only [Bm2]; omega))
        have aa : ∀ j, (1 ≤ j ∧ j ≤ 3) ∨ j = 11 ∨ j = 13 ∨ j = 14 ∨ (16 ≤ j ∧ j ≤ 20) → aF (rf h' N 0) (N + j) = aF (sI h N 0 0) (N + j) := fun j hj => (Q4.2 j (by omega)).trans (f9.aF (by omega) (by simp only [Am2]; omega))
        have a7 : aF (rf h' N 0) (N + 7) = fun i => if i < y.1 5 then nI ((shr y).2.getD i 0) else s.2 4 i := by
          rw [Q4.2 7 (by omega)]
          funext i
          rw [s3 i, aF_sI, q2.aF (by omega) (by simp only [Am]; omega), v12]
          by_cases e : i < y.1 5
          · have := p2 _ (getD_mem (d := 0) (show i < (shr y).2.length by omega))
            rw [if_pos (by omega), if_pos e]
          · rw [if_neg (by omega), if_neg e]
        have g27 : gI (rf h' N 0) N 27 = 1 := by
          rw [Q4.1 27 (by omega), s2.2.2 27 (fun z => z), gI_sI Z2.1.o, if_pos ⟨rfl, rfl⟩]
        exact ⟨(gg 6 (by omega)).trans v1, t4, (gg 13 (by omega)).trans v3, w4, (gg 19 (by omega)).trans v5, g27, (gg 33 (by omega)).trans v7, (gg 34 (by omega)).trans v8, (gg 37 (by omega)).trans v9, (gg 42 (by omega)).trans v10, (aa 1 (by omega)).trans v11, a7, (aa 11 (by omega)).trans v13, (aa 13 (by omega)).trans v14, (aa 14 (by omega)).trans v15, (aa 16 (by omega)).trans v16, (aa 17 (by omega)).trans v17, (aa 18 (by omega)).trans v18, (aa 19 (by omega)).trans v19, (aa 20 (by omega)).trans v20, fun c hc => by rw [aa 2 (by omega)]; exact v21 c hc, fun c hc k hk => by rw [aa 3 (by omega)]; exact v22 c hc k hk⟩
