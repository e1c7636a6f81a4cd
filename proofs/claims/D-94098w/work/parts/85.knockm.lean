/-! knock, asTold: the model -/
theorem qm_cpA {N E d : Nat} {y : Dy} {K43 : Int64 → Int32 → Hp → Option (Int64 × Hp)} {l1 : Int64} {l3 : Int32} : ∀ (j k f : Nat) (h : Hp), MD h N E d y → (∀ i, i < k → aF h (N + 12) i = aF h (N + 4) i) → k + j = y.1 8 → j < f → ∃ h' m, fX5_knock_l76 N K43 f l1 l3 (nI k) h = fX5_knock_l76 N K43 (m + 1) l1 l3 (nI (y.1 8)) h' ∧ Fw N (Aq (N + 12)) B0 h h' ∧ ∀ i, i < y.1 8 → aF h' (N + 12) i = aF h (N + 4) i := by
  intro j
  induction j with
  | zero =>
    intro k f h Z L hk hf
    cases f with
    | zero => omega
    | succ f => exact ⟨h, f, by rw [show k = y.1 8 by omega], Fw.rf, fun i hi => L i (by omega)⟩
  | succ j ih =>
    intro k f h Z L hk hf
    cases f with
    | zero => omega
    | succ f =>
      have h8 := Z.2.2.2.2.h8
      have f1 : Fw N (Aq (N + 12)) B0 h (sA h (N + 12) k (aF h (N + 4) k)) := Fw.sA rfl
      have Z1 := Z.fw f1 (fun q a => by simp only [Aq] at a; omega)
      have p12 : isA h (N + 12) 0 5 := by
        have hS := Z.1
        obtain ⟨hz, hfu0, o0, o1, r0_5, o2, r0_17, o3, r0_18, o4, r0_22, o5, r0_23, o6, r0_26, o7, r0_28, o8, r0_29, o9, r0_30, o10, r0_31, o11, r0_32, o12, r0_35, o13, r0_36, o14, r0_38, o15, r0_39, o16, r0_40, o17, r0_41, o18, r0_43, o19, r0_44, o20, r0_45⟩ := id hS
        exact o12
      have e4 : aF (sA h (N + 12) k (aF h (N + 4) k)) (N + 4) = aF h (N + 4) := by rw [aF_sA p12, if_neg (by omega)]
      obtain ⟨h', m, s1, s2, s3⟩ := ih (k + 1) f _ Z1 (fun i hi => by
        rw [e4, aF_sA p12, if_pos rfl, upd]
        by_cases e : i = k
        · rw [if_pos e, e]
        · rw [if_neg e]; exact L i (by omega)) (by omega) (by omega)
      refine ⟨h', m, ?_, f1.trans s2, fun i hi => by rw [s3 i hi, e4]⟩
      rw [← s1]
      obtain ⟨S, e1, D, lE, K⟩ := id Z
      obtain ⟨hz, hfu0, o0, o1, r0_5, o2, r0_17, o3, r0_18, o4, r0_22, o5, r0_23, o6, r0_26, o7, r0_28, o8, r0_29, o9, r0_30, o10, r0_31, o11, r0_32, o12, r0_35, o13, r0_36, o14, r0_38, o15, r0_39, o16, r0_40, o17, r0_41, o18, r0_43, o19, r0_44, o20, r0_45⟩ := id S
      obtain ⟨dlo, do0, dv0, dv1, dn2, dn3, dn4, dn5, dn6, dn7, dn8, dn9, dr11, da11, dv11, dr12, da12, dv12, dr13, da13, dv13, dr14, da14, dv14, dr15, da15, dv15, dr16, da16, dv16, dr17, da17, dv17, dr18, da18, dv18, dr19, da19, dv19, dr20, da20, dv20, dr21, da21, dv21, dr22, da22, dv22, dr23, da23, dv23, dr24, da24, dv24, dr25, da25, dv25, dr26, da26, dv26, dr27, da27, dv27, dr28, da28, dv28, dr29, da29, dv29, dr30, da30, dv30, dr31, da31, dv31, dr32, da32, dv32, dr33, da33, dv33⟩ := id D
      obtain ⟨yc2, yc3, yc4, yc5, yc6, yc7, yc8, yc9, yyk, yyd, yyf, yyh, yyc, yyl, yyp, yyhot, yyby⟩ := id K
      simp only [fX5_knock_l76, g4_3 o0, e1, bdS, b2S, bxL, bxR, onN, onS, g13_8 do0, dn8, nI_ge (show k < y.1 8 by omega) (by omega), if_false, g4_35 o0, r0_35, g4_22 o0, r0_22, aIn o4 (show k < 6 by omega), sIn o12 (show hfz h ≤ N + 12 by omega) (show k < 5 by omega), nI_1]
theorem qm_cpB {N E d : Nat} {y : Dy} {K43 : Int64 → Int32 → Hp → Option (Int64 × Hp)} {l1 : Int64} {l3 : Int32} : ∀ (j k f : Nat) (h : Hp), MD h N E d y → (∀ i, i < k → aF h (N + 13) i = aF h (N + 12) i) → k + j = y.1 8 → j < f → ∃ h', fX5_knock_l140 N K43 f l1 l3 (nI k) h = K43 l1 (l3 + 1) h' ∧ Fw N (Aq (N + 13)) B0 h h' ∧ (∀ i, i < y.1 8 → aF h' (N + 13) i = aF h (N + 12) i) ∧ ∀ i, y.1 8 ≤ i → aF h' (N + 13) i = aF h (N + 13) i := by
  intro j
  induction j with
  | zero =>
    intro k f h Z L hk hf
    cases f with
    | zero => omega
    | succ f =>
      have h8 := Z.2.2.2.2.h8
      refine ⟨h, ?_, Fw.rf, fun i hi => L i (by omega), fun i _ => rfl⟩
      obtain ⟨S, e1, D, lE, K⟩ := id Z
      obtain ⟨hz, hfu0, o0, o1, r0_5, o2, r0_17, o3, r0_18, o4, r0_22, o5, r0_23, o6, r0_26, o7, r0_28, o8, r0_29, o9, r0_30, o10, r0_31, o11, r0_32, o12, r0_35, o13, r0_36, o14, r0_38, o15, r0_39, o16, r0_40, o17, r0_41, o18, r0_43, o19, r0_44, o20, r0_45⟩ := id S
      obtain ⟨dlo, do0, dv0, dv1, dn2, dn3, dn4, dn5, dn6, dn7, dn8, dn9, dr11, da11, dv11, dr12, da12, dv12, dr13, da13, dv13, dr14, da14, dv14, dr15, da15, dv15, dr16, da16, dv16, dr17, da17, dv17, dr18, da18, dv18, dr19, da19, dv19, dr20, da20, dv20, dr21, da21, dv21, dr22, da22, dv22, dr23, da23, dv23, dr24, da24, dv24, dr25, da25, dv25, dr26, da26, dv26, dr27, da27, dv27, dr28, da28, dv28, dr29, da29, dv29, dr30, da30, dv30, dr31, da31, dv31, dr32, da32, dv32, dr33, da33, dv33⟩ := id D
      obtain ⟨yc2, yc3, yc4, yc5, yc6, yc7, yc8, yc9, yyk, yyd, yyf, yyh, yyc, yyl, yyp, yyhot, yyby⟩ := id K
      simp only [fX5_knock_l140, g4_3 o0, e1, bdS, b2S, bxL, bxR, onN, onS, g13_8 do0, dn8, nI_le (show y.1 8 ≤ k by omega) (by omega), if_true]
  | succ j ih =>
    intro k f h Z L hk hf
    cases f with
    | zero => omega
    | succ f =>
      have h8 := Z.2.2.2.2.h8
      have f1 : Fw N (Aq (N + 13)) B0 h (sA h (N + 13) k (aF h (N + 12) k)) := Fw.sA rfl
      have Z1 := Z.fw f1 (fun q a => by simp only [Aq] at a; omega)
      have p13 : isA h (N + 13) 0 5 := by
        have hS := Z.1
        obtain ⟨hz, hfu0, o0, o1, r0_5, o2, r0_17, o3, r0_18, o4, r0_22, o5, r0_23, o6, r0_26, o7, r0_28, o8, r0_29, o9, r0_30, o10, r0_31, o11, r0_32, o12, r0_35, o13, r0_36, o14, r0_38, o15, r0_39, o16, r0_40, o17, r0_41, o18, r0_43, o19, r0_44, o20, r0_45⟩ := id hS
        exact o13
      have e4 : aF (sA h (N + 13) k (aF h (N + 12) k)) (N + 12) = aF h (N + 12) := by rw [aF_sA p13, if_neg (by omega)]
      obtain ⟨h', s1, s2, s3, s4⟩ := ih (k + 1) f _ Z1 (fun i hi => by
        rw [e4, aF_sA p13, if_pos rfl, upd]
        by_cases e : i = k
        · rw [if_pos e, e]
        · rw [if_neg e]; exact L i (by omega)) (by omega) (by omega)
      refine ⟨h', ?_, f1.trans s2, fun i hi => by rw [s3 i hi, e4], fun i hi => by rw [s4 i hi, aF_sA p13, if_pos rfl, upd, if_neg (by omega)]⟩
      rw [← s1]
      obtain ⟨S, e1, D, lE, K⟩ := id Z
      obtain ⟨hz, hfu0, o0, o1, r0_5, o2, r0_17, o3, r0_18, o4, r0_22, o5, r0_23, o6, r0_26, o7, r0_28, o8, r0_29, o9, r0_30, o10, r0_31, o11, r0_32, o12, r0_35, o13, r0_36, o14, r0_38, o15, r0_39, o16, r0_40, o17, r0_41, o18, r0_43, o19, r0_44, o20, r0_45⟩ := id S
      obtain ⟨dlo, do0, dv0, dv1, dn2, dn3, dn4, dn5, dn6, dn7, dn8, dn9, dr11, da11, dv11, dr12, da12, dv12, dr13, da13, dv13, dr14, da14, dv14, dr15, da15, dv15, dr16, da16, dv16, dr17, da17, dv17, dr18, da18, dv18, dr19, da19, dv19, dr20, da20, dv20, dr21, da21, dv21, dr22, da22, dv22, dr23, da23, dv23, dr24, da24, dv24, dr25, da25, dv25, dr26, da26, dv26, dr27, da27, dv27, dr28, da28, dv28, dr29, da29, dv29, dr30, da30, dv30, dr31, da31, dv31, dr32, da32, dv32, dr33, da33, dv33⟩ := id D
      obtain ⟨yc2, yc3, yc4, yc5, yc6, yc7, yc8, yc9, yyk, yyd, yyf, yyh, yyc, yyl, yyp, yyhot, yyby⟩ := id K
      simp only [fX5_knock_l140, g4_3 o0, e1, bdS, b2S, bxL, bxR, onN, onS, g13_8 do0, dn8, nI_ge (show k < y.1 8 by omega) (by omega), if_false, g4_36 o0, r0_36, g4_35 o0, r0_35, aIn o12 (show k < 5 by omega), sIn o13 (show hfz h ≤ N + 13 by omega) (show k < 5 by omega), nI_1]
abbrev Akm (N : Nat) : Nat → Prop := fun q => q = N + 4 ∨ q = N + 12 ∨ q = N + 13
/-- what the search has found so far -/
def KS (h h0 : Hp) (N n : Nat) (st : Int64 × List Nat) : Prop := (st.2.length = n → ∀ i, i < n → aF h (N + 13) i = nI (st.2.getD i 0)) ∧ ∀ i, n ≤ i → aF h (N + 13) i = aF h0 (N + 13) i
theorem qm_knL {N E d : Nat} {y : Dy} {h0 : Hp} : ∀ (j k f : Nat) (st : Int64 × List Nat) (h : Hp), MD h N E d y → KS h h0 N (y.1 8) st → k + j = fac (y.1 8) → j < f → ∃ h', fX5_knock_l43 N f st.1 (nI k) h = some ((((pmF (y.1 8) (els (2 ^ y.1 8 - 1))).drop k).foldl (knS y) st).1, rf (sI h' N 34 (nI (y.1 8))) N 0) ∧ Fw N (Akm N) (Aq 20) h h' ∧ KS h' h0 N (y.1 8) (((pmF (y.1 8) (els (2 ^ y.1 8 - 1))).drop k).foldl (knS y) st) := by
  intro j
  induction j with
  | zero =>
    intro k f st h Z G hk hf
    cases f with
    | zero => omega
    | succ f =>
      have h8 := Z.2.2.2.2.h8
      obtain ⟨u1, u2, u3, -⟩ := full5 (y.1 8) h8
      obtain ⟨hf1, hf2⟩ := fac_le (y.1 8) (by omega)
      have hlen := pmF_len (y.1 8) (els (2 ^ y.1 8 - 1)) ((els_len _ u3).trans u2)
      rw [List.drop_eq_nil_of_le (by omega)]
      refine ⟨h, ?_, Fw.rf, G⟩
      have S2 := Z.1.kept (Kp.sI (v := nI (y.1 8)) (k := 34) Z.1.o rfl)
      have hfa := qm_fac (h := h) Z.1.f (show y.1 8 ≤ 6 by omega)
      have hd := qm_done S2 0
      obtain ⟨S, e1, D, lE, K⟩ := id Z
      obtain ⟨hz, hfu0, o0, o1, r0_5, o2, r0_17, o3, r0_18, o4, r0_22, o5, r0_23, o6, r0_26, o7, r0_28, o8, r0_29, o9, r0_30, o10, r0_31, o11, r0_32, o12, r0_35, o13, r0_36, o14, r0_38, o15, r0_39, o16, r0_40, o17, r0_41, o18, r0_43, o19, r0_44, o20, r0_45⟩ := id S
      obtain ⟨dlo, do0, dv0, dv1, dn2, dn3, dn4, dn5, dn6, dn7, dn8, dn9, dr11, da11, dv11, dr12, da12, dv12, dr13, da13, dv13, dr14, da14, dv14, dr15, da15, dv15, dr16, da16, dv16, dr17, da17, dv17, dr18, da18, dv18, dr19, da19, dv19, dr20, da20, dv20, dr21, da21, dv21, dr22, da22, dv22, dr23, da23, dv23, dr24, da24, dv24, dr25, da25, dv25, dr26, da26, dv26, dr27, da27, dv27, dr28, da28, dv28, dr29, da29, dv29, dr30, da30, dv30, dr31, da31, dv31, dr32, da32, dv32, dr33, da33, dv33⟩ := id D
      obtain ⟨yc2, yc3, yc4, yc5, yc6, yc7, yc8, yc9, yyk, yyd, yyf, yyh, yyc, yyl, yyp, yyhot, yyby⟩ := id K
      simp only [fX5_knock_l43, g4_3 o0, e1, bdS, b2S, bxL, bxR, onN, onS, g13_8 do0, dn8, hfa, nI_le (show fac (y.1 8) ≤ k by omega) (by omega), if_true, ab_pIq o0 hz, hd, List.foldl_nil, rf]
  | succ j ih =>
    intro k f st h Z G hk hf
    cases f with
    | zero => omega
    | succ f =>
      have h8 := Z.2.2.2.2.h8
      obtain ⟨u1, u2, u3, -⟩ := full5 (y.1 8) h8
      obtain ⟨hf1, hf2⟩ := fac_le (y.1 8) (by omega)
      have hlen := pmF_len (y.1 8) (els (2 ^ y.1 8 - 1)) ((els_len _ u3).trans u2)
      have hkl : k < (pmF (y.1 8) (els (2 ^ y.1 8 - 1))).length := by omega
      obtain ⟨l, hl⟩ : ∃ l, l = (pmF (y.1 8) (els (2 ^ y.1 8 - 1))).getD k [] := ⟨_, rfl⟩
      have hdrop : (pmF (y.1 8) (els (2 ^ y.1 8 - 1))).drop k = l :: (pmF (y.1 8) (els (2 ^ y.1 8 - 1))).drop (k + 1) := by
        rw [List.drop_eq_getElem_cons hkl, hl, List.getD_eq_getElem?_getD, List.getElem?_eq_getElem hkl]
        rfl
      obtain ⟨m1, m2, m3⟩ := pmF_mem (y.1 8) _ ((els_len _ u3).trans u2) (els_nd _) l (by rw [hl]; exact getD_mem hkl)
      have hlx : ∀ x ∈ l, x < y.1 8 := fun x h => full5x h8 x (m3 x h)
      obtain ⟨h2, a1, a2, a3⟩ := qm_ordered Z.1 u3 (show k < fac (pc (2 ^ y.1 8 - 1)) by rw [u2]; omega)
      rw [u2, ← hl] at a3
      have a2' : Fw N (Akm N) (Aq 20) h h2 := a2.wide (fun q a => Or.inl a) (fun k a => a)
      have Z2 := Z.fw a2' (fun q a => by simp only [Akm] at a; omega)
      obtain ⟨h3, m, b1, b2, b3⟩ := qm_cpA (K43 := fX5_knock_l43 N f) (l1 := st.1) (l3 := nI k) (y.1 8) 0 300000 h2 Z2 (fun i hi => absurd hi (Nat.not_lt_zero i)) (by omega) (by omega)
      have b2' : Fw N (Akm N) (Aq 20) h2 h3 := b2.wide (fun q a => Or.inr (Or.inl a)) (fun k a => a.elim)
      have Z3 := Z2.fw b2' (fun q a => by simp only [Akm] at a; omega)
      have hC : CL h3 (N + 12) l := by
        refine ⟨?_, fun i hi => ?_⟩
        · have hS := Z3.1
          obtain ⟨hz, hfu0, o0, o1, r0_5, o2, r0_17, o3, r0_18, o4, r0_22, o5, r0_23, o6, r0_26, o7, r0_28, o8, r0_29, o9, r0_30, o10, r0_31, o11, r0_32, o12, r0_35, o13, r0_36, o14, r0_38, o15, r0_39, o16, r0_40, o17, r0_41, o18, r0_43, o19, r0_44, o20, r0_45⟩ := id hS
          exact o12
        · rw [b3 i (by omega)]; exact a3.2.1 i hi
      have hex := qm_expected Z3 hC m1 hlx
      have G3 : KS h3 h0 N (y.1 8) st := by
        have e13 : aF h3 (N + 13) = aF h (N + 13) := by rw [b2.aF (by omega) (by simp only [Aq]; omega), a2.aF (by omega) (by simp only [Aq]; omega)]
        exact ⟨fun e i hi => by rw [e13]; exact G.1 e i hi, fun i hi => by rw [e13]; exact G.2 i hi⟩
      have hup : fX5_knock_l43 N (f + 1) st.1 (nI k) h = if lg_cmp st.1 0 < 0 then fX5_knock_l140 N (fX5_knock_l43 N f) 300000 (exL y l) (nI k) 0 h3 else if lg_cmp (exL y l) st.1 < 0 then fX5_knock_l140 N (fX5_knock_l43 N f) 300000 (exL y l) (nI k) 0 h3 else fX5_knock_l43 N f st.1 (nI (k + 1)) h3 := by
        have e1' : fX5_knock_l43 N (f + 1) st.1 (nI k) h = fX5_knock_l76 N (fX5_knock_l43 N f) 300000 st.1 (nI k) (nI 0) h2 := by
          have hfa := qm_fac (h := h) Z.1.f (show y.1 8 ≤ 6 by omega)
          have hf2' := Z2.1.f
          obtain ⟨S, e1, D, lE, K⟩ := id Z
          obtain ⟨hz, hfu0, o0, o1, r0_5, o2, r0_17, o3, r0_18, o4, r0_22, o5, r0_23, o6, r0_26, o7, r0_28, o8, r0_29, o9, r0_30, o10, r0_31, o11, r0_32, o12, r0_35, o13, r0_36, o14, r0_38, o15, r0_39, o16, r0_40, o17, r0_41, o18, r0_43, o19, r0_44, o20, r0_45⟩ := id S
          obtain ⟨dlo, do0, dv0, dv1, dn2, dn3, dn4, dn5, dn6, dn7, dn8, dn9, dr11, da11, dv11, dr12, da12, dv12, dr13, da13, dv13, dr14, da14, dv14, dr15, da15, dv15, dr16, da16, dv16, dr17, da17, dv17, dr18, da18, dv18, dr19, da19, dv19, dr20, da20, dv20, dr21, da21, dv21, dr22, da22, dv22, dr23, da23, dv23, dr24, da24, dv24, dr25, da25, dv25, dr26, da26, dv26, dr27, da27, dv27, dr28, da28, dv28, dr29, da29, dv29, dr30, da30, dv30, dr31, da31, dv31, dr32, da32, dv32, dr33, da33, dv33⟩ := id D
          obtain ⟨yc2, yc3, yc4, yc5, yc6, yc7, yc8, yc9, yyk, yyd, yyf, yyh, yyc, yyl, yyp, yyhot, yyby⟩ := id K
          simp only [fX5_knock_l43, g4_3 o0, e1, bdS, b2S, bxL, bxR, onN, onS, g13_8 do0, dn8, hfa, nI_ge (show k < fac (y.1 8) by omega) (by omega), if_false, u1, a1, hf2', nI_0]
        rw [e1', b1]
        obtain ⟨S, e1, D, lE, K⟩ := id Z3
        obtain ⟨hz, hfu0, o0, o1, r0_5, o2, r0_17, o3, r0_18, o4, r0_22, o5, r0_23, o6, r0_26, o7, r0_28, o8, r0_29, o9, r0_30, o10, r0_31, o11, r0_32, o12, r0_35, o13, r0_36, o14, r0_38, o15, r0_39, o16, r0_40, o17, r0_41, o18, r0_43, o19, r0_44, o20, r0_45⟩ := id S
        obtain ⟨dlo, do0, dv0, dv1, dn2, dn3, dn4, dn5, dn6, dn7, dn8, dn9, dr11, da11, dv11, dr12, da12, dv12, dr13, da13, dv13, dr14, da14, dv14, dr15, da15, dv15, dr16, da16, dv16, dr17, da17, dv17, dr18, da18, dv18, dr19, da19, dv19, dr20, da20, dv20, dr21, da21, dv21, dr22, da22, dv22, dr23, da23, dv23, dr24, da24, dv24, dr25, da25, dv25, dr26, da26, dv26, dr27, da27, dv27, dr28, da28, dv28, dr29, da29, dv29, dr30, da30, dv30, dr31, da31, dv31, dr32, da32, dv32, dr33, da33, dv33⟩ := id D
        obtain ⟨yc2, yc3, yc4, yc5, yc6, yc7, yc8, yc9, yyk, yyd, yyf, yyh, yyc, yyl, yyp, yyhot, yyby⟩ := id K
        simp only [fX5_knock_l76, g4_3 o0, e1, bdS, b2S, bxL, bxR, onN, onS, g13_8 do0, dn8, Int32.le_refl, if_true, g4_35 o0, r0_35, hex, hfu0, nI_1, exL]
        rfl
      have take : ∃ h', fX5_knock_l140 N (fX5_knock_l43 N f) 300000 (exL y l) (nI k) 0 h3 = some ((((pmF (y.1 8) (els (2 ^ y.1 8 - 1))).drop (k + 1)).foldl (knS y) (exL y l, l)).1, rf (sI h' N 34 (nI (y.1 8))) N 0) ∧ Fw N (Akm N) (Aq 20) h3 h' ∧ KS h' h0 N (y.1 8) (((pmF (y.1 8) (els (2 ^ y.1 8 - 1))).drop (k + 1)).foldl (knS y) (exL y l, l)) := by
        obtain ⟨h4, c1, c2, c3, c4⟩ := qm_cpB (K43 := fX5_knock_l43 N f) (l1 := exL y l) (l3 := nI k) (y.1 8) 0 300000 h3 Z3 (fun i hi => absurd hi (Nat.not_lt_zero i)) (by omega) (by omega)
        have c2' : Fw N (Akm N) (Aq 20) h3 h4 := c2.wide (fun q a => Or.inr (Or.inr a)) (fun k a => a.elim)
        have Z4 := Z3.fw c2' (fun q a => by simp only [Akm] at a; omega)
        obtain ⟨h', d1, d2, d3⟩ := ih (k + 1) f (exL y l, l) h4 Z4 ⟨fun _ i hi => by rw [c3 i hi]; exact hC.2 i (by rw [m1]; exact hi), fun i hi => by rw [c4 i hi]; exact G3.2 i hi⟩ (by omega) (by omega)
        refine ⟨h', ?_, c2'.trans d2, d3⟩
        rw [nI_0, nI_1] at c1
        exact c1.trans d1
      rw [hdrop, List.foldl_cons, knS]
      by_cases c1 : st.1 < 0
      · rw [if_pos ((kn_lt _ _).mpr c1)] at hup
        rw [if_pos c1]
        obtain ⟨h', d1, d2, d3⟩ := take
        exact ⟨h', hup.trans d1, (a2'.trans b2').trans d2, d3⟩
      · rw [if_neg (fun z => c1 ((kn_lt _ _).mp z))] at hup
        rw [if_neg c1]
        by_cases c2 : exL y l < st.1
        · rw [if_pos ((kn_lt _ _).mpr c2)] at hup
          rw [if_pos c2]
          obtain ⟨h', d1, d2, d3⟩ := take
          exact ⟨h', hup.trans d1, (a2'.trans b2').trans d2, d3⟩
        · rw [if_neg (fun z => c2 ((kn_lt _ _).mp z))] at hup
          rw [if_neg c2]
          obtain ⟨h', d1, d2, d3⟩ := ih (k + 1) f st h3 Z3 G3 (by omega) (by omega)
          exact ⟨h', hup.trans d1, (a2'.trans b2').trans d2, d3⟩
theorem m_knock {N E : Nat} : MOpJ N E (fX5_knock N) (fun yo s => knockR yo s) := by
  intro h yo s R I
  obtain ⟨S, P, V, lE⟩ := id R
  obtain ⟨f1, S1, Q1⟩ := th_all S 0
  cases yo with
  | none =>
    obtain ⟨a1, a2⟩ := m_end R 1
    refine ⟨_, ?_, a1, a2⟩
    have P1 : gR (sI h N 0 0) N 3 = none := (P.kept f1.1 (fun q hq => f1.2 q (by omega)))
    simp only [fX5_knock, ab_ckq S.o, ab_pIq S.o S.1, bdS, b2S, bxL, bxR, onN, onS, g4_3 S1.o, P1, qm_refused S1]
    rfl
  | some y =>
    obtain ⟨d, e1, D, K⟩ := id P
    have Z := m_beg R e1 D
    have h8 := K.h8
    by_cases h0 : y.1 8 = 0
    · obtain ⟨a1, a2⟩ := m_end R 6
      simp only [knockR, h0, if_true]
      refine ⟨_, ?_, a1, a2⟩
      obtain ⟨wS, we1, wD, wlE, wK⟩ := id Z
      obtain ⟨whz, whfu0, wo0, wo1, wr0_5, wo2, wr0_17, wo3, wr0_18, wo4, wr0_22, wo5, wr0_23, wo6, wr0_26, wo7, wr0_28, wo8, wr0_29, wo9, wr0_30, wo10, wr0_31, wo11, wr0_32, wo12, wr0_35, wo13, wr0_36, wo14, wr0_38, wo15, wr0_39, wo16, wr0_40, wo17, wr0_41, wo18, wr0_43, wo19, wr0_44, wo20, wr0_45⟩ := id wS
      obtain ⟨wdlo, wdo0, wdv0, wdv1, wdn2, wdn3, wdn4, wdn5, wdn6, wdn7, wdn8, wdn9, wdr11, wda11, wdv11, wdr12, wda12, wdv12, wdr13, wda13, wdv13, wdr14, wda14, wdv14, wdr15, wda15, wdv15, wdr16, wda16, wdv16, wdr17, wda17, wdv17, wdr18, wda18, wdv18, wdr19, wda19, wdv19, wdr20, wda20, wdv20, wdr21, wda21, wdv21, wdr22, wda22, wdv22, wdr23, wda23, wdv23, wdr24, wda24, wdv24, wdr25, wda25, wdv25, wdr26, wda26, wdv26, wdr27, wda27, wdv27, wdr28, wda28, wdv28, wdr29, wda29, wdv29, wdr30, wda30, wdv30, wdr31, wda31, wdv31, wdr32, wda32, wdv32, wdr33, wda33, wdv33⟩ := id wD
      obtain ⟨wyc2, wyc3, wyc4, wyc5, wyc6, wyc7, wyc8, wyc9, wyyk, wyyd, wyyf, wyyh, wyyc, wyyl, wyyp, wyyhot, wyyby⟩ := id wK
      simp only [fX5_knock, ab_ckq S.o, ab_pIq S.o S.1, bdS, b2S, bxL, bxR, onN, onS, g4_3 S1.o, we1, g13_8 wdo0, wdn8, h0, if_pos nI_0, qm_refused S1, rf]
    · simp only [knockR, h0, if_false]
      obtain ⟨hf1, hf2⟩ := fac_le (y.1 8) (by omega)
      obtain ⟨h', q1, q2, q3⟩ := qm_knL (h0 := sI h N 0 0) (fac (y.1 8)) 0 300000 (-1, []) (sI h N 0 0) Z ⟨fun e => absurd e.symm h0, fun i _ => rfl⟩ (by omega) (by omega)
      rw [List.drop_zero] at q1 q3
      have q3 : KS h' (sI h N 0 0) N (y.1 8) (bkY y) := q3
      have q1 : fX5_knock_l43 N 300000 (-1) (nI 0) (sI h N 0 0) = some ((bkY y).1, rf (sI h' N 34 (nI (y.1 8))) N 0) := q1
      obtain ⟨b1, b2⟩ := bkY_ok (y := y) h8
      have Z1 := Z.fw q2 (fun q a => by simp only [Akm] at a; omega)
      have f4 : Fw N (Akm N) (Aq 34) h' (sI h' N 34 (nI (y.1 8))) := Fw.sI Z1.1.o rfl rfl
      have Z2 := Z1.fw f4 (fun q a => by simp only [Akm] at a; omega)
      have f9 : Fw N (Akm N) (fun k => k = 20 ∨ k = 34) (sI h N 0 0) (sI h' N 34 (nI (y.1 8))) := (q2.wide (fun q a => a) (fun k a => Or.inl a)).trans (f4.wide (fun q a => a) (fun k a => Or.inr a))
      obtain ⟨f5, S5, Q5, t5, w5⟩ := rf_all Z2.1 0
      refine ⟨_, ?_, (f1.trans (f9.fr (by omega) (fun q a => by simp only [Akm] at a; omega))).trans f5, ?_⟩
      · rw [nI_0] at q1
        obtain ⟨wS, we1, wD, wlE, wK⟩ := id Z
        obtain ⟨whz, whfu0, wo0, wo1, wr0_5, wo2, wr0_17, wo3, wr0_18, wo4, wr0_22, wo5, wr0_23, wo6, wr0_26, wo7, wr0_28, wo8, wr0_29, wo9, wr0_30, wo10, wr0_31, wo11, wr0_32, wo12, wr0_35, wo13, wr0_36, wo14, wr0_38, wo15, wr0_39, wo16, wr0_40, wo17, wr0_41, wo18, wr0_43, wo19, wr0_44, wo20, wr0_45⟩ := id wS
        obtain ⟨wdlo, wdo0, wdv0, wdv1, wdn2, wdn3, wdn4, wdn5, wdn6, wdn7, wdn8, wdn9, wdr11, wda11, wdv11, wdr12, wda12, wdv12, wdr13, wda13, wdv13, wdr14, wda14, wdv14, wdr15, wda15, wdv15, wdr16, wda16, wdv16, wdr17, wda17, wdv17, wdr18, wda18, wdv18, wdr19, wda19, wdv19, wdr20, wda20, wdv20, wdr21, wda21, wdv21, wdr22, wda22, wdv22, wdr23, wda23, wdv23, wdr24, wda24, wdv24, wdr25, wda25, wdv25, wdr26, wda26, wdv26, wdr27, wda27, wdv27, wdr28, wda28, wdv28, wdr29, wda29, wdv29, wdr30, wda30, wdv30, wdr31, wda31, wdv31, wdr32, wda32, wdv32, wdr33, wda33, wdv33⟩ := id wD
        obtain ⟨wyc2, wyc3, wyc4, wyc5, wyc6, wyc7, wyc8, wyc9, wyyk, wyyd, wyyf, wyyh, wyyc, wyyl, wyyp, wyyhot, wyyby⟩ := id wK
        simp only [fX5_knock, ab_ckq S.o, ab_pIq S.o S.1, bdS, b2S, bxL, bxR, onN, onS, g4_3 S1.o, we1, g13_8 wdo0, wdn8, nI_z (show y.1 8 < 2 ^ 31 by omega), h0, if_false, S1.f, q1]
      · obtain ⟨v1, v2, v3, v4, v5, v6, v7, v8, v9, v10, v11, v12, v13, v14, v15, v16, v17, v18, v19, v20, v21, v22⟩ := V.th S
        have gg : ∀ k, k = 6 ∨ k = 13 ∨ k = 19 ∨ k = 27 ∨ k = 33 ∨ k = 37 ∨ k = 42 → gI (rf (sI h' N 34 (nI (y.1 8))) N 0) N k = gI (sI h N 0 0) N k := fun k hk => (Q5.1 k (by omega)).trans (f9.2.2 k (by omega))
        have aa : ∀ j, (1 ≤ j ∧ j ≤ 3) ∨ j = 7 ∨ j = 11 ∨ j = 14 ∨ (16 ≤ j ∧ j ≤ 20) → aF (rf (sI h' N 34 (nI (y.1 8))) N 0) (N + j) = aF (sI h N 0 0) (N + j) := fun j hj => (Q5.2 j (by omega)).trans (f9.aF (by omega) (by simp only [Akm]; omega))
        have a13 : aF (rf (sI h' N 34 (nI (y.1 8))) N 0) (N + 13) = fun i => if i < y.1 8 then nI ((bkY y).2.getD i 0) else s.2 6 i := by
          rw [Q5.2 13 (by omega)]
          funext i
          rw [aF_sI]
          by_cases e : i < y.1 8
          · rw [if_pos e]; exact q3.1 b1 i e
          · rw [if_neg e, q3.2 i (by omega), v14]
        have g34 : gI (rf (sI h' N 34 (nI (y.1 8))) N 0) N 34 = nI (y.1 8) := by
          rw [Q5.1 34 (by omega), gI_sI Z1.1.o, if_pos ⟨rfl, rfl⟩]
        exact ⟨(gg 6 (by omega)).trans v1, t5, (gg 13 (by omega)).trans v3, w5, (gg 19 (by omega)).trans v5, (gg 27 (by omega)).trans v6, (gg 33 (by omega)).trans v7, g34, (gg 37 (by omega)).trans v9, (gg 42 (by omega)).trans v10, (aa 1 (by omega)).trans v11, (aa 7 (by omega)).trans v12, (aa 11 (by omega)).trans v13, a13, (aa 14 (by omega)).trans v15, (aa 16 (by omega)).trans v16, (aa 17 (by omega)).trans v17, (aa 18 (by omega)).trans v18, (aa 19 (by omega)).trans v19, (aa 20 (by omega)).trans v20, fun c hc => by rw [aa 2 (by omega)]; exact v21 c hc, fun c hc k hk => by rw [aa 3 (by omega)]; exact v22 c hc k hk⟩
theorem qm_atL {N E d : Nat} {y : Dy} : ∀ (j k f : Nat) (h : Hp), MD h N E d y → (∀ i, i < k → aF h (N + 12) i = nI i) → k + j = y.1 8 → j < f → ∃ h', fX5_asTold_l39 N f (nI k) h = some (exL y (List.range (y.1 8)), rf h' N 0) ∧ Fw N (Aq (N + 12)) B0 h h' := by
  intro j
  induction j with
  | zero =>
    intro k f h Z L hk hf
    cases f with
    | zero => omega
    | succ f =>
      have h8 := Z.2.2.2.2.h8
      have hd := qm_done Z.1 0
      obtain ⟨f5, S5, Q5, t5, w5⟩ := rf_all Z.1 0
      have Z5 := Z.kept f5
      have hC : CL (rf h N 0) (N + 12) (List.range (y.1 8)) := by
        refine ⟨?_, fun j hj => ?_⟩
        · have hS := Z5.1
          obtain ⟨hz, hfu0, o0, o1, r0_5, o2, r0_17, o3, r0_18, o4, r0_22, o5, r0_23, o6, r0_26, o7, r0_28, o8, r0_29, o9, r0_30, o10, r0_31, o11, r0_32, o12, r0_35, o13, r0_36, o14, r0_38, o15, r0_39, o16, r0_40, o17, r0_41, o18, r0_43, o19, r0_44, o20, r0_45⟩ := id hS
          exact o12
        · rw [List.length_range] at hj
          unfold rf
          rw [aF_sI, aF_sI, L j (by omega), List.getD_eq_getElem?_getD, List.getElem?_range hj]
          rfl
      have hex := qm_expected Z5 hC List.length_range (fun x hx => List.mem_range.mp hx)
      refine ⟨h, ?_, Fw.rf⟩
      have hd : fX5_done N 0 h = some (0, rf h N 0) := hd
      have hS5 := Z5.1
      obtain ⟨whz, whfu0, wo0, wo1, wr0_5, wo2, wr0_17, wo3, wr0_18, wo4, wr0_22, wo5, wr0_23, wo6, wr0_26, wo7, wr0_28, wo8, wr0_29, wo9, wr0_30, wo10, wr0_31, wo11, wr0_32, wo12, wr0_35, wo13, wr0_36, wo14, wr0_38, wo15, wr0_39, wo16, wr0_40, wo17, wr0_41, wo18, wr0_43, wo19, wr0_44, wo20, wr0_45⟩ := id hS5
      obtain ⟨S, e1, D, lE, K⟩ := id Z
      obtain ⟨hz, hfu0, o0, o1, r0_5, o2, r0_17, o3, r0_18, o4, r0_22, o5, r0_23, o6, r0_26, o7, r0_28, o8, r0_29, o9, r0_30, o10, r0_31, o11, r0_32, o12, r0_35, o13, r0_36, o14, r0_38, o15, r0_39, o16, r0_40, o17, r0_41, o18, r0_43, o19, r0_44, o20, r0_45⟩ := id S
      obtain ⟨dlo, do0, dv0, dv1, dn2, dn3, dn4, dn5, dn6, dn7, dn8, dn9, dr11, da11, dv11, dr12, da12, dv12, dr13, da13, dv13, dr14, da14, dv14, dr15, da15, dv15, dr16, da16, dv16, dr17, da17, dv17, dr18, da18, dv18, dr19, da19, dv19, dr20, da20, dv20, dr21, da21, dv21, dr22, da22, dv22, dr23, da23, dv23, dr24, da24, dv24, dr25, da25, dv25, dr26, da26, dv26, dr27, da27, dv27, dr28, da28, dv28, dr29, da29, dv29, dr30, da30, dv30, dr31, da31, dv31, dr32, da32, dv32, dr33, da33, dv33⟩ := id D
      obtain ⟨yc2, yc3, yc4, yc5, yc6, yc7, yc8, yc9, yyk, yyd, yyf, yyh, yyc, yyl, yyp, yyhot, yyby⟩ := id K
      simp only [fX5_asTold_l39, g4_3 o0, e1, bdS, b2S, bxL, bxR, onN, onS, g13_8 do0, dn8, nI_le (show y.1 8 ≤ k by omega) (by omega), if_true, hd, g4_35 wo0, wr0_35, hex, exL]
  | succ j ih =>
    intro k f h Z L hk hf
    cases f with
    | zero => omega
    | succ f =>
      have h8 := Z.2.2.2.2.h8
      have f1 : Fw N (Aq (N + 12)) B0 h (sA h (N + 12) k (nI k)) := Fw.sA rfl
      have Z1 := Z.fw f1 (fun q a => by simp only [Aq] at a; omega)
      have p12 : isA h (N + 12) 0 5 := by
        have hS := Z.1
        obtain ⟨hz, hfu0, o0, o1, r0_5, o2, r0_17, o3, r0_18, o4, r0_22, o5, r0_23, o6, r0_26, o7, r0_28, o8, r0_29, o9, r0_30, o10, r0_31, o11, r0_32, o12, r0_35, o13, r0_36, o14, r0_38, o15, r0_39, o16, r0_40, o17, r0_41, o18, r0_43, o19, r0_44, o20, r0_45⟩ := id hS
        exact o12
      obtain ⟨h', s1, s2⟩ := ih (k + 1) f _ Z1 (fun i hi => by
        rw [aF_sA p12, if_pos rfl, upd]
        by_cases e : i = k
        · rw [if_pos e, e]
        · rw [if_neg e]; exact L i (by omega)) (by omega) (by omega)
      refine ⟨h', ?_, f1.trans s2⟩
      rw [← s1]
      obtain ⟨S, e1, D, lE, K⟩ := id Z
      obtain ⟨hz, hfu0, o0, o1, r0_5, o2, r0_17, o3, r0_18, o4, r0_22, o5, r0_23, o6, r0_26, o7, r0_28, o8, r0_29, o9, r0_30, o10, r0_31, o11, r0_32, o12, r0_35, o13, r0_36, o14, r0_38, o15, r0_39, o16, r0_40, o17, r0_41, o18, r0_43, o19, r0_44, o20, r0_45⟩ := id S
      obtain ⟨dlo, do0, dv0, dv1, dn2, dn3, dn4, dn5, dn6, dn7, dn8, dn9, dr11, da11, dv11, dr12, da12, dv12, dr13, da13, dv13, dr14, da14, dv14, dr15, da15, dv15, dr16, da16, dv16, dr17, da17, dv17, dr18, da18, dv18, dr19, da19, dv19, dr20, da20, dv20, dr21, da21, dv21, dr22, da22, dv22, dr23, da23, dv23, dr24, da24, dv24, dr25, da25, dv25, dr26, da26, dv26, dr27, da27, dv27, dr28, da28, dv28, dr29, da29, dv29, dr30, da30, dv30, dr31, da31, dv31, dr32, da32, dv32, dr33, da33, dv33⟩ := id D
      obtain ⟨yc2, yc3, yc4, yc5, yc6, yc7, yc8, yc9, yyk, yyd, yyf, yyh, yyc, yyl, yyp, yyhot, yyby⟩ := id K
      simp only [fX5_asTold_l39, g4_3 o0, e1, bdS, b2S, bxL, bxR, onN, onS, g13_8 do0, dn8, nI_ge (show k < y.1 8 by omega) (by omega), if_false, g4_35 o0, r0_35, sIn o12 (show hfz h ≤ N + 12 by omega) (show k < 5 by omega), nI_1]
theorem m_asTold {N E : Nat} : MOpJ N E (fX5_asTold N) (fun yo s => asToldR yo s) := by
  intro h yo s R I
  obtain ⟨S, P, V, lE⟩ := id R
  obtain ⟨f1, S1, Q1⟩ := th_all S 0
  cases yo with
  | none =>
    obtain ⟨a1, a2⟩ := m_end R 1
    refine ⟨_, ?_, a1, a2⟩
    have P1 : gR (sI h N 0 0) N 3 = none := (P.kept f1.1 (fun q hq => f1.2 q (by omega)))
    simp only [fX5_asTold, ab_ckq S.o, ab_pIq S.o S.1, bdS, b2S, bxL, bxR, onN, onS, g4_3 S1.o, P1, qm_refused S1]
    rfl
  | some y =>
    obtain ⟨d, e1, D, K⟩ := id P
    have Z := m_beg R e1 D
    have h8 := K.h8
    by_cases h0 : y.1 8 = 0
    · obtain ⟨a1, a2⟩ := m_end R 6
      simp only [asToldR, h0, if_true]
      refine ⟨_, ?_, a1, a2⟩
      obtain ⟨wS, we1, wD, wlE, wK⟩ := id Z
      obtain ⟨whz, whfu0, wo0, wo1, wr0_5, wo2, wr0_17, wo3, wr0_18, wo4, wr0_22, wo5, wr0_23, wo6, wr0_26, wo7, wr0_28, wo8, wr0_29, wo9, wr0_30, wo10, wr0_31, wo11, wr0_32, wo12, wr0_35, wo13, wr0_36, wo14, wr0_38, wo15, wr0_39, wo16, wr0_40, wo17, wr0_41, wo18, wr0_43, wo19, wr0_44, wo20, wr0_45⟩ := id wS
      obtain ⟨wdlo, wdo0, wdv0, wdv1, wdn2, wdn3, wdn4, wdn5, wdn6, wdn7, wdn8, wdn9, wdr11, wda11, wdv11, wdr12, wda12, wdv12, wdr13, wda13, wdv13, wdr14, wda14, wdv14, wdr15, wda15, wdv15, wdr16, wda16, wdv16, wdr17, wda17, wdv17, wdr18, wda18, wdv18, wdr19, wda19, wdv19, wdr20, wda20, wdv20, wdr21, wda21, wdv21, wdr22, wda22, wdv22, wdr23, wda23, wdv23, wdr24, wda24, wdv24, wdr25, wda25, wdv25, wdr26, wda26, wdv26, wdr27, wda27, wdv27, wdr28, wda28, wdv28, wdr29, wda29, wdv29, wdr30, wda30, wdv30, wdr31, wda31, wdv31, wdr32, wda32, wdv32, wdr33, wda33, wdv33⟩ := id wD
      obtain ⟨wyc2, wyc3, wyc4, wyc5, wyc6, wyc7, wyc8, wyc9, wyyk, wyyd, wyyf, wyyh, wyyc, wyyl, wyyp, wyyhot, wyyby⟩ := id wK
      simp only [fX5_asTold, ab_ckq S.o, ab_pIq S.o S.1, bdS, b2S, bxL, bxR, onN, onS, g4_3 S1.o, we1, g13_8 wdo0, wdn8, h0, if_pos nI_0, qm_refused S1, rf]
    · simp only [asToldR, h0, if_false]
      obtain ⟨h', q1, q2⟩ := qm_atL (y.1 8) 0 300000 (sI h N 0 0) Z (fun i hi => absurd hi (Nat.not_lt_zero i)) (by omega) (by omega)
      obtain ⟨a1, a2⟩ := m_fin R q2 (fun q a => by simp only [Aq] at a; omega) (fun k a => a.elim) (fun k a => by simp only [Aq] at a; omega)
      refine ⟨_, ?_, a1, a2⟩
      rw [nI_0] at q1
      obtain ⟨wS, we1, wD, wlE, wK⟩ := id Z
      obtain ⟨whz, whfu0, wo0, wo1, wr0_5, wo2, wr0_17, wo3, wr0_18, wo4, wr0_22, wo5, wr0_23, wo6, wr0_26, wo7, wr0_28, wo8, wr0_29, wo9, wr0_30, wo10, wr0_31, wo11, wr0_32, wo12, wr0_35, wo13, wr0_36, wo14, wr0_38, wo15, wr0_39, wo16, wr0_40, wo17, wr0_41, wo18, wr0_43, wo19, wr0_44, wo20, wr0_45⟩ := id wS
      obtain ⟨wdlo, wdo0, wdv0, wdv1, wdn2, wdn3, wdn4, wdn5, wdn6, wdn7, wdn8, wdn9, wdr11, wda11, wdv11, wdr12, wda12, wdv12, wdr13, wda13, wdv13, wdr14, wda14, wdv14, wdr15, wda15, wdv15, wdr16, wda16, wdv16, wdr17, wda17, wdv17, wdr18, wda18, wdv18, wdr19, wda19, wdv19, wdr20, wda20, wdv20, wdr21, wda21, wdv21, wdr22, wda22, wdv22, wdr23, wda23, wdv23, wdr24, wda24, wdv24, wdr25, wda25, wdv25, wdr26, wda26, wdv26, wdr27, wda27, wdv27, wdr28, wda28, wdv28, wdr29, wda29, wdv29, wdr30, wda30, wdv30, wdr31, wda31, wdv31, wdr32, wda32, wdv32, wdr33, wda33, wdv33⟩ := id wD
      obtain ⟨wyc2, wyc3, wyc4, wyc5, wyc6, wyc7, wyc8, wyc9, wyyk, wyyd, wyyf, wyyh, wyyc, wyyl, wyyp, wyyhot, wyyby⟩ := id wK
      simp only [fX5_asTold, ab_ckq S.o, ab_pIq S.o S.1, bdS, b2S, bxL, bxR, onN, onS, g4_3 S1.o, we1, g13_8 wdo0, wdn8, nI_z (show y.1 8 < 2 ^ 31 by omega), h0, if_false, S1.f, q1]
