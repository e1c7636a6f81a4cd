/-! the model's best order of a set -/
abbrev Ab (N : Nat) : Nat → Prop := fun q => N + 4 ≤ q ∧ q ≤ N + 6
abbrev Bb : Nat → Prop := fun k => k = 20 ∨ k = 21 ∨ k = 24 ∨ k = 25
theorem qm_copyL {N m : Nat} (hm : m ≤ 6) {K : Int32 → Int32 → Int32 → Int32 → Hp → Option Hp} {l1 l2 l3 l4 : Int32} : ∀ (j k n : Nat) (h : Hp), SM h N → gI h N 20 = nI m → k + j = m → j < n → (∀ i, i < k → aF h (N + 6) i = aF h (N + 4) i) → ∃ h', fX5_bests_l124 N K n l1 l2 l3 l4 (nI k) h = K l1 l2 l3 (l4 + 1) h' ∧ Fw N (Aq (N + 6)) B0 h h' ∧ ∀ i, i < m → aF h' (N + 6) i = aF h (N + 4) i := by
  intro j
  induction j with
  | zero =>
    intro k n h S e20 hk hn ha
    cases n with
    | zero => omega
    | succ n =>
      refine ⟨h, ?_, Fw.rf, fun i hi => ha i (by omega)⟩
      simp only [fX5_bests_l124, g4_20 S.o, e20, bdS, b2S, bxL, bxR, onN, onS, nI_le (show m ≤ k by omega) (by omega), if_true]
  | succ j ih =>
    intro k n h S e20 hk hn ha
    cases n with
    | zero => omega
    | succ n =>
      have fw : Fw N (Aq (N + 6)) B0 h (sA h (N + 6) k (aF h (N + 4) k)) := Fw.sA rfl
      have S1 := S.kept fw.1
      have hz := S.1
      obtain ⟨hz, hfu0, o0, o1, r0_5, o2, r0_17, o3, r0_18, o4, r0_22, o5, r0_23, o6, r0_26, o7, r0_28, o8, r0_29, o9, r0_30, o10, r0_31, o11, r0_32, o12, r0_35, o13, r0_36, o14, r0_38, o15, r0_39, o16, r0_40, o17, r0_41, o18, r0_43, o19, r0_44, o20, r0_45⟩ := id S
      have e4 : aF (sA h (N + 6) k (aF h (N + 4) k)) (N + 4) = aF h (N + 4) := by rw [aF_sA o6, if_neg (by omega)]
      obtain ⟨h', q1, q2, q3⟩ := ih (k + 1) n _ S1 (by rw [gI_sA]; exact e20) (by omega) (by omega) (fun i hi => by
        rw [aF_sA o6, if_pos rfl, e4]
        by_cases e : i = k
        · simp [upd, e]
        · simp only [upd, e, if_false]
          exact ha i (by omega))
      refine ⟨h', ?_, fw.trans q2, fun i hi => by rw [q3 i hi, e4]⟩
      simp only [fX5_bests_l124, g4_20 o0, e20, bdS, b2S, bxL, bxR, onN, onS, nI_ge (show k < m by omega) (by omega), if_false, g4_26 o0, r0_26, g4_22 o0, r0_22, aIn o4 (show k < 6 by omega), sIn o6 (show hfz h ≤ N + 6 by omega) (show k < 6 by omega), nI_1, q1]
/-- what the model's search stands on -/
def BS (h : Hp) (N : Nat) (y : Dy) (c : Nat) (st : Int32 × List Nat) : Prop := gI h N 24 = nI (pc (bN y c 0 st.2)) ∧ gI h N 25 = lastV y c st.2 ∧ (∀ j, j < st.2.length → aF h (N + 6) j = nI (st.2.getD j 0)) ∧ st.1 = wV y c st.2 ∧ st.2.length ≤ 6 ∧ ∀ x ∈ st.2, x < y.1 5
theorem wV_ne {y : Dy} {c : Nat} (K : Yk y) (hc : c < y.1 6) {l : List Nat} (hl : l.length ≤ 6) (hx : ∀ x ∈ l, x < y.1 5) : ¬ wV y c l = -1 := by
  obtain ⟨n, e1, e2, e3, e4⟩ := wV_rng K hc hl hx
  rw [e3]
  exact nI_m1ne (by omega)
theorem wV_lt {y : Dy} {c : Nat} (K : Yk y) (hc : c < y.1 6) {l l' : List Nat} (hl : l.length ≤ 6) (hx : ∀ x ∈ l, x < y.1 5) (hl' : l'.length ≤ 6) (hx' : ∀ x ∈ l', x < y.1 5) : wV y c l < wV y c l' ↔ nI (pc (bN y c 0 l)) < nI (pc (bN y c 0 l')) ∨ (nI (pc (bN y c 0 l)) = nI (pc (bN y c 0 l')) ∧ lastV y c l < lastV y c l') := by
  obtain ⟨n, e1, e2, e3, e4⟩ := wV_rng K hc hl hx
  obtain ⟨n', e1', e2', e3', e4'⟩ := wV_rng K hc hl' hx'
  rw [e3, e3', e1, e1', nI_ltI (by omega) (by omega), nI_ltI (by omega) (by omega), nI_ltI (by omega) (by omega), nI_eq (by omega) (by omega)]
  omega
theorem qm_bestsL {N E d : Nat} {y : Dy} {c S : Nat} (hc : c < y.1 6) (hS : S < 64) (hS0 : S ≠ 0) (hx : ∀ x ∈ els S, x < y.1 5) : ∀ (j k n : Nat) (st : Int32 × List Nat) (h : Hp), MD h N E d y → k + j = fac (pc S) → j < n → (k = 0 → st = (-1, [])) → (0 < k → BS h N y c st) → ∃ h', fX5_bests_l29 N n (nI c) (nI S) (nI (fac (pc S))) (nI k) h = some h' ∧ Fw N (Ab N) Bb h h' ∧ BS h' N y c (((pmF (pc S) (els S)).drop k).foldl (obS y c) st) := by
  have hp6 := pc_le S hS
  obtain ⟨hf1, hf2⟩ := fac_le (pc S) hp6
  have hlen := pmF_len (pc S) (els S) (els_len S hS)
  have hpc0 : pc S ≠ 0 := fun e => hS0 (pc_0 S hS e)
  intro j
  induction j with
  | zero =>
    intro k n st h Z hk hn h0 h1
    cases n with
    | zero => omega
    | succ n =>
      refine ⟨h, ?_, Fw.rf, ?_⟩
      · simp only [fX5_bests_l29, nI_le (show fac (pc S) ≤ k by omega) (by omega), if_true]
      · rw [List.drop_eq_nil_of_le (by omega)]
        exact h1 (by omega)
  | succ j ih =>
    intro k n st h Z hk hn h0 h1
    cases n with
    | zero => omega
    | succ n =>
      have hkl : k < (pmF (pc S) (els S)).length := by omega
      obtain ⟨h2, a1, a2, a3⟩ := qm_ordered Z.1 hS (show k < fac (pc S) by omega)
      obtain ⟨l, hl⟩ : ∃ l, l = (pmF (pc S) (els S)).getD k [] := ⟨_, rfl⟩
      have hdrop : (pmF (pc S) (els S)).drop k = l :: (pmF (pc S) (els S)).drop (k + 1) := by
        rw [List.drop_eq_getElem_cons hkl, hl, List.getD_eq_getElem?_getD, List.getElem?_eq_getElem hkl]
        rfl
      obtain ⟨m1, m2, m3⟩ := pmF_mem (pc S) (els S) (els_len S hS) (els_nd S) l (by rw [hl]; exact getD_mem hkl)
      have hlx : ∀ x ∈ l, x < y.1 5 := fun x h => hx x (m3 x h)
      rw [← hl] at a3
      have Z2 := Z.fw a2 (fun q a => by simp only [Aq] at a; omega)
      obtain ⟨h4, b1, b2, b3, b4, b5, b6, b7⟩ := qm_goes Z2 hc 0 a3 hlx
      have Z4 := Z2.kept b2
      have fw4 : Fw N (Ab N) Bb h h4 := (a2.wide (fun q z => by simp only [Aq] at z; simp only [Ab]; omega) (fun k z => Or.inl z)).trans ⟨b2.1, fun q h1 h2 => b3 q h1 (fun e => h2 (by simp only [Ab]; omega)), fun j hj => b4 j (fun e => hj (Or.inr (Or.inl e)))⟩
      obtain ⟨c1, c2⟩ := bN_ok (y := y) (c := c) (tea := 0) (l := l) (fun z hz => els_lt S hS z (m3 z hz))
      have hb := qm_bits Z4.1.f c1
      have hlast : aF h4 (N + 5) (pc S - 1) = lastV y c l := by
        rw [b7 _ (by omega), lastV, if_neg (by omega), m1]
      obtain ⟨p, hp⟩ : ∃ p, pc S = p + 1 := ⟨pc S - 1, by omega⟩
      rw [hp, Nat.add_sub_cancel] at hlast
      have e20 : gI h4 N 20 = nI (p + 1) := by rw [b5.1, m1, hp]
      -- taken
      have take : ∃ h', fX5_bests_b109 N (fX5_bests_l29 N n) (nI c) (nI S) (nI (fac (pc S))) (nI k) (nI (pc (bN y c 0 l))) (lastV y c l) h4 = some h' ∧ Fw N (Ab N) Bb h4 h' ∧ BS h' N y c (((pmF (pc S) (els S)).drop (k + 1)).foldl (obS y c) (wV y c l, l)) := by
        have f1 : Fw N (Ab N) Bb h4 (sI h4 N 24 (nI (pc (bN y c 0 l)))) := Fw.sI Z4.1.o rfl (Or.inr (Or.inr (Or.inl rfl)))
        have Y1 := Z4.fw f1 (fun q a => by simp only [Ab] at a; omega)
        have f2 : Fw N (Ab N) Bb (sI h4 N 24 (nI (pc (bN y c 0 l)))) (sI (sI h4 N 24 (nI (pc (bN y c 0 l)))) N 25 (lastV y c l)) := Fw.sI Y1.1.o rfl (Or.inr (Or.inr (Or.inr rfl)))
        have Y2 := Y1.fw f2 (fun q a => by simp only [Ab] at a; omega)
        obtain ⟨h6, d1, d2, d3⟩ := qm_copyL (N := N) (m := pc S) hp6 (K := fX5_bests_l29 N n) (l1 := nI c) (l2 := nI S) (l3 := nI (fac (pc S))) (l4 := nI k) (pc S) 0 300000 _ Y2.1 (by rw [gI_sI Y1.1.o, if_neg (by omega), gI_sI Z4.1.o, if_neg (by omega), b5.1, m1]) (by omega) (by omega) (fun i hi => absurd hi (Nat.not_lt_zero i))
        have Y3 := Y2.fw d2 (fun q a => by simp only [Aq] at a; omega)
        have hBS : BS h6 N y c (wV y c l, l) := by
          refine ⟨?_, ?_, fun i hi => ?_, rfl, by show l.length ≤ 6; omega, hlx⟩
          · rw [d2.2.2 24 (fun z => z), gI_sI Y1.1.o, if_neg (by omega), gI_sI Z4.1.o, if_pos ⟨rfl, rfl⟩]
          · rw [d2.2.2 25 (fun z => z), gI_sI Y1.1.o, if_pos ⟨rfl, rfl⟩]
          · rw [d3 i (by simp only at hi; omega), aF_sI, aF_sI]
            exact b5.2.1 i hi
        obtain ⟨h', g1, g2, g3⟩ := ih (k + 1) n (wV y c l, l) h6 Y3 (by omega) (by omega) (fun e => by omega) (fun _ => hBS)
        refine ⟨h', ?_, ((f1.trans f2).trans (d2.wide (fun q z => by simp only [Aq] at z; simp only [Ab]; omega) (fun _ z => z.elim))).trans g2, g3⟩
        rw [nI_0] at d1
        simp only [fX5_bests_b109, ab_pIq Z4.1.o Z4.1.1, bdS, b2S, bxL, bxR, onN, onS, ab_pIq Y1.1.o Y1.1.1, Y2.1.f, d1, nI_1, g1]
      have skip : ∀ st, BS h4 N y c st → ∃ h', fX5_bests_l29 N n (nI c) (nI S) (nI (fac (pc S))) (nI (k + 1)) h4 = some h' ∧ Fw N (Ab N) Bb h4 h' ∧ BS h' N y c (((pmF (pc S) (els S)).drop (k + 1)).foldl (obS y c) st) := fun st hst => ih (k + 1) n st h4 Z4 (by omega) (by omega) (fun e => by omega) (fun _ => hst)
      have hup : fX5_bests_l29 N (n + 1) (nI c) (nI S) (nI (fac (pc S))) (nI k) h = if nI k ≤ 0 then fX5_bests_b109 N (fX5_bests_l29 N n) (nI c) (nI S) (nI (fac (pc S))) (nI k) (nI (pc (bN y c 0 l))) (lastV y c l) h4 else if gI h4 N 24 < nI (pc (bN y c 0 l)) then fX5_bests_l29 N n (nI c) (nI S) (nI (fac (pc S))) (nI (k + 1)) h4 else if nI (pc (bN y c 0 l)) = gI h4 N 24 then if lastV y c l < gI h4 N 25 then fX5_bests_b109 N (fX5_bests_l29 N n) (nI c) (nI S) (nI (fac (pc S))) (nI k) (nI (pc (bN y c 0 l))) (lastV y c l) h4 else fX5_bests_l29 N n (nI c) (nI S) (nI (fac (pc S))) (nI (k + 1)) h4 else fX5_bests_b109 N (fX5_bests_l29 N n) (nI c) (nI S) (nI (fac (pc S))) (nI k) (nI (pc (bN y c 0 l))) (lastV y c l) h4 := by
        have hS0' : ¬ nI S = 0 := fun e => hS0 ((nI_z (by omega)).mp e)
        have hZ4 := Z4.1
        obtain ⟨hz, hfu0, o0, o1, r0_5, o2, r0_17, o3, r0_18, o4, r0_22, o5, r0_23, o6, r0_26, o7, r0_28, o8, r0_29, o9, r0_30, o10, r0_31, o11, r0_32, o12, r0_35, o13, r0_36, o14, r0_38, o15, r0_39, o16, r0_40, o17, r0_41, o18, r0_43, o19, r0_44, o20, r0_45⟩ := id hZ4
        simp only [fX5_bests_l29, nI_ge (show k < fac (pc S) by omega) (by omega), if_false, hS0', a1, bdS, b2S, bxL, bxR, onN, onS, b1, g4_21 o0, b6, c2, hb, g4_23 o0, r0_23, g4_20 o0, e20, nI_pred, aIn o5 (show p < 6 by omega), hlast, g4_24 o0, g4_25 o0, nI_1]
      rw [hdrop, List.foldl_cons]
      by_cases hk0 : k = 0
      · obtain ⟨h', g1, g2, g3⟩ := take
        have hle : nI k ≤ 0 := by rw [hk0]; decide +kernel
        rw [if_pos hle] at hup
        refine ⟨h', hup.trans g1, fw4.trans g2, ?_⟩
        rw [h0 hk0, obS, if_pos rfl]
        exact g3
      · have hle : ¬ nI k ≤ 0 := nI_nle (by omega) (by omega)
        rw [if_neg hle] at hup
        obtain ⟨s1, s2, s3, s4, s5, s6⟩ := h1 (by omega)
        have e24 : gI h4 N 24 = nI (pc (bN y c 0 st.2)) := by rw [b4 24 (by omega), a2.2.2 24 (by simp only [Aq]; omega), s1]
        have e25 : gI h4 N 25 = lastV y c st.2 := by rw [b4 25 (by omega), a2.2.2 25 (by simp only [Aq]; omega), s2]
        have hst : BS h4 N y c st := ⟨e24, e25, fun i hi => by rw [aF_of (b3 _ (by omega) (by omega)), a2.aF (by omega) (by simp only [Aq]; omega)]; exact s3 i hi, s4, s5, s6⟩
        have hne : ¬ st.1 = -1 := by rw [s4]; exact wV_ne Z.2.2.2.2 hc s5 s6
        have hlt := wV_lt (c := c) Z.2.2.2.2 hc (show l.length ≤ 6 by omega) hlx s5 s6
        rw [e24, e25] at hup
        rw [obS, if_neg hne, s4]
        have i1 : pc (bN y c 0 l) ≤ 6 := pc_le _ c1
        have i2 : pc (bN y c 0 st.2) ≤ 6 := by
          obtain ⟨n', -, -, -, e⟩ := wV_rng (c := c) Z.2.2.2.2 hc s5 s6
          exact e
        rw [nI_ltI (by omega) (by omega), nI_eq (by omega) (by omega)] at hlt
        simp only [nI_ltI (show pc (bN y c 0 st.2) < 2 ^ 31 by omega) (show pc (bN y c 0 l) < 2 ^ 31 by omega), nI_eq (show pc (bN y c 0 l) < 2 ^ 31 by omega) (show pc (bN y c 0 st.2) < 2 ^ 31 by omega)] at hup
        by_cases t1 : pc (bN y c 0 st.2) < pc (bN y c 0 l)
        · rw [if_pos t1] at hup
          rw [if_neg (fun z => by rcases hlt.mp z with z | z <;> omega)]
          obtain ⟨h', g1, g2, g3⟩ := skip st hst
          exact ⟨h', hup.trans g1, fw4.trans g2, g3⟩
        · rw [if_neg t1] at hup
          by_cases t2 : pc (bN y c 0 l) = pc (bN y c 0 st.2)
          · rw [if_pos t2] at hup
            by_cases t3 : lastV y c l < lastV y c st.2
            · rw [if_pos t3] at hup
              rw [if_pos (hlt.mpr (Or.inr ⟨t2, t3⟩))]
              obtain ⟨h', g1, g2, g3⟩ := take
              exact ⟨h', hup.trans g1, fw4.trans g2, g3⟩
            · rw [if_neg t3] at hup
              rw [if_neg (fun z => by rcases hlt.mp z with z | z; omega; exact t3 z.2)]
              obtain ⟨h', g1, g2, g3⟩ := skip st hst
              exact ⟨h', hup.trans g1, fw4.trans g2, g3⟩
          · rw [if_neg t2] at hup
            rw [if_pos (hlt.mpr (Or.inl (by omega)))]
            obtain ⟨h', g1, g2, g3⟩ := take
            exact ⟨h', hup.trans g1, fw4.trans g2, g3⟩
theorem bst_0 {y : Dy} {c : Nat} : bst y c 0 = (wV y c [], []) := by
  show List.foldl (obS y c) (-1, []) [[]] = _
  simp only [List.foldl_cons, List.foldl_nil, obS, if_true]
theorem bV_nil {y : Dy} {c : Nat} {tea : Int32} : bN y c tea [] = 0 := rfl
theorem qm_bests {N E d : Nat} {y : Dy} {c S : Nat} {h : Hp} (Z : MD h N E d y) (hc : c < y.1 6) (hS : S < 64) (hx : ∀ x ∈ els S, x < y.1 5) : ∃ h', fX5_bests N (nI c) (nI S) h = some h' ∧ Fw N (Ab N) Bb h h' ∧ BS h' N y c (bst y c S) := by
  have hp6 := pc_le S hS
  obtain ⟨hf1, hf2⟩ := fac_le (pc S) hp6
  have f1 : Fw N (Ab N) Bb h (sI h N 24 0) := Fw.sI Z.1.o rfl (Or.inr (Or.inr (Or.inl rfl)))
  have Y1 := Z.fw f1 (fun q a => by simp only [Ab] at a; omega)
  have f2 : Fw N (Ab N) Bb (sI h N 24 0) (sI (sI h N 24 0) N 25 (y.2 27 c)) := Fw.sI Y1.1.o rfl (Or.inr (Or.inr (Or.inr rfl)))
  have Y2 := Y1.fw f2 (fun q a => by simp only [Ab] at a; omega)
  have hup : fX5_bests N (nI c) (nI S) h = fX5_bests_l29 N 300000 (nI c) (nI S) (nI (fac (pc S))) (nI 0) (sI (sI h N 24 0) N 25 (y.2 27 c)) := by
    have hY1 := Y1
    have hc3 := Z.2.2.2.2.h6
    obtain ⟨S, e1, D, lE, K⟩ := id hY1
    obtain ⟨hz, hfu0, o0, o1, r0_5, o2, r0_17, o3, r0_18, o4, r0_22, o5, r0_23, o6, r0_26, o7, r0_28, o8, r0_29, o9, r0_30, o10, r0_31, o11, r0_32, o12, r0_35, o13, r0_36, o14, r0_38, o15, r0_39, o16, r0_40, o17, r0_41, o18, r0_43, o19, r0_44, o20, r0_45⟩ := id S
    obtain ⟨dlo, do0, dv0, dv1, dn2, dn3, dn4, dn5, dn6, dn7, dn8, dn9, dr11, da11, dv11, dr12, da12, dv12, dr13, da13, dv13, dr14, da14, dv14, dr15, da15, dv15, dr16, da16, dv16, dr17, da17, dv17, dr18, da18, dv18, dr19, da19, dv19, dr20, da20, dv20, dr21, da21, dv21, dr22, da22, dv22, dr23, da23, dv23, dr24, da24, dv24, dr25, da25, dv25, dr26, da26, dv26, dr27, da27, dv27, dr28, da28, dv28, dr29, da29, dv29, dr30, da30, dv30, dr31, da31, dv31, dr32, da32, dv32, dr33, da33, dv33⟩ := id D
    obtain ⟨yc2, yc3, yc4, yc5, yc6, yc7, yc8, yc9, yyk, yyd, yyf, yyh, yyc, yyl, yyp, yyhot, yyby⟩ := id K
    simp only [fX5_bests, ab_ckq Z.1.o, ab_pIq Z.1.o Z.1.1, bdS, b2S, bxL, bxR, onN, onS, g4_3 o0, e1, g13_27 do0, dr27, aIn da27 (show c < 3 by omega), dv27, ab_pIq Y1.1.o Y1.1.1, qm_bits Y2.1.f hS, qm_fac Y2.1.f hp6, Y2.1.f, nI_0]
  by_cases hS0 : S = 0
  · subst hS0
    refine ⟨_, ?_, f1.trans f2, ?_⟩
    · rw [hup]
      obtain ⟨f, hf⟩ : ∃ f, 300000 = f + 1 := ⟨299999, rfl⟩
      rw [hf]
      simp only [fX5_bests_l29, nI_0, if_true, ite_self]
    · rw [bst_0]
      refine ⟨by rw [gI_sI Y1.1.o, if_neg (by omega), gI_sI Z.1.o, if_pos ⟨rfl, rfl⟩]; show (0 : Int32) = nI (pc (bN y c 0 [])); rw [bV_nil]; decide +kernel, by rw [gI_sI Y1.1.o, if_pos ⟨rfl, rfl⟩]; rfl, fun j hj => absurd hj (Nat.not_lt_zero j), rfl, Nat.zero_le _, fun x hx => absurd hx List.not_mem_nil⟩
  · obtain ⟨h', g1, g2, g3⟩ := qm_bestsL hc hS hS0 hx (fac (pc S)) 0 300000 (-1, []) _ Y2 (by omega) (by omega) (fun _ => rfl) (fun z => by omega)
    refine ⟨h', hup.trans g1, (f1.trans f2).trans g2, ?_⟩
    rw [List.drop_zero] at g3
    exact g3
