theorem qx_walkL {N E d : Nat} {qa : Nat → Nat → Nat} {y : Dy} {r c : Nat} (hc : c < y.1 6) (tea : Int32) : ∀ (l : List Nat) (k n : Nat) (h : Hp) (m p : Int32), XD h N E d qa y → RO h N r → gI h r 2 = nI (k + l.length) → (∀ j, j < l.length → aF h (r + 1) (k + j) = nI (l.getD j 0)) → (∀ x ∈ l, x < y.1 5) → k + l.length ≤ 6 → l.length < n →
    ∃ h', fX4_walks_l23 r n (some d) (qa 4 c) tea m p (nI k) h = some (some r, h') ∧ Fr r (r + 3) h h' ∧ aF h' (r + 1) = aF h (r + 1) ∧ gI h' r 2 = gI h r 2 ∧ gI h' r 3 = wkB y c tea l m p (gI h r 3) ∧ (∀ j, j < l.length → aF h' (r + 2) (k + j) = (wkC y c tea l m p).getD j 0) ∧ ∀ j, j < k → aF h' (r + 2) j = aF h (r + 2) j := by
  intro l
  induction l with
  | nil =>
    intro k n h m p Z R hm ha hx hk hn
    cases n with
    | zero => simp at hn
    | succ n =>
      obtain ⟨R1, R2, R3, R4, R5, R6, R7⟩ := id R
      refine ⟨h, ?_, Fr.rf, rfl, rfl, rfl, fun j hj => by simp at hj, fun j _ => rfl⟩
      simp only [fX4_walks_l23, g3_2 R3, bdS, b2S, bxL, bxR, onN, onS, hm, List.length_nil, Nat.add_zero, Int32.le_refl, if_true]
  | cons x t ih =>
    intro k n h m p Z R hm ha hx hk hn
    have hL : (x :: t).length = t.length + 1 := rfl
    rw [hL] at hm hk hn
    cases n with
    | zero => omega
    | succ n =>
      have hx0 : x < y.1 5 := hx x List.mem_cons_self
      have ha0 : aF h (r + 1) k = nI x := ha 0 (by rw [hL]; omega)
      obtain ⟨R1, R2, R3, R4, R5, R6, R7⟩ := id R
      have hway := qx_way Z p (y.2 18 x)
      have hzr : hfz h ≤ r := by
        obtain ⟨⟨hz, -⟩, -⟩ := id Z
        omega
      have f1 : Fr r (r + 3) h (sA h (r + 2) k (m1V y m p x)) := Fr.sA (by omega) (by omega)
      have f1w := f1.wide R1 (show r + 3 ≤ N + 41 by omega)
      have Z1 := Z.kept f1w
      have R1' := R.kept f1.1
      have ha1 : aF (sA h (r + 2) k (m1V y m p x)) (r + 1) k = nI x := by rw [aF_sA R7, if_neg (by omega)]; exact ha0
      have hbad := qx_isBad Z1 hc (m1V y m p x)
      have hb := fun (K : Option Nat → Nat → Int32 → Int32 → Int32 → Int32 → Hp → Option ((Option Nat) × Hp)) (s0 s1 : Int32) => qx_b106 Z1 R1' hc hx0 (show k < 6 by omega) ha1 (K := K) (tea := tea) (m1 := m1V y m p x) (p := y.2 18 x) (s0 := s0) (s1 := s1)
      have R3' := R1'.2.2.1
      have f2 : Fr r (r + 3) (sA h (r + 2) k (m1V y m p x)) (sI (sA h (r + 2) k (m1V y m p x)) r 3 (gI h r 3 ||| badB y c (m1V y m p x) x)) := Fr.sI R3' rfl (by omega) (by omega)
      have f12 := f1.trans f2
      have Z2 := Z.kept (f12.wide R1 (show r + 3 ≤ N + 41 by omega))
      have R2' := R.kept f12.1
      have e2 : gI (sI (sA h (r + 2) k (m1V y m p x)) r 3 (gI h r 3 ||| badB y c (m1V y m p x) x)) r 2 = nI (k + 1 + t.length) := by
        rw [gI_sI R3', if_neg (by omega), gI_sA, hm]
        congr 1; omega
      have e3 : gI (sI (sA h (r + 2) k (m1V y m p x)) r 3 (gI h r 3 ||| badB y c (m1V y m p x) x)) r 3 = gI h r 3 ||| badB y c (m1V y m p x) x := by
        rw [gI_sI R3', if_pos ⟨rfl, rfl⟩]
      have e4 : aF (sI (sA h (r + 2) k (m1V y m p x)) r 3 (gI h r 3 ||| badB y c (m1V y m p x) x)) (r + 1) = aF h (r + 1) := by
        rw [aF_sI, aF_sA R7, if_neg (by omega)]
      have e5 : aF (sI (sA h (r + 2) k (m1V y m p x)) r 3 (gI h r 3 ||| badB y c (m1V y m p x) x)) (r + 2) = upd (aF h (r + 2)) k (m1V y m p x) := by
        rw [aF_sI, aF_sA R7, if_pos rfl]
      obtain ⟨h', q1, q2, q3, q4, q5, q6, q7⟩ := ih (k + 1) n _ (m2V y c tea (m1V y m p x) x) (y.2 18 x) Z2 R2' e2 (fun j hj => by rw [e4, show k + 1 + j = k + (j + 1) by omega]; exact ha (j + 1) (by rw [hL]; omega)) (fun z hz => hx z (List.mem_cons_of_mem _ hz)) (by omega) (by omega)
      refine ⟨h', ?_, f12.trans q2, q3.trans e4, q4.trans (by rw [gI_sI R3', if_neg (by omega), gI_sA]), ?_, ?_, ?_⟩
      · obtain ⟨S, e1, D, lE, K⟩ := id Z
        obtain ⟨hz, hfu0, o0, o1, r0_0, o2, r0_2, o3, r2_0, r2_1, o4, r2_2, o5, r0_8, o6, o7, o8, r6_0, r6_1, o9, o10, o11, r9_0, r9_1, o32, o33, o34, r32_0, r32_1, o35, o36, o37, r35_0, r35_1, o38, o39, o40, r38_0, r38_1, r0_9, r0_10, o12, r0_12, o13, r0_13, o14, r0_14, o15, r0_15, o16, r0_18, o17, r0_19, o18, r0_20, o19, r0_22, o20, r0_23, o21, r0_24, o22, r0_25, o23, r0_28, o24, r0_29, o25, r0_30, o26, r0_31, o27, r0_35, o28, r0_36, o29, r0_37, o30, r0_38, o31, r0_39, d5_0, d5_1, d5_2⟩ := id S
        obtain ⟨dlo, do0, dr0, da0, dr1, da1, dr2, da2, dr3, da3, dr4, da4, dr5, da5, dr6, da6, dr7, da7, dr8, da8, dn2, dn3, dn4, dn5, dn6, dn8, dn9, dn7, dv17, dv18, dvf, dt0, dt1, dt2, dt3, dt4, dt5, dt6⟩ := id D
        obtain ⟨yc2, yc3, yc4, yc5, yc6, yc7, yc8, yc9, yyk, yyd, yyf, yyh, yyc, yyl, yyp, yyhot, yyby⟩ := id K
        obtain ⟨wS, we1, wD, wlE, wK⟩ := id Z1
        obtain ⟨whz, whfu0, wo0, wo1, wr0_0, wo2, wr0_2, wo3, wr2_0, wr2_1, wo4, wr2_2, wo5, wr0_8, wo6, wo7, wo8, wr6_0, wr6_1, wo9, wo10, wo11, wr9_0, wr9_1, wo32, wo33, wo34, wr32_0, wr32_1, wo35, wo36, wo37, wr35_0, wr35_1, wo38, wo39, wo40, wr38_0, wr38_1, wr0_9, wr0_10, wo12, wr0_12, wo13, wr0_13, wo14, wr0_14, wo15, wr0_15, wo16, wr0_18, wo17, wr0_19, wo18, wr0_20, wo19, wr0_22, wo20, wr0_23, wo21, wr0_24, wo22, wr0_25, wo23, wr0_28, wo24, wr0_29, wo25, wr0_30, wo26, wr0_31, wo27, wr0_35, wo28, wr0_36, wo29, wr0_37, wo30, wr0_38, wo31, wr0_39, wd5_0, wd5_1, wd5_2⟩ := id wS
        obtain ⟨wdlo, wdo0, wdr0, wda0, wdr1, wda1, wdr2, wda2, wdr3, wda3, wdr4, wda4, wdr5, wda5, wdr6, wda6, wdr7, wda7, wdr8, wda8, wdn2, wdn3, wdn4, wdn5, wdn6, wdn8, wdn9, wdn7, wdv17, wdv18, wdvf, wdt0, wdt1, wdt2, wdt3, wdt4, wdt5, wdt6⟩ := id wD
        obtain ⟨wyc2, wyc3, wyc4, wyc5, wyc6, wyc7, wyc8, wyc9, wyyk, wyyd, wyyf, wyyh, wyyc, wyyl, wyyp, wyyhot, wyyby⟩ := id wK
        obtain ⟨z1, z2, z3, z4⟩ := dt3 x hx0
        obtain ⟨u1, u2, u3, u4⟩ := wdt3 x hx0
        have em : m + wayV y p (y.2 18 x) = m1V y m p x := rfl
        simp only [fX4_walks_l23, g3_2 R3, bdS, b2S, bxL, bxR, onN, onS, hm, nI_ge (show k < k + (t.length + 1) by omega) (by omega), if_false, g5_3 do0, dr3, g3_0 R3, R4, aIn R6 (show k < 6 by omega), ha0, aRn da3 (show x < 6 by omega), z2, g9_2 z3, z4, hway, em, g3_1 R3, R5, sIn R7 (by omega) (show k < 6 by omega)]
        simp only [g3_3 R3', gI_sA, hbad, bdS, b2S, bxL, bxR, onN, onS, g3_0 R3', R1'.2.2.2.1, aIn R1'.2.2.2.2.2.1 (show k < 6 by omega), ha1, hb]
        rw [← q1]
        unfold badB
        by_cases h1 : y.2 0 1 < m1V y m p x
        · simp only [h1, if_true]
          rfl
        · by_cases h2 : y.2 0 0 ≤ heatV y c (m1V y m p x)
          · simp only [h1, h2, if_true, if_false]
          · simp only [h1, h2, if_false]
            rfl
      · rw [q5, e3]
        rfl
      · intro j hj
        cases j with
        | zero =>
          rw [q7 (k + 0) (by omega), e5]
          simp [upd, wkC]
        | succ j =>
          have := q6 j (by rw [hL] at hj; omega)
          rw [show k + (j + 1) = k + 1 + j by omega, this]
          rfl
      · intro j hj
        rw [q7 j (by omega), e5]
        simp [upd, show j ≠ k by omega]
