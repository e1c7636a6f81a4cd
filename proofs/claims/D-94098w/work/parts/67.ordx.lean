/-! the component's orders: the first strict best of all orders -/
theorem RL.same {h h1 : Hp} {r : Nat} {l : List Nat} (H : RL h r l) (e1 : gI h1 r 2 = gI h r 2) (e2 : aF h1 (r + 1) = aF h (r + 1)) : RL h1 r l :=
  ⟨e1.trans H.1, fun j hj => by rw [e2]; exact H.2.1 j hj, H.2.2⟩
theorem els_fil : ∀ s, s < 64 → ∀ k, k < 6 → (els s).filter (fun z => decide (k ≤ z)) = if k ∈ els s then k :: (els s).filter (fun z => decide (k + 1 ≤ z)) else (els s).filter (fun z => decide (k + 1 ≤ z)) := by decide +kernel
theorem els_wo2 : ∀ s, s < 64 → ∀ x, x < 6 → x ∈ els s → pc (s - 2 ^ x) + 1 = pc s := by decide +kernel
theorem fil_end {l : List Nat} {k : Nat} (h : ∀ x ∈ l, x < k) : l.filter (fun z => decide (k ≤ z)) = [] := by
  rw [List.filter_eq_nil_iff]
  intro a ha
  have := h a ha
  simp; omega
theorem fil_0 (l : List Nat) : l.filter (fun z => decide (0 ≤ z)) = l := by
  rw [List.filter_eq_self]
  intro a _
  simp
abbrev A6 (N : Nat) : Nat → Prop := fun q => N + 6 ≤ q ∧ q < N + 12
abbrev B11 : Nat → Prop := fun k => k = 11
theorem getD_app_l {l : List Nat} {k j : Nat} (hj : j < l.length) : (l ++ [k]).getD j 0 = l.getD j 0 := by
  rw [List.getD_eq_getElem?_getD, List.getD_eq_getElem?_getD, List.getElem?_append_left hj]
theorem getD_app_e {l : List Nat} {k : Nat} : (l ++ [k]).getD l.length 0 = k := by
  rw [List.getD_eq_getElem?_getD, List.getElem?_append_right (Nat.le_refl _)]
  simp
/-- one more house in the order tried -/
theorem OS.push {h : Hp} {N k : Nat} {pre : List Nat} {st : Int32 × List Nat} (S : SX h N) (o : OS h N pre st) (hk : k < 6) (hl : pre.length + 1 ≤ 6) : Fw N (A6 N) B11 h (sI (sA h (N + 7) pre.length (nI k)) (N + 6) 2 (nI (pre.length + 1))) ∧ OS (sI (sA h (N + 7) pre.length (nI k)) (N + 6) 2 (nI (pre.length + 1))) N (pre ++ [k]) st := by
  obtain ⟨⟨O1, O2, O3⟩, O4, O5⟩ := o
  obtain ⟨⟨-, -, R3, R4, R5, R6, R7⟩, ⟨-, -, T3, T4, T5, T6, T7⟩, -⟩ := id S.tried
  have f1 : Fw N (A6 N) B11 h (sA h (N + 7) pre.length (nI k)) := Fw.sA ⟨by omega, by omega⟩
  have R3' := f1.1.2.1 _ _ R3
  have f2 : Fw N (A6 N) B11 (sA h (N + 7) pre.length (nI k)) (sI (sA h (N + 7) pre.length (nI k)) (N + 6) 2 (nI (pre.length + 1))) := Fw.sIo R3' rfl ⟨by omega, by omega⟩ (by omega)
  refine ⟨f1.trans f2, ⟨by rw [gI_sI R3', if_pos ⟨rfl, rfl⟩, List.length_append]; rfl, fun j hj => ?_, by rw [List.length_append]; exact hl⟩, by rw [gI_sI R3', if_neg (by omega), gI_sA]; exact O4, ?_⟩
  · rw [aF_sI, aF_sA R6, if_pos rfl]
    rw [List.length_append] at hj
    have hj : j < pre.length + 1 := hj
    by_cases e : j = pre.length
    · subst e
      rw [getD_app_e]; simp [upd]
    · rw [getD_app_l (by omega)]
      simp only [upd, e, if_false]
      exact O2 j (by omega)
  · rcases O5 with O5 | O5
    · exact Or.inl O5
    · exact Or.inr (O5.same (by rw [gI_sI R3', if_neg (by omega), gI_sA]) (by rw [aF_sI, aF_sA R6, if_neg (by omega)]))
theorem OS.pop {h : Hp} {N k : Nat} {pre : List Nat} {st : Int32 × List Nat} (S : SX h N) (o : OS h N (pre ++ [k]) st) : gI h (N + 6) 2 = nI (pre.length + 1) ∧ Fw N (A6 N) B11 h (sI h (N + 6) 2 (nI pre.length)) ∧ OS (sI h (N + 6) 2 (nI pre.length)) N pre st := by
  obtain ⟨⟨O1, O2, O3⟩, O4, O5⟩ := o
  obtain ⟨⟨-, -, R3, R4, R5, R6, R7⟩, -⟩ := id S.tried
  have f2 : Fw N (A6 N) B11 h (sI h (N + 6) 2 (nI pre.length)) := Fw.sIo R3 rfl ⟨by omega, by omega⟩ (by omega)
  rw [List.length_append] at O1 O2 O3
  have O1 : gI h (N + 6) 2 = nI (pre.length + 1) := O1
  have O3 : pre.length + 1 ≤ 6 := O3
  refine ⟨O1, f2, ⟨by rw [gI_sI R3, if_pos ⟨rfl, rfl⟩], fun j hj => ?_, by omega⟩, by rw [gI_sI R3, if_neg (by omega)]; exact O4, ?_⟩
  · rw [aF_sI, O2 j (by show j < pre.length + 1; omega), getD_app_l hj]
  · rcases O5 with O5 | O5
    · exact Or.inl O5
    · exact Or.inr (O5.same (by rw [gI_sI R3, if_neg (by omega)]) aF_sI)
theorem XD.fw {h h1 : Hp} {N E d : Nat} {qa : Nat → Nat → Nat} {y : Dy} {A B : Nat → Prop} (Z : XD h N E d qa y) (f : Fw N A B h h1) (hA : ∀ q, A q → N ≤ q ∧ q < N + 41) : XD h1 N E d qa y := Z.kept (f.fr (by omega) hA)
theorem MD.fw {h h1 : Hp} {N E d : Nat} {y : Dy} {A B : Nat → Prop} (Z : MD h N E d y) (f : Fw N A B h h1) (hA : ∀ q, A q → N ≤ q ∧ q < N + 21) : MD h1 N E d y := Z.kept (f.fr (by omega) hA)
/-- the leaf -/
theorem qx_ordleaf {N E d : Nat} {qa : Nat → Nat → Nat} {y : Dy} {c : Nat} {h : Hp} {pre : List Nat} {st : Int32 × List Nat} (hc : c < y.1 6) (Z : XD h N E d qa y) (o : OS h N pre st) (hp : ∀ x ∈ pre, x < y.1 5) (n : Nat) : ∃ h', fX1_orders (n + 1) N (some (qa 4 c)) 0 h = some h' ∧ Fw N (A6 N) B11 h h' ∧ OS h' N pre (obS y c st pre) := by
  obtain ⟨T1, T2, T3, T4⟩ := id Z.1.tried
  have h5 := Z.2.2.2.2.h5
  have hp6 : ∀ z ∈ pre, z < 6 := fun z hz => by have := hp z hz; omega
  obtain ⟨h1, q1, q2, q3, q4, q5, q6, q7⟩ := qx_walks Z T1 hc 0 o.1 hp
  have fw1 : Fw N (A6 N) B11 h h1 := Fw.ofFr q2 (by omega) (fun q a b => ⟨by omega, by omega⟩)
  have Z1 := Z.fw fw1 (fun q a => by omega)
  obtain ⟨U1, U2, U3, U4⟩ := id Z1.1.tried
  have hw := qx_worth Z1 U1 hc q3 hp6 q4 q5
  have hg3 := Z.1.o
  have e11 : gI h1 N 11 = st.1 := (q2.gI (by omega) 11).trans o.2.1
  have o1 : st.1 = -1 ∨ RL h1 (N + 9) st.2 := by
    rcases o.2.2 with z | z
    · exact Or.inl z
    · exact Or.inr (z.same (q2.gI (by omega) 2) (q2.aF (by omega)))
  have hup : fX1_orders (n + 1) N (some (qa 4 c)) 0 h = if st.1 = -1 then fX1_orders_b39 N (fX1_orders n N) (wV y c pre) h1 else if wV y c pre < st.1 then fX1_orders_b39 N (fX1_orders n N) (wV y c pre) h1 else some h1 := by
    simp only [fX1_orders, ab_ckq Z.1.o, if_true, g0_9 Z.1.o, T3, g0_3 Z.1.o, Z.2.1, bdS, b2S, bxL, bxR, onN, onS, q1, hw, g0_11 Z1.1.o, e11]
  have h39 : ∃ h', fX1_orders_b39 N (fX1_orders n N) (wV y c pre) h1 = some h' ∧ Fw N (A6 N) B11 h1 h' ∧ OS h' N pre (wV y c pre, pre) := by
    have f2 : Fw N (A6 N) B11 h1 (sI h1 N 11 (wV y c pre)) := Fw.sI Z1.1.o rfl rfl
    have Z2 := Z1.fw f2 (fun q a => by omega)
    obtain ⟨W1, W2, W3, W4⟩ := id Z2.1.tried
    have hRL2 : RL (sI h1 N 11 (wV y c pre)) (N + 6) pre := q3.same (by rw [gI_sI Z1.1.o, if_neg (by omega)]) aF_sI
    obtain ⟨h', b1, b2, b3⟩ := qx_become W2 W1 Z2.1.1 hRL2 (by omega)
    refine ⟨h', ?_, f2.trans (Fw.ofFr b2 (by omega) (fun q a b => ⟨by omega, by omega⟩)), ⟨hRL2.same (b2.gI (by omega) 2) (b2.aF (by omega)), (b2.gI (by omega) 11).trans (by rw [gI_sI Z1.1.o, if_pos ⟨rfl, rfl⟩]), Or.inr b3⟩⟩
    simp only [fX1_orders_b39, ab_pIq Z1.1.o Z1.1.1, bdS, b2S, bxL, bxR, onN, onS, g0_10 Z2.1.o, W4, g0_9 Z2.1.o, W3, b1]
  by_cases h1' : st.1 = -1
  · obtain ⟨h', b1, b2, b3⟩ := h39
    refine ⟨h', by rw [hup, if_pos h1', b1], fw1.trans b2, ?_⟩
    rw [obS, if_pos h1']; exact b3
  · by_cases h2' : wV y c pre < st.1
    · obtain ⟨h', b1, b2, b3⟩ := h39
      refine ⟨h', by rw [hup, if_neg h1', if_pos h2', b1], fw1.trans b2, ?_⟩
      rw [obS, if_neg h1', if_pos h2']; exact b3
    · refine ⟨h1, by rw [hup, if_neg h1', if_neg h2'], fw1, ?_⟩
      rw [obS, if_neg h1', if_neg h2']
      exact ⟨q3, e11, o1⟩
theorem qx_ord {N E d : Nat} {qa : Nat → Nat → Nat} {y : Dy} {c : Nat} (hc : c < y.1 6) : ∀ (m n S : Nat) (pre : List Nat) (st : Int32 × List Nat) (h : Hp), XD h N E d qa y → OS h N pre st → S < 64 → pc S = m → pre.length + m ≤ 6 → (∀ x ∈ els S, x < y.1 5) → (∀ x ∈ pre, x < y.1 5) → m < n → ∃ h', fX1_orders n N (some (qa 4 c)) (nI S) h = some h' ∧ Fw N (A6 N) B11 h h' ∧ OS h' N pre ((pmF m (els S)).foldl (fun s l => obS y c s (pre ++ l)) st) := by
  intro m
  induction m with
  | zero =>
    intro n S pre st h Z o hS hpc hl hx hp hn
    cases n with
    | zero => omega
    | succ n =>
      have h0 := pc_0 S hS hpc
      subst h0
      obtain ⟨h', q1, q2, q3⟩ := qx_ordleaf hc Z o hp n
      refine ⟨h', by rw [nI_0]; exact q1, q2, ?_⟩
      simpa [pmF] using q3
  | succ m ih =>
    intro n S pre st h Z o hS hpc hl hx hp hn
    cases n with
    | zero => omega
    | succ n =>
      have h5 := Z.2.2.2.2.h5
      have loop : ∀ (j k f : Nat) (st : Int32 × List Nat) (h : Hp), XD h N E d qa y → OS h N pre st → k + j = y.1 5 → j < f → ∃ h', fX1_orders_l58 N (fX1_orders n N) f (some (qa 4 c)) (nI S) (nI k) h = some h' ∧ Fw N (A6 N) B11 h h' ∧ OS h' N pre ((((els S).filter (fun z => decide (k ≤ z))).flatMap (fun x => (pmF m ((els S).erase x)).map (x :: ·))).foldl (fun s l => obS y c s (pre ++ l)) st) := by
        intro j
        induction j with
        | zero =>
          intro k f st h Z o hk hf
          cases f with
          | zero => omega
          | succ f =>
            refine ⟨h, ?_, Fw.rf, ?_⟩
            · obtain ⟨S, e1, D, lE, K⟩ := id Z
              obtain ⟨hz, hfu0, o0, o1, r0_0, o2, r0_2, o3, r2_0, r2_1, o4, r2_2, o5, r0_8, o6, o7, o8, r6_0, r6_1, o9, o10, o11, r9_0, r9_1, o32, o33, o34, r32_0, r32_1, o35, o36, o37, r35_0, r35_1, o38, o39, o40, r38_0, r38_1, r0_9, r0_10, o12, r0_12, o13, r0_13, o14, r0_14, o15, r0_15, o16, r0_18, o17, r0_19, o18, r0_20, o19, r0_22, o20, r0_23, o21, r0_24, o22, r0_25, o23, r0_28, o24, r0_29, o25, r0_30, o26, r0_31, o27, r0_35, o28, r0_36, o29, r0_37, o30, r0_38, o31, r0_39, d5_0, d5_1, d5_2⟩ := id S
              obtain ⟨dlo, do0, dr0, da0, dr1, da1, dr2, da2, dr3, da3, dr4, da4, dr5, da5, dr6, da6, dr7, da7, dr8, da8, dn2, dn3, dn4, dn5, dn6, dn8, dn9, dn7, dv17, dv18, dvf, dt0, dt1, dt2, dt3, dt4, dt5, dt6⟩ := id D
              obtain ⟨yc2, yc3, yc4, yc5, yc6, yc7, yc8, yc9, yyk, yyd, yyf, yyh, yyc, yyl, yyp, yyhot, yyby⟩ := id K
              simp only [fX1_orders_l58, g0_3 o0, e1, bdS, b2S, bxL, bxR, onN, onS, g5_12 do0, dn5, nI_le (show y.1 5 ≤ k by omega) (by omega), if_true]
            · rw [fil_end (fun x hx' => by have := hx x hx'; omega)]
              exact o
        | succ j ihj =>
          intro k f st h Z o hk hf
          cases f with
          | zero => omega
          | succ f =>
            have hk6 : k < 6 := by omega
            rw [els_fil S hS k hk6]
            by_cases hm : k ∈ els S
            · rw [if_pos hm]
              obtain ⟨p1, p2⟩ := o.push Z.1 hk6 (by omega)
              have Z1 := Z.fw p1 (fun q a => by omega)
              obtain ⟨w1, w2, w3⟩ := els_wo S hS k hk6 hm
              have w4 := els_wo2 S hS k hk6 hm
              obtain ⟨h2, q1, q2, q3⟩ := ih n (S - 2 ^ k) (pre ++ [k]) st _ Z1 p2 (Nat.lt_of_le_of_lt (Nat.sub_le _ _) hS) (by omega) (by rw [List.length_append]; show pre.length + 1 + m ≤ 6; omega) (fun x hx' => hx x (by rw [w3] at hx'; exact List.mem_of_mem_erase hx')) (fun x hx' => by
                rcases List.mem_append.mp hx' with z | z
                · exact hp x z
                · rw [List.mem_singleton.mp z]; exact hx k hm) (by omega)
              have Z2 := Z1.fw q2 (fun q a => by omega)
              obtain ⟨r0, r1, r2⟩ := q3.pop Z2.1
              have Z3 := Z2.fw r1 (fun q a => by omega)
              obtain ⟨h', s1, s2, s3⟩ := ihj (k + 1) f _ _ Z3 r2 (by omega) (by omega)
              refine ⟨h', ?_, ((p1.trans q2).trans r1).trans s2, ?_⟩
              · obtain ⟨⟨-, -, R3, R4, R5, R6, R7⟩, -, T3, -⟩ := id Z.1.tried
                obtain ⟨⟨-, -, U3, U4, U5, U6, U7⟩, -, T3', -⟩ := id Z2.1.tried
                have hlie := qx_lies (nI S) k h
                rw [els_lie S hS k hk6] at hlie
                have f1 : Fw N (A6 N) B11 h (sA h (N + 7) pre.length (nI k)) := Fw.sA ⟨by omega, by omega⟩
                have Z4 := Z.fw f1 (fun q a => by omega)
                obtain ⟨⟨-, -, V3, V4, V5, V6, V7⟩, -, T3'', -⟩ := id Z4.1.tried
                have hz := Z.1.1
                have hz4 := Z4.1.1
                have hz2 := Z2.1.1
                rw [← s1]
                obtain ⟨S, e1, D, lE, K⟩ := id Z
                obtain ⟨hz, hfu0, o0, o1, r0_0, o2, r0_2, o3, r2_0, r2_1, o4, r2_2, o5, r0_8, o6, o7, o8, r6_0, r6_1, o9, o10, o11, r9_0, r9_1, o32, o33, o34, r32_0, r32_1, o35, o36, o37, r35_0, r35_1, o38, o39, o40, r38_0, r38_1, r0_9, r0_10, o12, r0_12, o13, r0_13, o14, r0_14, o15, r0_15, o16, r0_18, o17, r0_19, o18, r0_20, o19, r0_22, o20, r0_23, o21, r0_24, o22, r0_25, o23, r0_28, o24, r0_29, o25, r0_30, o26, r0_31, o27, r0_35, o28, r0_36, o29, r0_37, o30, r0_38, o31, r0_39, d5_0, d5_1, d5_2⟩ := id S
                obtain ⟨dlo, do0, dr0, da0, dr1, da1, dr2, da2, dr3, da3, dr4, da4, dr5, da5, dr6, da6, dr7, da7, dr8, da8, dn2, dn3, dn4, dn5, dn6, dn8, dn9, dn7, dv17, dv18, dvf, dt0, dt1, dt2, dt3, dt4, dt5, dt6⟩ := id D
                obtain ⟨yc2, yc3, yc4, yc5, yc6, yc7, yc8, yc9, yyk, yyd, yyf, yyh, yyc, yyl, yyp, yyhot, yyby⟩ := id K
                simp only [fX1_orders_l58, g0_3 o0, e1, bdS, b2S, bxL, bxR, onN, onS, g5_12 do0, dn5, nI_ge (show k < y.1 5 by omega) (by omega), if_false, hlie, hm, decide_true, if_true, show ¬ ((1 : Int32) = 0) from by decide, g0_9 o0, T3, g3_0 R3, R4, g3_2 R3, o.1.1, sIn R6 (show hfz h ≤ N + 6 + 1 by omega) (show pre.length < 6 by omega), g0_9 Z4.1.o, T3'', g3_2 V3, gI_sA, nI_1, ab_pIq V3 (show hfz (sA h (N + 7) pre.length (nI k)) ≤ N + 6 by omega), w1, q1, g0_9 Z2.1.o, T3', g3_2 U3, r0, nI_pred, ab_pIq U3 (show hfz h2 ≤ N + 6 by omega)]
              · rw [List.flatMap_cons, List.foldl_append, List.foldl_map]
                have e : ∀ (L : List (List Nat)) (s : Int32 × List Nat), L.foldl (fun x y_1 => obS y c x (pre ++ k :: y_1)) s = L.foldl (fun s l => obS y c s (pre ++ [k] ++ l)) s := by
                  intro L s
                  congr 1
                  funext s l
                  simp
                rw [e, ← w3]
                exact s3
            · rw [if_neg hm]
              obtain ⟨h', s1, s2, s3⟩ := ihj (k + 1) f st h Z o (by omega) (by omega)
              refine ⟨h', ?_, s2, s3⟩
              have hlie := qx_lies (nI S) k h
              rw [els_lie S hS k hk6] at hlie
              obtain ⟨S, e1, D, lE, K⟩ := id Z
              obtain ⟨hz, hfu0, o0, o1, r0_0, o2, r0_2, o3, r2_0, r2_1, o4, r2_2, o5, r0_8, o6, o7, o8, r6_0, r6_1, o9, o10, o11, r9_0, r9_1, o32, o33, o34, r32_0, r32_1, o35, o36, o37, r35_0, r35_1, o38, o39, o40, r38_0, r38_1, r0_9, r0_10, o12, r0_12, o13, r0_13, o14, r0_14, o15, r0_15, o16, r0_18, o17, r0_19, o18, r0_20, o19, r0_22, o20, r0_23, o21, r0_24, o22, r0_25, o23, r0_28, o24, r0_29, o25, r0_30, o26, r0_31, o27, r0_35, o28, r0_36, o29, r0_37, o30, r0_38, o31, r0_39, d5_0, d5_1, d5_2⟩ := id S
              obtain ⟨dlo, do0, dr0, da0, dr1, da1, dr2, da2, dr3, da3, dr4, da4, dr5, da5, dr6, da6, dr7, da7, dr8, da8, dn2, dn3, dn4, dn5, dn6, dn8, dn9, dn7, dv17, dv18, dvf, dt0, dt1, dt2, dt3, dt4, dt5, dt6⟩ := id D
              obtain ⟨yc2, yc3, yc4, yc5, yc6, yc7, yc8, yc9, yyk, yyd, yyf, yyh, yyc, yyl, yyp, yyhot, yyby⟩ := id K
              simp only [fX1_orders_l58, g0_3 o0, e1, bdS, b2S, bxL, bxR, onN, onS, g5_12 do0, dn5, nI_ge (show k < y.1 5 by omega) (by omega), if_false, hlie, hm, decide_false, Bool.false_eq_true, if_true, nI_1]
              exact s1
      obtain ⟨h', s1, s2, s3⟩ := loop (y.1 5) 0 300000 st h Z o (by omega) (by omega)
      refine ⟨h', ?_, s2, ?_⟩
      · have hne : ¬ nI S = 0 := fun z => by
          rw [nI_z (by omega)] at z
          subst z
          have : pc 0 = 0 := rfl
          omega
        rw [nI_0] at s1
        simp only [fX1_orders, ab_ckq Z.1.o, hne, if_false, Z.1.f]
        exact s1
      · rw [fil_0] at s3
        exact s3
/-- the best of a set: worth, order -/
noncomputable def bst (y : Dy) (c S : Nat) : Int32 × List Nat := (pmF (pc S) (els S)).foldl (obS y c) (-1, [])
theorem RL.nil {h : Hp} {r : Nat} (e : gI h r 2 = 0) : RL h r [] := ⟨e, fun j hj => absurd hj (Nat.not_lt_zero j), Nat.zero_le _⟩
theorem qx_bestOf {N E d : Nat} {qa : Nat → Nat → Nat} {y : Dy} {c S : Nat} {h : Hp} (Z : XD h N E d qa y) (hc : c < y.1 6) (hS : S < 64) (hx : ∀ x ∈ els S, x < y.1 5) : ∃ h', fX1_bestOf N (nI c) (nI S) h = some ((bst y c S).1, h') ∧ Fw N (A6 N) B11 h h' ∧ OS h' N [] (bst y c S) := by
  obtain ⟨⟨-, -, R3, R4, R5, R6, R7⟩, -, T3, -⟩ := id Z.1.tried
  have f1 : Fw N (A6 N) B11 h (sI h (N + 6) 2 0) := Fw.sIo R3 rfl ⟨by omega, by omega⟩ (by omega)
  have Z1 := Z.fw f1 (fun q a => by omega)
  have f2 : Fw N (A6 N) B11 (sI h (N + 6) 2 0) (sI (sI h (N + 6) 2 0) N 11 (-1)) := Fw.sI Z1.1.o rfl rfl
  have Z2 := Z1.fw f2 (fun q a => by omega)
  have hr := Z1.1.o
  have o : OS (sI (sI h (N + 6) 2 0) N 11 (-1)) N [] (-1, []) := ⟨RL.nil (by rw [gI_sI Z1.1.o, if_neg (by omega), gI_sI R3, if_pos ⟨rfl, rfl⟩]), by rw [gI_sI Z1.1.o, if_pos ⟨rfl, rfl⟩], Or.inl rfl⟩
  have hp6 := pc_le S hS
  obtain ⟨h', q1, q2, q3⟩ := qx_ord hc (pc S) 10 S [] (-1, []) _ Z2 o hS rfl (by show 0 + pc S ≤ 6; omega) hx (fun x hx => absurd hx List.not_mem_nil) (by omega)
  have e : (pmF (pc S) (els S)).foldl (fun s l => obS y c s ([] ++ l)) (-1, []) = bst y c S := rfl
  rw [e] at q3
  have Z3 := Z2.fw q2 (fun q a => by omega)
  refine ⟨h', ?_, (f1.trans f2).trans q2, q3⟩
  have hz := Z.1.1
  have hc3 := Z.2.2.2.2.h6
  obtain ⟨S, e1, D, lE, K⟩ := id Z2
  obtain ⟨hz, hfu0, o0, o1, r0_0, o2, r0_2, o3, r2_0, r2_1, o4, r2_2, o5, r0_8, o6, o7, o8, r6_0, r6_1, o9, o10, o11, r9_0, r9_1, o32, o33, o34, r32_0, r32_1, o35, o36, o37, r35_0, r35_1, o38, o39, o40, r38_0, r38_1, r0_9, r0_10, o12, r0_12, o13, r0_13, o14, r0_14, o15, r0_15, o16, r0_18, o17, r0_19, o18, r0_20, o19, r0_22, o20, r0_23, o21, r0_24, o22, r0_25, o23, r0_28, o24, r0_29, o25, r0_30, o26, r0_31, o27, r0_35, o28, r0_36, o29, r0_37, o30, r0_38, o31, r0_39, d5_0, d5_1, d5_2⟩ := id S
  obtain ⟨dlo, do0, dr0, da0, dr1, da1, dr2, da2, dr3, da3, dr4, da4, dr5, da5, dr6, da6, dr7, da7, dr8, da8, dn2, dn3, dn4, dn5, dn6, dn8, dn9, dn7, dv17, dv18, dvf, dt0, dt1, dt2, dt3, dt4, dt5, dt6⟩ := id D
  obtain ⟨yc2, yc3, yc4, yc5, yc6, yc7, yc8, yc9, yyk, yyd, yyf, yyh, yyc, yyl, yyp, yyhot, yyby⟩ := id K
  obtain ⟨z1, z2, z3, z4⟩ := dt4 c hc
  simp only [fX1_bestOf, ab_ckq Z.1.o, g0_9 Z.1.o, T3, bdS, b2S, bxL, bxR, onN, onS, ab_pIq R3 (show hfz h ≤ N + 6 by omega), ab_pIq Z1.1.o Z1.1.1, g0_3 o0, e1, g5_4 do0, dr4, aRn da4 (show c < 3 by omega), z2, q1, g0_11 Z3.1.o, q3.2.1]
