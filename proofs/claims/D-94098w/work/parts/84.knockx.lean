/-! knock, asTold: the component -/
theorem Fw.sJ {N c : Nat} {A B : Nat → Prop} {h : Hp} {k : Nat} {v : Int64} (o : isO h N c) (hk : kd c k = 1) : Fw N A B h (sJ h N k v) :=
  ⟨Kp.sJ o hk, fun q h1 _ => sV_o h1, fun j _ => gI_sJ o hk⟩
noncomputable def exL (y : Dy) (l : List Nat) : Int64 := exF y l 1 0
noncomputable def knS (y : Dy) (st : Int64 × List Nat) (l : List Nat) : Int64 × List Nat := if st.1 < 0 then (exL y l, l) else if exL y l < st.1 then (exL y l, l) else st
noncomputable def bkY (y : Dy) : Int64 × List Nat := (pmF (y.1 8) (els (2 ^ y.1 8 - 1))).foldl (knS y) (-1, [])
theorem full5 : ∀ n, n ≤ 5 → ((1 : Int32) <<< (nI n &&& 31)) - 1 = nI (2 ^ n - 1) ∧ pc (2 ^ n - 1) = n ∧ 2 ^ n - 1 < 64 ∧ ((els (2 ^ n - 1)).all fun x => decide (x < n)) = true := by decide +kernel
theorem full5x {n : Nat} (hn : n ≤ 5) : ∀ x ∈ els (2 ^ n - 1), x < n := fun x hx => by
  have := List.all_eq_true.mp (full5 n hn).2.2.2 x hx
  simpa using this
theorem knS_in {y : Dy} : ∀ (L : List (List Nat)) (st : Int64 × List Nat), L.foldl (knS y) st = st ∨ ∃ l ∈ L, L.foldl (knS y) st = (exL y l, l) := by
  intro L
  induction L with
  | nil => intro st; exact Or.inl rfl
  | cons a t ih =>
    intro st
    rw [List.foldl_cons]
    have hs : knS y st a = st ∨ knS y st a = (exL y a, a) := by
      unfold knS
      split
      · exact Or.inr rfl
      · split
        · exact Or.inr rfl
        · exact Or.inl rfl
    rcases ih (knS y st a) with e | ⟨l, hl, e⟩
    · rcases hs with e2 | e2
      · exact Or.inl (e.trans e2)
      · exact Or.inr ⟨a, List.mem_cons_self, e.trans e2⟩
    · exact Or.inr ⟨l, List.mem_cons_of_mem _ hl, e⟩
theorem bkY_in {y : Dy} (h8 : y.1 8 ≤ 5) : ∃ l ∈ pmF (y.1 8) (els (2 ^ y.1 8 - 1)), bkY y = (exL y l, l) := by
  obtain ⟨f1, f2, f3, -⟩ := full5 (y.1 8) h8
  have hlen := pmF_len (y.1 8) (els (2 ^ y.1 8 - 1)) ((els_len _ f3).trans f2)
  have hf := (fac_le (y.1 8) (by omega)).2
  cases hL : pmF (y.1 8) (els (2 ^ y.1 8 - 1)) with
  | nil => rw [hL] at hlen; simp at hlen; omega
  | cons a t =>
    unfold bkY
    rw [hL, List.foldl_cons]
    have h1 : knS y (-1, []) a = (exL y a, a) := by rw [knS, if_pos (by decide)]
    rw [h1]
    rcases knS_in t (exL y a, a) with e | ⟨l, hl, e⟩
    · exact ⟨a, List.mem_cons_self, e⟩
    · exact ⟨l, List.mem_cons_of_mem _ hl, e⟩
theorem bkY_ok {y : Dy} (h8 : y.1 8 ≤ 5) : (bkY y).2.length = y.1 8 ∧ ∀ x ∈ (bkY y).2, x < y.1 8 := by
  obtain ⟨f1, f2, f3, -⟩ := full5 (y.1 8) h8
  obtain ⟨l, hl, e⟩ := bkY_in h8
  obtain ⟨m1, m2, m3⟩ := pmF_mem (y.1 8) _ ((els_len _ f3).trans f2) (els_nd _) l hl
  rw [e]
  exact ⟨m1, fun x hx => full5x h8 x (m3 x hx)⟩
abbrev Ak (N : Nat) : Nat → Prop := fun q => q = N + 20 ∨ q = N + 21
def LK (h : Hp) (N : Nat) (pre : List Nat) : Prop := ∀ j, j < pre.length → aF h (N + 20) j = nI (pre.getD j 0)
def OK (h : Hp) (N n : Nat) (st : Int64 × List Nat) : Prop := gJ h N 27 = st.1 ∧ (st.2.length = n → ∀ j, j < n → aF h (N + 21) j = nI (st.2.getD j 0))
theorem kn_lt (x z : Int64) : (lg_cmp x z < 0) ↔ (x < z) := lg_cmp_lt x z
theorem qx_knleaf {N E d : Nat} {qa : Nat → Nat → Nat} {y : Dy} {h : Hp} {l : List Nat} {st : Int64 × List Nat} (Z : XD h N E d qa y) (L : LK h N l) (hl : l.length = y.1 8) (hx : ∀ x ∈ l, x < y.1 8) (o : OK h N (y.1 8) st) (n : Nat) : ∃ h', fX1_knocks (n + 1) N (nI l.length) 0 h = some h' ∧ Fw N (Ak N) B0 h h' ∧ LK h' N l ∧ OK h' N (y.1 8) (knS y st l) := by
  have h8 := Z.2.2.2.2.h8
  have hC : CL h (N + 20) l := by
    refine ⟨?_, L⟩
    have hS := Z.1
    obtain ⟨hz, hfu0, o0, o1, r0_0, o2, r0_2, o3, r2_0, r2_1, o4, r2_2, o5, r0_8, o6, o7, o8, r6_0, r6_1, o9, o10, o11, r9_0, r9_1, o32, o33, o34, r32_0, r32_1, o35, o36, o37, r35_0, r35_1, o38, o39, o40, r38_0, r38_1, r0_9, r0_10, o12, r0_12, o13, r0_13, o14, r0_14, o15, r0_15, o16, r0_18, o17, r0_19, o18, r0_20, o19, r0_22, o20, r0_23, o21, r0_24, o22, r0_25, o23, r0_28, o24, r0_29, o25, r0_30, o26, r0_31, o27, r0_35, o28, r0_36, o29, r0_37, o30, r0_38, o31, r0_39, d5_0, d5_1, d5_2⟩ := id hS
    exact o20
  have hex := qx_expected Z hC hl hx
  have hup : fX1_knocks (n + 1) N (nI l.length) 0 h = if lg_cmp st.1 0 < 0 then fX1_knocks_b32 N (fX1_knocks n N) (nI l.length) (exL y l) h else if lg_cmp (exL y l) st.1 < 0 then fX1_knocks_b32 N (fX1_knocks n N) (nI l.length) (exL y l) h else some h := by
    have hS := Z.1
    obtain ⟨hz, hfu0, o0, o1, r0_0, o2, r0_2, o3, r2_0, r2_1, o4, r2_2, o5, r0_8, o6, o7, o8, r6_0, r6_1, o9, o10, o11, r9_0, r9_1, o32, o33, o34, r32_0, r32_1, o35, o36, o37, r35_0, r35_1, o38, o39, o40, r38_0, r38_1, r0_9, r0_10, o12, r0_12, o13, r0_13, o14, r0_14, o15, r0_15, o16, r0_18, o17, r0_19, o18, r0_20, o19, r0_22, o20, r0_23, o21, r0_24, o22, r0_25, o23, r0_28, o24, r0_29, o25, r0_30, o26, r0_31, o27, r0_35, o28, r0_36, o29, r0_37, o30, r0_38, o31, r0_39, d5_0, d5_1, d5_2⟩ := id hS
    simp only [fX1_knocks, ab_ckq o0, if_true, g0_23 o0, r0_23, bdS, b2S, bxL, bxR, onN, onS, hex, g0_27 o0, o.1, exL]
    rfl
  have take : ∃ h', fX1_knocks_b32 N (fX1_knocks n N) (nI l.length) (exL y l) h = some h' ∧ Fw N (Ak N) B0 h h' ∧ LK h' N l ∧ OK h' N (y.1 8) (exL y l, l) := by
    have f1 : Fw N (Ak N) B0 h (sJ h N 27 (exL y l)) := Fw.sJ Z.1.o rfl
    have Z1 := Z.fw f1 (fun q a => by simp only [Ak] at a; omega)
    have hz := Z1.1.1
    have hS1 := Z1.1
    obtain ⟨hz, hfu0, o0, o1, r0_0, o2, r0_2, o3, r2_0, r2_1, o4, r2_2, o5, r0_8, o6, o7, o8, r6_0, r6_1, o9, o10, o11, r9_0, r9_1, o32, o33, o34, r32_0, r32_1, o35, o36, o37, r35_0, r35_1, o38, o39, o40, r38_0, r38_1, r0_9, r0_10, o12, r0_12, o13, r0_13, o14, r0_14, o15, r0_15, o16, r0_18, o17, r0_19, o18, r0_20, o19, r0_22, o20, r0_23, o21, r0_24, o22, r0_25, o23, r0_28, o24, r0_29, o25, r0_30, o26, r0_31, o27, r0_35, o28, r0_36, o29, r0_37, o30, r0_38, o31, r0_39, d5_0, d5_1, d5_2⟩ := id hS1
    have hc := ab_cpyq o20 o21 (k := l.length) (by omega) (by omega) (by omega) (by omega) (by decide)
    have f2 : Fw N (Ak N) B0 (sJ h N 27 (exL y l)) (sF (sJ h N 27 (exL y l)) (N + 21) (va_cpy (aF (sJ h N 27 (exL y l)) (N + 20)) (aF (sJ h N 27 (exL y l)) (N + 21)) 0 0 l.length)) := Fw.sF (Or.inr rfl)
    refine ⟨_, ?_, f1.trans f2, fun j hj => ?_, ⟨?_, fun _ j hj => ?_⟩⟩
    · simp only [fX1_knocks_b32, ab_pJq Z.1.o Z.1.1, bdS, b2S, bxL, bxR, onN, onS, g0_23 o0, r0_23, g0_24 o0, r0_24, hc]
    · rw [aF_sF o21, if_neg (by omega), aF_sJ]; exact L j hj
    · rw [gJ_sF, gJ_sJ Z.1.o, if_pos ⟨rfl, rfl⟩]
    · rw [aF_sF o21, if_pos rfl, aF_sJ, va_cpy, if_pos (by omega), Nat.zero_add, Nat.sub_zero]
      exact L j (by omega)
  rw [knS]
  by_cases c1 : st.1 < 0
  · rw [if_pos ((kn_lt _ _).mpr c1)] at hup
    rw [if_pos c1]
    obtain ⟨h', b1, b2⟩ := take
    exact ⟨h', hup.trans b1, b2⟩
  · rw [if_neg (fun z => c1 ((kn_lt _ _).mp z))] at hup
    rw [if_neg c1]
    by_cases c2 : exL y l < st.1
    · rw [if_pos ((kn_lt _ _).mpr c2)] at hup
      rw [if_pos c2]
      obtain ⟨h', b1, b2⟩ := take
      exact ⟨h', hup.trans b1, b2⟩
    · rw [if_neg (fun z => c2 ((kn_lt _ _).mp z))] at hup
      rw [if_neg c2]
      exact ⟨h, hup, Fw.rf, L, o⟩
theorem qx_kn {N E d : Nat} {qa : Nat → Nat → Nat} {y : Dy} : ∀ (m n S : Nat) (pre : List Nat) (st : Int64 × List Nat) (h : Hp), XD h N E d qa y → LK h N pre → OK h N (y.1 8) st → S < 64 → pc S = m → pre.length + m = y.1 8 → (∀ x ∈ els S, x < y.1 8) → (∀ x ∈ pre, x < y.1 8) → m < n → ∃ h', fX1_knocks n N (nI pre.length) (nI S) h = some h' ∧ Fw N (Ak N) B0 h h' ∧ LK h' N pre ∧ OK h' N (y.1 8) ((pmF m (els S)).foldl (fun s l => knS y s (pre ++ l)) st) := by
  intro m
  induction m with
  | zero =>
    intro n S pre st h Z L o hS hpc hl hx hp hn
    cases n with
    | zero => omega
    | succ n =>
      have h0 := pc_0 S hS hpc
      subst h0
      obtain ⟨h', q1, q2, q3, q4⟩ := qx_knleaf Z L (by omega) hp o n
      refine ⟨h', by rw [nI_0]; exact q1, q2, q3, ?_⟩
      simpa [pmF] using q4
  | succ m ih =>
    intro n S pre st h Z L o hS hpc hl hx hp hn
    cases n with
    | zero => omega
    | succ n =>
      have h8 := Z.2.2.2.2.h8
      have loop : ∀ (j k f : Nat) (st : Int64 × List Nat) (h : Hp), XD h N E d qa y → LK h N pre → OK h N (y.1 8) st → k + j = y.1 8 → j < f → ∃ h', fX1_knocks_l54 N (fX1_knocks n N) f (nI pre.length) (nI S) (nI k) h = some h' ∧ Fw N (Ak N) B0 h h' ∧ LK h' N pre ∧ OK h' N (y.1 8) ((((els S).filter (fun z => decide (k ≤ z))).flatMap (fun x => (pmF m ((els S).erase x)).map (x :: ·))).foldl (fun s l => knS y s (pre ++ l)) st) := by
        intro j
        induction j with
        | zero =>
          intro k f st h Z L o hk hf
          cases f with
          | zero => omega
          | succ f =>
            refine ⟨h, ?_, Fw.rf, L, ?_⟩
            · obtain ⟨S, e1, D, lE, K⟩ := id Z
              obtain ⟨hz, hfu0, o0, o1, r0_0, o2, r0_2, o3, r2_0, r2_1, o4, r2_2, o5, r0_8, o6, o7, o8, r6_0, r6_1, o9, o10, o11, r9_0, r9_1, o32, o33, o34, r32_0, r32_1, o35, o36, o37, r35_0, r35_1, o38, o39, o40, r38_0, r38_1, r0_9, r0_10, o12, r0_12, o13, r0_13, o14, r0_14, o15, r0_15, o16, r0_18, o17, r0_19, o18, r0_20, o19, r0_22, o20, r0_23, o21, r0_24, o22, r0_25, o23, r0_28, o24, r0_29, o25, r0_30, o26, r0_31, o27, r0_35, o28, r0_36, o29, r0_37, o30, r0_38, o31, r0_39, d5_0, d5_1, d5_2⟩ := id S
              obtain ⟨dlo, do0, dr0, da0, dr1, da1, dr2, da2, dr3, da3, dr4, da4, dr5, da5, dr6, da6, dr7, da7, dr8, da8, dn2, dn3, dn4, dn5, dn6, dn8, dn9, dn7, dv17, dv18, dvf, dt0, dt1, dt2, dt3, dt4, dt5, dt6⟩ := id D
              obtain ⟨yc2, yc3, yc4, yc5, yc6, yc7, yc8, yc9, yyk, yyd, yyf, yyh, yyc, yyl, yyp, yyhot, yyby⟩ := id K
              simp only [fX1_knocks_l54, g0_3 o0, e1, bdS, b2S, bxL, bxR, onN, onS, g5_14 do0, dn8, nI_le (show y.1 8 ≤ k by omega) (by omega), if_true]
            · rw [fil_end (fun x hx' => by have := hx x hx'; omega)]
              exact o
        | succ j ihj =>
          intro k f st h Z L o hk hf
          cases f with
          | zero => omega
          | succ f =>
            have hk6 : k < 6 := by omega
            rw [els_fil S hS k hk6]
            have hlie := qx_lies (nI S) k h
            rw [els_lie S hS k hk6] at hlie
            by_cases hm : k ∈ els S
            · rw [if_pos hm]
              have f1 : Fw N (Ak N) B0 h (sA h (N + 20) pre.length (nI k)) := Fw.sA (Or.inl rfl)
              have Z1 := Z.fw f1 (fun q a => by simp only [Ak] at a; omega)
              have p20 : isA h (N + 20) 0 5 := by
                have hS := Z.1
                obtain ⟨hz, hfu0, o0, o1, r0_0, o2, r0_2, o3, r2_0, r2_1, o4, r2_2, o5, r0_8, o6, o7, o8, r6_0, r6_1, o9, o10, o11, r9_0, r9_1, o32, o33, o34, r32_0, r32_1, o35, o36, o37, r35_0, r35_1, o38, o39, o40, r38_0, r38_1, r0_9, r0_10, o12, r0_12, o13, r0_13, o14, r0_14, o15, r0_15, o16, r0_18, o17, r0_19, o18, r0_20, o19, r0_22, o20, r0_23, o21, r0_24, o22, r0_25, o23, r0_28, o24, r0_29, o25, r0_30, o26, r0_31, o27, r0_35, o28, r0_36, o29, r0_37, o30, r0_38, o31, r0_39, d5_0, d5_1, d5_2⟩ := id hS
                exact o20
              have L1 : LK (sA h (N + 20) pre.length (nI k)) N (pre ++ [k]) := fun j hj => by
                rw [aF_sA p20, if_pos rfl]
                rw [List.length_append] at hj
                have hj : j < pre.length + 1 := hj
                by_cases e : j = pre.length
                · subst e; rw [getD_app_e]; simp [upd]
                · rw [getD_app_l (by omega)]
                  simp only [upd, e, if_false]
                  exact L j (by omega)
              have o1 : OK (sA h (N + 20) pre.length (nI k)) N (y.1 8) st := ⟨by rw [gJ_sA]; exact o.1, fun e j hj => by rw [aF_sA p20, if_neg (by omega)]; exact o.2 e j hj⟩
              obtain ⟨w1, w2, w3⟩ := els_wo S hS k hk6 hm
              have w4 := els_wo2 S hS k hk6 hm
              obtain ⟨h2, q1, q2, q3, q4⟩ := ih n (S - 2 ^ k) (pre ++ [k]) st _ Z1 L1 o1 (Nat.lt_of_le_of_lt (Nat.sub_le _ _) hS) (by omega) (by rw [List.length_append]; show pre.length + 1 + m = _; omega) (fun x hx' => hx x (by rw [w3] at hx'; exact List.mem_of_mem_erase hx')) (fun x hx' => by
                rcases List.mem_append.mp hx' with z | z
                · exact hp x z
                · rw [List.mem_singleton.mp z]; exact hx k hm) (by omega)
              have Z2 := Z1.fw q2 (fun q a => by simp only [Ak] at a; omega)
              have L2 : LK h2 N pre := fun j hj => by rw [q3 j (by rw [List.length_append]; show j < pre.length + 1; omega), getD_app_l hj]
              obtain ⟨h', s1, s2, s3, s4⟩ := ihj (k + 1) f _ h2 Z2 L2 q4 (by omega) (by omega)
              refine ⟨h', ?_, (f1.trans q2).trans s2, s3, ?_⟩
              · rw [← s1]
                have hlen : (pre ++ [k]).length = pre.length + 1 := by rw [List.length_append]; rfl
                rw [hlen] at q1
                have hz := Z.1.1
                obtain ⟨S, e1, D, lE, K⟩ := id Z
                obtain ⟨hz, hfu0, o0, o1, r0_0, o2, r0_2, o3, r2_0, r2_1, o4, r2_2, o5, r0_8, o6, o7, o8, r6_0, r6_1, o9, o10, o11, r9_0, r9_1, o32, o33, o34, r32_0, r32_1, o35, o36, o37, r35_0, r35_1, o38, o39, o40, r38_0, r38_1, r0_9, r0_10, o12, r0_12, o13, r0_13, o14, r0_14, o15, r0_15, o16, r0_18, o17, r0_19, o18, r0_20, o19, r0_22, o20, r0_23, o21, r0_24, o22, r0_25, o23, r0_28, o24, r0_29, o25, r0_30, o26, r0_31, o27, r0_35, o28, r0_36, o29, r0_37, o30, r0_38, o31, r0_39, d5_0, d5_1, d5_2⟩ := id S
                obtain ⟨dlo, do0, dr0, da0, dr1, da1, dr2, da2, dr3, da3, dr4, da4, dr5, da5, dr6, da6, dr7, da7, dr8, da8, dn2, dn3, dn4, dn5, dn6, dn8, dn9, dn7, dv17, dv18, dvf, dt0, dt1, dt2, dt3, dt4, dt5, dt6⟩ := id D
                obtain ⟨yc2, yc3, yc4, yc5, yc6, yc7, yc8, yc9, yyk, yyd, yyf, yyh, yyc, yyl, yyp, yyhot, yyby⟩ := id K
                simp only [fX1_knocks_l54, g0_3 o0, e1, bdS, b2S, bxL, bxR, onN, onS, g5_14 do0, dn8, nI_ge (show k < y.1 8 by omega) (by omega), if_false, hlie, hm, decide_true, if_true, show ¬ ((1 : Int32) = 0) from by decide, g0_23 o0, r0_23, sIn o20 (show hfz h ≤ N + 20 by omega) (show pre.length < 5 by omega), nI_1, w1, q1]
              · rw [List.flatMap_cons, List.foldl_append, List.foldl_map]
                have e : ∀ (L : List (List Nat)) (s : Int64 × List Nat), L.foldl (fun x y_1 => knS y x (pre ++ k :: y_1)) s = L.foldl (fun s l => knS y s (pre ++ [k] ++ l)) s := by
                  intro L s
                  congr 1
                  funext s l
                  simp
                rw [e, ← w3]
                exact s4
            · rw [if_neg hm]
              obtain ⟨h', s1, s2, s3, s4⟩ := ihj (k + 1) f st h Z L o (by omega) (by omega)
              refine ⟨h', ?_, s2, s3, s4⟩
              obtain ⟨S, e1, D, lE, K⟩ := id Z
              obtain ⟨hz, hfu0, o0, o1, r0_0, o2, r0_2, o3, r2_0, r2_1, o4, r2_2, o5, r0_8, o6, o7, o8, r6_0, r6_1, o9, o10, o11, r9_0, r9_1, o32, o33, o34, r32_0, r32_1, o35, o36, o37, r35_0, r35_1, o38, o39, o40, r38_0, r38_1, r0_9, r0_10, o12, r0_12, o13, r0_13, o14, r0_14, o15, r0_15, o16, r0_18, o17, r0_19, o18, r0_20, o19, r0_22, o20, r0_23, o21, r0_24, o22, r0_25, o23, r0_28, o24, r0_29, o25, r0_30, o26, r0_31, o27, r0_35, o28, r0_36, o29, r0_37, o30, r0_38, o31, r0_39, d5_0, d5_1, d5_2⟩ := id S
              obtain ⟨dlo, do0, dr0, da0, dr1, da1, dr2, da2, dr3, da3, dr4, da4, dr5, da5, dr6, da6, dr7, da7, dr8, da8, dn2, dn3, dn4, dn5, dn6, dn8, dn9, dn7, dv17, dv18, dvf, dt0, dt1, dt2, dt3, dt4, dt5, dt6⟩ := id D
              obtain ⟨yc2, yc3, yc4, yc5, yc6, yc7, yc8, yc9, yyk, yyd, yyf, yyh, yyc, yyl, yyp, yyhot, yyby⟩ := id K
              simp only [fX1_knocks_l54, g0_3 o0, e1, bdS, b2S, bxL, bxR, onN, onS, g5_14 do0, dn8, nI_ge (show k < y.1 8 by omega) (by omega), if_false, hlie, hm, decide_false, Bool.false_eq_true, if_true, nI_1]
              exact s1
      obtain ⟨h', s1, s2, s3, s4⟩ := loop (y.1 8) 0 300000 st h Z L o (by omega) (by omega)
      refine ⟨h', ?_, s2, s3, ?_⟩
      · have hne : ¬ nI S = 0 := fun z => by
          rw [nI_z (by omega)] at z
          subst z
          have : pc 0 = 0 := rfl
          omega
        rw [nI_0] at s1
        simp only [fX1_knocks, ab_ckq Z.1.o, hne, if_false, Z.1.f]
        exact s1
      · rw [fil_0] at s4
        exact s4
def setK (s : St) (n : Nat) (l : List Nat) : St := (s.1, fun j => if j = 0 then upd (s.2 0) 7 (nI n) else if j = 6 then fun i => if i < n then nI (l.getD i 0) else s.2 6 i else s.2 j)
noncomputable def knockR (yo : Option Dy) (s : St) : Int64 × St := match yo with
  | none => ((-1 : Int32).toInt64, fin s 1)
  | some y => if y.1 8 = 0 then ((-1 : Int32).toInt64, fin s 6) else ((bkY y).1, setK (fin s 0) (y.1 8) (bkY y).2)
noncomputable def asToldR (yo : Option Dy) (s : St) : Int64 × St := match yo with
  | none => ((-1 : Int32).toInt64, fin s 1)
  | some y => if y.1 8 = 0 then ((-1 : Int32).toInt64, fin s 6) else (exL y (List.range (y.1 8)), fin s 0)
theorem x_knock {N E : Nat} : XOpJ N E (fX1_knock N) (fun yo s => knockR yo s) := by
  intro h yo s R I
  obtain ⟨S, P, V, lE⟩ := id R
  obtain ⟨f1, S1, Q1, t1⟩ := an_all S
  have han : fX1_anew N h = some (an h N) := qx_anew S
  cases yo with
  | none =>
    obtain ⟨a1, a2⟩ := xq_end R 1 (by decide)
    refine ⟨_, ?_, a1, a2⟩
    have P1 : gR (an h N) N 3 = none := (P.kept f1.1 (fun q hq => f1.2 q (by omega)))
    simp only [fX1_knock, fX1_knockWhy, ab_ckq S.o, ab_ckq S1.o, han, bdS, b2S, bxL, bxR, onN, onS, g0_3 S1.o, P1, show ¬ ((1 : Int32) = 0) from by decide, if_false, qx_no S1]
    rfl
  | some y =>
    obtain ⟨d, qa, e1, D, K⟩ := id P
    have Z := x_beg R e1 D
    have h8 := K.h8
    by_cases h0 : y.1 8 = 0
    · obtain ⟨a1, a2⟩ := xq_end R 6 (by decide)
      simp only [knockR, h0, if_true]
      refine ⟨_, ?_, a1, a2⟩
      obtain ⟨wS, we1, wD, wlE, wK⟩ := id Z
      obtain ⟨whz, whfu0, wo0, wo1, wr0_0, wo2, wr0_2, wo3, wr2_0, wr2_1, wo4, wr2_2, wo5, wr0_8, wo6, wo7, wo8, wr6_0, wr6_1, wo9, wo10, wo11, wr9_0, wr9_1, wo32, wo33, wo34, wr32_0, wr32_1, wo35, wo36, wo37, wr35_0, wr35_1, wo38, wo39, wo40, wr38_0, wr38_1, wr0_9, wr0_10, wo12, wr0_12, wo13, wr0_13, wo14, wr0_14, wo15, wr0_15, wo16, wr0_18, wo17, wr0_19, wo18, wr0_20, wo19, wr0_22, wo20, wr0_23, wo21, wr0_24, wo22, wr0_25, wo23, wr0_28, wo24, wr0_29, wo25, wr0_30, wo26, wr0_31, wo27, wr0_35, wo28, wr0_36, wo29, wr0_37, wo30, wr0_38, wo31, wr0_39, wd5_0, wd5_1, wd5_2⟩ := id wS
      obtain ⟨wdlo, wdo0, wdr0, wda0, wdr1, wda1, wdr2, wda2, wdr3, wda3, wdr4, wda4, wdr5, wda5, wdr6, wda6, wdr7, wda7, wdr8, wda8, wdn2, wdn3, wdn4, wdn5, wdn6, wdn8, wdn9, wdn7, wdv17, wdv18, wdvf, wdt0, wdt1, wdt2, wdt3, wdt4, wdt5, wdt6⟩ := id wD
      obtain ⟨wyc2, wyc3, wyc4, wyc5, wyc6, wyc7, wyc8, wyc9, wyyk, wyyd, wyyf, wyyh, wyyc, wyyl, wyyp, wyyhot, wyyby⟩ := id wK
      simp only [fX1_knock, fX1_knockWhy, ab_ckq S.o, ab_ckq S1.o, han, bdS, b2S, bxL, bxR, onN, onS, g0_3 S1.o, we1, g5_14 wdo0, wdn8, h0, if_pos nI_0, show ¬ ((6 : Int32) = 0) from by decide, if_false, qx_no S1]
    · simp only [knockR, h0, if_false]
      obtain ⟨u1, u2, u3, -⟩ := full5 (y.1 8) h8
      have f2 : Fw N (Ak N) B0 (an h N) (sJ (an h N) N 27 (-1)) := Fw.sJ S1.o rfl
      have Z2 := Z.fw f2 (fun q a => by simp only [Ak] at a; omega)
      obtain ⟨h3, q1, q2, q3, q4⟩ := qx_kn (y.1 8) 10 (2 ^ y.1 8 - 1) [] (-1, []) _ Z2 (fun j hj => absurd hj (Nat.not_lt_zero j)) ⟨by rw [gJ_sJ S1.o, if_pos ⟨rfl, rfl⟩], fun e => absurd e.symm h0⟩ u3 u2 (by show 0 + y.1 8 = _; omega) (full5x h8) (fun x hx => absurd hx List.not_mem_nil) (by omega)
      have e : (pmF (y.1 8) (els (2 ^ y.1 8 - 1))).foldl (fun s l => knS y s ([] ++ l)) (-1, []) = bkY y := rfl
      rw [e] at q4
      have q1 : fX1_knocks 10 N 0 (nI (2 ^ y.1 8 - 1)) (sJ (an h N) N 27 (-1)) = some h3 := by rw [← nI_0]; exact q1
      have Z3 := Z2.fw q2 (fun q a => by simp only [Ak] at a; omega)
      obtain ⟨b1, b2⟩ := bkY_ok (y := y) h8
      have hall := q4.2 b1
      have f4 : Fw N (Ak N) (Aq 26) h3 (sI h3 N 26 (nI (y.1 8))) := Fw.sI Z3.1.o rfl rfl
      have Z4 := Z3.fw f4 (fun q a => by simp only [Ak] at a; omega)
      have hz4 := Z4.1.1
      have hS4 := Z4.1
      obtain ⟨uhz, uhfu0, uo0, uo1, ur0_0, uo2, ur0_2, uo3, ur2_0, ur2_1, uo4, ur2_2, uo5, ur0_8, uo6, uo7, uo8, ur6_0, ur6_1, uo9, uo10, uo11, ur9_0, ur9_1, uo32, uo33, uo34, ur32_0, ur32_1, uo35, uo36, uo37, ur35_0, ur35_1, uo38, uo39, uo40, ur38_0, ur38_1, ur0_9, ur0_10, uo12, ur0_12, uo13, ur0_13, uo14, ur0_14, uo15, ur0_15, uo16, ur0_18, uo17, ur0_19, uo18, ur0_20, uo19, ur0_22, uo20, ur0_23, uo21, ur0_24, uo22, ur0_25, uo23, ur0_28, uo24, ur0_29, uo25, ur0_30, uo26, ur0_31, uo27, ur0_35, uo28, ur0_36, uo29, ur0_37, uo30, ur0_38, uo31, ur0_39, ud5_0, ud5_1, ud5_2⟩ := id hS4
      have hc := ab_cpyq uo21 uo22 (k := y.1 8) (by omega) (by omega) (by omega) (by omega) (by decide)
      have f5 : Fw N (Aq (N + 22)) B0 (sI h3 N 26 (nI (y.1 8))) (sF (sI h3 N 26 (nI (y.1 8))) (N + 22) (va_cpy (aF (sI h3 N 26 (nI (y.1 8))) (N + 21)) (aF (sI h3 N 26 (nI (y.1 8))) (N + 22)) 0 0 (y.1 8))) := Fw.sF rfl
      have f9 : Fw N (fun q => q = N + 20 ∨ q = N + 21 ∨ q = N + 22) (Aq 26) (an h N) (sF (sI h3 N 26 (nI (y.1 8))) (N + 22) (va_cpy (aF (sI h3 N 26 (nI (y.1 8))) (N + 21)) (aF (sI h3 N 26 (nI (y.1 8))) (N + 22)) 0 0 (y.1 8))) :=
        (((f2.trans q2).wide (fun q a => by simp only [Ak] at a; omega) (fun k a => a.elim)).trans (f4.wide (fun q a => by simp only [Ak] at a; omega) (fun k a => a))).trans (f5.wide (fun q a => by simp only [Aq] at a; omega) (fun k a => a.elim))
      have S5 := S1.kept f9.1
      have g26 : gI (sI h3 N 26 (nI (y.1 8))) N 26 = nI (y.1 8) := by rw [gI_sI Z3.1.o, if_pos ⟨rfl, rfl⟩]
      have g27 : gJ (sF (sI h3 N 26 (nI (y.1 8))) (N + 22) (va_cpy (aF (sI h3 N 26 (nI (y.1 8))) (N + 21)) (aF (sI h3 N 26 (nI (y.1 8))) (N + 22)) 0 0 (y.1 8))) N 27 = (bkY y).1 := by rw [gJ_sF, gJ_sI Z3.1.o rfl]; exact q4.1
      refine ⟨_, ?_, f1.trans (f9.fr (by omega) (fun q a => by omega)), ?_⟩
      · have hZ2 := Z2
        have hZ3 := Z3
        obtain ⟨vS, ve1, vD, vlE, vK⟩ := id hZ2
        obtain ⟨vhz, vhfu0, vo0, vo1, vr0_0, vo2, vr0_2, vo3, vr2_0, vr2_1, vo4, vr2_2, vo5, vr0_8, vo6, vo7, vo8, vr6_0, vr6_1, vo9, vo10, vo11, vr9_0, vr9_1, vo32, vo33, vo34, vr32_0, vr32_1, vo35, vo36, vo37, vr35_0, vr35_1, vo38, vo39, vo40, vr38_0, vr38_1, vr0_9, vr0_10, vo12, vr0_12, vo13, vr0_13, vo14, vr0_14, vo15, vr0_15, vo16, vr0_18, vo17, vr0_19, vo18, vr0_20, vo19, vr0_22, vo20, vr0_23, vo21, vr0_24, vo22, vr0_25, vo23, vr0_28, vo24, vr0_29, vo25, vr0_30, vo26, vr0_31, vo27, vr0_35, vo28, vr0_36, vo29, vr0_37, vo30, vr0_38, vo31, vr0_39, vd5_0, vd5_1, vd5_2⟩ := id vS
        obtain ⟨vdlo, vdo0, vdr0, vda0, vdr1, vda1, vdr2, vda2, vdr3, vda3, vdr4, vda4, vdr5, vda5, vdr6, vda6, vdr7, vda7, vdr8, vda8, vdn2, vdn3, vdn4, vdn5, vdn6, vdn8, vdn9, vdn7, vdv17, vdv18, vdvf, vdt0, vdt1, vdt2, vdt3, vdt4, vdt5, vdt6⟩ := id vD
        obtain ⟨vyc2, vyc3, vyc4, vyc5, vyc6, vyc7, vyc8, vyc9, vyyk, vyyd, vyyf, vyyh, vyyc, vyyl, vyyp, vyyhot, vyyby⟩ := id vK
        obtain ⟨tS, te1, tD, tlE, tK⟩ := id hZ3
        obtain ⟨thz, thfu0, to0, to1, tr0_0, to2, tr0_2, to3, tr2_0, tr2_1, to4, tr2_2, to5, tr0_8, to6, to7, to8, tr6_0, tr6_1, to9, to10, to11, tr9_0, tr9_1, to32, to33, to34, tr32_0, tr32_1, to35, to36, to37, tr35_0, tr35_1, to38, to39, to40, tr38_0, tr38_1, tr0_9, tr0_10, to12, tr0_12, to13, tr0_13, to14, tr0_14, to15, tr0_15, to16, tr0_18, to17, tr0_19, to18, tr0_20, to19, tr0_22, to20, tr0_23, to21, tr0_24, to22, tr0_25, to23, tr0_28, to24, tr0_29, to25, tr0_30, to26, tr0_31, to27, tr0_35, to28, tr0_36, to29, tr0_37, to30, tr0_38, to31, tr0_39, td5_0, td5_1, td5_2⟩ := id tS
        obtain ⟨tdlo, tdo0, tdr0, tda0, tdr1, tda1, tdr2, tda2, tdr3, tda3, tdr4, tda4, tdr5, tda5, tdr6, tda6, tdr7, tda7, tdr8, tda8, tdn2, tdn3, tdn4, tdn5, tdn6, tdn8, tdn9, tdn7, tdv17, tdv18, tdvf, tdt0, tdt1, tdt2, tdt3, tdt4, tdt5, tdt6⟩ := id tD
        obtain ⟨tyc2, tyc3, tyc4, tyc5, tyc6, tyc7, tyc8, tyc9, tyyk, tyyd, tyyf, tyyh, tyyc, tyyl, tyyp, tyyhot, tyyby⟩ := id tK
        obtain ⟨wS, we1, wD, wlE, wK⟩ := id Z
        obtain ⟨whz, whfu0, wo0, wo1, wr0_0, wo2, wr0_2, wo3, wr2_0, wr2_1, wo4, wr2_2, wo5, wr0_8, wo6, wo7, wo8, wr6_0, wr6_1, wo9, wo10, wo11, wr9_0, wr9_1, wo32, wo33, wo34, wr32_0, wr32_1, wo35, wo36, wo37, wr35_0, wr35_1, wo38, wo39, wo40, wr38_0, wr38_1, wr0_9, wr0_10, wo12, wr0_12, wo13, wr0_13, wo14, wr0_14, wo15, wr0_15, wo16, wr0_18, wo17, wr0_19, wo18, wr0_20, wo19, wr0_22, wo20, wr0_23, wo21, wr0_24, wo22, wr0_25, wo23, wr0_28, wo24, wr0_29, wo25, wr0_30, wo26, wr0_31, wo27, wr0_35, wo28, wr0_36, wo29, wr0_37, wo30, wr0_38, wo31, wr0_39, wd5_0, wd5_1, wd5_2⟩ := id wS
        obtain ⟨wdlo, wdo0, wdr0, wda0, wdr1, wda1, wdr2, wda2, wdr3, wda3, wdr4, wda4, wdr5, wda5, wdr6, wda6, wdr7, wda7, wdr8, wda8, wdn2, wdn3, wdn4, wdn5, wdn6, wdn8, wdn9, wdn7, wdv17, wdv18, wdvf, wdt0, wdt1, wdt2, wdt3, wdt4, wdt5, wdt6⟩ := id wD
        obtain ⟨wyc2, wyc3, wyc4, wyc5, wyc6, wyc7, wyc8, wyc9, wyyk, wyyd, wyyf, wyyh, wyyc, wyyl, wyyp, wyyhot, wyyby⟩ := id wK
        simp only [fX1_knock, fX1_knockWhy, ab_ckq S.o, ab_ckq S1.o, han, bdS, b2S, bxL, bxR, onN, onS, g0_3 S1.o, we1, g5_14 wdo0, wdn8, nI_z (show y.1 8 < 2 ^ 31 by omega), h0, if_false, if_true, ab_pJq S1.o S1.1, g0_3 vo0, ve1, g5_14 vdo0, vdn8, u1, q1, g0_3 to0, te1, g5_14 tdo0, tdn8, ab_pIq to0 thz, g0_24 uo0, ur0_24, g0_25 uo0, ur0_25, g0_26 uo0, g26, hc, g0_27 S5.o, g27]
      · obtain ⟨v1, v2, v3, v4, v5, v6, v7, v8, v9, v10, v11, v12, v13, v14, v15, v16, v17, v18, v19, v20, v21, v22, v23, v24⟩ := V.fin Q1 t1 (by decide)
        have gg : ∀ k, k ≠ 26 → gI (sF (sI h3 N 26 (nI (y.1 8))) (N + 22) (va_cpy (aF (sI h3 N 26 (nI (y.1 8))) (N + 21)) (aF (sI h3 N 26 (nI (y.1 8))) (N + 22)) 0 0 (y.1 8))) N k = gI (an h N) N k := fun k h1 => f9.2.2 k h1
        have aa : ∀ j, j ≠ 0 → j ≠ 20 → j ≠ 21 → j ≠ 22 → aF (sF (sI h3 N 26 (nI (y.1 8))) (N + 22) (va_cpy (aF (sI h3 N 26 (nI (y.1 8))) (N + 21)) (aF (sI h3 N 26 (nI (y.1 8))) (N + 22)) 0 0 (y.1 8))) (N + j) = aF (an h N) (N + j) := fun j h0 h1 h2 h3 => f9.aF (by omega) (by omega)
        refine ⟨(gg 1 (by omega)).trans v1, (gg 4 (by omega)).trans v2, (gg 5 (by omega)).trans v3, (gg 7 (by omega)).trans v4, (gg 16 (by omega)).trans v5, (gg 21 (by omega)).trans v6, ?_, (gg 32 (by omega)).trans v8, (gg 40 (by omega)).trans v9, fun e => absurd e (show ¬ ((0 : Int32) = 4) from by decide), fun _ => rfl, (aa 1 (by omega) (by omega) (by omega) (by omega)).trans v12, (aa 28 (by omega) (by omega) (by omega) (by omega)).trans v13, (aa 27 (by omega) (by omega) (by omega) (by omega)).trans v14, (aa 29 (by omega) (by omega) (by omega) (by omega)).trans v15, (aa 30 (by omega) (by omega) (by omega) (by omega)).trans v16, (aa 31 (by omega) (by omega) (by omega) (by omega)).trans v17, ?_, ?_, fun j hj h5 => ?_, ?_, fun c hc => (f9.gI (by omega) (by omega) 2).trans (v22 c hc), fun c hc k hk => by rw [aa (33 + 3 * c) (by omega) (by omega) (by omega) (by omega)]; exact v23 c hc k hk, fun c hc => by rw [aa 26 (by omega) (by omega) (by omega) (by omega)]; exact v24 c hc⟩
        · rw [gI_sF, g26]; rfl
        · rw [aa 15 (by omega) (by omega) (by omega) (by omega)]; exact v18
        · rw [aa 18 (by omega) (by omega) (by omega) (by omega)]; exact v19
        · have hj : nI j < nI (y.1 8) := hj
          have hjm : j < y.1 8 := (nI_ltI (by omega) (by omega)).mp hj
          rw [aF_sF uo22, if_pos rfl, aF_sI, va_cpy, if_pos (by omega), Nat.zero_add, Nat.sub_zero, hall j hjm]
          show _ = if j < y.1 8 then _ else _
          rw [if_pos hjm]
        · rw [aa 25 (by omega) (by omega) (by omega) (by omega)]; exact v21
theorem qx_atL {N E d : Nat} {qa : Nat → Nat → Nat} {y : Dy} : ∀ (j k f : Nat) (h : Hp), XD h N E d qa y → (∀ i, i < k → aF h (N + 20) i = nI i) → k + j = y.1 8 → j < f → ∃ h', fX1_asTold_l22 N f (nI k) h = some (exL y (List.range (y.1 8)), h') ∧ Fw N (Ak N) B0 h h' := by
  intro j
  induction j with
  | zero =>
    intro k f h Z L hk hf
    cases f with
    | zero => omega
    | succ f =>
      have h8 := Z.2.2.2.2.h8
      have hC : CL h (N + 20) (List.range (y.1 8)) := by
        refine ⟨?_, fun j hj => ?_⟩
        · have hS := Z.1
          obtain ⟨hz, hfu0, o0, o1, r0_0, o2, r0_2, o3, r2_0, r2_1, o4, r2_2, o5, r0_8, o6, o7, o8, r6_0, r6_1, o9, o10, o11, r9_0, r9_1, o32, o33, o34, r32_0, r32_1, o35, o36, o37, r35_0, r35_1, o38, o39, o40, r38_0, r38_1, r0_9, r0_10, o12, r0_12, o13, r0_13, o14, r0_14, o15, r0_15, o16, r0_18, o17, r0_19, o18, r0_20, o19, r0_22, o20, r0_23, o21, r0_24, o22, r0_25, o23, r0_28, o24, r0_29, o25, r0_30, o26, r0_31, o27, r0_35, o28, r0_36, o29, r0_37, o30, r0_38, o31, r0_39, d5_0, d5_1, d5_2⟩ := id hS
          exact o20
        · rw [List.length_range] at hj
          rw [L j (by omega), List.getD_eq_getElem?_getD, List.getElem?_range hj]
          rfl
      have hex := qx_expected Z hC List.length_range (fun x hx => List.mem_range.mp hx)
      refine ⟨h, ?_, Fw.rf⟩
      obtain ⟨S, e1, D, lE, K⟩ := id Z
      obtain ⟨hz, hfu0, o0, o1, r0_0, o2, r0_2, o3, r2_0, r2_1, o4, r2_2, o5, r0_8, o6, o7, o8, r6_0, r6_1, o9, o10, o11, r9_0, r9_1, o32, o33, o34, r32_0, r32_1, o35, o36, o37, r35_0, r35_1, o38, o39, o40, r38_0, r38_1, r0_9, r0_10, o12, r0_12, o13, r0_13, o14, r0_14, o15, r0_15, o16, r0_18, o17, r0_19, o18, r0_20, o19, r0_22, o20, r0_23, o21, r0_24, o22, r0_25, o23, r0_28, o24, r0_29, o25, r0_30, o26, r0_31, o27, r0_35, o28, r0_36, o29, r0_37, o30, r0_38, o31, r0_39, d5_0, d5_1, d5_2⟩ := id S
      obtain ⟨dlo, do0, dr0, da0, dr1, da1, dr2, da2, dr3, da3, dr4, da4, dr5, da5, dr6, da6, dr7, da7, dr8, da8, dn2, dn3, dn4, dn5, dn6, dn8, dn9, dn7, dv17, dv18, dvf, dt0, dt1, dt2, dt3, dt4, dt5, dt6⟩ := id D
      obtain ⟨yc2, yc3, yc4, yc5, yc6, yc7, yc8, yc9, yyk, yyd, yyf, yyh, yyc, yyl, yyp, yyhot, yyby⟩ := id K
      simp only [fX1_asTold_l22, g0_3 o0, e1, bdS, b2S, bxL, bxR, onN, onS, g5_14 do0, dn8, nI_le (show y.1 8 ≤ k by omega) (by omega), if_true, g0_23 o0, r0_23, hex, exL]
  | succ j ih =>
    intro k f h Z L hk hf
    cases f with
    | zero => omega
    | succ f =>
      have h8 := Z.2.2.2.2.h8
      have f1 : Fw N (Ak N) B0 h (sA h (N + 20) k (nI k)) := Fw.sA (Or.inl rfl)
      have Z1 := Z.fw f1 (fun q a => by simp only [Ak] at a; omega)
      have p20 : isA h (N + 20) 0 5 := by
        have hS := Z.1
        obtain ⟨hz, hfu0, o0, o1, r0_0, o2, r0_2, o3, r2_0, r2_1, o4, r2_2, o5, r0_8, o6, o7, o8, r6_0, r6_1, o9, o10, o11, r9_0, r9_1, o32, o33, o34, r32_0, r32_1, o35, o36, o37, r35_0, r35_1, o38, o39, o40, r38_0, r38_1, r0_9, r0_10, o12, r0_12, o13, r0_13, o14, r0_14, o15, r0_15, o16, r0_18, o17, r0_19, o18, r0_20, o19, r0_22, o20, r0_23, o21, r0_24, o22, r0_25, o23, r0_28, o24, r0_29, o25, r0_30, o26, r0_31, o27, r0_35, o28, r0_36, o29, r0_37, o30, r0_38, o31, r0_39, d5_0, d5_1, d5_2⟩ := id hS
        exact o20
      obtain ⟨h', s1, s2⟩ := ih (k + 1) f _ Z1 (fun i hi => by
        rw [aF_sA p20, if_pos rfl, upd]
        by_cases e : i = k
        · rw [if_pos e, e]
        · rw [if_neg e]; exact L i (by omega)) (by omega) (by omega)
      refine ⟨h', ?_, f1.trans s2⟩
      rw [← s1]
      obtain ⟨S, e1, D, lE, K⟩ := id Z
      obtain ⟨hz, hfu0, o0, o1, r0_0, o2, r0_2, o3, r2_0, r2_1, o4, r2_2, o5, r0_8, o6, o7, o8, r6_0, r6_1, o9, o10, o11, r9_0, r9_1, o32, o33, o34, r32_0, r32_1, o35, o36, o37, r35_0, r35_1, o38, o39, o40, r38_0, r38_1, r0_9, r0_10, o12, r0_12, o13, r0_13, o14, r0_14, o15, r0_15, o16, r0_18, o17, r0_19, o18, r0_20, o19, r0_22, o20, r0_23, o21, r0_24, o22, r0_25, o23, r0_28, o24, r0_29, o25, r0_30, o26, r0_31, o27, r0_35, o28, r0_36, o29, r0_37, o30, r0_38, o31, r0_39, d5_0, d5_1, d5_2⟩ := id S
      obtain ⟨dlo, do0, dr0, da0, dr1, da1, dr2, da2, dr3, da3, dr4, da4, dr5, da5, dr6, da6, dr7, da7, dr8, da8, dn2, dn3, dn4, dn5, dn6, dn8, dn9, dn7, dv17, dv18, dvf, dt0, dt1, dt2, dt3, dt4, dt5, dt6⟩ := id D
      obtain ⟨yc2, yc3, yc4, yc5, yc6, yc7, yc8, yc9, yyk, yyd, yyf, yyh, yyc, yyl, yyp, yyhot, yyby⟩ := id K
      simp only [fX1_asTold_l22, g0_3 o0, e1, bdS, b2S, bxL, bxR, onN, onS, g5_14 do0, dn8, nI_ge (show k < y.1 8 by omega) (by omega), if_false, g0_23 o0, r0_23, sIn o20 (show hfz h ≤ N + 20 by omega) (show k < 5 by omega), nI_1]
theorem x_asTold {N E : Nat} : XOpJ N E (fX1_asTold N) (fun yo s => asToldR yo s) := by
  intro h yo s R I
  obtain ⟨S, P, V, lE⟩ := id R
  obtain ⟨f1, S1, Q1, t1⟩ := an_all S
  have han : fX1_anew N h = some (an h N) := qx_anew S
  cases yo with
  | none =>
    obtain ⟨a1, a2⟩ := xq_end R 1 (by decide)
    refine ⟨_, ?_, a1, a2⟩
    have P1 : gR (an h N) N 3 = none := (P.kept f1.1 (fun q hq => f1.2 q (by omega)))
    simp only [fX1_asTold, fX1_knockWhy, ab_ckq S.o, ab_ckq S1.o, han, bdS, b2S, bxL, bxR, onN, onS, g0_3 S1.o, P1, show ¬ ((1 : Int32) = 0) from by decide, if_false, qx_no S1]
    rfl
  | some y =>
    obtain ⟨d, qa, e1, D, K⟩ := id P
    have Z := x_beg R e1 D
    have h8 := K.h8
    by_cases h0 : y.1 8 = 0
    · obtain ⟨a1, a2⟩ := xq_end R 6 (by decide)
      simp only [asToldR, h0, if_true]
      refine ⟨_, ?_, a1, a2⟩
      obtain ⟨wS, we1, wD, wlE, wK⟩ := id Z
      obtain ⟨whz, whfu0, wo0, wo1, wr0_0, wo2, wr0_2, wo3, wr2_0, wr2_1, wo4, wr2_2, wo5, wr0_8, wo6, wo7, wo8, wr6_0, wr6_1, wo9, wo10, wo11, wr9_0, wr9_1, wo32, wo33, wo34, wr32_0, wr32_1, wo35, wo36, wo37, wr35_0, wr35_1, wo38, wo39, wo40, wr38_0, wr38_1, wr0_9, wr0_10, wo12, wr0_12, wo13, wr0_13, wo14, wr0_14, wo15, wr0_15, wo16, wr0_18, wo17, wr0_19, wo18, wr0_20, wo19, wr0_22, wo20, wr0_23, wo21, wr0_24, wo22, wr0_25, wo23, wr0_28, wo24, wr0_29, wo25, wr0_30, wo26, wr0_31, wo27, wr0_35, wo28, wr0_36, wo29, wr0_37, wo30, wr0_38, wo31, wr0_39, wd5_0, wd5_1, wd5_2⟩ := id wS
      obtain ⟨wdlo, wdo0, wdr0, wda0, wdr1, wda1, wdr2, wda2, wdr3, wda3, wdr4, wda4, wdr5, wda5, wdr6, wda6, wdr7, wda7, wdr8, wda8, wdn2, wdn3, wdn4, wdn5, wdn6, wdn8, wdn9, wdn7, wdv17, wdv18, wdvf, wdt0, wdt1, wdt2, wdt3, wdt4, wdt5, wdt6⟩ := id wD
      obtain ⟨wyc2, wyc3, wyc4, wyc5, wyc6, wyc7, wyc8, wyc9, wyyk, wyyd, wyyf, wyyh, wyyc, wyyl, wyyp, wyyhot, wyyby⟩ := id wK
      simp only [fX1_asTold, fX1_knockWhy, ab_ckq S.o, ab_ckq S1.o, han, bdS, b2S, bxL, bxR, onN, onS, g0_3 S1.o, we1, g5_14 wdo0, wdn8, h0, if_pos nI_0, show ¬ ((6 : Int32) = 0) from by decide, if_false, qx_no S1]
    · simp only [asToldR, h0, if_false]
      obtain ⟨h', q1, q2⟩ := qx_atL (y.1 8) 0 300000 (an h N) Z (fun i hi => absurd hi (Nat.not_lt_zero i)) (by omega) (by omega)
      obtain ⟨a1, a2⟩ := x_fin R q2 (fun q a => by simp only [Ak] at a; omega) (fun k a => a.elim) (fun k a => by simp only [Ak] at a; omega)
      refine ⟨h', ?_, a1, a2⟩
      rw [nI_0] at q1
      obtain ⟨wS, we1, wD, wlE, wK⟩ := id Z
      obtain ⟨whz, whfu0, wo0, wo1, wr0_0, wo2, wr0_2, wo3, wr2_0, wr2_1, wo4, wr2_2, wo5, wr0_8, wo6, wo7, wo8, wr6_0, wr6_1, wo9, wo10, wo11, wr9_0, wr9_1, wo32, wo33, wo34, wr32_0, wr32_1, wo35, wo36, wo37, wr35_0, wr35_1, wo38, wo39, wo40, wr38_0, wr38_1, wr0_9, wr0_10, wo12, wr0_12, wo13, wr0_13, wo14, wr0_14, wo15, wr0_15, wo16, wr0_18, wo17, wr0_19, wo18, wr0_20, wo19, wr0_22, wo20, wr0_23, wo21, wr0_24, wo22, wr0_25, wo23, wr0_28, wo24, wr0_29, wo25, wr0_30, wo26, wr0_31, wo27, wr0_35, wo28, wr0_36, wo29, wr0_37, wo30, wr0_38, wo31, wr0_39, wd5_0, wd5_1, wd5_2⟩ := id wS
      obtain ⟨wdlo, wdo0, wdr0, wda0, wdr1, wda1, wdr2, wda2, wdr3, wda3, wdr4, wda4, wdr5, wda5, wdr6, wda6, wdr7, wda7, wdr8, wda8, wdn2, wdn3, wdn4, wdn5, wdn6, wdn8, wdn9, wdn7, wdv17, wdv18, wdvf, wdt0, wdt1, wdt2, wdt3, wdt4, wdt5, wdt6⟩ := id wD
      obtain ⟨wyc2, wyc3, wyc4, wyc5, wyc6, wyc7, wyc8, wyc9, wyyk, wyyd, wyyf, wyyh, wyyc, wyyl, wyyp, wyyhot, wyyby⟩ := id wK
      simp only [fX1_asTold, fX1_knockWhy, ab_ckq S.o, ab_ckq S1.o, han, bdS, b2S, bxL, bxR, onN, onS, g0_3 S1.o, we1, g5_14 wdo0, wdn8, nI_z (show y.1 8 < 2 ^ 31 by omega), h0, if_false, if_true, S1.f, q1]
