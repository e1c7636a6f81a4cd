/-! share: the component's table, its end -/
noncomputable def shr (y : Dy) : Int32 × List Nat := (asgF (y.1 6) (y.1 5)).foldl (shS y) (-1, [])
def setH (s : St) (n : Nat) (a : List Nat) : St := (s.1, fun j => if j = 0 then upd (s.2 0) 5 1 else if j = 4 then fun i => if i < n then nI (a.getD i 0) else s.2 4 i else s.2 j)
noncomputable def shareR (yo : Option Dy) (s : St) : Int32 × St := match yo with
  | none => (-1, fin s 1)
  | some y => if (shr y).1 = -1 then (-1, fin s 6) else (nI (shB y (shr y).2), setH (fin s 0) (y.1 5) (shr y).2)
theorem shS_in {y : Dy} : ∀ (L : List (List Nat)) (st : Int32 × List Nat), L.foldl (shS y) st = st ∨ ∃ l ∈ L, fitB y l = true ∧ L.foldl (shS y) st = (nI (shV y l), l) := by
  intro L
  induction L with
  | nil => intro st; exact Or.inl rfl
  | cons a t ih =>
    intro st
    rw [List.foldl_cons]
    have hs : shS y st a = st ∨ (fitB y a = true ∧ shS y st a = (nI (shV y a), a)) := by
      unfold shS
      split
      · rename_i hf
        split
        · exact Or.inr ⟨hf, rfl⟩
        · split
          · exact Or.inr ⟨hf, rfl⟩
          · exact Or.inl rfl
      · exact Or.inl rfl
    rcases ih (shS y st a) with e | ⟨l, hl, hf, e⟩
    · rcases hs with e2 | ⟨hf, e2⟩
      · exact Or.inl (e.trans e2)
      · exact Or.inr ⟨a, List.mem_cons_self, hf, e.trans e2⟩
    · exact Or.inr ⟨l, List.mem_cons_of_mem _ hl, hf, e⟩
theorem shr_in {y : Dy} (h : ¬ (shr y).1 = -1) : (shr y).2 ∈ asgF (y.1 6) (y.1 5) ∧ fitB y (shr y).2 = true ∧ (shr y).1 = nI (shV y (shr y).2) := by
  rcases shS_in (y := y) (asgF (y.1 6) (y.1 5)) (-1, []) with e | ⟨l, hl, hf, e⟩
  · exact absurd (by unfold shr; rw [e]) h
  · have e : shr y = (nI (shV y l), l) := e
    rw [e]
    exact ⟨hl, hf, rfl⟩
/-- the table up to a car, a set -/
def TW (h : Hp) (N : Nat) (y : Dy) (c k : Nat) : Prop := (∀ c' S, c' < c → c' < y.1 6 → 0 < S → S < 2 ^ y.1 5 → pc S ≤ hol y c' → aF h (N + 12) (64 * c' + S) = (bst y c' S).1) ∧ ∀ S, 0 < S → S < k → pc S ≤ hol y c → aF h (N + 12) (64 * c + S) = (bst y c S).1
def ZL (h : Hp) (N c : Nat) : Prop := ∀ c', c' < c → aF h (N + 13) c' = 0
abbrev Aw (N : Nat) : Nat → Prop := fun q => (N + 6 ≤ q ∧ q ≤ N + 14) ∨ q = N + 16
abbrev Aw2 (N : Nat) : Nat → Prop := fun q => N + 6 ≤ q ∧ q ≤ N + 16
abbrev Bw2 : Nat → Prop := fun k => k = 11 ∨ k = 17 ∨ k = 16
abbrev Bw : Nat → Prop := fun k => k = 11 ∨ k = 17
theorem qx_wtL {N E d : Nat} {qa : Nat → Nat → Nat} {y : Dy} {c : Nat} (hc : c < y.1 6) {K19 : Int32 → Hp → Option (Int32 × Hp)} : ∀ (j k n : Nat) (h : Hp), XD h N E d qa y → TW h N y c k → ZL h N (c + 1) → 1 ≤ k → k + j = 2 ^ y.1 5 → j < n → ∃ h', fX1_share_l39 N K19 n (nI c) (nI k) h = K19 (nI (c + 1)) h' ∧ Fw N (Aw N) Bw h h' ∧ TW h' N y c (2 ^ y.1 5) ∧ ZL h' N (c + 1) := by
  intro j
  induction j with
  | zero =>
    intro k n h Z T z1 hk0 hk hn
    cases n with
    | zero => omega
    | succ n =>
      have h5 := Z.2.2.2.2.h5
      have h2 := two6 (y.1 5) h5.2
      have hs := shl6 (y.1 5) h5.2
      have e : k = 2 ^ y.1 5 := by omega
      refine ⟨h, ?_, Fw.rf, by rw [← e]; exact T, z1⟩
      obtain ⟨S, e1, D, lE, K⟩ := id Z
      obtain ⟨hz, hfu0, o0, o1, r0_0, o2, r0_2, o3, r2_0, r2_1, o4, r2_2, o5, r0_8, o6, o7, o8, r6_0, r6_1, o9, o10, o11, r9_0, r9_1, o32, o33, o34, r32_0, r32_1, o35, o36, o37, r35_0, r35_1, o38, o39, o40, r38_0, r38_1, r0_9, r0_10, o12, r0_12, o13, r0_13, o14, r0_14, o15, r0_15, o16, r0_18, o17, r0_19, o18, r0_20, o19, r0_22, o20, r0_23, o21, r0_24, o22, r0_25, o23, r0_28, o24, r0_29, o25, r0_30, o26, r0_31, o27, r0_35, o28, r0_36, o29, r0_37, o30, r0_38, o31, r0_39, d5_0, d5_1, d5_2⟩ := id S
      obtain ⟨dlo, do0, dr0, da0, dr1, da1, dr2, da2, dr3, da3, dr4, da4, dr5, da5, dr6, da6, dr7, da7, dr8, da8, dn2, dn3, dn4, dn5, dn6, dn8, dn9, dn7, dv17, dv18, dvf, dt0, dt1, dt2, dt3, dt4, dt5, dt6⟩ := id D
      obtain ⟨yc2, yc3, yc4, yc5, yc6, yc7, yc8, yc9, yyk, yyd, yyf, yyh, yyc, yyl, yyp, yyhot, yyby⟩ := id K
      simp only [fX1_share_l39, g0_3 o0, e1, bdS, b2S, bxL, bxR, onN, onS, g5_12 do0, dn5, hs, nI_le (show 2 ^ y.1 5 ≤ k by omega) (by omega), if_true, nI_1]
  | succ j ih =>
    intro k n h Z T z1 hk0 hk hn
    cases n with
    | zero => omega
    | succ n =>
      have h5 := Z.2.2.2.2.h5
      have h6 := Z.2.2.2.2.h6
      have h2 := two6 (y.1 5) h5.2
      have hs := shl6 (y.1 5) h5.2
      have hk64 : k < 64 := by omega
      obtain ⟨u1, u2, u3⟩ := hol_ok Z.2.2.2.2 hc
      have hp6 := pc_le k hk64
      have ho := qx_ones (h := h) Z.1.f hk64
      by_cases hle : pc k ≤ hol y c
      · obtain ⟨h1, q1, q2, q3⟩ := qx_bestOf Z hc hk64 (els_day (y.1 5) h5.2 k hk64 (by omega))
        have Z1 := Z.fw q2 (fun q a => by simp only [A6] at a; omega)
        have f2 : Fw N (Aw N) Bw h1 (sA h1 (N + 12) (64 * c + k) (bst y c k).1) := Fw.sA (by simp only [Aw]; omega)
        have q2' : Fw N (Aw N) Bw h h1 := q2.wide (fun q a => by simp only [A6] at a; simp only [Aw]; omega) (fun k a => Or.inl a)
        have Z2 := Z1.fw f2 (fun q a => by simp only [Aw] at a; omega)
        have p12 : isA h1 (N + 12) 0 192 := by
          have hS := Z1.1
          obtain ⟨hz, hfu0, o0, o1, r0_0, o2, r0_2, o3, r2_0, r2_1, o4, r2_2, o5, r0_8, o6, o7, o8, r6_0, r6_1, o9, o10, o11, r9_0, r9_1, o32, o33, o34, r32_0, r32_1, o35, o36, o37, r35_0, r35_1, o38, o39, o40, r38_0, r38_1, r0_9, r0_10, o12, r0_12, o13, r0_13, o14, r0_14, o15, r0_15, o16, r0_18, o17, r0_19, o18, r0_20, o19, r0_22, o20, r0_23, o21, r0_24, o22, r0_25, o23, r0_28, o24, r0_29, o25, r0_30, o26, r0_31, o27, r0_35, o28, r0_36, o29, r0_37, o30, r0_38, o31, r0_39, d5_0, d5_1, d5_2⟩ := id hS
          exact o12
        have hT1 : ∀ i, aF h1 (N + 12) i = aF h (N + 12) i := fun i => by rw [q2.aF (by omega) (by simp only [A6]; omega)]
        have hb : ∀ c' S, S < 64 → c' * 64 + S = c * 64 + k → c' = c ∧ S = k := fun c' S h1 h2 => by omega
        have T2 : TW (sA h1 (N + 12) (64 * c + k) (bst y c k).1) N y c (k + 1) := by
          refine ⟨fun c' S g1 g2 g3 g4 g5 => ?_, fun S g1 g2 g3 => ?_⟩
          · rw [aF_sA p12, if_pos rfl, upd, if_neg (by omega), hT1]
            exact T.1 c' S g1 g2 g3 g4 g5
          · rw [aF_sA p12, if_pos rfl, upd]
            by_cases e : S = k
            · subst e; rw [if_pos rfl]
            · rw [if_neg (by omega), hT1]
              exact T.2 S g1 (by omega) g3
        have z2 : ZL (sA h1 (N + 12) (64 * c + k) (bst y c k).1) N (c + 1) := fun c' hc' => by
          rw [aF_sA p12, if_neg (by omega), q2.aF (by omega) (by simp only [A6]; omega)]
          exact z1 c' hc'
        obtain ⟨h', s1, s2, s3, s4⟩ := ih (k + 1) n _ Z2 T2 z2 (by omega) (by omega) (by omega)
        refine ⟨h', ?_, (q2'.trans f2).trans s2, s3, s4⟩
        rw [← s1]
        have hz1 := Z1.1.1
        obtain ⟨S, e1, D, lE, K⟩ := id Z
        obtain ⟨hz, hfu0, o0, o1, r0_0, o2, r0_2, o3, r2_0, r2_1, o4, r2_2, o5, r0_8, o6, o7, o8, r6_0, r6_1, o9, o10, o11, r9_0, r9_1, o32, o33, o34, r32_0, r32_1, o35, o36, o37, r35_0, r35_1, o38, o39, o40, r38_0, r38_1, r0_9, r0_10, o12, r0_12, o13, r0_13, o14, r0_14, o15, r0_15, o16, r0_18, o17, r0_19, o18, r0_20, o19, r0_22, o20, r0_23, o21, r0_24, o22, r0_25, o23, r0_28, o24, r0_29, o25, r0_30, o26, r0_31, o27, r0_35, o28, r0_36, o29, r0_37, o30, r0_38, o31, r0_39, d5_0, d5_1, d5_2⟩ := id S
        obtain ⟨dlo, do0, dr0, da0, dr1, da1, dr2, da2, dr3, da3, dr4, da4, dr5, da5, dr6, da6, dr7, da7, dr8, da8, dn2, dn3, dn4, dn5, dn6, dn8, dn9, dn7, dv17, dv18, dvf, dt0, dt1, dt2, dt3, dt4, dt5, dt6⟩ := id D
        obtain ⟨yc2, yc3, yc4, yc5, yc6, yc7, yc8, yc9, yyk, yyd, yyf, yyh, yyc, yyl, yyp, yyhot, yyby⟩ := id K
        obtain ⟨z1, z2, z3, z4, z5, z6⟩ := dt4 c hc
        simp only [fX1_share_l39, g0_3 o0, e1, bdS, b2S, bxL, bxR, onN, onS, g5_12 do0, dn5, hs, nI_ge (show k < 2 ^ y.1 5 by omega) (by omega), if_false, ho, g5_4 do0, dr4, aRn da4 (show c < 3 by omega), z2, g10_4 z3, z5, u1, nI_nlt hle (show hol y c < 2 ^ 31 by omega), g0_12 o0, r0_12, q1, shl64 c (by omega), nI_add, sIn p12 (show hfz h1 ≤ N + 12 by omega) (show 64 * c + k < 192 by omega), nI_1]
      · have T2 : TW h N y c (k + 1) := ⟨T.1, fun S g1 g2 g3 => by
          by_cases e : S = k
          · subst e; exact absurd g3 hle
          · exact T.2 S g1 (by omega) g3⟩
        obtain ⟨h', s1, s2, s3, s4⟩ := ih (k + 1) n h Z T2 z1 (by omega) (by omega) (by omega)
        refine ⟨h', ?_, s2, s3, s4⟩
        rw [← s1]
        obtain ⟨S, e1, D, lE, K⟩ := id Z
        obtain ⟨hz, hfu0, o0, o1, r0_0, o2, r0_2, o3, r2_0, r2_1, o4, r2_2, o5, r0_8, o6, o7, o8, r6_0, r6_1, o9, o10, o11, r9_0, r9_1, o32, o33, o34, r32_0, r32_1, o35, o36, o37, r35_0, r35_1, o38, o39, o40, r38_0, r38_1, r0_9, r0_10, o12, r0_12, o13, r0_13, o14, r0_14, o15, r0_15, o16, r0_18, o17, r0_19, o18, r0_20, o19, r0_22, o20, r0_23, o21, r0_24, o22, r0_25, o23, r0_28, o24, r0_29, o25, r0_30, o26, r0_31, o27, r0_35, o28, r0_36, o29, r0_37, o30, r0_38, o31, r0_39, d5_0, d5_1, d5_2⟩ := id S
        obtain ⟨dlo, do0, dr0, da0, dr1, da1, dr2, da2, dr3, da3, dr4, da4, dr5, da5, dr6, da6, dr7, da7, dr8, da8, dn2, dn3, dn4, dn5, dn6, dn8, dn9, dn7, dv17, dv18, dvf, dt0, dt1, dt2, dt3, dt4, dt5, dt6⟩ := id D
        obtain ⟨yc2, yc3, yc4, yc5, yc6, yc7, yc8, yc9, yyk, yyd, yyf, yyh, yyc, yyl, yyp, yyhot, yyby⟩ := id K
        obtain ⟨z1, z2, z3, z4, z5, z6⟩ := dt4 c hc
        simp only [fX1_share_l39, g0_3 o0, e1, bdS, b2S, bxL, bxR, onN, onS, g5_12 do0, dn5, hs, nI_ge (show k < 2 ^ y.1 5 by omega) (by omega), if_false, ho, g5_4 do0, dr4, aRn da4 (show c < 3 by omega), z2, g10_4 z3, z5, u1, nI_lt (show hol y c < pc k by omega) (by omega), if_true, nI_1]
theorem qx_shend {N E d : Nat} {qa : Nat → Nat → Nat} {y : Dy} {h : Hp} (Z : XD h N E d qa y) (T : WT h N y) (z : ZL h N (y.1 6)) : ((shr y).1 = -1 → ∃ h', Fw N (Aw N) Bw h h' ∧ ∀ n, fX1_share_l19 N (n + 1) (nI (y.1 6)) h = some (-1, sI h' N 4 6)) ∧ (¬ (shr y).1 = -1 → ∃ h', Fw N (Aw2 N) Bw2 h h' ∧ gI h' N 16 = 1 ∧ (∀ j, j < y.1 5 → aF h' (N + 15) j = nI ((shr y).2.getD j 0)) ∧ ∀ n, fX1_share_l19 N (n + 1) (nI (y.1 6)) h = some (nI (shB y (shr y).2), h')) := by
  have h5 := Z.2.2.2.2.h5
  have h6 := Z.2.2.2.2.h6
  have f1 : Fw N (Aw N) Bw h (sI h N 17 (-1)) := Fw.sI Z.1.o rfl (Or.inr rfl)
  have Z1 := Z.fw f1 (fun q a => by simp only [Aw] at a; omega)
  have L1 : LC (sI h N 17 (-1)) N y [] := ⟨fun c hc => by rw [aF_sI, z c hc]; exact nI_0.symm, fun j hj => absurd hj (Nat.not_lt_zero j), fun c _ => Nat.zero_le _⟩
  have o1 : OSh (sI h N 17 (-1)) N y (-1, []) := ⟨by rw [gI_sI Z.1.o, if_pos ⟨rfl, rfl⟩], Or.inl rfl⟩
  have T1 : WT (sI h N 17 (-1)) N y := fun c hc S a b e => by rw [aF_sI]; exact T c hc S a b e
  obtain ⟨h2, q1, q2, q3, q4⟩ := qx_shr (y.1 5) 10 [] (-1, []) _ Z1 L1 o1 T1 (by show 0 + y.1 5 = y.1 5; omega) (by omega)
  have e : (asgF (y.1 6) (y.1 5)).foldl (fun s l => shS y s ([] ++ l)) (-1, []) = shr y := rfl
  rw [e] at q4
  have q1 : fX1_shares 10 N 0 (sI h N 17 (-1)) = some h2 := by rw [← nI_0]; exact q1
  have q2' : Fw N (Aw N) Bw (sI h N 17 (-1)) h2 := q2.wide (fun q a => by simp only [As] at a; simp only [Aw]; omega) (fun k a => Or.inr a)
  have Z2 := Z1.fw q2' (fun q a => by simp only [Aw] at a; omega)
  refine ⟨fun hs => ⟨h2, f1.trans q2', fun n => ?_⟩, fun hs => ?_⟩
  · have q5 := q4.1
    rw [hs] at q5
    obtain ⟨S, e1, D, lE, K⟩ := id Z
    obtain ⟨hz, hfu0, o0, o1, r0_0, o2, r0_2, o3, r2_0, r2_1, o4, r2_2, o5, r0_8, o6, o7, o8, r6_0, r6_1, o9, o10, o11, r9_0, r9_1, o32, o33, o34, r32_0, r32_1, o35, o36, o37, r35_0, r35_1, o38, o39, o40, r38_0, r38_1, r0_9, r0_10, o12, r0_12, o13, r0_13, o14, r0_14, o15, r0_15, o16, r0_18, o17, r0_19, o18, r0_20, o19, r0_22, o20, r0_23, o21, r0_24, o22, r0_25, o23, r0_28, o24, r0_29, o25, r0_30, o26, r0_31, o27, r0_35, o28, r0_36, o29, r0_37, o30, r0_38, o31, r0_39, d5_0, d5_1, d5_2⟩ := id S
    obtain ⟨dlo, do0, dr0, da0, dr1, da1, dr2, da2, dr3, da3, dr4, da4, dr5, da5, dr6, da6, dr7, da7, dr8, da8, dn2, dn3, dn4, dn5, dn6, dn8, dn9, dn7, dv17, dv18, dvf, dt0, dt1, dt2, dt3, dt4, dt5, dt6⟩ := id D
    obtain ⟨yc2, yc3, yc4, yc5, yc6, yc7, yc8, yc9, yyk, yyd, yyf, yyh, yyc, yyl, yyp, yyhot, yyby⟩ := id K
    simp only [fX1_share_l19, g0_3 o0, e1, bdS, b2S, bxL, bxR, onN, onS, g5_13 do0, dn6, Int32.le_refl, if_true, ab_pIq o0 hz, q1, g0_17 Z2.1.o, q5, qx_no Z2.1]
  · obtain ⟨r1, r2, r3⟩ := shr_in hs
    obtain ⟨r4, r5⟩ := asgF_mem _ _ _ r1
    obtain ⟨r6, r7⟩ := shBL Z.2.2.2.2 r4
    have hall := q4.2.resolve_left hs
    have f3 : Fw N (Aw2 N) Bw2 h2 (sI h2 N 16 1) := Fw.sI Z2.1.o rfl (Or.inr (Or.inr rfl))
    have Z3 := Z2.fw f3 (fun q a => by simp only [Aw2] at a; omega)
    have hz3 := Z3.1.1
    have hS3 := Z3.1
    obtain ⟨whz, whfu0, wo0, wo1, wr0_0, wo2, wr0_2, wo3, wr2_0, wr2_1, wo4, wr2_2, wo5, wr0_8, wo6, wo7, wo8, wr6_0, wr6_1, wo9, wo10, wo11, wr9_0, wr9_1, wo32, wo33, wo34, wr32_0, wr32_1, wo35, wo36, wo37, wr35_0, wr35_1, wo38, wo39, wo40, wr38_0, wr38_1, wr0_9, wr0_10, wo12, wr0_12, wo13, wr0_13, wo14, wr0_14, wo15, wr0_15, wo16, wr0_18, wo17, wr0_19, wo18, wr0_20, wo19, wr0_22, wo20, wr0_23, wo21, wr0_24, wo22, wr0_25, wo23, wr0_28, wo24, wr0_29, wo25, wr0_30, wo26, wr0_31, wo27, wr0_35, wo28, wr0_36, wo29, wr0_37, wo30, wr0_38, wo31, wr0_39, wd5_0, wd5_1, wd5_2⟩ := id hS3
    have hc := ab_cpyq wo16 wo15 (k := 6) (by omega) (by omega) (by omega) (by omega) (by decide)
    have f4 : Fw N (Aw2 N) Bw2 (sI h2 N 16 1) (sF (sI h2 N 16 1) (N + 15) (va_cpy (aF (sI h2 N 16 1) (N + 16)) (aF (sI h2 N 16 1) (N + 15)) 0 0 6)) := Fw.sF (by simp only [Aw2]; omega)
    have Z4 := Z3.fw f4 (fun q a => by simp only [Aw2] at a; omega)
    have g17 : gI (sF (sI h2 N 16 1) (N + 15) (va_cpy (aF (sI h2 N 16 1) (N + 16)) (aF (sI h2 N 16 1) (N + 15)) 0 0 6)) N 17 = (shr y).1 := by rw [gI_sF, gI_sI Z2.1.o, if_neg (by omega)]; exact q4.1
    refine ⟨_, ((f1.trans q2').wide (fun q a => by simp only [Aw] at a; simp only [Aw2]; omega) (fun k a => by simp only [Bw] at a; simp only [Bw2]; omega)).trans (f3.trans f4), by rw [gI_sF, gI_sI Z2.1.o, if_pos ⟨rfl, rfl⟩], fun j hj => ?_, fun n => ?_⟩
    · rw [aF_sF wo15, if_pos rfl, aF_sI, va_cpy, if_pos (by omega), Nat.zero_add, Nat.sub_zero]
      exact hall j hj
    · have hdiv : (shr y).1 / (10000 : Int32) = nI (shB y (shr y).2) := by
        rw [r3, show (10000 : Int32) = nI 10000 from rfl, nI_div (by simp only [shV]; omega) (by decide), shV]
        congr 1
        omega
      have hc : ab_cpy (sI h2 N 16 1) (N + 16) 0 (N + 15) 0 (6 : Int32) = some (sF (sI h2 N 16 1) (N + 15) (va_cpy (aF (sI h2 N 16 1) (N + 16)) (aF (sI h2 N 16 1) (N + 15)) 0 0 6)) := hc
      obtain ⟨S, e1, D, lE, K⟩ := id Z
      obtain ⟨hz, hfu0, o0, o1, r0_0, o2, r0_2, o3, r2_0, r2_1, o4, r2_2, o5, r0_8, o6, o7, o8, r6_0, r6_1, o9, o10, o11, r9_0, r9_1, o32, o33, o34, r32_0, r32_1, o35, o36, o37, r35_0, r35_1, o38, o39, o40, r38_0, r38_1, r0_9, r0_10, o12, r0_12, o13, r0_13, o14, r0_14, o15, r0_15, o16, r0_18, o17, r0_19, o18, r0_20, o19, r0_22, o20, r0_23, o21, r0_24, o22, r0_25, o23, r0_28, o24, r0_29, o25, r0_30, o26, r0_31, o27, r0_35, o28, r0_36, o29, r0_37, o30, r0_38, o31, r0_39, d5_0, d5_1, d5_2⟩ := id S
      obtain ⟨dlo, do0, dr0, da0, dr1, da1, dr2, da2, dr3, da3, dr4, da4, dr5, da5, dr6, da6, dr7, da7, dr8, da8, dn2, dn3, dn4, dn5, dn6, dn8, dn9, dn7, dv17, dv18, dvf, dt0, dt1, dt2, dt3, dt4, dt5, dt6⟩ := id D
      obtain ⟨yc2, yc3, yc4, yc5, yc6, yc7, yc8, yc9, yyk, yyd, yyf, yyh, yyc, yyl, yyp, yyhot, yyby⟩ := id K
      simp only [fX1_share_l19, g0_3 o0, e1, bdS, b2S, bxL, bxR, onN, onS, g5_13 do0, dn6, Int32.le_refl, if_true, ab_pIq o0 hz, q1, g0_17 Z2.1.o, q4.1, hs, if_false, ab_pIq Z2.1.o Z2.1.1, g0_18 wo0, wr0_18, g0_15 wo0, wr0_15, hc, g0_17 Z4.1.o, g17, hdiv]
theorem qx_wt {N E d : Nat} {qa : Nat → Nat → Nat} {y : Dy} : ∀ (j c n : Nat) (h : Hp), XD h N E d qa y → (∀ c' S, c' < c → c' < y.1 6 → 0 < S → S < 2 ^ y.1 5 → pc S ≤ hol y c' → aF h (N + 12) (64 * c' + S) = (bst y c' S).1) → ZL h N c → c + j = y.1 6 → j < n → ∃ h' m, fX1_share_l19 N n (nI c) h = fX1_share_l19 N (m + 1) (nI (y.1 6)) h' ∧ Fw N (Aw N) Bw h h' ∧ WT h' N y ∧ ZL h' N (y.1 6) := by
  intro j
  induction j with
  | zero =>
    intro c n h Z T z hc hn
    cases n with
    | zero => omega
    | succ n =>
      have e : c = y.1 6 := by omega
      exact ⟨h, n, by rw [e], Fw.rf, fun c' hc' S a b e' => T c' S (by omega) hc' a b e', by rw [← e]; exact z⟩
  | succ j ih =>
    intro c n h Z T z hc hn
    cases n with
    | zero => omega
    | succ n =>
      have hc6 : c < y.1 6 := by omega
      have h5 := Z.2.2.2.2.h5
      have h6 := Z.2.2.2.2.h6
      have h2 := two6 (y.1 5) h5.2
      have h1 : 1 ≤ 2 ^ y.1 5 := Nat.one_le_two_pow
      have f1 : Fw N (Aw N) Bw h (sA h (N + 13) c 0) := Fw.sA (by simp only [Aw]; omega)
      have Z1 := Z.fw f1 (fun q a => by simp only [Aw] at a; omega)
      have o13 : isA h (N + 13) 0 3 := by
        have hS := Z.1
        obtain ⟨hz, hfu0, o0, o1, r0_0, o2, r0_2, o3, r2_0, r2_1, o4, r2_2, o5, r0_8, o6, o7, o8, r6_0, r6_1, o9, o10, o11, r9_0, r9_1, o32, o33, o34, r32_0, r32_1, o35, o36, o37, r35_0, r35_1, o38, o39, o40, r38_0, r38_1, r0_9, r0_10, o12, r0_12, o13, r0_13, o14, r0_14, o15, r0_15, o16, r0_18, o17, r0_19, o18, r0_20, o19, r0_22, o20, r0_23, o21, r0_24, o22, r0_25, o23, r0_28, o24, r0_29, o25, r0_30, o26, r0_31, o27, r0_35, o28, r0_36, o29, r0_37, o30, r0_38, o31, r0_39, d5_0, d5_1, d5_2⟩ := id hS
        exact o13
      have T1 : TW (sA h (N + 13) c 0) N y c 1 := ⟨fun c' S a b e g i => by rw [aF_sA o13, if_neg (by omega)]; exact T c' S a b e g i, fun S a b => by omega⟩
      have z1 : ZL (sA h (N + 13) c 0) N (c + 1) := fun c' hc' => by
        rw [aF_sA o13, if_pos rfl, upd]
        by_cases e : c' = c
        · rw [if_pos e]
        · rw [if_neg e]; exact z c' (by omega)
      obtain ⟨h3, q1, q2, q3, q4⟩ := qx_wtL hc6 (K19 := fX1_share_l19 N n) (2 ^ y.1 5 - 1) 1 300000 _ Z1 T1 z1 (by omega) (by omega) (by omega)
      have Z3 := Z1.fw q2 (fun q a => by simp only [Aw] at a; omega)
      obtain ⟨h', m, s1, s2, s3, s4⟩ := ih (c + 1) n h3 Z3 (fun c' S a b e g i => by
        by_cases e' : c' = c
        · subst e'; exact q3.2 S e g i
        · exact q3.1 c' S (by omega) b e g i) q4 (by omega) (by omega)
      refine ⟨h', m, ?_, (f1.trans q2).trans s2, s3, s4⟩
      rw [← s1, ← q1]
      have hf1 := Z1.1.f
      obtain ⟨S, e1, D, lE, K⟩ := id Z
      obtain ⟨hz, hfu0, o0, o1, r0_0, o2, r0_2, o3, r2_0, r2_1, o4, r2_2, o5, r0_8, o6, o7, o8, r6_0, r6_1, o9, o10, o11, r9_0, r9_1, o32, o33, o34, r32_0, r32_1, o35, o36, o37, r35_0, r35_1, o38, o39, o40, r38_0, r38_1, r0_9, r0_10, o12, r0_12, o13, r0_13, o14, r0_14, o15, r0_15, o16, r0_18, o17, r0_19, o18, r0_20, o19, r0_22, o20, r0_23, o21, r0_24, o22, r0_25, o23, r0_28, o24, r0_29, o25, r0_30, o26, r0_31, o27, r0_35, o28, r0_36, o29, r0_37, o30, r0_38, o31, r0_39, d5_0, d5_1, d5_2⟩ := id S
      obtain ⟨dlo, do0, dr0, da0, dr1, da1, dr2, da2, dr3, da3, dr4, da4, dr5, da5, dr6, da6, dr7, da7, dr8, da8, dn2, dn3, dn4, dn5, dn6, dn8, dn9, dn7, dv17, dv18, dvf, dt0, dt1, dt2, dt3, dt4, dt5, dt6⟩ := id D
      obtain ⟨yc2, yc3, yc4, yc5, yc6, yc7, yc8, yc9, yyk, yyd, yyf, yyh, yyc, yyl, yyp, yyhot, yyby⟩ := id K
      simp only [fX1_share_l19, g0_3 o0, e1, bdS, b2S, bxL, bxR, onN, onS, g5_13 do0, dn6, nI_ge hc6 (by omega), if_false, g0_13 o0, r0_13, sIn o13 (show hfz h ≤ N + 13 by omega) (show c < 3 by omega), hf1]
      rfl
theorem x_fin2 {N E : Nat} {h h' : Hp} {yo : Option Dy} {s : St} {A B : Nat → Prop} (R : RXs h N E yo s) (f : Fw N A B (an h N) h') (hA0 : ∀ q, A q → N ≤ q ∧ q < N + 41) (hB : ∀ k, B k → ¬ (k = 1 ∨ k = 4 ∨ k = 5 ∨ k = 7 ∨ k = 16 ∨ k = 21 ∨ k = 26 ∨ k = 32 ∨ k = 40)) (hA : ∀ j, A (N + j) → ¬ (j = 1 ∨ j = 15 ∨ j = 18 ∨ j = 22 ∨ j = 25 ∨ (26 ≤ j ∧ j ≤ 40))) (w : Int32) (hw : w ≠ 4) : Fr N (N + 41) h (sI h' N 4 w) ∧ VX (sI h' N 4 w) N (m5 yo) (fin s w) := by
  obtain ⟨S, P, V, lE⟩ := R
  obtain ⟨f1, S1, Q1, t1⟩ := an_all S
  obtain ⟨f2, S2, Q2, t2⟩ := no_all (S1.kept f.1) w
  exact ⟨(f1.trans (f.fr (by omega) hA0)).trans f2, V.fin ((Q1.trans (f.svx (fun k hk => by have := hB k hk; omega) hA)).trans Q2) t2 hw⟩
theorem x_share {N E : Nat} : XOp N E (fX1_share N) (fun yo s => shareR yo s) := by
  intro h yo s R I
  obtain ⟨S, P, V, lE⟩ := id R
  obtain ⟨f1, S1, Q1, t1⟩ := an_all S
  have han : fX1_anew N h = some (an h N) := qx_anew S
  cases yo with
  | none =>
    obtain ⟨a1, a2⟩ := xq_end R 1 (by decide)
    refine ⟨_, ?_, a1, a2⟩
    have P1 : gR (an h N) N 3 = none := (P.kept f1.1 (fun q hq => f1.2 q (by omega)))
    simp only [fX1_share, ab_ckq S.o, han, bdS, b2S, bxL, bxR, onN, onS, g0_3 S1.o, P1, qx_no S1]
    rfl
  | some y =>
    obtain ⟨d, qa, e1, D, K⟩ := id P
    have Z := x_beg R e1 D
    have h6 := K.h6
    obtain ⟨h2, m, q1, q2, q3, q4⟩ := qx_wt (y.1 6) 0 300000 (an h N) Z (fun c' S a => by omega) (fun c' a => by omega) (by omega) (by omega)
    have Z2 := Z.fw q2 (fun q a => by simp only [Aw] at a; omega)
    obtain ⟨r1, r2⟩ := qx_shend Z2 q3 q4
    have hup : fX1_share N h = fX1_share_l19 N (m + 1) (nI (y.1 6)) h2 := by
      rw [← q1, nI_0]
      simp only [fX1_share, ab_ckq S.o, han, bdS, b2S, bxL, bxR, onN, onS, g0_3 S1.o, Z.2.1, S1.f]
    by_cases hs : (shr y).1 = -1
    · obtain ⟨h', g1, g2⟩ := r1 hs
      obtain ⟨a1, a2⟩ := x_fin2 R (q2.trans g1) (fun q a => by simp only [Aw] at a; omega) (fun k a => by simp only [Bw] at a; omega) (fun k a => by simp only [Aw] at a; omega) 6 (by decide)
      simp only [shareR, hs, if_true]
      exact ⟨_, hup.trans (g2 m), a1, a2⟩
    · obtain ⟨h', g1, g2, g3, g4⟩ := r2 hs
      have f9 := (q2.wide (fun q a => by simp only [Aw] at a; show Aw2 N q; simp only [Aw2]; omega) (fun k a => by simp only [Bw] at a; show Bw2 k; simp only [Bw2]; omega)).trans g1
      simp only [shareR, hs, if_false]
      refine ⟨_, hup.trans (g4 m), f1.trans (f9.fr (by omega) (fun q a => by simp only [Aw2] at a; omega)), ?_⟩
      obtain ⟨v1, v2, v3, v4, v5, v6, v7, v8, v9, v10, v11, v12, v13, v14, v15, v16, v17, v18, v19, v20, v21, v22, v23, v24⟩ := V.fin Q1 t1 (by decide)
      have gg : ∀ k, k ≠ 11 → k ≠ 17 → k ≠ 16 → gI h' N k = gI (an h N) N k := fun k h1 h2 h3 => f9.2.2 k (by simp only [Bw2]; omega)
      have aa : ∀ j, j ≠ 0 → (j < 6 ∨ 17 ≤ j) → aF h' (N + j) = aF (an h N) (N + j) := fun j h0 h1 => f9.aF (by omega) (by simp only [Aw2]; omega)
      refine ⟨(gg 1 (by omega) (by omega) (by omega)).trans v1, (gg 4 (by omega) (by omega) (by omega)).trans v2, (gg 5 (by omega) (by omega) (by omega)).trans v3, (gg 7 (by omega) (by omega) (by omega)).trans v4, g2, (gg 21 (by omega) (by omega) (by omega)).trans v6, (gg 26 (by omega) (by omega) (by omega)).trans v7, (gg 32 (by omega) (by omega) (by omega)).trans v8, (gg 40 (by omega) (by omega) (by omega)).trans v9, fun e => absurd e (show ¬ ((0 : Int32) = 4) from by decide), fun _ => rfl, (aa 1 (by omega) (by omega)).trans v12, (aa 28 (by omega) (by omega)).trans v13, (aa 27 (by omega) (by omega)).trans v14, (aa 29 (by omega) (by omega)).trans v15, (aa 30 (by omega) (by omega)).trans v16, (aa 31 (by omega) (by omega)).trans v17, fun _ j hj => ?_, ?_, ?_, ?_, fun c hc => (f9.gI (by omega) (by simp only [Aw2]; omega) 2).trans (v22 c hc), fun c hc k hk => by rw [aa (33 + 3 * c) (by omega) (by omega)]; exact v23 c hc k hk, fun c hc => by rw [aa 26 (by omega) (by omega)]; exact v24 c hc⟩
      · have hj : j < y.1 5 := hj
        rw [g3 j hj]
        show _ = if j < y.1 5 then _ else _
        rw [if_pos hj]
      · rw [aa 18 (by omega) (by omega)]; exact v19
      · rw [aa 22 (by omega) (by omega)]; exact v20
      · rw [aa 25 (by omega) (by omega)]; exact v21
