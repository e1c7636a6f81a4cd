/-! share: the component -/
def hol (y : Dy) (c : Nat) : Nat := (y.2 28 c).toNatClampNeg
theorem hol_ok {y : Dy} (K : Yk y) {c : Nat} (hc : c < y.1 6) : y.2 28 c = nI (hol y c) ∧ 1 ≤ hol y c ∧ hol y c ≤ 6 := by
  obtain ⟨c2, c3, c4, c5, c6, c7, c8, c9, yk, yd, yf, yh, yc, yl, yp, yhot, yby⟩ := id K
  obtain ⟨-, -, ⟨n, e, h1, h2⟩, -⟩ := yc c hc
  have : hol y c = n := by rw [hol, e, nI_clamp (by omega)]
  rw [this]
  exact ⟨e, h1, h2⟩
noncomputable def bBN (y : Dy) (c S : Nat) : Nat := pc (bN y c 0 (bst y c S).2)
noncomputable def bLN (y : Dy) (c S : Nat) : Nat := if S = 0 then 0 else (lastV y c (bst y c S).2).toNatClampNeg
theorem bBL {y : Dy} (K : Yk y) {c S : Nat} (hc : c < y.1 6) (hS : S < 64) (hS2 : S < 2 ^ y.1 5) : bBN y c S ≤ 6 ∧ bLN y c S ≤ 3100 ∧ (S ≠ 0 → (bst y c S).1 = nI (10000 * bBN y c S + bLN y c S) ∧ lastV y c (bst y c S).2 = nI (bLN y c S)) ∧ (S = 0 → bBN y c S = 0 ∧ bLN y c S = 0) := by
  obtain ⟨b1, b2, b3⟩ := bst_ok (y := y) (c := c) hS
  have hx := els_day (y.1 5) K.h5.2 S hS hS2
  have hp := pc_le S hS
  obtain ⟨n, e1, e2, e3, e4⟩ := wV_rng (c := c) K hc (l := (bst y c S).2) (by omega) (fun z hz => hx z (b2 z hz))
  have e5 : (lastV y c (bst y c S).2).toNatClampNeg = n := by rw [e1, nI_clamp (by omega)]
  refine ⟨e4, ?_, fun h0 => ?_, fun h0 => ?_⟩
  · unfold bLN
    split
    · omega
    · omega
  · rw [bLN, if_neg h0, e5]
    exact ⟨b3.trans e3, e1⟩
  · subst h0
    refine ⟨?_, by rw [bLN, if_pos rfl]⟩
    rw [bBN, bst_0, bV_nil]
    rfl
noncomputable def shB (y : Dy) (a : List Nat) : Nat := smF (fun c => bBN y c (ldF c a 0)) (y.1 6) 0
noncomputable def shL (y : Dy) (a : List Nat) : Nat := smF (fun c => bLN y c (ldF c a 0)) (y.1 6) 0
noncomputable def shV (y : Dy) (a : List Nat) : Nat := 10000 * shB y a + shL y a
def fitB (y : Dy) (a : List Nat) : Bool := (List.range (y.1 6)).all fun c => decide (a.count c ≤ hol y c)
theorem fitB_iff {y : Dy} {a : List Nat} : fitB y a = true ↔ ∀ c, c < y.1 6 → a.count c ≤ hol y c := by
  unfold fitB
  rw [List.all_eq_true]
  simp
noncomputable def shS (y : Dy) (st : Int32 × List Nat) (a : List Nat) : Int32 × List Nat := if fitB y a = true then (if st.1 = -1 then (nI (shV y a), a) else if nI (shV y a) < st.1 then (nI (shV y a), a) else st) else st
theorem shBL {y : Dy} (K : Yk y) {a : List Nat} (ha : a.length = y.1 5) : shB y a ≤ 18 ∧ shL y a ≤ 9300 := by
  have h5 := K.h5
  have h6 := K.h6
  have h1 : ∀ c, c < y.1 6 → bBN y c (ldF c a 0) ≤ 6 ∧ bLN y c (ldF c a 0) ≤ 3100 := fun c hc => by
    obtain ⟨l1, l2⟩ := ldF_64 c (l := a) (by omega)
    obtain ⟨b1, b2, -⟩ := bBL K hc l2 (by rw [← ha]; exact l1)
    exact ⟨b1, b2⟩
  have h2 := smF_le (f := fun c => bBN y c (ldF c a 0)) (b := 6) (y.1 6) 0 (fun j _ hj => (h1 j (by omega)).1)
  have h3 := smF_le (f := fun c => bLN y c (ldF c a 0)) (b := 3100) (y.1 6) 0 (fun j _ hj => (h1 j (by omega)).2)
  exact ⟨Nat.le_trans h2 (by omega), Nat.le_trans h3 (by omega)⟩
/-- the table of worths -/
def WT (h : Hp) (N : Nat) (y : Dy) : Prop := ∀ c, c < y.1 6 → ∀ S, 0 < S → S < 2 ^ y.1 5 → pc S ≤ hol y c → aF h (N + 12) (64 * c + S) = (bst y c S).1
def LC (h : Hp) (N : Nat) (y : Dy) (pre : List Nat) : Prop := (∀ c, c < y.1 6 → aF h (N + 13) c = nI (ldF c pre 0)) ∧ (∀ j, j < pre.length → aF h (N + 14) j = nI (pre.getD j 0)) ∧ ∀ c, c < y.1 6 → pre.count c ≤ hol y c
def OSh (h : Hp) (N : Nat) (y : Dy) (st : Int32 × List Nat) : Prop := gI h N 17 = st.1 ∧ (st.1 = -1 ∨ ∀ j, j < y.1 5 → aF h (N + 16) j = nI (st.2.getD j 0))
abbrev As (N : Nat) : Nat → Prop := fun q => q = N + 13 ∨ q = N + 14 ∨ q = N + 16
theorem shl64 : ∀ c, c < 3 → ((nI c) <<< ((6 : Int32) &&& 31)) = nI (64 * c) := by decide +kernel
theorem qx_shsum {N E d : Nat} {qa : Nat → Nat → Nat} {y : Dy} {h : Hp} {a : List Nat} (Z : XD h N E d qa y) (L : LC h N y a) (T : WT h N y) (ha : a.length = y.1 5) {rec : Int32 → Hp → Option Hp} {l1 : Int32} : ∀ (j k n acc : Nat), k + j = y.1 6 → j < n → fX1_shares_l15 N rec n l1 (nI acc) (nI k) h = if gI h N 17 = -1 then fX1_shares_b81 N rec l1 (nI (acc + smF (fun c => 10000 * bBN y c (ldF c a 0) + bLN y c (ldF c a 0)) j k)) h else if nI (acc + smF (fun c => 10000 * bBN y c (ldF c a 0) + bLN y c (ldF c a 0)) j k) < gI h N 17 then fX1_shares_b81 N rec l1 (nI (acc + smF (fun c => 10000 * bBN y c (ldF c a 0) + bLN y c (ldF c a 0)) j k)) h else some h := by
  have h5 := Z.2.2.2.2.h5
  have h6 := Z.2.2.2.2.h6
  intro j
  induction j with
  | zero =>
    intro k n acc hk hn
    cases n with
    | zero => omega
    | succ n =>
      obtain ⟨S, e1, D, lE, K⟩ := id Z
      obtain ⟨hz, hfu0, o0, o1, r0_0, o2, r0_2, o3, r2_0, r2_1, o4, r2_2, o5, r0_8, o6, o7, o8, r6_0, r6_1, o9, o10, o11, r9_0, r9_1, o32, o33, o34, r32_0, r32_1, o35, o36, o37, r35_0, r35_1, o38, o39, o40, r38_0, r38_1, r0_9, r0_10, o12, r0_12, o13, r0_13, o14, r0_14, o15, r0_15, o16, r0_18, o17, r0_19, o18, r0_20, o19, r0_22, o20, r0_23, o21, r0_24, o22, r0_25, o23, r0_28, o24, r0_29, o25, r0_30, o26, r0_31, o27, r0_35, o28, r0_36, o29, r0_37, o30, r0_38, o31, r0_39, d5_0, d5_1, d5_2⟩ := id S
      obtain ⟨dlo, do0, dr0, da0, dr1, da1, dr2, da2, dr3, da3, dr4, da4, dr5, da5, dr6, da6, dr7, da7, dr8, da8, dn2, dn3, dn4, dn5, dn6, dn8, dn9, dn7, dv17, dv18, dvf, dt0, dt1, dt2, dt3, dt4, dt5, dt6⟩ := id D
      obtain ⟨yc2, yc3, yc4, yc5, yc6, yc7, yc8, yc9, yyk, yyd, yyf, yyh, yyc, yyl, yyp, yyhot, yyby⟩ := id K
      simp only [fX1_shares_l15, g0_3 o0, e1, bdS, b2S, bxL, bxR, onN, onS, g5_13 do0, dn6, nI_le (show y.1 6 ≤ k by omega) (by omega), if_true, g0_17 o0, smF, Nat.add_zero]
      rfl
  | succ j ih =>
    intro k n acc hk hn
    cases n with
    | zero => omega
    | succ n =>
      have hk6 : k < y.1 6 := by omega
      obtain ⟨t1, t2⟩ := ldF_64 k (l := a) (by omega)
      rw [ha] at t1
      obtain ⟨b1, b2, b3, b4⟩ := bBL Z.2.2.2.2 hk6 t2 t1
      have el := L.1 k hk6
      obtain ⟨S, e1, D, lE, K⟩ := id Z
      obtain ⟨hz, hfu0, o0, o1, r0_0, o2, r0_2, o3, r2_0, r2_1, o4, r2_2, o5, r0_8, o6, o7, o8, r6_0, r6_1, o9, o10, o11, r9_0, r9_1, o32, o33, o34, r32_0, r32_1, o35, o36, o37, r35_0, r35_1, o38, o39, o40, r38_0, r38_1, r0_9, r0_10, o12, r0_12, o13, r0_13, o14, r0_14, o15, r0_15, o16, r0_18, o17, r0_19, o18, r0_20, o19, r0_22, o20, r0_23, o21, r0_24, o22, r0_25, o23, r0_28, o24, r0_29, o25, r0_30, o26, r0_31, o27, r0_35, o28, r0_36, o29, r0_37, o30, r0_38, o31, r0_39, d5_0, d5_1, d5_2⟩ := id S
      obtain ⟨dlo, do0, dr0, da0, dr1, da1, dr2, da2, dr3, da3, dr4, da4, dr5, da5, dr6, da6, dr7, da7, dr8, da8, dn2, dn3, dn4, dn5, dn6, dn8, dn9, dn7, dv17, dv18, dvf, dt0, dt1, dt2, dt3, dt4, dt5, dt6⟩ := id D
      obtain ⟨yc2, yc3, yc4, yc5, yc6, yc7, yc8, yc9, yyk, yyd, yyf, yyh, yyc, yyl, yyp, yyhot, yyby⟩ := id K
      by_cases h0 : ldF k a 0 = 0
      · obtain ⟨b5, b6⟩ := b4 h0
        have := ih (k + 1) n acc (by omega) (by omega)
        have e0 : nI acc + 0 = nI acc := Int32.add_zero _
        have es : smF (fun c => 10000 * bBN y c (ldF c a 0) + bLN y c (ldF c a 0)) (j + 1) k = smF (fun c => 10000 * bBN y c (ldF c a 0) + bLN y c (ldF c a 0)) j (k + 1) := by rw [smF, b5, b6]; omega
        rw [es]
        simp only [fX1_shares_l15, g0_3 o0, e1, bdS, b2S, bxL, bxR, onN, onS, g5_13 do0, dn6, nI_ge (show k < y.1 6 by omega) (by omega), if_false, g0_13 o0, r0_13, aIn o13 (show k < 3 by omega), el, h0, nI_0, if_true, e0, nI_1, this]
      · obtain ⟨b5, b6⟩ := b3 h0
        have hp : pc (ldF k a 0) ≤ hol y k := by rw [pc_ldF k a.length a rfl (by omega)]; exact L.2.2 k hk6
        have ew := T k hk6 _ (by omega) t1 hp
        have := ih (k + 1) n (acc + (10000 * bBN y k (ldF k a 0) + bLN y k (ldF k a 0))) (by omega) (by omega)
        have es : acc + smF (fun c => 10000 * bBN y c (ldF c a 0) + bLN y c (ldF c a 0)) (j + 1) k = acc + (10000 * bBN y k (ldF k a 0) + bLN y k (ldF k a 0)) + smF (fun c => 10000 * bBN y c (ldF c a 0) + bLN y c (ldF c a 0)) j (k + 1) := by rw [smF]; omega
        rw [es, ← this]
        have hn0 : ¬ nI (ldF k a 0) = 0 := fun e => h0 ((nI_z (by omega)).mp e)
        simp only [fX1_shares_l15, g0_3 o0, e1, bdS, b2S, bxL, bxR, onN, onS, g5_13 do0, dn6, nI_ge (show k < y.1 6 by omega) (by omega), if_false, g0_13 o0, r0_13, aIn o13 (show k < 3 by omega), el, hn0, g0_12 o0, r0_12, shl64 k (by omega), nI_add, aIn o12 (show 64 * k + ldF k a 0 < 192 by omega), ew, b5, nI_1]
theorem qx_shleaf {N E d : Nat} {qa : Nat → Nat → Nat} {y : Dy} {h : Hp} {a : List Nat} {st : Int32 × List Nat} (Z : XD h N E d qa y) (L : LC h N y a) (T : WT h N y) (ha : a.length = y.1 5) (o : OSh h N y st) (n : Nat) : ∃ h', fX1_shares (n + 1) N (nI a.length) h = some h' ∧ Fw N (As N) (Aq 17) h h' ∧ LC h' N y a ∧ OSh h' N y (shS y st a) := by
  have h5 := Z.2.2.2.2.h5
  have h6 := Z.2.2.2.2.h6
  have hfit : fitB y a = true := fitB_iff.mpr L.2.2
  have hs := qx_shsum Z L T ha (rec := fX1_shares n N) (l1 := nI a.length) (y.1 6) 0 300000 0 (by omega) (by omega)
  rw [smF_add (f := fun c => bBN y c (ldF c a 0)) (g := fun c => bLN y c (ldF c a 0)), Nat.zero_add] at hs
  have ev : 10000 * smF (fun c => bBN y c (ldF c a 0)) (y.1 6) 0 + smF (fun c => bLN y c (ldF c a 0)) (y.1 6) 0 = shV y a := rfl
  rw [ev, o.1, nI_0] at hs
  have hup : fX1_shares (n + 1) N (nI a.length) h = if st.1 = -1 then fX1_shares_b81 N (fX1_shares n N) (nI a.length) (nI (shV y a)) h else if nI (shV y a) < st.1 then fX1_shares_b81 N (fX1_shares n N) (nI a.length) (nI (shV y a)) h else some h := by
    rw [← hs]
    obtain ⟨S, e1, D, lE, K⟩ := id Z
    obtain ⟨hz, hfu0, o0, o1, r0_0, o2, r0_2, o3, r2_0, r2_1, o4, r2_2, o5, r0_8, o6, o7, o8, r6_0, r6_1, o9, o10, o11, r9_0, r9_1, o32, o33, o34, r32_0, r32_1, o35, o36, o37, r35_0, r35_1, o38, o39, o40, r38_0, r38_1, r0_9, r0_10, o12, r0_12, o13, r0_13, o14, r0_14, o15, r0_15, o16, r0_18, o17, r0_19, o18, r0_20, o19, r0_22, o20, r0_23, o21, r0_24, o22, r0_25, o23, r0_28, o24, r0_29, o25, r0_30, o26, r0_31, o27, r0_35, o28, r0_36, o29, r0_37, o30, r0_38, o31, r0_39, d5_0, d5_1, d5_2⟩ := id S
    obtain ⟨dlo, do0, dr0, da0, dr1, da1, dr2, da2, dr3, da3, dr4, da4, dr5, da5, dr6, da6, dr7, da7, dr8, da8, dn2, dn3, dn4, dn5, dn6, dn8, dn9, dn7, dv17, dv18, dvf, dt0, dt1, dt2, dt3, dt4, dt5, dt6⟩ := id D
    obtain ⟨yc2, yc3, yc4, yc5, yc6, yc7, yc8, yc9, yyk, yyd, yyf, yyh, yyc, yyl, yyp, yyhot, yyby⟩ := id K
    simp only [fX1_shares, ab_ckq o0, g0_3 o0, e1, bdS, b2S, bxL, bxR, onN, onS, g5_12 do0, dn5, ha, if_true, hfu0]
  have take : ∃ h', fX1_shares_b81 N (fX1_shares n N) (nI a.length) (nI (shV y a)) h = some h' ∧ Fw N (As N) (Aq 17) h h' ∧ LC h' N y a ∧ OSh h' N y (nI (shV y a), a) := by
    have f1 : Fw N (As N) (Aq 17) h (sI h N 17 (nI (shV y a))) := Fw.sI Z.1.o rfl rfl
    have Z1 := Z.fw f1 (fun q a => by simp only [As] at a; omega)
    have hz := Z1.1.1
    have hS1 := Z1.1
    obtain ⟨hz, hfu0, o0, o1, r0_0, o2, r0_2, o3, r2_0, r2_1, o4, r2_2, o5, r0_8, o6, o7, o8, r6_0, r6_1, o9, o10, o11, r9_0, r9_1, o32, o33, o34, r32_0, r32_1, o35, o36, o37, r35_0, r35_1, o38, o39, o40, r38_0, r38_1, r0_9, r0_10, o12, r0_12, o13, r0_13, o14, r0_14, o15, r0_15, o16, r0_18, o17, r0_19, o18, r0_20, o19, r0_22, o20, r0_23, o21, r0_24, o22, r0_25, o23, r0_28, o24, r0_29, o25, r0_30, o26, r0_31, o27, r0_35, o28, r0_36, o29, r0_37, o30, r0_38, o31, r0_39, d5_0, d5_1, d5_2⟩ := id hS1
    have hc := ab_cpyq o14 o16 (k := a.length) (by omega) (by omega) (by omega) (by omega) (by decide)
    have f2 : Fw N (As N) (Aq 17) (sI h N 17 (nI (shV y a))) (sF (sI h N 17 (nI (shV y a))) (N + 16) (va_cpy (aF (sI h N 17 (nI (shV y a))) (N + 14)) (aF (sI h N 17 (nI (shV y a))) (N + 16)) 0 0 a.length)) := Fw.sF (Or.inr (Or.inr rfl))
    refine ⟨_, ?_, f1.trans f2, ⟨fun c hc => ?_, fun j hj => ?_, L.2.2⟩, ⟨?_, Or.inr fun j hj => ?_⟩⟩
    · simp only [fX1_shares_b81, ab_pIq Z.1.o Z.1.1, bdS, b2S, bxL, bxR, onN, onS, g0_14 o0, r0_14, g0_18 o0, r0_18, hc]
    · rw [aF_sF o16, if_neg (by omega), aF_sI]; exact L.1 c hc
    · rw [aF_sF o16, if_neg (by omega), aF_sI]; exact L.2.1 j hj
    · rw [gI_sF, gI_sI Z.1.o, if_pos ⟨rfl, rfl⟩]
    · rw [aF_sF o16, if_pos rfl, aF_sI, va_cpy, if_pos (by omega), Nat.zero_add, Nat.sub_zero]
      exact L.2.1 j (by omega)
  rw [shS, if_pos hfit]
  by_cases c1 : st.1 = -1
  · rw [if_pos c1] at hup ⊢
    obtain ⟨h', b1, b2⟩ := take
    exact ⟨h', hup.trans b1, b2⟩
  · rw [if_neg c1] at hup ⊢
    by_cases c2 : nI (shV y a) < st.1
    · rw [if_pos c2] at hup ⊢
      obtain ⟨h', b1, b2⟩ := take
      exact ⟨h', hup.trans b1, b2⟩
    · rw [if_neg c2] at hup ⊢
      exact ⟨h, hup, Fw.rf, L, o⟩
theorem shS_noop {y : Dy} {pre : List Nat} : ∀ (L : List (List Nat)) (st : Int32 × List Nat), (∀ l ∈ L, fitB y (pre ++ l) = false) → L.foldl (fun s l => shS y s (pre ++ l)) st = st := by
  intro L
  induction L with
  | nil => intro st _; rfl
  | cons a t ih =>
    intro st h
    rw [List.foldl_cons, shS, h a List.mem_cons_self, if_neg (by decide)]
    exact ih st fun l hl => h l (List.mem_cons_of_mem _ hl)
/-- a house given to a car, and taken back -/
theorem LC.push {h : Hp} {N : Nat} {y : Dy} {pre : List Nat} {k : Nat} (S : SX h N) (K : Yk y) (L : LC h N y pre) (hk : k < y.1 6) (hl : pre.length < y.1 5) (hh : pre.count k < hol y k) : LC (sA (sA h (N + 13) k (nI (ldF k (pre ++ [k]) 0))) (N + 14) pre.length (nI k)) N y (pre ++ [k]) := by
  obtain ⟨L1, L2, L3⟩ := L
  have S1 : SX (sA h (N + 13) k (nI (ldF k (pre ++ [k]) 0))) N := S.kept Kp.sA
  have o13 : isA h (N + 13) 0 3 := by
    obtain ⟨hz, hfu0, o0, o1, r0_0, o2, r0_2, o3, r2_0, r2_1, o4, r2_2, o5, r0_8, o6, o7, o8, r6_0, r6_1, o9, o10, o11, r9_0, r9_1, o32, o33, o34, r32_0, r32_1, o35, o36, o37, r35_0, r35_1, o38, o39, o40, r38_0, r38_1, r0_9, r0_10, o12, r0_12, o13, r0_13, o14, r0_14, o15, r0_15, o16, r0_18, o17, r0_19, o18, r0_20, o19, r0_22, o20, r0_23, o21, r0_24, o22, r0_25, o23, r0_28, o24, r0_29, o25, r0_30, o26, r0_31, o27, r0_35, o28, r0_36, o29, r0_37, o30, r0_38, o31, r0_39, d5_0, d5_1, d5_2⟩ := id S
    exact o13
  obtain ⟨whz, whfu0, wo0, wo1, wr0_0, wo2, wr0_2, wo3, wr2_0, wr2_1, wo4, wr2_2, wo5, wr0_8, wo6, wo7, wo8, wr6_0, wr6_1, wo9, wo10, wo11, wr9_0, wr9_1, wo32, wo33, wo34, wr32_0, wr32_1, wo35, wo36, wo37, wr35_0, wr35_1, wo38, wo39, wo40, wr38_0, wr38_1, wr0_9, wr0_10, wo12, wr0_12, wo13, wr0_13, wo14, wr0_14, wo15, wr0_15, wo16, wr0_18, wo17, wr0_19, wo18, wr0_20, wo19, wr0_22, wo20, wr0_23, wo21, wr0_24, wo22, wr0_25, wo23, wr0_28, wo24, wr0_29, wo25, wr0_30, wo26, wr0_31, wo27, wr0_35, wo28, wr0_36, wo29, wr0_37, wo30, wr0_38, wo31, wr0_39, wd5_0, wd5_1, wd5_2⟩ := id S1
  refine ⟨fun c hc => ?_, fun j hj => ?_, fun c hc => ?_⟩
  · rw [aF_sA wo14, if_neg (by omega), aF_sA o13, if_pos rfl]
    by_cases e : c = k
    · subst e; simp [upd]
    · simp only [upd, e, if_false]
      rw [ldF_app, if_neg (fun z => e z.symm), Nat.add_zero]
      exact L1 c hc
  · rw [aF_sA wo14, if_pos rfl, aF_sA o13, if_neg (by omega)]
    rw [List.length_append] at hj
    have hj : j < pre.length + 1 := hj
    by_cases e : j = pre.length
    · subst e; rw [getD_app_e]; simp [upd]
    · rw [getD_app_l (by omega)]
      simp only [upd, e, if_false]
      exact L2 j (by omega)
  · rw [List.count_append]
    by_cases e : k = c
    · subst e; simp; omega
    · rw [List.count_cons]; simp [e]; exact L3 c hc
theorem LC.pop {h : Hp} {N : Nat} {y : Dy} {pre : List Nat} {k : Nat} (S : SX h N) (L : LC h N y (pre ++ [k])) (L0 : ∀ c, c < y.1 6 → pre.count c ≤ hol y c) : LC (sA h (N + 13) k (nI (ldF k pre 0))) N y pre := by
  obtain ⟨L1, L2, L3⟩ := L
  have o13 : isA h (N + 13) 0 3 := by
    obtain ⟨hz, hfu0, o0, o1, r0_0, o2, r0_2, o3, r2_0, r2_1, o4, r2_2, o5, r0_8, o6, o7, o8, r6_0, r6_1, o9, o10, o11, r9_0, r9_1, o32, o33, o34, r32_0, r32_1, o35, o36, o37, r35_0, r35_1, o38, o39, o40, r38_0, r38_1, r0_9, r0_10, o12, r0_12, o13, r0_13, o14, r0_14, o15, r0_15, o16, r0_18, o17, r0_19, o18, r0_20, o19, r0_22, o20, r0_23, o21, r0_24, o22, r0_25, o23, r0_28, o24, r0_29, o25, r0_30, o26, r0_31, o27, r0_35, o28, r0_36, o29, r0_37, o30, r0_38, o31, r0_39, d5_0, d5_1, d5_2⟩ := id S
    exact o13
  refine ⟨fun c hc => ?_, fun j hj => ?_, L0⟩
  · rw [aF_sA o13, if_pos rfl]
    by_cases e : c = k
    · subst e; simp [upd]
    · simp only [upd, e, if_false]
      rw [L1 c hc, ldF_app, if_neg (fun z => e z.symm), Nat.add_zero]
  · rw [aF_sA o13, if_neg (by omega), L2 j (by rw [List.length_append]; show j < pre.length + 1; omega), getD_app_l hj]
theorem qx_shr {N E d : Nat} {qa : Nat → Nat → Nat} {y : Dy} : ∀ (m n : Nat) (pre : List Nat) (st : Int32 × List Nat) (h : Hp), XD h N E d qa y → LC h N y pre → OSh h N y st → WT h N y → pre.length + m = y.1 5 → m < n → ∃ h', fX1_shares n N (nI pre.length) h = some h' ∧ Fw N (As N) (Aq 17) h h' ∧ LC h' N y pre ∧ OSh h' N y ((asgF (y.1 6) m).foldl (fun s l => shS y s (pre ++ l)) st) := by
  intro m
  induction m with
  | zero =>
    intro n pre st h Z L o T hp hn
    cases n with
    | zero => omega
    | succ n =>
      obtain ⟨h', q1, q2, q3, q4⟩ := qx_shleaf Z L T (by omega) o n
      refine ⟨h', q1, q2, q3, ?_⟩
      simpa [asgF] using q4
  | succ m ih =>
    intro n pre st h Z L o T hp hn
    cases n with
    | zero => omega
    | succ n =>
      have h5 := Z.2.2.2.2.h5
      have h6 := Z.2.2.2.2.h6
      have loop : ∀ (j k f : Nat) (st : Int32 × List Nat) (h : Hp), XD h N E d qa y → LC h N y pre → OSh h N y st → WT h N y → k + j = y.1 6 → j < f → ∃ h', fX1_shares_l103 N (fX1_shares n N) f (nI pre.length) (nI k) h = some h' ∧ Fw N (As N) (Aq 17) h h' ∧ LC h' N y pre ∧ OSh h' N y (((List.range' k j).flatMap fun c => (asgF (y.1 6) m).map (c :: ·)).foldl (fun s l => shS y s (pre ++ l)) st) := by
        intro j
        induction j with
        | zero =>
          intro k f st h Z L o T hk hf
          cases f with
          | zero => omega
          | succ f =>
            refine ⟨h, ?_, Fw.rf, L, o⟩
            obtain ⟨S, e1, D, lE, K⟩ := id Z
            obtain ⟨hz, hfu0, o0, o1, r0_0, o2, r0_2, o3, r2_0, r2_1, o4, r2_2, o5, r0_8, o6, o7, o8, r6_0, r6_1, o9, o10, o11, r9_0, r9_1, o32, o33, o34, r32_0, r32_1, o35, o36, o37, r35_0, r35_1, o38, o39, o40, r38_0, r38_1, r0_9, r0_10, o12, r0_12, o13, r0_13, o14, r0_14, o15, r0_15, o16, r0_18, o17, r0_19, o18, r0_20, o19, r0_22, o20, r0_23, o21, r0_24, o22, r0_25, o23, r0_28, o24, r0_29, o25, r0_30, o26, r0_31, o27, r0_35, o28, r0_36, o29, r0_37, o30, r0_38, o31, r0_39, d5_0, d5_1, d5_2⟩ := id S
            obtain ⟨dlo, do0, dr0, da0, dr1, da1, dr2, da2, dr3, da3, dr4, da4, dr5, da5, dr6, da6, dr7, da7, dr8, da8, dn2, dn3, dn4, dn5, dn6, dn8, dn9, dn7, dv17, dv18, dvf, dt0, dt1, dt2, dt3, dt4, dt5, dt6⟩ := id D
            obtain ⟨yc2, yc3, yc4, yc5, yc6, yc7, yc8, yc9, yyk, yyd, yyf, yyh, yyc, yyl, yyp, yyhot, yyby⟩ := id K
            simp only [fX1_shares_l103, g0_3 o0, e1, bdS, b2S, bxL, bxR, onN, onS, g5_13 do0, dn6, nI_le (show y.1 6 ≤ k by omega) (by omega), if_true]
        | succ j ihj =>
          intro k f st h Z L o T hk hf
          cases f with
          | zero => omega
          | succ f =>
            have hk6 : k < y.1 6 := by omega
            obtain ⟨t1, t2⟩ := ldF_64 k (l := pre) (by omega)
            obtain ⟨u1, u2, u3⟩ := hol_ok Z.2.2.2.2 hk6
            have hpc := pc_ldF k pre.length pre rfl (by omega)
            have ho := qx_ones (h := h) Z.1.f t2
            rw [hpc] at ho
            have hcl : pre.count k ≤ 6 := Nat.le_trans List.count_le_length (by omega)
            rw [List.range'_succ, List.flatMap_cons, List.foldl_append, List.foldl_map]
            by_cases he : pre.count k = hol y k
            · have hno : (asgF (y.1 6) m).foldl (fun s l => shS y s (pre ++ k :: l)) st = st := by
                have := shS_noop (y := y) (pre := pre) ((asgF (y.1 6) m).map (k :: ·)) st (fun l hl => by
                  obtain ⟨l', -, rfl⟩ := List.mem_map.mp hl
                  cases hb : fitB y (pre ++ k :: l') with
                  | false => rfl
                  | true =>
                    have := fitB_iff.mp hb k hk6
                    rw [List.count_append, List.count_cons_self] at this
                    omega)
                rw [List.foldl_map] at this
                exact this
              rw [hno]
              obtain ⟨h', s1, s2, s3, s4⟩ := ihj (k + 1) f st h Z L o T (by omega) (by omega)
              refine ⟨h', ?_, s2, s3, s4⟩
              obtain ⟨S, e1, D, lE, K⟩ := id Z
              obtain ⟨hz, hfu0, o0, o1, r0_0, o2, r0_2, o3, r2_0, r2_1, o4, r2_2, o5, r0_8, o6, o7, o8, r6_0, r6_1, o9, o10, o11, r9_0, r9_1, o32, o33, o34, r32_0, r32_1, o35, o36, o37, r35_0, r35_1, o38, o39, o40, r38_0, r38_1, r0_9, r0_10, o12, r0_12, o13, r0_13, o14, r0_14, o15, r0_15, o16, r0_18, o17, r0_19, o18, r0_20, o19, r0_22, o20, r0_23, o21, r0_24, o22, r0_25, o23, r0_28, o24, r0_29, o25, r0_30, o26, r0_31, o27, r0_35, o28, r0_36, o29, r0_37, o30, r0_38, o31, r0_39, d5_0, d5_1, d5_2⟩ := id S
              obtain ⟨dlo, do0, dr0, da0, dr1, da1, dr2, da2, dr3, da3, dr4, da4, dr5, da5, dr6, da6, dr7, da7, dr8, da8, dn2, dn3, dn4, dn5, dn6, dn8, dn9, dn7, dv17, dv18, dvf, dt0, dt1, dt2, dt3, dt4, dt5, dt6⟩ := id D
              obtain ⟨yc2, yc3, yc4, yc5, yc6, yc7, yc8, yc9, yyk, yyd, yyf, yyh, yyc, yyl, yyp, yyhot, yyby⟩ := id K
              obtain ⟨z1, z2, z3, z4, z5, z6⟩ := dt4 k hk6
              simp only [fX1_shares_l103, g0_3 o0, e1, bdS, b2S, bxL, bxR, onN, onS, g5_13 do0, dn6, nI_ge hk6 (by omega), if_false, g0_13 o0, r0_13, aIn o13 (show k < 3 by omega), L.1 k hk6, ho, g5_4 do0, dr4, aRn da4 (show k < 3 by omega), z2, g10_4 z3, z5, u1, he, if_true, nI_1]
              exact s1
            · have hlt : pre.count k < hol y k := by have := L.2.2 k hk6; omega
              obtain ⟨v1, v2, v3, v4⟩ := top_bit pre.length (by omega) _ t2 t1
              have hld : ldF k (pre ++ [k]) 0 = ldF k pre 0 + 2 ^ pre.length := by rw [ldF_app, if_pos rfl, Nat.zero_add]
              have Lp := L.push Z.1 Z.2.2.2.2 hk6 (by omega) hlt
              have f1 : Fw N (As N) (Aq 17) h (sA h (N + 13) k (nI (ldF k (pre ++ [k]) 0))) := Fw.sA (Or.inl rfl)
              have Z1 := Z.fw f1 (fun q a => by simp only [As] at a; omega)
              have f2 : Fw N (As N) (Aq 17) (sA h (N + 13) k (nI (ldF k (pre ++ [k]) 0))) (sA (sA h (N + 13) k (nI (ldF k (pre ++ [k]) 0))) (N + 14) pre.length (nI k)) := Fw.sA (Or.inr (Or.inl rfl))
              have Z2 := Z1.fw f2 (fun q a => by simp only [As] at a; omega)
              have f12 := f1.trans f2
              have o2 : OSh (sA (sA h (N + 13) k (nI (ldF k (pre ++ [k]) 0))) (N + 14) pre.length (nI k)) N y st := ⟨by rw [gI_sA, gI_sA]; exact o.1, o.2.imp id fun z j hj => by
                have hS1 := Z1.1
                have hS := Z.1
                obtain ⟨whz, whfu0, wo0, wo1, wr0_0, wo2, wr0_2, wo3, wr2_0, wr2_1, wo4, wr2_2, wo5, wr0_8, wo6, wo7, wo8, wr6_0, wr6_1, wo9, wo10, wo11, wr9_0, wr9_1, wo32, wo33, wo34, wr32_0, wr32_1, wo35, wo36, wo37, wr35_0, wr35_1, wo38, wo39, wo40, wr38_0, wr38_1, wr0_9, wr0_10, wo12, wr0_12, wo13, wr0_13, wo14, wr0_14, wo15, wr0_15, wo16, wr0_18, wo17, wr0_19, wo18, wr0_20, wo19, wr0_22, wo20, wr0_23, wo21, wr0_24, wo22, wr0_25, wo23, wr0_28, wo24, wr0_29, wo25, wr0_30, wo26, wr0_31, wo27, wr0_35, wo28, wr0_36, wo29, wr0_37, wo30, wr0_38, wo31, wr0_39, wd5_0, wd5_1, wd5_2⟩ := id hS1
                obtain ⟨uhz, uhfu0, uo0, uo1, ur0_0, uo2, ur0_2, uo3, ur2_0, ur2_1, uo4, ur2_2, uo5, ur0_8, uo6, uo7, uo8, ur6_0, ur6_1, uo9, uo10, uo11, ur9_0, ur9_1, uo32, uo33, uo34, ur32_0, ur32_1, uo35, uo36, uo37, ur35_0, ur35_1, uo38, uo39, uo40, ur38_0, ur38_1, ur0_9, ur0_10, uo12, ur0_12, uo13, ur0_13, uo14, ur0_14, uo15, ur0_15, uo16, ur0_18, uo17, ur0_19, uo18, ur0_20, uo19, ur0_22, uo20, ur0_23, uo21, ur0_24, uo22, ur0_25, uo23, ur0_28, uo24, ur0_29, uo25, ur0_30, uo26, ur0_31, uo27, ur0_35, uo28, ur0_36, uo29, ur0_37, uo30, ur0_38, uo31, ur0_39, ud5_0, ud5_1, ud5_2⟩ := id hS
                rw [aF_sA wo14, if_neg (by omega), aF_sA uo13, if_neg (by omega)]; exact z j hj⟩
              have T2 : WT (sA (sA h (N + 13) k (nI (ldF k (pre ++ [k]) 0))) (N + 14) pre.length (nI k)) N y := fun c hc S h1 h2 h3 => by rw [f12.aF (by omega) (by simp only [As]; omega)]; exact T c hc S h1 h2 h3
              have hlen : (pre ++ [k]).length = pre.length + 1 := by rw [List.length_append]; rfl
              obtain ⟨h3, r1, r2, r3, r4⟩ := ih n (pre ++ [k]) st _ Z2 Lp o2 T2 (by omega) (by omega)
              have Z3 := Z2.fw r2 (fun q a => by simp only [As] at a; omega)
              have f3 : Fw N (As N) (Aq 17) h3 (sA h3 (N + 13) k (nI (ldF k pre 0))) := Fw.sA (Or.inl rfl)
              have Z4 := Z3.fw f3 (fun q a => by simp only [As] at a; omega)
              have L4 := r3.pop Z3.1 L.2.2
              have e1' : ∀ (L : List (List Nat)) (s : Int32 × List Nat), L.foldl (fun x y_1 => shS y x (pre ++ k :: y_1)) s = L.foldl (fun s l => shS y s (pre ++ [k] ++ l)) s := by
                intro L s
                congr 1
                funext s l
                simp
              have o4 : OSh (sA h3 (N + 13) k (nI (ldF k pre 0))) N y ((asgF (y.1 6) m).foldl (fun s l => shS y s (pre ++ k :: l)) st) := by
                rw [e1']
                refine ⟨by rw [gI_sA]; exact r4.1, r4.2.imp id fun z j hj => ?_⟩
                have hS3 := Z3.1
                obtain ⟨whz, whfu0, wo0, wo1, wr0_0, wo2, wr0_2, wo3, wr2_0, wr2_1, wo4, wr2_2, wo5, wr0_8, wo6, wo7, wo8, wr6_0, wr6_1, wo9, wo10, wo11, wr9_0, wr9_1, wo32, wo33, wo34, wr32_0, wr32_1, wo35, wo36, wo37, wr35_0, wr35_1, wo38, wo39, wo40, wr38_0, wr38_1, wr0_9, wr0_10, wo12, wr0_12, wo13, wr0_13, wo14, wr0_14, wo15, wr0_15, wo16, wr0_18, wo17, wr0_19, wo18, wr0_20, wo19, wr0_22, wo20, wr0_23, wo21, wr0_24, wo22, wr0_25, wo23, wr0_28, wo24, wr0_29, wo25, wr0_30, wo26, wr0_31, wo27, wr0_35, wo28, wr0_36, wo29, wr0_37, wo30, wr0_38, wo31, wr0_39, wd5_0, wd5_1, wd5_2⟩ := id hS3
                rw [aF_sA wo13, if_neg (by omega)]; exact z j hj
              have T4 : WT (sA h3 (N + 13) k (nI (ldF k pre 0))) N y := fun c hc S h1 h2 h3' => by
                rw [f3.aF (by omega) (by simp only [As]; omega), r2.aF (by omega) (by simp only [As]; omega)]; exact T2 c hc S h1 h2 h3'
              obtain ⟨h', s1, s2, s3, s4⟩ := ihj (k + 1) f _ _ Z4 L4 o4 T4 (by omega) (by omega)
              refine ⟨h', ?_, (f12.trans r2).trans (f3.trans s2), s3, s4⟩
              rw [← s1]
              rw [hlen] at r1
              have hne : ¬ nI (pre.count k) = nI (hol y k) := fun e => he ((nI_eq (by omega) (by omega)).mp e)
              have hz := Z.1.1
              have hz1 := Z1.1.1
              have hz3 := Z3.1.1
              have hS1 := Z1.1
              have hS3 := Z3.1
              obtain ⟨whz, whfu0, wo0, wo1, wr0_0, wo2, wr0_2, wo3, wr2_0, wr2_1, wo4, wr2_2, wo5, wr0_8, wo6, wo7, wo8, wr6_0, wr6_1, wo9, wo10, wo11, wr9_0, wr9_1, wo32, wo33, wo34, wr32_0, wr32_1, wo35, wo36, wo37, wr35_0, wr35_1, wo38, wo39, wo40, wr38_0, wr38_1, wr0_9, wr0_10, wo12, wr0_12, wo13, wr0_13, wo14, wr0_14, wo15, wr0_15, wo16, wr0_18, wo17, wr0_19, wo18, wr0_20, wo19, wr0_22, wo20, wr0_23, wo21, wr0_24, wo22, wr0_25, wo23, wr0_28, wo24, wr0_29, wo25, wr0_30, wo26, wr0_31, wo27, wr0_35, wo28, wr0_36, wo29, wr0_37, wo30, wr0_38, wo31, wr0_39, wd5_0, wd5_1, wd5_2⟩ := id hS1
              obtain ⟨uhz, uhfu0, uo0, uo1, ur0_0, uo2, ur0_2, uo3, ur2_0, ur2_1, uo4, ur2_2, uo5, ur0_8, uo6, uo7, uo8, ur6_0, ur6_1, uo9, uo10, uo11, ur9_0, ur9_1, uo32, uo33, uo34, ur32_0, ur32_1, uo35, uo36, uo37, ur35_0, ur35_1, uo38, uo39, uo40, ur38_0, ur38_1, ur0_9, ur0_10, uo12, ur0_12, uo13, ur0_13, uo14, ur0_14, uo15, ur0_15, uo16, ur0_18, uo17, ur0_19, uo18, ur0_20, uo19, ur0_22, uo20, ur0_23, uo21, ur0_24, uo22, ur0_25, uo23, ur0_28, uo24, ur0_29, uo25, ur0_30, uo26, ur0_31, uo27, ur0_35, uo28, ur0_36, uo29, ur0_37, uo30, ur0_38, uo31, ur0_39, ud5_0, ud5_1, ud5_2⟩ := id hS3
              obtain ⟨S, e1, D, lE, K⟩ := id Z
              obtain ⟨hz, hfu0, o0, o1, r0_0, o2, r0_2, o3, r2_0, r2_1, o4, r2_2, o5, r0_8, o6, o7, o8, r6_0, r6_1, o9, o10, o11, r9_0, r9_1, o32, o33, o34, r32_0, r32_1, o35, o36, o37, r35_0, r35_1, o38, o39, o40, r38_0, r38_1, r0_9, r0_10, o12, r0_12, o13, r0_13, o14, r0_14, o15, r0_15, o16, r0_18, o17, r0_19, o18, r0_20, o19, r0_22, o20, r0_23, o21, r0_24, o22, r0_25, o23, r0_28, o24, r0_29, o25, r0_30, o26, r0_31, o27, r0_35, o28, r0_36, o29, r0_37, o30, r0_38, o31, r0_39, d5_0, d5_1, d5_2⟩ := id S
              obtain ⟨dlo, do0, dr0, da0, dr1, da1, dr2, da2, dr3, da3, dr4, da4, dr5, da5, dr6, da6, dr7, da7, dr8, da8, dn2, dn3, dn4, dn5, dn6, dn8, dn9, dn7, dv17, dv18, dvf, dt0, dt1, dt2, dt3, dt4, dt5, dt6⟩ := id D
              obtain ⟨yc2, yc3, yc4, yc5, yc6, yc7, yc8, yc9, yyk, yyd, yyf, yyh, yyc, yyl, yyp, yyhot, yyby⟩ := id K
              obtain ⟨z1, z2, z3, z4, z5, z6⟩ := dt4 k hk6
              have hld3 : aF h3 (N + 13) k = nI (ldF k pre 0 + 2 ^ pre.length) := by rw [r3.1 k hk6, hld]
              have r1' : fX1_shares n N (nI (pre.length + 1)) (sA (sA h (N + 13) k (nI (ldF k pre 0 + 2 ^ pre.length))) (N + 14) pre.length (nI k)) = some h3 := by rw [← hld]; exact r1
              simp only [fX1_shares_l103, g0_3 o0, e1, bdS, b2S, bxL, bxR, onN, onS, g5_13 do0, dn6, nI_ge hk6 (by omega), if_false, g0_13 o0, r0_13, aIn o13 (show k < 3 by omega), L.1 k hk6, ho, g5_4 do0, dr4, aRn da4 (show k < 3 by omega), z2, g10_4 z3, z5, u1, hne, v1, sIn o13 (show hfz h ≤ N + 13 by omega) (show k < 3 by omega)]
              rw [← hld]
              simp only [g0_14 wo0, wr0_14, bdS, b2S, bxL, bxR, onN, onS, sIn wo14 (show hfz (sA h (N + 13) k (nI (ldF k (pre ++ [k]) 0))) ≤ N + 14 by omega) (show pre.length < 6 by omega), nI_1, r1, g0_13 uo0, ur0_13, aIn uo13 (show k < 3 by omega), hld3, v2, sIn uo13 (show hfz h3 ≤ N + 13 by omega) (show k < 3 by omega)]
      obtain ⟨h', s1, s2, s3, s4⟩ := loop (y.1 6) 0 300000 st h Z L o T (by omega) (by omega)
      refine ⟨h', ?_, s2, s3, ?_⟩
      · rw [nI_0] at s1
        obtain ⟨S, e1, D, lE, K⟩ := id Z
        obtain ⟨hz, hfu0, o0, o1, r0_0, o2, r0_2, o3, r2_0, r2_1, o4, r2_2, o5, r0_8, o6, o7, o8, r6_0, r6_1, o9, o10, o11, r9_0, r9_1, o32, o33, o34, r32_0, r32_1, o35, o36, o37, r35_0, r35_1, o38, o39, o40, r38_0, r38_1, r0_9, r0_10, o12, r0_12, o13, r0_13, o14, r0_14, o15, r0_15, o16, r0_18, o17, r0_19, o18, r0_20, o19, r0_22, o20, r0_23, o21, r0_24, o22, r0_25, o23, r0_28, o24, r0_29, o25, r0_30, o26, r0_31, o27, r0_35, o28, r0_36, o29, r0_37, o30, r0_38, o31, r0_39, d5_0, d5_1, d5_2⟩ := id S
        obtain ⟨dlo, do0, dr0, da0, dr1, da1, dr2, da2, dr3, da3, dr4, da4, dr5, da5, dr6, da6, dr7, da7, dr8, da8, dn2, dn3, dn4, dn5, dn6, dn8, dn9, dn7, dv17, dv18, dvf, dt0, dt1, dt2, dt3, dt4, dt5, dt6⟩ := id D
        obtain ⟨yc2, yc3, yc4, yc5, yc6, yc7, yc8, yc9, yyk, yyd, yyf, yyh, yyc, yyl, yyp, yyhot, yyby⟩ := id K
        simp only [fX1_shares, ab_ckq o0, g0_3 o0, e1, bdS, b2S, bxL, bxR, onN, onS, g5_12 do0, dn5, nI_eq (show pre.length < 2 ^ 31 by omega) (show y.1 5 < 2 ^ 31 by omega), show ¬ pre.length = y.1 5 by omega, if_false, hfu0]
        exact s1
      · rw [asgF, List.range_eq_range']
        exact s4
