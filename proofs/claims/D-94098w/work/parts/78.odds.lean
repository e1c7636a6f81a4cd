/-! odds: both sides -/
def XOpJ (N E : Nat) (f : Hp → Option (Int64 × Hp)) (op : Option Dy → St → Int64 × St) : Prop := ∀ h yo s, RXs h N E yo s → Inv yo s → ∃ h', f h = some ((op yo s).1, h') ∧ Fr N (N + 41) h h' ∧ VX h' N (m5 yo) (op yo s).2
def MOpJ (N E : Nat) (f : Hp → Option (Int64 × Hp)) (op : Option Dy → St → Int64 × St) : Prop := ∀ h yo s, RMs h N E yo s → Inv yo s → ∃ h', f h = some ((op yo s).1, h') ∧ Fr N (N + 21) h h' ∧ VM h' N (op yo s).2
noncomputable def oddsR (yo : Option Dy) (s : St) (x : Int32) : Int64 × St := onI yo 6 x ((-1 : Int32).toInt64, fin s 1) fun y c => (osF y c (s.1 c) (s.1 c) 0 1, fin s 0)
theorem qx_prod {h : Hp} {N E d : Nat} {qa : Nat → Nat → Nat} {y : Dy} (Z : XD h N E d qa y) {A s : Nat} (hA : A < 64) (hx : ∀ x ∈ els A, x < y.1 5) {K34 : Int32 → Int32 → Int64 → Int32 → Hp → Option (Int64 × Hp)} {l1 : Int32} {l3 : Int64} : ∀ (j k n : Nat) (p : Int64), k + j = y.1 5 → j < n → fX1_odds_l71 N K34 n l1 (nI A) l3 (nI s) p (nI k) h = K34 l1 (nI A) (l3 + ((els A).filter (fun z => decide (k ≤ z))).foldl (fun a x => a * gxF y s x) p) (nI (s + 1)) h := by
  have h5 := Z.2.2.2.2.h5
  intro j
  induction j with
  | zero =>
    intro k n p hk hn
    cases n with
    | zero => omega
    | succ n =>
      rw [fil_end (fun x hx' => by have := hx x hx'; omega)]
      obtain ⟨S, e1, D, lE, K⟩ := id Z
      obtain ⟨hz, hfu0, o0, o1, r0_0, o2, r0_2, o3, r2_0, r2_1, o4, r2_2, o5, r0_8, o6, o7, o8, r6_0, r6_1, o9, o10, o11, r9_0, r9_1, o32, o33, o34, r32_0, r32_1, o35, o36, o37, r35_0, r35_1, o38, o39, o40, r38_0, r38_1, r0_9, r0_10, o12, r0_12, o13, r0_13, o14, r0_14, o15, r0_15, o16, r0_18, o17, r0_19, o18, r0_20, o19, r0_22, o20, r0_23, o21, r0_24, o22, r0_25, o23, r0_28, o24, r0_29, o25, r0_30, o26, r0_31, o27, r0_35, o28, r0_36, o29, r0_37, o30, r0_38, o31, r0_39, d5_0, d5_1, d5_2⟩ := id S
      obtain ⟨dlo, do0, dr0, da0, dr1, da1, dr2, da2, dr3, da3, dr4, da4, dr5, da5, dr6, da6, dr7, da7, dr8, da8, dn2, dn3, dn4, dn5, dn6, dn8, dn9, dn7, dv17, dv18, dvf, dt0, dt1, dt2, dt3, dt4, dt5, dt6⟩ := id D
      obtain ⟨yc2, yc3, yc4, yc5, yc6, yc7, yc8, yc9, yyk, yyd, yyf, yyh, yyc, yyl, yyp, yyhot, yyby⟩ := id K
      simp only [fX1_odds_l71, g0_3 o0, e1, bdS, b2S, bxL, bxR, onN, onS, g5_12 do0, dn5, nI_le (show y.1 5 ≤ k by omega) (by omega), if_true, List.foldl_nil, nI_1]
  | succ j ih =>
    intro k n p hk hn
    cases n with
    | zero => omega
    | succ n =>
      have hk5 : k < y.1 5 := by omega
      have hl1 := qx_lies (nI A) k h
      rw [els_lie A hA k (by omega)] at hl1
      have hl2 := qx_lies (nI s) k h
      rw [els_fil A hA k (by omega)]
      obtain ⟨S, e1, D, lE, K⟩ := id Z
      obtain ⟨hz, hfu0, o0, o1, r0_0, o2, r0_2, o3, r2_0, r2_1, o4, r2_2, o5, r0_8, o6, o7, o8, r6_0, r6_1, o9, o10, o11, r9_0, r9_1, o32, o33, o34, r32_0, r32_1, o35, o36, o37, r35_0, r35_1, o38, o39, o40, r38_0, r38_1, r0_9, r0_10, o12, r0_12, o13, r0_13, o14, r0_14, o15, r0_15, o16, r0_18, o17, r0_19, o18, r0_20, o19, r0_22, o20, r0_23, o21, r0_24, o22, r0_25, o23, r0_28, o24, r0_29, o25, r0_30, o26, r0_31, o27, r0_35, o28, r0_36, o29, r0_37, o30, r0_38, o31, r0_39, d5_0, d5_1, d5_2⟩ := id S
      obtain ⟨dlo, do0, dr0, da0, dr1, da1, dr2, da2, dr3, da3, dr4, da4, dr5, da5, dr6, da6, dr7, da7, dr8, da8, dn2, dn3, dn4, dn5, dn6, dn8, dn9, dn7, dv17, dv18, dvf, dt0, dt1, dt2, dt3, dt4, dt5, dt6⟩ := id D
      obtain ⟨yc2, yc3, yc4, yc5, yc6, yc7, yc8, yc9, yyk, yyd, yyf, yyh, yyc, yyl, yyp, yyhot, yyby⟩ := id K
      obtain ⟨z1, z2, z3, z4, z5, z6, z7, z8⟩ := dt3 k hk5
      by_cases hm : k ∈ els A
      · rw [if_pos hm, List.foldl_cons]
        have := ih (k + 1) n (p * gxF y s k) (by omega) (by omega)
        rw [← this]
        by_cases hs : lieB (nI s) k
        · simp only [fX1_odds_l71, g0_3 o0, e1, bdS, b2S, bxL, bxR, onN, onS, g5_12 do0, dn5, nI_ge hk5 (by omega), if_false, g5_3 do0, dr3, aRn da3 (show k < 6 by omega), z2, g9_5 z3, z7, hl1, hm, decide_true, if_true, show ¬ ((1 : Int32) = 0) from by decide, hl2, hs, nI_1, gxF, chY]
        · simp only [fX1_odds_l71, g0_3 o0, e1, bdS, b2S, bxL, bxR, onN, onS, g5_12 do0, dn5, nI_ge hk5 (by omega), if_false, g5_3 do0, dr3, aRn da3 (show k < 6 by omega), z2, g9_5 z3, z7, hl1, hm, decide_true, if_true, show ¬ ((1 : Int32) = 0) from by decide, hl2, hs, nI_1, gxF, ncY]
          rfl
      · rw [if_neg hm]
        have := ih (k + 1) n p (by omega) (by omega)
        have e9 : p * (1 : Int64) = p := Int64.mul_one p
        simp only [fX1_odds_l71, g0_3 o0, e1, bdS, b2S, bxL, bxR, onN, onS, g5_12 do0, dn5, nI_ge hk5 (by omega), if_false, g5_3 do0, dr3, aRn da3 (show k < 6 by omega), z2, g9_5 z3, z7, hl1, hm, decide_false, Bool.false_eq_true, if_true, e9, nI_1, this]
theorem qx_oddsL {N E d : Nat} {qa : Nat → Nat → Nat} {y : Dy} {c : Nat} {rd : Nat → List Nat} (H : RH y rd) (hc : c < y.1 6) {A : Nat} (hA : A < 64) (hx : ∀ x ∈ els A, x < y.1 5) : ∀ (j k n : Nat) (acc : Int64) (h : Hp), XD h N E d qa y → XR h N rd → k + j = A + 1 → j < n → ∃ h', fX1_odds_l34 N n (nI c) (nI A) acc (nI k) h = some (acc + slJ (fun s => if bV y c (nI s) (rd c) = 0 then (els A).foldl (fun a x => a * gxF y s x) 1 else 0) ((List.range' k j).filter (fun s => decide ((nI s &&& (nI A ^^^ (-1 : Int32))) = 0))), h') ∧ Fr (N + (32 + 3 * c)) (N + (32 + 3 * c) + 3) h h' ∧ SVX h h' N := by
  intro j
  induction j with
  | zero =>
    intro k n acc h Z R hk hn
    cases n with
    | zero => omega
    | succ n =>
      refine ⟨h, ?_, Fr.rf, SVX.rf⟩
      simp only [fX1_odds_l34, nI_lt (show A < k by omega) (by omega), if_true, List.range'_zero, List.filter_nil, slJ, Int64.add_zero]
  | succ j ih =>
    intro k n acc h Z R hk hn
    cases n with
    | zero => omega
    | succ n =>
      have hc3 : c < 3 := by have := Z.2.2.2.2.h6; omega
      rw [List.range'_succ]
      by_cases hs : (nI k &&& (nI A ^^^ (-1 : Int32))) = 0
      · rw [List.filter_cons_of_pos (by simpa using hs), slJ]
        obtain ⟨h1, q1, q2, q3, q4, q5, q6, q7⟩ := qx_walked Z R H hc (nI k)
        have Z1 := Z.kept (q2.wide (by omega) (by omega))
        have Ro := (SX.ro Z.1 hc3).1.kept q2.1
        by_cases hb : bV y c (nI k) (rd c) = 0
        · obtain ⟨h', s1, s2, s3⟩ := ih (k + 1) n (acc + (els A).foldl (fun a x => a * gxF y k x) 1) h1 Z1 q7 (by omega) (by omega)
          refine ⟨h', ?_, q2.trans s2, q6.trans s3⟩
          have hp := qx_prod Z1 (s := k) hA hx (K34 := fX1_odds_l34 N n) (l1 := nI c) (l3 := acc) (y.1 5) 0 300000 1 (by omega) (by have := Z.2.2.2.2.h5; omega)
          rw [fil_0, nI_0, s1] at hp
          simp only [fX1_odds_l34, nI_nlt (show k ≤ A by omega) (show A < 2 ^ 31 by omega), if_false, if_pos hs, q1, bdS, b2S, bxL, bxR, onN, onS, g3_3 Ro.2.2.1, q4, if_pos hb, Z1.1.f, hp, Int64.add_assoc]
        · obtain ⟨h', s1, s2, s3⟩ := ih (k + 1) n acc h1 Z1 q7 (by omega) (by omega)
          refine ⟨h', ?_, q2.trans s2, q6.trans s3⟩
          simp only [fX1_odds_l34, nI_nlt (show k ≤ A by omega) (show A < 2 ^ 31 by omega), if_false, if_pos hs, q1, bdS, b2S, bxL, bxR, onN, onS, g3_3 Ro.2.2.1, q4, if_neg hb, nI_1, s1, Int64.zero_add]
      · rw [List.filter_cons_of_neg (by simpa using hs)]
        obtain ⟨h', s1, s2, s3⟩ := ih (k + 1) n acc h Z R (by omega) (by omega)
        refine ⟨h', ?_, s2, s3⟩
        simp only [fX1_odds_l34, nI_nlt (show k ≤ A by omega) (show A < 2 ^ 31 by omega), if_false, if_neg hs, nI_1, s1]
theorem x_odds {N E : Nat} (x : Int32) : XOpJ N E (fX1_odds N x) (fun yo s => oddsR yo s x) := by
  intro h yo s R I
  obtain ⟨S, P, V, lE⟩ := id R
  obtain ⟨f1, S1, Q1, t1⟩ := an_all S
  have P1 := P.kept f1.1 (fun q hq => f1.2 q (by omega))
  have hh := qx_isCar S1 P1 x
  have han : fX1_anew N h = some (an h N) := qx_anew S
  cases hx : ixo yo 6 x with
  | none =>
    rw [hx] at hh
    obtain ⟨a1, a2⟩ := xq_end R 1 (by decide)
    simp only [oddsR, onI_none hx]
    refine ⟨_, ?_, a1, a2⟩
    simp only [fX1_odds, ab_ckq S.o, han, bdS, b2S, bxL, bxR, onN, onS, hh, b01z, if_true, qx_no S1]
  | some c =>
    obtain ⟨y, rfl, rfl, hi, hi6⟩ := ixo_fits (by omega) P.yk hx
    rw [hx] at hh
    have R1 := (V.xr I P.yk).kept Q1
    obtain ⟨d, qa, e1, D, K⟩ := P1
    have Z : XD (an h N) N E d qa y := ⟨S1, e1, D, lE, K⟩
    have h5 := K.h5
    have h6 := K.h6
    have hc3 : c < 3 := by omega
    obtain ⟨Ro, ea⟩ := SX.ro S1 hc3
    have hset := qx_set Ro S1.f (R1 c hc3)
    obtain ⟨-, hx5, hnd, -⟩ := I.2.1 c hc3
    obtain ⟨A, hA, hl, hp, hmem⟩ := lset_perm (fun z hz => by have := hx5 z hz; omega) hnd
    rw [hl] at hset
    obtain ⟨h', q1, q2, q3⟩ := qx_oddsL (rd := s.1) I.rh hi hA (fun z hz => hx5 z ((hmem z (els_lt A hA z hz)).mp hz)) (A + 1) 0 300000 0 (an h N) Z R1 (by omega) (by omega)
    have hlaw := odds_law (y := y) (c := c) (fun z hz => by have := hx5 z hz; omega) hnd hA hp
    rw [List.range_eq_range'] at hlaw
    rw [hlaw, Int64.zero_add, nI_0] at q1
    simp only [oddsR, onI_some hx]
    refine ⟨h', ?_, f1.trans (q2.wide (by omega) (by omega)), V.fin (Q1.trans q3) ((q2.gI (by omega) 4).trans t1) (by decide)⟩
    obtain ⟨hz, hfu0, o0, o1, r0_0, o2, r0_2, o3, r2_0, r2_1, o4, r2_2, o5, r0_8, o6, o7, o8, r6_0, r6_1, o9, o10, o11, r9_0, r9_1, o32, o33, o34, r32_0, r32_1, o35, o36, o37, r35_0, r35_1, o38, o39, o40, r38_0, r38_1, r0_9, r0_10, o12, r0_12, o13, r0_13, o14, r0_14, o15, r0_15, o16, r0_18, o17, r0_19, o18, r0_20, o19, r0_22, o20, r0_23, o21, r0_24, o22, r0_25, o23, r0_28, o24, r0_29, o25, r0_30, o26, r0_31, o27, r0_35, o28, r0_36, o29, r0_37, o30, r0_38, o31, r0_39, d5_0, d5_1, d5_2⟩ := id S1
    simp only [fX1_odds, ab_ckq S.o, han, bdS, b2S, bxL, bxR, onN, onS, hh, if_neg b01n, g0_8 o0, r0_8, aRn o5 hc3, ea, hset, hfu0, q1]
theorem bit_lie : ∀ w, w < 64 → ∀ k, k < 6 → lieB (nI w) k = decide ((w / 2 ^ k) % 2 = 1) := by decide +kernel
abbrev Ag (N : Nat) : Nat → Prop := fun q => q = N + 4 ∨ q = N + 5
abbrev Bg : Nat → Prop := fun k => k = 20 ∨ k = 21
theorem qm_drvF {N E d : Nat} {y : Dy} {c : Nat} {h : Hp} {rd : Nat → List Nat} (Z : MD h N E d y) (R : MR h N rd) (H : RH y rd) (hc : c < y.1 6) (tea : Int32) : ∃ h', fX5_goesAsDriven N (nI c) tea h = some h' ∧ Fw N (Ag N) Bg h h' ∧ ML h' N (rd c) ∧ gI h' N 21 = bV y c tea (rd c) := by
  have hc3 : c < 3 := by have := Z.2.2.2.2.h6; omega
  obtain ⟨r1, r2, r3⟩ := R c hc3
  obtain ⟨h', q1, q2, q3, q4, q5, q6, q7⟩ := qm_driven Z hc tea (fun z hz => H c hc3 z hz) r2 r1 r3
  exact ⟨h', q1, ⟨q2.1, fun q h1 h2 => q3 q h1 (fun e => h2 (Or.inl e)) (fun e => h2 (Or.inr e)), fun k hk => q4 k (fun e => hk (Or.inl e)) (fun e => hk (Or.inr e))⟩, q5, q6⟩
theorem MR.fw {h h1 : Hp} {N : Nat} {rd : Nat → List Nat} {A B : Nat → Prop} (R : MR h N rd) (f : Fw N A B h h1) (h2 : ¬ A (N + 2)) (h3 : ¬ A (N + 3)) : MR h1 N rd := by
  intro c hc
  obtain ⟨a1, a2, a3⟩ := R c hc
  exact ⟨by rw [f.aF (by omega) h2]; exact a1, a2, by rw [f.aF (by omega) h3]; exact a3⟩
theorem qm_way1 {N E d : Nat} {y : Dy} {c : Nat} {h : Hp} {rd : Nat → List Nat} (Z : MD h N E d y) (R : MR h N rd) (H : RH y rd) (hc : c < y.1 6) {w : Nat} (hw : w < 64) {K25 : Int32 → Int64 → Int32 → Hp → Option (Int64 × Hp)} {acc : Int64} : ∀ (t : List Nat) (k n : Nat) (b : Int32) (p : Int64), (rd c).drop k = t → k + t.length = (rd c).length → t.length < n → ∃ h', fX5_odds_l47 N K25 n (nI c) acc (nI w) b p (nI k) h = K25 (nI c) (acc + mwF y c (rd c) t (w / 2 ^ k) b p) (nI (w + 1)) h' ∧ Fw N (Ag N) Bg h h' := by
  have h5 := Z.2.2.2.2.h5
  have h6 := Z.2.2.2.2.h6
  have hc3 : c < 3 := by omega
  obtain ⟨r1, r2, r3⟩ := R c hc3
  intro t
  induction t with
  | nil =>
    intro k n b p hd hk hn
    cases n with
    | zero => simp at hn
    | succ n =>
      obtain ⟨h1, q1, q2, q3, q4⟩ := qm_drvF Z R H hc b
      have Z1 := Z.fw q2 (fun q a => by simp only [Ag] at a; omega)
      refine ⟨h1, ?_, q2⟩
      have hk : k = (rd c).length := by simpa using hk
      obtain ⟨S, e1, D, lE, K⟩ := id Z
      obtain ⟨hz, hfu0, o0, o1, r0_5, o2, r0_17, o3, r0_18, o4, r0_22, o5, r0_23, o6, r0_26, o7, r0_28, o8, r0_29, o9, r0_30, o10, r0_31, o11, r0_32, o12, r0_35, o13, r0_36, o14, r0_38, o15, r0_39, o16, r0_40, o17, r0_41, o18, r0_43, o19, r0_44, o20, r0_45⟩ := id S
      obtain ⟨dlo, do0, dv0, dv1, dn2, dn3, dn4, dn5, dn6, dn7, dn8, dn9, dr11, da11, dv11, dr12, da12, dv12, dr13, da13, dv13, dr14, da14, dv14, dr15, da15, dv15, dr16, da16, dv16, dr17, da17, dv17, dr18, da18, dv18, dr19, da19, dv19, dr20, da20, dv20, dr21, da21, dv21, dr22, da22, dv22, dr23, da23, dv23, dr24, da24, dv24, dr25, da25, dv25, dr26, da26, dv26, dr27, da27, dv27, dr28, da28, dv28, dr29, da29, dv29, dr30, da30, dv30, dr31, da31, dv31, dr32, da32, dv32, dr33, da33, dv33⟩ := id D
      obtain ⟨yc2, yc3, yc4, yc5, yc6, yc7, yc8, yc9, yyk, yyd, yyf, yyh, yyc, yyl, yyp, yyhot, yyby⟩ := id K
      have hle : nI (rd c).length ≤ nI k := by rw [hk]; exact Int32.le_refl _
      by_cases hb : bV y c b (rd c) = 0
      · simp only [fX5_odds_l47, g4_17 o0, r0_17, bdS, b2S, bxL, bxR, onN, onS, aIn o2 hc3, r1, hle, if_true, q1, g4_21 Z1.1.o, q4, if_pos hb, nI_1, mwF]
      · simp only [fX5_odds_l47, g4_17 o0, r0_17, bdS, b2S, bxL, bxR, onN, onS, aIn o2 hc3, r1, hle, if_true, q1, g4_21 Z1.1.o, q4, if_neg hb, nI_1, mwF]
  | cons a t ih =>
    intro k n b p hd hk hn
    have hL : (a :: t).length = t.length + 1 := rfl
    rw [hL] at hk hn
    cases n with
    | zero => omega
    | succ n =>
      have hlt : k < (rd c).length := by omega
      have hcons := List.drop_eq_getElem_cons hlt
      rw [hd] at hcons
      injection hcons with hc1 hc2
      have hg : (rd c).getD k 0 = a := by rw [List.getD_eq_getElem?_getD, List.getElem?_eq_getElem hlt, hc1]; rfl
      have ha5 : a < y.1 5 := H c hc3 a (by rw [hc1]; exact List.getElem_mem hlt)
      have hh := qm_has (nI w) k h
      rw [bit_lie w hw k (by omega)] at hh
      have hdv : w / 2 ^ k / 2 = w / 2 ^ (k + 1) := by rw [Nat.div_div_eq_div_mul, Nat.pow_succ]
      by_cases hb : (w / 2 ^ k) % 2 = 1
      · obtain ⟨h', s1, s2⟩ := ih (k + 1) n (b ||| bitI a) (p * chY y a) hc2.symm (by omega) (by omega)
        refine ⟨h', ?_, s2⟩
        rw [mwF, if_pos hb, hdv, ← s1]
        obtain ⟨S, e1, D, lE, K⟩ := id Z
        obtain ⟨hz, hfu0, o0, o1, r0_5, o2, r0_17, o3, r0_18, o4, r0_22, o5, r0_23, o6, r0_26, o7, r0_28, o8, r0_29, o9, r0_30, o10, r0_31, o11, r0_32, o12, r0_35, o13, r0_36, o14, r0_38, o15, r0_39, o16, r0_40, o17, r0_41, o18, r0_43, o19, r0_44, o20, r0_45⟩ := id S
        obtain ⟨dlo, do0, dv0, dv1, dn2, dn3, dn4, dn5, dn6, dn7, dn8, dn9, dr11, da11, dv11, dr12, da12, dv12, dr13, da13, dv13, dr14, da14, dv14, dr15, da15, dv15, dr16, da16, dv16, dr17, da17, dv17, dr18, da18, dv18, dr19, da19, dv19, dr20, da20, dv20, dr21, da21, dv21, dr22, da22, dv22, dr23, da23, dv23, dr24, da24, dv24, dr25, da25, dv25, dr26, da26, dv26, dr27, da27, dv27, dr28, da28, dv28, dr29, da29, dv29, dr30, da30, dv30, dr31, da31, dv31, dr32, da32, dv32, dr33, da33, dv33⟩ := id D
        obtain ⟨yc2, yc3, yc4, yc5, yc6, yc7, yc8, yc9, yyk, yyd, yyf, yyh, yyc, yyl, yyp, yyhot, yyby⟩ := id K
        simp only [fX5_odds_l47, g4_17 o0, r0_17, bdS, b2S, bxL, bxR, onN, onS, aIn o2 hc3, r1, nI_ge hlt (by omega), if_false, g4_18 o0, r0_18, nI6, aIn o3 (show 6 * c + k < 18 by omega), r3 k hlt, hg, hh, hb, decide_true, if_true, show ¬ ((1 : Int32) = 0) from by decide, fX5_odds_b92, g4_3 o0, e1, g13_22 do0, dr22, aIn da22 (show a < 6 by omega), dv22, nI_1, chY]
      · obtain ⟨h', s1, s2⟩ := ih (k + 1) n b (p * ncY y a) hc2.symm (by omega) (by omega)
        refine ⟨h', ?_, s2⟩
        rw [mwF, if_neg hb, hdv, ← s1]
        obtain ⟨S, e1, D, lE, K⟩ := id Z
        obtain ⟨hz, hfu0, o0, o1, r0_5, o2, r0_17, o3, r0_18, o4, r0_22, o5, r0_23, o6, r0_26, o7, r0_28, o8, r0_29, o9, r0_30, o10, r0_31, o11, r0_32, o12, r0_35, o13, r0_36, o14, r0_38, o15, r0_39, o16, r0_40, o17, r0_41, o18, r0_43, o19, r0_44, o20, r0_45⟩ := id S
        obtain ⟨dlo, do0, dv0, dv1, dn2, dn3, dn4, dn5, dn6, dn7, dn8, dn9, dr11, da11, dv11, dr12, da12, dv12, dr13, da13, dv13, dr14, da14, dv14, dr15, da15, dv15, dr16, da16, dv16, dr17, da17, dv17, dr18, da18, dv18, dr19, da19, dv19, dr20, da20, dv20, dr21, da21, dv21, dr22, da22, dv22, dr23, da23, dv23, dr24, da24, dv24, dr25, da25, dv25, dr26, da26, dv26, dr27, da27, dv27, dr28, da28, dv28, dr29, da29, dv29, dr30, da30, dv30, dr31, da31, dv31, dr32, da32, dv32, dr33, da33, dv33⟩ := id D
        obtain ⟨yc2, yc3, yc4, yc5, yc6, yc7, yc8, yc9, yyk, yyd, yyf, yyh, yyc, yyl, yyp, yyhot, yyby⟩ := id K
        simp only [fX5_odds_l47, g4_17 o0, r0_17, bdS, b2S, bxL, bxR, onN, onS, aIn o2 hc3, r1, nI_ge hlt (by omega), if_false, g4_18 o0, r0_18, nI6, aIn o3 (show 6 * c + k < 18 by omega), r3 k hlt, hg, hh, hb, decide_false, Bool.false_eq_true, if_true, fX5_odds_b92, g4_3 o0, e1, g13_22 do0, dr22, aIn da22 (show a < 6 by omega), dv22, nI_1, Int32_or0, ncY]
theorem qm_oddsL {N E d : Nat} {y : Dy} {c : Nat} {rd : Nat → List Nat} (H : RH y rd) (hc : c < y.1 6) : ∀ (j w n : Nat) (acc : Int64) (h : Hp), MD h N E d y → MR h N rd → w + j = 2 ^ (rd c).length → j < n → ∃ h', fX5_odds_l25 N n (nI c) acc (nI w) h = some (acc + smJ (fun w => mwF y c (rd c) (rd c) w 0 1) j w, rf h' N 0) ∧ Fw N (Ag N) Bg h h' := by
  intro j
  induction j with
  | zero =>
    intro w n acc h Z R hk hn
    cases n with
    | zero => omega
    | succ n =>
      have h6 := Z.2.2.2.2.h6
      have hc3 : c < 3 := by omega
      obtain ⟨r1, r2, r3⟩ := R c hc3
      have h2 := two6 _ r2
      have hs := shl6 _ r2
      have hd := qm_done Z.1 0
      refine ⟨h, ?_, Fw.rf⟩
      obtain ⟨S, e1, D, lE, K⟩ := id Z
      obtain ⟨hz, hfu0, o0, o1, r0_5, o2, r0_17, o3, r0_18, o4, r0_22, o5, r0_23, o6, r0_26, o7, r0_28, o8, r0_29, o9, r0_30, o10, r0_31, o11, r0_32, o12, r0_35, o13, r0_36, o14, r0_38, o15, r0_39, o16, r0_40, o17, r0_41, o18, r0_43, o19, r0_44, o20, r0_45⟩ := id S
      obtain ⟨dlo, do0, dv0, dv1, dn2, dn3, dn4, dn5, dn6, dn7, dn8, dn9, dr11, da11, dv11, dr12, da12, dv12, dr13, da13, dv13, dr14, da14, dv14, dr15, da15, dv15, dr16, da16, dv16, dr17, da17, dv17, dr18, da18, dv18, dr19, da19, dv19, dr20, da20, dv20, dr21, da21, dv21, dr22, da22, dv22, dr23, da23, dv23, dr24, da24, dv24, dr25, da25, dv25, dr26, da26, dv26, dr27, da27, dv27, dr28, da28, dv28, dr29, da29, dv29, dr30, da30, dv30, dr31, da31, dv31, dr32, da32, dv32, dr33, da33, dv33⟩ := id D
      obtain ⟨yc2, yc3, yc4, yc5, yc6, yc7, yc8, yc9, yyk, yyd, yyf, yyh, yyc, yyl, yyp, yyhot, yyby⟩ := id K
      simp only [fX5_odds_l25, g4_17 o0, r0_17, bdS, b2S, bxL, bxR, onN, onS, aIn o2 hc3, r1, hs, nI_le (show 2 ^ (rd c).length ≤ w by omega) (by omega), if_true, hd, smJ, Int64.add_zero, rf]
  | succ j ih =>
    intro w n acc h Z R hk hn
    cases n with
    | zero => omega
    | succ n =>
      have h6 := Z.2.2.2.2.h6
      have hc3 : c < 3 := by omega
      obtain ⟨r1, r2, r3⟩ := R c hc3
      have h2 := two6 _ r2
      have hs := shl6 _ r2
      obtain ⟨h1, q1, q2⟩ := qm_way1 Z R H hc (w := w) (by omega) (K25 := fX5_odds_l25 N n) (acc := acc) (rd c) 0 300000 0 1 rfl (by omega) (by omega)
      have Z1 := Z.fw q2 (fun q a => by simp only [Ag] at a; omega)
      have R1 := R.fw q2 (by simp only [Ag]; omega) (by simp only [Ag]; omega)
      obtain ⟨h', s1, s2⟩ := ih (w + 1) n (acc + mwF y c (rd c) (rd c) w 0 1) h1 Z1 R1 (by omega) (by omega)
      refine ⟨h', ?_, q2.trans s2⟩
      rw [Nat.pow_zero, Nat.div_one, nI_0, s1] at q1
      rw [smJ, ← Int64.add_assoc, ← q1]
      obtain ⟨S, e1, D, lE, K⟩ := id Z
      obtain ⟨hz, hfu0, o0, o1, r0_5, o2, r0_17, o3, r0_18, o4, r0_22, o5, r0_23, o6, r0_26, o7, r0_28, o8, r0_29, o9, r0_30, o10, r0_31, o11, r0_32, o12, r0_35, o13, r0_36, o14, r0_38, o15, r0_39, o16, r0_40, o17, r0_41, o18, r0_43, o19, r0_44, o20, r0_45⟩ := id S
      obtain ⟨dlo, do0, dv0, dv1, dn2, dn3, dn4, dn5, dn6, dn7, dn8, dn9, dr11, da11, dv11, dr12, da12, dv12, dr13, da13, dv13, dr14, da14, dv14, dr15, da15, dv15, dr16, da16, dv16, dr17, da17, dv17, dr18, da18, dv18, dr19, da19, dv19, dr20, da20, dv20, dr21, da21, dv21, dr22, da22, dv22, dr23, da23, dv23, dr24, da24, dv24, dr25, da25, dv25, dr26, da26, dv26, dr27, da27, dv27, dr28, da28, dv28, dr29, da29, dv29, dr30, da30, dv30, dr31, da31, dv31, dr32, da32, dv32, dr33, da33, dv33⟩ := id D
      obtain ⟨yc2, yc3, yc4, yc5, yc6, yc7, yc8, yc9, yyk, yyd, yyf, yyh, yyc, yyl, yyp, yyhot, yyby⟩ := id K
      simp only [fX5_odds_l25, g4_17 o0, r0_17, bdS, b2S, bxL, bxR, onN, onS, aIn o2 hc3, r1, hs, nI_ge (show w < 2 ^ (rd c).length by omega) (by omega), if_false, hfu0]
theorem m_odds {N E : Nat} (x : Int32) : MOpJ N E (fX5_odds N x) (fun yo s => oddsR yo s x) := by
  intro h yo s R I
  obtain ⟨S, P, V, lE⟩ := id R
  obtain ⟨f1, S1, Q1⟩ := th_all S 0
  have P1 := P.kept f1.1 (fun q hq => f1.2 q (by omega))
  have hh := qm_isCar S1 P1 x
  cases hx : ixo yo 6 x with
  | none =>
    rw [hx] at hh
    obtain ⟨a1, a2⟩ := m_end R 1
    simp only [oddsR, onI_none hx]
    refine ⟨_, ?_, a1, a2⟩
    simp only [fX5_odds, ab_ckq S.o, ab_pIq S.o S.1, bdS, b2S, bxL, bxR, onN, onS, hh, b01z, if_true, qm_refused S1, rf]
  | some c =>
    obtain ⟨y, rfl, rfl, hi, hi6⟩ := ixo_fits (by omega) P.yk hx
    rw [hx] at hh
    have R1 := (V.mr I P.yk).kept Q1
    obtain ⟨d, e1, D, K⟩ := P1
    have Z : MD (sI h N 0 0) N E d y := ⟨S1, e1, D, lE, K⟩
    have h2 := two6 _ (R1 c (by have := K.h6; omega)).2.1
    obtain ⟨h', q1, q2⟩ := qm_oddsL (rd := s.1) I.rh hi (2 ^ (s.1 c).length) 0 300000 0 _ Z R1 (by omega) (by omega)
    rw [mw_os, Int64.zero_add, nI_0] at q1
    obtain ⟨a1, a2⟩ := m_fin R q2 (fun q a => by simp only [Ag] at a; omega) (fun k a => by simp only [Bg] at a; omega) (fun k a => by simp only [Ag] at a; omega)
    simp only [oddsR, onI_some hx]
    refine ⟨_, ?_, a1, a2⟩
    simp only [fX5_odds, ab_ckq S.o, ab_pIq S.o S.1, bdS, b2S, bxL, bxR, onN, onS, hh, if_neg b01n, S1.f, q1]
