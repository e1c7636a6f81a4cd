/-- comes, with any end: what is made of the minute -/
noncomputable def comesR (yo : Option Dy) (s : St) (x : Int32) : Int32 × St := onI yo 5 x (-1, fin s 1) fun y i => match caF s.1 i (y.1 6) 0 with
  | none => (-1, fin s 6)
  | some c => ((cV y c (s.2 0 4) (s.1 c)).getD (plV i (s.1 c)) 0, fin s 0)
theorem ixo_fits {yo : Option Dy} {j i : Nat} {c : Int32} (hj : 2 ≤ j ∧ j ≤ 9) (hy : ∀ y, yo = some y → Yk y) (h : ixo yo j c = some i) : ∃ y, yo = some y ∧ c = nI i ∧ i < y.1 j ∧ i < 6 := by
  obtain ⟨y, h1, h2, h3⟩ := ixo_some h (fun y e => by have := (hy y e).lt hj.1 hj.2; omega)
  have := (hy y h1).lt hj.1 hj.2
  exact ⟨y, h1, h2, h3, by omega⟩
theorem PX.yk {h : Hp} {N E : Nat} {yo : Option Dy} (P : PX h N E yo) : ∀ y, yo = some y → Yk y := by
  intro y e
  subst e
  obtain ⟨d, qa, -, -, K⟩ := P
  exact K
theorem PM.yk {h : Hp} {N E : Nat} {yo : Option Dy} (P : PM h N E yo) : ∀ y, yo = some y → Yk y := by
  intro y e
  subst e
  obtain ⟨d, -, -, K⟩ := P
  exact K
theorem onI_none {α : Type} {yo : Option Dy} {j : Nat} {x : Int32} {a : α} {f : Dy → Nat → α} (h : ixo yo j x = none) : onI yo j x a f = a := by
  cases yo with
  | none => rfl
  | some y => simp only [onI, h]
theorem onI_some {α : Type} {y : Dy} {j i : Nat} {x : Int32} {a : α} {f : Dy → Nat → α} (h : ixo (some y) j x = some i) : onI (some y) j x a f = f y i := by
  simp only [onI, h]
theorem XR.kept {h h1 : Hp} {N : Nat} {rd : Nat → List Nat} (R : XR h N rd) (Q : SVX h h1 N) : XR h1 N rd := by
  intro c hc
  obtain ⟨a1, a2, a3⟩ := R c hc
  refine ⟨(Q.2.2 c hc).1.trans a1, fun j hj => ?_, a3⟩
  rw [show N + (32 + 3 * c) + 1 = N + (33 + 3 * c) by omega, (Q.2.2 c hc).2, show N + (33 + 3 * c) = N + (32 + 3 * c) + 1 by omega]
  exact a2 j hj
theorem MR.kept {h h1 : Hp} {N : Nat} {rd : Nat → List Nat} (R : MR h N rd) (Q : SVM h h1 N) : MR h1 N rd := by
  intro c hc
  obtain ⟨a1, a2, a3⟩ := R c hc
  exact ⟨by rw [Q.2 2 (by omega)]; exact a1, a2, by rw [Q.2 3 (by omega)]; exact a3⟩
theorem VX.teas {h : Hp} {N m : Nat} {s : St} (V : VX h N m s) : gI h N 7 = s.2 0 4 := V.2.2.2.1
theorem VM.teas {h : Hp} {N : Nat} {s : St} (V : VM h N s) : gI h N 19 = s.2 0 4 := V.2.2.2.2.1
theorem x_comes {N E : Nat} (x : Int32) : XOp N E (fX1_comes N x) (fun yo s => comesR yo s x) := by
  intro h yo s ⟨S, P, V, lE⟩ I
  obtain ⟨f1, S1, Q1, t1⟩ := an_all S
  have P1 := P.kept f1.1 (fun q hq => f1.2 q (by omega))
  have hh := qx_isHouse S1 P1 x
  have han : fX1_anew N h = some (an h N) := qx_anew S
  obtain ⟨f2, S2, Q2, t2⟩ := no_all S1 1
  obtain ⟨f6, S6, Q6, t6⟩ := no_all S1 6
  cases hx : ixo yo 5 x with
  | none =>
    rw [hx] at hh
    refine ⟨sI (an h N) N 4 1, ?_, f1.trans f2, ?_⟩
    · simp only [fX1_comes, ab_ckq S.o, han, bdS, b2S, bxL, bxR, onN, onS, fX1_drivenWhy, ab_ckq S1.o, hh, b01z, if_true, show ¬ ((1 : Int32) = 0) from by decide, if_false, qx_no S1, comesR, onI_none hx]
    · simp only [comesR, onI_none hx]
      exact V.fin (Q1.trans Q2) t2 (by decide)
  | some i =>
    obtain ⟨y, rfl, rfl, hi, hi6⟩ := ixo_fits (by omega) P.yk hx
    have R1 := (V.xr I P.yk).kept Q1
    have V7 : gI (an h N) N 7 = s.2 0 4 := (Q1.1 7 (by omega)).trans V.teas
    obtain ⟨d, qa, e1, D, K⟩ := P1
    have Z1 : XD (an h N) N E d qa y := ⟨S1, e1, D, lE, K⟩
    have hw := qx_why Z1 R1 I.rh hi
    have hc := qx_carOf Z1 R1 I.rh hi6
    cases hq : caF s.1 i (y.1 6) 0 with
    | none =>
      rw [hq] at hw
      refine ⟨sI (an h N) N 4 6, ?_, f1.trans f6, ?_⟩
      · simp only [fX1_comes, ab_ckq S.o, han, bdS, b2S, bxL, bxR, onN, onS, hw, show ¬ ((6 : Int32) = 0) from by decide, if_false, qx_no S1, comesR, onI_some hx, hq]
      · simp only [comesR, onI_some hx, hq]
        exact V.fin (Q1.trans Q6) t6 (by decide)
    | some c =>
      rw [hq] at hw hc
      obtain ⟨k1, k2, k3⟩ := caF_lt hq
      obtain ⟨h', q1, q2, q3, q4⟩ := qx_comesTo Z1 R1 I.rh (show c < y.1 6 by omega) k3
      have hc3 := K.h6
      refine ⟨h', ?_, f1.trans (q2.wide (by omega) (by omega)), ?_⟩
      · simp only [fX1_comes, ab_ckq S.o, han, bdS, b2S, bxL, bxR, onN, onS, hw, if_true, hc, oI, q1, comesR, onI_some hx, hq, V7]
      · simp only [comesR, onI_some hx, hq]
        exact V.fin (Q1.trans q3) ((q2.gI (by omega) 4).trans t1) (by decide)
theorem qm_comesTo {N E d : Nat} {y : Dy} {x : Nat} {h : Hp} (Z : MD h N E d y) {l : List Nat} (L : ML h N l) (hr6 : ∀ z ∈ l, z < 6) (hx : x ∈ l) : fX5_comesTo N (nI x) h = some (aF h (N + 5) (plV x l), h) := by
  obtain ⟨L1, L2, L3⟩ := L
  have hxs := hr6 x hx
  have key : ∀ (t : List Nat) (k n : Nat), l.drop k = t → x ∈ t → k + t.length = l.length → t.length < n → fX5_comesTo_l2 N n (nI x) (nI k) h = some (aF h (N + 5) ((plF x t k).getD 0), h) := by
    intro t
    induction t with
    | nil => intro k n _ hm; simp at hm
    | cons a t ih =>
      intro k n hd hm hk hn
      have hL : (a :: t).length = t.length + 1 := rfl
      rw [hL] at hk hn
      cases n with
      | zero => omega
      | succ n =>
        have hlt : k < l.length := by omega
        have hcons := List.drop_eq_getElem_cons hlt
        rw [hd] at hcons
        injection hcons with hc1 hc2
        have hg : l.getD k 0 = a := by rw [List.getD_eq_getElem?_getD, List.getElem?_eq_getElem hlt, hc1]; rfl
        have ha6 : a < 6 := hr6 a (by rw [hc1]; exact List.getElem_mem hlt)
        obtain ⟨S, e1, D, lE, K⟩ := id Z
        obtain ⟨hz, hfu0, o0, o1, r0_5, o2, r0_17, o3, r0_18, o4, r0_22, o5, r0_23, o6, r0_26, o7, r0_28, o8, r0_29, o9, r0_30, o10, r0_31, o11, r0_32, o12, r0_35, o13, r0_36, o14, r0_38, o15, r0_39, o16, r0_40, o17, r0_41, o18, r0_43, o19, r0_44, o20, r0_45⟩ := id S
        obtain ⟨dlo, do0, dv0, dv1, dn2, dn3, dn4, dn5, dn6, dn7, dn8, dn9, dr11, da11, dv11, dr12, da12, dv12, dr13, da13, dv13, dr14, da14, dv14, dr15, da15, dv15, dr16, da16, dv16, dr17, da17, dv17, dr18, da18, dv18, dr19, da19, dv19, dr20, da20, dv20, dr21, da21, dv21, dr22, da22, dv22, dr23, da23, dv23, dr24, da24, dv24, dr25, da25, dv25, dr26, da26, dv26, dr27, da27, dv27, dr28, da28, dv28, dr29, da29, dv29, dr30, da30, dv30, dr31, da31, dv31, dr32, da32, dv32, dr33, da33, dv33⟩ := id D
        obtain ⟨yc2, yc3, yc4, yc5, yc6, yc7, yc8, yc9, yyk, yyd, yyf, yyh, yyc, yyl, yyp, yyhot, yyby⟩ := id K
        simp only [fX5_comesTo_l2, g4_22 o0, r0_22, bdS, b2S, bxL, bxR, onN, onS, aIn o4 (show k < 6 by omega), L2 k hlt, hg, nI_eq (show a < 2 ^ 31 by omega) (show x < 2 ^ 31 by omega), g4_23 o0, r0_23, aIn o5 (show k < 6 by omega), nI_1, plF]
        by_cases e : a = x
        · simp only [e, if_true, Option.getD_some]
        · simp only [e, if_false]
          exact ih (k + 1) n hc2.symm (by rcases List.mem_cons.mp hm with h1 | h1; exact absurd h1.symm e; exact h1) (by omega) (by omega)
  have hh := key l 0 300000 rfl hx (by omega) (by omega)
  rw [nI_0] at hh
  simp only [fX5_comesTo, ab_ckq Z.1.o, Z.1.f, hh, plV]
theorem m_comes {N E : Nat} (x : Int32) : MOp N E (fX5_comes N x) (fun yo s => comesR yo s x) := by
  intro h yo s ⟨S, P, V, lE⟩ I
  obtain ⟨f1, S1, Q1⟩ := th_all S 0
  have P1 := P.kept f1.1 (fun q hq => f1.2 q (by omega))
  have hh := qm_isHouse S1 P1 x
  cases hx : ixo yo 5 x with
  | none =>
    rw [hx] at hh
    obtain ⟨f2, S2, Q2, t2, w2⟩ := rf_all S1 1
    refine ⟨rf (sI h N 0 0) N 1, ?_, f1.trans f2, ?_⟩
    · simp only [fX5_comes, ab_ckq S.o, ab_pIq S.o S.1, bdS, b2S, bxL, bxR, onN, onS, hh, b01z, if_true, qm_refused S1, comesR, onI_none hx, rf]
    · simp only [comesR, onI_none hx]
      exact V.fin (Q1.trans Q2) t2 w2
  | some i =>
    obtain ⟨y, rfl, rfl, hi, hi6⟩ := ixo_fits (by omega) P.yk hx
    rw [hx] at hh
    have R1 := (V.mr I P.yk).kept Q1
    have V7 : gI (sI h N 0 0) N 19 = s.2 0 4 := (Q1.1 19 (by omega)).trans V.teas
    obtain ⟨d, e1, D, K⟩ := P1
    have Z1 : MD (sI h N 0 0) N E d y := ⟨S1, e1, D, lE, K⟩
    have hc := qm_carOf Z1 R1 I.rh hi6
    cases hq : caF s.1 i (y.1 6) 0 with
    | none =>
      rw [hq] at hc
      obtain ⟨f2, S2, Q2, t2, w2⟩ := rf_all S1 6
      refine ⟨rf (sI h N 0 0) N 6, ?_, f1.trans f2, ?_⟩
      · simp only [fX5_comes, ab_ckq S.o, ab_pIq S.o S.1, bdS, b2S, bxL, bxR, onN, onS, hh, if_neg b01n, hc, oI, if_true, qm_refused S1, comesR, onI_some hx, hq, rf]
      · simp only [comesR, onI_some hx, hq]
        exact V.fin (Q1.trans Q2) t2 w2
    | some c =>
      rw [hq] at hc
      obtain ⟨k1, k2, k3⟩ := caF_lt hq
      have hc3 := K.h6
      have hk5 := K.h5
      obtain ⟨r1, r2, r3⟩ := R1 c (by omega)
      obtain ⟨h', q1, q2, q3, q4, q5, q6, q7⟩ := qm_driven Z1 (show c < y.1 6 by omega) (s.2 0 4) (fun z hz => I.rh c (by omega) z hz) r2 r1 r3
      have Z2 := Z1.kept q2
      have Q2 : SVM (sI h N 0 0) h' N := ⟨fun j hj => q4 j (by omega) (by omega), fun j hj => aF_of (q3 _ (by omega) (by omega) (by omega))⟩
      have hct := qm_comesTo Z2 q5 (fun z hz => by have := I.rh c (by omega) z hz; omega) k3
      obtain ⟨f3, S3, Q3, t3, w3⟩ := rf_all Z2.1 0
      have hpl : plV i (s.1 c) < (s.1 c).length := by
        obtain ⟨j, hj⟩ : ∃ j, plF i (s.1 c) 0 = some j := by
          cases hq2 : plF i (s.1 c) 0 with
          | none => exact absurd k3 (plF_mem.mp hq2)
          | some j => exact ⟨j, rfl⟩
        have := plF_lt hj
        simp only [plV, hj, Option.getD_some]
        omega
      rw [q7 _ hpl] at hct
      refine ⟨rf h' N 0, ?_, (f1.trans q2).trans f3, ?_⟩
      · simp only [fX5_comes, ab_ckq S.o, ab_pIq S.o S.1, bdS, b2S, bxL, bxR, onN, onS, hh, if_neg b01n, hc, oI, nI_m1ne (show c < 2 ^ 31 by omega), if_false, g4_19 S1.o, V7, q1, hct, qm_done Z2.1, comesR, onI_some hx, hq, rf]
      · simp only [comesR, onI_some hx, hq]
        exact V.fin ((Q1.trans Q2).trans Q3) t3 w3
