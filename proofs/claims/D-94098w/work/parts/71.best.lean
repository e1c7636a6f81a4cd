/-! best, bestAt -/
theorem obS_in {y : Dy} {c : Nat} : ∀ (L : List (List Nat)) (st : Int32 × List Nat), L.foldl (obS y c) st = st ∨ ∃ l ∈ L, L.foldl (obS y c) st = (wV y c l, l) := by
  intro L
  induction L with
  | nil => intro st; exact Or.inl rfl
  | cons a t ih =>
    intro st
    rw [List.foldl_cons]
    have hs : obS y c st a = st ∨ obS y c st a = (wV y c a, a) := by
      unfold obS
      split
      · exact Or.inr rfl
      · split
        · exact Or.inr rfl
        · exact Or.inl rfl
    rcases ih (obS y c st a) with e | ⟨l, hl, e⟩
    · rcases hs with e2 | e2
      · exact Or.inl (e.trans e2)
      · exact Or.inr ⟨a, List.mem_cons_self, e.trans e2⟩
    · exact Or.inr ⟨l, List.mem_cons_of_mem _ hl, e⟩
theorem bst_in {y : Dy} {c S : Nat} (hS : S < 64) : ∃ l ∈ pmF (pc S) (els S), bst y c S = (wV y c l, l) := by
  have hlen := pmF_len (pc S) (els S) (els_len S hS)
  have hf := (fac_le (pc S) (pc_le S hS)).2
  cases hL : pmF (pc S) (els S) with
  | nil => rw [hL] at hlen; simp at hlen; omega
  | cons a t =>
    unfold bst
    rw [hL, List.foldl_cons]
    have h1 : obS y c (-1, []) a = (wV y c a, a) := by rw [obS, if_pos rfl]
    rw [h1]
    rcases obS_in t (wV y c a, a) with e | ⟨l, hl, e⟩
    · exact ⟨a, List.mem_cons_self, e⟩
    · exact ⟨l, List.mem_cons_of_mem _ hl, e⟩
theorem bst_ok {y : Dy} {c S : Nat} (hS : S < 64) : (bst y c S).2.length = pc S ∧ (∀ x ∈ (bst y c S).2, x ∈ els S) ∧ (bst y c S).1 = wV y c (bst y c S).2 := by
  obtain ⟨l, hl, e⟩ := bst_in (y := y) (c := c) hS
  obtain ⟨m1, m2, m3⟩ := pmF_mem (pc S) (els S) (els_len S hS) (els_nd S) l hl
  rw [e]
  exact ⟨m1, m3, rfl⟩
theorem els_day : ∀ n, n ≤ 6 → ∀ s, s < 64 → s < 2 ^ n → ∀ x ∈ els s, x < n := by decide +kernel
noncomputable def bestR (yo : Option Dy) (s : St) (c x : Int32) : Int32 × St := onI yo 6 c (-1, fin s 1) fun y i => if x < 0 then (-1, fin s 1) else if nI (2 ^ y.1 5) ≤ x then (-1, fin s 1) else if nI (pc x.toNatClampNeg) ≤ y.2 28 i then ((bst y i x.toNatClampNeg).1, fin s 0) else (-1, fin s 3)
noncomputable def bestAtR (yo : Option Dy) (s : St) (c x i : Int32) : Int32 × St := onI yo 6 c (-1, fin s 1) fun y k => if x < 0 then (-1, fin s 1) else if nI (2 ^ y.1 5) ≤ x then (-1, fin s 1) else if nI (pc x.toNatClampNeg) ≤ y.2 28 k then (if i < 0 then (-1, fin s 1) else if nI (pc x.toNatClampNeg) ≤ i then (-1, fin s 1) else (nI ((bst y k x.toNatClampNeg).2.getD i.toNatClampNeg 0), fin s 0)) else (-1, fin s 3)
theorem qx_bestWhy0 {h : Hp} {N : Nat} (S : SX h N) (e : gR h N 3 = none) (c x : Int32) : fX1_bestWhy N c x h = some (1, h) := by
  have hh := qx_isCar (E := 0) (yo := none) S e c
  simp only [fX1_bestWhy, ab_ckq S.o, hh, show ixo none 6 c = none from rfl, b01z, bdS, b2S, bxL, bxR, onN, onS, if_true]
theorem qm_bestWhy0 {h : Hp} {N : Nat} (S : SM h N) (e : gR h N 3 = none) (c x : Int32) : fX5_refusesBest N c x h = some (1, h) := by
  have hh := qm_isCar (E := 0) (yo := none) S e c
  simp only [fX5_refusesBest, ab_ckq S.o, hh, show ixo none 6 c = none from rfl, b01z, bdS, b2S, bxL, bxR, onN, onS, if_true]
/-- the ways that best can end -/
theorem bw_cases {y : Dy} (K : Yk y) (c x : Int32) : (bwV (some y) c x = 1 ∧ ∀ s, bestR (some y) s c x = (-1, fin s 1) ∧ ∀ i, bestAtR (some y) s c x i = (-1, fin s 1)) ∨ (bwV (some y) c x = 3 ∧ ∀ s, bestR (some y) s c x = (-1, fin s 3) ∧ ∀ i, bestAtR (some y) s c x i = (-1, fin s 3)) ∨ ∃ k S, c = nI k ∧ x = nI S ∧ k < y.1 6 ∧ S < 64 ∧ (∀ z ∈ els S, z < y.1 5) ∧ bwV (some y) c x = 0 ∧ ∀ s, bestR (some y) s c x = ((bst y k S).1, fin s 0) ∧ ∀ i, bestAtR (some y) s c x i = if i < 0 then (-1, fin s 1) else if nI (pc S) ≤ i then (-1, fin s 1) else (nI ((bst y k S).2.getD i.toNatClampNeg 0), fin s 0) := by
  cases hc : ixo (some y) 6 c with
  | none => exact Or.inl ⟨by rw [bwV, onI_none hc], fun s => ⟨by rw [bestR, onI_none hc], fun i => by rw [bestAtR, onI_none hc]⟩⟩
  | some k =>
    obtain ⟨y', e', rfl, hi, hi6⟩ := ixo_fits (yo := some y) (by omega) (fun y' e => by cases e; exact K) hc
    cases e'
    by_cases h1 : x < 0
    · exact Or.inl ⟨by rw [bwV, onI_some hc, if_pos h1], fun s => ⟨by rw [bestR, onI_some hc, if_pos h1], fun i => by rw [bestAtR, onI_some hc, if_pos h1]⟩⟩
    · by_cases h4 : nI (2 ^ y.1 5) ≤ x
      · exact Or.inl ⟨by rw [bwV, onI_some hc, if_neg h1, if_pos h4], fun s => ⟨by rw [bestR, onI_some hc, if_neg h1, if_pos h4], fun i => by rw [bestAtR, onI_some hc, if_neg h1, if_pos h4]⟩⟩
      · obtain ⟨S, hj, hj64, rfl⟩ := set_lt K h1 h4
        have e := nI_clamp (show S < 2 ^ 31 by omega)
        by_cases h5 : nI (pc S) ≤ y.2 28 k
        · exact Or.inr (Or.inr ⟨k, S, rfl, rfl, hi, hj64, els_day (y.1 5) K.h5.2 S hj64 hj, by rw [bwV, onI_some hc, if_neg h1, if_neg h4, e, if_pos h5], fun s => ⟨by rw [bestR, onI_some hc, if_neg h1, if_neg h4, e, if_pos h5], fun i => by rw [bestAtR, onI_some hc, if_neg h1, if_neg h4, e, if_pos h5]⟩⟩)
        · exact Or.inr (Or.inl ⟨by rw [bwV, onI_some hc, if_neg h1, if_neg h4, e, if_neg h5], fun s => ⟨by rw [bestR, onI_some hc, if_neg h1, if_neg h4, e, if_neg h5], fun i => by rw [bestAtR, onI_some hc, if_neg h1, if_neg h4, e, if_neg h5]⟩⟩)
/-- ends of the component, the model after a refusal -/
theorem xq_end {N E : Nat} {h : Hp} {yo : Option Dy} {s : St} (R : RXs h N E yo s) (w : Int32) (hw : w ≠ 4) : Fr N (N + 41) h (sI (an h N) N 4 w) ∧ VX (sI (an h N) N 4 w) N (m5 yo) (fin s w) := by
  obtain ⟨S, P, V, lE⟩ := R
  obtain ⟨f1, S1, Q1, t1⟩ := an_all S
  obtain ⟨f2, S2, Q2, t2⟩ := no_all S1 w
  exact ⟨f1.trans f2, V.fin (Q1.trans Q2) t2 hw⟩
theorem m_end {N E : Nat} {h : Hp} {yo : Option Dy} {s : St} (R : RMs h N E yo s) (w : Int32) : Fr N (N + 21) h (rf (sI h N 0 0) N w) ∧ VM (rf (sI h N 0 0) N w) N (fin s w) := by
  obtain ⟨S, P, V, lE⟩ := R
  obtain ⟨f1, S1, Q1⟩ := th_all S 0
  obtain ⟨f2, S2, Q2, t2, w2⟩ := rf_all S1 w
  exact ⟨f1.trans f2, V.fin (Q1.trans Q2) t2 w2⟩
/-- after a walk through a frame -/
theorem x_fin {N E : Nat} {h h' : Hp} {yo : Option Dy} {s : St} {A B : Nat → Prop} (R : RXs h N E yo s) (f : Fw N A B (an h N) h') (hA0 : ∀ q, A q → N ≤ q ∧ q < N + 41) (hB : ∀ k, B k → ¬ (k = 1 ∨ k = 4 ∨ k = 5 ∨ k = 7 ∨ k = 16 ∨ k = 21 ∨ k = 26 ∨ k = 32 ∨ k = 40)) (hA : ∀ j, A (N + j) → ¬ (j = 1 ∨ j = 15 ∨ j = 18 ∨ j = 22 ∨ j = 25 ∨ (26 ≤ j ∧ j ≤ 40))) : Fr N (N + 41) h h' ∧ VX h' N (m5 yo) (fin s 0) := by
  obtain ⟨S, P, V, lE⟩ := R
  obtain ⟨f1, S1, Q1, t1⟩ := an_all S
  exact ⟨f1.trans (f.fr (by omega) hA0), V.fin (Q1.trans (f.svx (fun k hk => by have := hB k hk; omega) hA)) ((f.2.2 4 (fun z => by have := hB 4 z; omega)).trans t1) (by decide)⟩
theorem m_fin {N E : Nat} {h h' : Hp} {yo : Option Dy} {s : St} {A B : Nat → Prop} (R : RMs h N E yo s) (f : Fw N A B (sI h N 0 0) h') (hA0 : ∀ q, A q → N ≤ q ∧ q < N + 21) (hB : ∀ k, B k → ¬ (k = 6 ∨ k = 13 ∨ k = 19 ∨ k = 27 ∨ k = 33 ∨ k = 34 ∨ k = 37 ∨ k = 42)) (hA : ∀ j, A (N + j) → ¬ ((1 ≤ j ∧ j ≤ 3) ∨ j = 7 ∨ j = 11 ∨ j = 13 ∨ j = 14 ∨ (16 ≤ j ∧ j ≤ 20))) : Fr N (N + 21) h (rf h' N 0) ∧ VM (rf h' N 0) N (fin s 0) := by
  obtain ⟨S, P, V, lE⟩ := R
  obtain ⟨f1, S1, Q1⟩ := th_all S 0
  obtain ⟨f2, S2, Q2, t2, w2⟩ := rf_all (S1.kept f.1) 0
  exact ⟨(f1.trans (f.fr (by omega) hA0)).trans f2, V.fin ((Q1.trans (f.svm hB hA)).trans Q2) t2 w2⟩
/-- how each begins -/
theorem x_beg {N E d : Nat} {h : Hp} {qa : Nat → Nat → Nat} {y : Dy} {s : St} (R : RXs h N E (some y) s) (e1 : gR h N 3 = some d) (D : DX h E d qa y) : XD (an h N) N E d qa y := by
  obtain ⟨S, P, V, lE⟩ := R
  obtain ⟨f1, S1, Q1, t1⟩ := an_all S
  have K := P.yk y rfl
  exact XD.kept ⟨S, e1, D, lE, K⟩ f1
theorem m_beg {N E d : Nat} {h : Hp} {y : Dy} {s : St} (R : RMs h N E (some y) s) (e1 : gR h N 3 = some d) (D : DM h E d y) : MD (sI h N 0 0) N E d y := by
  obtain ⟨S, P, V, lE⟩ := R
  obtain ⟨f1, S1, Q1⟩ := th_all S 0
  have K := P.yk y rfl
  exact MD.kept ⟨S, e1, D, lE, K⟩ f1
theorem x_best {N E : Nat} (c x : Int32) : XOp N E (fX1_best N c x) (fun yo s => bestR yo s c x) := by
  intro h yo s R I
  obtain ⟨S, P, V, lE⟩ := id R
  obtain ⟨f1, S1, Q1, t1⟩ := an_all S
  have han : fX1_anew N h = some (an h N) := qx_anew S
  cases yo with
  | none =>
    obtain ⟨a1, a2⟩ := xq_end R 1 (by decide)
    refine ⟨_, ?_, a1, a2⟩
    have hw := qx_bestWhy0 S1 (P.kept f1.1 (fun q hq => f1.2 q (by omega))) c x
    simp only [fX1_best, ab_ckq S.o, han, bdS, b2S, bxL, bxR, onN, onS, hw, show ¬ ((1 : Int32) = 0) from by decide, if_false, qx_no S1]
    rfl
  | some y =>
    obtain ⟨d, qa, e1, D, K⟩ := id P
    have Z := x_beg R e1 D
    have hw := qx_bestWhy Z c x
    rcases bw_cases K c x with ⟨b1, b2⟩ | ⟨b1, b2⟩ | ⟨k, T, rfl, rfl, hk, hT, hx, b1, b2⟩
    · obtain ⟨a1, a2⟩ := xq_end R 1 (by decide)
      obtain ⟨b3, -⟩ := b2 s
      simp only [b3]
      refine ⟨_, ?_, a1, a2⟩
      simp only [fX1_best, ab_ckq S.o, han, bdS, b2S, bxL, bxR, onN, onS, hw, b1, show ¬ ((1 : Int32) = 0) from by decide, if_false, qx_no S1]
    · obtain ⟨a1, a2⟩ := xq_end R 3 (by decide)
      obtain ⟨b3, -⟩ := b2 s
      simp only [b3]
      refine ⟨_, ?_, a1, a2⟩
      simp only [fX1_best, ab_ckq S.o, han, bdS, b2S, bxL, bxR, onN, onS, hw, b1, show ¬ ((3 : Int32) = 0) from by decide, if_false, qx_no S1]
    · obtain ⟨b3, -⟩ := b2 s
      obtain ⟨h', q1, q2, q3⟩ := qx_bestOf Z hk hT hx
      obtain ⟨a1, a2⟩ := x_fin R q2 (fun q a => by simp only [A6] at a; omega) (fun k a => by simp only [B11] at a; omega) (fun k a => by simp only [A6] at a; omega)
      simp only [b3]
      refine ⟨h', ?_, a1, a2⟩
      simp only [fX1_best, ab_ckq S.o, han, bdS, b2S, bxL, bxR, onN, onS, hw, b1, if_true, q1]
theorem m_best {N E : Nat} (c x : Int32) : MOp N E (fX5_best N c x) (fun yo s => bestR yo s c x) := by
  intro h yo s R I
  obtain ⟨S, P, V, lE⟩ := id R
  obtain ⟨f1, S1, Q1⟩ := th_all S 0
  cases yo with
  | none =>
    obtain ⟨a1, a2⟩ := m_end R 1
    refine ⟨_, ?_, a1, a2⟩
    have hw := qm_bestWhy0 S1 (P.kept f1.1 (fun q hq => f1.2 q (by omega))) c x
    simp only [fX5_best, ab_ckq S.o, ab_pIq S.o S.1, bdS, b2S, bxL, bxR, onN, onS, hw, show ¬ ((1 : Int32) ≤ 0) from by decide, if_false, qm_refused S1]
    rfl
  | some y =>
    obtain ⟨d, e1, D, K⟩ := id P
    have Z := m_beg R e1 D
    have hw := qm_bestWhy Z c x
    rcases bw_cases K c x with ⟨b1, b2⟩ | ⟨b1, b2⟩ | ⟨k, T, rfl, rfl, hk, hT, hx, b1, b2⟩
    · obtain ⟨a1, a2⟩ := m_end R 1
      obtain ⟨b3, -⟩ := b2 s
      simp only [b3]
      refine ⟨_, ?_, a1, a2⟩
      simp only [fX5_best, ab_ckq S.o, ab_pIq S.o S.1, bdS, b2S, bxL, bxR, onN, onS, hw, b1, show ¬ ((1 : Int32) ≤ 0) from by decide, if_false, qm_refused S1, rf]
    · obtain ⟨a1, a2⟩ := m_end R 3
      obtain ⟨b3, -⟩ := b2 s
      simp only [b3]
      refine ⟨_, ?_, a1, a2⟩
      simp only [fX5_best, ab_ckq S.o, ab_pIq S.o S.1, bdS, b2S, bxL, bxR, onN, onS, hw, b1, show ¬ ((3 : Int32) ≤ 0) from by decide, if_false, qm_refused S1, rf]
    · obtain ⟨b3, -⟩ := b2 s
      obtain ⟨h', q1, q2, q3⟩ := qm_bests Z hk hT hx
      obtain ⟨a1, a2⟩ := m_fin R q2 (fun q a => by simp only [Ab] at a; omega) (fun k a => by simp only [Bb] at a; omega) (fun k a => by simp only [Ab] at a; omega)
      have S2 := S1.kept q2.1
      simp only [b3]
      refine ⟨_, ?_, a1, a2⟩
      simp only [fX5_best, ab_ckq S.o, ab_pIq S.o S.1, bdS, b2S, bxL, bxR, onN, onS, hw, b1, show ((0 : Int32) ≤ 0) from by decide, if_true, q1, g4_24 S2.o, g4_25 S2.o, qm_done S2, q3.1, q3.2.1, q3.2.2.2.1, wV, rf]
theorem x_bestAt {N E : Nat} (c x i : Int32) : XOp N E (fX1_bestAt N c x i) (fun yo s => bestAtR yo s c x i) := by
  intro h yo s R I
  obtain ⟨S, P, V, lE⟩ := id R
  obtain ⟨f1, S1, Q1, t1⟩ := an_all S
  have han : fX1_anew N h = some (an h N) := qx_anew S
  cases yo with
  | none =>
    obtain ⟨a1, a2⟩ := xq_end R 1 (by decide)
    refine ⟨_, ?_, a1, a2⟩
    have hw := qx_bestWhy0 S1 (P.kept f1.1 (fun q hq => f1.2 q (by omega))) c x
    simp only [fX1_bestAt, ab_ckq S.o, han, bdS, b2S, bxL, bxR, onN, onS, hw, show ¬ ((1 : Int32) = 0) from by decide, if_false, qx_no S1]
    rfl
  | some y =>
    obtain ⟨d, qa, e1, D, K⟩ := id P
    have Z := x_beg R e1 D
    have hw := qx_bestWhy Z c x
    rcases bw_cases K c x with ⟨b1, b2⟩ | ⟨b1, b2⟩ | ⟨k, T, rfl, rfl, hk, hT, hx, b1, b2⟩
    · obtain ⟨a1, a2⟩ := xq_end R 1 (by decide)
      obtain ⟨-, b3⟩ := b2 s
      simp only [b3]
      refine ⟨_, ?_, a1, a2⟩
      simp only [fX1_bestAt, ab_ckq S.o, han, bdS, b2S, bxL, bxR, onN, onS, hw, b1, show ¬ ((1 : Int32) = 0) from by decide, if_false, qx_no S1]
    · obtain ⟨a1, a2⟩ := xq_end R 3 (by decide)
      obtain ⟨-, b3⟩ := b2 s
      simp only [b3]
      refine ⟨_, ?_, a1, a2⟩
      simp only [fX1_bestAt, ab_ckq S.o, han, bdS, b2S, bxL, bxR, onN, onS, hw, b1, show ¬ ((3 : Int32) = 0) from by decide, if_false, qx_no S1]
    · obtain ⟨-, b3⟩ := b2 s
      have hp6 := pc_le T hT
      have h3 := nI_m1 (n := pc T) (by omega) i
      have ho := qx_ones (h := an h N) Z.1.f hT
      by_cases g1 : i < 0
      · obtain ⟨a1, a2⟩ := xq_end R 1 (by decide)
        simp only [b3, g1, if_true]
        refine ⟨_, ?_, a1, a2⟩
        simp only [fX1_bestAt, ab_ckq S.o, han, bdS, b2S, bxL, bxR, onN, onS, hw, b1, if_true, ho, qx_in, g1, qx_no S1]
      · by_cases g2 : nI (pc T) ≤ i
        · obtain ⟨a1, a2⟩ := xq_end R 1 (by decide)
          simp only [b3, g1, g2, if_true, if_false]
          refine ⟨_, ?_, a1, a2⟩
          simp only [fX1_bestAt, ab_ckq S.o, han, bdS, b2S, bxL, bxR, onN, onS, hw, b1, if_true, ho, qx_in, h3, g1, g2, if_false, qx_no S1]
        · obtain ⟨h', q1, q2, q3⟩ := qx_bestOf Z hk hT hx
          obtain ⟨a1, a2⟩ := x_fin R q2 (fun q a => by simp only [A6] at a; omega) (fun k a => by simp only [B11] at a; omega) (fun k a => by simp only [A6] at a; omega)
          obtain ⟨j, hj, rfl⟩ := nI_of g1
          have hjp : j < pc T := Nat.not_le.mp fun h => g2 (nI_le h hj)
          obtain ⟨c1, c2, c3⟩ := bst_ok (y := y) (c := k) hT
          have hne : ¬ (bst y k T).1 = -1 := by
            rw [c3]
            exact wV_ne K hk (by omega) (fun z hz => hx z (c2 z hz))
          have S2 := S1.kept q2.1
          obtain ⟨-, ⟨-, -, T3, T4, T5, T6, T7⟩, -, T9⟩ := S2.tried
          have hrl : RL h' (N + 9) (bst y k T).2 := q3.2.2.resolve_left hne
          simp only [b3, g1, g2, if_false, nI_clamp hj]
          refine ⟨h', ?_, a1, a2⟩
          simp only [fX1_bestAt, ab_ckq S.o, han, bdS, b2S, bxL, bxR, onN, onS, hw, b1, if_true, ho, qx_in, h3, g1, g2, if_false, show ¬ ((1 : Int32) = 0) from by decide, q1, g0_10 S2.o, T9, g3_0 T3, T4, aIn T6 (show j < 6 by omega), hrl.2.1 j (by omega)]
theorem m_bestAt {N E : Nat} (c x i : Int32) : MOp N E (fX5_bestAt N c x i) (fun yo s => bestAtR yo s c x i) := by
  intro h yo s R I
  obtain ⟨S, P, V, lE⟩ := id R
  obtain ⟨f1, S1, Q1⟩ := th_all S 0
  cases yo with
  | none =>
    obtain ⟨a1, a2⟩ := m_end R 1
    refine ⟨_, ?_, a1, a2⟩
    have hw := qm_bestWhy0 S1 (P.kept f1.1 (fun q hq => f1.2 q (by omega))) c x
    simp only [fX5_bestAt, ab_ckq S.o, ab_pIq S.o S.1, bdS, b2S, bxL, bxR, onN, onS, hw, show ¬ ((1 : Int32) ≤ 0) from by decide, if_false, qm_refused S1]
    rfl
  | some y =>
    obtain ⟨d, e1, D, K⟩ := id P
    have Z := m_beg R e1 D
    have hw := qm_bestWhy Z c x
    rcases bw_cases K c x with ⟨b1, b2⟩ | ⟨b1, b2⟩ | ⟨k, T, rfl, rfl, hk, hT, hx, b1, b2⟩
    · obtain ⟨a1, a2⟩ := m_end R 1
      obtain ⟨-, b3⟩ := b2 s
      simp only [b3]
      refine ⟨_, ?_, a1, a2⟩
      simp only [fX5_bestAt, ab_ckq S.o, ab_pIq S.o S.1, bdS, b2S, bxL, bxR, onN, onS, hw, b1, show ¬ ((1 : Int32) ≤ 0) from by decide, if_false, qm_refused S1, rf]
    · obtain ⟨a1, a2⟩ := m_end R 3
      obtain ⟨-, b3⟩ := b2 s
      simp only [b3]
      refine ⟨_, ?_, a1, a2⟩
      simp only [fX5_bestAt, ab_ckq S.o, ab_pIq S.o S.1, bdS, b2S, bxL, bxR, onN, onS, hw, b1, show ¬ ((3 : Int32) ≤ 0) from by decide, if_false, qm_refused S1, rf]
    · obtain ⟨-, b3⟩ := b2 s
      have hp6 := pc_le T hT
      have ho := qm_bits (h := sI h N 0 0) Z.1.f hT
      by_cases g1 : i < 0
      · obtain ⟨a1, a2⟩ := m_end R 1
        simp only [b3, g1, if_true]
        refine ⟨_, ?_, a1, a2⟩
        simp only [fX5_bestAt, ab_ckq S.o, ab_pIq S.o S.1, bdS, b2S, bxL, bxR, onN, onS, hw, b1, show ((0 : Int32) ≤ 0) from by decide, if_true, g1, qm_refused S1, rf]
      · by_cases g2 : nI (pc T) ≤ i
        · obtain ⟨a1, a2⟩ := m_end R 1
          simp only [b3, g1, g2, if_true, if_false]
          refine ⟨_, ?_, a1, a2⟩
          simp only [fX5_bestAt, ab_ckq S.o, ab_pIq S.o S.1, bdS, b2S, bxL, bxR, onN, onS, hw, b1, show ((0 : Int32) ≤ 0) from by decide, if_true, ho, g1, Int32.not_lt.mpr g2, if_false, qm_refused S1, rf]
        · obtain ⟨h', q1, q2, q3⟩ := qm_bests Z hk hT hx
          obtain ⟨a1, a2⟩ := m_fin R q2 (fun q a => by simp only [Ab] at a; omega) (fun k a => by simp only [Bb] at a; omega) (fun k a => by simp only [Ab] at a; omega)
          obtain ⟨j, hj, rfl⟩ := nI_of g1
          have hjp : j < pc T := Nat.not_le.mp fun h => g2 (nI_le h hj)
          obtain ⟨c1, c2, c3⟩ := bst_ok (y := y) (c := k) hT
          have S2 := S1.kept q2.1
          simp only [b3, g1, g2, if_false, nI_clamp hj]
          refine ⟨_, ?_, a1, a2⟩
          have hS2 := S2
          obtain ⟨hz, hfu0, o0, o1, r0_5, o2, r0_17, o3, r0_18, o4, r0_22, o5, r0_23, o6, r0_26, o7, r0_28, o8, r0_29, o9, r0_30, o10, r0_31, o11, r0_32, o12, r0_35, o13, r0_36, o14, r0_38, o15, r0_39, o16, r0_40, o17, r0_41, o18, r0_43, o19, r0_44, o20, r0_45⟩ := id hS2
          simp only [fX5_bestAt, ab_ckq S.o, ab_pIq S.o S.1, bdS, b2S, bxL, bxR, onN, onS, hw, b1, show ((0 : Int32) ≤ 0) from by decide, if_true, ho, g1, Int32.not_le.mp g2, if_false, q1, g4_26 o0, r0_26, aIn o6 (show j < 6 by omega), q3.2.2.1 j (by omega), qm_done S2, rf]
