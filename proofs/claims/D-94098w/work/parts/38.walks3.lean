/-- what a Round holds -/
def RL (h : Hp) (r : Nat) (l : List Nat) : Prop := gI h r 2 = nI l.length ∧ (∀ j, j < l.length → aF h (r + 1) j = nI (l.getD j 0)) ∧ l.length ≤ 6
noncomputable def bV (y : Dy) (c : Nat) (tea : Int32) (l : List Nat) : Int32 := wkB y c tea l (y.2 27 c) (y.2 11 (frV y c)) 0
def cV (y : Dy) (c : Nat) (tea : Int32) (l : List Nat) : List Int32 := wkC y c tea l (y.2 27 c) (y.2 11 (frV y c))
theorem wkC_len {y : Dy} {c : Nat} {tea : Int32} {l : List Nat} {m p : Int32} : (wkC y c tea l m p).length = l.length := by
  induction l generalizing m p with
  | nil => rfl
  | cons x t ih => simp [wkC, ih]
theorem qx_walks {N E d : Nat} {qa : Nat → Nat → Nat} {y : Dy} {r c : Nat} {h : Hp} (Z : XD h N E d qa y) (R : RO h N r) (hc : c < y.1 6) (tea : Int32) {l : List Nat} (Hl : RL h r l) (hx : ∀ x ∈ l, x < y.1 5) :
    ∃ h', fX4_walks r (some d) (some (qa 4 c)) tea h = some (some r, h') ∧ Fr r (r + 3) h h' ∧ RL h' r l ∧ gI h' r 3 = bV y c tea l ∧ (∀ j, j < l.length → aF h' (r + 2) j = (cV y c tea l).getD j 0) ∧ aF h' (r + 1) = aF h (r + 1) ∧ gI h' r 2 = gI h r 2 := by
  obtain ⟨H1, H2, H3⟩ := Hl
  obtain ⟨R1, R2, R3, R4, R5, R6, R7⟩ := id R
  have f : Fr r (r + 3) h (sI h r 3 0) := Fr.sI R3 rfl (by omega) (by omega)
  have Z1 := Z.kept (f.wide R1 (show r + 3 ≤ N + 41 by omega))
  obtain ⟨h', q1, q2, q3, q4, q5, q6, -⟩ := qx_walkL (r := r) hc tea l 0 300000 (sI h r 3 0) (y.2 27 c) (y.2 11 (frV y c)) Z1 (R.kept f.1) (by rw [gI_sI R3, if_neg (by omega), H1, Nat.zero_add]) (fun j hj => by rw [aF_sI, Nat.zero_add]; exact H2 j hj) hx (by omega) (by omega)
  have e0 : gI (sI h r 3 0) r 3 = 0 := by rw [gI_sI R3, if_pos ⟨rfl, rfl⟩]
  refine ⟨h', ?_, f.trans q2, ⟨q4.trans (by rw [gI_sI R3, if_neg (by omega), H1]), fun j hj => by rw [q3, aF_sI]; exact H2 j hj, H3⟩, by rw [q5, e0]; rfl, fun j hj => by have := q6 j hj; rw [Nat.zero_add] at this; exact this, by rw [q3, aF_sI], q4.trans (by rw [gI_sI R3, if_neg (by omega)])⟩
  obtain ⟨S, e1, D, lE, K⟩ := id Z
  obtain ⟨hz, hfu0, o0, o1, r0_0, o2, r0_2, o3, r2_0, r2_1, o4, r2_2, o5, r0_8, o6, o7, o8, r6_0, r6_1, o9, o10, o11, r9_0, r9_1, o32, o33, o34, r32_0, r32_1, o35, o36, o37, r35_0, r35_1, o38, o39, o40, r38_0, r38_1, r0_9, r0_10, o12, r0_12, o13, r0_13, o14, r0_14, o15, r0_15, o16, r0_18, o17, r0_19, o18, r0_20, o19, r0_22, o20, r0_23, o21, r0_24, o22, r0_25, o23, r0_28, o24, r0_29, o25, r0_30, o26, r0_31, o27, r0_35, o28, r0_36, o29, r0_37, o30, r0_38, o31, r0_39, d5_0, d5_1, d5_2⟩ := id S
  obtain ⟨dlo, do0, dr0, da0, dr1, da1, dr2, da2, dr3, da3, dr4, da4, dr5, da5, dr6, da6, dr7, da7, dr8, da8, dn2, dn3, dn4, dn5, dn6, dn8, dn9, dn7, dv17, dv18, dvf, dt0, dt1, dt2, dt3, dt4, dt5, dt6⟩ := id D
  obtain ⟨yc2, yc3, yc4, yc5, yc6, yc7, yc8, yc9, yyk, yyd, yyf, yyh, yyc, yyl, yyp, yyhot, yyby⟩ := id K
  obtain ⟨z1, z2, z3, z4, z5, z6, z7, z8⟩ := dt4 c hc
  obtain ⟨⟨w1, w2⟩, -⟩ := yyc c hc
  obtain ⟨u1, u2, u3, u4, u5, u6⟩ := dt0 _ w2
  have hfu1 : hfu (sI h r 3 0) = 300000 := by
    obtain ⟨⟨hz1, hf1, -⟩, -⟩ := id Z1
    exact hf1
  simp only [fX4_walks, ab_ckq R3, bdS, b2S, bxL, bxR, onN, onS, g10_3 z3, z4, g10_2 z3, z8, g6_2 u3, u5, ab_pIq R3 (Nat.le_trans hz R1), hfu1]
  rw [← q1, nI_0]
  rfl
theorem Fr.RL {lo hi : Nat} {h h1 : Hp} {r : Nat} {l : List Nat} (H : RL h r l) (f : Fr lo hi h h1) (hr : r + 1 < lo ∨ hi ≤ r) : RL h1 r l := by
  obtain ⟨H1, H2, H3⟩ := H
  exact ⟨(f.gI (by omega) _).trans H1, fun j hj => by rw [f.aF (by omega)]; exact H2 j hj, H3⟩
theorem nI_z {n : Nat} (h : n < 2 ^ 31) : (nI n = 0) ↔ n = 0 := by
  rw [← nI_0, nI_eq h (by omega)]
theorem qx_last {N E d : Nat} {qa : Nat → Nat → Nat} {y : Dy} {r c : Nat} {h : Hp} (Z : XD h N E d qa y) (R : RO h N r) (hc : c < y.1 6) {l : List Nat} (Hl : RL h r l) : fX4_last r (some (qa 4 c)) h = some (if l.length = 0 then y.2 27 c else aF h (r + 2) (l.length - 1), h) := by
  obtain ⟨H1, H2, H3⟩ := Hl
  obtain ⟨R1, R2, R3, R4, R5, R6, R7⟩ := id R
  obtain ⟨S, e1, D, lE, K⟩ := id Z
  obtain ⟨hz, hfu0, o0, o1, r0_0, o2, r0_2, o3, r2_0, r2_1, o4, r2_2, o5, r0_8, o6, o7, o8, r6_0, r6_1, o9, o10, o11, r9_0, r9_1, o32, o33, o34, r32_0, r32_1, o35, o36, o37, r35_0, r35_1, o38, o39, o40, r38_0, r38_1, r0_9, r0_10, o12, r0_12, o13, r0_13, o14, r0_14, o15, r0_15, o16, r0_18, o17, r0_19, o18, r0_20, o19, r0_22, o20, r0_23, o21, r0_24, o22, r0_25, o23, r0_28, o24, r0_29, o25, r0_30, o26, r0_31, o27, r0_35, o28, r0_36, o29, r0_37, o30, r0_38, o31, r0_39, d5_0, d5_1, d5_2⟩ := id S
  obtain ⟨dlo, do0, dr0, da0, dr1, da1, dr2, da2, dr3, da3, dr4, da4, dr5, da5, dr6, da6, dr7, da7, dr8, da8, dn2, dn3, dn4, dn5, dn6, dn8, dn9, dn7, dv17, dv18, dvf, dt0, dt1, dt2, dt3, dt4, dt5, dt6⟩ := id D
  obtain ⟨yc2, yc3, yc4, yc5, yc6, yc7, yc8, yc9, yyk, yyd, yyf, yyh, yyc, yyl, yyp, yyhot, yyby⟩ := id K
  obtain ⟨z1, z2, z3, z4, z5, z6, z7, z8⟩ := dt4 c hc
  simp only [fX4_last, ab_ckq R3, bdS, b2S, bxL, bxR, onN, onS, g3_2 R3, H1, nI_z (show l.length < 2 ^ 31 by omega), g10_3 z3, z4, g3_1 R3, R5]
  by_cases h0 : l.length = 0
  · simp only [h0, if_true]
  · simp only [h0, if_false]
    obtain ⟨k, hk⟩ : ∃ k, l.length = k + 1 := ⟨l.length - 1, by omega⟩
    rw [hk, nI_pred, aIn R7 (show k < 6 by omega)]
    simp only [bdS, b2S, bxL, bxR, onN, onS, Nat.add_sub_cancel]
/-- ones of a set of at most six -/
def pc (s : Nat) : Nat := s % 2 + s / 2 % 2 + s / 4 % 2 + s / 8 % 2 + s / 16 % 2 + s / 32 % 2
theorem pc_step : ∀ s, s < 64 → s ≠ 0 → (nI s &&& (nI s - 1)) = nI (s &&& (s - 1)) ∧ (s &&& (s - 1)) < s ∧ pc (s &&& (s - 1)) + 1 = pc s := by decide +kernel
theorem pc_0 : ∀ s, s < 64 → pc s = 0 → s = 0 := by decide +kernel
theorem qx_onesL {h : Hp} : ∀ (p s n k : Nat), s < 64 → pc s = p → p < n → fX1_ones_l4 n (nI k) (nI s) h = some (nI (k + p), h) := by
  intro p
  induction p with
  | zero =>
    intro s n k hs hp hn
    have h0 := pc_0 s hs hp
    subst h0
    cases n with
    | zero => omega
    | succ n => simp only [fX1_ones_l4, nI_0, if_true, Nat.add_zero]
  | succ p ih =>
    intro s n k hs hp hn
    have h0 : s ≠ 0 := fun e => by subst e; have h9 : pc 0 = 0 := rfl; omega
    obtain ⟨a1, a2, a3⟩ := pc_step s hs h0
    cases n with
    | zero => omega
    | succ n =>
      simp only [fX1_ones_l4, nI_z (show s < 2 ^ 31 by omega), h0, if_false, a1, nI_1]
      rw [ih _ n (k + 1) (by omega) (by omega) (by omega)]
      rw [show k + 1 + p = k + (p + 1) by omega]
theorem pc_le : ∀ s, s < 64 → pc s ≤ 6 := by decide +kernel
theorem qx_ones {h : Hp} (hf : hfu h = 300000) {s : Nat} (hs : s < 64) : fX1_ones (nI s) h = some (nI (pc s), h) := by
  have hp := pc_le s hs
  unfold fX1_ones
  rw [hf, ← nI_0, qx_onesL _ s 300000 0 hs rfl (by omega), Nat.zero_add]
theorem qm_onesL {h : Hp} : ∀ (p s n k : Nat), s < 64 → pc s = p → p < n → fX5_bits_l4 n (nI k) (nI s) h = some (nI (k + p), h) := by
  intro p
  induction p with
  | zero =>
    intro s n k hs hp hn
    have h0 := pc_0 s hs hp
    subst h0
    cases n with
    | zero => omega
    | succ n => simp only [fX5_bits_l4, nI_0, if_true, Nat.add_zero]
  | succ p ih =>
    intro s n k hs hp hn
    have h0 : s ≠ 0 := fun e => by subst e; have h9 : pc 0 = 0 := rfl; omega
    obtain ⟨a1, a2, a3⟩ := pc_step s hs h0
    cases n with
    | zero => omega
    | succ n =>
      simp only [fX5_bits_l4, nI_z (show s < 2 ^ 31 by omega), h0, if_false, a1, nI_1]
      rw [ih _ n (k + 1) (by omega) (by omega) (by omega)]
      rw [show k + 1 + p = k + (p + 1) by omega]
theorem qm_bits {h : Hp} (hf : hfu h = 300000) {s : Nat} (hs : s < 64) : fX5_bits (nI s) h = some (nI (pc s), h) := by
  have hp := pc_le s hs
  unfold fX5_bits
  rw [hf, ← nI_0, qm_onesL _ s 300000 0 hs rfl (by omega), Nat.zero_add]
