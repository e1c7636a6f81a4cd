/-! WALKS: a car goes along a list of houses -/
def lieB (s : Int32) (x : Nat) : Bool := decide (((s >>> (nI x &&& 31)) &&& (1 : Int32)) = (1 : Int32))
theorem qx_lies (s : Int32) (x : Nat) (h : Hp) : fX1_lies s (nI x) h = some (if lieB s x then 1 else 0, h) := by
  unfold fX1_lies lieB
  by_cases h1 : ((s >>> (nI x &&& 31)) &&& (1 : Int32)) = (1 : Int32)
  · simp only [h1, if_true, decide_true]
  · simp only [h1, if_false, decide_false, Bool.false_eq_true]
theorem qm_has (s : Int32) (x : Nat) (h : Hp) : fX5_has s (nI x) h = some (if lieB s x then 1 else 0, h) := by
  unfold fX5_has lieB
  by_cases h1 : ((s >>> (nI x &&& 31)) &&& (1 : Int32)) = (1 : Int32)
  · simp only [h1, if_true, decide_true]
  · simp only [h1, if_false, decide_false, Bool.false_eq_true]
def badV (y : Dy) (c : Nat) (m : Int32) : Prop := y.2 0 1 < m ∨ ¬ y.2 0 0 ≤ heatV y c m
noncomputable def badB (y : Dy) (c : Nat) (m : Int32) (x : Nat) : Int32 := if y.2 0 1 < m then (1 : Int32) <<< (nI x &&& 31) else if y.2 0 0 ≤ heatV y c m then 0 else (1 : Int32) <<< (nI x &&& 31)
def m1V (y : Dy) (m p : Int32) (x : Nat) : Int32 := m + wayV y p (y.2 18 x)
def frtV (y : Dy) (c x : Nat) : Int32 := if y.2 24 x = 0 then 0 else if y.2 25 c = 0 then 0 else 5
def m2V (y : Dy) (c : Nat) (tea m1 : Int32) (x : Nat) : Int32 := m1 + ((y.2 20 x + frtV y c x) + (if lieB tea x then y.2 21 x else 0))
noncomputable def wkB (y : Dy) (c : Nat) (tea : Int32) : List Nat → Int32 → Int32 → Int32 → Int32
  | [], _, _, b => b
  | x :: t, m, p, b => wkB y c tea t (m2V y c tea (m1V y m p x) x) (y.2 18 x) (b ||| badB y c (m1V y m p x) x)
def wkC (y : Dy) (c : Nat) (tea : Int32) : List Nat → Int32 → Int32 → List Int32
  | [], _, _ => []
  | x :: t, m, p => m1V y m p x :: wkC y c tea t (m2V y c tea (m1V y m p x) x) (y.2 18 x)
theorem qx_isBad {h : Hp} {N E d : Nat} {qa : Nat → Nat → Nat} {y : Dy} (Z : XD h N E d qa y) {c : Nat} (hc : c < y.1 6) (m : Int32) : fX6_isBad d (some (qa 4 c)) m h = some (if y.2 0 1 < m then 1 else if y.2 0 0 ≤ heatV y c m then 0 else 1, h) := by
  have hh := qx_heat Z hc m
  obtain ⟨S, e1, D, lE, K⟩ := id Z
  obtain ⟨hz, hfu0, o0, o1, r0_0, o2, r0_2, o3, r2_0, r2_1, o4, r2_2, o5, r0_8, o6, o7, o8, r6_0, r6_1, o9, o10, o11, r9_0, r9_1, o32, o33, o34, r32_0, r32_1, o35, o36, o37, r35_0, r35_1, o38, o39, o40, r38_0, r38_1, r0_9, r0_10, o12, r0_12, o13, r0_13, o14, r0_14, o15, r0_15, o16, r0_18, o17, r0_19, o18, r0_20, o19, r0_22, o20, r0_23, o21, r0_24, o22, r0_25, o23, r0_28, o24, r0_29, o25, r0_30, o26, r0_31, o27, r0_35, o28, r0_36, o29, r0_37, o30, r0_38, o31, r0_39, d5_0, d5_1, d5_2⟩ := id S
  obtain ⟨dlo, do0, dr0, da0, dr1, da1, dr2, da2, dr3, da3, dr4, da4, dr5, da5, dr6, da6, dr7, da7, dr8, da8, dn2, dn3, dn4, dn5, dn6, dn8, dn9, dn7, dv17, dv18, dvf, dt0, dt1, dt2, dt3, dt4, dt5, dt6⟩ := id D
  obtain ⟨yc2, yc3, yc4, yc5, yc6, yc7, yc8, yc9, yyk, yyd, yyf, yyh, yyc, yyl, yyp, yyhot, yyby⟩ := id K
  simp only [fX6_isBad, ab_ckq do0, g5_18 do0, bdS, b2S, bxL, bxR, onN, onS, dv18, hh, g5_17 do0, dv17]
  by_cases h1 : y.2 0 1 < m
  · simp only [h1, if_true]
  · by_cases h2 : y.2 0 0 ≤ heatV y c m
    · simp only [h1, h2, if_true, if_false]
    · simp only [h1, h2, if_false]
/-- a Round with its arrays behind it -/
def RO (h : Hp) (N r : Nat) : Prop := N ≤ r ∧ r + 2 < N + 41 ∧ isO h r 3 ∧ gR h r 0 = some (r + 1) ∧ gR h r 1 = some (r + 2) ∧ isA h (r + 1) 0 6 ∧ isA h (r + 2) 0 6
theorem RO.kept {h h1 : Hp} {N r : Nat} (s : RO h N r) (k : Kp h h1) : RO h1 N r := by
  obtain ⟨a1, a2, a3, a4, a5, a6, a7⟩ := s
  obtain ⟨k1, k2, k3, k4, k5, k6, k7, k8⟩ := k
  exact ⟨a1, a2, k2 _ _ a3, (k6 _ _).trans a4, (k6 _ _).trans a5, k3 _ _ _ a6, k3 _ _ _ a7⟩
theorem Int32_or0 (a : Int32) : a ||| 0 = a := by
  apply Int32.toBitVec_inj.mp
  simp
theorem qx_b137 {h : Hp} {N E d : Nat} {qa : Nat → Nat → Nat} {y : Dy} (Z : XD h N E d qa y) {r : Nat} (R : RO h N r) {x k : Nat} (hx : x < y.1 5) (hk : k < 6) (ha : aF h (r + 1) k = nI x) {K : Option Nat → Nat → Int32 → Int32 → Int32 → Int32 → Hp → Option ((Option Nat) × Hp)} {l2 : Nat} {tea p s0 s1 s2 : Int32} : fX4_walks_b137 r K d l2 tea p (nI k) (qa 3 x) s0 s1 s2 h = K (some d) l2 tea (s2 + ((s1 + s0) + (if lieB tea x then y.2 21 x else 0))) p (nI (k + 1)) h := by
  obtain ⟨S, e1, D, lE, K⟩ := id Z
  obtain ⟨hz, hfu0, o0, o1, r0_0, o2, r0_2, o3, r2_0, r2_1, o4, r2_2, o5, r0_8, o6, o7, o8, r6_0, r6_1, o9, o10, o11, r9_0, r9_1, o32, o33, o34, r32_0, r32_1, o35, o36, o37, r35_0, r35_1, o38, o39, o40, r38_0, r38_1, r0_9, r0_10, o12, r0_12, o13, r0_13, o14, r0_14, o15, r0_15, o16, r0_18, o17, r0_19, o18, r0_20, o19, r0_22, o20, r0_23, o21, r0_24, o22, r0_25, o23, r0_28, o24, r0_29, o25, r0_30, o26, r0_31, o27, r0_35, o28, r0_36, o29, r0_37, o30, r0_38, o31, r0_39, d5_0, d5_1, d5_2⟩ := id S
  obtain ⟨dlo, do0, dr0, da0, dr1, da1, dr2, da2, dr3, da3, dr4, da4, dr5, da5, dr6, da6, dr7, da7, dr8, da8, dn2, dn3, dn4, dn5, dn6, dn8, dn9, dn7, dv17, dv18, dvf, dt0, dt1, dt2, dt3, dt4, dt5, dt6⟩ := id D
  obtain ⟨yc2, yc3, yc4, yc5, yc6, yc7, yc8, yc9, yyk, yyd, yyf, yyh, yyc, yyl, yyp, yyhot, yyby⟩ := id K
  obtain ⟨R1, R2, R3, R4, R5, R6, R7⟩ := R
  obtain ⟨z1, z2, z3, z4, z5, z6, z7, z8, z9, z10⟩ := dt3 x hx
  simp only [fX4_walks_b137, g3_0 R3, R4, bdS, b2S, bxL, bxR, onN, onS, aIn R6 hk, ha, qx_lies, nI_1, g9_4 z3, z6]
  by_cases h1 : lieB tea x
  · simp [h1]
  · simp [h1]
theorem qx_b106 {h : Hp} {N E d : Nat} {qa : Nat → Nat → Nat} {y : Dy} (Z : XD h N E d qa y) {r : Nat} (R : RO h N r) {c x k : Nat} (hc : c < y.1 6) (hx : x < y.1 5) (hk : k < 6) (ha : aF h (r + 1) k = nI x) {K : Option Nat → Nat → Int32 → Int32 → Int32 → Int32 → Hp → Option ((Option Nat) × Hp)} {tea m1 p s0 s1 : Int32} : fX4_walks_b106 r K d (qa 4 c) tea m1 p (nI k) (qa 3 x) s0 s1 r h = K (some d) (qa 4 c) tea (m2V y c tea m1 x) p (nI (k + 1)) (sI h r 3 (s1 ||| s0)) := by
  obtain ⟨R1, R2, R3, R4, R5, R6, R7⟩ := id R
  have f : Fr N (N + 41) h (sI h r 3 (s1 ||| s0)) := Fr.sI R3 rfl R1 (by omega)
  have Z1 := Z.kept f
  have R' := R.kept f.1
  have ha1 : aF (sI h r 3 (s1 ||| s0)) (r + 1) k = nI x := by rw [aF_sI]; exact ha
  have hh := fun (K : Option Nat → Nat → Int32 → Int32 → Int32 → Int32 → Hp → Option ((Option Nat) × Hp)) (s0 s1 s2 : Int32) => qx_b137 Z1 R' hx hk ha1 (K := K) (l2 := qa 4 c) (tea := tea) (p := p) (s0 := s0) (s1 := s1) (s2 := s2)
  obtain ⟨S, e1, D, lE, K⟩ := id Z
  obtain ⟨hz, hfu0, o0, o1, r0_0, o2, r0_2, o3, r2_0, r2_1, o4, r2_2, o5, r0_8, o6, o7, o8, r6_0, r6_1, o9, o10, o11, r9_0, r9_1, o32, o33, o34, r32_0, r32_1, o35, o36, o37, r35_0, r35_1, o38, o39, o40, r38_0, r38_1, r0_9, r0_10, o12, r0_12, o13, r0_13, o14, r0_14, o15, r0_15, o16, r0_18, o17, r0_19, o18, r0_20, o19, r0_22, o20, r0_23, o21, r0_24, o22, r0_25, o23, r0_28, o24, r0_29, o25, r0_30, o26, r0_31, o27, r0_35, o28, r0_36, o29, r0_37, o30, r0_38, o31, r0_39, d5_0, d5_1, d5_2⟩ := id S
  obtain ⟨dlo, do0, dr0, da0, dr1, da1, dr2, da2, dr3, da3, dr4, da4, dr5, da5, dr6, da6, dr7, da7, dr8, da8, dn2, dn3, dn4, dn5, dn6, dn8, dn9, dn7, dv17, dv18, dvf, dt0, dt1, dt2, dt3, dt4, dt5, dt6⟩ := id D
  obtain ⟨yc2, yc3, yc4, yc5, yc6, yc7, yc8, yc9, yyk, yyd, yyf, yyh, yyc, yyl, yyp, yyhot, yyby⟩ := id K
  obtain ⟨qS, qe1, qD, qlE, qK⟩ := id Z1
  obtain ⟨qhz, qhfu0, qo0, qo1, qr0_0, qo2, qr0_2, qo3, qr2_0, qr2_1, qo4, qr2_2, qo5, qr0_8, qo6, qo7, qo8, qr6_0, qr6_1, qo9, qo10, qo11, qr9_0, qr9_1, qo32, qo33, qo34, qr32_0, qr32_1, qo35, qo36, qo37, qr35_0, qr35_1, qo38, qo39, qo40, qr38_0, qr38_1, qr0_9, qr0_10, qo12, qr0_12, qo13, qr0_13, qo14, qr0_14, qo15, qr0_15, qo16, qr0_18, qo17, qr0_19, qo18, qr0_20, qo19, qr0_22, qo20, qr0_23, qo21, qr0_24, qo22, qr0_25, qo23, qr0_28, qo24, qr0_29, qo25, qr0_30, qo26, qr0_31, qo27, qr0_35, qo28, qr0_36, qo29, qr0_37, qo30, qr0_38, qo31, qr0_39, qd5_0, qd5_1, qd5_2⟩ := id qS
  obtain ⟨qdlo, qdo0, qdr0, qda0, qdr1, qda1, qdr2, qda2, qdr3, qda3, qdr4, qda4, qdr5, qda5, qdr6, qda6, qdr7, qda7, qdr8, qda8, qdn2, qdn3, qdn4, qdn5, qdn6, qdn8, qdn9, qdn7, qdv17, qdv18, qdvf, qdt0, qdt1, qdt2, qdt3, qdt4, qdt5, qdt6⟩ := id qD
  obtain ⟨qyc2, qyc3, qyc4, qyc5, qyc6, qyc7, qyc8, qyc9, qyyk, qyyd, qyyf, qyyh, qyyc, qyyl, qyyp, qyyhot, qyyby⟩ := id qK
  obtain ⟨z1, z2, z3, z4, z5, z6, z7, z8, z9, z10⟩ := qdt3 x hx
  obtain ⟨u1, u2, u3, u4, u5, u6, u7, u8⟩ := qdt4 c hc
  simp only [fX4_walks_b106, ab_pIq R3 (Nat.le_trans hz R1), bdS, b2S, bxL, bxR, onN, onS, g9_3 z3, z5, g9_8 z3, z9, g10_6 u3, u7, hh, m2V, frtV]
  by_cases h1 : y.2 24 x = 0
  · simp only [h1, if_true]
  · by_cases h2 : y.2 25 c = 0
    · simp only [h1, h2, if_true, if_false]
    · simp only [h1, h2, if_false]
