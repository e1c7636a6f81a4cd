/-! dropped -/
def dsF (y : Dy) (n : Nat) : Nat → Nat → Int32 → Option Int32
  | 0, _, acc => some acc
  | j + 1, k, acc => if coV y (etV y k) n = -1 then none else dsF y n j (k + 1) (acc + coV y (etV y k) n)
def pkS (y : Dy) (g k : Nat) (st : Option Nat) : Option Nat := if lieB (nI g) k then st else match st with
  | none => some k
  | some b => if y.2 23 b < y.2 23 k then st else some k
def pkF (y : Dy) (g : Nat) : Option Nat := lp (pkS y g) (y.1 5) 0 none
def drF (y : Dy) (n : Nat) (x : Int32) : Nat → Int32 → Nat → Nat
  | 0, _, g => g
  | r + 1, s, g => if s ≤ x then g else match pkF y g with
    | none => g
    | some b => drF y n x r (s - coV y (etV y b) n) (g ||| 2 ^ b)
def slI (f : Nat → Int32) : List Nat → Int32
  | [] => 0
  | a :: t => f a + slI f t
def rmF (y : Dy) (g : Nat) : List Nat := (List.range (y.1 5)).filter fun z => !lieB (nI g) z
theorem slI_erase {f : Nat → Int32} {b : Nat} : ∀ (L : List Nat), b ∈ L → slI f L = f b + slI f (L.erase b) := by
  intro L
  induction L with
  | nil => intro h; exact absurd h List.not_mem_nil
  | cons a t ih =>
    intro h
    by_cases e : a = b
    · subst e; rw [List.erase_cons_head, slI]
    · have hb : b ∈ t := by
        rcases List.mem_cons.mp h with h | h
        · exact absurd h.symm e
        · exact h
      rw [List.erase_cons_tail (by simpa using e), slI, slI, ih hb, ← Int32.add_assoc, Int32.add_comm (f a), Int32.add_assoc]
theorem rmF_erase {y : Dy} {g b : Nat} (hg : g < 64) (hb : b < 6) (h6 : y.1 5 ≤ 6) : rmF y (g ||| 2 ^ b) = (rmF y g).erase b := by
  have hnd : (rmF y g).Nodup := List.Nodup.sublist List.filter_sublist List.nodup_range
  rw [hnd.erase_eq_filter, rmF, rmF, List.filter_filter]
  refine List.filter_congr fun z hz => ?_
  have hz6 : z < 6 := by have := List.mem_range.mp hz; omega
  rw [sb_lie g hg b hb z hz6, Bool.not_or]
  by_cases e : z = b
  · subst e; simp
  · simp [e]
theorem pkF_some {y : Dy} {g : Nat} (h : rmF y g ≠ []) : ∃ b, pkF y g = some b ∧ b ∈ rmF y g := by
  have key : ∀ (m k : Nat) (st : Option Nat), k + m = y.1 5 → (st = none → ∀ d, d < k → lieB (nI g) d = true) → (∀ b, st = some b → b < k ∧ lieB (nI g) b = false) → (lp (pkS y g) m k st = none → ∀ d, d < y.1 5 → lieB (nI g) d = true) ∧ ∀ b, lp (pkS y g) m k st = some b → b < y.1 5 ∧ lieB (nI g) b = false := by
    intro m
    induction m with
    | zero =>
      intro k st hk h1 h2
      rw [lp, ← hk]
      exact ⟨fun e d hd => h1 e d (by omega), fun b e => by have := h2 b e; exact ⟨by omega, this.2⟩⟩
    | succ m ih =>
      intro k st hk h1 h2
      rw [lp]
      refine ih (k + 1) _ (by omega) (fun e d hd => ?_) (fun b e => ?_)
      · unfold pkS at e
        split at e
        · rename_i hl
          by_cases e2 : d = k
          · subst e2; exact hl
          · exact h1 e d (by omega)
        · cases st with
          | none => cases e
          | some b =>
            dsimp only at e
            split at e <;> cases e
      · unfold pkS at e
        split at e
        · have := h2 b e; exact ⟨by omega, this.2⟩
        · rename_i hl
          have hl' : lieB (nI g) k = false := by simpa using hl
          cases st with
          | none =>
            dsimp only at e
            have := Option.some.inj e
            subst this
            exact ⟨by omega, hl'⟩
          | some b0 =>
            dsimp only at e
            split at e
            · have := h2 b e; exact ⟨by omega, this.2⟩
            · have := Option.some.inj e
              subst this
              exact ⟨by omega, hl'⟩
  obtain ⟨k1, k2⟩ := key (y.1 5) 0 none (by omega) (fun _ d hd => absurd hd (Nat.not_lt_zero d)) (fun b e => by cases e)
  cases e : pkF y g with
  | none =>
    exfalso
    apply h
    rw [rmF, List.filter_eq_nil_iff]
    intro a ha
    rw [k1 e a (List.mem_range.mp ha)]
    simp
  | some b =>
    obtain ⟨b1, b2⟩ := k2 b e
    exact ⟨b, rfl, List.mem_filter.mpr ⟨List.mem_range.mpr b1, by rw [b2]; rfl⟩⟩
theorem et_ok {y : Dy} (K : Yk y) {k : Nat} (hk : k < y.1 5) : y.2 19 k = nI (etV y k) ∧ etV y k < y.1 4 := by
  obtain ⟨c2, c3, c4, c5, c6, c7, c8, c9, yk, yd, yf, yh, yc, yl, yp, yhot, yby⟩ := id K
  exact (yh k hk).2.1
/-- the choice of the next house -/
theorem qx_pickL {h : Hp} {N E d : Nat} {qa : Nat → Nat → Nat} {y : Dy} (Z : XD h N E d qa y) {g n : Nat} (hg : g < 64) (he : ∀ k, k < y.1 5 → aF h (N + 19) k = coV y (etV y k) n) {x s : Int32} {K : Int32 → Int32 → Int32 → Hp → Option (Int32 × Hp)} {b : Nat} (hb5 : b < y.1 5) : ∀ (j k f : Nat) (st : Option Nat), (∀ b, st = some b → b < y.1 5) → lp (pkS y g) j k st = some b → k + j = y.1 5 → j < f → fX1_dropped_l134 N K f x s (nI g) (oI st) (nI k) h = K x (s - coV y (etV y b) n) (nI (g ||| 2 ^ b)) h := by
  have h5 := Z.2.2.2.2.h5
  intro j
  induction j with
  | zero =>
    intro k f st hst hlp hk hf
    cases f with
    | zero => omega
    | succ f =>
      rw [lp] at hlp
      subst hlp
      have hor := (or_bit g hg b (by omega)).1
      obtain ⟨S, e1, D, lE, K⟩ := id Z
      obtain ⟨hz, hfu0, o0, o1, r0_0, o2, r0_2, o3, r2_0, r2_1, o4, r2_2, o5, r0_8, o6, o7, o8, r6_0, r6_1, o9, o10, o11, r9_0, r9_1, o32, o33, o34, r32_0, r32_1, o35, o36, o37, r35_0, r35_1, o38, o39, o40, r38_0, r38_1, r0_9, r0_10, o12, r0_12, o13, r0_13, o14, r0_14, o15, r0_15, o16, r0_18, o17, r0_19, o18, r0_20, o19, r0_22, o20, r0_23, o21, r0_24, o22, r0_25, o23, r0_28, o24, r0_29, o25, r0_30, o26, r0_31, o27, r0_35, o28, r0_36, o29, r0_37, o30, r0_38, o31, r0_39, d5_0, d5_1, d5_2⟩ := id S
      obtain ⟨dlo, do0, dr0, da0, dr1, da1, dr2, da2, dr3, da3, dr4, da4, dr5, da5, dr6, da6, dr7, da7, dr8, da8, dn2, dn3, dn4, dn5, dn6, dn8, dn9, dn7, dv17, dv18, dvf, dt0, dt1, dt2, dt3, dt4, dt5, dt6⟩ := id D
      obtain ⟨yc2, yc3, yc4, yc5, yc6, yc7, yc8, yc9, yyk, yyd, yyf, yyh, yyc, yyl, yyp, yyhot, yyby⟩ := id K
      simp only [fX1_dropped_l134, g0_3 o0, e1, bdS, b2S, bxL, bxR, onN, onS, g5_12 do0, dn5, nI_le (show y.1 5 ≤ k by omega) (by omega), if_true, g0_22 o0, r0_22, oI, aIn o19 (show b < 6 by omega), he b hb5, hor]
  | succ j ih =>
    intro k f st hst hlp hk hf
    cases f with
    | zero => omega
    | succ f =>
      have hk5 : k < y.1 5 := by omega
      rw [lp] at hlp
      have hst' : ∀ b, pkS y g k st = some b → b < y.1 5 := fun b' e => by
        unfold pkS at e
        split at e
        · exact hst b' e
        · cases st with
          | none => dsimp only at e; have := Option.some.inj e; omega
          | some b0 =>
            dsimp only at e
            split at e
            · exact hst b' e
            · have := Option.some.inj e; omega
      have i1 := ih (k + 1) f _ hst' hlp (by omega) (by omega)
      rw [← i1]
      have hl := qx_lies (nI g) k h
      obtain ⟨S, e1, D, lE, K⟩ := id Z
      obtain ⟨hz, hfu0, o0, o1, r0_0, o2, r0_2, o3, r2_0, r2_1, o4, r2_2, o5, r0_8, o6, o7, o8, r6_0, r6_1, o9, o10, o11, r9_0, r9_1, o32, o33, o34, r32_0, r32_1, o35, o36, o37, r35_0, r35_1, o38, o39, o40, r38_0, r38_1, r0_9, r0_10, o12, r0_12, o13, r0_13, o14, r0_14, o15, r0_15, o16, r0_18, o17, r0_19, o18, r0_20, o19, r0_22, o20, r0_23, o21, r0_24, o22, r0_25, o23, r0_28, o24, r0_29, o25, r0_30, o26, r0_31, o27, r0_35, o28, r0_36, o29, r0_37, o30, r0_38, o31, r0_39, d5_0, d5_1, d5_2⟩ := id S
      obtain ⟨dlo, do0, dr0, da0, dr1, da1, dr2, da2, dr3, da3, dr4, da4, dr5, da5, dr6, da6, dr7, da7, dr8, da8, dn2, dn3, dn4, dn5, dn6, dn8, dn9, dn7, dv17, dv18, dvf, dt0, dt1, dt2, dt3, dt4, dt5, dt6⟩ := id D
      obtain ⟨yc2, yc3, yc4, yc5, yc6, yc7, yc8, yc9, yyk, yyd, yyf, yyh, yyc, yyl, yyp, yyhot, yyby⟩ := id K
      by_cases c1 : lieB (nI g) k
      · simp only [fX1_dropped_l134, g0_3 o0, e1, bdS, b2S, bxL, bxR, onN, onS, g5_12 do0, dn5, nI_ge hk5 (by omega), if_false, hl, c1, if_true, show ¬ ((1 : Int32) = 0) from by decide, pkS, nI_1]
      · obtain ⟨z1, z2, z3, z4, z5, z6, z7, z8, z9, z10⟩ := dt3 k hk5
        cases st with
        | none =>
          simp only [fX1_dropped_l134, g0_3 o0, e1, bdS, b2S, bxL, bxR, onN, onS, g5_12 do0, dn5, nI_ge hk5 (by omega), if_false, hl, c1, Bool.false_eq_true, if_true, pkS, nI_1, oI]
        | some b0 =>
          have hb0 := hst b0 rfl
          obtain ⟨u1, u2, u3, u4, u5, u6, u7, u8, u9, u10⟩ := dt3 b0 hb0
          by_cases c2 : y.2 23 b0 < y.2 23 k
          · simp only [fX1_dropped_l134, g0_3 o0, e1, bdS, b2S, bxL, bxR, onN, onS, g5_12 do0, dn5, nI_ge hk5 (by omega), if_false, hl, c1, Bool.false_eq_true, if_true, pkS, nI_1, oI, nI_m1ne (show b0 < 2 ^ 31 by omega), g5_3 do0, dr3, aRn da3 (show k < 6 by omega), z2, g9_6 z3, z8, aRn da3 (show b0 < 6 by omega), u2, g9_6 u3, u8, c2]
          · simp only [fX1_dropped_l134, g0_3 o0, e1, bdS, b2S, bxL, bxR, onN, onS, g5_12 do0, dn5, nI_ge hk5 (by omega), if_false, hl, c1, Bool.false_eq_true, if_true, pkS, nI_1, oI, nI_m1ne (show b0 < 2 ^ 31 by omega), g5_3 do0, dr3, aRn da3 (show k < 6 by omega), z2, g9_6 z3, z8, aRn da3 (show b0 < 6 by omega), u2, g9_6 u3, u8, c2]
theorem qx_drL {h : Hp} {N E d : Nat} {qa : Nat → Nat → Nat} {y : Dy} (Z : XD h N E d qa y) {n : Nat} (he : ∀ k, k < y.1 5 → aF h (N + 19) k = coV y (etV y k) n) {x : Int32} (hx : ¬ x < 0) : ∀ (r f g : Nat) (s : Int32), g < 64 → (rmF y g).length ≤ r → s = slI (fun k => coV y (etV y k) n) (rmF y g) → r < f → fX1_dropped_l123 N f x s (nI g) h = some (nI (drF y n x r s g), h) := by
  have h5 := Z.2.2.2.2.h5
  intro r
  induction r with
  | zero =>
    intro f g s hg hr hs hf
    cases f with
    | zero => omega
    | succ f =>
      have e : rmF y g = [] := List.length_eq_zero_iff.mp (by omega)
      rw [e, slI] at hs
      subst hs
      simp only [fX1_dropped_l123, Int32.not_lt.mp hx, if_true, drF]
  | succ r ih =>
    intro f g s hg hr hs hf
    cases f with
    | zero => omega
    | succ f =>
      by_cases c1 : s ≤ x
      · simp only [fX1_dropped_l123, c1, if_true, drF]
      · have hne : rmF y g ≠ [] := fun e => c1 (by rw [hs, e, slI]; exact Int32.not_lt.mp hx)
        obtain ⟨b, b1, b2⟩ := pkF_some hne
        have hb5 : b < y.1 5 := List.mem_range.mp (List.mem_filter.mp b2).1
        have he' := rmF_erase (y := y) hg (show b < 6 by omega) h5.2
        have hor := (or_bit g hg b (by omega)).2
        have hp := qx_pickL Z hg he (x := x) (s := s) (K := fX1_dropped_l123 N f) hb5 (y.1 5) 0 300000 none (fun b e => by cases e) b1 (by omega) (by omega)
        have i1 := ih f (g ||| 2 ^ b) (s - coV y (etV y b) n) hor (by rw [he', List.length_erase_of_mem b2]; omega) (by
          rw [he', hs, slI_erase _ b2, Int32.add_comm, Int32.add_sub_cancel]) (by omega)
        rw [nI_0] at hp
        have hp : fX1_dropped_l134 N (fX1_dropped_l123 N f) 300000 x s (nI g) (-1) 0 h = fX1_dropped_l123 N f x (s - coV y (etV y b) n) (nI (g ||| 2 ^ b)) h := hp
        simp only [fX1_dropped_l123, c1, if_false, Z.1.f, hp, i1, drF, b1]
theorem ds_sum {y : Dy} {n : Nat} : ∀ (j k : Nat) (acc s : Int32), dsF y n j k acc = some s → s = acc + slI (fun k => coV y (etV y k) n) (List.range' k j) := by
  intro j
  induction j with
  | zero =>
    intro k acc s h
    rw [dsF] at h
    have := Option.some.inj h
    rw [← this, List.range'_zero, slI, Int32.add_zero]
  | succ j ih =>
    intro k acc s h
    rw [dsF] at h
    split at h
    · cases h
    · rw [ih (k + 1) _ s h, List.range'_succ, slI, Int32.add_assoc]
theorem rmF_0 (y : Dy) (h6 : y.1 5 ≤ 6) : rmF y 0 = List.range' 0 (y.1 5) := by
  rw [rmF, List.range_eq_range', List.filter_eq_self]
  intro a ha
  have : ∀ x, x < 6 → lieB (nI 0) x = false := by decide +kernel
  have ha' := List.mem_range'.mp ha
  obtain ⟨i, h1, h2⟩ := ha'
  rw [this a (by omega)]
  rfl
abbrev Ad (N : Nat) : Nat → Prop := fun q => q = N + 17 ∨ q = N + 19
theorem qx_dsL {N E d : Nat} {qa : Nat → Nat → Nat} {y : Dy} {n : Nat} {x : Int32} (hn : n ≤ 14) (hn1 : 1 ≤ n) : ∀ (j k f : Nat) (acc : Int32) (h : Hp), XD h N E d qa y → (∀ k', k' < k → aF h (N + 19) k' = coV y (etV y k') n) → k + j = y.1 5 → j < f → ∃ h', Fw N (Ad N) B0 h h' ∧ match dsF y n j k acc with
    | none => fX1_dropped_l49 N f x (nI n) acc (nI k) h = some (-1, sI h' N 4 6)
    | some s => (∀ k', k' < y.1 5 → aF h' (N + 19) k' = coV y (etV y k') n) ∧ fX1_dropped_l49 N f x (nI n) acc (nI k) h = fX1_dropped_l123 N 300000 x s 0 h' := by
  intro j
  induction j with
  | zero =>
    intro k f acc h Z he hk hf
    cases f with
    | zero => omega
    | succ f =>
      have h5 := Z.2.2.2.2.h5
      refine ⟨h, Fw.rf, fun k' hk' => he k' (by omega), ?_⟩
      obtain ⟨S, e1, D, lE, K⟩ := id Z
      obtain ⟨hz, hfu0, o0, o1, r0_0, o2, r0_2, o3, r2_0, r2_1, o4, r2_2, o5, r0_8, o6, o7, o8, r6_0, r6_1, o9, o10, o11, r9_0, r9_1, o32, o33, o34, r32_0, r32_1, o35, o36, o37, r35_0, r35_1, o38, o39, o40, r38_0, r38_1, r0_9, r0_10, o12, r0_12, o13, r0_13, o14, r0_14, o15, r0_15, o16, r0_18, o17, r0_19, o18, r0_20, o19, r0_22, o20, r0_23, o21, r0_24, o22, r0_25, o23, r0_28, o24, r0_29, o25, r0_30, o26, r0_31, o27, r0_35, o28, r0_36, o29, r0_37, o30, r0_38, o31, r0_39, d5_0, d5_1, d5_2⟩ := id S
      obtain ⟨dlo, do0, dr0, da0, dr1, da1, dr2, da2, dr3, da3, dr4, da4, dr5, da5, dr6, da6, dr7, da7, dr8, da8, dn2, dn3, dn4, dn5, dn6, dn8, dn9, dn7, dv17, dv18, dvf, dt0, dt1, dt2, dt3, dt4, dt5, dt6⟩ := id D
      obtain ⟨yc2, yc3, yc4, yc5, yc6, yc7, yc8, yc9, yyk, yyd, yyf, yyh, yyc, yyl, yyp, yyhot, yyby⟩ := id K
      simp only [fX1_dropped_l49, g0_3 o0, e1, bdS, b2S, bxL, bxR, onN, onS, g5_12 do0, dn5, nI_le (show y.1 5 ≤ k by omega) (by omega), if_true, hfu0]
  | succ j ih =>
    intro k f acc h Z he hk hf
    cases f with
    | zero => omega
    | succ f =>
      have h5 := Z.2.2.2.2.h5
      have hk5 : k < y.1 5 := by omega
      obtain ⟨h1, q1, q2, -⟩ := qx_lays Z (et_ok Z.2.2.2.2 hk5).2 hn hn1
      have q2' : Fw N (Ad N) B0 h h1 := q2.wide (fun q a => Or.inl a) (fun k a => a)
      have Z1 := Z.fw q2' (fun q a => by simp only [Ad] at a; omega)
      have f2 : Fw N (Ad N) B0 h1 (sA h1 (N + 19) k (coV y (etV y k) n)) := Fw.sA (Or.inr rfl)
      have Z2 := Z1.fw f2 (fun q a => by simp only [Ad] at a; omega)
      have p19 : isA h1 (N + 19) 0 6 := by
        have hS := Z1.1
        obtain ⟨hz, hfu0, o0, o1, r0_0, o2, r0_2, o3, r2_0, r2_1, o4, r2_2, o5, r0_8, o6, o7, o8, r6_0, r6_1, o9, o10, o11, r9_0, r9_1, o32, o33, o34, r32_0, r32_1, o35, o36, o37, r35_0, r35_1, o38, o39, o40, r38_0, r38_1, r0_9, r0_10, o12, r0_12, o13, r0_13, o14, r0_14, o15, r0_15, o16, r0_18, o17, r0_19, o18, r0_20, o19, r0_22, o20, r0_23, o21, r0_24, o22, r0_25, o23, r0_28, o24, r0_29, o25, r0_30, o26, r0_31, o27, r0_35, o28, r0_36, o29, r0_37, o30, r0_38, o31, r0_39, d5_0, d5_1, d5_2⟩ := id hS
        exact o19
      have es : ∀ k', aF (sA h1 (N + 19) k (coV y (etV y k) n)) (N + 19) k' = if k' = k then coV y (etV y k) n else aF h (N + 19) k' := fun k' => by
        rw [aF_sA p19, if_pos rfl, upd, q2.aF (by omega) (by simp only [Aq]; omega)]
      have he2 : ∀ k', k' < k + 1 → aF (sA h1 (N + 19) k (coV y (etV y k) n)) (N + 19) k' = coV y (etV y k') n := fun k' hk' => by
        rw [es]
        by_cases e : k' = k
        · subst e; rw [if_pos rfl]
        · rw [if_neg e]; exact he k' (by omega)
      have hz1 := Z1.1.1
      have hup : fX1_dropped_l49 N (f + 1) x (nI n) acc (nI k) h = if coV y (etV y k) n = -1 then some (-1, sI (sA h1 (N + 19) k (coV y (etV y k) n)) N 4 6) else fX1_dropped_l49 N f x (nI n) (acc + coV y (etV y k) n) (nI (k + 1)) (sA h1 (N + 19) k (coV y (etV y k) n)) := by
        have hno := qx_no Z2.1 6
        have hev := he2 k (by omega)
        have hst := fun v => sIn (v := v) p19 (show hfz h1 ≤ N + 19 by omega) (show k < 6 by omega)
        have hS2 := Z2.1
        obtain ⟨vhz, vhfu0, vo0, vo1, vr0_0, vo2, vr0_2, vo3, vr2_0, vr2_1, vo4, vr2_2, vo5, vr0_8, vo6, vo7, vo8, vr6_0, vr6_1, vo9, vo10, vo11, vr9_0, vr9_1, vo32, vo33, vo34, vr32_0, vr32_1, vo35, vo36, vo37, vr35_0, vr35_1, vo38, vo39, vo40, vr38_0, vr38_1, vr0_9, vr0_10, vo12, vr0_12, vo13, vr0_13, vo14, vr0_14, vo15, vr0_15, vo16, vr0_18, vo17, vr0_19, vo18, vr0_20, vo19, vr0_22, vo20, vr0_23, vo21, vr0_24, vo22, vr0_25, vo23, vr0_28, vo24, vr0_29, vo25, vr0_30, vo26, vr0_31, vo27, vr0_35, vo28, vr0_36, vo29, vr0_37, vo30, vr0_38, vo31, vr0_39, vd5_0, vd5_1, vd5_2⟩ := id hS2
        obtain ⟨S, e1, D, lE, K⟩ := id Z
        obtain ⟨hz, hfu0, o0, o1, r0_0, o2, r0_2, o3, r2_0, r2_1, o4, r2_2, o5, r0_8, o6, o7, o8, r6_0, r6_1, o9, o10, o11, r9_0, r9_1, o32, o33, o34, r32_0, r32_1, o35, o36, o37, r35_0, r35_1, o38, o39, o40, r38_0, r38_1, r0_9, r0_10, o12, r0_12, o13, r0_13, o14, r0_14, o15, r0_15, o16, r0_18, o17, r0_19, o18, r0_20, o19, r0_22, o20, r0_23, o21, r0_24, o22, r0_25, o23, r0_28, o24, r0_29, o25, r0_30, o26, r0_31, o27, r0_35, o28, r0_36, o29, r0_37, o30, r0_38, o31, r0_39, d5_0, d5_1, d5_2⟩ := id S
        obtain ⟨dlo, do0, dr0, da0, dr1, da1, dr2, da2, dr3, da3, dr4, da4, dr5, da5, dr6, da6, dr7, da7, dr8, da8, dn2, dn3, dn4, dn5, dn6, dn8, dn9, dn7, dv17, dv18, dvf, dt0, dt1, dt2, dt3, dt4, dt5, dt6⟩ := id D
        obtain ⟨yc2, yc3, yc4, yc5, yc6, yc7, yc8, yc9, yyk, yyd, yyf, yyh, yyc, yyl, yyp, yyhot, yyby⟩ := id K
        obtain ⟨z1, z2, z3, z4, z5, z6, z7, z8, z9, z10⟩ := dt3 k hk5
        have z10 : gR h (qa 3 k) 7 = some (qa 2 (etV y k)) := z10
        simp only [fX1_dropped_l49, g0_3 o0, e1, bdS, b2S, bxL, bxR, onN, onS, g5_12 do0, dn5, nI_ge hk5 (by omega), if_false, g0_22 o0, r0_22, g5_3 do0, dr3, aRn da3 (show k < 6 by omega), z2, g9_7 z3, z10, q1, hst, g0_22 vo0, vr0_22, aIn vo19 (show k < 6 by omega), hev, hno, nI_1]
      rw [hup, dsF]
      by_cases hc : coV y (etV y k) n = -1
      · rw [if_pos hc, if_pos hc]
        exact ⟨_, q2'.trans f2, rfl⟩
      · rw [if_neg hc, if_neg hc]
        obtain ⟨h', s1, s2⟩ := ih (k + 1) f _ _ Z2 he2 (by omega) (by omega)
        exact ⟨h', (q2'.trans f2).trans s1, s2⟩
noncomputable def droppedR (yo : Option Dy) (s : St) (x n : Int32) : Int32 × St := match yo with
  | none => (-1, fin s 1)
  | some y => if n < 1 then (-1, fin s 2) else if 14 < n then (-1, fin s 2) else if x < 0 then (-1, fin s 2) else if 99999 < x then (-1, fin s 2) else match dsF y n.toNatClampNeg (y.1 5) 0 0 with
    | none => (-1, fin s 6)
    | some sm => (nI (drF y n.toNatClampNeg x 6 sm 0), fin s 0)
theorem x_dropped {N E : Nat} (x n : Int32) : XOp N E (fX1_dropped N x n) (fun yo s => droppedR yo s x n) := by
  intro h yo s R I
  obtain ⟨S, P, V, lE⟩ := id R
  obtain ⟨f1, S1, Q1, t1⟩ := an_all S
  have han : fX1_anew N h = some (an h N) := qx_anew S
  cases yo with
  | none =>
    obtain ⟨a1, a2⟩ := xq_end R 1 (by decide)
    refine ⟨_, ?_, a1, a2⟩
    have P1 : gR (an h N) N 3 = none := (P.kept f1.1 (fun q hq => f1.2 q (by omega)))
    simp only [fX1_dropped, ab_ckq S.o, han, bdS, b2S, bxL, bxR, onN, onS, g0_3 S1.o, P1, qx_no S1]
    rfl
  | some y =>
    obtain ⟨d, qa, e1, D, K⟩ := id P
    have Z := x_beg R e1 D
    have h5 := K.h5
    have bad2 : fX1_dropped N x n h = some (-1, sI (an h N) N 4 2) → ∃ h', fX1_dropped N x n h = some (-1, h') ∧ Fr N (N + 41) h h' ∧ VX h' N (m5 (some y)) (fin s 2) := fun hb => by
      obtain ⟨a1, a2⟩ := xq_end R 2 (by decide)
      exact ⟨_, hb, a1, a2⟩
    by_cases g1 : n < 1
    · simp only [droppedR, g1, if_true]
      exact bad2 (by simp only [fX1_dropped, ab_ckq S.o, han, bdS, b2S, bxL, bxR, onN, onS, g0_3 S1.o, Z.2.1, qx_in, g1, if_true, qx_no S1])
    · by_cases g2 : 14 < n
      · simp only [droppedR, g1, g2, if_true, if_false]
        exact bad2 (by simp only [fX1_dropped, ab_ckq S.o, han, bdS, b2S, bxL, bxR, onN, onS, g0_3 S1.o, Z.2.1, qx_in, g1, g2, if_true, if_false, qx_no S1])
      · by_cases g3 : x < 0
        · simp only [droppedR, g1, g2, g3, if_true, if_false]
          exact bad2 (by simp only [fX1_dropped, ab_ckq S.o, han, bdS, b2S, bxL, bxR, onN, onS, g0_3 S1.o, Z.2.1, qx_in, g1, g2, g3, if_true, if_false, show ¬ ((1 : Int32) = 0) from by decide, qx_no S1])
        · by_cases g4 : 99999 < x
          · simp only [droppedR, g1, g2, g3, g4, if_true, if_false]
            exact bad2 (by simp only [fX1_dropped, ab_ckq S.o, han, bdS, b2S, bxL, bxR, onN, onS, g0_3 S1.o, Z.2.1, qx_in, g1, g2, g3, g4, if_true, if_false, show ¬ ((1 : Int32) = 0) from by decide, qx_no S1])
          · obtain ⟨m, rfl, hm1, hm14⟩ := days_n g1 g2
            simp only [droppedR, g1, g2, g3, g4, if_false, nI_clamp (show m < 2 ^ 31 by omega)]
            have hup : fX1_dropped N x (nI m) h = fX1_dropped_l49 N 300000 x (nI m) 0 (nI 0) (an h N) := by
              simp only [fX1_dropped, ab_ckq S.o, han, bdS, b2S, bxL, bxR, onN, onS, g0_3 S1.o, Z.2.1, qx_in, g1, g2, g3, g4, if_false, show ¬ ((1 : Int32) = 0) from by decide, S1.f, nI_0]
            obtain ⟨h', q1, q2⟩ := qx_dsL (x := x) hm14 hm1 (y.1 5) 0 300000 0 (an h N) Z (fun k' hk' => absurd hk' (Nat.not_lt_zero k')) (by omega) (by omega)
            cases hds : dsF y m (y.1 5) 0 0 with
            | none =>
              rw [hds] at q2
              obtain ⟨a1, a2⟩ := x_fin2 R q1 (fun q a => by simp only [Ad] at a; omega) (fun k a => a.elim) (fun k a => by simp only [Ad] at a; omega) 6 (by decide)
              exact ⟨_, hup.trans q2, a1, a2⟩
            | some sm =>
              rw [hds] at q2
              obtain ⟨q2, q3⟩ := q2
              have Z1 := Z.fw q1 (fun q a => by simp only [Ad] at a; omega)
              have hsm := ds_sum _ _ _ _ hds
              have hlen : (rmF y 0).length ≤ 6 := by rw [rmF_0 y h5.2, List.length_range']; omega
              have hdr := qx_drL Z1 q2 g3 6 300000 0 sm (by omega) hlen (by rw [hsm, rmF_0 y h5.2, Int32.zero_add]) (by omega)
              rw [nI_0] at hdr
              obtain ⟨a1, a2⟩ := x_fin R q1 (fun q a => by simp only [Ad] at a; omega) (fun k a => a.elim) (fun k a => by simp only [Ad] at a; omega)
              exact ⟨_, hup.trans (q3.trans hdr), a1, a2⟩
theorem qm_pickL {h : Hp} {N E d : Nat} {y : Dy} (Z : MD h N E d y) {g n : Nat} (hn : n ≤ 14) (hn1 : 1 ≤ n) (hg : g < 64) {x s : Int32} {K : Int32 → Int32 → Int32 → Int32 → Hp → Option (Int32 × Hp)} {b : Nat} (hb5 : b < y.1 5) : ∀ (j k f : Nat) (st : Option Nat), (∀ b, st = some b → b < y.1 5) → lp (pkS y g) j k st = some b → k + j = y.1 5 → j < f → ∃ h', fX5_dropped_l117 N K f x (nI n) s (nI g) (oI st) (nI k) h = K x (nI n) (s - coV y (etV y b) n) (nI (g ||| 2 ^ b)) h' ∧ Fw N (Aq (N + 10)) B0 h h' := by
  have h5 := Z.2.2.2.2.h5
  intro j
  induction j with
  | zero =>
    intro k f st hst hlp hk hf
    cases f with
    | zero => omega
    | succ f =>
      rw [lp] at hlp
      subst hlp
      have hor := (or_bit g hg b (by omega)).1
      obtain ⟨t1, t2⟩ := et_ok Z.2.2.2.2 hb5
      obtain ⟨h1, q1, q2, -⟩ := qm_lays Z t2 hn hn1
      refine ⟨h1, ?_, q2⟩
      obtain ⟨S, e1, D, lE, K⟩ := id Z
      obtain ⟨hz, hfu0, o0, o1, r0_5, o2, r0_17, o3, r0_18, o4, r0_22, o5, r0_23, o6, r0_26, o7, r0_28, o8, r0_29, o9, r0_30, o10, r0_31, o11, r0_32, o12, r0_35, o13, r0_36, o14, r0_38, o15, r0_39, o16, r0_40, o17, r0_41, o18, r0_43, o19, r0_44, o20, r0_45⟩ := id S
      obtain ⟨dlo, do0, dv0, dv1, dn2, dn3, dn4, dn5, dn6, dn7, dn8, dn9, dr11, da11, dv11, dr12, da12, dv12, dr13, da13, dv13, dr14, da14, dv14, dr15, da15, dv15, dr16, da16, dv16, dr17, da17, dv17, dr18, da18, dv18, dr19, da19, dv19, dr20, da20, dv20, dr21, da21, dv21, dr22, da22, dv22, dr23, da23, dv23, dr24, da24, dv24, dr25, da25, dv25, dr26, da26, dv26, dr27, da27, dv27, dr28, da28, dv28, dr29, da29, dv29, dr30, da30, dv30, dr31, da31, dv31, dr32, da32, dv32, dr33, da33, dv33⟩ := id D
      obtain ⟨yc2, yc3, yc4, yc5, yc6, yc7, yc8, yc9, yyk, yyd, yyf, yyh, yyc, yyl, yyp, yyhot, yyby⟩ := id K
      simp only [fX5_dropped_l117, g4_3 o0, e1, bdS, b2S, bxL, bxR, onN, onS, g13_5 do0, dn5, nI_le (show y.1 5 ≤ k by omega) (by omega), if_true, g13_19 do0, dr19, oI, aIn da19 (show b < 6 by omega), dv19, t1, q1, hor]
  | succ j ih =>
    intro k f st hst hlp hk hf
    cases f with
    | zero => omega
    | succ f =>
      have hk5 : k < y.1 5 := by omega
      rw [lp] at hlp
      have hst' : ∀ b, pkS y g k st = some b → b < y.1 5 := fun b' e => by
        unfold pkS at e
        split at e
        · exact hst b' e
        · cases st with
          | none => dsimp only at e; have := Option.some.inj e; omega
          | some b0 =>
            dsimp only at e
            split at e
            · exact hst b' e
            · have := Option.some.inj e; omega
      obtain ⟨h', i1, i2⟩ := ih (k + 1) f _ hst' hlp (by omega) (by omega)
      refine ⟨h', ?_, i2⟩
      rw [← i1]
      have hl := qm_has (nI g) k h
      obtain ⟨S, e1, D, lE, K⟩ := id Z
      obtain ⟨hz, hfu0, o0, o1, r0_5, o2, r0_17, o3, r0_18, o4, r0_22, o5, r0_23, o6, r0_26, o7, r0_28, o8, r0_29, o9, r0_30, o10, r0_31, o11, r0_32, o12, r0_35, o13, r0_36, o14, r0_38, o15, r0_39, o16, r0_40, o17, r0_41, o18, r0_43, o19, r0_44, o20, r0_45⟩ := id S
      obtain ⟨dlo, do0, dv0, dv1, dn2, dn3, dn4, dn5, dn6, dn7, dn8, dn9, dr11, da11, dv11, dr12, da12, dv12, dr13, da13, dv13, dr14, da14, dv14, dr15, da15, dv15, dr16, da16, dv16, dr17, da17, dv17, dr18, da18, dv18, dr19, da19, dv19, dr20, da20, dv20, dr21, da21, dv21, dr22, da22, dv22, dr23, da23, dv23, dr24, da24, dv24, dr25, da25, dv25, dr26, da26, dv26, dr27, da27, dv27, dr28, da28, dv28, dr29, da29, dv29, dr30, da30, dv30, dr31, da31, dv31, dr32, da32, dv32, dr33, da33, dv33⟩ := id D
      obtain ⟨yc2, yc3, yc4, yc5, yc6, yc7, yc8, yc9, yyk, yyd, yyf, yyh, yyc, yyl, yyp, yyhot, yyby⟩ := id K
      by_cases c1 : lieB (nI g) k
      · simp only [fX5_dropped_l117, g4_3 o0, e1, bdS, b2S, bxL, bxR, onN, onS, g13_5 do0, dn5, nI_ge hk5 (by omega), if_false, hl, c1, if_true, show ¬ ((1 : Int32) = 0) from by decide, pkS, nI_1]
      · cases st with
        | none =>
          simp only [fX5_dropped_l117, g4_3 o0, e1, bdS, b2S, bxL, bxR, onN, onS, g13_5 do0, dn5, nI_ge hk5 (by omega), if_false, hl, c1, Bool.false_eq_true, if_true, pkS, nI_1, oI]
        | some b0 =>
          have hb0 := hst b0 rfl
          by_cases c2 : y.2 23 b0 < y.2 23 k
          · simp only [fX5_dropped_l117, g4_3 o0, e1, bdS, b2S, bxL, bxR, onN, onS, g13_5 do0, dn5, nI_ge hk5 (by omega), if_false, hl, c1, Bool.false_eq_true, if_true, pkS, nI_1, oI, nI_m1ne (show b0 < 2 ^ 31 by omega), g13_23 do0, dr23, aIn da23 (show k < 6 by omega), dv23, aIn da23 (show b0 < 6 by omega), c2]
          · simp only [fX5_dropped_l117, g4_3 o0, e1, bdS, b2S, bxL, bxR, onN, onS, g13_5 do0, dn5, nI_ge hk5 (by omega), if_false, hl, c1, Bool.false_eq_true, if_true, pkS, nI_1, oI, nI_m1ne (show b0 < 2 ^ 31 by omega), g13_23 do0, dr23, aIn da23 (show k < 6 by omega), dv23, aIn da23 (show b0 < 6 by omega), c2]
theorem qm_drL {N E d : Nat} {y : Dy} {n : Nat} (hn : n ≤ 14) (hn1 : 1 ≤ n) {x : Int32} (hx : ¬ x < 0) : ∀ (r f g : Nat) (s : Int32) (h : Hp), MD h N E d y → g < 64 → (rmF y g).length ≤ r → s = slI (fun k => coV y (etV y k) n) (rmF y g) → r < f → ∃ h', fX5_dropped_l106 N f x (nI n) s (nI g) h = some (nI (drF y n x r s g), rf h' N 0) ∧ Fw N (Aq (N + 10)) B0 h h' := by
  intro r
  induction r with
  | zero =>
    intro f g s h Z hg hr hs hf
    cases f with
    | zero => omega
    | succ f =>
      have e : rmF y g = [] := List.length_eq_zero_iff.mp (by omega)
      rw [e, slI] at hs
      subst hs
      refine ⟨h, ?_, Fw.rf⟩
      simp only [fX5_dropped_l106, Int32.not_lt.mp hx, if_true, drF, qm_done Z.1, bdS, b2S, bxL, bxR, onN, onS, rf]
  | succ r ih =>
    intro f g s h Z hg hr hs hf
    cases f with
    | zero => omega
    | succ f =>
      have h5 := Z.2.2.2.2.h5
      by_cases c1 : s ≤ x
      · refine ⟨h, ?_, Fw.rf⟩
        simp only [fX5_dropped_l106, c1, if_true, drF, qm_done Z.1, bdS, b2S, bxL, bxR, onN, onS, rf]
      · have hne : rmF y g ≠ [] := fun e => c1 (by rw [hs, e, slI]; exact Int32.not_lt.mp hx)
        obtain ⟨b, b1, b2⟩ := pkF_some hne
        have hb5 : b < y.1 5 := List.mem_range.mp (List.mem_filter.mp b2).1
        have he' := rmF_erase (y := y) hg (show b < 6 by omega) h5.2
        have hor := (or_bit g hg b (by omega)).2
        obtain ⟨h1, hp, hp2⟩ := qm_pickL Z hn hn1 hg (x := x) (s := s) (K := fX5_dropped_l106 N f) hb5 (y.1 5) 0 300000 none (fun b e => by cases e) b1 (by omega) (by omega)
        have Z1 := Z.fw hp2 (fun q a => by simp only [Aq] at a; omega)
        obtain ⟨h', i1, i2⟩ := ih f (g ||| 2 ^ b) (s - coV y (etV y b) n) h1 Z1 hor (by rw [he', List.length_erase_of_mem b2]; omega) (by
          rw [he', hs, slI_erase _ b2, Int32.add_comm, Int32.add_sub_cancel]) (by omega)
        rw [nI_0] at hp
        have hp : fX5_dropped_l117 N (fX5_dropped_l106 N f) 300000 x (nI n) s (nI g) (-1) 0 h = fX5_dropped_l106 N f x (nI n) (s - coV y (etV y b) n) (nI (g ||| 2 ^ b)) h1 := hp
        refine ⟨h', ?_, hp2.trans i2⟩
        simp only [fX5_dropped_l106, c1, if_false, Z.1.f, hp, i1, drF, b1]
theorem qm_dsL {N E d : Nat} {y : Dy} {n : Nat} {x : Int32} (hn : n ≤ 14) (hn1 : 1 ≤ n) : ∀ (j k f : Nat) (acc : Int32) (h : Hp), MD h N E d y → k + j = y.1 5 → j < f → ∃ h', Fw N (Aq (N + 10)) B0 h h' ∧ match dsF y n j k acc with
    | none => fX5_dropped_l50 N f x (nI n) acc (nI k) h = some (-1, rf h' N 6)
    | some s => fX5_dropped_l50 N f x (nI n) acc (nI k) h = fX5_dropped_l106 N 300000 x (nI n) s 0 h' := by
  intro j
  induction j with
  | zero =>
    intro k f acc h Z hk hf
    cases f with
    | zero => omega
    | succ f =>
      have h5 := Z.2.2.2.2.h5
      refine ⟨h, Fw.rf, ?_⟩
      obtain ⟨S, e1, D, lE, K⟩ := id Z
      obtain ⟨hz, hfu0, o0, o1, r0_5, o2, r0_17, o3, r0_18, o4, r0_22, o5, r0_23, o6, r0_26, o7, r0_28, o8, r0_29, o9, r0_30, o10, r0_31, o11, r0_32, o12, r0_35, o13, r0_36, o14, r0_38, o15, r0_39, o16, r0_40, o17, r0_41, o18, r0_43, o19, r0_44, o20, r0_45⟩ := id S
      obtain ⟨dlo, do0, dv0, dv1, dn2, dn3, dn4, dn5, dn6, dn7, dn8, dn9, dr11, da11, dv11, dr12, da12, dv12, dr13, da13, dv13, dr14, da14, dv14, dr15, da15, dv15, dr16, da16, dv16, dr17, da17, dv17, dr18, da18, dv18, dr19, da19, dv19, dr20, da20, dv20, dr21, da21, dv21, dr22, da22, dv22, dr23, da23, dv23, dr24, da24, dv24, dr25, da25, dv25, dr26, da26, dv26, dr27, da27, dv27, dr28, da28, dv28, dr29, da29, dv29, dr30, da30, dv30, dr31, da31, dv31, dr32, da32, dv32, dr33, da33, dv33⟩ := id D
      obtain ⟨yc2, yc3, yc4, yc5, yc6, yc7, yc8, yc9, yyk, yyd, yyf, yyh, yyc, yyl, yyp, yyhot, yyby⟩ := id K
      simp only [dsF, fX5_dropped_l50, g4_3 o0, e1, bdS, b2S, bxL, bxR, onN, onS, g13_5 do0, dn5, nI_le (show y.1 5 ≤ k by omega) (by omega), if_true, hfu0]
  | succ j ih =>
    intro k f acc h Z hk hf
    cases f with
    | zero => omega
    | succ f =>
      have h5 := Z.2.2.2.2.h5
      have hk5 : k < y.1 5 := by omega
      obtain ⟨t1, t2⟩ := et_ok Z.2.2.2.2 hk5
      obtain ⟨h1, q1, q2, -⟩ := qm_lays Z t2 hn hn1
      have Z1 := Z.fw q2 (fun q a => by simp only [Aq] at a; omega)
      have hup : fX5_dropped_l50 N (f + 1) x (nI n) acc (nI k) h = if coV y (etV y k) n = -1 then some (-1, rf h1 N 6) else fX5_dropped_l50 N f x (nI n) (acc + coV y (etV y k) n) (nI (k + 1)) h1 := by
        have hno := qm_refused Z1.1 6
        obtain ⟨S, e1, D, lE, K⟩ := id Z
        obtain ⟨hz, hfu0, o0, o1, r0_5, o2, r0_17, o3, r0_18, o4, r0_22, o5, r0_23, o6, r0_26, o7, r0_28, o8, r0_29, o9, r0_30, o10, r0_31, o11, r0_32, o12, r0_35, o13, r0_36, o14, r0_38, o15, r0_39, o16, r0_40, o17, r0_41, o18, r0_43, o19, r0_44, o20, r0_45⟩ := id S
        obtain ⟨dlo, do0, dv0, dv1, dn2, dn3, dn4, dn5, dn6, dn7, dn8, dn9, dr11, da11, dv11, dr12, da12, dv12, dr13, da13, dv13, dr14, da14, dv14, dr15, da15, dv15, dr16, da16, dv16, dr17, da17, dv17, dr18, da18, dv18, dr19, da19, dv19, dr20, da20, dv20, dr21, da21, dv21, dr22, da22, dv22, dr23, da23, dv23, dr24, da24, dv24, dr25, da25, dv25, dr26, da26, dv26, dr27, da27, dv27, dr28, da28, dv28, dr29, da29, dv29, dr30, da30, dv30, dr31, da31, dv31, dr32, da32, dv32, dr33, da33, dv33⟩ := id D
        obtain ⟨yc2, yc3, yc4, yc5, yc6, yc7, yc8, yc9, yyk, yyd, yyf, yyh, yyc, yyl, yyp, yyhot, yyby⟩ := id K
        simp only [fX5_dropped_l50, g4_3 o0, e1, bdS, b2S, bxL, bxR, onN, onS, g13_5 do0, dn5, nI_ge hk5 (by omega), if_false, g13_19 do0, dr19, aIn da19 (show k < 6 by omega), dv19, t1, q1, hno, nI_1, rf]
      rw [hup, dsF]
      by_cases hc : coV y (etV y k) n = -1
      · rw [if_pos hc, if_pos hc]
        exact ⟨_, q2, rfl⟩
      · rw [if_neg hc, if_neg hc]
        obtain ⟨h', s1, s2⟩ := ih (k + 1) f _ _ Z1 (by omega) (by omega)
        exact ⟨h', q2.trans s1, s2⟩
theorem m_dropped {N E : Nat} (x n : Int32) : MOp N E (fX5_dropped N x n) (fun yo s => droppedR yo s x n) := by
  intro h yo s R I
  obtain ⟨S, P, V, lE⟩ := id R
  obtain ⟨f1, S1, Q1⟩ := th_all S 0
  cases yo with
  | none =>
    obtain ⟨a1, a2⟩ := m_end R 1
    refine ⟨_, ?_, a1, a2⟩
    have P1 : gR (sI h N 0 0) N 3 = none := (P.kept f1.1 (fun q hq => f1.2 q (by omega)))
    simp only [fX5_dropped, ab_ckq S.o, ab_pIq S.o S.1, bdS, b2S, bxL, bxR, onN, onS, g4_3 S1.o, P1, qm_refused S1]
    rfl
  | some y =>
    obtain ⟨d, e1, D, K⟩ := id P
    have Z := m_beg R e1 D
    have h5 := K.h5
    have bad2 : fX5_dropped N x n h = some (-1, rf (sI h N 0 0) N 2) → ∃ h', fX5_dropped N x n h = some (-1, h') ∧ Fr N (N + 21) h h' ∧ VM h' N (fin s 2) := fun hb => by
      obtain ⟨a1, a2⟩ := m_end R 2
      exact ⟨_, hb, a1, a2⟩
    by_cases g1 : n < 1
    · simp only [droppedR, g1, if_true]
      exact bad2 (by simp only [fX5_dropped, ab_ckq S.o, ab_pIq S.o S.1, bdS, b2S, bxL, bxR, onN, onS, g4_3 S1.o, Z.2.1, qm_in, g1, if_true, qm_refused S1, rf])
    · by_cases g2 : 14 < n
      · simp only [droppedR, g1, g2, if_true, if_false]
        exact bad2 (by simp only [fX5_dropped, ab_ckq S.o, ab_pIq S.o S.1, bdS, b2S, bxL, bxR, onN, onS, g4_3 S1.o, Z.2.1, qm_in, g1, g2, if_true, if_false, qm_refused S1, rf])
      · by_cases g3 : x < 0
        · simp only [droppedR, g1, g2, g3, if_true, if_false]
          exact bad2 (by simp only [fX5_dropped, ab_ckq S.o, ab_pIq S.o S.1, bdS, b2S, bxL, bxR, onN, onS, g4_3 S1.o, Z.2.1, qm_in, g1, g2, g3, if_true, if_false, show ¬ ((1 : Int32) = 0) from by decide, qm_refused S1, rf])
        · by_cases g4 : 99999 < x
          · simp only [droppedR, g1, g2, g3, g4, if_true, if_false]
            exact bad2 (by simp only [fX5_dropped, ab_ckq S.o, ab_pIq S.o S.1, bdS, b2S, bxL, bxR, onN, onS, g4_3 S1.o, Z.2.1, qm_in, g1, g2, g3, g4, if_true, if_false, show ¬ ((1 : Int32) = 0) from by decide, qm_refused S1, rf])
          · obtain ⟨m, rfl, hm1, hm14⟩ := days_n g1 g2
            simp only [droppedR, g1, g2, g3, g4, if_false, nI_clamp (show m < 2 ^ 31 by omega)]
            have hup : fX5_dropped N x (nI m) h = fX5_dropped_l50 N 300000 x (nI m) 0 (nI 0) (sI h N 0 0) := by
              simp only [fX5_dropped, ab_ckq S.o, ab_pIq S.o S.1, bdS, b2S, bxL, bxR, onN, onS, g4_3 S1.o, Z.2.1, qm_in, g1, g2, g3, g4, if_false, show ¬ ((1 : Int32) = 0) from by decide, S1.f, nI_0]
            obtain ⟨h', q1, q2⟩ := qm_dsL (x := x) hm14 hm1 (y.1 5) 0 300000 0 (sI h N 0 0) Z (by omega) (by omega)
            have Z1 := Z.fw q1 (fun q a => by simp only [Aq] at a; omega)
            cases hds : dsF y m (y.1 5) 0 0 with
            | none =>
              rw [hds] at q2
              have f2 := q1.fr (show N < N + 21 by omega) (fun q a => by simp only [Aq] at a; omega)
              obtain ⟨f3, S3, Q3, t3, w3⟩ := rf_all Z1.1 6
              exact ⟨rf h' N 6, hup.trans q2, (f1.trans f2).trans f3, V.fin ((Q1.trans (q1.svm (fun k a => a.elim) (fun j a => by simp only [Aq] at a; omega))).trans Q3) t3 w3⟩
            | some sm =>
              rw [hds] at q2
              have hsm := ds_sum _ _ _ _ hds
              have hlen : (rmF y 0).length ≤ 6 := by rw [rmF_0 y h5.2, List.length_range']; omega
              obtain ⟨h2, hdr, hdr2⟩ := qm_drL hm14 hm1 g3 6 300000 0 sm h' Z1 (by omega) hlen (by rw [hsm, rmF_0 y h5.2, Int32.zero_add]) (by omega)
              rw [nI_0] at hdr
              obtain ⟨a1, a2⟩ := m_fin R (q1.trans hdr2) (fun q a => by simp only [Aq] at a; omega) (fun k a => a.elim) (fun k a => by simp only [Aq] at a; omega)
              exact ⟨_, hup.trans (q2.trans hdr), a1, a2⟩
