/-! fill: the law, the component -/
def moF (y : Dy) (x : Nat) : Nat := (y.2 33 x).toNatClampNeg
def whV (y : Dy) (x : Nat) : Int32 := if x = y.1 9 then -2 else nI x
def fkF (y : Dy) : List Nat → List Nat → Bool
  | _, [] => true
  | pre, x :: t => (if x = y.1 9 then true else (lieB (y.2 32 x) pre.length && decide (pre.count x + 1 ≤ moF y x))) && fkF y (pre ++ [x]) t
def nfF (y : Dy) : List Nat → Nat
  | [] => 0
  | x :: t => (if x = y.1 9 then 0 else 1) + nfF y t
def mxL (a : List Nat) (h b : Nat) : Nat := max b (a.count h)
def mxF (y : Dy) (a : List Nat) : Nat := lp (mxL a) (y.1 9) 0 0
def btF (y : Dy) (a b : List Nat) : Bool := decide (nfF y b < nfF y a ∨ (nfF y a = nfF y b ∧ mxF y a < mxF y b))
def fiS (y : Dy) (st : Option (List Nat)) (a : List Nat) : Option (List Nat) := if fkF y [] a = true then (match st with
  | none => some a
  | some b => if btF y a b = true then some a else some b) else st
def fiY (y : Dy) : Option (List Nat) := (asgF (y.1 9 + 1) 7).foldl (fiS y) none
theorem fiS_no {y : Dy} {st : Option (List Nat)} {a : List Nat} (h : ¬ fkF y [] a = true) : fiS y st a = st := by
  unfold fiS
  rw [if_neg h]
theorem fiS_ok {y : Dy} {st : Option (List Nat)} {a : List Nat} (h : fkF y [] a = true) : fiS y st a = (match st with
  | none => some a
  | some b => if btF y a b = true then some a else some b) := by
  unfold fiS
  rw [if_pos h]
theorem cnt_ne {p : List Nat} {x c : Nat} (h : x ≠ c) : (p ++ [x]).count c = p.count c := by
  rw [List.count_append, List.count_cons, List.count_nil, if_neg (by simpa using h)]
  rfl
theorem fkF_app {y : Dy} : ∀ (u p t : List Nat), fkF y p (u ++ t) = (fkF y p u && fkF y (p ++ u) t) := by
  intro u
  induction u with
  | nil => intro p t; rw [List.nil_append, List.append_nil, fkF, Bool.true_and]
  | cons x u ih =>
    intro p t
    rw [List.cons_append, fkF, fkF, ih, List.append_assoc, List.singleton_append, Bool.and_assoc]
theorem nfF_app {y : Dy} (x : Nat) : ∀ (u : List Nat), nfF y (u ++ [x]) = nfF y u + if x = y.1 9 then 0 else 1 := by
  intro u
  induction u with
  | nil => simp [nfF]
  | cons a u ih => rw [List.cons_append, nfF, ih, nfF, Nat.add_assoc]
theorem nfF_le {y : Dy} : ∀ (u : List Nat), nfF y u ≤ u.length := by
  intro u
  induction u with
  | nil => exact Nat.le_refl _
  | cons a u ih =>
    rw [nfF, List.length_cons]
    split <;> omega
theorem mxL_le {a : List Nat} {m : Nat} : ∀ (j k b : Nat), lp (mxL a) j k b ≤ m ↔ b ≤ m ∧ ∀ h, k ≤ h → h < k + j → a.count h ≤ m := by
  intro j
  induction j with
  | zero =>
    intro k b
    rw [lp]
    exact ⟨fun h => ⟨h, fun h' a b => by omega⟩, fun h => h.1⟩
  | succ j ih =>
    intro k b
    rw [lp, ih, mxL, Nat.max_le]
    constructor
    · rintro ⟨⟨h1, h2⟩, h3⟩
      refine ⟨h1, fun h a b => ?_⟩
      by_cases e : h = k
      · subst e; exact h2
      · exact h3 h (by omega) (by omega)
    · rintro ⟨h1, h2⟩
      exact ⟨⟨h1, h2 k (Nat.le_refl _) (by omega)⟩, fun h a b => h2 h (by omega) (by omega)⟩
theorem mxF_le {y : Dy} {a : List Nat} {m : Nat} : mxF y a ≤ m ↔ ∀ h, h < y.1 9 → a.count h ≤ m := by
  rw [mxF, mxL_le]
  exact ⟨fun g h hh => g.2 h (Nat.zero_le _) (by omega), fun g => ⟨Nat.zero_le _, fun h _ hh => g h (by omega)⟩⟩
theorem mxF_len {y : Dy} {a : List Nat} : mxF y a ≤ a.length := mxF_le.mpr fun _ _ => List.count_le_length
theorem mxF_no {y : Dy} {p : List Nat} : mxF y (p ++ [y.1 9]) = mxF y p := by
  refine Nat.le_antisymm (mxF_le.mpr fun h hh => ?_) (mxF_le.mpr fun h hh => ?_)
  · rw [cnt_ne (by omega)]
    exact mxF_le.mp (Nat.le_refl _) h hh
  · have := mxF_le.mp (Nat.le_refl (mxF y (p ++ [y.1 9]))) h hh
    rw [List.count_append] at this
    omega
theorem mxF_app {y : Dy} {p : List Nat} {x : Nat} (hx : x < y.1 9) : mxF y (p ++ [x]) = max (mxF y p) (p.count x + 1) := by
  refine Nat.le_antisymm (mxF_le.mpr fun h hh => ?_) (Nat.max_le.mpr ⟨mxF_le.mpr fun h hh => ?_, ?_⟩)
  · have := mxF_le.mp (Nat.le_refl (mxF y p)) h hh
    by_cases e : x = h
    · subst e
      rw [List.count_append, List.count_singleton_self]
      exact Nat.le_max_right _ _
    · rw [List.count_append, List.count_cons, List.count_nil, if_neg (by simpa using e)]
      exact Nat.le_trans this (Nat.le_max_left _ _)
  · have := mxF_le.mp (Nat.le_refl (mxF y (p ++ [x]))) h hh
    rw [List.count_append] at this
    omega
  · have := mxF_le.mp (Nat.le_refl (mxF y (p ++ [x]))) x hx
    rw [List.count_append, List.count_singleton_self] at this
    exact this
theorem moF_ok {y : Dy} (K : Yk y) {x : Nat} (hx : x < y.1 9) : y.2 33 x = nI (moF y x) ∧ moF y x ≤ 7 := by
  obtain ⟨c2, c3, c4, c5, c6, c7, c8, c9, yk, yd, yf, yh, yc, yl, yp, yhot, yby⟩ := id K
  obtain ⟨-, n, e, h1, h2⟩ := yp x hx
  have : moF y x = n := by rw [moF, e, nI_clamp (by omega)]
  rw [this]
  exact ⟨e, h2⟩
theorem Yk.h9 {y : Dy} (K : Yk y) : y.1 9 ≤ 5 := by
  obtain ⟨c2, c3, c4, c5, c6, c7, c8, c9, yk, yd, yf, yh, yc, yl, yp, yhot, yby⟩ := id K
  exact c9
abbrev Af (N : Nat) : Nat → Prop := fun q => q = N + 23 ∨ q = N + 24 ∨ q = N + 26
abbrev Bf : Nat → Prop := fun k => k = 33 ∨ k = 34
def WC (h : Hp) (N : Nat) (y : Dy) (pre : List Nat) : Prop := (∀ c, c < y.1 9 → aF h (N + 26) c = nI (pre.count c)) ∧ (∀ j, j < pre.length → aF h (N + 23) j = whV y (pre.getD j 0)) ∧ ∀ c, y.1 9 ≤ c → c < 5 → aF h (N + 26) c = 0
def FS (h : Hp) (N : Nat) (y : Dy) (st : Option (List Nat)) : Prop := match st with
  | none => gI h N 33 = -1
  | some b => b.length = 7 ∧ gI h N 33 = nI (nfF y b) ∧ gI h N 34 = nI (mxF y b) ∧ ∀ j, j < 7 → aF h (N + 24) j = whV y (b.getD j 0)
theorem max_nI {a b : Nat} (ha : a < 2 ^ 31) (hb : b < 2 ^ 31) : ab_max (nI a) (nI b) = nI (max a b) := by
  unfold ab_max
  by_cases h : a < b
  · rw [if_pos ((nI_ltI ha hb).mpr h), Nat.max_eq_right (by omega)]
  · rw [if_neg (fun z => h ((nI_ltI ha hb).mp z)), Nat.max_eq_left (by omega)]
theorem qx_fmx {N E d : Nat} {qa : Nat → Nat → Nat} {y : Dy} {h : Hp} {a : List Nat} (Z : XD h N E d qa y) (L : WC h N y a) (ha : a.length = 7) {rec : Int32 → Int32 → Hp → Option Hp} {l2 : Int32} : ∀ (j k f b : Nat), b ≤ 7 → k + j = y.1 9 → j < f → fX1_fills_l11 N rec f l2 (nI b) (nI k) h = if l2 < gI h N 33 then some h else if l2 = gI h N 33 then (if nI (lp (mxL a) j k b) < gI h N 34 then fX1_fills_b66 N rec l2 (nI (lp (mxL a) j k b)) h else some h) else fX1_fills_b66 N rec l2 (nI (lp (mxL a) j k b)) h := by
  have h9 := Z.2.2.2.2.h9
  intro j
  induction j with
  | zero =>
    intro k f b hb hk hf
    cases f with
    | zero => omega
    | succ f =>
      obtain ⟨S, e1, D, lE, K⟩ := id Z
      obtain ⟨hz, hfu0, o0, o1, r0_0, o2, r0_2, o3, r2_0, r2_1, o4, r2_2, o5, r0_8, o6, o7, o8, r6_0, r6_1, o9, o10, o11, r9_0, r9_1, o32, o33, o34, r32_0, r32_1, o35, o36, o37, r35_0, r35_1, o38, o39, o40, r38_0, r38_1, r0_9, r0_10, o12, r0_12, o13, r0_13, o14, r0_14, o15, r0_15, o16, r0_18, o17, r0_19, o18, r0_20, o19, r0_22, o20, r0_23, o21, r0_24, o22, r0_25, o23, r0_28, o24, r0_29, o25, r0_30, o26, r0_31, o27, r0_35, o28, r0_36, o29, r0_37, o30, r0_38, o31, r0_39, d5_0, d5_1, d5_2⟩ := id S
      obtain ⟨dlo, do0, dr0, da0, dr1, da1, dr2, da2, dr3, da3, dr4, da4, dr5, da5, dr6, da6, dr7, da7, dr8, da8, dn2, dn3, dn4, dn5, dn6, dn8, dn9, dn7, dv17, dv18, dvf, dt0, dt1, dt2, dt3, dt4, dt5, dt6⟩ := id D
      obtain ⟨yc2, yc3, yc4, yc5, yc6, yc7, yc8, yc9, yyk, yyd, yyf, yyh, yyc, yyl, yyp, yyhot, yyby⟩ := id K
      simp only [fX1_fills_l11, g0_3 o0, e1, bdS, b2S, bxL, bxR, onN, onS, g5_15 do0, dn9, nI_le (show y.1 9 ≤ k by omega) (by omega), if_true, g0_33 o0, g0_34 o0, lp]
      rfl
  | succ j ih =>
    intro k f b hb hk hf
    cases f with
    | zero => omega
    | succ f =>
      have hc : a.count k ≤ 7 := by rw [← ha]; exact List.count_le_length
      have i1 := ih (k + 1) f (max b (a.count k)) (Nat.max_le.mpr ⟨hb, hc⟩) (by omega) (by omega)
      rw [lp, mxL, ← i1]
      obtain ⟨S, e1, D, lE, K⟩ := id Z
      obtain ⟨hz, hfu0, o0, o1, r0_0, o2, r0_2, o3, r2_0, r2_1, o4, r2_2, o5, r0_8, o6, o7, o8, r6_0, r6_1, o9, o10, o11, r9_0, r9_1, o32, o33, o34, r32_0, r32_1, o35, o36, o37, r35_0, r35_1, o38, o39, o40, r38_0, r38_1, r0_9, r0_10, o12, r0_12, o13, r0_13, o14, r0_14, o15, r0_15, o16, r0_18, o17, r0_19, o18, r0_20, o19, r0_22, o20, r0_23, o21, r0_24, o22, r0_25, o23, r0_28, o24, r0_29, o25, r0_30, o26, r0_31, o27, r0_35, o28, r0_36, o29, r0_37, o30, r0_38, o31, r0_39, d5_0, d5_1, d5_2⟩ := id S
      obtain ⟨dlo, do0, dr0, da0, dr1, da1, dr2, da2, dr3, da3, dr4, da4, dr5, da5, dr6, da6, dr7, da7, dr8, da8, dn2, dn3, dn4, dn5, dn6, dn8, dn9, dn7, dv17, dv18, dvf, dt0, dt1, dt2, dt3, dt4, dt5, dt6⟩ := id D
      obtain ⟨yc2, yc3, yc4, yc5, yc6, yc7, yc8, yc9, yyk, yyd, yyf, yyh, yyc, yyl, yyp, yyhot, yyby⟩ := id K
      simp only [fX1_fills_l11, g0_3 o0, e1, bdS, b2S, bxL, bxR, onN, onS, g5_15 do0, dn9, nI_ge (show k < y.1 9 by omega) (by omega), if_false, g0_31 o0, r0_31, aIn o26 (show k < 5 by omega), L.1 k (by omega), max_nI (show b < 2 ^ 31 by omega) (show a.count k < 2 ^ 31 by omega), nI_1]
theorem qx_fleaf {N E d : Nat} {qa : Nat → Nat → Nat} {y : Dy} {h : Hp} {a : List Nat} {st : Option (List Nat)} (Z : XD h N E d qa y) (L : WC h N y a) (ha : a.length = 7) (hv : fkF y [] a = true) (o : FS h N y st) (n : Nat) : ∃ h', fX1_fills (n + 1) N 7 (nI (nfF y a)) h = some h' ∧ Fw N (Af N) Bf h h' ∧ WC h' N y a ∧ FS h' N y (fiS y st a) := by
  have h9 := Z.2.2.2.2.h9
  have hmx : mxF y a ≤ 7 := by rw [← ha]; exact mxF_len
  have hnf : nfF y a ≤ 7 := by rw [← ha]; exact nfF_le a
  have hm := qx_fmx Z L ha (rec := fX1_fills n N) (l2 := nI (nfF y a)) (y.1 9) 0 300000 0 (by omega) (by omega) (by omega)
  have em : lp (mxL a) (y.1 9) 0 0 = mxF y a := rfl
  rw [em, nI_0] at hm
  have hup : fX1_fills (n + 1) N 7 (nI (nfF y a)) h = fX1_fills_l11 N (fX1_fills n N) 300000 (nI (nfF y a)) 0 0 h := by
    simp only [fX1_fills, ab_ckq Z.1.o, if_true, Z.1.f]
  rw [hm] at hup
  have take : ∃ h', fX1_fills_b66 N (fX1_fills n N) (nI (nfF y a)) (nI (mxF y a)) h = some h' ∧ Fw N (Af N) Bf h h' ∧ WC h' N y a ∧ FS h' N y (some a) := by
    have f1 : Fw N (Af N) Bf h (sI h N 33 (nI (nfF y a))) := Fw.sI Z.1.o rfl (Or.inl rfl)
    have Z1 := Z.fw f1 (fun q a => by simp only [Af] at a; omega)
    have f2 : Fw N (Af N) Bf (sI h N 33 (nI (nfF y a))) (sI (sI h N 33 (nI (nfF y a))) N 34 (nI (mxF y a))) := Fw.sI Z1.1.o rfl (Or.inr rfl)
    have Z2 := Z1.fw f2 (fun q a => by simp only [Af] at a; omega)
    have hz := Z2.1.1
    have hS2 := Z2.1
    obtain ⟨hz, hfu0, o0, o1, r0_0, o2, r0_2, o3, r2_0, r2_1, o4, r2_2, o5, r0_8, o6, o7, o8, r6_0, r6_1, o9, o10, o11, r9_0, r9_1, o32, o33, o34, r32_0, r32_1, o35, o36, o37, r35_0, r35_1, o38, o39, o40, r38_0, r38_1, r0_9, r0_10, o12, r0_12, o13, r0_13, o14, r0_14, o15, r0_15, o16, r0_18, o17, r0_19, o18, r0_20, o19, r0_22, o20, r0_23, o21, r0_24, o22, r0_25, o23, r0_28, o24, r0_29, o25, r0_30, o26, r0_31, o27, r0_35, o28, r0_36, o29, r0_37, o30, r0_38, o31, r0_39, d5_0, d5_1, d5_2⟩ := id hS2
    have hc := ab_cpyq o23 o24 (k := 7) (by omega) (by omega) (by omega) (by omega) (by decide)
    have hc : ab_cpy (sI (sI h N 33 (nI (nfF y a))) N 34 (nI (mxF y a))) (N + 23) 0 (N + 24) 0 (7 : Int32) = _ := hc
    have f3 : Fw N (Af N) Bf (sI (sI h N 33 (nI (nfF y a))) N 34 (nI (mxF y a))) (sF (sI (sI h N 33 (nI (nfF y a))) N 34 (nI (mxF y a))) (N + 24) (va_cpy (aF (sI (sI h N 33 (nI (nfF y a))) N 34 (nI (mxF y a))) (N + 23)) (aF (sI (sI h N 33 (nI (nfF y a))) N 34 (nI (mxF y a))) (N + 24)) 0 0 7)) := Fw.sF (Or.inr (Or.inl rfl))
    refine ⟨_, ?_, (f1.trans f2).trans f3, ⟨fun c hc => ?_, fun j hj => ?_, fun c h1 h2 => by rw [aF_sF o24, if_neg (by omega), aF_sI, aF_sI]; exact L.2.2 c h1 h2⟩, ha, ?_, ?_, fun j hj => ?_⟩
    · simp only [fX1_fills_b66, ab_pIq Z.1.o Z.1.1, bdS, b2S, bxL, bxR, onN, onS, ab_pIq Z1.1.o Z1.1.1, g0_28 o0, r0_28, g0_29 o0, r0_29, hc]
    · rw [aF_sF o24, if_neg (by omega), aF_sI, aF_sI]; exact L.1 c hc
    · rw [aF_sF o24, if_neg (by omega), aF_sI, aF_sI]; exact L.2.1 j hj
    · rw [gI_sF, gI_sI Z1.1.o, if_neg (by omega), gI_sI Z.1.o, if_pos ⟨rfl, rfl⟩]
    · rw [gI_sF, gI_sI Z1.1.o, if_pos ⟨rfl, rfl⟩]
    · rw [aF_sF o24, if_pos rfl, aF_sI, aF_sI, va_cpy, if_pos (by omega), Nat.zero_add, Nat.sub_zero]
      exact L.2.1 j (by omega)
  rw [fiS_ok hv]
  cases st with
  | none =>
    have o : gI h N 33 = -1 := o
    rw [o, if_neg (show ¬ nI (nfF y a) < (-1 : Int32) from fun z => nI_pos (show nfF y a < 2 ^ 31 by omega) (Int32.lt_trans z (by decide))), if_neg (nI_m1ne (by omega))] at hup
    obtain ⟨h', b1, b2⟩ := take
    exact ⟨h', hup.trans b1, b2⟩
  | some b =>
    obtain ⟨o1, o2, o3, o4⟩ := id o
    have hmb : mxF y b ≤ 7 := by rw [← o1]; exact mxF_len
    have hnb : nfF y b ≤ 7 := by rw [← o1]; exact nfF_le b
    rw [o2, o3] at hup
    simp only [nI_ltI (show nfF y a < 2 ^ 31 by omega) (show nfF y b < 2 ^ 31 by omega), nI_eq (show nfF y a < 2 ^ 31 by omega) (show nfF y b < 2 ^ 31 by omega), nI_ltI (show mxF y a < 2 ^ 31 by omega) (show mxF y b < 2 ^ 31 by omega)] at hup
    dsimp only
    by_cases t1 : nfF y a < nfF y b
    · rw [if_pos t1] at hup
      rw [if_neg (by rw [btF, decide_eq_true_iff]; omega)]
      exact ⟨h, hup, Fw.rf, L, o⟩
    · rw [if_neg t1] at hup
      by_cases t2 : nfF y a = nfF y b
      · rw [if_pos t2] at hup
        by_cases t3 : mxF y a < mxF y b
        · rw [if_pos t3] at hup
          rw [if_pos (by rw [btF, decide_eq_true_iff]; omega)]
          obtain ⟨h', b1, b2⟩ := take
          exact ⟨h', hup.trans b1, b2⟩
        · rw [if_neg t3] at hup
          rw [if_neg (by rw [btF, decide_eq_true_iff]; omega)]
          exact ⟨h, hup, Fw.rf, L, o⟩
      · rw [if_neg t2] at hup
        rw [if_pos (by rw [btF, decide_eq_true_iff]; omega)]
        obtain ⟨h', b1, b2⟩ := take
        exact ⟨h', hup.trans b1, b2⟩
theorem fiS_noop {y : Dy} {pre : List Nat} : ∀ (L : List (List Nat)) (st : Option (List Nat)), (∀ l ∈ L, fkF y [] (pre ++ l) = false) → L.foldl (fun s l => fiS y s (pre ++ l)) st = st := by
  intro L
  induction L with
  | nil => intro st _; rfl
  | cons a t ih =>
    intro st h
    rw [List.foldl_cons, fiS_no (by rw [h a List.mem_cons_self]; decide)]
    exact ih st fun l hl => h l (List.mem_cons_of_mem _ hl)
theorem fk_mo {y : Dy} : ∀ {pre : List Nat}, fkF y [] pre = true → ∀ c, c < y.1 9 → pre.count c ≤ moF y c := by
  have key : ∀ n (pre : List Nat), pre.length = n → fkF y [] pre = true → ∀ c, c < y.1 9 → pre.count c ≤ moF y c := by
    intro n
    induction n with
    | zero => intro pre hl _ c _; rw [List.length_eq_zero_iff.mp hl]; simp
    | succ n ih =>
      intro pre hl hv c hc
      obtain ⟨t, x, rfl⟩ : ∃ t x, pre = t ++ [x] := by
        refine ⟨pre.dropLast, pre.getLast (fun e => by rw [e] at hl; simp at hl), (List.dropLast_concat_getLast _).symm⟩
      rw [List.length_append] at hl
      have hl : t.length + 1 = n + 1 := hl
      rw [fkF_app, Bool.and_eq_true, List.nil_append, fkF, fkF, Bool.and_true] at hv
      have i1 := ih t (by omega) hv.1 c hc
      rw [List.count_append]
      by_cases e : x = c
      · subst e
        have h2 := hv.2
        rw [if_neg (by omega), Bool.and_eq_true, decide_eq_true_iff] at h2
        rw [List.count_singleton_self]
        exact h2.2
      · rw [List.count_cons, List.count_nil, if_neg (by simpa using e)]
        exact i1
  exact fun {pre} => key pre.length pre rfl
theorem qx_fi {N E d : Nat} {qa : Nat → Nat → Nat} {y : Dy} : ∀ (m n : Nat) (pre : List Nat) (st : Option (List Nat)) (h : Hp), XD h N E d qa y → WC h N y pre → fkF y [] pre = true → FS h N y st → pre.length + m = 7 → m < n → ∃ h', fX1_fills n N (nI pre.length) (nI (nfF y pre)) h = some h' ∧ Fw N (Af N) Bf h h' ∧ WC h' N y pre ∧ FS h' N y ((asgF (y.1 9 + 1) m).foldl (fun s l => fiS y s (pre ++ l)) st) := by
  intro m
  induction m with
  | zero =>
    intro n pre st h Z L hv o hp hn
    cases n with
    | zero => omega
    | succ n =>
      have hl : pre.length = 7 := by omega
      obtain ⟨h', q1, q2, q3, q4⟩ := qx_fleaf Z L hl hv o n
      refine ⟨h', by rw [hl]; exact q1, q2, q3, ?_⟩
      simpa [asgF] using q4
  | succ m ih =>
    intro n pre st h Z L hv o hp hn
    cases n with
    | zero => omega
    | succ n =>
      have h9 := Z.2.2.2.2.h9
      have happ : ∀ (x : Nat) (L : List (List Nat)) (s : Option (List Nat)), L.foldl (fun s l => fiS y s (pre ++ x :: l)) s = L.foldl (fun s l => fiS y s (pre ++ [x] ++ l)) s := by
        intro x L s
        congr 1
        funext s l
        simp
      have hlen : ∀ x : Nat, (pre ++ [x]).length = pre.length + 1 := fun x => by rw [List.length_append]; rfl
      have loop : ∀ (j k f : Nat) (st : Option (List Nat)) (h : Hp), XD h N E d qa y → WC h N y pre → FS h N y st → k + j = y.1 9 → j < f → ∃ h', fX1_fills_l94 N (fX1_fills n N) f (nI pre.length) (nI (nfF y pre)) (nI k) h = some h' ∧ Fw N (Af N) Bf h h' ∧ WC h' N y pre ∧ FS h' N y (((List.range' k (j + 1)).flatMap fun c => (asgF (y.1 9 + 1) m).map (c :: ·)).foldl (fun s l => fiS y s (pre ++ l)) st) := by
        intro j
        induction j with
        | zero =>
          intro k f st h Z L o hk hf
          cases f with
          | zero => omega
          | succ f =>
            have e : k = y.1 9 := by omega
            subst e
            have f1 : Fw N (Af N) Bf h (sA h (N + 23) pre.length (-2)) := Fw.sA (Or.inl rfl)
            have Z1 := Z.fw f1 (fun q a => by simp only [Af] at a; omega)
            have p23 : isA h (N + 23) 0 7 := by
              have hS := Z.1
              obtain ⟨hz, hfu0, o0, o1, r0_0, o2, r0_2, o3, r2_0, r2_1, o4, r2_2, o5, r0_8, o6, o7, o8, r6_0, r6_1, o9, o10, o11, r9_0, r9_1, o32, o33, o34, r32_0, r32_1, o35, o36, o37, r35_0, r35_1, o38, o39, o40, r38_0, r38_1, r0_9, r0_10, o12, r0_12, o13, r0_13, o14, r0_14, o15, r0_15, o16, r0_18, o17, r0_19, o18, r0_20, o19, r0_22, o20, r0_23, o21, r0_24, o22, r0_25, o23, r0_28, o24, r0_29, o25, r0_30, o26, r0_31, o27, r0_35, o28, r0_36, o29, r0_37, o30, r0_38, o31, r0_39, d5_0, d5_1, d5_2⟩ := id hS
              exact o23
            have L1 : WC (sA h (N + 23) pre.length (-2)) N y (pre ++ [y.1 9]) := by
              refine ⟨fun c hc => ?_, fun j hj => ?_, fun c h1 h2 => by rw [aF_sA p23, if_neg (by omega)]; exact L.2.2 c h1 h2⟩
              · rw [aF_sA p23, if_neg (by omega), cnt_ne (by omega)]
                exact L.1 c hc
              · rw [hlen] at hj
                rw [aF_sA p23, if_pos rfl]
                by_cases e : j = pre.length
                · subst e; rw [getD_app_e]; simp [upd, whV]
                · rw [getD_app_l (by omega)]
                  simp only [upd, e, if_false]
                  exact L.2.1 j (by omega)
            have o1 : FS (sA h (N + 23) pre.length (-2)) N y st := by
              cases st with
              | none => exact (gI_sA).trans o
              | some b =>
                obtain ⟨x1, x2, x3, x4⟩ := o
                exact ⟨x1, gI_sA.trans x2, gI_sA.trans x3, fun j hj => by rw [aF_sA p23, if_neg (by omega)]; exact x4 j hj⟩
            have hv1 : fkF y [] (pre ++ [y.1 9]) = true := by
              rw [fkF_app, hv, fkF, if_pos rfl, fkF]
              rfl
            obtain ⟨h', q1, q2, q3, q4⟩ := ih n (pre ++ [y.1 9]) st _ Z1 L1 hv1 o1 (by rw [hlen]; omega) (by omega)
            rw [hlen, nfF_app, if_pos rfl] at q1
            have q1 : fX1_fills n N (nI (pre.length + 1)) (nI (nfF y pre)) (sA h (N + 23) pre.length (-2)) = some h' := q1
            refine ⟨h', ?_, f1.trans q2, ⟨fun c hc => ?_, fun j hj => ?_, q3.2.2⟩, ?_⟩
            · have hz := Z.1.1
              obtain ⟨S, e1, D, lE, K⟩ := id Z
              obtain ⟨hz, hfu0, o0, o1, r0_0, o2, r0_2, o3, r2_0, r2_1, o4, r2_2, o5, r0_8, o6, o7, o8, r6_0, r6_1, o9, o10, o11, r9_0, r9_1, o32, o33, o34, r32_0, r32_1, o35, o36, o37, r35_0, r35_1, o38, o39, o40, r38_0, r38_1, r0_9, r0_10, o12, r0_12, o13, r0_13, o14, r0_14, o15, r0_15, o16, r0_18, o17, r0_19, o18, r0_20, o19, r0_22, o20, r0_23, o21, r0_24, o22, r0_25, o23, r0_28, o24, r0_29, o25, r0_30, o26, r0_31, o27, r0_35, o28, r0_36, o29, r0_37, o30, r0_38, o31, r0_39, d5_0, d5_1, d5_2⟩ := id S
              obtain ⟨dlo, do0, dr0, da0, dr1, da1, dr2, da2, dr3, da3, dr4, da4, dr5, da5, dr6, da6, dr7, da7, dr8, da8, dn2, dn3, dn4, dn5, dn6, dn8, dn9, dn7, dv17, dv18, dvf, dt0, dt1, dt2, dt3, dt4, dt5, dt6⟩ := id D
              obtain ⟨yc2, yc3, yc4, yc5, yc6, yc7, yc8, yc9, yyk, yyd, yyf, yyh, yyc, yyl, yyp, yyhot, yyby⟩ := id K
              simp only [fX1_fills_l94, g0_3 o0, e1, bdS, b2S, bxL, bxR, onN, onS, g5_15 do0, dn9, Int32.le_refl, if_true, g0_28 o0, r0_28, sIn o23 (show hfz h ≤ N + 23 by omega) (show pre.length < 7 by omega), nI_1]
              rw [q1]
              rfl
            · rw [q3.1 c hc, cnt_ne (by omega)]
            · rw [q3.2.1 j (by rw [hlen]; omega), getD_app_l hj]
            · simp only [List.range'_succ, List.range'_zero, List.flatMap_cons, List.flatMap_nil, List.append_nil]
              rw [List.foldl_map, happ]
              exact q4
        | succ j ihj =>
          intro k f st h Z L o hk hf
          cases f with
          | zero => omega
          | succ f =>
            have hk9 : k < y.1 9 := by omega
            have hcp : pre.count k ≤ 7 := Nat.le_trans List.count_le_length (by omega)
            obtain ⟨u1, u2⟩ := moF_ok Z.2.2.2.2 hk9
            have hcm : pre.count k ≤ 7 := hcp
            rw [List.range'_succ, List.flatMap_cons, List.foldl_append, List.foldl_map]
            have hlie := qx_lies (y.2 32 k) pre.length h
            have skip : (lieB (y.2 32 k) pre.length && decide (pre.count k + 1 ≤ moF y k)) = false → (asgF (y.1 9 + 1) m).foldl (fun s l => fiS y s (pre ++ k :: l)) st = st := fun hb => by
              have := fiS_noop (y := y) (pre := pre) ((asgF (y.1 9 + 1) m).map (k :: ·)) st (fun l hl => by
                obtain ⟨l', -, rfl⟩ := List.mem_map.mp hl
                rw [fkF_app, fkF, if_neg (by omega), List.nil_append, hb]
                simp)
              rw [List.foldl_map] at this
              exact this
            by_cases c1 : lieB (y.2 32 k) pre.length
            · by_cases c2 : pre.count k = moF y k
              · rw [skip (by rw [decide_eq_false (by omega), Bool.and_false])]
                obtain ⟨h', s1, s2, s3, s4⟩ := ihj (k + 1) f st h Z L o (by omega) (by omega)
                refine ⟨h', ?_, s2, s3, s4⟩
                rw [← s1]
                obtain ⟨S, e1, D, lE, K⟩ := id Z
                obtain ⟨hz, hfu0, o0, o1, r0_0, o2, r0_2, o3, r2_0, r2_1, o4, r2_2, o5, r0_8, o6, o7, o8, r6_0, r6_1, o9, o10, o11, r9_0, r9_1, o32, o33, o34, r32_0, r32_1, o35, o36, o37, r35_0, r35_1, o38, o39, o40, r38_0, r38_1, r0_9, r0_10, o12, r0_12, o13, r0_13, o14, r0_14, o15, r0_15, o16, r0_18, o17, r0_19, o18, r0_20, o19, r0_22, o20, r0_23, o21, r0_24, o22, r0_25, o23, r0_28, o24, r0_29, o25, r0_30, o26, r0_31, o27, r0_35, o28, r0_36, o29, r0_37, o30, r0_38, o31, r0_39, d5_0, d5_1, d5_2⟩ := id S
                obtain ⟨dlo, do0, dr0, da0, dr1, da1, dr2, da2, dr3, da3, dr4, da4, dr5, da5, dr6, da6, dr7, da7, dr8, da8, dn2, dn3, dn4, dn5, dn6, dn8, dn9, dn7, dv17, dv18, dvf, dt0, dt1, dt2, dt3, dt4, dt5, dt6⟩ := id D
                obtain ⟨yc2, yc3, yc4, yc5, yc6, yc7, yc8, yc9, yyk, yyd, yyf, yyh, yyc, yyl, yyp, yyhot, yyby⟩ := id K
                obtain ⟨z1, z2, z3, z4, z5⟩ := dt6 k hk9
                simp only [fX1_fills_l94, g0_3 o0, e1, bdS, b2S, bxL, bxR, onN, onS, g5_15 do0, dn9, nI_ge hk9 (by omega), if_false, g5_6 do0, dr6, aRn da6 (show k < 5 by omega), z2, g12_2 z3, z4, hlie, c1, if_true, show ¬ ((1 : Int32) = 0) from by decide, g0_31 o0, r0_31, aIn o26 (show k < 5 by omega), L.1 k hk9, g12_3 z3, z5, u1, c2, nI_1]
              · have hlt : pre.count k + 1 ≤ moF y k := by have := fk_mo hv k hk9; omega
                have hkH : ¬ k = y.1 9 := by omega
                have hv1 : fkF y [] (pre ++ [k]) = true := by
                  rw [fkF_app, hv, fkF, if_neg hkH, fkF, List.nil_append, c1, decide_eq_true hlt]
                  rfl
                have f1 : Fw N (Af N) Bf h (sA h (N + 23) pre.length (nI k)) := Fw.sA (Or.inl rfl)
                have Z1 := Z.fw f1 (fun q a => by simp only [Af] at a; omega)
                have p23 : isA h (N + 23) 0 7 := by
                  have hS := Z.1
                  obtain ⟨hz, hfu0, o0, o1, r0_0, o2, r0_2, o3, r2_0, r2_1, o4, r2_2, o5, r0_8, o6, o7, o8, r6_0, r6_1, o9, o10, o11, r9_0, r9_1, o32, o33, o34, r32_0, r32_1, o35, o36, o37, r35_0, r35_1, o38, o39, o40, r38_0, r38_1, r0_9, r0_10, o12, r0_12, o13, r0_13, o14, r0_14, o15, r0_15, o16, r0_18, o17, r0_19, o18, r0_20, o19, r0_22, o20, r0_23, o21, r0_24, o22, r0_25, o23, r0_28, o24, r0_29, o25, r0_30, o26, r0_31, o27, r0_35, o28, r0_36, o29, r0_37, o30, r0_38, o31, r0_39, d5_0, d5_1, d5_2⟩ := id hS
                  exact o23
                have p26 : isA (sA h (N + 23) pre.length (nI k)) (N + 26) 0 5 := by
                  have hS := Z1.1
                  obtain ⟨hz, hfu0, o0, o1, r0_0, o2, r0_2, o3, r2_0, r2_1, o4, r2_2, o5, r0_8, o6, o7, o8, r6_0, r6_1, o9, o10, o11, r9_0, r9_1, o32, o33, o34, r32_0, r32_1, o35, o36, o37, r35_0, r35_1, o38, o39, o40, r38_0, r38_1, r0_9, r0_10, o12, r0_12, o13, r0_13, o14, r0_14, o15, r0_15, o16, r0_18, o17, r0_19, o18, r0_20, o19, r0_22, o20, r0_23, o21, r0_24, o22, r0_25, o23, r0_28, o24, r0_29, o25, r0_30, o26, r0_31, o27, r0_35, o28, r0_36, o29, r0_37, o30, r0_38, o31, r0_39, d5_0, d5_1, d5_2⟩ := id hS
                  exact o26
                have f2 : Fw N (Af N) Bf (sA h (N + 23) pre.length (nI k)) (sA (sA h (N + 23) pre.length (nI k)) (N + 26) k (nI (pre.count k + 1))) := Fw.sA (Or.inr (Or.inr rfl))
                have Z2 := Z1.fw f2 (fun q a => by simp only [Af] at a; omega)
                have a26 : ∀ c, aF (sA h (N + 23) pre.length (nI k)) (N + 26) c = aF h (N + 26) c := fun c => by rw [aF_sA p23, if_neg (by omega)]
                have hcnt : ∀ c, (pre ++ [k]).count c = pre.count c + if c = k then 1 else 0 := fun c => by
                  rw [List.count_append]
                  by_cases e : c = k
                  · subst e; rw [List.count_singleton_self, if_pos rfl]
                  · rw [List.count_cons, List.count_nil, if_neg (by simpa using fun z : k = c => e z.symm), if_neg e]
                have L1 : WC (sA (sA h (N + 23) pre.length (nI k)) (N + 26) k (nI (pre.count k + 1))) N y (pre ++ [k]) := by
                  refine ⟨fun c hc => ?_, fun j hj => ?_, fun c h1 h2 => by rw [aF_sA p26, if_pos rfl, upd, if_neg (by omega), a26]; exact L.2.2 c h1 h2⟩
                  · rw [aF_sA p26, if_pos rfl, upd, hcnt]
                    by_cases e : c = k
                    · subst e; rw [if_pos rfl, if_pos rfl]
                    · rw [if_neg e, if_neg e, a26, Nat.add_zero]; exact L.1 c hc
                  · rw [hlen] at hj
                    rw [aF_sA p26, if_neg (by omega), aF_sA p23, if_pos rfl]
                    by_cases e : j = pre.length
                    · subst e; rw [getD_app_e]; simp [upd, whV, hkH]
                    · rw [getD_app_l (by omega)]
                      simp only [upd, e, if_false]
                      exact L.2.1 j (by omega)
                have o1 : FS (sA (sA h (N + 23) pre.length (nI k)) (N + 26) k (nI (pre.count k + 1))) N y st := by
                  cases st with
                  | none => exact (gI_sA.trans gI_sA).trans o
                  | some b =>
                    obtain ⟨x1, x2, x3, x4⟩ := o
                    exact ⟨x1, (gI_sA.trans gI_sA).trans x2, (gI_sA.trans gI_sA).trans x3, fun j hj => by rw [aF_sA p26, if_neg (by omega), aF_sA p23, if_neg (by omega)]; exact x4 j hj⟩
                obtain ⟨h3, q1, q2, q3, q4⟩ := ih n (pre ++ [k]) st _ Z2 L1 hv1 o1 (by rw [hlen]; omega) (by omega)
                rw [hlen, nfF_app, if_neg hkH] at q1
                have Z3 := Z2.fw q2 (fun q a => by simp only [Af] at a; omega)
                have q26 : isA h3 (N + 26) 0 5 := by
                  have hS := Z3.1
                  obtain ⟨hz, hfu0, o0, o1, r0_0, o2, r0_2, o3, r2_0, r2_1, o4, r2_2, o5, r0_8, o6, o7, o8, r6_0, r6_1, o9, o10, o11, r9_0, r9_1, o32, o33, o34, r32_0, r32_1, o35, o36, o37, r35_0, r35_1, o38, o39, o40, r38_0, r38_1, r0_9, r0_10, o12, r0_12, o13, r0_13, o14, r0_14, o15, r0_15, o16, r0_18, o17, r0_19, o18, r0_20, o19, r0_22, o20, r0_23, o21, r0_24, o22, r0_25, o23, r0_28, o24, r0_29, o25, r0_30, o26, r0_31, o27, r0_35, o28, r0_36, o29, r0_37, o30, r0_38, o31, r0_39, d5_0, d5_1, d5_2⟩ := id hS
                  exact o26
                have f3 : Fw N (Af N) Bf h3 (sA h3 (N + 26) k (nI (pre.count k))) := Fw.sA (Or.inr (Or.inr rfl))
                have Z4 := Z3.fw f3 (fun q a => by simp only [Af] at a; omega)
                have L4 : WC (sA h3 (N + 26) k (nI (pre.count k))) N y pre := by
                  refine ⟨fun c hc => ?_, fun j hj => ?_, fun c h1 h2 => by rw [aF_sA q26, if_pos rfl, upd, if_neg (by omega)]; exact q3.2.2 c h1 h2⟩
                  · rw [aF_sA q26, if_pos rfl, upd]
                    by_cases e : c = k
                    · subst e; rw [if_pos rfl]
                    · rw [if_neg e, q3.1 c hc, hcnt, if_neg e, Nat.add_zero]
                  · rw [aF_sA q26, if_neg (by omega), q3.2.1 j (by rw [hlen]; omega), getD_app_l hj]
                have o4 : FS (sA h3 (N + 26) k (nI (pre.count k))) N y ((asgF (y.1 9 + 1) m).foldl (fun s l => fiS y s (pre ++ k :: l)) st) := by
                  rw [happ]
                  revert q4
                  cases (asgF (y.1 9 + 1) m).foldl (fun s l => fiS y s (pre ++ [k] ++ l)) st with
                  | none => exact fun q4 => gI_sA.trans q4
                  | some b =>
                    rintro ⟨x1, x2, x3, x4⟩
                    exact ⟨x1, gI_sA.trans x2, gI_sA.trans x3, fun j hj => by rw [aF_sA q26, if_neg (by omega)]; exact x4 j hj⟩
                obtain ⟨h', s1, s2, s3, s4⟩ := ihj (k + 1) f _ _ Z4 L4 o4 (by omega) (by omega)
                refine ⟨h', ?_, ((f1.trans f2).trans q2).trans (f3.trans s2), s3, s4⟩
                rw [← s1]
                have hz := Z.1.1
                have hz1 := Z1.1.1
                have hz3 := Z3.1.1
                have hne : ¬ nI (pre.count k) = nI (moF y k) := fun e => c2 ((nI_eq (by omega) (by omega)).mp e)
                have h1a : aF (sA h (N + 23) pre.length (nI k)) (N + 26) k = nI (pre.count k) := by rw [a26]; exact L.1 k hk9
                have h3a : aF h3 (N + 26) k = nI (pre.count k + 1) := by rw [q3.1 k hk9, hcnt, if_pos rfl]
                have hS1 := Z1.1
                have hS3 := Z3.1
                obtain ⟨whz, whfu0, wo0, wo1, wr0_0, wo2, wr0_2, wo3, wr2_0, wr2_1, wo4, wr2_2, wo5, wr0_8, wo6, wo7, wo8, wr6_0, wr6_1, wo9, wo10, wo11, wr9_0, wr9_1, wo32, wo33, wo34, wr32_0, wr32_1, wo35, wo36, wo37, wr35_0, wr35_1, wo38, wo39, wo40, wr38_0, wr38_1, wr0_9, wr0_10, wo12, wr0_12, wo13, wr0_13, wo14, wr0_14, wo15, wr0_15, wo16, wr0_18, wo17, wr0_19, wo18, wr0_20, wo19, wr0_22, wo20, wr0_23, wo21, wr0_24, wo22, wr0_25, wo23, wr0_28, wo24, wr0_29, wo25, wr0_30, wo26, wr0_31, wo27, wr0_35, wo28, wr0_36, wo29, wr0_37, wo30, wr0_38, wo31, wr0_39, wd5_0, wd5_1, wd5_2⟩ := id hS1
                obtain ⟨uhz, uhfu0, uo0, uo1, ur0_0, uo2, ur0_2, uo3, ur2_0, ur2_1, uo4, ur2_2, uo5, ur0_8, uo6, uo7, uo8, ur6_0, ur6_1, uo9, uo10, uo11, ur9_0, ur9_1, uo32, uo33, uo34, ur32_0, ur32_1, uo35, uo36, uo37, ur35_0, ur35_1, uo38, uo39, uo40, ur38_0, ur38_1, ur0_9, ur0_10, uo12, ur0_12, uo13, ur0_13, uo14, ur0_14, uo15, ur0_15, uo16, ur0_18, uo17, ur0_19, uo18, ur0_20, uo19, ur0_22, uo20, ur0_23, uo21, ur0_24, uo22, ur0_25, uo23, ur0_28, uo24, ur0_29, uo25, ur0_30, uo26, ur0_31, uo27, ur0_35, uo28, ur0_36, uo29, ur0_37, uo30, ur0_38, uo31, ur0_39, ud5_0, ud5_1, ud5_2⟩ := id hS3
                obtain ⟨S, e1, D, lE, K⟩ := id Z
                obtain ⟨hz, hfu0, o0, o1, r0_0, o2, r0_2, o3, r2_0, r2_1, o4, r2_2, o5, r0_8, o6, o7, o8, r6_0, r6_1, o9, o10, o11, r9_0, r9_1, o32, o33, o34, r32_0, r32_1, o35, o36, o37, r35_0, r35_1, o38, o39, o40, r38_0, r38_1, r0_9, r0_10, o12, r0_12, o13, r0_13, o14, r0_14, o15, r0_15, o16, r0_18, o17, r0_19, o18, r0_20, o19, r0_22, o20, r0_23, o21, r0_24, o22, r0_25, o23, r0_28, o24, r0_29, o25, r0_30, o26, r0_31, o27, r0_35, o28, r0_36, o29, r0_37, o30, r0_38, o31, r0_39, d5_0, d5_1, d5_2⟩ := id S
                obtain ⟨dlo, do0, dr0, da0, dr1, da1, dr2, da2, dr3, da3, dr4, da4, dr5, da5, dr6, da6, dr7, da7, dr8, da8, dn2, dn3, dn4, dn5, dn6, dn8, dn9, dn7, dv17, dv18, dvf, dt0, dt1, dt2, dt3, dt4, dt5, dt6⟩ := id D
                obtain ⟨yc2, yc3, yc4, yc5, yc6, yc7, yc8, yc9, yyk, yyd, yyf, yyh, yyc, yyl, yyp, yyhot, yyby⟩ := id K
                obtain ⟨z1, z2, z3, z4, z5⟩ := dt6 k hk9
                simp only [fX1_fills_l94, g0_3 o0, e1, bdS, b2S, bxL, bxR, onN, onS, g5_15 do0, dn9, nI_ge hk9 (by omega), if_false, g5_6 do0, dr6, aRn da6 (show k < 5 by omega), z2, g12_2 z3, z4, hlie, c1, if_true, show ¬ ((1 : Int32) = 0) from by decide, g0_31 o0, r0_31, aIn o26 (show k < 5 by omega), L.1 k hk9, g12_3 z3, z5, u1, hne, g0_28 o0, r0_28, sIn o23 (show hfz h ≤ N + 23 by omega) (show pre.length < 7 by omega), g0_31 wo0, wr0_31, aIn wo26 (show k < 5 by omega), h1a, nI_1, sIn wo26 (show hfz (sA h (N + 23) pre.length (nI k)) ≤ N + 26 by omega) (show k < 5 by omega), q1, g0_31 uo0, ur0_31, aIn uo26 (show k < 5 by omega), h3a, nI_pred, sIn uo26 (show hfz h3 ≤ N + 26 by omega) (show k < 5 by omega)]
            · rw [skip (by simp [c1])]
              obtain ⟨h', s1, s2, s3, s4⟩ := ihj (k + 1) f st h Z L o (by omega) (by omega)
              refine ⟨h', ?_, s2, s3, s4⟩
              rw [← s1]
              obtain ⟨S, e1, D, lE, K⟩ := id Z
              obtain ⟨hz, hfu0, o0, o1, r0_0, o2, r0_2, o3, r2_0, r2_1, o4, r2_2, o5, r0_8, o6, o7, o8, r6_0, r6_1, o9, o10, o11, r9_0, r9_1, o32, o33, o34, r32_0, r32_1, o35, o36, o37, r35_0, r35_1, o38, o39, o40, r38_0, r38_1, r0_9, r0_10, o12, r0_12, o13, r0_13, o14, r0_14, o15, r0_15, o16, r0_18, o17, r0_19, o18, r0_20, o19, r0_22, o20, r0_23, o21, r0_24, o22, r0_25, o23, r0_28, o24, r0_29, o25, r0_30, o26, r0_31, o27, r0_35, o28, r0_36, o29, r0_37, o30, r0_38, o31, r0_39, d5_0, d5_1, d5_2⟩ := id S
              obtain ⟨dlo, do0, dr0, da0, dr1, da1, dr2, da2, dr3, da3, dr4, da4, dr5, da5, dr6, da6, dr7, da7, dr8, da8, dn2, dn3, dn4, dn5, dn6, dn8, dn9, dn7, dv17, dv18, dvf, dt0, dt1, dt2, dt3, dt4, dt5, dt6⟩ := id D
              obtain ⟨yc2, yc3, yc4, yc5, yc6, yc7, yc8, yc9, yyk, yyd, yyf, yyh, yyc, yyl, yyp, yyhot, yyby⟩ := id K
              obtain ⟨z1, z2, z3, z4, z5⟩ := dt6 k hk9
              simp only [fX1_fills_l94, g0_3 o0, e1, bdS, b2S, bxL, bxR, onN, onS, g5_15 do0, dn9, nI_ge hk9 (by omega), if_false, g5_6 do0, dr6, aRn da6 (show k < 5 by omega), z2, g12_2 z3, z4, hlie, c1, Bool.false_eq_true, if_true, nI_1]
      obtain ⟨h', s1, s2, s3, s4⟩ := loop (y.1 9) 0 300000 st h Z L o (by omega) (by omega)
      refine ⟨h', ?_, s2, s3, ?_⟩
      · rw [nI_0] at s1
        have h7 : ¬ nI pre.length = (7 : Int32) := fun e => by
          have := (nI_eq (show pre.length < 2 ^ 31 by omega) (show 7 < 2 ^ 31 by omega)).mp e
          omega
        simp only [fX1_fills, ab_ckq Z.1.o, h7, if_false, Z.1.f]
        exact s1
      · rw [asgF, List.range_eq_range']
        exact s4
def setW (y : Dy) (s : St) (b : List Nat) : St := (s.1, fun j => if j = 0 then upd (s.2 0) 8 1 else if j = 7 then fun i => if i < 7 then whV y (b.getD i 0) else s.2 7 i else s.2 j)
def fillR (yo : Option Dy) (s : St) : Int32 × St := match yo with
  | none => (-1, fin s 1)
  | some y => match fiY y with
    | none => (-1, s)
    | some b => (nI (nfF y b), setW y (fin s 0) b)
theorem fiS_some {y : Dy} : ∀ (L : List (List Nat)) (st : Option (List Nat)), (st ≠ none ∨ ∃ a ∈ L, fkF y [] a = true) → L.foldl (fiS y) st ≠ none := by
  intro L
  induction L with
  | nil => intro st h; exact h.resolve_right (by rintro ⟨a, ha, -⟩; exact absurd ha List.not_mem_nil)
  | cons a t ih =>
    intro st h
    rw [List.foldl_cons]
    refine ih _ ?_
    by_cases hv : fkF y [] a = true
    · refine Or.inl ?_
      rw [fiS_ok hv]
      cases st with
      | none => exact fun e => by cases e
      | some b =>
        dsimp only
        split <;> exact fun e => by cases e
    · rw [fiS_no hv]
      rcases h with h | ⟨b, hb, hbv⟩
      · exact Or.inl h
      · rcases List.mem_cons.mp hb with rfl | hb
        · exact absurd hbv hv
        · exact Or.inr ⟨b, hb, hbv⟩
theorem fiY_some (y : Dy) : ∃ b, fiY y = some b := by
  have h : fiY y ≠ none := by
    refine fiS_some _ _ (Or.inr ⟨List.replicate 7 (y.1 9), ?_, ?_⟩)
    · have key : ∀ n, List.replicate n (y.1 9) ∈ asgF (y.1 9 + 1) n := by
        intro n
        induction n with
        | zero => exact List.mem_singleton.mpr rfl
        | succ n ih =>
          rw [asgF, List.replicate_succ, List.mem_flatMap]
          exact ⟨y.1 9, List.mem_range.mpr (by omega), List.mem_map.mpr ⟨_, ih, rfl⟩⟩
      exact key 7
    · have key : ∀ n pre, fkF y pre (List.replicate n (y.1 9)) = true := by
        intro n
        induction n with
        | zero => intro pre; rfl
        | succ n ih => intro pre; rw [List.replicate_succ, fkF, if_pos rfl, ih]; rfl
      exact key 7 []
  cases e : fiY y with
  | none => exact absurd e h
  | some b => exact ⟨b, rfl⟩
theorem x_fill {N E : Nat} : XOp N E (fX1_fill N) (fun yo s => fillR yo s) := by
  intro h yo s R I
  obtain ⟨S, P, V, lE⟩ := id R
  obtain ⟨f1, S1, Q1, t1⟩ := an_all S
  have han : fX1_anew N h = some (an h N) := qx_anew S
  cases yo with
  | none =>
    obtain ⟨a1, a2⟩ := xq_end R 1 (by decide)
    refine ⟨_, ?_, a1, a2⟩
    have P1 : gR (an h N) N 3 = none := (P.kept f1.1 (fun q hq => f1.2 q (by omega)))
    simp only [fX1_fill, ab_ckq S.o, han, bdS, b2S, bxL, bxR, onN, onS, g0_3 S1.o, P1, qx_no S1]
    rfl
  | some y =>
    obtain ⟨d, qa, e1, D, K⟩ := id P
    have Z := x_beg R e1 D
    obtain ⟨b, hb⟩ := fiY_some y
    have f2 : Fw N (Af N) Bf (an h N) (sI (an h N) N 33 (-1)) := Fw.sI S1.o rfl (Or.inl rfl)
    have Z2 := Z.fw f2 (fun q a => by simp only [Af] at a; omega)
    have f3 : Fw N (Af N) Bf (sI (an h N) N 33 (-1)) (sI (sI (an h N) N 33 (-1)) N 34 0) := Fw.sI Z2.1.o rfl (Or.inr rfl)
    have Z3 := Z2.fw f3 (fun q a => by simp only [Af] at a; omega)
    obtain ⟨v1, v2, v3, v4, v5, v6, v7, v8, v9, v10, v11, v12, v13, v14, v15, v16, v17, v18, v19, v20, v21, v22, v23, v24⟩ := V.fin Q1 t1 (by decide)
    have W3 : WC (sI (sI (an h N) N 33 (-1)) N 34 0) N y [] := ⟨fun c hc => by rw [aF_sI, aF_sI, v24 c (by have := K.h9; omega)]; exact nI_0.symm, fun j hj => absurd hj (Nat.not_lt_zero j), fun c _ h2 => by rw [aF_sI, aF_sI]; exact v24 c h2⟩
    obtain ⟨h4, q1, q2, q3, q4⟩ := qx_fi 7 10 [] none _ Z3 W3 rfl (show gI (sI (sI (an h N) N 33 (-1)) N 34 0) N 33 = -1 by rw [gI_sI Z2.1.o, if_neg (by omega), gI_sI S1.o, if_pos ⟨rfl, rfl⟩]) rfl (by omega)
    have e : (asgF (y.1 9 + 1) 7).foldl (fun s l => fiS y s ([] ++ l)) none = fiY y := rfl
    rw [e, hb] at q4
    obtain ⟨b1, b2, b3, b4⟩ := q4
    have q1 : fX1_fills 10 N 0 0 (sI (sI (an h N) N 33 (-1)) N 34 0) = some h4 := by rw [← nI_0]; exact q1
    have Z4 := Z3.fw q2 (fun q a => by simp only [Af] at a; omega)
    have f5 : Fw N (Af N) (Aq 32) h4 (sI h4 N 32 1) := Fw.sI Z4.1.o rfl rfl
    have Z5 := Z4.fw f5 (fun q a => by simp only [Af] at a; omega)
    have hz5 := Z5.1.1
    have hS5 := Z5.1
    obtain ⟨uhz, uhfu0, uo0, uo1, ur0_0, uo2, ur0_2, uo3, ur2_0, ur2_1, uo4, ur2_2, uo5, ur0_8, uo6, uo7, uo8, ur6_0, ur6_1, uo9, uo10, uo11, ur9_0, ur9_1, uo32, uo33, uo34, ur32_0, ur32_1, uo35, uo36, uo37, ur35_0, ur35_1, uo38, uo39, uo40, ur38_0, ur38_1, ur0_9, ur0_10, uo12, ur0_12, uo13, ur0_13, uo14, ur0_14, uo15, ur0_15, uo16, ur0_18, uo17, ur0_19, uo18, ur0_20, uo19, ur0_22, uo20, ur0_23, uo21, ur0_24, uo22, ur0_25, uo23, ur0_28, uo24, ur0_29, uo25, ur0_30, uo26, ur0_31, uo27, ur0_35, uo28, ur0_36, uo29, ur0_37, uo30, ur0_38, uo31, ur0_39, ud5_0, ud5_1, ud5_2⟩ := id hS5
    have hc := ab_cpyq uo24 uo25 (k := 7) (by omega) (by omega) (by omega) (by omega) (by decide)
    have hc : ab_cpy (sI h4 N 32 1) (N + 24) 0 (N + 25) 0 (7 : Int32) = _ := hc
    have f6 : Fw N (Aq (N + 25)) B0 (sI h4 N 32 1) (sF (sI h4 N 32 1) (N + 25) (va_cpy (aF (sI h4 N 32 1) (N + 24)) (aF (sI h4 N 32 1) (N + 25)) 0 0 7)) := Fw.sF rfl
    obtain ⟨H, hH⟩ : ∃ H, H = sF (sI h4 N 32 1) (N + 25) (va_cpy (aF (sI h4 N 32 1) (N + 24)) (aF (sI h4 N 32 1) (N + 25)) 0 0 7) := ⟨_, rfl⟩
    rw [← hH] at hc f6
    have f9 : Fw N (fun q => q = N + 23 ∨ q = N + 24 ∨ q = N + 25 ∨ q = N + 26) (fun k => k = 32 ∨ k = 33 ∨ k = 34) (an h N) H :=
      ((((f2.trans f3).trans q2).wide (fun q a => by simp only [Af] at a; omega) (fun k a => by simp only [Bf] at a; omega)).trans (f5.wide (fun q a => by simp only [Af] at a; omega) (fun k a => Or.inl a))).trans (f6.wide (fun q a => by simp only [Aq] at a; omega) (fun k a => a.elim))
    have S6 := S1.kept f9.1
    have g33 : gI H N 33 = nI (nfF y b) := by rw [hH, gI_sF, gI_sI Z4.1.o, if_neg (by omega)]; exact b2
    simp only [fillR, hb]
    refine ⟨H, ?_, f1.trans (f9.fr (by omega) (fun q a => by omega)), ?_⟩
    · have hZ2 := Z2
      obtain ⟨wS, we1, wD, wlE, wK⟩ := id Z
      obtain ⟨whz, whfu0, wo0, wo1, wr0_0, wo2, wr0_2, wo3, wr2_0, wr2_1, wo4, wr2_2, wo5, wr0_8, wo6, wo7, wo8, wr6_0, wr6_1, wo9, wo10, wo11, wr9_0, wr9_1, wo32, wo33, wo34, wr32_0, wr32_1, wo35, wo36, wo37, wr35_0, wr35_1, wo38, wo39, wo40, wr38_0, wr38_1, wr0_9, wr0_10, wo12, wr0_12, wo13, wr0_13, wo14, wr0_14, wo15, wr0_15, wo16, wr0_18, wo17, wr0_19, wo18, wr0_20, wo19, wr0_22, wo20, wr0_23, wo21, wr0_24, wo22, wr0_25, wo23, wr0_28, wo24, wr0_29, wo25, wr0_30, wo26, wr0_31, wo27, wr0_35, wo28, wr0_36, wo29, wr0_37, wo30, wr0_38, wo31, wr0_39, wd5_0, wd5_1, wd5_2⟩ := id wS
      obtain ⟨wdlo, wdo0, wdr0, wda0, wdr1, wda1, wdr2, wda2, wdr3, wda3, wdr4, wda4, wdr5, wda5, wdr6, wda6, wdr7, wda7, wdr8, wda8, wdn2, wdn3, wdn4, wdn5, wdn6, wdn8, wdn9, wdn7, wdv17, wdv18, wdvf, wdt0, wdt1, wdt2, wdt3, wdt4, wdt5, wdt6⟩ := id wD
      obtain ⟨wyc2, wyc3, wyc4, wyc5, wyc6, wyc7, wyc8, wyc9, wyyk, wyyd, wyyf, wyyh, wyyc, wyyl, wyyp, wyyhot, wyyby⟩ := id wK
      simp only [fX1_fill, ab_ckq S.o, han, bdS, b2S, bxL, bxR, onN, onS, g0_3 S1.o, we1, ab_pIq S1.o S1.1, ab_pIq Z2.1.o Z2.1.1, q1, ab_pIq Z4.1.o Z4.1.1, g0_29 uo0, ur0_29, g0_30 uo0, ur0_30, hc, g0_33 S6.o, g33]
    · have gg : ∀ k, k ≠ 32 → k ≠ 33 → k ≠ 34 → gI H N k = gI (an h N) N k := fun k h1 h2 h3 => f9.2.2 k (by omega)
      have aa : ∀ j, j ≠ 0 → (j < 23 ∨ 27 ≤ j) → aF H (N + j) = aF (an h N) (N + j) := fun j h0 h1 => f9.aF (by omega) (by omega)
      refine ⟨(gg 1 (by omega) (by omega) (by omega)).trans v1, (gg 4 (by omega) (by omega) (by omega)).trans v2, (gg 5 (by omega) (by omega) (by omega)).trans v3, (gg 7 (by omega) (by omega) (by omega)).trans v4, (gg 16 (by omega) (by omega) (by omega)).trans v5, (gg 21 (by omega) (by omega) (by omega)).trans v6, (gg 26 (by omega) (by omega) (by omega)).trans v7, ?_, (gg 40 (by omega) (by omega) (by omega)).trans v9, fun e => absurd e (show ¬ ((0 : Int32) = 4) from by decide), fun _ => rfl, (aa 1 (by omega) (by omega)).trans v12, (aa 28 (by omega) (by omega)).trans v13, (aa 27 (by omega) (by omega)).trans v14, (aa 29 (by omega) (by omega)).trans v15, (aa 30 (by omega) (by omega)).trans v16, (aa 31 (by omega) (by omega)).trans v17, ?_, ?_, ?_, fun _ j hj => ?_, fun c hc => (f9.gI (by omega) (by omega) 2).trans (v22 c hc), fun c hc k hk => by rw [aa (33 + 3 * c) (by omega) (by omega)]; exact v23 c hc k hk, fun c hc => ?_⟩
      · rw [hH, gI_sF, gI_sI Z4.1.o, if_pos ⟨rfl, rfl⟩]; rfl
      · rw [aa 15 (by omega) (by omega)]; exact v18
      · rw [aa 18 (by omega) (by omega)]; exact v19
      · rw [aa 22 (by omega) (by omega)]; exact v20
      · rw [hH, aF_sF uo25, if_pos rfl, aF_sI, va_cpy, if_pos (by omega), Nat.zero_add, Nat.sub_zero, b4 j hj]
        show _ = if j < 7 then _ else _
        rw [if_pos hj]
      · rw [hH, aF_sF uo25, if_neg (by omega), aF_sI]
        by_cases e9 : c < y.1 9
        · rw [q3.1 c e9]; exact nI_0
        · exact q3.2.2 c (by omega) hc
