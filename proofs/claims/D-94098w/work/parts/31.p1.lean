/-! frames -/
theorem gF_sV {h : Hp} {a c k q : Nat} {v : Value} (o : isO h a c) : gF (sV h a k v) q = if q = a then ab_fu (gF h a) k v else gF h q := by
  obtain ⟨F, e, -⟩ := o
  by_cases hq : q = a
  · subst hq
    simp [gF, sV, e, ab_up]
  · rw [if_neg hq]
    simp only [gF, sV_o hq]
theorem isO.ex {h : Hp} {a c : Nat} (o : isO h a c) : ∃ c F, h.1 a = some (.inl (c, F)) := by
  obtain ⟨F, h1, -⟩ := o
  exact ⟨c, F, h1⟩
theorem gI_sI {h : Hp} {a c k q j : Nat} {v : Int32} (o : isO h a c) : gI (sI h a k v) q j = if q = a ∧ j = k then v else gI h q j := by
  unfold gI sI
  rw [gF_sV o]
  by_cases hq : q = a
  · subst hq
    rw [if_pos rfl]
    by_cases hj : j = k
    · simp [ab_fu, hj]
    · simp [ab_fu, hj]
  · simp [hq]
theorem gR_sI {h : Hp} {a c k q j : Nat} {v : Int32} (o : isO h a c) (hk : kd c k = 0) : gR (sI h a k v) q j = gR h q j := by
  unfold gR sI
  rw [gF_sV o]
  by_cases hq : q = a
  · subst hq
    rw [if_pos rfl]
    by_cases hj : j = k
    · obtain ⟨F, h1, h2⟩ := o
      have h3 := h2 k
      rw [hk] at h3
      obtain ⟨x, hx⟩ := h3
      simp [ab_fu, hj, gF, h1, hx]
    · simp [ab_fu, hj]
  · simp [hq]
theorem gJ_sI {h : Hp} {a c k q j : Nat} {v : Int32} (o : isO h a c) (hk : kd c k = 0) : gJ (sI h a k v) q j = gJ h q j := by
  unfold gJ sI
  rw [gF_sV o]
  by_cases hq : q = a
  · subst hq
    rw [if_pos rfl]
    by_cases hj : j = k
    · obtain ⟨F, h1, h2⟩ := o
      have h3 := h2 k
      rw [hk] at h3
      obtain ⟨x, hx⟩ := h3
      simp [ab_fu, hj, gF, h1, hx]
    · simp [ab_fu, hj]
  · simp [hq]
theorem gI_sJ {h : Hp} {a c k q j : Nat} {v : Int64} (o : isO h a c) (hk : kd c k = 1) : gI (sJ h a k v) q j = gI h q j := by
  unfold gI sJ
  rw [gF_sV o]
  by_cases hq : q = a
  · subst hq
    rw [if_pos rfl]
    by_cases hj : j = k
    · obtain ⟨F, h1, h2⟩ := o
      have h3 := h2 k
      rw [hk] at h3
      obtain ⟨x, hx⟩ := h3
      simp [ab_fu, hj, gF, h1, hx]
    · simp [ab_fu, hj]
  · simp [hq]
theorem gR_sJ {h : Hp} {a c k q j : Nat} {v : Int64} (o : isO h a c) (hk : kd c k = 1) : gR (sJ h a k v) q j = gR h q j := by
  unfold gR sJ
  rw [gF_sV o]
  by_cases hq : q = a
  · subst hq
    rw [if_pos rfl]
    by_cases hj : j = k
    · obtain ⟨F, h1, h2⟩ := o
      have h3 := h2 k
      rw [hk] at h3
      obtain ⟨x, hx⟩ := h3
      simp [ab_fu, hj, gF, h1, hx]
    · simp [ab_fu, hj]
  · simp [hq]
theorem gJ_sJ {h : Hp} {a c k q j : Nat} {v : Int64} (o : isO h a c) : gJ (sJ h a k v) q j = if q = a ∧ j = k then v else gJ h q j := by
  unfold gJ sJ
  rw [gF_sV o]
  by_cases hq : q = a
  · subst hq
    rw [if_pos rfl]
    by_cases hj : j = k
    · simp [ab_fu, hj]
    · simp [ab_fu, hj]
  · simp [hq]
theorem gF_sA {h : Hp} {a i q : Nat} {v : Int32} : gF (sA h a i v) q = gF h q := by
  by_cases hq : q = a
  · subst hq
    cases e : h.1 q with
    | none => simp [sA, e]
    | some o =>
      rcases o with o | ⟨t, n, f | z⟩
      · simp [sA, e]
      · simp [gF, sA, e, ab_up]
      · simp [sA, e]
  · simp only [gF, sA_o hq]
theorem gI_sA {h : Hp} {a i q j : Nat} {v : Int32} : gI (sA h a i v) q j = gI h q j := by unfold gI; rw [gF_sA]
theorem gJ_sA {h : Hp} {a i q j : Nat} {v : Int32} : gJ (sA h a i v) q j = gJ h q j := by unfold gJ; rw [gF_sA]
theorem gR_sA {h : Hp} {a i q j : Nat} {v : Int32} : gR (sA h a i v) q j = gR h q j := by unfold gR; rw [gF_sA]
theorem aF_sV {h : Hp} {a k q : Nat} {v : Value} : aF (sV h a k v) q = aF h q := by
  by_cases hq : q = a
  · subst hq
    cases e : h.1 q with
    | none => simp [sV, e]
    | some o =>
      rcases o with o | o
      · simp [aF, sV, e, ab_up]
      · simp [sV, e]
  · simp only [aF, sV_o hq]
theorem aF_sI {h : Hp} {a k q : Nat} {v : Int32} : aF (sI h a k v) q = aF h q := aF_sV
theorem aF_sJ {h : Hp} {a k q : Nat} {v : Int64} : aF (sJ h a k v) q = aF h q := aF_sV
theorem aR_sV {h : Hp} {a k q : Nat} {v : Value} : aR (sV h a k v) q = aR h q := by
  by_cases hq : q = a
  · subst hq
    cases e : h.1 q with
    | none => simp [sV, e]
    | some o =>
      rcases o with o | o
      · simp [aR, sV, e, ab_up]
      · simp [sV, e]
  · simp only [aR, sV_o hq]
theorem aF_sA {h : Hp} {a t n i q : Nat} {v : Int32} (o : isA h a t n) : aF (sA h a i v) q = if q = a then upd (aF h a) i v else aF h q := by
  by_cases hq : q = a
  · subst hq
    obtain ⟨f, e⟩ := o
    rw [if_pos rfl]
    simp [aF, sA, e, ab_up]
  · rw [if_neg hq]
    simp only [aF, sA_o hq]
theorem aR_sA {h : Hp} {a i q : Nat} {v : Int32} : aR (sA h a i v) q = aR h q := by
  by_cases hq : q = a
  · subst hq
    cases e : h.1 q with
    | none => simp [sA, e]
    | some o =>
      rcases o with o | ⟨t, n, f | z⟩
      · simp [sA, e]
      · simp [aR, sA, e, ab_up]
      · simp [sA, e]
  · simp only [aR, sA_o hq]
/-- types, references, sizes kept -/
def Kp (h h' : Hp) : Prop := h'.2 = h.2 ∧ (∀ q c, isO h q c → isO h' q c) ∧ (∀ q t n, isA h q t n → isA h' q t n) ∧ (∀ q n, isJ h q n → isJ h' q n) ∧ (∀ q t n, isR h q t n → isR h' q t n) ∧ (∀ q j, gR h' q j = gR h q j) ∧ (∀ q, aR h' q = aR h q) ∧ ∀ q, h.1 q = none → h'.1 q = none
theorem Kp.rf {h : Hp} : Kp h h := ⟨rfl, fun _ _ e => e, fun _ _ _ e => e, fun _ _ e => e, fun _ _ _ e => e, fun _ _ => rfl, fun _ => rfl, fun _ e => e⟩
theorem Kp.trans {h h1 h2 : Hp} (a : Kp h h1) (b : Kp h1 h2) : Kp h h2 := by
  obtain ⟨a1, a2, a3, a4, a5, a6, a7, a8⟩ := a
  obtain ⟨b1, b2, b3, b4, b5, b6, b7, b8⟩ := b
  exact ⟨b1.trans a1, fun q c e => b2 q c (a2 q c e), fun q t n e => b3 q t n (a3 q t n e), fun q n e => b4 q n (a4 q n e), fun q t n e => b5 q t n (a5 q t n e), fun q j => (b6 q j).trans (a6 q j), fun q => (b7 q).trans (a7 q), fun q e => b8 q (a8 q e)⟩
theorem Kp.sI {h : Hp} {a c k : Nat} {v : Int32} (o : isO h a c) (hk : kd c k = 0) : Kp h (sI h a k v) := by
  obtain ⟨F0, e0, t0⟩ := id o
  have hs := sV_s (k := k) (v := .int v) e0
  refine ⟨sI_2, fun q c' e => ?_, fun q t n e => ?_, fun q n e => ?_, fun q t n e => ?_, fun q j => gR_sI o hk, fun q => aR_sV, fun q e => ?_⟩
  · by_cases hq : q = a
    · subst hq
      obtain ⟨F, h1, h2⟩ := e
      cases e0.symm.trans h1
      refine ⟨_, hs, fun j => ?_⟩
      by_cases hj : j = k
      · subst hj
        rw [hk]
        exact ⟨v, by simp [ab_fu]⟩
      · have h3 := t0 j
        simp only [ab_fu, hj, if_false]
        exact h3
    · obtain ⟨F, h1, h2⟩ := e
      exact ⟨F, (sV_o hq).trans h1, h2⟩
  all_goals
    by_cases hq : q = a
    · subst hq
      first
        | (obtain ⟨f, e1⟩ := e; cases e0.symm.trans e1; done)
        | (cases e0.symm.trans e; done)
    · first
        | (obtain ⟨f, e1⟩ := e; exact ⟨f, (sV_o hq).trans e1⟩)
        | exact (sV_o hq).trans e
theorem Kp.sJ {h : Hp} {a c k : Nat} {v : Int64} (o : isO h a c) (hk : kd c k = 1) : Kp h (sJ h a k v) := by
  obtain ⟨F0, e0, t0⟩ := id o
  have hs := sV_s (k := k) (v := .long v) e0
  refine ⟨sJ_2, fun q c' e => ?_, fun q t n e => ?_, fun q n e => ?_, fun q t n e => ?_, fun q j => gR_sJ o hk, fun q => aR_sV, fun q e => ?_⟩
  · by_cases hq : q = a
    · subst hq
      obtain ⟨F, h1, h2⟩ := e
      cases e0.symm.trans h1
      refine ⟨_, hs, fun j => ?_⟩
      by_cases hj : j = k
      · subst hj
        rw [hk]
        exact ⟨v, by simp [ab_fu]⟩
      · have h3 := t0 j
        simp only [ab_fu, hj, if_false]
        exact h3
    · obtain ⟨F, h1, h2⟩ := e
      exact ⟨F, (sV_o hq).trans h1, h2⟩
  all_goals
    by_cases hq : q = a
    · subst hq
      first
        | (obtain ⟨f, e1⟩ := e; cases e0.symm.trans e1; done)
        | (cases e0.symm.trans e; done)
    · first
        | (obtain ⟨f, e1⟩ := e; exact ⟨f, (sV_o hq).trans e1⟩)
        | exact (sV_o hq).trans e
theorem Kp.sA {h : Hp} {a i : Nat} {v : Int32} : Kp h (sA h a i v) := by
  refine ⟨sA_2, fun q c' e => ?_, fun q t n e => ?_, fun q n e => ?_, fun q t n e => ?_, fun q j => gR_sA, fun q => aR_sA, fun q e => ?_⟩
  all_goals
    by_cases hq : q = a
    · subst hq
      first
        | (obtain ⟨f, e1, e2⟩ := e; exact ⟨f, by simp only [Jvm.Pilot.CNoonMealsLaw_law_r6072_3336d9.sA, e1], e2⟩)
        | (obtain ⟨f, e1⟩ := e; exact ⟨_, sA_s e1⟩)
        | (obtain ⟨f, e1⟩ := e; exact ⟨f, by simp only [Jvm.Pilot.CNoonMealsLaw_law_r6072_3336d9.sA, e1]⟩)
        | simp only [Jvm.Pilot.CNoonMealsLaw_law_r6072_3336d9.sA, e]
    · first
        | (obtain ⟨f, e1, e2⟩ := e; exact ⟨f, (sA_o hq).trans e1, e2⟩)
        | (obtain ⟨f, e1⟩ := e; exact ⟨f, (sA_o hq).trans e1⟩)
        | exact (sA_o hq).trans e
/-- nothing written but in lo .. hi - 1, nothing made -/
def Fr (lo hi : Nat) (h h' : Hp) : Prop := Kp h h' ∧ ∀ q, q < lo ∨ hi ≤ q → h'.1 q = h.1 q
theorem Fr.rf {lo hi : Nat} {h : Hp} : Fr lo hi h h := ⟨Kp.rf, fun _ _ => rfl⟩
theorem Fr.trans {lo hi : Nat} {h h1 h2 : Hp} (a : Fr lo hi h h1) (b : Fr lo hi h1 h2) : Fr lo hi h h2 := ⟨a.1.trans b.1, fun q hq => (b.2 q hq).trans (a.2 q hq)⟩
theorem Fr.wide {lo hi lo' hi' : Nat} {h h1 : Hp} (a : Fr lo hi h h1) (h1' : lo' ≤ lo) (h2' : hi ≤ hi') : Fr lo' hi' h h1 := ⟨a.1, fun q hq => a.2 q (by omega)⟩
theorem Fr.sI {lo hi : Nat} {h : Hp} {a c k : Nat} {v : Int32} (o : isO h a c) (hk : kd c k = 0) (h1 : lo ≤ a) (h2 : a < hi) : Fr lo hi h (sI h a k v) := ⟨Kp.sI o hk, fun q hq => sV_o (by omega)⟩
theorem Fr.sJ {lo hi : Nat} {h : Hp} {a c k : Nat} {v : Int64} (o : isO h a c) (hk : kd c k = 1) (h1 : lo ≤ a) (h2 : a < hi) : Fr lo hi h (sJ h a k v) := ⟨Kp.sJ o hk, fun q hq => sV_o (by omega)⟩
theorem Fr.sA {lo hi : Nat} {h : Hp} {a i : Nat} {v : Int32} (h1 : lo ≤ a) (h2 : a < hi) : Fr lo hi h (sA h a i v) := ⟨Kp.sA, fun q hq => sA_o (by omega)⟩
theorem gI_of {h h' : Hp} {q : Nat} (e : h'.1 q = h.1 q) (k : Nat) : gI h' q k = gI h q k := by unfold gI gF; rw [e]
theorem aF_of {h h' : Hp} {q : Nat} (e : h'.1 q = h.1 q) : aF h' q = aF h q := by unfold aF; rw [e]
theorem aJ_of {h h' : Hp} {q : Nat} (e : h'.1 q = h.1 q) : aJ h' q = aJ h q := by unfold aJ; rw [e]
theorem Fr.gI {lo hi : Nat} {h h' : Hp} {q : Nat} (f : Fr lo hi h h') (hq : q < lo ∨ hi ≤ q) (k : Nat) : gI h' q k = gI h q k := gI_of (f.2 q hq) k
theorem Fr.aF {lo hi : Nat} {h h' : Hp} {q : Nat} (f : Fr lo hi h h') (hq : q < lo ∨ hi ≤ q) : aF h' q = aF h q := aF_of (f.2 q hq)
