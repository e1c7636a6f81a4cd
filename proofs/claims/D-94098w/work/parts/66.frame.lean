/-! frames by places and slots; a whole array set; become -/
/-- nothing but the cells A and the int slots B of N may change -/
def Fw (N : Nat) (A B : Nat → Prop) (h h' : Hp) : Prop := Kp h h' ∧ (∀ q, q ≠ N → ¬ A q → h'.1 q = h.1 q) ∧ ∀ k, ¬ B k → gI h' N k = gI h N k
theorem Fw.rf {N : Nat} {A B : Nat → Prop} {h : Hp} : Fw N A B h h := ⟨Kp.rf, fun _ _ _ => rfl, fun _ _ => rfl⟩
theorem Fw.trans {N : Nat} {A B : Nat → Prop} {h h1 h2 : Hp} (a : Fw N A B h h1) (b : Fw N A B h1 h2) : Fw N A B h h2 :=
  ⟨a.1.trans b.1, fun q h1 h2 => (b.2.1 q h1 h2).trans (a.2.1 q h1 h2), fun k hk => (b.2.2 k hk).trans (a.2.2 k hk)⟩
theorem Fw.wide {N : Nat} {A B A' B' : Nat → Prop} {h h1 : Hp} (a : Fw N A B h h1) (hA : ∀ q, A q → A' q) (hB : ∀ k, B k → B' k) : Fw N A' B' h h1 :=
  ⟨a.1, fun q h1 h2 => a.2.1 q h1 fun z => h2 (hA q z), fun k hk => a.2.2 k fun z => hk (hB k z)⟩
theorem Fw.sI {N c : Nat} {A B : Nat → Prop} {h : Hp} {k : Nat} {v : Int32} (o : isO h N c) (hk : kd c k = 0) (hB : B k) : Fw N A B h (sI h N k v) :=
  ⟨Kp.sI o hk, fun q h1 _ => sV_o h1, fun j hj => by rw [gI_sI o, if_neg]; rintro ⟨-, rfl⟩; exact hj hB⟩
theorem Fw.sIo {N c a : Nat} {A B : Nat → Prop} {h : Hp} {k : Nat} {v : Int32} (o : isO h a c) (hk : kd c k = 0) (hA : A a) (hN : N ≠ a) : Fw N A B h (Jvm.Pilot.CNoonMealsLaw_law_r6072_3336d9.sI h a k v) :=
  ⟨Kp.sI o hk, fun q _ h2 => sV_o (fun z => h2 (z ▸ hA)), fun j _ => by rw [gI_sI o, if_neg (fun z => hN z.1)]⟩
theorem Fw.sA {N a i : Nat} {A B : Nat → Prop} {h : Hp} {v : Int32} (hA : A a) : Fw N A B h (Jvm.Pilot.CNoonMealsLaw_law_r6072_3336d9.sA h a i v) :=
  ⟨Kp.sA, fun q _ h2 => sA_o (fun z => h2 (z ▸ hA)), fun j _ => gI_sA⟩
theorem Fw.ofFr {N lo hi : Nat} {A B : Nat → Prop} {h h1 : Hp} (f : Fr lo hi h h1) (hN : N < lo) (hA : ∀ q, lo ≤ q → q < hi → A q) : Fw N A B h h1 :=
  ⟨f.1, fun q _ h2 => f.2 q (by
    rcases Nat.lt_or_ge q lo with z | z
    · exact Or.inl z
    · rcases Nat.lt_or_ge q hi with w | w
      · exact absurd (hA q z w) h2
      · exact Or.inr w), fun k _ => f.gI (Or.inl hN) k⟩
theorem Fw.fr {N hi : Nat} {A B : Nat → Prop} {h h1 : Hp} (f : Fw N A B h h1) (hN : N < hi) (hA : ∀ q, A q → N ≤ q ∧ q < hi) : Fr N hi h h1 :=
  ⟨f.1, fun q hq => f.2.1 q (by omega) fun z => by have := hA q z; omega⟩
theorem Fw.aF {N q : Nat} {A B : Nat → Prop} {h h1 : Hp} (f : Fw N A B h h1) (h0 : q ≠ N) (hA : ¬ A q) : aF h1 q = aF h q := aF_of (f.2.1 q h0 hA)
theorem Fw.gI {N q : Nat} {A B : Nat → Prop} {h h1 : Hp} (f : Fw N A B h h1) (h0 : q ≠ N) (hA : ¬ A q) (k : Nat) : gI h1 q k = gI h q k := gI_of (f.2.1 q h0 hA) k
theorem Fw.svx {N : Nat} {A B : Nat → Prop} {h h1 : Hp} (f : Fw N A B h h1) (hB : ∀ k, B k → ¬ (k = 1 ∨ k = 5 ∨ k = 7 ∨ k = 16 ∨ k = 21 ∨ k = 26 ∨ k = 32 ∨ k = 40)) (hA : ∀ j, A (N + j) → ¬ (j = 1 ∨ j = 15 ∨ j = 18 ∨ j = 22 ∨ j = 25 ∨ (26 ≤ j ∧ j ≤ 40))) : SVX h h1 N :=
  ⟨fun k hk => f.2.2 k fun z => hB k z hk, fun j hj => f.aF (by omega) fun z => hA j z (by omega), fun c hc => ⟨f.gI (by omega) (fun z => hA _ z (by omega)) 2, f.aF (by omega) fun z => hA _ z (by omega)⟩⟩
theorem Fw.svm {N : Nat} {A B : Nat → Prop} {h h1 : Hp} (f : Fw N A B h h1) (hB : ∀ k, B k → ¬ (k = 6 ∨ k = 13 ∨ k = 19 ∨ k = 27 ∨ k = 33 ∨ k = 34 ∨ k = 37 ∨ k = 42)) (hA : ∀ j, A (N + j) → ¬ ((1 ≤ j ∧ j ≤ 3) ∨ j = 7 ∨ j = 11 ∨ j = 13 ∨ j = 14 ∨ (16 ≤ j ∧ j ≤ 20))) : SVM h h1 N :=
  ⟨fun k hk => f.2.2 k fun z => hB k z hk, fun j hj => f.aF (by omega) fun z => hA j z (by omega)⟩
/-- an int array set as a whole -/
def sF (h : Hp) (a : Nat) (g : Nat → Int32) : Hp := match h.1 a with
  | some (.inr (t, n, .inl _)) => ab_up h a (.inr (t, n, .inl g))
  | _ => h
theorem sF_o {h : Hp} {a q : Nat} {g : Nat → Int32} (hq : q ≠ a) : (sF h a g).1 q = h.1 q := by
  unfold sF; split
  · simp [ab_up, hq]
  · rfl
theorem sF_2 {h : Hp} {a : Nat} {g : Nat → Int32} : (sF h a g).2 = h.2 := by
  unfold sF; split <;> rfl
theorem sF_s {h : Hp} {a t n : Nat} {f g : Nat → Int32} (e : h.1 a = some (.inr (t, n, .inl f))) : (sF h a g).1 a = some (.inr (t, n, .inl g)) := by
  unfold sF; rw [e]; simp [ab_up]
theorem gF_sF {h : Hp} {a q : Nat} {g : Nat → Int32} : gF (sF h a g) q = gF h q := by
  by_cases hq : q = a
  · subst hq
    cases e : h.1 q with
    | none => simp [sF, e]
    | some o =>
      rcases o with o | ⟨t, n, f | z⟩
      · simp [sF, e]
      · simp [gF, sF, e, ab_up]
      · simp [sF, e]
  · simp only [gF, sF_o hq]
theorem gI_sF {h : Hp} {a q j : Nat} {g : Nat → Int32} : gI (sF h a g) q j = gI h q j := by unfold gI; rw [gF_sF]
theorem gR_sF {h : Hp} {a q j : Nat} {g : Nat → Int32} : gR (sF h a g) q j = gR h q j := by unfold gR; rw [gF_sF]
theorem gJ_sF {h : Hp} {a q j : Nat} {g : Nat → Int32} : gJ (sF h a g) q j = gJ h q j := by unfold gJ; rw [gF_sF]
theorem aR_sF {h : Hp} {a q : Nat} {g : Nat → Int32} : aR (sF h a g) q = aR h q := by
  by_cases hq : q = a
  · subst hq
    cases e : h.1 q with
    | none => simp [sF, e]
    | some o =>
      rcases o with o | ⟨t, n, f | z⟩
      · simp [sF, e]
      · simp [aR, sF, e, ab_up]
      · simp [sF, e]
  · simp only [aR, sF_o hq]
theorem aF_sF {h : Hp} {a t n q : Nat} {g : Nat → Int32} (o : isA h a t n) : aF (sF h a g) q = if q = a then g else aF h q := by
  by_cases hq : q = a
  · subst hq
    obtain ⟨f, e⟩ := o
    rw [if_pos rfl]
    simp [aF, sF, e, ab_up]
  · rw [if_neg hq]
    simp only [aF, sF_o hq]
theorem Kp.sF {h : Hp} {a : Nat} {g : Nat → Int32} : Kp h (sF h a g) := by
  refine ⟨sF_2, fun q c' e => ?_, fun q t n e => ?_, fun q n e => ?_, fun q t n e => ?_, fun q j => gR_sF, fun q => aR_sF, fun q e => ?_⟩
  all_goals
    by_cases hq : q = a
    · subst hq
      first
        | (obtain ⟨f, e1, e2⟩ := e; exact ⟨f, by simp only [Jvm.Pilot.CNoonMealsLaw_law_r6072_3336d9.sF, e1], e2⟩)
        | (obtain ⟨f, e1⟩ := e; exact ⟨_, sF_s e1⟩)
        | (obtain ⟨f, e1⟩ := e; exact ⟨f, by simp only [Jvm.Pilot.CNoonMealsLaw_law_r6072_3336d9.sF, e1]⟩)
        | simp only [Jvm.Pilot.CNoonMealsLaw_law_r6072_3336d9.sF, e]
    · first
        | (obtain ⟨f, e1, e2⟩ := e; exact ⟨f, (sF_o hq).trans e1, e2⟩)
        | (obtain ⟨f, e1⟩ := e; exact ⟨f, (sF_o hq).trans e1⟩)
        | exact (sF_o hq).trans e
theorem Fr.sF {lo hi : Nat} {h : Hp} {a : Nat} {g : Nat → Int32} (h1 : lo ≤ a) (h2 : a < hi) : Fr lo hi h (sF h a g) := ⟨Kp.sF, fun q hq => sF_o (by omega)⟩
theorem Fw.sF {N a : Nat} {A B : Nat → Prop} {h : Hp} {g : Nat → Int32} (hA : A a) : Fw N A B h (Jvm.Pilot.CNoonMealsLaw_law_r6072_3336d9.sF h a g) :=
  ⟨Kp.sF, fun q _ h2 => sF_o (fun z => h2 (z ▸ hA)), fun j _ => gI_sF⟩
theorem ab_cpyq {h : Hp} {a b n m k : Nat} (oa : isA h a 0 n) (ob : isA h b 0 m) (ha : hfz h ≤ a) (hb : hfz h ≤ b) (h1 : k ≤ n) (h2 : k ≤ m) (hn : n < 2 ^ 31) : ab_cpy h a 0 b 0 (nI k) = some (sF h b (va_cpy (aF h a) (aF h b) 0 0 k)) := by
  obtain ⟨f, e1⟩ := oa
  obtain ⟨g, e2⟩ := ob
  have h0 : (0 : Int32).toNatClampNeg = 0 := by decide
  simp only [ab_cpy, ab_A, e1, e2, if_true, ab_bd, aF, h0, nI_clamp (show k < 2 ^ 31 by omega), Nat.zero_add]
  rw [if_neg]
  · simp only [ab_w, hb, if_true, sF, e2]
  · rintro ((z | z | z) | z | z | z)
    · exact absurd z (by decide)
    · exact absurd z (by decide)
    · exact absurd z (nI_pos (by omega))
    · omega
    · omega
    · omega
theorem qx_become {N r r2 : Nat} {h : Hp} (R : RO h N r) (R2 : RO h N r2) (hz : hfz h ≤ N) {l : List Nat} (Hl : RL h r2 l) (hne : r + 2 < r2 ∨ r2 + 2 < r) : ∃ h', fX4_become r (some r2) h = some h' ∧ Fr r (r + 3) h h' ∧ RL h' r l := by
  obtain ⟨H1, H2, H3⟩ := Hl
  obtain ⟨R1, Rb, R3, R4, R5, R6, R7⟩ := id R
  obtain ⟨Q1, Qb, Q3, Q4, Q5, Q6, Q7⟩ := id R2
  have f1 : Fr r (r + 3) h (sI h r 2 (nI l.length)) := Fr.sI R3 rfl (by omega) (by omega)
  obtain ⟨A1, Ab, A3, A4, A5, A6, A7⟩ := R.kept f1.1
  obtain ⟨B1, Bb, B3, B4, B5, B6, B7⟩ := R2.kept f1.1
  have hz1 : hfz (sI h r 2 (nI l.length)) = hfz h := by simp only [hfz, hco, f1.1.1]
  have e2 : gI (sI h r 2 (nI l.length)) r2 2 = nI l.length := by rw [gI_sI R3, if_neg (by omega)]; exact H1
  have hc := ab_cpyq B6 A6 (show hfz (sI h r 2 (nI l.length)) ≤ r2 + 1 by omega) (show hfz (sI h r 2 (nI l.length)) ≤ r + 1 by omega) H3 H3 (by decide)
  have f2 : Fr r (r + 3) (sI h r 2 (nI l.length)) (sF (sI h r 2 (nI l.length)) (r + 1) (va_cpy (aF (sI h r 2 (nI l.length)) (r2 + 1)) (aF (sI h r 2 (nI l.length)) (r + 1)) 0 0 l.length)) := Fr.sF (by omega) (by omega)
  have e3 : gI (sI h r 2 (nI l.length)) r 2 = nI l.length := by rw [gI_sI R3, if_pos ⟨rfl, rfl⟩]
  refine ⟨_, ?_, f1.trans f2, ?_, ?_, H3⟩
  · simp only [fX4_become, ab_ckq R3, bdS, b2S, bxL, bxR, onN, onS, g3_2 Q3, H1, ab_pIq R3 (show hfz h ≤ r by omega), g3_0 B3, B4, g3_0 A3, A4, g3_2 A3, e3, hc]
  · rw [gI_sF, e3]
  · intro j hj
    rw [aF_sF A6, if_pos rfl, aF_sI]
    simp only [va_cpy, Nat.zero_le, true_and, Nat.zero_add, hj, if_true, Nat.sub_zero]
    exact H2 j hj
