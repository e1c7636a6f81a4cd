/-! menus: rows of least coin -/
/-- the cheapest of a row but one -/
def chS (r : Nat → Int32) (but : Int32) (d : Nat) (st : Option Nat) : Option Nat := if nI d = but then st else if r d = -1 then st else match st with
  | none => some d
  | some b => if r b ≤ r d then st else some d
def chI (r : Nat → Int32) (D : Nat) (but : Int32) : Option Nat := lp (chS r but) D 0 none
/-- its value -/
def vlO (r : Nat → Int32) (o : Option Nat) : Int32 := match o with
  | none => -1
  | some b => r b
/-- rows from the last day back: with m days behind -/
def rowR (y : Dy) (t : Nat) : Nat → Nat → Int32
  | 0, d => if brdV y t d = 0 then y.2 14 d else -1
  | m + 1, d => if brdV y t d = 0 then (match chI (rowR y t m) (y.1 3) (nI d) with
    | none => -1
    | some b => y.2 14 d + rowR y t m b) else -1
/-- a menu's least coin -/
def coV (y : Dy) (t n : Nat) : Int32 := vlO (rowR y t (n - 1)) (chI (rowR y t (n - 1)) (y.1 3) (-1))
def CI (r : Nat → Int32) (but : Int32) (k : Nat) (st : Option Nat) : Prop := match st with
  | none => ∀ d, d < k → ¬ nI d = but → r d = -1
  | some b => b < k ∧ ¬ nI b = but ∧ ¬ r b = -1 ∧ (∀ d, d < b → ¬ nI d = but → ¬ r d = r b) ∧ ∀ d, d < k → ¬ nI d = but → ¬ r d = -1 → r b ≤ r d
theorem CI_s {r : Nat → Int32} {but : Int32} {k : Nat} {st : Option Nat} (h : CI r but k st) : CI r but (k + 1) (chS r but k st) := by
  unfold chS
  split
  · rename_i n1
    cases st with
    | none =>
      intro d hd n2
      by_cases e : d = k
      · subst e; exact absurd n1 n2
      · exact h d (by omega) n2
    | some b =>
      obtain ⟨g1, g2, g3, g4, g5⟩ := h
      refine ⟨by omega, g2, g3, g4, fun d hd n2 => ?_⟩
      by_cases e : d = k
      · subst e; exact absurd n1 n2
      · exact g5 d (by omega) n2
  · rename_i n1
    split
    · rename_i n0
      cases st with
      | none =>
        intro d hd n2
        by_cases e : d = k
        · subst e; exact n0
        · exact h d (by omega) n2
      | some b =>
        obtain ⟨g1, g2, g3, g4, g5⟩ := h
        refine ⟨by omega, g2, g3, g4, fun d hd n2 n3 => ?_⟩
        by_cases e : d = k
        · subst e; exact absurd n0 n3
        · exact g5 d (by omega) n2 n3
    · rename_i n0
      cases st with
      | none =>
        refine ⟨by omega, n1, n0, fun d hd n2 e => n0 (e ▸ h d hd n2), fun d hd n2 n3 => ?_⟩
        by_cases e : d = k
        · subst e; exact Int32.le_refl _
        · exact absurd (h d (by omega) n2) n3
      | some b =>
        obtain ⟨g1, g2, g3, g4, g5⟩ := h
        dsimp only
        split
        · rename_i n4
          refine ⟨by omega, g2, g3, g4, fun d hd n2 n3 => ?_⟩
          by_cases e : d = k
          · subst e; exact n4
          · exact g5 d (by omega) n2 n3
        · rename_i n4
          refine ⟨by omega, n1, n0, fun d hd n2 e => ?_, fun d hd n2 n3 => ?_⟩
          · have := g5 d hd n2 (by rw [e]; exact n0)
            rw [e] at this
            exact n4 this
          · by_cases e : d = k
            · subst e; exact Int32.le_refl _
            · exact Int32.le_trans (Int32.le_of_lt (Int32.not_le.mp n4)) (g5 d (by omega) n2 n3)
theorem CI_l {r : Nat → Int32} {but : Int32} : ∀ (m k : Nat) (st : Option Nat), CI r but k st → CI r but (k + m) (lp (chS r but) m k st) := by
  intro m
  induction m with
  | zero => intro k st h; exact h
  | succ m ih =>
    intro k st h
    have := ih (k + 1) _ (CI_s h)
    rw [show k + (m + 1) = k + 1 + m by omega]
    exact this
theorem chI_ok {r : Nat → Int32} {D : Nat} {but : Int32} : CI r but D (chI r D but) := by
  have := CI_l (r := r) (but := but) D 0 none (fun d hd => absurd hd (Nat.not_lt_zero d))
  rw [Nat.zero_add] at this
  exact this
theorem chI_some {r : Nat → Int32} {D b : Nat} {but : Int32} (h : chI r D but = some b) : b < D ∧ ¬ nI b = but ∧ ¬ r b = -1 ∧ ∀ d, d < b → ¬ nI d = but → ¬ r d = r b := by
  have := chI_ok (r := r) (D := D) (but := but)
  rw [h] at this
  obtain ⟨g1, g2, g3, g4, g5⟩ := this
  exact ⟨g1, g2, g3, g4⟩
theorem vlO_ne {r : Nat → Int32} {D : Nat} {but : Int32} : (vlO r (chI r D but) = -1) ↔ chI r D but = none := by
  cases h : chI r D but with
  | none => exact ⟨fun _ => rfl, fun _ => rfl⟩
  | some b => exact ⟨fun e => absurd e (chI_some h).2.2.1, fun e => by cases e⟩
/-- the fold depends on the row's places only -/
theorem chS_c {r : Nat → Int32} {but : Int32} {k : Nat} {st : Option Nat} : chS r but k st = st ∨ chS r but k st = some k := by
  unfold chS
  by_cases h1 : nI k = but
  · rw [if_pos h1]; exact Or.inl rfl
  · rw [if_neg h1]
    by_cases h2 : r k = -1
    · rw [if_pos h2]; exact Or.inl rfl
    · rw [if_neg h2]
      cases st with
      | none => exact Or.inr rfl
      | some b =>
        dsimp only
        by_cases h3 : r b ≤ r k
        · rw [if_pos h3]; exact Or.inl rfl
        · rw [if_neg h3]; exact Or.inr rfl
theorem chS_e {r r' : Nat → Int32} {but : Int32} {k : Nat} {st : Option Nat} (hk : r k = r' k) (hb : ∀ b, st = some b → r b = r' b) : chS r but k st = chS r' but k st := by
  cases st with
  | none => simp only [chS, hk]
  | some b => simp only [chS, hk, hb b rfl]
theorem chS_cong {r r' : Nat → Int32} {but : Int32} {D : Nat} (h : ∀ d, d < D → r d = r' d) : ∀ (m k : Nat) (st : Option Nat), k + m ≤ D → (∀ b, st = some b → b < D) → lp (chS r but) m k st = lp (chS r' but) m k st := by
  intro m
  induction m with
  | zero => intro k st _ _; rw [lp, lp]
  | succ m ih =>
    intro k st hk hb
    rw [lp, lp, chS_e (h k (by omega)) (fun b e => h b (hb b e))]
    refine ih (k + 1) _ (by omega) fun b hb' => ?_
    rcases chS_c (r := r') (but := but) (k := k) (st := st) with e | e
    · rw [e] at hb'; exact hb b hb'
    · rw [e] at hb'
      have := Option.some.inj hb'
      omega
theorem chI_cong {r r' : Nat → Int32} {but : Int32} {D : Nat} (h : ∀ d, d < D → r d = r' d) : chI r D but = chI r' D but := chS_cong h D 0 none (by omega) (fun b e => by cases e)
/-- the menu itself: the first cheapest of each day but the day before's -/
def mnL (y : Dy) (t n : Nat) : Nat → Int32
  | 0 => oI (chI (rowR y t (n - 1)) (y.1 3) (-1))
  | k + 1 => oI (chI (rowR y t (n - 1 - (k + 1))) (y.1 3) (mnL y t n k))
theorem mnL_some {y : Dy} {t n : Nat} (h : ¬ coV y t n = -1) : ∀ k, k < n → ∃ b, mnL y t n k = nI b ∧ b < y.1 3 ∧ chI (rowR y t (n - 1 - k)) (y.1 3) (if k = 0 then -1 else mnL y t n (k - 1)) = some b := by
  intro k
  induction k with
  | zero =>
    intro _
    cases e : chI (rowR y t (n - 1)) (y.1 3) (-1) with
    | none => exact absurd (by rw [coV, e]; rfl) h
    | some b => exact ⟨b, by rw [mnL, e]; rfl, (chI_some e).1, by rw [if_pos rfl, Nat.sub_zero]; exact e⟩
  | succ k ih =>
    intro hk
    obtain ⟨b, b1, b2, b3⟩ := ih (by omega)
    have h3 := (chI_some b3).2.2.1
    obtain ⟨m, hm⟩ : ∃ m, n - 1 - k = m + 1 := ⟨n - 1 - (k + 1), by omega⟩
    have hm' : n - 1 - (k + 1) = m := by omega
    rw [hm] at h3
    rw [hm']
    cases e : chI (rowR y t m) (y.1 3) (nI b) with
    | none =>
      exfalso
      apply h3
      rw [rowR, e]
      split <;> rfl
    | some b' =>
      refine ⟨b', by rw [mnL, b1, hm', e]; rfl, (chI_some e).1, ?_⟩
      rw [if_neg (by omega), Nat.add_sub_cancel, b1]
      exact e
