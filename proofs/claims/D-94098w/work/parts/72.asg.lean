/-! lists over 0 .. C - 1 in order; loads; numbers of them -/
def asgF (C : Nat) : Nat → List (List Nat)
  | 0 => [[]]
  | n + 1 => (List.range C).flatMap fun c => (asgF C n).map (c :: ·)
def ldF (c : Nat) : List Nat → Nat → Nat
  | [], _ => 0
  | x :: t, k => (if x = c then 2 ^ k else 0) + ldF c t (k + 1)
def vlF (C : Nat) : List Nat → Nat
  | [] => 0
  | x :: t => x * C ^ t.length + vlF C t
theorem asgF_len (C : Nat) : ∀ n, (asgF C n).length = C ^ n := by
  intro n
  induction n with
  | zero => rfl
  | succ n ih =>
    rw [asgF, List.length_flatMap]
    simp only [List.length_map, ih, List.map_const', List.length_range, List.sum_replicate_nat]
    rw [Nat.pow_succ, Nat.mul_comm]
theorem asgF_mem (C : Nat) : ∀ n, ∀ a ∈ asgF C n, a.length = n ∧ ∀ x ∈ a, x < C := by
  intro n
  induction n with
  | zero => intro a ha; rw [asgF, List.mem_singleton] at ha; subst ha; exact ⟨rfl, fun x h => absurd h List.not_mem_nil⟩
  | succ n ih =>
    intro a ha
    rw [asgF, List.mem_flatMap] at ha
    obtain ⟨x, hx, ha⟩ := ha
    obtain ⟨t, ht, rfl⟩ := List.mem_map.mp ha
    obtain ⟨b1, b2⟩ := ih t ht
    refine ⟨by rw [List.length_cons, b1], fun z hz => ?_⟩
    rcases List.mem_cons.mp hz with rfl | hz
    · exact List.mem_range.mp hx
    · exact b2 z hz
theorem asgF_get (C n q r : Nat) (hq : q < C) (hr : r < C ^ n) : (asgF C (n + 1)).getD (q * C ^ n + r) [] = q :: (asgF C n).getD r [] := by
  have h := flat_get (f := fun c => (asgF C n).map (c :: ·)) (c := C ^ n) (List.range C) (fun x _ => by rw [List.length_map, asgF_len]) q r (by rw [List.length_range]; exact hq) hr
  rw [List.getElem_range] at h
  rw [List.getD_eq_getElem?_getD, asgF, h, List.getElem?_map, List.getD_eq_getElem?_getD, List.getElem?_eq_getElem (show r < (asgF C n).length by rw [asgF_len]; exact hr)]
  rfl
theorem asgF_vl (C : Nat) : ∀ n k, k < C ^ n → vlF C ((asgF C n).getD k []) = k := by
  intro n
  induction n with
  | zero =>
    intro k hk
    have hk : k < 1 := hk
    have : k = 0 := by omega
    subst this
    rfl
  | succ n ih =>
    intro k hk
    have h0 : 0 < C ^ n := by
      rcases Nat.eq_zero_or_pos (C ^ n) with z | z
      · rw [Nat.pow_succ, z, Nat.zero_mul] at hk; omega
      · exact z
    have hq : k / C ^ n < C := Nat.div_lt_of_lt_mul (by rw [← Nat.pow_succ]; exact hk)
    have hr : k % C ^ n < C ^ n := Nat.mod_lt _ h0
    have hkq : k / C ^ n * C ^ n + k % C ^ n = k := by rw [Nat.mul_comm]; exact Nat.div_add_mod k (C ^ n)
    have := asgF_get C n _ _ hq hr
    rw [hkq] at this
    rw [this, vlF, ih _ hr, (asgF_mem C n _ (getD_mem (by rw [asgF_len]; exact hr))).1, hkq]
theorem vlF_app (C x : Nat) : ∀ l, vlF C (l ++ [x]) = vlF C l * C + x := by
  intro l
  induction l with
  | nil => simp [vlF]
  | cons a t ih => rw [List.cons_append, vlF, ih, vlF, List.length_append, Nat.add_mul, Nat.mul_assoc]; simp [Nat.pow_succ]; omega
theorem vlF_lt (C : Nat) : ∀ l, (∀ x ∈ l, x < C) → vlF C l < C ^ l.length := by
  intro l
  induction l with
  | nil => intro _; simp [vlF]
  | cons a t ih =>
    intro h
    have h1 := ih fun x hx => h x (List.mem_cons_of_mem _ hx)
    have h2 := h a List.mem_cons_self
    rw [vlF, List.length_cons, Nat.pow_succ]
    have : (a + 1) * C ^ t.length ≤ C * C ^ t.length := Nat.mul_le_mul_right _ h2
    rw [Nat.add_mul, Nat.one_mul] at this
    rw [Nat.mul_comm (C ^ t.length)]
    omega
theorem ldF_app (c x : Nat) : ∀ l k, ldF c (l ++ [x]) k = ldF c l k + if x = c then 2 ^ (k + l.length) else 0 := by
  intro l
  induction l with
  | nil => intro k; simp [ldF]
  | cons a t ih => intro k; rw [List.cons_append, ldF, ih, ldF, List.length_cons, show k + (t.length + 1) = k + 1 + t.length by omega]; exact (Nat.add_assoc _ _ _).symm
theorem ldF_lt (c : Nat) : ∀ l k, ldF c l k + 2 ^ k ≤ 2 ^ (k + l.length) := by
  intro l
  induction l with
  | nil => intro k; simp [ldF]
  | cons a t ih =>
    intro k
    have := ih (k + 1)
    rw [ldF, List.length_cons, show k + (t.length + 1) = k + 1 + t.length by omega]
    rw [Nat.pow_succ] at this
    split <;> omega
theorem ldF_64 (c : Nat) {l : List Nat} (hl : l.length ≤ 6) : ldF c l 0 < 2 ^ l.length ∧ ldF c l 0 < 64 := by
  have h1 := ldF_lt c l 0
  have h2 := two6 l.length hl
  rw [Nat.zero_add, Nat.pow_zero] at h1
  exact ⟨by omega, by omega⟩
/-- a bit on top -/
theorem top_bit : ∀ x, x < 6 → ∀ a, a < 64 → a < 2 ^ x → (nI a ||| ((1 : Int32) <<< (nI x &&& 31))) = nI (a + 2 ^ x) ∧ (nI (a + 2 ^ x) &&& (((1 : Int32) <<< (nI x &&& 31)) ^^^ (-1 : Int32))) = nI a ∧ pc (a + 2 ^ x) = pc a + 1 ∧ a + 2 ^ x < 64 := by decide +kernel
theorem pc_ldF (c : Nat) : ∀ n (l : List Nat), l.length = n → n ≤ 6 → pc (ldF c l 0) = l.count c := by
  intro n
  induction n with
  | zero => intro l hl _; rw [List.length_eq_zero_iff.mp hl]; simp [ldF, pc]
  | succ n ih =>
    intro l hl hn
    obtain ⟨t, x, rfl⟩ : ∃ t x, l = t ++ [x] := by
      refine ⟨l.dropLast, l.getLast (fun e => by rw [e] at hl; simp at hl), (List.dropLast_concat_getLast _).symm⟩
    rw [List.length_append] at hl
    have hl : t.length + 1 = n + 1 := hl
    have := ih t (by omega) (by omega)
    rw [ldF_app, List.count_append, ← this, Nat.zero_add]
    obtain ⟨b1, b2⟩ := ldF_64 c (l := t) (by omega)
    by_cases e : x = c
    · subst e
      rw [if_pos rfl, (top_bit t.length (by omega) _ b2 b1).2.2.1]
      simp
    · rw [if_neg e]
      simp [List.count_cons, e]
/-- sums -/
def smF (f : Nat → Nat) : Nat → Nat → Nat
  | 0, _ => 0
  | m + 1, k => f k + smF f m (k + 1)
theorem smF_le {f : Nat → Nat} {b : Nat} : ∀ m k, (∀ j, k ≤ j → j < k + m → f j ≤ b) → smF f m k ≤ b * m := by
  intro m
  induction m with
  | zero => intro k _; exact Nat.zero_le _
  | succ m ih =>
    intro k h
    have h1 := ih (k + 1) (fun j a b => h j (by omega) (by omega))
    have h2 := h k (by omega) (by omega)
    rw [smF, Nat.mul_succ]
    omega
theorem smF_add {f g : Nat → Nat} (a : Nat) : ∀ m k, smF (fun j => a * f j + g j) m k = a * smF f m k + smF g m k := by
  intro m
  induction m with
  | zero => intro k; rfl
  | succ m ih => intro k; rw [smF, ih, smF, smF, Nat.mul_add]; omega
