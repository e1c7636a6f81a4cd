/-! orders of a list, by its places -/
def pmF : Nat → List Nat → List (List Nat)
  | 0, _ => [[]]
  | n + 1, l => l.flatMap fun x => (pmF n (l.erase x)).map (x :: ·)
def fac : Nat → Nat
  | 0 => 1
  | n + 1 => (n + 1) * fac n
theorem pmF_len : ∀ (n : Nat) (l : List Nat), l.length = n → (pmF n l).length = fac n := by
  intro n
  induction n with
  | zero => intro l _; rfl
  | succ n ih =>
    intro l hl
    rw [pmF, List.length_flatMap]
    have h1 : l.map (fun x => ((pmF n (l.erase x)).map (x :: ·)).length) = l.map (fun _ => fac n) := by
      refine List.map_congr_left fun x hx => ?_
      rw [List.length_map, ih _ (by rw [List.length_erase_of_mem hx, hl]; rfl)]
    rw [h1, List.map_const', List.sum_replicate_nat, hl, fac]
theorem flat_get {α β : Type} {f : α → List β} {c : Nat} : ∀ (l : List α), (∀ x ∈ l, (f x).length = c) → ∀ (q r : Nat) (hq : q < l.length), r < c → (l.flatMap f)[q * c + r]? = (f l[q])[r]? := by
  intro l
  induction l with
  | nil => intro _ q r hq; simp at hq
  | cons x t ih =>
    intro hl q r hq hr
    have hx := hl x List.mem_cons_self
    rw [List.flatMap_cons]
    cases q with
    | zero =>
      rw [Nat.zero_mul, Nat.zero_add, List.getElem?_append_left (by omega)]
      rfl
    | succ q =>
      rw [List.getElem?_append_right (by rw [hx, Nat.succ_mul]; omega), hx, show (q + 1) * c + r - c = q * c + r by rw [Nat.succ_mul]; omega]
      exact ih (fun z hz => hl z (List.mem_cons_of_mem _ hz)) q r (by simpa using hq) hr
