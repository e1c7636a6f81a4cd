/-! odds: sums over the houses that pour tea -/
abbrev bitI (x : Nat) : Int32 := (1 : Int32) <<< (nI x &&& 31)
def chY (y : Dy) (x : Nat) : Int64 := (y.2 22 x).toInt64
def ncY (y : Dy) (x : Nat) : Int64 := ((100 : Int32) - y.2 22 x).toInt64
noncomputable def osF (y : Dy) (c : Nat) (l0 : List Nat) : List Nat → Int32 → Int64 → Int64
  | [], b, p => if bV y c b l0 = 0 then p else 0
  | x :: t, b, p => osF y c l0 t b (p * ncY y x) + osF y c l0 t (b ||| bitI x) (p * chY y x)
theorem osF_perm {y : Dy} {c : Nat} {l0 l l' : List Nat} (h : l.Perm l') : ∀ b p, osF y c l0 l b p = osF y c l0 l' b p := by
  induction h with
  | nil => intro b p; rfl
  | cons x _ ih => intro b p; rw [osF, osF, ih, ih]
  | swap x z t =>
    intro b p
    simp only [osF]
    have e1 : ∀ a b' c' d : Int64, a + b' + (c' + d) = a + c' + (b' + d) := fun a b' c' d => by
      rw [Int64.add_assoc, Int64.add_assoc, ← Int64.add_assoc b', Int64.add_comm b' c', Int64.add_assoc c']
    have e2 : ∀ a b' c' : Int64, a * b' * c' = a * c' * b' := fun a b' c' => by rw [Int64.mul_assoc, Int64.mul_comm b', ← Int64.mul_assoc]
    rw [e1, e2 p (ncY y z) (ncY y x), e2 p (chY y z) (ncY y x), e2 p (ncY y z) (chY y x), e2 p (chY y z) (chY y x)]
    have e3 : b ||| bitI z ||| bitI x = b ||| bitI x ||| bitI z := by rw [Int32.or_assoc, Int32.or_comm (bitI z), ← Int32.or_assoc]
    rw [e3]
  | trans _ _ ih1 ih2 => intro b p; rw [ih1, ih2]
/-- the model's: by the bits of a number -/
noncomputable def mwF (y : Dy) (c : Nat) (l0 : List Nat) : List Nat → Nat → Int32 → Int64 → Int64
  | [], _, b, p => if bV y c b l0 = 0 then p else 0
  | x :: t, w, b, p => if w % 2 = 1 then mwF y c l0 t (w / 2) (b ||| bitI x) (p * chY y x) else mwF y c l0 t (w / 2) b (p * ncY y x)
/-- sums from k on -/
def smJ (f : Nat → Int64) : Nat → Nat → Int64
  | 0, _ => 0
  | m + 1, k => f k + smJ f m (k + 1)
theorem lp_smJ {f : Nat → Int64} : ∀ m k a, lp (fun j (s : Int64) => s + f j) m k a = a + smJ f m k := by
  intro m
  induction m with
  | zero => intro k a; rw [lp, smJ, Int64.add_zero]
  | succ m ih => intro k a; rw [lp, ih, smJ, Int64.add_assoc]
theorem smJ_add {f g : Nat → Int64} : ∀ m k, smJ (fun j => f j + g j) m k = smJ f m k + smJ g m k := by
  intro m
  induction m with
  | zero => intro k; simp [smJ]
  | succ m ih =>
    intro k
    rw [smJ, ih, smJ, smJ]
    have e1 : ∀ a b' c' d : Int64, a + b' + (c' + d) = a + c' + (b' + d) := fun a b' c' d => by
      rw [Int64.add_assoc, Int64.add_assoc, ← Int64.add_assoc b', Int64.add_comm b' c', Int64.add_assoc c']
    exact e1 _ _ _ _
theorem smJ_two {f : Nat → Int64} : ∀ m k, smJ f (2 * m) (2 * k) = smJ (fun j => f (2 * j) + f (2 * j + 1)) m k := by
  intro m
  induction m with
  | zero => intro k; rfl
  | succ m ih =>
    intro k
    rw [show 2 * (m + 1) = 2 * m + 1 + 1 by omega, smJ, smJ, smJ, show 2 * k + 1 + 1 = 2 * (k + 1) by omega, ih, Int64.add_assoc]
theorem mw_os {y : Dy} {c : Nat} {l0 : List Nat} : ∀ (l : List Nat) (b : Int32) (p : Int64), smJ (fun w => mwF y c l0 l w b p) (2 ^ l.length) 0 = osF y c l0 l b p := by
  intro l
  induction l with
  | nil => intro b p; simp [smJ, mwF, osF]
  | cons x t ih =>
    intro b p
    have h2 := smJ_two (f := fun w => mwF y c l0 (x :: t) w b p) (2 ^ t.length) 0
    rw [List.length_cons, Nat.pow_succ, Nat.mul_comm, osF, ← ih, ← ih, ← smJ_add]
    rw [Nat.mul_zero] at h2
    rw [h2]
    congr 1
    funext w
    have e1 : (2 * w) % 2 = 0 := by omega
    have e2 : (2 * w + 1) % 2 = 1 := by omega
    have e3 : 2 * w / 2 = w := by omega
    have e4 : (2 * w + 1) / 2 = w := by omega
    simp only [mwF, e1, e2, e3, e4, if_true, show ¬ (0 = 1) by omega, if_false]
/-- the component's: by the sets themselves -/
def sbN : List Nat → Nat → List Nat
  | [], n => [n]
  | x :: t, n => sbN t n ++ sbN t (n ||| 2 ^ x)
def slJ (f : Nat → Int64) : List Nat → Int64
  | [] => 0
  | a :: t => f a + slJ f t
theorem slJ_app {f : Nat → Int64} : ∀ l l', slJ f (l ++ l') = slJ f l + slJ f l' := by
  intro l
  induction l with
  | nil => intro l'; simp [slJ]
  | cons a t ih => intro l'; rw [List.cons_append, slJ, ih, slJ, Int64.add_assoc]
theorem slJ_cong {f g : Nat → Int64} : ∀ l, (∀ x ∈ l, f x = g x) → slJ f l = slJ g l := by
  intro l
  induction l with
  | nil => intro _; rfl
  | cons a t ih => intro h; rw [slJ, slJ, h a List.mem_cons_self, ih fun x hx => h x (List.mem_cons_of_mem _ hx)]
theorem sb_lie : ∀ n, n < 64 → ∀ x, x < 6 → ∀ z, z < 6 → lieB (nI (n ||| 2 ^ x)) z = (decide (z = x) || lieB (nI n) z) := by decide +kernel
theorem sbN_mem : ∀ (l : List Nat) (n : Nat), n < 64 → (∀ x ∈ l, x < 6) → ∀ s ∈ sbN l n, s < 64 ∧ ∀ z, z < 6 → z ∉ l → lieB (nI s) z = lieB (nI n) z := by
  intro l
  induction l with
  | nil => intro n hn _ s hs; rw [sbN, List.mem_singleton] at hs; subst hs; exact ⟨hn, fun _ _ _ => rfl⟩
  | cons x t ih =>
    intro n hn hx s hs
    have hx0 := hx x List.mem_cons_self
    have ht : ∀ z ∈ t, z < 6 := fun z h => hx z (List.mem_cons_of_mem _ h)
    rw [sbN, List.mem_append] at hs
    rcases hs with hs | hs
    · obtain ⟨b1, b2⟩ := ih n hn ht s hs
      exact ⟨b1, fun z hz hn' => b2 z hz fun h => hn' (List.mem_cons_of_mem _ h)⟩
    · obtain ⟨b1, b2⟩ := ih (n ||| 2 ^ x) (or_bit n hn x hx0).2 ht s hs
      refine ⟨b1, fun z hz hn' => ?_⟩
      rw [b2 z hz fun h => hn' (List.mem_cons_of_mem _ h), sb_lie n hn x hx0 z hz]
      simp [show z ≠ x from fun e => hn' (e ▸ List.mem_cons_self)]
def gxF (y : Dy) (s x : Nat) : Int64 := if lieB (nI s) x then chY y x else ncY y x
theorem os_sb {y : Dy} {c : Nat} {l0 : List Nat} : ∀ (l : List Nat) (n : Nat) (p : Int64), n < 64 → (∀ x ∈ l, x < 6) → l.Nodup → (∀ x ∈ l, lieB (nI n) x = false) → osF y c l0 l (nI n) p = slJ (fun s => if bV y c (nI s) l0 = 0 then l.foldl (fun a x => a * gxF y s x) p else 0) (sbN l n) := by
  intro l
  induction l with
  | nil => intro n p _ _ _ _; simp [osF, sbN, slJ]
  | cons x t ih =>
    intro n p hn hx hnd hl
    have hx0 := hx x List.mem_cons_self
    have ht : ∀ z ∈ t, z < 6 := fun z h => hx z (List.mem_cons_of_mem _ h)
    obtain ⟨nd1, nd2⟩ := List.nodup_cons.mp hnd
    obtain ⟨o1, o2⟩ := or_bit n hn x hx0
    have hxn := hl x List.mem_cons_self
    have i1 := ih n (p * ncY y x) hn ht nd2 (fun z hz => hl z (List.mem_cons_of_mem _ hz))
    have i2 := ih (n ||| 2 ^ x) (p * chY y x) o2 ht nd2 (fun z hz => by
      rw [sb_lie n hn x hx0 z (ht z hz), hl z (List.mem_cons_of_mem _ hz)]
      simp [show z ≠ x from fun e => nd1 (e ▸ hz)])
    rw [osF, show nI n ||| bitI x = nI (n ||| 2 ^ x) from o1, i1, i2, sbN, slJ_app]
    congr 1
    · refine slJ_cong _ fun s hs => ?_
      have := (sbN_mem t n hn ht s hs).2 x hx0 nd1
      rw [List.foldl_cons, gxF, this, hxn]
      rfl
    · refine slJ_cong _ fun s hs => ?_
      have := (sbN_mem t _ o2 ht s hs).2 x hx0 nd1
      rw [List.foldl_cons, gxF, this, sb_lie n hn x hx0 x hx0]
      simp
theorem sb_els : ∀ A, A < 64 → sbN (els A).reverse 0 = (List.range (A + 1)).filter (fun s => decide ((nI s &&& (nI A ^^^ (-1 : Int32))) = 0)) := by decide +kernel
theorem lset_els : ∀ (l : List Nat) (a : Nat), a < 64 → (∀ x ∈ l, x < 6) → ∃ A, A < 64 ∧ lset l (nI a) = nI A ∧ ∀ x, x < 6 → (x ∈ els A ↔ x ∈ els a ∨ x ∈ l) := by
  have key0 : ∀ a, a < 64 → ∀ x, x < 6 → ∀ z, z < 6 → (els (a ||| 2 ^ x)).contains z = ((els a).contains z || z == x) := by decide +kernel
  have key : ∀ a, a < 64 → ∀ x, x < 6 → ∀ z, z < 6 → (z ∈ els (a ||| 2 ^ x) ↔ (z ∈ els a ∨ z = x)) := fun a ha x hx z hz => by
    have := key0 a ha x hx z hz
    rw [← List.contains_iff_mem, this, Bool.or_eq_true, List.contains_iff_mem, beq_iff_eq]
  intro l
  induction l with
  | nil => intro a ha _; exact ⟨a, ha, rfl, fun x _ => by simp⟩
  | cons x t ih =>
    intro a ha hx
    have hx0 := hx x List.mem_cons_self
    obtain ⟨o1, o2⟩ := or_bit a ha x hx0
    obtain ⟨A, h1, h2, h3⟩ := ih (a ||| 2 ^ x) o2 fun z hz => hx z (List.mem_cons_of_mem _ hz)
    refine ⟨A, h1, by rw [lset, o1, h2], fun z hz => ?_⟩
    rw [h3 z hz, key a ha x hx0 z hz, List.mem_cons, or_assoc]
theorem lset_perm {l : List Nat} (hx : ∀ x ∈ l, x < 6) (hnd : l.Nodup) : ∃ A, A < 64 ∧ lset l 0 = nI A ∧ l.Perm (els A) ∧ ∀ x, x < 6 → (x ∈ els A ↔ x ∈ l) := by
  obtain ⟨A, h1, h2, h3⟩ := lset_els l 0 (by omega) hx
  have h4 : ∀ x, x < 6 → (x ∈ els A ↔ x ∈ l) := fun x hx' => by
    rw [h3 x hx']
    have : ∀ x, x < 6 → x ∉ els 0 := by decide +kernel
    simp [this x hx']
  refine ⟨A, h1, by rw [← nI_0]; exact h2, ?_, h4⟩
  rw [List.perm_iff_count]
  intro x
  rw [hnd.count, (els_nd A).count]
  by_cases h6 : x < 6
  · simp only [h4 x h6]
  · rw [if_neg (fun h => h6 (hx x h)), if_neg (fun h => h6 (els_lt A h1 x h))]
/-- the component's sum is the model's -/
theorem odds_law {y : Dy} {c : Nat} {l : List Nat} (hx : ∀ x ∈ l, x < 6) (hnd : l.Nodup) {A : Nat} (hA : A < 64) (hp : l.Perm (els A)) : slJ (fun s => if bV y c (nI s) l = 0 then (els A).foldl (fun a x => a * gxF y s x) 1 else 0) ((List.range (A + 1)).filter (fun s => decide ((nI s &&& (nI A ^^^ (-1 : Int32))) = 0))) = osF y c l l 0 1 := by
  have hr : (els A).reverse.Perm (els A) := List.reverse_perm _
  rw [osF_perm (hp.trans hr.symm), ← sb_els A hA]
  have h0 : (0 : Int32) = nI 0 := nI_0.symm
  rw [h0, os_sb (els A).reverse 0 1 (by omega) (fun x h => els_lt A hA x (List.mem_reverse.mp h)) ((List.reverse_perm _).nodup_iff.mpr (els_nd A)) (fun x h => by
    have : ∀ x, x < 6 → lieB (nI 0) x = false := by decide +kernel
    exact this x (els_lt A hA x (List.mem_reverse.mp h)))]
  refine slJ_cong _ fun s _ => ?_
  congr 1
  exact (hr.foldl_eq' (fun x _ z _ w => by rw [Int64.mul_assoc, Int64.mul_comm (gxF y s x), ← Int64.mul_assoc]) 1).symm
