/-! ranges of minutes; division; factorials of the model -/
theorem rn {x M : Int32} {n : Nat} (hM : M.toInt = n) (h : 0 ≤ x ∧ x ≤ M) : ∃ j : Nat, j ≤ n ∧ x = nI j := nI_of2 hM (Int32.not_lt.mpr h.1) h.2
theorem nI_div {a b : Nat} (ha : a < 2 ^ 31) (hb : b < 2 ^ 31) : nI a / nI b = nI (a / b) := by
  apply Int32.toInt_inj.mp
  have h2 : a / b ≤ a := Nat.div_le_self a b
  rw [Int32.toInt_div, nI_toInt ha, nI_toInt hb, nI_toInt (by omega), ← Int.ofNat_tdiv]
  rw [Int.bmod_eq_of_le]
  · have : (0 : Int) ≤ ((a / b : Nat) : Int) := Int.natCast_nonneg _
    omega
  · have : ((a / b : Nat) : Int) ≤ (a : Int) := by exact_mod_cast h2
    have : (a : Int) < 2 ^ 31 := by exact_mod_cast ha
    omega
theorem lp_rng {y : Dy} (K : Yk y) (lo hi : Int32) : ∀ (m k s : Nat), k + m ≤ y.1 7 → ∃ s', lp (wayS y lo hi) m k (nI s) = nI s' ∧ s ≤ s' ∧ s' ≤ s + 60 * m := by
  intro m
  induction m with
  | zero => intro k s _; exact ⟨s, rfl, by omega, by omega⟩
  | succ m ih =>
    intro k s hk
    obtain ⟨c2, c3, c4, c5, c6, c7, c8, c9, yk, yd, yf, yh, yc, yl, yp, yhot, yby⟩ := id K
    have hf := (yf k (by omega)).2
    obtain ⟨a, ha, ea⟩ := rn (M := 60) (n := 60) rfl ⟨Int32.le_trans (by decide) hf.1, hf.2⟩
    simp only [lp, wayS, ea]
    have h0 : nI s + 0 = nI s := Int32.add_zero _
    split
    · rw [h0]
      obtain ⟨s', b1, b2, b3⟩ := ih (k + 1) s (by omega)
      exact ⟨s', b1, by omega, by omega⟩
    · split
      · rw [h0]
        obtain ⟨s', b1, b2, b3⟩ := ih (k + 1) s (by omega)
        exact ⟨s', b1, by omega, by omega⟩
      · rw [nI_add]
        obtain ⟨s', b1, b2, b3⟩ := ih (k + 1) (s + a) (by omega)
        exact ⟨s', b1, by omega, by omega⟩
theorem nI_sb {a b : Nat} (h : b ≤ a) : nI a - nI b = nI (a - b) := nI_sub h
theorem way_rng {y : Dy} (K : Yk y) {i j : Nat} (hi : i ≤ 99) (hj : j ≤ 99) : ∃ w, wayV y (nI i) (nI j) = nI w ∧ w ≤ 279 := by
  have c7 : y.1 7 ≤ 3 := by
    obtain ⟨c2, c3, c4, c5, c6, c7, c8, c9, yk, yd, yf, yh, yc, yl, yp, yhot, yby⟩ := id K
    exact c7
  unfold wayV
  rw [qmin, qmax]
  by_cases h : j ≤ i
  · rw [if_pos (nI_le h (by omega)), if_pos (nI_le h (by omega)), nI_sb h]
    obtain ⟨s', b1, b2, b3⟩ := lp_rng K (nI j) (nI i) (y.1 7) 0 (i - j) (by omega)
    exact ⟨s', b1, by omega⟩
  · rw [if_neg (nI_ge (by omega) (by omega)), if_neg (nI_ge (by omega) (by omega)), nI_sb (by omega)]
    obtain ⟨s', b1, b2, b3⟩ := lp_rng K (nI i) (nI j) (y.1 7) 0 (j - i) (by omega)
    exact ⟨s', b1, by omega⟩
theorem wkC_rng {y : Dy} {c : Nat} {tea : Int32} (K : Yk y) : ∀ (l : List Nat) (n q : Nat), q ≤ 99 → (∀ x ∈ l, x < y.1 5) → ∀ v ∈ wkC y c tea l (nI n) (nI q), ∃ n', v = nI n' ∧ n ≤ n' ∧ n' ≤ n + 374 * l.length := by
  intro l
  induction l with
  | nil => intro n q _ _ v hv; exact absurd hv List.not_mem_nil
  | cons x t ih =>
    intro n q hq hx v hv
    have hx0 := hx x List.mem_cons_self
    obtain ⟨c2, c3, c4, c5, c6, c7, c8, c9, yk, yd, yf, yh, yc, yl, yp, yhot, yby⟩ := id K
    obtain ⟨t1, t2, t3, t4, t5⟩ := yh x hx0
    obtain ⟨a, ha, ea⟩ := rn (M := 99) (n := 99) rfl t1
    obtain ⟨b, hb, eb⟩ := rn (M := 30) (n := 30) rfl t3
    obtain ⟨e, he, ee⟩ := rn (M := 60) (n := 60) rfl t4
    obtain ⟨w, ew, hw⟩ := way_rng K hq ha
    have e1 : m1V y (nI n) (nI q) x = nI (n + w) := by rw [m1V, ea, ew, nI_add]
    have e2 : ∃ r, m2V y c tea (nI (n + w)) x = nI r ∧ n ≤ r ∧ r ≤ n + 374 := by
      unfold m2V frtV
      rw [eb, ee]
      have e5 : (5 : Int32) = nI 5 := rfl
      have e0 : (0 : Int32) = nI 0 := rfl
      rw [e5, e0]
      split <;> (try split) <;> (try split) <;> simp only [nI_add] <;> exact ⟨_, rfl, by omega, by omega⟩
    obtain ⟨r, er, hr1, hr2⟩ := e2
    have hL : (x :: t).length = t.length + 1 := rfl
    rw [wkC, e1] at hv
    rcases List.mem_cons.mp hv with rfl | hv
    · exact ⟨n + w, rfl, by omega, by rw [hL]; omega⟩
    · rw [er, ea] at hv
      obtain ⟨n', g1, g2, g3⟩ := ih r a ha (fun z hz => hx z (List.mem_cons_of_mem _ hz)) v hv
      exact ⟨n', g1, by omega, by rw [hL]; omega⟩
theorem getD_mem {α : Type} {l : List α} {j : Nat} {d : α} (hj : j < l.length) : l.getD j d ∈ l := by
  rw [List.getD_eq_getElem?_getD, List.getElem?_eq_getElem hj]
  exact List.getElem_mem hj
theorem lastV_rng {y : Dy} {c : Nat} (K : Yk y) (hc : c < y.1 6) {l : List Nat} (hl : l.length ≤ 6) (hx : ∀ x ∈ l, x < y.1 5) : ∃ n, lastV y c l = nI n ∧ n ≤ 3100 := by
  obtain ⟨c2, c3, c4, c5, c6, c7, c8, c9, yk, yd, yf, yh, yc, yl, yp, yhot, yby⟩ := id K
  obtain ⟨t1, t2, t3⟩ := yc c hc
  obtain ⟨a, ha, ea⟩ := rn (M := 800) (n := 800) rfl ⟨Int32.le_trans (by decide) t2.1, t2.2⟩
  have hk := (yk (frV y c) t1.2).1
  obtain ⟨b, hb, eb⟩ := rn (M := 99) (n := 99) rfl hk
  unfold lastV
  split
  · exact ⟨a, ea, by omega⟩
  · rename_i h0
    have hm : (cV y c 0 l).getD (l.length - 1) 0 ∈ cV y c 0 l := getD_mem (by rw [cV, wkC_len]; omega)
    unfold cV at hm ⊢
    rw [ea, eb] at hm ⊢
    obtain ⟨n', g1, g2, g3⟩ := wkC_rng K l a b hb hx _ hm
    exact ⟨n', g1, by omega⟩
theorem wV_rng {y : Dy} {c : Nat} (K : Yk y) (hc : c < y.1 6) {l : List Nat} (hl : l.length ≤ 6) (hx : ∀ x ∈ l, x < y.1 5) : ∃ n, lastV y c l = nI n ∧ n ≤ 3100 ∧ wV y c l = nI (10000 * pc (bN y c 0 l) + n) ∧ pc (bN y c 0 l) ≤ 6 := by
  obtain ⟨n, e, hn⟩ := lastV_rng K hc hl hx
  have h5 := K.h5
  have hb := (bN_ok (y := y) (c := c) (tea := 0) (l := l) (fun z hz => by have := hx z hz; omega)).1
  have hp := pc_le _ hb
  refine ⟨n, e, hn, ?_, hp⟩
  rw [wV, e, show (10000 : Int32) = nI 10000 from rfl, nI_mul, nI_add]
theorem qm_facL {h : Hp} {n : Nat} (hn : n ≤ 6) : ∀ (m k f : Nat), k + m = n + 1 → 1 ≤ k → m < f → fX5_orders_l4 f (nI n) (nI (fac (k - 1))) (nI k) h = some (nI (fac n), h) := by
  intro m
  induction m with
  | zero =>
    intro k f hk h1 hf
    cases f with
    | zero => omega
    | succ f =>
      have : k = n + 1 := by omega
      subst this
      simp only [fX5_orders_l4, (nI_ltI (show n < 2 ^ 31 by omega) (show n + 1 < 2 ^ 31 by omega)).mpr (by omega), if_true, Nat.add_sub_cancel]
  | succ m ih =>
    intro k f hk h1 hf
    cases f with
    | zero => omega
    | succ f =>
      obtain ⟨j, rfl⟩ : ∃ j, k = j + 1 := ⟨k - 1, by omega⟩
      have := ih (j + 2) f (by omega) (by omega) (by omega)
      rw [← this]
      have hnl : ¬ nI n < nI (j + 1) := nI_nlt (by omega) (by omega)
      simp only [fX5_orders_l4, hnl, if_false, nI_1, nI_mul, Nat.add_sub_cancel, fac, show j + 2 - 1 = j + 1 from rfl]
      rw [Nat.mul_comm (fac j)]
theorem qm_fac {h : Hp} (hf : hfu h = 300000) {n : Nat} (hn : n ≤ 6) : fX5_orders (nI n) h = some (nI (fac n), h) := by
  unfold fX5_orders
  rw [hf]
  by_cases h1 : 1 ≤ n
  · exact qm_facL hn (n - 1) 2 300000 (by omega) (by omega) (by omega)
  · have : n = 0 := by omega
    subst this
    obtain ⟨f, hf⟩ : ∃ f, 300000 = f + 1 := ⟨299999, rfl⟩
    rw [hf]
    simp only [fX5_orders_l4, show nI 0 < (2 : Int32) from by decide +kernel, if_true]
    rfl
theorem fac_le : ∀ n, n ≤ 6 → fac n ≤ 720 ∧ 0 < fac n := by decide +kernel
