set_option maxRecDepth 100000
/-! THE START: the abstract heap out of the machine, the law's end -/
abbrev xSt : Type := String × Nat × List Int32 × Int32 × Int32 × Option (String × Nat)
def xSe : List xSt := [
  ("java/lang/String", 7, [], 0, 1, none),
  ("NoonMeals$Reader", 59, [], 0, 1, some ("java/lang/String", 7)),
  ("NoonMeals$Reader", 93, [108, 97, 119], 106914, 0, none),
  ("NoonMeals$Reader", 95, [107, 105, 116, 99, 104, 101, 110], -705112156, 0, none),
  ("NoonMeals$Reader", 97, [102, 108, 111, 111, 100], 97526782, 0, none),
  ("NoonMeals$Reader", 99, [100, 105, 115, 104], 3083674, 0, none),
  ("NoonMeals$Reader", 101, [100, 105, 101, 116], 3083252, 0, none),
  ("NoonMeals$Reader", 103, [104, 111, 117, 115, 101], 99469088, 0, none),
  ("NoonMeals$Reader", 105, [99, 97, 114], 98260, 0, none),
  ("NoonMeals$Reader", 107, [99, 97, 108, 108], 3045982, 0, none),
  ("NoonMeals$Reader", 109, [104, 101, 108, 112, 101, 114], -1220931666, 0, none),
  ("NoonMeals$Reader", 160, [104, 111, 116], 103501, 0, none),
  ("NoonMeals$Reader", 165, [98, 121], 3159, 0, none),
  ("NoonMeals$Reader", 111, [100, 111, 103], 99644, 0, none),
  ("NoonMeals$Reader", 113, [97, 102, 114, 97, 105, 100], -1420247761, 0, none),
  ("NoonMeals$Reader", 207, [97, 116], 3123, 0, none),
  ("NoonMeals$Reader", 181, [97, 100, 100, 115], 2989042, 0, none),
  ("NoonMeals$Reader", 220, [111, 102], 3543, 0, none),
  ("NoonMeals$Reader", 227, [99, 111, 115, 116, 115], 94849606, 0, none),
  ("NoonMeals$Reader", 241, [98, 97, 114, 115], 3016384, 0, none),
  ("NoonMeals$Reader", 253, [101, 97, 116, 115], 3105819, 0, none),
  ("NoonMeals$Reader", 258, [100, 111, 111, 114, 115], 95769221, 0, none),
  ("NoonMeals$Reader", 262, [116, 101, 97], 114704, 0, none),
  ("NoonMeals$Reader", 266, [99, 104, 97, 110, 99, 101], -1361636556, 0, none),
  ("NoonMeals$Reader", 270, [110, 101, 101, 100], 3377302, 0, none),
  ("NoonMeals$Reader", 285, [102, 114, 111, 109], 3151786, 0, none),
  ("NoonMeals$Reader", 290, [115, 116, 97, 114, 116, 115], -892483503, 0, none),
  ("NoonMeals$Reader", 294, [104, 111, 108, 100, 115], 99459988, 0, none),
  ("NoonMeals$Reader", 298, [99, 111, 111, 108, 115], 94845514, 0, none),
  ("NoonMeals$Reader", 315, [116, 97, 107, 101, 115], 110124236, 0, none),
  ("NoonMeals$Reader", 329, [100, 97, 121, 115], 3076183, 0, none),
  ("NoonMeals$Reader", 337, [109, 111, 115, 116], 3357571, 0, none),
  ("NoonMealsModel", 165, [108, 97, 119], 106914, 0, some ("NoonMeals$Reader", 93)),
  ("NoonMealsModel", 256, [104, 111, 116], 103501, 0, some ("NoonMeals$Reader", 160)),
  ("NoonMealsModel", 261, [98, 121], 3159, 0, some ("NoonMeals$Reader", 165)),
  ("NoonMealsModel", 167, [107, 105, 116, 99, 104, 101, 110], -705112156, 0, some ("NoonMeals$Reader", 95)),
  ("NoonMealsModel", 169, [102, 108, 111, 111, 100], 97526782, 0, some ("NoonMeals$Reader", 97)),
  ("NoonMealsModel", 171, [100, 105, 115, 104], 3083674, 0, some ("NoonMeals$Reader", 99)),
  ("NoonMealsModel", 173, [100, 105, 101, 116], 3083252, 0, some ("NoonMeals$Reader", 101)),
  ("NoonMealsModel", 175, [104, 111, 117, 115, 101], 99469088, 0, some ("NoonMeals$Reader", 103)),
  ("NoonMealsModel", 177, [99, 97, 114], 98260, 0, some ("NoonMeals$Reader", 105)),
  ("NoonMealsModel", 179, [99, 97, 108, 108], 3045982, 0, some ("NoonMeals$Reader", 107)),
  ("NoonMealsModel", 181, [104, 101, 108, 112, 101, 114], -1220931666, 0, some ("NoonMeals$Reader", 109)),
  ("NoonMealsModel", 183, [100, 111, 103], 99644, 0, some ("NoonMeals$Reader", 111)),
  ("NoonMealsModel", 185, [97, 102, 114, 97, 105, 100], -1420247761, 0, some ("NoonMeals$Reader", 113)),
  ("NoonMealsModel", 272, [97, 116], 3123, 0, some ("NoonMeals$Reader", 207)),
  ("NoonMealsModel", 282, [97, 100, 100, 115], 2989042, 0, some ("NoonMeals$Reader", 181)),
  ("NoonMealsModel", 293, [111, 102], 3543, 0, some ("NoonMeals$Reader", 220)),
  ("NoonMealsModel", 298, [99, 111, 115, 116, 115], 94849606, 0, some ("NoonMeals$Reader", 227)),
  ("NoonMealsModel", 309, [98, 97, 114, 115], 3016384, 0, some ("NoonMeals$Reader", 241)),
  ("NoonMealsModel", 313, [101, 97, 116, 115], 3105819, 0, some ("NoonMeals$Reader", 253)),
  ("NoonMealsModel", 318, [100, 111, 111, 114, 115], 95769221, 0, some ("NoonMeals$Reader", 258)),
  ("NoonMealsModel", 320, [116, 101, 97], 114704, 0, some ("NoonMeals$Reader", 262)),
  ("NoonMealsModel", 322, [99, 104, 97, 110, 99, 101], -1361636556, 0, some ("NoonMeals$Reader", 266)),
  ("NoonMealsModel", 324, [110, 101, 101, 100], 3377302, 0, some ("NoonMeals$Reader", 270)),
  ("NoonMealsModel", 346, [102, 114, 111, 109], 3151786, 0, some ("NoonMeals$Reader", 285)),
  ("NoonMealsModel", 348, [115, 116, 97, 114, 116, 115], -892483503, 0, some ("NoonMeals$Reader", 290)),
  ("NoonMealsModel", 350, [104, 111, 108, 100, 115], 99459988, 0, some ("NoonMeals$Reader", 294)),
  ("NoonMealsModel", 352, [99, 111, 111, 108, 115], 94845514, 0, some ("NoonMeals$Reader", 298)),
  ("NoonMealsModel", 368, [116, 97, 107, 101, 115], 110124236, 0, some ("NoonMeals$Reader", 315)),
  ("NoonMealsModel", 378, [100, 97, 121, 115], 3076183, 0, some ("NoonMeals$Reader", 329)),
  ("NoonMealsModel", 380, [109, 111, 115, 116], 3357571, 0, some ("NoonMeals$Reader", 337))]
abbrev xTm (e : xSt) : Term := .string e.1 e.2.1
abbrev xTf (e : xSt) (n d : String) : Term := .field (xTm e) "java/lang/String" n d
def xSw (e : xSt) : List Cond := [.exactly (xTm e) "java/lang/String", .eq (xTf e "coder" "B") (.int 0), .arrayOf (xTf e "value" "[B") .byte, .eq (.length (xTf e "value" "[B")) (.int (Int32.ofNat e.2.2.1.length))]
  ++ (e.2.2.1.zipIdx.map (fun p => Cond.eq (.elem (xTf e "value" "[B") (.int (Int32.ofNat p.2))) (.int p.1)) ++ ([.eq (xTf e "hash" "I") (.int e.2.2.2.1), .eq (xTf e "hashIsZero" "Z") (.int e.2.2.2.2.1)] ++ (match e.2.2.2.2.2 with
    | none => []
    | some r => [.eq (.string r.1 r.2) (xTm e)])))
def xFl : List Cond := flatC (Jvm.Cond.and given_1 narrow_1)
theorem xSe_ok : xFl.drop 270 = xSe.flatMap xSw := by decide +kernel
theorem xSe_in : ∀ e ∈ xSe, ∀ w ∈ xSw e, w ∈ xFl := by
  intro e he w hw
  have h1 : w ∈ xFl.drop 270 := by rw [xSe_ok]; exact List.mem_flatMap.mpr ⟨e, he, hw⟩
  exact List.mem_of_mem_drop h1
/-- the texts: main place, bytes, hash, whether the hash is zero -/
def xSm : List xSt := [
  ("java/lang/String", 7, [], 0, 1, none),
  ("NoonMeals$Reader", 93, [108, 97, 119], 106914, 0, none),
  ("NoonMeals$Reader", 95, [107, 105, 116, 99, 104, 101, 110], -705112156, 0, none),
  ("NoonMeals$Reader", 97, [102, 108, 111, 111, 100], 97526782, 0, none),
  ("NoonMeals$Reader", 99, [100, 105, 115, 104], 3083674, 0, none),
  ("NoonMeals$Reader", 101, [100, 105, 101, 116], 3083252, 0, none),
  ("NoonMeals$Reader", 103, [104, 111, 117, 115, 101], 99469088, 0, none),
  ("NoonMeals$Reader", 105, [99, 97, 114], 98260, 0, none),
  ("NoonMeals$Reader", 107, [99, 97, 108, 108], 3045982, 0, none),
  ("NoonMeals$Reader", 109, [104, 101, 108, 112, 101, 114], -1220931666, 0, none),
  ("NoonMeals$Reader", 160, [104, 111, 116], 103501, 0, none),
  ("NoonMeals$Reader", 165, [98, 121], 3159, 0, none),
  ("NoonMeals$Reader", 111, [100, 111, 103], 99644, 0, none),
  ("NoonMeals$Reader", 113, [97, 102, 114, 97, 105, 100], -1420247761, 0, none),
  ("NoonMeals$Reader", 207, [97, 116], 3123, 0, none),
  ("NoonMeals$Reader", 181, [97, 100, 100, 115], 2989042, 0, none),
  ("NoonMeals$Reader", 220, [111, 102], 3543, 0, none),
  ("NoonMeals$Reader", 227, [99, 111, 115, 116, 115], 94849606, 0, none),
  ("NoonMeals$Reader", 241, [98, 97, 114, 115], 3016384, 0, none),
  ("NoonMeals$Reader", 253, [101, 97, 116, 115], 3105819, 0, none),
  ("NoonMeals$Reader", 258, [100, 111, 111, 114, 115], 95769221, 0, none),
  ("NoonMeals$Reader", 262, [116, 101, 97], 114704, 0, none),
  ("NoonMeals$Reader", 266, [99, 104, 97, 110, 99, 101], -1361636556, 0, none),
  ("NoonMeals$Reader", 270, [110, 101, 101, 100], 3377302, 0, none),
  ("NoonMeals$Reader", 285, [102, 114, 111, 109], 3151786, 0, none),
  ("NoonMeals$Reader", 290, [115, 116, 97, 114, 116, 115], -892483503, 0, none),
  ("NoonMeals$Reader", 294, [104, 111, 108, 100, 115], 99459988, 0, none),
  ("NoonMeals$Reader", 298, [99, 111, 111, 108, 115], 94845514, 0, none),
  ("NoonMeals$Reader", 315, [116, 97, 107, 101, 115], 110124236, 0, none),
  ("NoonMeals$Reader", 329, [100, 97, 121, 115], 3076183, 0, none),
  ("NoonMeals$Reader", 337, [109, 111, 115, 116], 3357571, 0, none)]
theorem xSm_in : ∀ e ∈ xSm, e ∈ xSe := List.all_eq_true.mp (show xSm.all (fun e => decide (e ∈ xSe)) = true from by decide +kernel) |> fun h e he => of_decide_eq_true (h e he)
def xSF (v : Nat) (h z : Int32) : Nat → Value := fun k => match k with
  | 0 => .ref v
  | 1 => .int 0
  | 2 => .int h
  | _ => .int z
def xSb (bs : List Int32) : Nat → Int32 := fun j => bs.getD j 0
theorem x_str {args : Array Value} {s : State} {D : Dd} (hK : xK D s) (e : xSt) (H : ∀ w ∈ xSw e, w.before args s = true) (hn : e.2.2.1.length < 2 ^ 31) :
    ∃ a v : Nat, (xTm e).eval args s none [] s = some (.ref a) ∧ (∀ fz, s.heap.size ≤ fz → hat D fz s a (.inl (14, xSF v e.2.2.2.1 e.2.2.2.2.1)) s.heap) ∧ ∀ fz, s.heap.size ≤ fz → hat D fz s v (.inr (1, e.2.2.1.length, .inl (xSb e.2.2.1))) s.heap := by
  obtain ⟨own, ix, bs, hh, hz, eq⟩ := e
  have H1 : (Cond.exactly (xTm (own, ix, bs, hh, hz, eq)) "java/lang/String").before args s = true := H _ (by simp [xSw])
  have H2 : (Cond.eq (xTf (own, ix, bs, hh, hz, eq) "coder" "B") (.int 0)).before args s = true := H _ (by simp [xSw])
  have H3 : (Cond.arrayOf (xTf (own, ix, bs, hh, hz, eq) "value" "[B") .byte).before args s = true := H _ (by simp [xSw])
  have H4 : (Cond.eq (.length (xTf (own, ix, bs, hh, hz, eq) "value" "[B")) (.int (Int32.ofNat bs.length))).before args s = true := H _ (by simp [xSw])
  have H5 : ∀ j : Nat, j < bs.length → (Cond.eq (.elem (xTf (own, ix, bs, hh, hz, eq) "value" "[B") (.int (Int32.ofNat j))) (.int (xSb bs j))).before args s = true := by
    intro j hj
    refine H _ ?_
    simp only [xSw, List.mem_append, List.mem_map]
    refine Or.inr (Or.inl ⟨(xSb bs j, j), ?_, rfl⟩)
    rw [List.mk_mem_zipIdx_iff_getElem?]
    simp [xSb, List.getElem?_eq_getElem hj]
  have H6 : (Cond.eq (xTf (own, ix, bs, hh, hz, eq) "hash" "I") (.int hh)).before args s = true := H _ (by simp [xSw])
  have H7 : (Cond.eq (xTf (own, ix, bs, hh, hz, eq) "hashIsZero" "Z") (.int hz)).before args s = true := H _ (by simp [xSw])
  obtain ⟨a, c, cA, kA, q1, q2, q3, q4, q5, q6, -⟩ := Cond.exactly_spec (args := args) (first := s) (o := none) (s := s) (idx := []) H1
  obtain ⟨t, ht, cT, t1, t2, t3, t4, t5, t6, -⟩ := va_Tof (f := fun j => .int (xSb bs j)) (A := fun _ => False) hn H3 (va_eqt H4) (fun j hj => va_eqt (H5 j hj)) (fun _ _ h => h)
  obtain ⟨hS, hfc, kC, hkC, hkind⟩ := hK.1 14 _ xc_J3
  have hval : ∀ (k : Nat) (w : Value), k < 4 → (xTf (own, ix, bs, hh, hz, eq) (TJ3 k).2.1 (TJ3 k).2.2.1).eval args s none [] s = some w → (TJ3 k).1 = "java/lang/String" → cA.vm ≠ .unknown ∧ cA.slots[D.2.1 14 k]? = some w := by
    intro k w hk hw hd
    obtain ⟨cf, kf, fi, fd, hi, hsl⟩ := hS k hk
    rw [hd] at hi
    obtain ⟨-, cell, g2, g3, -, -, g6⟩ := Term.field_spec hi q1 hw
    cases q3.symm.trans g2
    have hsl : fd.slot = D.2.1 14 k := hsl
    exact ⟨g3, by rw [← hsl]; exact g6⟩
  have v0 := hval 0 _ (by decide) ht rfl
  have v1 := hval 1 _ (by decide) (va_eqt H2) rfl
  have v2 := hval 2 _ (by decide) (va_eqt H6) rfl
  have v3 := hval 3 _ (by decide) (va_eqt H7) rfl
  have hla : a < s.heap.size := (Array.getElem?_eq_some_iff.mp q3).1
  have hlt : t < s.heap.size := (Array.getElem?_eq_some_iff.mp t1).1
  refine ⟨a, t, q1, fun fz hfz => ⟨_, cA, xc_J3, q3, ?_, q5, v0.1, fun z => absurd z (Nat.not_le.mpr (Nat.lt_of_lt_of_le hla hfz)), ?_⟩, fun fz hfz => ⟨fun z => absurd z (Nat.not_le.mpr (Nat.lt_of_lt_of_le hlt hfz)), cT, .byte, t1, rfl, t2, t3, ⟨t4, t5⟩, t6⟩⟩
  · rw [q6]
    exact Option.some.inj (q2.symm.trans hfc)
  · intro k hk
    have hk : k < 4 := hk
    have hc : k = 0 ∨ k = 1 ∨ k = 2 ∨ k = 3 := by omega
    rcases hc with rfl | rfl | rfl | rfl
    · exact v0.2
    · exact v1.2
    · exact v2.2
    · exact v3.2
/-- the cells of the start: the script, the texts -/
def xCe (b L : Nat) (xs : Nat → Int32) (adK adV : Nat → Nat) : List (Nat × Ob) := (b, .inr (0, L, .inl xs)) :: xSm.zipIdx.flatMap (fun p => [(adK p.2, .inl (14, xSF (adV p.2) p.1.2.2.2.1 p.1.2.2.2.2.1)), (adV p.2, .inr (1, p.1.2.2.1.length, .inl (xSb p.1.2.2.1)))])
def xLook (l : List (Nat × Ob)) : Nat → Option Ob := fun q => (l.find? (fun e => e.1 == q)).map (·.2)
theorem xLook_some {l : List (Nat × Ob)} {q : Nat} {o : Ob} (h : xLook l q = some o) : (q, o) ∈ l := by
  unfold xLook at h
  cases hf : l.find? (fun e => e.1 == q) with
  | none => rw [hf] at h; cases h
  | some e =>
    rw [hf] at h
    cases h
    have h1 := List.find?_some hf
    have h2 := List.mem_of_find?_eq_some hf
    have h3 : e.1 = q := by simpa using h1
    rw [← h3]
    exact h2
theorem xLook_of {l : List (Nat × Ob)} (hl : ∀ e ∈ l, ∀ e' ∈ l, e.1 = e'.1 → e.2 = e'.2) {q : Nat} {o : Ob} (h : (q, o) ∈ l) : xLook l q = some o := by
  cases hf : xLook l q with
  | none =>
    unfold xLook at hf
    rw [Option.map_eq_none_iff, List.find?_eq_none] at hf
    exact absurd (by simp) (hf _ h)
  | some o' => exact congrArg some (hl _ (xLook_some hf) _ h rfl)
theorem x_kinds {s : State} {cell : Cell} {t1 t2 : FieldType} (h1 : s.isArrayOf cell t1) (h2 : s.isArrayOf cell t2) : t1 = t2 := by
  obtain ⟨-, k, a1, c1, a2⟩ := h1
  obtain ⟨-, k', b1, c2, b2⟩ := h2
  cases a1.symm.trans b1
  rw [a2] at b2
  cases b2
  rfl
theorem xCe_same {s : State} {D : Dd} (hK : xK D s) {b L : Nat} {xs : Nat → Int32} {adK adV : Nat → Nat} (hh : ∀ e ∈ xCe b L xs adK adV, hat D s.heap.size s e.1 e.2 s.heap) : ∀ e ∈ xCe b L xs adK adV, ∀ e' ∈ xCe b L xs adK adV, e.1 = e'.1 → e.2 = e'.2 := by
  have kind : ∀ e ∈ xCe b L xs adK adV, e = (b, .inr (0, L, .inl xs)) ∨ (∃ v h z, e.2 = .inl (14, xSF v h z)) ∨ ∃ bs : List Int32, bs.length < 2 ^ 31 ∧ e.2 = .inr (1, bs.length, .inl (xSb bs)) := by
    intro e he
    rcases List.mem_cons.mp he with h | h
    · exact Or.inl h
    · obtain ⟨p, hp, h⟩ := List.mem_flatMap.mp h
      simp only [List.mem_cons, List.not_mem_nil, or_false] at h
      rcases h with rfl | rfl
      · exact Or.inr (Or.inl ⟨_, _, _, rfl⟩)
      · refine Or.inr (Or.inr ⟨p.1.2.2.1, ?_, rfl⟩)
        have h1 : p.1 ∈ xSm := List.fst_mem_of_mem_zipIdx hp
        have h2 : xSm.all (fun e => decide (e.2.2.1.length < 2 ^ 31)) = true := by decide +kernel
        exact of_decide_eq_true (List.all_eq_true.mp h2 _ h1)
  intro e he e' he' hq
  have g := hh e he
  have g' := hh e' he'
  rw [← hq] at g'
  obtain ⟨-, -, kC, hkC, hkind⟩ := hK.1 14 _ xc_J3
  rcases kind e he with h | ⟨v, h, z, h1⟩ | ⟨bs, hb1, h1⟩ <;> rcases kind e' he' with h' | ⟨v', h', z', h1'⟩ | ⟨bs', hb1', h1'⟩
  · rw [h, h']
  · exfalso
    rw [h] at g g'
    rw [h1'] at g'
    obtain ⟨-, cell, ty, c1, c2, ⟨-, k, a1, cm, a2⟩, -⟩ := g
    obtain ⟨r, cell', d1, d2, d3, -⟩ := g'
    cases c1.symm.trans d2
    rw [d3] at a1
    cases hkC.symm.trans a1
    rw [hkind] at a2
    cases a2
  · exfalso
    rw [h] at g g'
    rw [h1'] at g'
    obtain ⟨-, cell, ty, c1, c2, c3, -⟩ := g
    obtain ⟨-, cell', ty', d1, d2, d3, -⟩ := g'
    cases c1.symm.trans d1
    have e1 := x_kinds c3 d3
    have c2 : some FieldType.int = some ty := c2
    have d2 : some FieldType.byte = some ty' := d2
    cases c2
    cases d2
    cases e1
  · exfalso
    rw [h1] at g
    rw [h'] at g' hq
    rw [hq] at g g'
    obtain ⟨-, cell, ty, c1, c2, ⟨-, k, a1, cm, a2⟩, -⟩ := g'
    obtain ⟨r, cell', d1, d2, d3, -⟩ := g
    cases c1.symm.trans d2
    rw [d3] at a1
    cases hkC.symm.trans a1
    rw [hkind] at a2
    cases a2
  · rw [h1] at g ⊢
    rw [h1'] at g' ⊢
    obtain ⟨r, cell, d1, d2, d3, -, -, -, d4⟩ := g
    obtain ⟨r', cell', e1, e2, e3, -, -, -, e4⟩ := g'
    cases d2.symm.trans e2
    have hr : r = (RJ3, TJ3, 4) := Option.some.inj (d1.symm.trans xc_J3)
    have hr' : r' = (RJ3, TJ3, 4) := Option.some.inj (e1.symm.trans xc_J3)
    subst hr
    subst hr'
    have s0 := (d4 0 (show 0 < 4 by decide)).symm.trans (e4 0 (show 0 < 4 by decide))
    have s2 := (d4 2 (show 2 < 4 by decide)).symm.trans (e4 2 (show 2 < 4 by decide))
    have s3 := (d4 3 (show 3 < 4 by decide)).symm.trans (e4 3 (show 3 < 4 by decide))
    have s0 : some (Value.ref v) = some (Value.ref v') := s0
    have s2 : some (Value.int h) = some (Value.int h') := s2
    have s3 : some (Value.int z) = some (Value.int z') := s3
    cases s0
    cases s2
    cases s3
    rfl
  · exfalso
    rw [h1] at g
    rw [h1'] at g'
    obtain ⟨-, cell, ty, c1, c2, ⟨-, k, a1, cm, a2⟩, -⟩ := g'
    obtain ⟨r, cell', d1, d2, d3, -⟩ := g
    cases c1.symm.trans d2
    rw [d3] at a1
    cases hkC.symm.trans a1
    rw [hkind] at a2
    cases a2
  · exfalso
    rw [h1] at g
    rw [h'] at g' hq
    rw [hq] at g g'
    obtain ⟨-, cell, ty, c1, c2, c3, -⟩ := g
    obtain ⟨-, cell', ty', d1, d2, d3, -⟩ := g'
    cases c1.symm.trans d1
    have e1 := x_kinds c3 d3
    have c2 : some FieldType.byte = some ty := c2
    have d2 : some FieldType.int = some ty' := d2
    cases c2
    cases d2
    cases e1
  · exfalso
    rw [h1] at g
    rw [h1'] at g'
    obtain ⟨-, cell, ty, c1, c2, ⟨-, k, a1, cm, a2⟩, -⟩ := g
    obtain ⟨r, cell', d1, d2, d3, -⟩ := g'
    cases c1.symm.trans d2
    rw [d3] at a1
    cases hkC.symm.trans a1
    rw [hkind] at a2
    cases a2
  · rw [h1] at g ⊢
    rw [h1'] at g' ⊢
    obtain ⟨-, cell, ty, c1, c2, c3, c4, c5, c6⟩ := g
    obtain ⟨-, cell', ty', d1, d2, d3, d4, d5, d6⟩ := g'
    cases c1.symm.trans d1
    have hlen : bs.length = bs'.length := by
      have e1 : Int32.ofNat bs.length = Int32.ofNat bs'.length := c5.2.symm.trans d5.2
      exact (nI_eq hb1 hb1').mp e1
    have hbs : bs = bs' := by
      refine List.ext_getElem hlen fun j hj hj' => ?_
      have e1 := (c6 j hj).symm.trans (d6 j hj')
      have e2 : some (Value.int (xSb bs j)) = some (Value.int (xSb bs' j)) := e1
      have e3 : xSb bs j = xSb bs' j := by injection e2 with e2; injection e2
      simpa [xSb, List.getD_eq_getElem?_getD, List.getElem?_eq_getElem hj, List.getElem?_eq_getElem hj'] using e3
    rw [hbs]
theorem x_classes {args : Array Value} {s : State} (hts0 : ∀ w ∈ lw_tbl, w.before args s = true) : ∃ D : Dd, xK D s := by
  have hts : ∀ w ∈ lw_all, w.before args s = true := fun w h => hts0 w (lw_all_tbl h)
  have hc : ∀ c : Nat, ∃ z : ClassId × (Nat → Nat), ∀ q : vw_C, xCl[c]? = some q → u_Kn s q.1 q.2.1 q.2.2 z.1 z.2 := by
    intro c
    by_cases hlt : c < 15
    · have hcs : c = 0 ∨ c = 1 ∨ c = 2 ∨ c = 3 ∨ c = 4 ∨ c = 5 ∨ c = 6 ∨ c = 7 ∨ c = 8 ∨ c = 9 ∨ c = 10 ∨ c = 11 ∨ c = 12 ∨ c = 13 ∨ c = 14 := by omega
      rcases hcs with rfl | rfl | rfl | rfl | rfl | rfl | rfl | rfl | rfl | rfl | rfl | rfl | rfl | rfl | rfl
      · obtain ⟨cC, iS, hk⟩ := u_known (C := RX1) (T := TX1) (N := 41) hts in_X1 (hts _ q119)
        exact ⟨(cC, iS), fun q hq => by cases (xc_X1.symm.trans hq); exact hk⟩
      · obtain ⟨cC, iS, hk⟩ := u_known (C := RX2) (T := TX2) (N := 10) hts in_X2 (hts _ q127)
        exact ⟨(cC, iS), fun q hq => by cases (xc_X2.symm.trans hq); exact hk⟩
      · obtain ⟨cC, iS, hk⟩ := u_known (C := RX3) (T := TX3) (N := 8) hts in_X3 (hts _ q133)
        exact ⟨(cC, iS), fun q hq => by cases (xc_X3.symm.trans hq); exact hk⟩
      · obtain ⟨cC, iS, hk⟩ := u_known (C := RX4) (T := TX4) (N := 4) hts in_X4 (hts _ q240)
        exact ⟨(cC, iS), fun q hq => by cases (xc_X4.symm.trans hq); exact hk⟩
      · obtain ⟨cC, iS, hk⟩ := u_known (C := RX5) (T := TX5) (N := 46) hts in_X5 (hts _ q1293)
        exact ⟨(cC, iS), fun q hq => by cases (xc_X5.symm.trans hq); exact hk⟩
      · obtain ⟨cC, iS, hk⟩ := u_known (C := RX6) (T := TX6) (N := 19) hts in_X6 (hts _ q416)
        exact ⟨(cC, iS), fun q hq => by cases (xc_X6.symm.trans hq); exact hk⟩
      · obtain ⟨cC, iS, hk⟩ := u_known (C := RX8) (T := TX8) (N := 4) hts in_X8 (hts _ q735)
        exact ⟨(cC, iS), fun q hq => by cases (xc_X8.symm.trans hq); exact hk⟩
      · obtain ⟨cC, iS, hk⟩ := u_known (C := RX9) (T := TX9) (N := 4) hts in_X9 (hts _ q786)
        exact ⟨(cC, iS), fun q hq => by cases (xc_X9.symm.trans hq); exact hk⟩
      · obtain ⟨cC, iS, hk⟩ := u_known (C := RX10) (T := TX10) (N := 3) hts in_X10 (hts _ q841)
        exact ⟨(cC, iS), fun q hq => by cases (xc_X10.symm.trans hq); exact hk⟩
      · obtain ⟨cC, iS, hk⟩ := u_known (C := RX11) (T := TX11) (N := 9) hts in_X11 (hts _ q859)
        exact ⟨(cC, iS), fun q hq => by cases (xc_X11.symm.trans hq); exact hk⟩
      · obtain ⟨cC, iS, hk⟩ := u_known (C := RX12) (T := TX12) (N := 7) hts in_X12 (hts _ q905)
        exact ⟨(cC, iS), fun q hq => by cases (xc_X12.symm.trans hq); exact hk⟩
      · obtain ⟨cC, iS, hk⟩ := u_known (C := RX13) (T := TX13) (N := 4) hts in_X13 (hts _ q946)
        exact ⟨(cC, iS), fun q hq => by cases (xc_X13.symm.trans hq); exact hk⟩
      · obtain ⟨cC, iS, hk⟩ := u_known (C := RX14) (T := TX14) (N := 4) hts in_X14 (hts _ q968)
        exact ⟨(cC, iS), fun q hq => by cases (xc_X14.symm.trans hq); exact hk⟩
      · obtain ⟨cC, iS, hk⟩ := u_known (C := RX15) (T := TX15) (N := 37) hts in_X15 (hts _ q1454)
        exact ⟨(cC, iS), fun q hq => by cases (xc_X15.symm.trans hq); exact hk⟩
      · obtain ⟨cC, iS, hk⟩ := u_known (C := RJ3) (T := TJ3) (N := 4) hts in_J3 (hts _ q541)
        exact ⟨(cC, iS), fun q hq => by cases (xc_J3.symm.trans hq); exact hk⟩
    · exact ⟨(0, fun _ => 0), fun q hq => absurd (List.getElem?_eq_some_iff.mp hq).1 hlt⟩
  have ha : ∀ k : Nat, ∃ cA : ClassId, ∀ ty : FieldType, xTy[k]? = some ty → ArrOfT s cA ty ∧ va_RA s cA ty := by
    intro k
    by_cases hlt : k < 13
    · have hcs : k = 0 ∨ k = 1 ∨ k = 2 ∨ k = 3 ∨ k = 4 ∨ k = 5 ∨ k = 6 ∨ k = 7 ∨ k = 8 ∨ k = 9 ∨ k = 10 ∨ k = 11 ∨ k = 12 := by omega
      rcases hcs with rfl | rfl | rfl | rfl | rfl | rfl | rfl | rfl | rfl | rfl | rfl | rfl | rfl
      · obtain ⟨c, k, comp, h1, h2, h3⟩ := Cond.arrayClass_spec (args := args) (first := s) (o := none) (idx := []) (hts _ q262)
        exact ⟨c, fun ty hty => by cases hty; exact ⟨fun n z => ⟨fun q hq => (by cases hq), k, h2, comp, h3⟩, h1⟩⟩
      · obtain ⟨c, k, comp, h1, h2, h3⟩ := Cond.arrayClass_spec (args := args) (first := s) (o := none) (idx := []) (hts _ q205)
        exact ⟨c, fun ty hty => by cases hty; exact ⟨fun n z => ⟨fun q hq => (by cases hq), k, h2, comp, h3⟩, h1⟩⟩
      · obtain ⟨c, k, comp, h1, h2, h3⟩ := Cond.arrayClass_spec (args := args) (first := s) (o := none) (idx := []) (hts _ q237)
        exact ⟨c, fun ty hty => by cases hty; exact ⟨fun n z => ⟨fun q hq => (by cases hq), k, h2, comp, h3⟩, h1⟩⟩
      · obtain ⟨c, k, comp, h1, h2, h3⟩ := Cond.arrayClass_spec (args := args) (first := s) (o := none) (idx := []) (hts _ q1601)
        exact ⟨c, fun ty hty => by cases hty; exact ⟨fun n z => ⟨fun q hq => (by cases hq), k, h2, comp, h3⟩, h1⟩⟩
      · obtain ⟨c, k, comp, h1, h2, h3⟩ := Cond.arrayClass_spec (args := args) (first := s) (o := none) (idx := []) (hts _ q1600)
        exact ⟨c, fun ty hty => by cases hty; exact ⟨fun n z => ⟨fun q hq => (by cases hq), k, h2, comp, h3⟩, h1⟩⟩
      · obtain ⟨comp, c, k, h1, h2, h3, h4, h5⟩ := Cond.arrayOver_spec (args := args) (first := s) (o := none) (idx := []) (hts0 _ q239)
        exact ⟨c, fun ty hty => by cases hty; exact ⟨fun n z => ⟨fun q hq => (by cases hq), k, h3, comp, h4⟩, k, comp, h3, h4, h1, h5⟩⟩
      · obtain ⟨comp, c, k, h1, h2, h3, h4, h5⟩ := Cond.arrayOver_spec (args := args) (first := s) (o := none) (idx := []) (hts0 _ q422)
        exact ⟨c, fun ty hty => by cases hty; exact ⟨fun n z => ⟨fun q hq => (by cases hq), k, h3, comp, h4⟩, k, comp, h3, h4, h1, h5⟩⟩
      · obtain ⟨comp, c, k, h1, h2, h3, h4, h5⟩ := Cond.arrayOver_spec (args := args) (first := s) (o := none) (idx := []) (hts0 _ q424)
        exact ⟨c, fun ty hty => by cases hty; exact ⟨fun n z => ⟨fun q hq => (by cases hq), k, h3, comp, h4⟩, k, comp, h3, h4, h1, h5⟩⟩
      · obtain ⟨comp, c, k, h1, h2, h3, h4, h5⟩ := Cond.arrayOver_spec (args := args) (first := s) (o := none) (idx := []) (hts0 _ q426)
        exact ⟨c, fun ty hty => by cases hty; exact ⟨fun n z => ⟨fun q hq => (by cases hq), k, h3, comp, h4⟩, k, comp, h3, h4, h1, h5⟩⟩
      · obtain ⟨comp, c, k, h1, h2, h3, h4, h5⟩ := Cond.arrayOver_spec (args := args) (first := s) (o := none) (idx := []) (hts0 _ q428)
        exact ⟨c, fun ty hty => by cases hty; exact ⟨fun n z => ⟨fun q hq => (by cases hq), k, h3, comp, h4⟩, k, comp, h3, h4, h1, h5⟩⟩
      · obtain ⟨comp, c, k, h1, h2, h3, h4, h5⟩ := Cond.arrayOver_spec (args := args) (first := s) (o := none) (idx := []) (hts0 _ q430)
        exact ⟨c, fun ty hty => by cases hty; exact ⟨fun n z => ⟨fun q hq => (by cases hq), k, h3, comp, h4⟩, k, comp, h3, h4, h1, h5⟩⟩
      · obtain ⟨comp, c, k, h1, h2, h3, h4, h5⟩ := Cond.arrayOver_spec (args := args) (first := s) (o := none) (idx := []) (hts0 _ q432)
        exact ⟨c, fun ty hty => by cases hty; exact ⟨fun n z => ⟨fun q hq => (by cases hq), k, h3, comp, h4⟩, k, comp, h3, h4, h1, h5⟩⟩
      · obtain ⟨comp, c, k, h1, h2, h3, h4, h5⟩ := Cond.arrayOver_spec (args := args) (first := s) (o := none) (idx := []) (hts0 _ q434)
        exact ⟨c, fun ty hty => by cases hty; exact ⟨fun n z => ⟨fun q hq => (by cases hq), k, h3, comp, h4⟩, k, comp, h3, h4, h1, h5⟩⟩
    · exact ⟨0, fun ty hty => absurd (List.getElem?_eq_some_iff.mp hty).1 hlt⟩
  obtain ⟨fc, hfc⟩ := Classical.axiomOfChoice hc
  obtain ⟨fa, hfa⟩ := Classical.axiomOfChoice ha
  refine ⟨(fun c => (fc c).1, fun c => (fc c).2, fa), fun c q hq => hfc c q hq, fun k q hq => ?_⟩
  have hq : (xTy.zipIdx.map (fun p => (fa p.2, p.1)))[k]? = some q := hq
  rw [List.getElem?_map, List.getElem?_zipIdx] at hq
  cases hx : xTy[k]? with
  | none => rw [hx] at hq; cases hq
  | some ty =>
    rw [hx] at hq
    simp at hq
    rw [← hq]
    exact hfa k ty hx
theorem xWd_tbl : ∀ w ∈ xWd, w ∈ lw_tbl := (List.forall_mem_cons.mpr ⟨q1460, (List.forall_mem_cons.mpr ⟨q1461, (List.forall_mem_cons.mpr ⟨q1462, (List.forall_mem_cons.mpr ⟨q1463, (List.forall_mem_cons.mpr ⟨q1464, (List.forall_mem_cons.mpr ⟨q1465, (List.forall_mem_cons.mpr ⟨q1466, (List.forall_mem_cons.mpr ⟨q1468, (List.forall_mem_cons.mpr ⟨q1469, (List.forall_mem_cons.mpr ⟨q1470, (List.forall_mem_cons.mpr ⟨q1472, (List.forall_mem_cons.mpr ⟨q1474, (List.forall_mem_cons.mpr ⟨q1476, (List.forall_mem_cons.mpr ⟨q1478, (List.forall_mem_cons.mpr ⟨q1480, (List.forall_mem_cons.mpr ⟨q1482, (List.forall_mem_cons.mpr ⟨q1484, (List.forall_mem_cons.mpr ⟨q1486, (List.forall_mem_cons.mpr ⟨q1488, (List.forall_mem_cons.mpr ⟨q1490, (List.forall_mem_cons.mpr ⟨q1492, (List.forall_mem_cons.mpr ⟨q1494, (List.forall_mem_cons.mpr ⟨q1496, (List.forall_mem_cons.mpr ⟨q1498, (List.forall_mem_cons.mpr ⟨q1500, (List.forall_mem_cons.mpr ⟨q1502, (List.forall_mem_cons.mpr ⟨q1504, (List.forall_mem_cons.mpr ⟨q1506, (List.forall_mem_cons.mpr ⟨q1508, (List.forall_mem_cons.mpr ⟨q1510, (List.forall_mem_cons.mpr ⟨q1512, (List.forall_mem_cons.mpr ⟨q1514, (List.forall_mem_cons.mpr ⟨q1516, (List.forall_mem_cons.mpr ⟨q1518, (List.forall_mem_cons.mpr ⟨q1520, (List.forall_mem_cons.mpr ⟨q1522, (List.forall_mem_cons.mpr ⟨q1524, (List.forall_mem_cons.mpr ⟨q241, (List.forall_mem_cons.mpr ⟨q417, (List.forall_mem_cons.mpr ⟨q539, (List.forall_mem_cons.mpr ⟨q985, (List.forall_mem_cons.mpr ⟨q1071, (List.forall_mem_cons.mpr ⟨q1109, (List.forall_mem_cons.mpr ⟨q1455, (List.forall_mem_cons.mpr ⟨q2009, (List.forall_mem_cons.mpr ⟨q661, (List.forall_mem_cons.mpr ⟨q1999, (List.forall_mem_cons.mpr ⟨q1998, (List.forall_mem_cons.mpr ⟨q1273, (List.forall_mem_cons.mpr ⟨q2008, (List.forall_mem_cons.mpr ⟨q1992, (List.forall_mem_cons.mpr ⟨q2002, (List.forall_mem_cons.mpr ⟨q2003, (List.forall_mem_cons.mpr ⟨q2004, (List.forall_mem_cons.mpr ⟨q2005, (List.forall_mem_cons.mpr ⟨q2006, (List.forall_mem_cons.mpr ⟨q2007, (List.forall_mem_cons.mpr ⟨q1993, (List.forall_mem_cons.mpr ⟨q134, (List.forall_mem_cons.mpr ⟨q1994, (List.forall_mem_cons.mpr ⟨q1995, (List.forall_mem_cons.mpr ⟨q1996, (List.forall_mem_cons.mpr ⟨q1997, (List.forall_mem_cons.mpr ⟨q2000, (List.forall_mem_cons.mpr ⟨q2001, (List.forall_mem_cons.mpr ⟨q139, (List.forall_mem_cons.mpr ⟨q140, (List.forall_mem_cons.mpr ⟨q137, (List.forall_mem_cons.mpr ⟨q138, (List.forall_mem_cons.mpr ⟨q135, (List.forall_mem_cons.mpr ⟨q136, (List.forall_mem_cons.mpr ⟨q660, (fun w h => absurd h List.not_mem_nil)⟩)⟩)⟩)⟩)⟩)⟩)⟩)⟩)⟩)⟩)⟩)⟩)⟩)⟩)⟩)⟩)⟩)⟩)⟩)⟩)⟩)⟩)⟩)⟩)⟩)⟩)⟩)⟩)⟩)⟩)⟩)⟩)⟩)⟩)⟩)⟩)⟩)⟩)⟩)⟩)⟩)⟩)⟩)⟩)⟩)⟩)⟩)⟩)⟩)⟩)⟩)⟩)⟩)⟩)⟩)⟩)⟩)⟩)⟩)⟩)⟩)⟩)⟩)⟩)⟩)⟩)⟩)⟩)⟩)⟩)⟩)⟩)
theorem x_ao {args : Array Value} {s : State} (hts0 : ∀ w ∈ lw_tbl, w.before args s = true) : ∀ Cn ∈ xAo, va_AO Cn s := (List.forall_mem_cons.mpr ⟨hts0 _ q239, (List.forall_mem_cons.mpr ⟨hts0 _ q422, (List.forall_mem_cons.mpr ⟨hts0 _ q424, (List.forall_mem_cons.mpr ⟨hts0 _ q426, (List.forall_mem_cons.mpr ⟨hts0 _ q428, (List.forall_mem_cons.mpr ⟨hts0 _ q430, (List.forall_mem_cons.mpr ⟨hts0 _ q432, (List.forall_mem_cons.mpr ⟨hts0 _ q434, (fun w h => absurd h List.not_mem_nil)⟩)⟩)⟩)⟩)⟩)⟩)⟩)⟩)
theorem x_nc {args : Array Value} {s : State} (hg : ∀ w ∈ xFl, w.before args s = true) : ∀ q ∈ xNc, va_Nc q.1 q.2 s := by
  have h : [52, 53, 68, 69, 54, 70, 55, 71, 56, 72, 57, 73].filterMap (fun i => xFl[i]?) = xNc.map (fun q => Cond.not (.castable q.1 q.2)) := by decide +kernel
  intro q hq
  have h1 : Cond.not (.castable q.1 q.2) ∈ xNc.map (fun q => Cond.not (.castable q.1 q.2)) := List.mem_map.mpr ⟨q, hq, rfl⟩
  rw [← h] at h1
  obtain ⟨i, -, hi⟩ := List.mem_filterMap.mp h1
  exact va_Nc.of (hg _ (List.mem_of_getElem? hi))
/-- every place of a text, tied to the text's main place -/
def xRf : List (String × Nat × String × Nat × Nat) := [("java/lang/String", 7, "", 0, 0), ("NoonMeals$Reader", 59, "", 0, 1), ("NoonMeals$Reader", 93, "law", 1, 2), ("NoonMeals$Reader", 95, "kitchen", 2, 3), ("NoonMeals$Reader", 97, "flood", 3, 4), ("NoonMeals$Reader", 99, "dish", 4, 5), ("NoonMeals$Reader", 101, "diet", 5, 6), ("NoonMeals$Reader", 103, "house", 6, 7), ("NoonMeals$Reader", 105, "car", 7, 8), ("NoonMeals$Reader", 107, "call", 8, 9), ("NoonMeals$Reader", 109, "helper", 9, 10), ("NoonMeals$Reader", 160, "hot", 10, 11), ("NoonMeals$Reader", 165, "by", 11, 12), ("NoonMeals$Reader", 111, "dog", 12, 13), ("NoonMeals$Reader", 113, "afraid", 13, 14), ("NoonMeals$Reader", 207, "at", 14, 15), ("NoonMeals$Reader", 181, "adds", 15, 16), ("NoonMeals$Reader", 220, "of", 16, 17), ("NoonMeals$Reader", 227, "costs", 17, 18), ("NoonMeals$Reader", 241, "bars", 18, 19), ("NoonMeals$Reader", 253, "eats", 19, 20), ("NoonMeals$Reader", 258, "doors", 20, 21), ("NoonMeals$Reader", 262, "tea", 21, 22), ("NoonMeals$Reader", 266, "chance", 22, 23), ("NoonMeals$Reader", 270, "need", 23, 24), ("NoonMeals$Reader", 285, "from", 24, 25), ("NoonMeals$Reader", 290, "starts", 25, 26), ("NoonMeals$Reader", 294, "holds", 26, 27), ("NoonMeals$Reader", 298, "cools", 27, 28), ("NoonMeals$Reader", 315, "takes", 28, 29), ("NoonMeals$Reader", 329, "days", 29, 30), ("NoonMeals$Reader", 337, "most", 30, 31), ("NoonMealsModel", 165, "law", 1, 32), ("NoonMealsModel", 256, "hot", 10, 33), ("NoonMealsModel", 261, "by", 11, 34), ("NoonMealsModel", 167, "kitchen", 2, 35), ("NoonMealsModel", 169, "flood", 3, 36), ("NoonMealsModel", 171, "dish", 4, 37), ("NoonMealsModel", 173, "diet", 5, 38), ("NoonMealsModel", 175, "house", 6, 39), ("NoonMealsModel", 177, "car", 7, 40), ("NoonMealsModel", 179, "call", 8, 41), ("NoonMealsModel", 181, "helper", 9, 42), ("NoonMealsModel", 183, "dog", 12, 43), ("NoonMealsModel", 185, "afraid", 13, 44), ("NoonMealsModel", 272, "at", 14, 45), ("NoonMealsModel", 282, "adds", 15, 46), ("NoonMealsModel", 293, "of", 16, 47), ("NoonMealsModel", 298, "costs", 17, 48), ("NoonMealsModel", 309, "bars", 18, 49), ("NoonMealsModel", 313, "eats", 19, 50), ("NoonMealsModel", 318, "doors", 20, 51), ("NoonMealsModel", 320, "tea", 21, 52), ("NoonMealsModel", 322, "chance", 22, 53), ("NoonMealsModel", 324, "need", 23, 54), ("NoonMealsModel", 346, "from", 24, 55), ("NoonMealsModel", 348, "starts", 25, 56), ("NoonMealsModel", 350, "holds", 26, 57), ("NoonMealsModel", 352, "cools", 27, 58), ("NoonMealsModel", 368, "takes", 28, 59), ("NoonMealsModel", 378, "days", 29, 60), ("NoonMealsModel", 380, "most", 30, 61)]
theorem xRf_tbl : ∀ q ∈ xStr, Cond.stringRef q.1 q.2.1 q.2.2.1 ∈ lw_tbl := (List.forall_mem_cons.mpr ⟨q560, (List.forall_mem_cons.mpr ⟨q618, (List.forall_mem_cons.mpr ⟨q687, (List.forall_mem_cons.mpr ⟨q696, (List.forall_mem_cons.mpr ⟨q697, (List.forall_mem_cons.mpr ⟨q698, (List.forall_mem_cons.mpr ⟨q699, (List.forall_mem_cons.mpr ⟨q700, (List.forall_mem_cons.mpr ⟨q701, (List.forall_mem_cons.mpr ⟨q702, (List.forall_mem_cons.mpr ⟨q703, (List.forall_mem_cons.mpr ⟨q708, (List.forall_mem_cons.mpr ⟨q729, (List.forall_mem_cons.mpr ⟨q744, (List.forall_mem_cons.mpr ⟨q745, (List.forall_mem_cons.mpr ⟨q779, (List.forall_mem_cons.mpr ⟨q780, (List.forall_mem_cons.mpr ⟨q802, (List.forall_mem_cons.mpr ⟨q835, (List.forall_mem_cons.mpr ⟨q853, (List.forall_mem_cons.mpr ⟨q895, (List.forall_mem_cons.mpr ⟨q896, (List.forall_mem_cons.mpr ⟨q897, (List.forall_mem_cons.mpr ⟨q898, (List.forall_mem_cons.mpr ⟨q899, (List.forall_mem_cons.mpr ⟨q937, (List.forall_mem_cons.mpr ⟨q938, (List.forall_mem_cons.mpr ⟨q939, (List.forall_mem_cons.mpr ⟨q940, (List.forall_mem_cons.mpr ⟨q962, (List.forall_mem_cons.mpr ⟨q984, (List.forall_mem_cons.mpr ⟨q988, (List.forall_mem_cons.mpr ⟨q1625, (List.forall_mem_cons.mpr ⟨q1643, (List.forall_mem_cons.mpr ⟨q1659, (List.forall_mem_cons.mpr ⟨q1660, (List.forall_mem_cons.mpr ⟨q1673, (List.forall_mem_cons.mpr ⟨q1674, (List.forall_mem_cons.mpr ⟨q1675, (List.forall_mem_cons.mpr ⟨q1676, (List.forall_mem_cons.mpr ⟨q1677, (List.forall_mem_cons.mpr ⟨q1678, (List.forall_mem_cons.mpr ⟨q1679, (List.forall_mem_cons.mpr ⟨q1680, (List.forall_mem_cons.mpr ⟨q1681, (List.forall_mem_cons.mpr ⟨q1686, (List.forall_mem_cons.mpr ⟨q1691, (List.forall_mem_cons.mpr ⟨q1696, (List.forall_mem_cons.mpr ⟨q1701, (List.forall_mem_cons.mpr ⟨q1706, (List.forall_mem_cons.mpr ⟨q1711, (List.forall_mem_cons.mpr ⟨q1716, (List.forall_mem_cons.mpr ⟨q1717, (List.forall_mem_cons.mpr ⟨q1718, (List.forall_mem_cons.mpr ⟨q1719, (List.forall_mem_cons.mpr ⟨q1728, (List.forall_mem_cons.mpr ⟨q1729, (List.forall_mem_cons.mpr ⟨q1730, (List.forall_mem_cons.mpr ⟨q1731, (List.forall_mem_cons.mpr ⟨q1736, (List.forall_mem_cons.mpr ⟨q1741, (List.forall_mem_cons.mpr ⟨q1746, (fun w h => absurd h List.not_mem_nil)⟩)⟩)⟩)⟩)⟩)⟩)⟩)⟩)⟩)⟩)⟩)⟩)⟩)⟩)⟩)⟩)⟩)⟩)⟩)⟩)⟩)⟩)⟩)⟩)⟩)⟩)⟩)⟩)⟩)⟩)⟩)⟩)⟩)⟩)⟩)⟩)⟩)⟩)⟩)⟩)⟩)⟩)⟩)⟩)⟩)⟩)⟩)⟩)⟩)⟩)⟩)⟩)⟩)⟩)⟩)⟩)⟩)⟩)⟩)⟩)⟩)⟩)
theorem xStr_ok : xStr.all (fun q => match xSm[q.2.2.2]? with
    | none => false
    | some e => decide ((e.1, e.2.1) = (q.1, q.2.1)) || xSe.any (fun e' => decide ((e'.1, e'.2.1) = (q.1, q.2.1)) && decide (e'.2.2.2.2.2 = some (e.1, e.2.1)))) = true := by decide +kernel
theorem x_refs {args : Array Value} {s : State} (hts0 : ∀ w ∈ lw_tbl, w.before args s = true) (hg : ∀ w ∈ xFl, w.before args s = true) {ad : Nat → Nat} (had : ∀ k e, xSm[k]? = some e → (xTm e).eval args s none [] s = some (.ref (ad k))) : ∀ q ∈ xStr, vk_R q.1 q.2.1 q.2.2.1 (ad q.2.2.2) s := by
  intro q hq
  refine vk_R.of (hts0 _ (xRf_tbl q hq)) ?_
  have h := List.all_eq_true.mp xStr_ok q hq
  split at h
  · cases h
  · rename_i e he
    have h0 := had _ e he
    rw [Bool.or_eq_true] at h
    rcases h with h | h
    · have h1 := of_decide_eq_true h
      have e1 : e.1 = q.1 := congrArg Prod.fst h1
      have e2 : e.2.1 = q.2.1 := congrArg Prod.snd h1
      rw [← e1, ← e2]
      exact h0
    · obtain ⟨e', he', h⟩ := List.any_eq_true.mp h
      rw [Bool.and_eq_true] at h
      have h1 := of_decide_eq_true h.1
      have h2 := of_decide_eq_true h.2
      have e1 : e'.1 = q.1 := congrArg Prod.fst h1
      have e2 : e'.2.1 = q.2.1 := congrArg Prod.snd h1
      have hw : (Cond.eq (.string e.1 e.2.1) (xTm e')).before args s = true := hg _ (xSe_in e' he' _ (by simp [xSw, h2]))
      have h3 := va_eqR hw h0
      rw [← e1, ← e2]
      exact h3
theorem x_Zw {C n d : String} {v : Value} {A B : Nat → Prop} {s : State} (h : va_Z C n d v A s s.heap) (hB : ∀ a : Nat, a < s.heap.size → ¬ B a) : va_Z C n d v B s s.heap := by
  obtain ⟨cf, kf, fi, f, a, cell, h1, h2, h3, h4, h5, h6, h7, -⟩ := h
  exact ⟨cf, kf, fi, f, a, cell, h1, h2, h3, h4, h5, h6, h7, hB a (Array.getElem?_eq_some_iff.mp h5).1⟩
theorem x_Lw {C n d : String} {A B : Nat → Prop} {s : State} (h : vx_L C n d A s s.heap) (hB : ∀ a : Nat, a < s.heap.size → ¬ B a) : vx_L C n d B s s.heap := by
  obtain ⟨c, k, i, f, a, cell, h1, h2, h3, h4, h5, h6, h7, h8, h9, -⟩ := h
  exact ⟨c, k, i, f, a, cell, h1, h2, h3, h4, h5, h6, h7, h8, h9, hB a (Array.getElem?_eq_some_iff.mp h5).1⟩
theorem x_stat {args : Array Value} {s : State} (hts0 : ∀ w ∈ lw_tbl, w.before args s = true) (hg : ∀ w ∈ xFl, w.before args s = true) : ∃ sr : Nat → Option Nat, ∀ (A : Nat → Prop), (∀ a : Nat, a < s.heap.size → ¬ A a) → ∀ ad : Nat → Nat, ZX (ad, sr) A s s.heap := by
  have r0 : (Cond.isRef (.static "java/lang/Throwable" "UNASSIGNED_STACK" "[Ljava/lang/StackTraceElement;")).before args s = true := hg _ (List.mem_of_getElem? (i := 4) (by decide +kernel))
  have z0 : ∃ r : Option Nat, ∀ A : Nat → Prop, (∀ a : Nat, a < s.heap.size → ¬ A a) → va_Z "java/lang/Throwable" "UNASSIGNED_STACK" "[Ljava/lang/StackTraceElement;" (va_rf r) A s s.heap ∧ vx_L "java/lang/Throwable" "UNASSIGNED_STACK" "[Ljava/lang/StackTraceElement;" A s s.heap := by
    have hz := vx_Zqof (A := fun _ => False) (hts0 _ q159) (hts0 _ (lw_all_tbl q94)) r0 (fun _ _ h => h)
    rcases hz.1 with h | ⟨t, h⟩
    · exact ⟨none, fun A hA => ⟨x_Zw h hA, x_Lw hz.2 hA⟩⟩
    · exact ⟨some t, fun A hA => ⟨x_Zw h hA, x_Lw hz.2 hA⟩⟩
  obtain ⟨s0, z0⟩ := z0
  have r1 : (Cond.isRef (.static "java/lang/Throwable" "SUPPRESSED_SENTINEL" "Ljava/util/List;")).before args s = true := hg _ (List.mem_of_getElem? (i := 5) (by decide +kernel))
  have z1 : ∃ r : Option Nat, ∀ A : Nat → Prop, (∀ a : Nat, a < s.heap.size → ¬ A a) → va_Z "java/lang/Throwable" "SUPPRESSED_SENTINEL" "Ljava/util/List;" (va_rf r) A s s.heap ∧ vx_L "java/lang/Throwable" "SUPPRESSED_SENTINEL" "Ljava/util/List;" A s s.heap := by
    have hz := vx_Zqof (A := fun _ => False) (hts0 _ q161) (hts0 _ (lw_all_tbl q94)) r1 (fun _ _ h => h)
    rcases hz.1 with h | ⟨t, h⟩
    · exact ⟨none, fun A hA => ⟨x_Zw h hA, x_Lw hz.2 hA⟩⟩
    · exact ⟨some t, fun A hA => ⟨x_Zw h hA, x_Lw hz.2 hA⟩⟩
  obtain ⟨s1, z1⟩ := z1
  have r2 : (Cond.isRef (.static "jdk/internal/util/Preconditions" "SIOOBE_FORMATTER" "Ljava/util/function/BiFunction;")).before args s = true := hg _ (List.mem_of_getElem? (i := 6) (by decide +kernel))
  have z2 : ∃ r : Option Nat, ∀ A : Nat → Prop, (∀ a : Nat, a < s.heap.size → ¬ A a) → va_Z "jdk/internal/util/Preconditions" "SIOOBE_FORMATTER" "Ljava/util/function/BiFunction;" (va_rf r) A s s.heap ∧ vx_L "jdk/internal/util/Preconditions" "SIOOBE_FORMATTER" "Ljava/util/function/BiFunction;" A s s.heap := by
    have hz := vx_Zqof (A := fun _ => False) (hts0 _ q552) (hts0 _ (lw_all_tbl q102)) r2 (fun _ _ h => h)
    rcases hz.1 with h | ⟨t, h⟩
    · exact ⟨none, fun A hA => ⟨x_Zw h hA, x_Lw hz.2 hA⟩⟩
    · exact ⟨some t, fun A hA => ⟨x_Zw h hA, x_Lw hz.2 hA⟩⟩
  obtain ⟨s2, z2⟩ := z2
  refine ⟨fun k => if k = 0 then s0 else if k = 1 then s1 else s2, fun A hA ad => ⟨?_, ?_⟩⟩
  · exact (List.forall_mem_cons.mpr ⟨va_Zof (hts0 _ q562) (hts0 _ (lw_all_tbl q101)) (va_eqi (hg _ (List.mem_of_getElem? (i := 7) (by decide +kernel)))) hA, (List.forall_mem_cons.mpr ⟨va_Zof (hts0 _ q583) (hts0 _ (lw_all_tbl q103)) (va_eqi (hg _ (List.mem_of_getElem? (i := 8) (by decide +kernel)))) hA, (List.forall_mem_cons.mpr ⟨va_Zof (hts0 _ q588) (hts0 _ (lw_all_tbl q103)) (va_eqi (hg _ (List.mem_of_getElem? (i := 9) (by decide +kernel)))) hA, (List.forall_mem_cons.mpr ⟨va_Zof (hts0 _ q590) (hts0 _ (lw_all_tbl q103)) (va_eqi (hg _ (List.mem_of_getElem? (i := 10) (by decide +kernel)))) hA, (fun q h => absurd h List.not_mem_nil)⟩)⟩)⟩)⟩)
  · exact List.forall_mem_cons.mpr ⟨z0 A hA, List.forall_mem_cons.mpr ⟨z1 A hA, List.forall_mem_cons.mpr ⟨z2 A hA, fun q h => absurd h List.not_mem_nil⟩⟩⟩
