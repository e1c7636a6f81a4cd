set_option maxRecDepth 100000
/-! THE START, 2: the abstract heap that stands for the law's entry -/
def xInit (h : Hp) (b L : Nat) (xs : Nat → Int32) : Prop := ∃ adV : Nat → Nat, hbc h = 1200128 ∧ hbs h = 5501098 ∧ hfu h = 300000 ∧ hfz h = hsz h ∧ h.1 b = some (.inr (0, L, .inl xs)) ∧ (∀ k e, xSm[k]? = some e → h.1 (hstr h k) = some (.inl (14, xSF (adV k) e.2.2.2.1 e.2.2.2.2.1)) ∧ h.1 (adV k) = some (.inr (1, e.2.2.1.length, .inl (xSb e.2.2.1)))) ∧ ∀ q, hsz h ≤ q → h.1 q = none
def xH0 (N b L : Nat) (xs : Nat → Int32) (adK adV : Nat → Nat) (sr : Nat → Option Nat) : Hp := (xLook (xCe b L xs adK adV), N, 1200128, 5501098, (fun k => if k = 1000 then 300000 else if k = 1001 then N else adK k), sr)
theorem xSm_len : ∀ e ∈ xSm, e.2.2.1.length < 2 ^ 31 := fun e h => of_decide_eq_true (List.all_eq_true.mp (show xSm.all (fun e => decide (e.2.2.1.length < 2 ^ 31)) = true from by decide +kernel) e h)
theorem xSm_lt {k : Nat} {e : xSt} (h : xSm[k]? = some e) : k < 31 := by
  have h1 := (List.getElem?_eq_some_iff.mp h).1
  have h2 : xSm.length = 31 := by decide +kernel
  omega
theorem xCe_mem {b L : Nat} {xs : Nat → Int32} {adK adV : Nat → Nat} {k : Nat} {e : xSt} (h : xSm[k]? = some e) : (adK k, (.inl (14, xSF (adV k) e.2.2.2.1 e.2.2.2.2.1) : Ob)) ∈ xCe b L xs adK adV ∧ (adV k, (.inr (1, e.2.2.1.length, .inl (xSb e.2.2.1)) : Ob)) ∈ xCe b L xs adK adV := by
  have h1 : (e, k) ∈ xSm.zipIdx := List.mk_mem_zipIdx_iff_getElem?.mpr h
  exact ⟨List.mem_cons_of_mem _ (List.mem_flatMap.mpr ⟨_, h1, List.mem_cons_self⟩), List.mem_cons_of_mem _ (List.mem_flatMap.mpr ⟨_, h1, List.mem_cons_of_mem _ List.mem_cons_self⟩)⟩
theorem x_begin {args : Array Value} {s : State} {b L : Nat} {xs : Nat → Int32} (hts0 : ∀ w ∈ lw_tbl, w.before args s = true) (hg : ∀ w ∈ xFl, w.before args s = true) (hX : va_X b L xs s s.heap) :
    ∃ (D : Dd) (h : Hp), xInit h b L xs ∧ HP D h s s.heap ∧ KX D (hco h) s ∧ ZX (hco h) (XA h) s s.heap ∧ (∀ q, XA h q → s.heap.size ≤ q) ∧ hbc h = 1200128 ∧ hbs h = 5501098 ∧ s.heap.size = hsz h := by
  obtain ⟨D, hK⟩ := x_classes hts0
  obtain ⟨sr, hsr⟩ := x_stat hts0 hg
  have hst : ∀ k : Nat, ∃ z : Nat × Nat, ∀ e, xSm[k]? = some e → (xTm e).eval args s none [] s = some (.ref z.1) ∧ hat D s.heap.size s z.1 (.inl (14, xSF z.2 e.2.2.2.1 e.2.2.2.2.1)) s.heap ∧ hat D s.heap.size s z.2 (.inr (1, e.2.2.1.length, .inl (xSb e.2.2.1))) s.heap := by
    intro k
    cases hk : xSm[k]? with
    | none => exact ⟨(0, 0), fun e h => by cases h⟩
    | some e =>
      have hm : e ∈ xSm := List.mem_of_getElem? hk
      obtain ⟨a, v, h1, h2, h3⟩ := x_str hK e (fun w hw => hg w (xSe_in e (xSm_in e hm) w hw)) (xSm_len e hm)
      exact ⟨(a, v), fun e' he => by cases he; exact ⟨h1, h2 _ (Nat.le_refl _), h3 _ (Nat.le_refl _)⟩⟩
  obtain ⟨z, hz⟩ := Classical.axiomOfChoice hst
  have hh : ∀ e ∈ xCe b L xs (fun k => (z k).1) (fun k => (z k).2), hat D s.heap.size s e.1 e.2 s.heap := by
    intro e he
    rcases List.mem_cons.mp he with rfl | he
    · obtain ⟨scr, c1, c2, c3, c4, c5⟩ := hX
      have hlt := (Array.getElem?_eq_some_iff.mp c1).1
      exact ⟨fun hz => absurd hz (Nat.not_le.mpr hlt), scr, .int, c1, rfl, c2, c3, ⟨Nat.le_of_eq c4.symm, congrArg Nat.toInt32 c4⟩, c5⟩
    · obtain ⟨p, hp, he⟩ := List.mem_flatMap.mp he
      have hk : xSm[p.2]? = some p.1 := List.mk_mem_zipIdx_iff_getElem?.mp hp
      have h1 := hz p.2 _ hk
      simp only [List.mem_cons, List.not_mem_nil, or_false] at he
      rcases he with rfl | rfl
      · exact h1.2.1
      · exact h1.2.2
  have hsame := xCe_same hK hh
  have hsome : ∀ (q : Nat) (o : Ob), xLook (xCe b L xs (fun k => (z k).1) (fun k => (z k).2)) q = some o → hat D s.heap.size s q o s.heap := fun q o h => hh _ (xLook_some h)
  have hnone : ∀ q, s.heap.size ≤ q → xLook (xCe b L xs (fun k => (z k).1) (fun k => (z k).2)) q = none := by
    intro q hq
    cases h : xLook (xCe b L xs (fun k => (z k).1) (fun k => (z k).2)) q with
    | none => rfl
    | some o => exact absurd (hsome q o h).lt (Nat.not_lt.mpr hq)
  have hA : ∀ q, XA (xH0 s.heap.size b L xs (fun k => (z k).1) (fun k => (z k).2) sr) q → s.heap.size ≤ q := by
    intro q hq
    rcases hq with hq | hq
    · exact hq.2
    · exact hq
  have hco1 : ∀ k e, xSm[k]? = some e → (fun k => if k = 1000 then 300000 else if k = 1001 then s.heap.size else (z k).1) k = (z k).1 := by
    intro k e hk
    have h1 := xSm_lt hk
    show (if k = 1000 then 300000 else if k = 1001 then s.heap.size else (z k).1) = (z k).1
    rw [if_neg (by omega), if_neg (by omega)]
  refine ⟨D, xH0 s.heap.size b L xs (fun k => (z k).1) (fun k => (z k).2) sr, ⟨fun k => (z k).2, rfl, rfl, rfl, rfl, xLook_of hsame List.mem_cons_self, fun k e hk => ?_, hnone⟩, ⟨hsome, rfl⟩, ⟨hK, fun w hw => ?_, x_nc hg, x_refs hts0 hg fun k e hk => ?_, x_ao hts0⟩, hsr _ (fun a ha hq => absurd (hA a hq) (Nat.not_le.mpr ha)) _, hA, rfl, rfl, rfl⟩
  · refine ⟨?_, xLook_of hsame (xCe_mem hk).2⟩
    show xLook _ ((fun k => if k = 1000 then 300000 else if k = 1001 then s.heap.size else (z k).1) k) = _
    rw [hco1 k e hk]
    exact xLook_of hsame (xCe_mem (adK := fun k => (z k).1) hk).1
  · have hw1 : w.onTables = true := List.all_eq_true.mp (show xWd.all (fun w => w.onTables) = true from by decide +kernel) w hw
    exact va_Nw.of hw1 (hts0 w (xWd_tbl w hw))
  · show _ = some (Value.ref ((fun k => if k = 1000 then 300000 else if k = 1001 then s.heap.size else (z k).1) k))
    rw [hco1 k e hk]
    exact (hz k e hk).1
