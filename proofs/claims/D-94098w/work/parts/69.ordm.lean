/-! the model's k-th order of a set -/
theorem pmF_mem : ∀ (n : Nat) (l : List Nat), l.length = n → l.Nodup → ∀ p ∈ pmF n l, p.length = n ∧ p.Nodup ∧ ∀ x ∈ p, x ∈ l := by
  intro n
  induction n with
  | zero => intro l _ _ p hp; rw [pmF, List.mem_singleton] at hp; subst hp; exact ⟨rfl, List.nodup_nil, fun x h => absurd h List.not_mem_nil⟩
  | succ n ih =>
    intro l hl hnd p hp
    rw [pmF, List.mem_flatMap] at hp
    obtain ⟨x, hx, hp⟩ := hp
    obtain ⟨t, ht, rfl⟩ := List.mem_map.mp hp
    obtain ⟨a1, a2, a3⟩ := ih (l.erase x) (by rw [List.length_erase_of_mem hx, hl]; rfl) (hnd.erase x) t ht
    refine ⟨by rw [List.length_cons, a1], List.nodup_cons.mpr ⟨fun h => ?_, a2⟩, fun z hz => ?_⟩
    · have := a3 x h
      rw [List.Nodup.mem_erase_iff hnd] at this
      exact this.1 rfl
    · rcases List.mem_cons.mp hz with rfl | hz
      · exact hx
      · exact List.mem_of_mem_erase (a3 z hz)
theorem els_nd : ∀ s, (els s).Nodup := fun s => List.Nodup.sublist List.filter_sublist List.nodup_range
theorem pmF_get {m : Nat} {l : List Nat} (hl : l.length = m + 1) {q r : Nat} (hq : q < m + 1) (hr : r < fac m) : (pmF (m + 1) l).getD (q * fac m + r) [] = l.getD q 0 :: (pmF m (l.erase (l.getD q 0))).getD r [] := by
  have h := flat_get (f := fun x => (pmF m (l.erase x)).map (x :: ·)) (c := fac m) l (fun x hx => by
    rw [List.length_map, pmF_len m _ (by rw [List.length_erase_of_mem hx, hl]; rfl)]) q r (by omega) hr
  have hx : l.getD q 0 = l[q] := by rw [List.getD_eq_getElem?_getD, List.getElem?_eq_getElem (show q < l.length by omega)]; rfl
  have hmem : l[q] ∈ l := List.getElem_mem _
  have hlen : (pmF m (l.erase l[q])).length = fac m := pmF_len m _ (by rw [List.length_erase_of_mem hmem, hl]; rfl)
  rw [List.getD_eq_getElem?_getD, pmF, h, hx]
  simp only [List.getElem?_map]
  rw [List.getD_eq_getElem?_getD, List.getElem?_eq_getElem (show r < (pmF m (l.erase l[q])).length by omega)]
  rfl
abbrev Aq (a : Nat) : Nat → Prop := fun q => q = a
abbrev B0 : Nat → Prop := fun _ => False
theorem qm_pick {N p : Nat} {h : Hp} (S : SM h N) (hp : p < 6) {R : Nat} (hR : R < 64) {K : Int32 → Int32 → Int32 → Int32 → Hp → Option Hp} {l3 l5 : Int32} : ∀ (d v s n : Nat), v + d = 6 → s < ((els R).filter (fun z => decide (v ≤ z))).length → d < n → fX5_ordered_l60 N K n l3 (nI R) l5 (nI p) (nI s) (nI v) h = K l3 (nI (R - 2 ^ (((els R).filter (fun z => decide (v ≤ z))).getD s 0))) l5 (nI (p + 1)) (sA h (N + 4) p (nI (((els R).filter (fun z => decide (v ≤ z))).getD s 0))) := by
  intro d
  induction d with
  | zero =>
    intro v s n hv hs hn
    rw [fil_end (fun x hx => by have := els_lt R hR x hx; omega)] at hs
    exact absurd hs (Nat.not_lt_zero _)
  | succ d ih =>
    intro v s n hv hs hn
    cases n with
    | zero => omega
    | succ n =>
      have hv6 : v < 6 := by omega
      rw [els_fil R hR v hv6] at hs ⊢
      have hh := qm_has (nI R) v h
      rw [els_lie R hR v hv6] at hh
      by_cases hm : v ∈ els R
      · rw [if_pos hm] at hs ⊢
        cases s with
        | zero =>
          obtain ⟨w1, w2, w3⟩ := els_wo R hR v hv6 hm
          have hz := S.1
          obtain ⟨hz, hfu0, o0, o1, r0_5, o2, r0_17, o3, r0_18, o4, r0_22, o5, r0_23, o6, r0_26, o7, r0_28, o8, r0_29, o9, r0_30, o10, r0_31, o11, r0_32, o12, r0_35, o13, r0_36, o14, r0_38, o15, r0_39, o16, r0_40, o17, r0_41, o18, r0_43, o19, r0_44, o20, r0_45⟩ := id S
          simp only [fX5_ordered_l60, hh, hm, decide_true, if_true, bdS, b2S, bxL, bxR, onN, onS, show ¬ ((1 : Int32) = 0) from by decide, if_false, show nI 0 ≤ 0 from by decide +kernel, g4_22 o0, r0_22, sIn o4 (show hfz h ≤ N + 4 by omega) hp, w1, nI_1]
          rfl
        | succ s =>
          have hs' : s < ((els R).filter (fun z => decide (v + 1 ≤ z))).length := by
            rw [List.length_cons] at hs; omega
          have hle : s < 6 := by
            have h1 := List.length_filter_le (fun z => decide (v + 1 ≤ z)) (els R)
            have h2 := els_len R hR
            have h3 := pc_le R hR
            omega
          have := ih (v + 1) s n (by omega) hs' (by omega)
          simp only [fX5_ordered_l60, fX5_ordered_b75, hh, hm, decide_true, if_true, bdS, b2S, bxL, bxR, onN, onS, show ¬ ((1 : Int32) = 0) from by decide, if_false, show ¬ nI (s + 1) ≤ 0 from nI_nle (by omega) (by omega), nI_pred, nI_1, this]
          rfl
      · rw [if_neg hm] at hs ⊢
        have := ih (v + 1) s n (by omega) hs (by omega)
        simp only [fX5_ordered_l60, fX5_ordered_b75, hh, hm, decide_false, Bool.false_eq_true, if_false, bdS, b2S, bxL, bxR, onN, onS, if_true, Int32.sub_zero, nI_1, this]
theorem qm_ordL {N : Nat} : ∀ (m p R k n : Nat) (pre : List Nat) (h : Hp), SM h N → gI h N 20 = nI (p + m) → pre.length = p → (∀ j, j < p → aF h (N + 4) j = nI (pre.getD j 0)) → R < 64 → pc R = m → k < fac m → p + m ≤ 6 → m < n → ∃ h', fX5_ordered_l25 N n (nI k) (nI R) (nI (fac m)) (nI p) h = some h' ∧ Fw N (Aq (N + 4)) B0 h h' ∧ ∀ j, j < p + m → aF h' (N + 4) j = nI ((pre ++ (pmF m (els R)).getD k []).getD j 0) := by
  intro m
  induction m with
  | zero =>
    intro p R k n pre h S e20 hpl ha hR hpc hk hpm hn
    cases n with
    | zero => omega
    | succ n =>
      refine ⟨h, ?_, Fw.rf, fun j hj => ?_⟩
      · simp only [fX5_ordered_l25, g4_20 S.o, e20, bdS, b2S, bxL, bxR, onN, onS, Nat.add_zero, Int32.le_refl, if_true]
      · have : k = 0 := by have : fac 0 = 1 := rfl; omega
        subst this
        rw [ha j (by omega), List.getD_eq_getElem?_getD, List.getD_eq_getElem?_getD, List.getElem?_append_left (by omega)]
  | succ m ih =>
    intro p R k n pre h S e20 hpl ha hR hpc hk hpm hn
    cases n with
    | zero => omega
    | succ n =>
      obtain ⟨f1, f2⟩ := fac_le m (by omega)
      obtain ⟨g1, g2⟩ := fac_le (m + 1) (by omega)
      have hfs : fac (m + 1) = (m + 1) * fac m := rfl
      have hq : k / fac m < m + 1 := Nat.div_lt_of_lt_mul (by rw [Nat.mul_comm, ← hfs]; exact hk)
      have hr : k % fac m < fac m := Nat.mod_lt _ f2
      have hkq : k / fac m * fac m + k % fac m = k := by rw [Nat.mul_comm]; exact Nat.div_add_mod k (fac m)
      have hel := els_len R hR
      have hx : (els R).getD (k / fac m) 0 ∈ els R := getD_mem (by omega)
      have hx6 := els_lt R hR _ hx
      obtain ⟨w1, w2, w3⟩ := els_wo R hR _ hx6 hx
      have w4 := els_wo2 R hR _ hx6 hx
      have fw : Fw N (Aq (N + 4)) B0 h (sA h (N + 4) p (nI ((els R).getD (k / fac m) 0))) := Fw.sA rfl
      have S1 := S.kept fw.1
      have o4 : isA h (N + 4) 0 6 := by
        obtain ⟨hz, hfu0, o0, o1, r0_5, o2, r0_17, o3, r0_18, o4, r0_22, o5, r0_23, o6, r0_26, o7, r0_28, o8, r0_29, o9, r0_30, o10, r0_31, o11, r0_32, o12, r0_35, o13, r0_36, o14, r0_38, o15, r0_39, o16, r0_40, o17, r0_41, o18, r0_43, o19, r0_44, o20, r0_45⟩ := id S
        exact o4
      obtain ⟨h', q1, q2, q3⟩ := ih (p + 1) (R - 2 ^ (els R).getD (k / fac m) 0) (k % fac m) n (pre ++ [(els R).getD (k / fac m) 0]) _ S1 (by rw [gI_sA, e20]; congr 1; omega) (by rw [List.length_append, hpl]; rfl) (fun j hj => by
        rw [aF_sA o4, if_pos rfl]
        by_cases e : j = p
        · subst e; rw [← hpl, getD_app_e]; simp [upd]
        · rw [getD_app_l (by omega)]
          simp only [upd, e, if_false]
          exact ha j (by omega)) (Nat.lt_of_le_of_lt (Nat.sub_le _ _) hR) (by omega) hr (by omega) (by omega)
      refine ⟨h', ?_, fw.trans q2, fun j hj => ?_⟩
      · have hp := qm_pick S (show p < 6 by omega) hR (K := fX5_ordered_l25 N n) (l3 := nI (k % fac m)) (l5 := nI (fac m)) 6 0 (k / fac m) 300000 (by omega) (by rw [fil_0]; omega) (by omega)
        rw [fil_0] at hp
        rw [q1, nI_0] at hp
        have e1 : nI (p + (m + 1)) - nI p = nI (m + 1) := by rw [nI_sb (by omega)]; congr 1; omega
        have e2 : nI (fac (m + 1)) / nI (m + 1) = nI (fac m) := by rw [nI_div (by omega) (by omega), hfs, Nat.mul_div_cancel_left _ (by omega)]
        have e3 : nI k / nI (fac m) = nI (k / fac m) := nI_div (by omega) (by omega)
        have e4 : nI k - nI (k / fac m) * nI (fac m) = nI (k % fac m) := by rw [nI_mul, nI_sb (by omega)]; congr 1; omega
        simp only [fX5_ordered_l25, g4_20 S.o, e20, bdS, b2S, bxL, bxR, onN, onS, nI_ge (show p < p + (m + 1) by omega) (by omega), if_false, e1, e2, ab_nz, nI_z (show m + 1 < 2 ^ 31 by omega), nI_z (show fac m < 2 ^ 31 by omega), show ¬ m + 1 = 0 by omega, show ¬ fac m = 0 by omega, e3, e4, S.f, hp]
      · rw [q3 j (by omega)]
        have := pmF_get (l := els R) (m := m) (by omega) hq hr
        rw [hkq] at this
        rw [this, w3]
        simp
theorem qm_ordered {N S k : Nat} {h : Hp} (Z : SM h N) (hS : S < 64) (hk : k < fac (pc S)) : ∃ h', fX5_ordered N (nI S) (nI k) h = some h' ∧ Fw N (Aq (N + 4)) (Aq 20) h h' ∧ ML h' N ((pmF (pc S) (els S)).getD k []) := by
  have hp6 := pc_le S hS
  have f1 : Fw N (Aq (N + 4)) (Aq 20) h (sI h N 20 (nI (pc S))) := Fw.sI Z.o rfl rfl
  have Z1 := Z.kept f1.1
  have e20 : gI (sI h N 20 (nI (pc S))) N 20 = nI (pc S) := by rw [gI_sI Z.o, if_pos ⟨rfl, rfl⟩]
  obtain ⟨h', q1, q2, q3⟩ := qm_ordL (N := N) (pc S) 0 S k 300000 [] _ Z1 (by rw [e20, Nat.zero_add]) rfl (fun j hj => absurd hj (Nat.not_lt_zero j)) hS rfl hk (by omega) (by omega)
  have hlen : ((pmF (pc S) (els S)).getD k []).length = pc S := (pmF_mem (pc S) (els S) (els_len S hS) (els_nd S) _ (getD_mem (by rw [pmF_len _ _ (els_len S hS)]; exact hk))).1
  refine ⟨h', ?_, f1.trans (q2.wide (fun _ z => z) (fun _ z => z.elim)), ?_, ?_, by omega⟩
  · rw [nI_0] at q1
    simp only [fX5_ordered, ab_ckq Z.o, qm_bits Z.f hS, bdS, b2S, bxL, bxR, onN, onS, ab_pIq Z.o Z.1, g4_20 Z1.o, e20, qm_fac Z1.f hp6, Z1.f, q1]
  · rw [q2.2.2 20 (fun z => z), e20, hlen]
  · intro j hj
    rw [hlen] at hj
    exact q3 j (by omega)
