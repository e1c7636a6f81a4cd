theorem fdB_app {l1 l2 : List Int32} : ∀ {T : Nat → Int32} {t : Nat}, fdB T t (l1 ++ l2) = fdB (fdB T t l1) (t + l1.length) l2 := by
  induction l1 with
  | nil => intro T t; rfl
  | cons v r ih =>
    intro T t
    rw [List.cons_append, fdB_cons, fdB_cons, ih, List.length_cons, show t + 1 + r.length = t + (r.length + 1) by omega]
def wdM (a b c d e : Int32) (k : Nat) : Int32 := if 4 ≤ k then if 8 ≤ k then if 12 ≤ k then if 16 ≤ k then e else d else c else b else a
def shm (k : Nat) : Int32 := (24 : Int32) - ((8 : Int32) * (nI k - nI k / (4 : Int32) * (4 : Int32)))
def mbl (a b c d e : Int32) : Nat → Nat → List Int32
  | _, 0 => []
  | k, m + 1 => bt1 (wdM a b c d e k) (shm k) :: mbl a b c d e (k + 1) m
theorem qm_feed76 {h : Hp} {N t : Nat} (S : SM h N) (et : gI h N 6 = nI t) (ht : t < 900) {K : Int32 → Int32 → Int32 → Int32 → Int32 → Int32 → Hp → Option (Int32 × Hp)} {a b c d e w : Int32} {k : Nat} : fX5_feed_b76 N K a b c d e (nI k) w h = K a b c d e (nI (k + 1)) (sI (sA h (N + 1) t (bt1 w (shm k))) N 6 (nI (t + 1))) := by
  have f1 : Fr N (N + 21) h (sA h (N + 1) t (bt1 w (shm k))) := Fr.sA (by omega) (by omega)
  have S1 := S.kept f1.1
  obtain ⟨hz, hfu0, o0, o1, r0_5, o2, r0_17, o3, r0_18, o4, r0_22, o5, r0_23, o6, r0_26, o7, r0_28, o8, r0_29, o9, r0_30, o10, r0_31, o11, r0_32, o12, r0_35, o13, r0_36, o14, r0_38, o15, r0_39, o16, r0_40, o17, r0_41, o18, r0_43, o19, r0_44, o20, r0_45⟩ := id S
  have hs := ab_sBq (v := (w >>> (shm k &&& 31)).toInt8.toInt32) o1 (show hfz h ≤ N + 1 by omega) (ixN (show t < 900 by omega) (by decide))
  rw [nI_clamp (show t < 2 ^ 31 by omega)] at hs
  have hs : ab_sB h (N + 1) (nI t) (w >>> (((24 : Int32) - ((8 : Int32) * (nI k - nI k / (4 : Int32) * (4 : Int32)))) &&& 31)).toInt8.toInt32 = some (sA h (N + 1) t (bt1 w (shm k))) := hs
  simp only [fX5_feed_b76, g4_5 o0, r0_5, g4_6 o0, et, bdS, b2S, bxL, bxR, onN, onS, hs, g4_6 S1.o, gI_sA, nI_1, ab_pIq S1.o S1.1]
theorem le4 (n k : Nat) (hn : n < 2 ^ 31) (hk : k < 2 ^ 31) : (nI n ≤ nI k) ↔ n ≤ k := nI_leI hn hk
theorem qm_feedL {N : Nat} {a b c d e : Int32} : ∀ (m k n t : Nat) (h : Hp), SM h N → gI h N 6 = nI t → k + m = 20 → t + m ≤ 900 → m < n → ∃ h', fX5_feed_l23 N n a b c d e (nI k) h = some (nI (t + m), h') ∧ Fr N (N + 21) h h' ∧ (∀ q, q ≠ N → q ≠ N + 1 → h'.1 q = h.1 q) ∧ (∀ j, j ≠ 6 → gI h' N j = gI h N j) ∧ gI h' N 6 = nI (t + m) ∧ aF h' (N + 1) = fdB (aF h (N + 1)) t (mbl a b c d e k m) := by
  intro m
  induction m with
  | zero =>
    intro k n t h S et hk ht hn
    cases n with
    | zero => omega
    | succ n =>
      refine ⟨h, ?_, Fr.rf, fun _ _ _ => rfl, fun _ _ => rfl, et, by rw [mbl, fdB]⟩
      simp only [fX5_feed_l23, show (20 : Int32) ≤ nI k from nI_le (a := 20) (by omega) (by omega), if_true, g4_6 S.o, et, bdS, b2S, bxL, bxR, onN, onS, Nat.add_zero]
  | succ m ih =>
    intro k n t h S et hk ht hn
    cases n with
    | zero => omega
    | succ n =>
      have f1 : Fr N (N + 21) h (sA h (N + 1) t (bt1 (wdM a b c d e k) (shm k))) := Fr.sA (by omega) (by omega)
      have S1 := S.kept f1.1
      have f2 : Fr N (N + 21) (sA h (N + 1) t (bt1 (wdM a b c d e k) (shm k))) (sI (sA h (N + 1) t (bt1 (wdM a b c d e k) (shm k))) N 6 (nI (t + 1))) := Fr.sI S1.o rfl (by omega) (by omega)
      have S2 := S1.kept f2.1
      have o1 : isA h (N + 1) 1 900 := by
        obtain ⟨hz, hfu0, o0, o1, r0_5, o2, r0_17, o3, r0_18, o4, r0_22, o5, r0_23, o6, r0_26, o7, r0_28, o8, r0_29, o9, r0_30, o10, r0_31, o11, r0_32, o12, r0_35, o13, r0_36, o14, r0_38, o15, r0_39, o16, r0_40, o17, r0_41, o18, r0_43, o19, r0_44, o20, r0_45⟩ := id S
        exact o1
      obtain ⟨h', q1, q2, q3, q4, q5, q6⟩ := ih (k + 1) n (t + 1) _ S2 (by rw [gI_sI S1.o, if_pos ⟨rfl, rfl⟩]) (by omega) (by omega) (by omega)
      refine ⟨h', ?_, (f1.trans f2).trans q2, fun q h1 h2 => (q3 q h1 h2).trans ((sV_o h1).trans (sA_o h2)), fun j hj => (q4 j hj).trans (by rw [gI_sI S1.o, if_neg (by omega), gI_sA]), by rw [q5]; congr 1; omega, ?_⟩
      · have hb := fun w => qm_feed76 S et (show t < 900 by omega) (K := fX5_feed_l23 N n) (a := a) (b := b) (c := c) (d := d) (e := e) (w := w) (k := k)
        rw [show t + (m + 1) = t + 1 + m by omega, ← q1]
        simp only [fX5_feed_l23, show ¬ (20 : Int32) ≤ nI k from nI_ge (b := 20) (by omega) (by decide), if_false, hb, show ((4 : Int32) ≤ nI k) = (4 ≤ k) from propext (le4 4 k (by decide) (by omega)), show ((8 : Int32) ≤ nI k) = (8 ≤ k) from propext (le4 8 k (by decide) (by omega)), show ((12 : Int32) ≤ nI k) = (12 ≤ k) from propext (le4 12 k (by decide) (by omega)), show ((16 : Int32) ≤ nI k) = (16 ≤ k) from propext (le4 16 k (by decide) (by omega)), wdM]
        by_cases h1 : 4 ≤ k
        · by_cases h2 : 8 ≤ k
          · by_cases h3 : 12 ≤ k
            · by_cases h4 : 16 ≤ k
              · simp only [h1, h2, h3, h4, if_true]
              · simp only [h1, h2, h3, h4, if_true, if_false]
            · simp only [h1, h2, h3, if_true, if_false]
          · simp only [h1, h2, if_true, if_false]
        · simp only [h1, if_false]
      · rw [q6, aF_sI, aF_sA o1, if_pos rfl, mbl, fdB_cons]
