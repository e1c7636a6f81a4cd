/-! feed: bytes on the tape -/
def fdB (T : Nat → Int32) : Nat → List Int32 → (Nat → Int32)
  | _, [] => T
  | t, v :: r => fdB (upd T t v) (t + 1) r
def shv (m : Nat) : Int32 := match m with
  | 0 => -8
  | m + 1 => nI (8 * m)
def bt1 (w k : Int32) : Int32 := vp_nar .byte (w >>> (k &&& 31)).toInt8.toInt32
def blm (w : Int32) : Nat → List Int32
  | 0 => []
  | m + 1 => bt1 w (shv (m + 1)) :: blm w m
theorem shv_s : ∀ m, m < 4 → shv (m + 1) + (-8 : Int32) = shv m ∧ ¬ shv (m + 1) < 0 := by decide +kernel
theorem fdB_cons {T : Nat → Int32} {t : Nat} {v : Int32} {r : List Int32} : fdB T t (v :: r) = fdB (upd T t v) (t + 1) r := by
  rw [fdB]
theorem qx_bytesL {N : Nat} {w : Int32} : ∀ (m n t : Nat) (h : Hp), SX h N → gI h N 1 = nI t → m ≤ 4 → t + m ≤ 900 → m < n → ∃ h', fX1_bytes_l3 N n w (shv m) h = some h' ∧ Fr N (N + 41) h h' ∧ (∀ q, q ≠ N → q ≠ N + 1 → h'.1 q = h.1 q) ∧ (∀ k, k ≠ 1 → gI h' N k = gI h N k) ∧ gI h' N 1 = nI (t + m) ∧ aF h' (N + 1) = fdB (aF h (N + 1)) t (blm w m) := by
  intro m
  induction m with
  | zero =>
    intro n t h S et hm ht hn
    cases n with
    | zero => omega
    | succ n =>
      refine ⟨h, ?_, Fr.rf, fun _ _ _ => rfl, fun _ _ => rfl, et, by rw [blm, fdB]⟩
      simp only [fX1_bytes_l3, show shv 0 < 0 from by decide, if_true]
  | succ m ih =>
    intro n t h S et hm ht hn
    cases n with
    | zero => omega
    | succ n =>
      obtain ⟨s1, s2⟩ := shv_s m (by omega)
      obtain ⟨hz, hfu0, o0, o1, r0_0, o2, r0_2, o3, r2_0, r2_1, o4, r2_2, o5, r0_8, o6, o7, o8, r6_0, r6_1, o9, o10, o11, r9_0, r9_1, o32, o33, o34, r32_0, r32_1, o35, o36, o37, r35_0, r35_1, o38, o39, o40, r38_0, r38_1, r0_9, r0_10, o12, r0_12, o13, r0_13, o14, r0_14, o15, r0_15, o16, r0_18, o17, r0_19, o18, r0_20, o19, r0_22, o20, r0_23, o21, r0_24, o22, r0_25, o23, r0_28, o24, r0_29, o25, r0_30, o26, r0_31, o27, r0_35, o28, r0_36, o29, r0_37, o30, r0_38, o31, r0_39, d5_0, d5_1, d5_2⟩ := id S
      have f1 : Fr N (N + 41) h (sA h (N + 1) t (bt1 w (shv (m + 1)))) := Fr.sA (by omega) (by omega)
      have S1 := S.kept f1.1
      have f2 : Fr N (N + 41) (sA h (N + 1) t (bt1 w (shv (m + 1)))) (sI (sA h (N + 1) t (bt1 w (shv (m + 1)))) N 1 (nI (t + 1))) := Fr.sI S1.o rfl (by omega) (by omega)
      have S2 := S1.kept f2.1
      obtain ⟨h', q1, q2, q3, q4, q5, q6⟩ := ih n (t + 1) _ S2 (by rw [gI_sI S1.o, if_pos ⟨rfl, rfl⟩]) (by omega) (by omega) (by omega)
      refine ⟨h', ?_, (f1.trans f2).trans q2, fun q h1 h2 => (q3 q h1 h2).trans ((sV_o h1).trans (sA_o h2)), fun k hk => (q4 k hk).trans (by rw [gI_sI S1.o, if_neg (by omega), gI_sA]), by rw [q5]; congr 1; omega, ?_⟩
      · have hs := ab_sBq (v := (w >>> (shv (m + 1) &&& 31)).toInt8.toInt32) o1 (show hfz h ≤ N + 1 by omega) (ixN (show t < 900 by omega) (by decide))
        rw [nI_clamp (show t < 2 ^ 31 by omega)] at hs
        have hs : ab_sB h (N + 1) (nI t) (w >>> (shv (m + 1) &&& 31)).toInt8.toInt32 = some (sA h (N + 1) t (bt1 w (shv (m + 1)))) := hs
        simp only [fX1_bytes_l3, s2, if_false, g0_0 o0, r0_0, g0_1 o0, et, bdS, b2S, bxL, bxR, onN, onS, hs, g0_1 S1.o, gI_sA, nI_1, ab_pIq S1.o S1.1, s1]
        exact q1
      · rw [q6, aF_sI, aF_sA o1, if_pos rfl, blm, fdB_cons]
theorem qx_bytes {N t : Nat} {h : Hp} (S : SX h N) (et : gI h N 1 = nI t) (ht : t + 4 ≤ 900) (w : Int32) : ∃ h', fX1_bytes N w h = some h' ∧ Fr N (N + 41) h h' ∧ (∀ q, q ≠ N → q ≠ N + 1 → h'.1 q = h.1 q) ∧ (∀ k, k ≠ 1 → gI h' N k = gI h N k) ∧ gI h' N 1 = nI (t + 4) ∧ aF h' (N + 1) = fdB (aF h (N + 1)) t (blm w 4) := by
  obtain ⟨h', q1, q2⟩ := qx_bytesL (w := w) 4 300000 t h S et (by omega) ht (by omega)
  refine ⟨h', ?_, q2⟩
  simp only [fX1_bytes, ab_ckq S.o, S.f]
  exact q1
