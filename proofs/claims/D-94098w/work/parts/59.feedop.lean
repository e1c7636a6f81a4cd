def setF (s : St) (v : List Int32) : St := (s.1, fun j => if j = 0 then upd (s.2 0) 0 (s.2 0 0 + 20) else if j = 1 then fdB (s.2 1) (s.2 0 0).toNatClampNeg v else s.2 j)
def bl5 (a b c d e : Int32) : List Int32 := blm a 4 ++ (blm b 4 ++ (blm c 4 ++ (blm d 4 ++ blm e 4)))
theorem mbl_bl (a b c d e : Int32) : mbl a b c d e 0 20 = bl5 a b c d e := by
  have h24 : ∀ k, k < 5 → shm (4 * k) = shv 4 ∧ shm (4 * k + 1) = shv 3 ∧ shm (4 * k + 2) = shv 2 ∧ shm (4 * k + 3) = shv 1 := by decide +kernel
  obtain ⟨a0, a1, a2, a3⟩ := h24 0 (by omega)
  obtain ⟨b0, b1, b2, b3⟩ := h24 1 (by omega)
  obtain ⟨c0, c1, c2, c3⟩ := h24 2 (by omega)
  obtain ⟨d0, d1, d2, d3⟩ := h24 3 (by omega)
  obtain ⟨e0, e1, e2, e3⟩ := h24 4 (by omega)
  simp only [Nat.mul_zero, Nat.zero_add, Nat.mul_one, Nat.reduceMul, Nat.reduceAdd] at a0 a1 a2 a3 b0 b1 b2 b3 c0 c1 c2 c3 d0 d1 d2 d3 e0 e1 e2 e3
  simp only [mbl, bl5, blm, List.cons_append, List.nil_append, Nat.zero_add, Nat.reduceAdd, a0, a1, a2, a3, b0, b1, b2, b3, c0, c1, c2, c3, d0, d1, d2, d3, e0, e1, e2, e3]
  rfl
def feedR (s : St) (a b c d e : Int32) : Int32 × St := if s.2 0 0 + 20 ≤ 900 then (s.2 0 0 + 20, setF s (bl5 a b c d e)) else (-1, s)
theorem m_feed {N E : Nat} (a b c d e : Int32) : MOp N E (fX5_feed N a b c d e) (fun _ s => feedR s a b c d e) := by
  intro h yo s ⟨S, P, V, lE⟩ I
  obtain ⟨f1, S1, Q1⟩ := th_all S 0
  obtain ⟨t, ht, et⟩ := I.1
  obtain ⟨v1, v2, v3, v4, v5, v6, v7, v8, v9, v10, v11, v12, v13, v14, v15, v16, v17, v18, v19, v20, v21, v22⟩ := id (V.th S)
  have e6 : gI (sI h N 0 0) N 6 = nI t := v1.trans et
  have hc : (nI t + (20 : Int32) ≤ (900 : Int32)) = (t + 20 ≤ 900) := propext (by rw [show (20 : Int32) = nI 20 from rfl, show (900 : Int32) = nI 900 from rfl, nI_add]; exact nI_leI (by omega) (by decide))
  by_cases h1 : t + 20 ≤ 900
  · obtain ⟨h', q1, q2, q3, q4, q5, q6⟩ := qm_feedL (a := a) (b := b) (c := c) (d := d) (e := e) 20 0 300000 t (sI h N 0 0) S1 e6 (by omega) (by omega) (by omega)
    rw [nI_0] at q1
    have e20 : nI t + 20 = nI (t + 20) := nI_add t 20
    rw [← e20] at q1
    refine ⟨h', ?_, f1.trans q2, ?_⟩
    · simp only [fX5_feed, ab_ckq S.o, ab_pIq S.o S.1, bdS, b2S, bxL, bxR, onN, onS, g4_6 S1.o, e6, hc, h1, if_true, S1.f, q1, feedR, et]
    · simp only [feedR, et, hc, h1, if_true]
      have aa : ∀ j, j ≠ 0 → j ≠ 1 → aF h' (N + j) = aF (sI h N 0 0) (N + j) := fun j h0 h1 => aF_of (q3 _ (by omega) (by omega))
      refine ⟨?_, (q4 1 (by omega)).trans v2, (q4 13 (by omega)).trans v3, (q4 2 (by omega)).trans v4, (q4 19 (by omega)).trans v5, (q4 27 (by omega)).trans v6, (q4 33 (by omega)).trans v7, (q4 34 (by omega)).trans v8, (q4 37 (by omega)).trans v9, (q4 42 (by omega)).trans v10, ?_, (aa 7 (by omega) (by omega)).trans v12, (aa 11 (by omega) (by omega)).trans v13, (aa 13 (by omega) (by omega)).trans v14, (aa 14 (by omega) (by omega)).trans v15, (aa 16 (by omega) (by omega)).trans v16, (aa 17 (by omega) (by omega)).trans v17, (aa 18 (by omega) (by omega)).trans v18, (aa 19 (by omega) (by omega)).trans v19, (aa 20 (by omega) (by omega)).trans v20, fun c hc => by rw [aa 2 (by omega) (by omega)]; exact v21 c hc, fun c hc k hk => by rw [aa 3 (by omega) (by omega)]; exact v22 c hc k hk⟩
      · rw [q5]
        show _ = s.2 0 0 + 20
        rw [et, e20]
      · rw [q6, v11, mbl_bl]
        show _ = fdB (s.2 1) (s.2 0 0).toNatClampNeg _
        rw [et, nI_clamp (by omega)]
  · refine ⟨_, ?_, f1, ?_⟩
    · simp only [fX5_feed, ab_ckq S.o, ab_pIq S.o S.1, bdS, b2S, bxL, bxR, onN, onS, g4_6 S1.o, e6, hc, h1, if_false, feedR, et]
    · simp only [feedR, et, hc, h1, if_false]
      exact V.th S
