theorem blm_len (w : Int32) : (blm w 4).length = 4 := rfl
theorem x_feed {N E : Nat} (a b c d e : Int32) : XOp N E (fX1_feed N a b c d e) (fun _ s => feedR s a b c d e) := by
  intro h yo s ⟨S, P, V, lE⟩ I
  obtain ⟨t, ht, et⟩ := I.1
  obtain ⟨v1, v2, v3, v4, v5, v6, v7, v8, v9, v10, v11, v12, v13, v14, v15, v16, v17, v18, v19, v20, v21, v22, v23, v24⟩ := id V
  have e6 : gI h N 1 = nI t := v1.trans et
  have hc : (nI t + (20 : Int32) ≤ (900 : Int32)) = (t + 20 ≤ 900) := propext (by rw [show (20 : Int32) = nI 20 from rfl, show (900 : Int32) = nI 900 from rfl, nI_add]; exact nI_leI (by omega) (by decide))
  by_cases h1 : t + 20 ≤ 900
  · obtain ⟨ha, a1, a2, a3, a4, a5, a6⟩ := qx_bytes S e6 (by omega) a
    have Sa := S.kept a2.1
    obtain ⟨hb, b1, b2, b3, b4, b5, b6⟩ := qx_bytes Sa a5 (by omega) b
    have Sb := Sa.kept b2.1
    obtain ⟨hc', c1, c2, c3, c4, c5, c6⟩ := qx_bytes Sb b5 (by omega) c
    have Sc := Sb.kept c2.1
    obtain ⟨hd, d1, d2, d3, d4, d5, d6⟩ := qx_bytes Sc c5 (by omega) d
    have Sd := Sc.kept d2.1
    obtain ⟨he, g1, g2, g3, g4, g5, g6⟩ := qx_bytes Sd d5 (by omega) e
    have Se := Sd.kept g2.1
    have e20 : nI t + 20 = nI (t + 20) := nI_add t 20
    have k3 : ∀ q, q ≠ N → q ≠ N + 1 → he.1 q = h.1 q := fun q h1 h2 => (g3 q h1 h2).trans ((d3 q h1 h2).trans ((c3 q h1 h2).trans ((b3 q h1 h2).trans (a3 q h1 h2))))
    have k4 : ∀ k, k ≠ 1 → gI he N k = gI h N k := fun k hk => (g4 k hk).trans ((d4 k hk).trans ((c4 k hk).trans ((b4 k hk).trans (a4 k hk))))
    refine ⟨he, ?_, (((a2.trans b2).trans c2).trans d2).trans g2, ?_⟩
    · have g5' : gI he N 1 = nI t + 20 := by rw [g5, e20]
      simp only [fX1_feed, ab_ckq S.o, bdS, b2S, bxL, bxR, onN, onS, g0_1 S.o, e6, hc, h1, if_true, a1, b1, c1, d1, g1, g0_1 Se.o, g5', feedR, et]
    · simp only [feedR, et, hc, h1, if_true]
      have aa : ∀ j, j ≠ 0 → j ≠ 1 → aF he (N + j) = aF h (N + j) := fun j h0 h1 => aF_of (k3 _ (by omega) (by omega))
      refine ⟨?_, (k4 4 (by omega)).trans v2, (k4 5 (by omega)).trans v3, (k4 7 (by omega)).trans v4, (k4 16 (by omega)).trans v5, (k4 21 (by omega)).trans v6, (k4 26 (by omega)).trans v7, (k4 32 (by omega)).trans v8, (k4 40 (by omega)).trans v9, fun e => (k4 6 (by omega)).trans (v10 e), v11, ?_, (aa 28 (by omega) (by omega)).trans v13, (aa 27 (by omega) (by omega)).trans v14, (aa 29 (by omega) (by omega)).trans v15, (aa 30 (by omega) (by omega)).trans v16, (aa 31 (by omega) (by omega)).trans v17, ?_, ?_, ?_, ?_, fun c hc => (gI_of (k3 _ (by omega) (by omega)) 2).trans (v22 c hc), fun c hc k hk => by rw [aa (33 + 3 * c) (by omega) (by omega)]; exact v23 c hc k hk, fun c hc => by rw [aa 26 (by omega) (by omega)]; exact v24 c hc⟩
      · rw [g5]
        show _ = s.2 0 0 + 20
        rw [et, e20]
      · rw [g6, d6, c6, b6, a6, v12]
        show _ = fdB (s.2 1) (s.2 0 0).toNatClampNeg _
        rw [et, nI_clamp (by omega), bl5, fdB_app, fdB_app, fdB_app, fdB_app]
        simp only [blm_len]
      · rw [aa 15 (by omega) (by omega)]; exact v18
      · rw [aa 18 (by omega) (by omega)]; exact v19
      · rw [aa 22 (by omega) (by omega)]; exact v20
      · rw [aa 25 (by omega) (by omega)]; exact v21
  · refine ⟨h, ?_, Fr.rf, ?_⟩
    · simp only [fX1_feed, ab_ckq S.o, bdS, b2S, bxL, bxR, onN, onS, g0_1 S.o, e6, hc, h1, if_false, feedR, et]
    · simp only [feedR, et, hc, h1, if_false]
      exact V
