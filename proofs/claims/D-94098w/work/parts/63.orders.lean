/-! worth of an order; the component's orders -/
def lastV (y : Dy) (c : Nat) (l : List Nat) : Int32 := if l.length = 0 then y.2 27 c else (cV y c 0 l).getD (l.length - 1) 0
noncomputable def wV (y : Dy) (c : Nat) (l : List Nat) : Int32 := (10000 : Int32) * nI (pc (bN y c 0 l)) + lastV y c l
theorem qx_worth {N E d : Nat} {qa : Nat → Nat → Nat} {y : Dy} {r c : Nat} {h : Hp} (Z : XD h N E d qa y) (R : RO h N r) (hc : c < y.1 6) {l : List Nat} (Hl : RL h r l) (hr6 : ∀ z ∈ l, z < 6) (hb : gI h r 3 = bV y c 0 l) (hcm : ∀ j, j < l.length → aF h (r + 2) j = (cV y c 0 l).getD j 0) : fX4_worth r (some (qa 4 c)) h = some (wV y c l, h) := by
  obtain ⟨b1, b2⟩ := bN_ok (y := y) (c := c) (tea := 0) hr6
  have hl := qx_last Z R hc Hl
  have ho := qx_ones Z.1.f b1
  obtain ⟨R1, R2, R3, R4, R5, R6, R7⟩ := R
  simp only [fX4_worth, ab_ckq R3, g3_3 R3, hb, b2, bdS, b2S, bxL, bxR, onN, onS, ho, hl, wV, lastV]
  by_cases h0 : l.length = 0
  · simp only [h0, if_true]
  · simp only [h0, if_false, hcm (l.length - 1) (by omega)]
