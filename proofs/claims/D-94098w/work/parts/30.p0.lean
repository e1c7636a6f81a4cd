/-! THE MEMORY LAYER: total getters and setters of a well typed abstract heap -/
/-- kinds of slots: 0 int, 1 long, 2 reference -/
def kdL : List (List Nat) := [
  [2, 0, 2, 2, 0, 0, 0, 0, 2, 2, 2, 0, 2, 2, 2, 2, 0, 0, 2, 2, 2, 0, 2, 2, 2, 2, 0, 1, 2, 2, 2, 2, 0, 0, 0, 2, 2, 2, 2, 2, 0],
  [2, 2, 2, 0, 0, 0, 0, 0, 2, 2],
  [2, 2, 2, 2, 2, 0, 0, 0],
  [2, 2, 0, 0],
  [0, 0, 0, 2, 2, 2, 0, 0, 0, 0, 0, 0, 0, 0, 0, 0, 1, 2, 2, 0, 0, 0, 2, 2, 0, 0, 2, 0, 2, 2, 2, 2, 2, 0, 0, 2, 2, 0, 2, 2, 2, 2, 0, 2, 2, 2],
  [2, 2, 2, 2, 2, 2, 2, 2, 2, 0, 0, 0, 0, 0, 0, 0, 0, 0, 0],
  [2, 0, 0, 0],
  [2, 0, 0, 0],
  [2, 0, 0],
  [2, 0, 0, 0, 0, 0, 0, 2, 0],
  [2, 0, 2, 0, 0, 0, 0],
  [2, 0, 0, 0],
  [2, 0, 0, 0],
  [0, 0, 0, 0, 0, 0, 0, 0, 0, 0, 0, 2, 2, 2, 2, 2, 2, 2, 2, 2, 2, 2, 2, 2, 2, 2, 2, 2, 2, 2, 2, 2, 2, 2, 2, 2, 2],
  [2, 0, 0, 0]]
def kd (c k : Nat) : Nat := (kdL.getD c []).getD k 3
def kdV (n : Nat) (v : Value) : Prop := match n with
  | 0 => ∃ x, v = .int x
  | 1 => ∃ x, v = .long x
  | 2 => ∃ r, v = va_rf r
  | _ => True
def gF (h : Hp) (a : Nat) : Nat → Value := match h.1 a with
  | some (.inl o) => o.2
  | _ => fun _ => .null
def gI (h : Hp) (a k : Nat) : Int32 := match gF h a k with
  | .int v => v
  | _ => 0
def gJ (h : Hp) (a k : Nat) : Int64 := match gF h a k with
  | .long v => v
  | _ => 0
def gR (h : Hp) (a k : Nat) : Option Nat := match gF h a k with
  | .ref r => some r
  | _ => none
def aF (h : Hp) (a : Nat) : Nat → Int32 := match h.1 a with
  | some (.inr (_, _, .inl f)) => f
  | _ => fun _ => 0
def aJ (h : Hp) (a : Nat) : Nat → Int64 := match h.1 a with
  | some (.inr (_, _, .inr (.inl f))) => f
  | _ => fun _ => 0
def aR (h : Hp) (a : Nat) : Nat → Option Nat := match h.1 a with
  | some (.inr (_, _, .inr (.inr (.inr (.inr f))))) => f
  | _ => fun _ => none
def isO (h : Hp) (a c : Nat) : Prop := ∃ F, h.1 a = some (.inl (c, F)) ∧ ∀ k, kdV (kd c k) (F k)
def isA (h : Hp) (a t n : Nat) : Prop := ∃ f, h.1 a = some (.inr (t, n, .inl f))
def isJ (h : Hp) (a n : Nat) : Prop := ∃ f, h.1 a = some (.inr (3, n, .inr (.inl f)))
def isR (h : Hp) (a t n : Nat) : Prop := ∃ f, h.1 a = some (.inr (t, n, .inr (.inr (.inr (.inr f)))))
theorem ab_Fq {h : Hp} {a c : Nat} (o : isO h a c) : ab_F h a c = some (gF h a) := by
  obtain ⟨F, h1, -⟩ := o
  simp [ab_F, gF, h1]
theorem ab_ckq {β : Type} {h : Hp} {a c : Nat} {K : Option β} (o : isO h a c) : ab_ck h a c K = K := by
  simp [ab_ck, ab_Fq o]
theorem ab_gIq {h : Hp} {a c k : Nat} (o : isO h a c) (hk : kd c k = 0) : ab_gI h a c k = some (gI h a k) := by
  unfold ab_gI
  rw [ab_Fq o]
  obtain ⟨F, h1, h2⟩ := o
  have h3 := h2 k
  rw [hk] at h3
  obtain ⟨x, hx⟩ := h3
  simp [ab_bd, gI, gF, h1, hx, ab_vI]
theorem ab_gJq {h : Hp} {a c k : Nat} (o : isO h a c) (hk : kd c k = 1) : ab_gJ h a c k = some (gJ h a k) := by
  unfold ab_gJ
  rw [ab_Fq o]
  obtain ⟨F, h1, h2⟩ := o
  have h3 := h2 k
  rw [hk] at h3
  obtain ⟨x, hx⟩ := h3
  simp [ab_bd, gJ, gF, h1, hx, ab_vJ]
theorem ab_gRq {h : Hp} {a c k : Nat} (o : isO h a c) (hk : kd c k = 2) : ab_gR h a c k = some (gR h a k) := by
  unfold ab_gR
  rw [ab_Fq o]
  obtain ⟨F, h1, h2⟩ := o
  have h3 := h2 k
  rw [hk] at h3
  obtain ⟨x, hx⟩ := h3
  cases x <;> simp [ab_bd, gR, gF, h1, hx, ab_vR, va_rf]
theorem g0_0 {h : Hp} {a : Nat} (o : isO h a 0) : ab_gR h a 0 0 = some (gR h a 0) := ab_gRq o rfl
theorem g0_1 {h : Hp} {a : Nat} (o : isO h a 0) : ab_gI h a 0 1 = some (gI h a 1) := ab_gIq o rfl
theorem g0_2 {h : Hp} {a : Nat} (o : isO h a 0) : ab_gR h a 0 2 = some (gR h a 2) := ab_gRq o rfl
theorem g0_3 {h : Hp} {a : Nat} (o : isO h a 0) : ab_gR h a 0 3 = some (gR h a 3) := ab_gRq o rfl
theorem g0_4 {h : Hp} {a : Nat} (o : isO h a 0) : ab_gI h a 0 4 = some (gI h a 4) := ab_gIq o rfl
theorem g0_5 {h : Hp} {a : Nat} (o : isO h a 0) : ab_gI h a 0 5 = some (gI h a 5) := ab_gIq o rfl
theorem g0_6 {h : Hp} {a : Nat} (o : isO h a 0) : ab_gI h a 0 6 = some (gI h a 6) := ab_gIq o rfl
theorem g0_7 {h : Hp} {a : Nat} (o : isO h a 0) : ab_gI h a 0 7 = some (gI h a 7) := ab_gIq o rfl
theorem g0_8 {h : Hp} {a : Nat} (o : isO h a 0) : ab_gR h a 0 8 = some (gR h a 8) := ab_gRq o rfl
theorem g0_9 {h : Hp} {a : Nat} (o : isO h a 0) : ab_gR h a 0 9 = some (gR h a 9) := ab_gRq o rfl
theorem g0_10 {h : Hp} {a : Nat} (o : isO h a 0) : ab_gR h a 0 10 = some (gR h a 10) := ab_gRq o rfl
theorem g0_11 {h : Hp} {a : Nat} (o : isO h a 0) : ab_gI h a 0 11 = some (gI h a 11) := ab_gIq o rfl
theorem g0_12 {h : Hp} {a : Nat} (o : isO h a 0) : ab_gR h a 0 12 = some (gR h a 12) := ab_gRq o rfl
theorem g0_13 {h : Hp} {a : Nat} (o : isO h a 0) : ab_gR h a 0 13 = some (gR h a 13) := ab_gRq o rfl
theorem g0_14 {h : Hp} {a : Nat} (o : isO h a 0) : ab_gR h a 0 14 = some (gR h a 14) := ab_gRq o rfl
theorem g0_15 {h : Hp} {a : Nat} (o : isO h a 0) : ab_gR h a 0 15 = some (gR h a 15) := ab_gRq o rfl
theorem g0_16 {h : Hp} {a : Nat} (o : isO h a 0) : ab_gI h a 0 16 = some (gI h a 16) := ab_gIq o rfl
theorem g0_17 {h : Hp} {a : Nat} (o : isO h a 0) : ab_gI h a 0 17 = some (gI h a 17) := ab_gIq o rfl
theorem g0_18 {h : Hp} {a : Nat} (o : isO h a 0) : ab_gR h a 0 18 = some (gR h a 18) := ab_gRq o rfl
theorem g0_19 {h : Hp} {a : Nat} (o : isO h a 0) : ab_gR h a 0 19 = some (gR h a 19) := ab_gRq o rfl
theorem g0_20 {h : Hp} {a : Nat} (o : isO h a 0) : ab_gR h a 0 20 = some (gR h a 20) := ab_gRq o rfl
theorem g0_21 {h : Hp} {a : Nat} (o : isO h a 0) : ab_gI h a 0 21 = some (gI h a 21) := ab_gIq o rfl
theorem g0_22 {h : Hp} {a : Nat} (o : isO h a 0) : ab_gR h a 0 22 = some (gR h a 22) := ab_gRq o rfl
theorem g0_23 {h : Hp} {a : Nat} (o : isO h a 0) : ab_gR h a 0 23 = some (gR h a 23) := ab_gRq o rfl
theorem g0_24 {h : Hp} {a : Nat} (o : isO h a 0) : ab_gR h a 0 24 = some (gR h a 24) := ab_gRq o rfl
theorem g0_25 {h : Hp} {a : Nat} (o : isO h a 0) : ab_gR h a 0 25 = some (gR h a 25) := ab_gRq o rfl
theorem g0_26 {h : Hp} {a : Nat} (o : isO h a 0) : ab_gI h a 0 26 = some (gI h a 26) := ab_gIq o rfl
theorem g0_27 {h : Hp} {a : Nat} (o : isO h a 0) : ab_gJ h a 0 27 = some (gJ h a 27) := ab_gJq o rfl
theorem g0_28 {h : Hp} {a : Nat} (o : isO h a 0) : ab_gR h a 0 28 = some (gR h a 28) := ab_gRq o rfl
theorem g0_29 {h : Hp} {a : Nat} (o : isO h a 0) : ab_gR h a 0 29 = some (gR h a 29) := ab_gRq o rfl
theorem g0_30 {h : Hp} {a : Nat} (o : isO h a 0) : ab_gR h a 0 30 = some (gR h a 30) := ab_gRq o rfl
theorem g0_31 {h : Hp} {a : Nat} (o : isO h a 0) : ab_gR h a 0 31 = some (gR h a 31) := ab_gRq o rfl
theorem g0_32 {h : Hp} {a : Nat} (o : isO h a 0) : ab_gI h a 0 32 = some (gI h a 32) := ab_gIq o rfl
theorem g0_33 {h : Hp} {a : Nat} (o : isO h a 0) : ab_gI h a 0 33 = some (gI h a 33) := ab_gIq o rfl
theorem g0_34 {h : Hp} {a : Nat} (o : isO h a 0) : ab_gI h a 0 34 = some (gI h a 34) := ab_gIq o rfl
theorem g0_35 {h : Hp} {a : Nat} (o : isO h a 0) : ab_gR h a 0 35 = some (gR h a 35) := ab_gRq o rfl
theorem g0_36 {h : Hp} {a : Nat} (o : isO h a 0) : ab_gR h a 0 36 = some (gR h a 36) := ab_gRq o rfl
theorem g0_37 {h : Hp} {a : Nat} (o : isO h a 0) : ab_gR h a 0 37 = some (gR h a 37) := ab_gRq o rfl
theorem g0_38 {h : Hp} {a : Nat} (o : isO h a 0) : ab_gR h a 0 38 = some (gR h a 38) := ab_gRq o rfl
theorem g0_39 {h : Hp} {a : Nat} (o : isO h a 0) : ab_gR h a 0 39 = some (gR h a 39) := ab_gRq o rfl
theorem g0_40 {h : Hp} {a : Nat} (o : isO h a 0) : ab_gI h a 0 40 = some (gI h a 40) := ab_gIq o rfl
theorem g1_0 {h : Hp} {a : Nat} (o : isO h a 1) : ab_gR h a 1 0 = some (gR h a 0) := ab_gRq o rfl
theorem g1_1 {h : Hp} {a : Nat} (o : isO h a 1) : ab_gR h a 1 1 = some (gR h a 1) := ab_gRq o rfl
theorem g1_2 {h : Hp} {a : Nat} (o : isO h a 1) : ab_gR h a 1 2 = some (gR h a 2) := ab_gRq o rfl
theorem g1_3 {h : Hp} {a : Nat} (o : isO h a 1) : ab_gI h a 1 3 = some (gI h a 3) := ab_gIq o rfl
theorem g1_4 {h : Hp} {a : Nat} (o : isO h a 1) : ab_gI h a 1 4 = some (gI h a 4) := ab_gIq o rfl
theorem g1_5 {h : Hp} {a : Nat} (o : isO h a 1) : ab_gI h a 1 5 = some (gI h a 5) := ab_gIq o rfl
theorem g1_6 {h : Hp} {a : Nat} (o : isO h a 1) : ab_gI h a 1 6 = some (gI h a 6) := ab_gIq o rfl
theorem g1_7 {h : Hp} {a : Nat} (o : isO h a 1) : ab_gI h a 1 7 = some (gI h a 7) := ab_gIq o rfl
theorem g1_8 {h : Hp} {a : Nat} (o : isO h a 1) : ab_gR h a 1 8 = some (gR h a 8) := ab_gRq o rfl
theorem g1_9 {h : Hp} {a : Nat} (o : isO h a 1) : ab_gR h a 1 9 = some (gR h a 9) := ab_gRq o rfl
theorem g2_0 {h : Hp} {a : Nat} (o : isO h a 2) : ab_gR h a 2 0 = some (gR h a 0) := ab_gRq o rfl
theorem g2_1 {h : Hp} {a : Nat} (o : isO h a 2) : ab_gR h a 2 1 = some (gR h a 1) := ab_gRq o rfl
theorem g2_2 {h : Hp} {a : Nat} (o : isO h a 2) : ab_gR h a 2 2 = some (gR h a 2) := ab_gRq o rfl
theorem g2_3 {h : Hp} {a : Nat} (o : isO h a 2) : ab_gR h a 2 3 = some (gR h a 3) := ab_gRq o rfl
theorem g2_4 {h : Hp} {a : Nat} (o : isO h a 2) : ab_gR h a 2 4 = some (gR h a 4) := ab_gRq o rfl
theorem g2_5 {h : Hp} {a : Nat} (o : isO h a 2) : ab_gI h a 2 5 = some (gI h a 5) := ab_gIq o rfl
theorem g2_6 {h : Hp} {a : Nat} (o : isO h a 2) : ab_gI h a 2 6 = some (gI h a 6) := ab_gIq o rfl
theorem g2_7 {h : Hp} {a : Nat} (o : isO h a 2) : ab_gI h a 2 7 = some (gI h a 7) := ab_gIq o rfl
theorem g3_0 {h : Hp} {a : Nat} (o : isO h a 3) : ab_gR h a 3 0 = some (gR h a 0) := ab_gRq o rfl
theorem g3_1 {h : Hp} {a : Nat} (o : isO h a 3) : ab_gR h a 3 1 = some (gR h a 1) := ab_gRq o rfl
theorem g3_2 {h : Hp} {a : Nat} (o : isO h a 3) : ab_gI h a 3 2 = some (gI h a 2) := ab_gIq o rfl
theorem g3_3 {h : Hp} {a : Nat} (o : isO h a 3) : ab_gI h a 3 3 = some (gI h a 3) := ab_gIq o rfl
theorem g4_0 {h : Hp} {a : Nat} (o : isO h a 4) : ab_gI h a 4 0 = some (gI h a 0) := ab_gIq o rfl
theorem g4_1 {h : Hp} {a : Nat} (o : isO h a 4) : ab_gI h a 4 1 = some (gI h a 1) := ab_gIq o rfl
theorem g4_2 {h : Hp} {a : Nat} (o : isO h a 4) : ab_gI h a 4 2 = some (gI h a 2) := ab_gIq o rfl
theorem g4_3 {h : Hp} {a : Nat} (o : isO h a 4) : ab_gR h a 4 3 = some (gR h a 3) := ab_gRq o rfl
theorem g4_4 {h : Hp} {a : Nat} (o : isO h a 4) : ab_gR h a 4 4 = some (gR h a 4) := ab_gRq o rfl
theorem g4_5 {h : Hp} {a : Nat} (o : isO h a 4) : ab_gR h a 4 5 = some (gR h a 5) := ab_gRq o rfl
theorem g4_6 {h : Hp} {a : Nat} (o : isO h a 4) : ab_gI h a 4 6 = some (gI h a 6) := ab_gIq o rfl
theorem g4_7 {h : Hp} {a : Nat} (o : isO h a 4) : ab_gI h a 4 7 = some (gI h a 7) := ab_gIq o rfl
theorem g4_8 {h : Hp} {a : Nat} (o : isO h a 4) : ab_gI h a 4 8 = some (gI h a 8) := ab_gIq o rfl
theorem g4_9 {h : Hp} {a : Nat} (o : isO h a 4) : ab_gI h a 4 9 = some (gI h a 9) := ab_gIq o rfl
theorem g4_10 {h : Hp} {a : Nat} (o : isO h a 4) : ab_gI h a 4 10 = some (gI h a 10) := ab_gIq o rfl
theorem g4_11 {h : Hp} {a : Nat} (o : isO h a 4) : ab_gI h a 4 11 = some (gI h a 11) := ab_gIq o rfl
theorem g4_12 {h : Hp} {a : Nat} (o : isO h a 4) : ab_gI h a 4 12 = some (gI h a 12) := ab_gIq o rfl
theorem g4_13 {h : Hp} {a : Nat} (o : isO h a 4) : ab_gI h a 4 13 = some (gI h a 13) := ab_gIq o rfl
theorem g4_14 {h : Hp} {a : Nat} (o : isO h a 4) : ab_gI h a 4 14 = some (gI h a 14) := ab_gIq o rfl
theorem g4_15 {h : Hp} {a : Nat} (o : isO h a 4) : ab_gI h a 4 15 = some (gI h a 15) := ab_gIq o rfl
theorem g4_16 {h : Hp} {a : Nat} (o : isO h a 4) : ab_gJ h a 4 16 = some (gJ h a 16) := ab_gJq o rfl
theorem g4_17 {h : Hp} {a : Nat} (o : isO h a 4) : ab_gR h a 4 17 = some (gR h a 17) := ab_gRq o rfl
theorem g4_18 {h : Hp} {a : Nat} (o : isO h a 4) : ab_gR h a 4 18 = some (gR h a 18) := ab_gRq o rfl
theorem g4_19 {h : Hp} {a : Nat} (o : isO h a 4) : ab_gI h a 4 19 = some (gI h a 19) := ab_gIq o rfl
theorem g4_20 {h : Hp} {a : Nat} (o : isO h a 4) : ab_gI h a 4 20 = some (gI h a 20) := ab_gIq o rfl
theorem g4_21 {h : Hp} {a : Nat} (o : isO h a 4) : ab_gI h a 4 21 = some (gI h a 21) := ab_gIq o rfl
theorem g4_22 {h : Hp} {a : Nat} (o : isO h a 4) : ab_gR h a 4 22 = some (gR h a 22) := ab_gRq o rfl
theorem g4_23 {h : Hp} {a : Nat} (o : isO h a 4) : ab_gR h a 4 23 = some (gR h a 23) := ab_gRq o rfl
theorem g4_24 {h : Hp} {a : Nat} (o : isO h a 4) : ab_gI h a 4 24 = some (gI h a 24) := ab_gIq o rfl
theorem g4_25 {h : Hp} {a : Nat} (o : isO h a 4) : ab_gI h a 4 25 = some (gI h a 25) := ab_gIq o rfl
theorem g4_26 {h : Hp} {a : Nat} (o : isO h a 4) : ab_gR h a 4 26 = some (gR h a 26) := ab_gRq o rfl
theorem g4_27 {h : Hp} {a : Nat} (o : isO h a 4) : ab_gI h a 4 27 = some (gI h a 27) := ab_gIq o rfl
theorem g4_28 {h : Hp} {a : Nat} (o : isO h a 4) : ab_gR h a 4 28 = some (gR h a 28) := ab_gRq o rfl
theorem g4_29 {h : Hp} {a : Nat} (o : isO h a 4) : ab_gR h a 4 29 = some (gR h a 29) := ab_gRq o rfl
theorem g4_30 {h : Hp} {a : Nat} (o : isO h a 4) : ab_gR h a 4 30 = some (gR h a 30) := ab_gRq o rfl
theorem g4_31 {h : Hp} {a : Nat} (o : isO h a 4) : ab_gR h a 4 31 = some (gR h a 31) := ab_gRq o rfl
theorem g4_32 {h : Hp} {a : Nat} (o : isO h a 4) : ab_gR h a 4 32 = some (gR h a 32) := ab_gRq o rfl
theorem g4_33 {h : Hp} {a : Nat} (o : isO h a 4) : ab_gI h a 4 33 = some (gI h a 33) := ab_gIq o rfl
theorem g4_34 {h : Hp} {a : Nat} (o : isO h a 4) : ab_gI h a 4 34 = some (gI h a 34) := ab_gIq o rfl
theorem g4_35 {h : Hp} {a : Nat} (o : isO h a 4) : ab_gR h a 4 35 = some (gR h a 35) := ab_gRq o rfl
theorem g4_36 {h : Hp} {a : Nat} (o : isO h a 4) : ab_gR h a 4 36 = some (gR h a 36) := ab_gRq o rfl
theorem g4_37 {h : Hp} {a : Nat} (o : isO h a 4) : ab_gI h a 4 37 = some (gI h a 37) := ab_gIq o rfl
theorem g4_38 {h : Hp} {a : Nat} (o : isO h a 4) : ab_gR h a 4 38 = some (gR h a 38) := ab_gRq o rfl
theorem g4_39 {h : Hp} {a : Nat} (o : isO h a 4) : ab_gR h a 4 39 = some (gR h a 39) := ab_gRq o rfl
theorem g4_40 {h : Hp} {a : Nat} (o : isO h a 4) : ab_gR h a 4 40 = some (gR h a 40) := ab_gRq o rfl
theorem g4_41 {h : Hp} {a : Nat} (o : isO h a 4) : ab_gR h a 4 41 = some (gR h a 41) := ab_gRq o rfl
theorem g4_42 {h : Hp} {a : Nat} (o : isO h a 4) : ab_gI h a 4 42 = some (gI h a 42) := ab_gIq o rfl
theorem g4_43 {h : Hp} {a : Nat} (o : isO h a 4) : ab_gR h a 4 43 = some (gR h a 43) := ab_gRq o rfl
theorem g4_44 {h : Hp} {a : Nat} (o : isO h a 4) : ab_gR h a 4 44 = some (gR h a 44) := ab_gRq o rfl
theorem g4_45 {h : Hp} {a : Nat} (o : isO h a 4) : ab_gR h a 4 45 = some (gR h a 45) := ab_gRq o rfl
theorem g5_0 {h : Hp} {a : Nat} (o : isO h a 5) : ab_gR h a 5 0 = some (gR h a 0) := ab_gRq o rfl
theorem g5_1 {h : Hp} {a : Nat} (o : isO h a 5) : ab_gR h a 5 1 = some (gR h a 1) := ab_gRq o rfl
theorem g5_2 {h : Hp} {a : Nat} (o : isO h a 5) : ab_gR h a 5 2 = some (gR h a 2) := ab_gRq o rfl
theorem g5_3 {h : Hp} {a : Nat} (o : isO h a 5) : ab_gR h a 5 3 = some (gR h a 3) := ab_gRq o rfl
theorem g5_4 {h : Hp} {a : Nat} (o : isO h a 5) : ab_gR h a 5 4 = some (gR h a 4) := ab_gRq o rfl
theorem g5_5 {h : Hp} {a : Nat} (o : isO h a 5) : ab_gR h a 5 5 = some (gR h a 5) := ab_gRq o rfl
theorem g5_6 {h : Hp} {a : Nat} (o : isO h a 5) : ab_gR h a 5 6 = some (gR h a 6) := ab_gRq o rfl
theorem g5_7 {h : Hp} {a : Nat} (o : isO h a 5) : ab_gR h a 5 7 = some (gR h a 7) := ab_gRq o rfl
theorem g5_8 {h : Hp} {a : Nat} (o : isO h a 5) : ab_gR h a 5 8 = some (gR h a 8) := ab_gRq o rfl
theorem g5_9 {h : Hp} {a : Nat} (o : isO h a 5) : ab_gI h a 5 9 = some (gI h a 9) := ab_gIq o rfl
theorem g5_10 {h : Hp} {a : Nat} (o : isO h a 5) : ab_gI h a 5 10 = some (gI h a 10) := ab_gIq o rfl
theorem g5_11 {h : Hp} {a : Nat} (o : isO h a 5) : ab_gI h a 5 11 = some (gI h a 11) := ab_gIq o rfl
theorem g5_12 {h : Hp} {a : Nat} (o : isO h a 5) : ab_gI h a 5 12 = some (gI h a 12) := ab_gIq o rfl
theorem g5_13 {h : Hp} {a : Nat} (o : isO h a 5) : ab_gI h a 5 13 = some (gI h a 13) := ab_gIq o rfl
theorem g5_14 {h : Hp} {a : Nat} (o : isO h a 5) : ab_gI h a 5 14 = some (gI h a 14) := ab_gIq o rfl
theorem g5_15 {h : Hp} {a : Nat} (o : isO h a 5) : ab_gI h a 5 15 = some (gI h a 15) := ab_gIq o rfl
theorem g5_16 {h : Hp} {a : Nat} (o : isO h a 5) : ab_gI h a 5 16 = some (gI h a 16) := ab_gIq o rfl
theorem g5_17 {h : Hp} {a : Nat} (o : isO h a 5) : ab_gI h a 5 17 = some (gI h a 17) := ab_gIq o rfl
theorem g5_18 {h : Hp} {a : Nat} (o : isO h a 5) : ab_gI h a 5 18 = some (gI h a 18) := ab_gIq o rfl
theorem g6_0 {h : Hp} {a : Nat} (o : isO h a 6) : ab_gR h a 6 0 = some (gR h a 0) := ab_gRq o rfl
theorem g6_1 {h : Hp} {a : Nat} (o : isO h a 6) : ab_gI h a 6 1 = some (gI h a 1) := ab_gIq o rfl
theorem g6_2 {h : Hp} {a : Nat} (o : isO h a 6) : ab_gI h a 6 2 = some (gI h a 2) := ab_gIq o rfl
theorem g6_3 {h : Hp} {a : Nat} (o : isO h a 6) : ab_gI h a 6 3 = some (gI h a 3) := ab_gIq o rfl
theorem g7_0 {h : Hp} {a : Nat} (o : isO h a 7) : ab_gR h a 7 0 = some (gR h a 0) := ab_gRq o rfl
theorem g7_1 {h : Hp} {a : Nat} (o : isO h a 7) : ab_gI h a 7 1 = some (gI h a 1) := ab_gIq o rfl
theorem g7_2 {h : Hp} {a : Nat} (o : isO h a 7) : ab_gI h a 7 2 = some (gI h a 2) := ab_gIq o rfl
theorem g7_3 {h : Hp} {a : Nat} (o : isO h a 7) : ab_gI h a 7 3 = some (gI h a 3) := ab_gIq o rfl
theorem g8_0 {h : Hp} {a : Nat} (o : isO h a 8) : ab_gR h a 8 0 = some (gR h a 0) := ab_gRq o rfl
theorem g8_1 {h : Hp} {a : Nat} (o : isO h a 8) : ab_gI h a 8 1 = some (gI h a 1) := ab_gIq o rfl
theorem g8_2 {h : Hp} {a : Nat} (o : isO h a 8) : ab_gI h a 8 2 = some (gI h a 2) := ab_gIq o rfl
theorem g9_0 {h : Hp} {a : Nat} (o : isO h a 9) : ab_gR h a 9 0 = some (gR h a 0) := ab_gRq o rfl
theorem g9_1 {h : Hp} {a : Nat} (o : isO h a 9) : ab_gI h a 9 1 = some (gI h a 1) := ab_gIq o rfl
theorem g9_2 {h : Hp} {a : Nat} (o : isO h a 9) : ab_gI h a 9 2 = some (gI h a 2) := ab_gIq o rfl
theorem g9_3 {h : Hp} {a : Nat} (o : isO h a 9) : ab_gI h a 9 3 = some (gI h a 3) := ab_gIq o rfl
theorem g9_4 {h : Hp} {a : Nat} (o : isO h a 9) : ab_gI h a 9 4 = some (gI h a 4) := ab_gIq o rfl
theorem g9_5 {h : Hp} {a : Nat} (o : isO h a 9) : ab_gI h a 9 5 = some (gI h a 5) := ab_gIq o rfl
theorem g9_6 {h : Hp} {a : Nat} (o : isO h a 9) : ab_gI h a 9 6 = some (gI h a 6) := ab_gIq o rfl
theorem g9_7 {h : Hp} {a : Nat} (o : isO h a 9) : ab_gR h a 9 7 = some (gR h a 7) := ab_gRq o rfl
theorem g9_8 {h : Hp} {a : Nat} (o : isO h a 9) : ab_gI h a 9 8 = some (gI h a 8) := ab_gIq o rfl
theorem g10_0 {h : Hp} {a : Nat} (o : isO h a 10) : ab_gR h a 10 0 = some (gR h a 0) := ab_gRq o rfl
theorem g10_1 {h : Hp} {a : Nat} (o : isO h a 10) : ab_gI h a 10 1 = some (gI h a 1) := ab_gIq o rfl
theorem g10_2 {h : Hp} {a : Nat} (o : isO h a 10) : ab_gR h a 10 2 = some (gR h a 2) := ab_gRq o rfl
theorem g10_3 {h : Hp} {a : Nat} (o : isO h a 10) : ab_gI h a 10 3 = some (gI h a 3) := ab_gIq o rfl
theorem g10_4 {h : Hp} {a : Nat} (o : isO h a 10) : ab_gI h a 10 4 = some (gI h a 4) := ab_gIq o rfl
theorem g10_5 {h : Hp} {a : Nat} (o : isO h a 10) : ab_gI h a 10 5 = some (gI h a 5) := ab_gIq o rfl
theorem g10_6 {h : Hp} {a : Nat} (o : isO h a 10) : ab_gI h a 10 6 = some (gI h a 6) := ab_gIq o rfl
theorem g11_0 {h : Hp} {a : Nat} (o : isO h a 11) : ab_gR h a 11 0 = some (gR h a 0) := ab_gRq o rfl
theorem g11_1 {h : Hp} {a : Nat} (o : isO h a 11) : ab_gI h a 11 1 = some (gI h a 1) := ab_gIq o rfl
theorem g11_2 {h : Hp} {a : Nat} (o : isO h a 11) : ab_gI h a 11 2 = some (gI h a 2) := ab_gIq o rfl
theorem g11_3 {h : Hp} {a : Nat} (o : isO h a 11) : ab_gI h a 11 3 = some (gI h a 3) := ab_gIq o rfl
theorem g12_0 {h : Hp} {a : Nat} (o : isO h a 12) : ab_gR h a 12 0 = some (gR h a 0) := ab_gRq o rfl
theorem g12_1 {h : Hp} {a : Nat} (o : isO h a 12) : ab_gI h a 12 1 = some (gI h a 1) := ab_gIq o rfl
theorem g12_2 {h : Hp} {a : Nat} (o : isO h a 12) : ab_gI h a 12 2 = some (gI h a 2) := ab_gIq o rfl
theorem g12_3 {h : Hp} {a : Nat} (o : isO h a 12) : ab_gI h a 12 3 = some (gI h a 3) := ab_gIq o rfl
theorem g13_0 {h : Hp} {a : Nat} (o : isO h a 13) : ab_gI h a 13 0 = some (gI h a 0) := ab_gIq o rfl
theorem g13_1 {h : Hp} {a : Nat} (o : isO h a 13) : ab_gI h a 13 1 = some (gI h a 1) := ab_gIq o rfl
theorem g13_2 {h : Hp} {a : Nat} (o : isO h a 13) : ab_gI h a 13 2 = some (gI h a 2) := ab_gIq o rfl
theorem g13_3 {h : Hp} {a : Nat} (o : isO h a 13) : ab_gI h a 13 3 = some (gI h a 3) := ab_gIq o rfl
theorem g13_4 {h : Hp} {a : Nat} (o : isO h a 13) : ab_gI h a 13 4 = some (gI h a 4) := ab_gIq o rfl
theorem g13_5 {h : Hp} {a : Nat} (o : isO h a 13) : ab_gI h a 13 5 = some (gI h a 5) := ab_gIq o rfl
theorem g13_6 {h : Hp} {a : Nat} (o : isO h a 13) : ab_gI h a 13 6 = some (gI h a 6) := ab_gIq o rfl
theorem g13_7 {h : Hp} {a : Nat} (o : isO h a 13) : ab_gI h a 13 7 = some (gI h a 7) := ab_gIq o rfl
theorem g13_8 {h : Hp} {a : Nat} (o : isO h a 13) : ab_gI h a 13 8 = some (gI h a 8) := ab_gIq o rfl
theorem g13_9 {h : Hp} {a : Nat} (o : isO h a 13) : ab_gI h a 13 9 = some (gI h a 9) := ab_gIq o rfl
theorem g13_10 {h : Hp} {a : Nat} (o : isO h a 13) : ab_gI h a 13 10 = some (gI h a 10) := ab_gIq o rfl
theorem g13_11 {h : Hp} {a : Nat} (o : isO h a 13) : ab_gR h a 13 11 = some (gR h a 11) := ab_gRq o rfl
theorem g13_12 {h : Hp} {a : Nat} (o : isO h a 13) : ab_gR h a 13 12 = some (gR h a 12) := ab_gRq o rfl
theorem g13_13 {h : Hp} {a : Nat} (o : isO h a 13) : ab_gR h a 13 13 = some (gR h a 13) := ab_gRq o rfl
theorem g13_14 {h : Hp} {a : Nat} (o : isO h a 13) : ab_gR h a 13 14 = some (gR h a 14) := ab_gRq o rfl
theorem g13_15 {h : Hp} {a : Nat} (o : isO h a 13) : ab_gR h a 13 15 = some (gR h a 15) := ab_gRq o rfl
theorem g13_16 {h : Hp} {a : Nat} (o : isO h a 13) : ab_gR h a 13 16 = some (gR h a 16) := ab_gRq o rfl
theorem g13_17 {h : Hp} {a : Nat} (o : isO h a 13) : ab_gR h a 13 17 = some (gR h a 17) := ab_gRq o rfl
theorem g13_18 {h : Hp} {a : Nat} (o : isO h a 13) : ab_gR h a 13 18 = some (gR h a 18) := ab_gRq o rfl
theorem g13_19 {h : Hp} {a : Nat} (o : isO h a 13) : ab_gR h a 13 19 = some (gR h a 19) := ab_gRq o rfl
theorem g13_20 {h : Hp} {a : Nat} (o : isO h a 13) : ab_gR h a 13 20 = some (gR h a 20) := ab_gRq o rfl
theorem g13_21 {h : Hp} {a : Nat} (o : isO h a 13) : ab_gR h a 13 21 = some (gR h a 21) := ab_gRq o rfl
theorem g13_22 {h : Hp} {a : Nat} (o : isO h a 13) : ab_gR h a 13 22 = some (gR h a 22) := ab_gRq o rfl
theorem g13_23 {h : Hp} {a : Nat} (o : isO h a 13) : ab_gR h a 13 23 = some (gR h a 23) := ab_gRq o rfl
theorem g13_24 {h : Hp} {a : Nat} (o : isO h a 13) : ab_gR h a 13 24 = some (gR h a 24) := ab_gRq o rfl
theorem g13_25 {h : Hp} {a : Nat} (o : isO h a 13) : ab_gR h a 13 25 = some (gR h a 25) := ab_gRq o rfl
theorem g13_26 {h : Hp} {a : Nat} (o : isO h a 13) : ab_gR h a 13 26 = some (gR h a 26) := ab_gRq o rfl
theorem g13_27 {h : Hp} {a : Nat} (o : isO h a 13) : ab_gR h a 13 27 = some (gR h a 27) := ab_gRq o rfl
theorem g13_28 {h : Hp} {a : Nat} (o : isO h a 13) : ab_gR h a 13 28 = some (gR h a 28) := ab_gRq o rfl
theorem g13_29 {h : Hp} {a : Nat} (o : isO h a 13) : ab_gR h a 13 29 = some (gR h a 29) := ab_gRq o rfl
theorem g13_30 {h : Hp} {a : Nat} (o : isO h a 13) : ab_gR h a 13 30 = some (gR h a 30) := ab_gRq o rfl
theorem g13_31 {h : Hp} {a : Nat} (o : isO h a 13) : ab_gR h a 13 31 = some (gR h a 31) := ab_gRq o rfl
theorem g13_32 {h : Hp} {a : Nat} (o : isO h a 13) : ab_gR h a 13 32 = some (gR h a 32) := ab_gRq o rfl
theorem g13_33 {h : Hp} {a : Nat} (o : isO h a 13) : ab_gR h a 13 33 = some (gR h a 33) := ab_gRq o rfl
theorem g13_34 {h : Hp} {a : Nat} (o : isO h a 13) : ab_gR h a 13 34 = some (gR h a 34) := ab_gRq o rfl
theorem g13_35 {h : Hp} {a : Nat} (o : isO h a 13) : ab_gR h a 13 35 = some (gR h a 35) := ab_gRq o rfl
theorem g13_36 {h : Hp} {a : Nat} (o : isO h a 13) : ab_gR h a 13 36 = some (gR h a 36) := ab_gRq o rfl
theorem g14_0 {h : Hp} {a : Nat} (o : isO h a 14) : ab_gR h a 14 0 = some (gR h a 0) := ab_gRq o rfl
theorem g14_1 {h : Hp} {a : Nat} (o : isO h a 14) : ab_gI h a 14 1 = some (gI h a 1) := ab_gIq o rfl
theorem g14_2 {h : Hp} {a : Nat} (o : isO h a 14) : ab_gI h a 14 2 = some (gI h a 2) := ab_gIq o rfl
theorem g14_3 {h : Hp} {a : Nat} (o : isO h a 14) : ab_gI h a 14 3 = some (gI h a 3) := ab_gIq o rfl

/-- a heap with an object's slot, an array's component set -/
def sV (h : Hp) (a k : Nat) (v : Value) : Hp := match h.1 a with
  | some (.inl o) => ab_up h a (.inl (o.1, ab_fu o.2 k v))
  | _ => h
def sI (h : Hp) (a k : Nat) (v : Int32) : Hp := sV h a k (.int v)
def sJ (h : Hp) (a k : Nat) (v : Int64) : Hp := sV h a k (.long v)
def sR (h : Hp) (a k : Nat) (v : Option Nat) : Hp := sV h a k (va_rf v)
def sA (h : Hp) (a i : Nat) (v : Int32) : Hp := match h.1 a with
  | some (.inr (t, n, .inl f)) => ab_up h a (.inr (t, n, .inl (upd f i v)))
  | _ => h
def sAJ (h : Hp) (a i : Nat) (v : Int64) : Hp := match h.1 a with
  | some (.inr (t, n, .inr (.inl f))) => ab_up h a (.inr (t, n, .inr (.inl (vp_updL f i v))))
  | _ => h
def sAR (h : Hp) (a i : Nat) (v : Option Nat) : Hp := match h.1 a with
  | some (.inr (t, n, .inr (.inr (.inr (.inr f))))) => ab_up h a (.inr (t, n, .inr (.inr (.inr (.inr (va_up f i v))))))
  | _ => h
theorem ab_pq {h : Hp} {a c k : Nat} {v : Value} (o : isO h a c) (hz : hfz h ≤ a) : ab_p h a c k v = some (sV h a k v) := by
  unfold ab_p
  rw [ab_Fq o]
  obtain ⟨F, h1, h2⟩ := o
  simp [ab_bd, ab_w, hz, sV, h1, gF]
theorem ab_pIq {h : Hp} {a c k : Nat} {v : Int32} (o : isO h a c) (hz : hfz h ≤ a) : ab_pI h a c k v = some (sI h a k v) := ab_pq o hz
theorem ab_pJq {h : Hp} {a c k : Nat} {v : Int64} (o : isO h a c) (hz : hfz h ≤ a) : ab_pJ h a c k v = some (sJ h a k v) := ab_pq o hz
theorem ab_pRq {h : Hp} {a c k : Nat} {v : Option Nat} (o : isO h a c) (hz : hfz h ≤ a) : ab_pR h a c k v = some (sR h a k v) := ab_pq o hz
theorem ab_pZq {h : Hp} {a c k : Nat} {v : Int32} (o : isO h a c) (hz : hfz h ≤ a) (hv : v = 0 ∨ v = 1) : ab_pZ h a c k v = some (sI h a k v) := by
  unfold ab_pZ
  rw [if_pos hv]
  exact ab_pq o hz
theorem ab_lenA {h : Hp} {a t n : Nat} (o : isA h a t n) : ab_len h a = some (Int32.ofNat n) := by
  obtain ⟨f, h1⟩ := o
  simp [ab_len, h1]
theorem ab_lenR {h : Hp} {a t n : Nat} (o : isR h a t n) : ab_len h a = some (Int32.ofNat n) := by
  obtain ⟨f, h1⟩ := o
  simp [ab_len, h1]
/-- an index that lies in 0 .. n - 1 -/
def ixI (i : Int32) (n : Nat) : Prop := 0 ≤ i ∧ i.toNatClampNeg < n
theorem ixI.no {i : Int32} {n : Nat} (h : ixI i n) : ¬ (i < 0 ∨ n ≤ i.toNatClampNeg) := by
  obtain ⟨h1, h2⟩ := h
  intro h3
  rcases h3 with h3 | h3
  · exact absurd h1 (Int32.not_le.mpr h3)
  · omega
theorem ab_aIq {h : Hp} {a t n : Nat} {i : Int32} (o : isA h a t n) (hi : ixI i n) : ab_aI h a t i = some (aF h a i.toNatClampNeg) := by
  obtain ⟨f, h1⟩ := o
  simp only [ab_aI, ab_A, h1, if_true, ab_bd, aF]
  rw [if_neg hi.no]
theorem ab_aJq {h : Hp} {a n : Nat} {i : Int32} (o : isJ h a n) (hi : ixI i n) : ab_aJ h a 3 i = some (aJ h a i.toNatClampNeg) := by
  obtain ⟨f, h1⟩ := o
  simp only [ab_aJ, ab_A, h1, if_true, ab_bd, aJ]
  rw [if_neg hi.no]
theorem ab_aRq {h : Hp} {a t n : Nat} {i : Int32} (o : isR h a t n) (hi : ixI i n) : ab_aR h a t i = some (aR h a i.toNatClampNeg) := by
  obtain ⟨f, h1⟩ := o
  simp only [ab_aR, ab_A, h1, if_true, ab_bd, aR]
  rw [if_neg hi.no]
theorem ab_sq {h : Hp} {a t n : Nat} {i v : Int32} (o : isA h a t n) (hz : hfz h ≤ a) (hi : ixI i n) : ab_s h a t i v = some (sA h a i.toNatClampNeg v) := by
  obtain ⟨f, h1⟩ := o
  simp only [ab_s, ab_A, h1, if_true, ab_bd, sA, ab_w, hz]
  rw [if_neg hi.no]
theorem ab_sIq {h : Hp} {a n : Nat} {i v : Int32} (o : isA h a 0 n) (hz : hfz h ≤ a) (hi : ixI i n) : ab_sI h a i v = some (sA h a i.toNatClampNeg v) := ab_sq o hz hi
theorem ab_sBq {h : Hp} {a n : Nat} {i v : Int32} (o : isA h a 1 n) (hz : hfz h ≤ a) (hi : ixI i n) : ab_sB h a i v = some (sA h a i.toNatClampNeg (vp_nar .byte v)) := ab_sq o hz hi
theorem ab_sCq {h : Hp} {a n : Nat} {i v : Int32} (o : isA h a 2 n) (hz : hfz h ≤ a) (hi : ixI i n) : ab_sC h a i v = some (sA h a i.toNatClampNeg (vp_nar .char v)) := ab_sq o hz hi
theorem ab_sZq {h : Hp} {a n : Nat} {i v : Int32} (o : isA h a 4 n) (hz : hfz h ≤ a) (hi : ixI i n) : ab_sZ h a i v = some (sA h a i.toNatClampNeg (vp_nar .boolean v)) := ab_sq o hz hi
theorem ab_sJq {h : Hp} {a n : Nat} {i : Int32} {v : Int64} (o : isJ h a n) (hz : hfz h ≤ a) (hi : ixI i n) : ab_sJ h a 3 i v = some (sAJ h a i.toNatClampNeg v) := by
  obtain ⟨f, h1⟩ := o
  simp only [ab_sJ, ab_A, h1, if_true, ab_bd, sAJ, ab_w, hz]
  rw [if_neg hi.no]
theorem ab_sRq {h : Hp} {a t n c b : Nat} {i : Int32} (o : isR h a t n) (ob : isO h b c) (hz : hfz h ≤ a) (hi : ixI i n) : ab_sR h a t c i b = some (sAR h a i.toNatClampNeg (some b)) := by
  have hb := ab_Fq ob
  obtain ⟨f, h1⟩ := o
  simp only [ab_sR, hb, ab_A, h1, if_true, ab_bd, sAR, ab_w, hz]
  rw [if_neg hi.no]
theorem ab_caq {β : Type} {h : Hp} {a t n : Nat} {K : Option β} (o : isA h a t n) (hz : hfz h ≤ a) : ab_ca h a t K = K := by
  obtain ⟨f, h1⟩ := o
  simp [ab_ca, ab_A, h1, hz]
theorem ab_czq {β : Type} {h : Hp} {a c : Nat} {K : Option β} (o : isO h a c) (hz : hfz h ≤ a) : ab_cz h a c K = K := by
  simp [ab_cz, ab_ckq o, hz]
/-! what stays: the rest (sizes, budgets, constants) at every set; types; other cells -/
theorem sV_2 {h : Hp} {a k : Nat} {v : Value} : (sV h a k v).2 = h.2 := by
  unfold sV; split <;> rfl
theorem sI_2 {h : Hp} {a k : Nat} {v : Int32} : (sI h a k v).2 = h.2 := sV_2
theorem sJ_2 {h : Hp} {a k : Nat} {v : Int64} : (sJ h a k v).2 = h.2 := sV_2
theorem sR_2 {h : Hp} {a k : Nat} {v : Option Nat} : (sR h a k v).2 = h.2 := sV_2
theorem sA_2 {h : Hp} {a k : Nat} {v : Int32} : (sA h a k v).2 = h.2 := by
  unfold sA; split <;> rfl
theorem sAJ_2 {h : Hp} {a k : Nat} {v : Int64} : (sAJ h a k v).2 = h.2 := by
  unfold sAJ; split <;> rfl
theorem sAR_2 {h : Hp} {a k : Nat} {v : Option Nat} : (sAR h a k v).2 = h.2 := by
  unfold sAR; split <;> rfl
theorem sV_o {h : Hp} {a k q : Nat} {v : Value} (hq : q ≠ a) : (sV h a k v).1 q = h.1 q := by
  unfold sV; split
  · simp [ab_up, hq]
  · rfl
theorem sA_o {h : Hp} {a k q : Nat} {v : Int32} (hq : q ≠ a) : (sA h a k v).1 q = h.1 q := by
  unfold sA; split
  · simp [ab_up, hq]
  · rfl
theorem sAJ_o {h : Hp} {a k q : Nat} {v : Int64} (hq : q ≠ a) : (sAJ h a k v).1 q = h.1 q := by
  unfold sAJ; split
  · simp [ab_up, hq]
  · rfl
theorem sAR_o {h : Hp} {a k q : Nat} {v : Option Nat} (hq : q ≠ a) : (sAR h a k v).1 q = h.1 q := by
  unfold sAR; split
  · simp [ab_up, hq]
  · rfl
theorem sV_s {h : Hp} {a c k : Nat} {v : Value} {F : Nat → Value} (e : h.1 a = some (.inl (c, F))) : (sV h a k v).1 a = some (.inl (c, ab_fu F k v)) := by
  unfold sV; rw [e]; simp [ab_up]
theorem sA_s {h : Hp} {a t n k : Nat} {v : Int32} {f : Nat → Int32} (e : h.1 a = some (.inr (t, n, .inl f))) : (sA h a k v).1 a = some (.inr (t, n, .inl (upd f k v))) := by
  unfold sA; rw [e]; simp [ab_up]
