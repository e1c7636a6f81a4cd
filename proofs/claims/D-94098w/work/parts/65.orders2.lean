/-- the first strict best -/
noncomputable def obS (y : Dy) (c : Nat) (st : Int32 × List Nat) (l : List Nat) : Int32 × List Nat := if st.1 = -1 then (wV y c l, l) else if wV y c l < st.1 then (wV y c l, l) else st
/-- what the orders' recursion stands on: the order tried so far, the best yet -/
def OS (h : Hp) (N : Nat) (pre : List Nat) (st : Int32 × List Nat) : Prop := RL h (N + 6) pre ∧ gI h N 11 = st.1 ∧ (st.1 = -1 ∨ RL h (N + 9) st.2)
theorem SX.tried {h : Hp} {N : Nat} (S : SX h N) : RO h N (N + 6) ∧ RO h N (N + 9) ∧ gR h N 9 = some (N + 6) ∧ gR h N 10 = some (N + 9) := by
  obtain ⟨hz, hfu0, o0, o1, r0_0, o2, r0_2, o3, r2_0, r2_1, o4, r2_2, o5, r0_8, o6, o7, o8, r6_0, r6_1, o9, o10, o11, r9_0, r9_1, o32, o33, o34, r32_0, r32_1, o35, o36, o37, r35_0, r35_1, o38, o39, o40, r38_0, r38_1, r0_9, r0_10, o12, r0_12, o13, r0_13, o14, r0_14, o15, r0_15, o16, r0_18, o17, r0_19, o18, r0_20, o19, r0_22, o20, r0_23, o21, r0_24, o22, r0_25, o23, r0_28, o24, r0_29, o25, r0_30, o26, r0_31, o27, r0_35, o28, r0_36, o29, r0_37, o30, r0_38, o31, r0_39, d5_0, d5_1, d5_2⟩ := id S
  exact ⟨⟨by omega, by omega, o6, r6_0, r6_1, o7, o8⟩, ⟨by omega, by omega, o9, r9_0, r9_1, o10, o11⟩, r0_9, r0_10⟩
