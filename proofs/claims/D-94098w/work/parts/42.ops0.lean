/-! OPS: what stays of a state; ends -/
def fin (s : St) (t : Int32) : St := (s.1, fun j k => if j = 0 ∧ k = 1 then t else if j = 0 ∧ k = 3 then -1 else s.2 j k)
def SVX (h h' : Hp) (N : Nat) : Prop := (∀ k, k = 1 ∨ k = 5 ∨ k = 7 ∨ k = 16 ∨ k = 21 ∨ k = 26 ∨ k = 32 ∨ k = 40 → gI h' N k = gI h N k) ∧ (∀ j, j = 1 ∨ j = 15 ∨ j = 18 ∨ j = 22 ∨ j = 25 ∨ (26 ≤ j ∧ j ≤ 31) → aF h' (N + j) = aF h (N + j)) ∧ ∀ c, c < 3 → gI h' (N + (32 + 3 * c)) 2 = gI h (N + (32 + 3 * c)) 2 ∧ aF h' (N + (33 + 3 * c)) = aF h (N + (33 + 3 * c))
def SVM (h h' : Hp) (N : Nat) : Prop := (∀ k, k = 6 ∨ k = 13 ∨ k = 19 ∨ k = 27 ∨ k = 33 ∨ k = 34 ∨ k = 37 ∨ k = 42 → gI h' N k = gI h N k) ∧ (∀ j, (1 ≤ j ∧ j ≤ 3) ∨ j = 7 ∨ j = 11 ∨ j = 13 ∨ j = 14 ∨ (16 ≤ j ∧ j ≤ 20) → aF h' (N + j) = aF h (N + j))
theorem SVX.rf {h : Hp} {N : Nat} : SVX h h N := ⟨fun _ _ => rfl, fun _ _ => rfl, fun _ _ => ⟨rfl, rfl⟩⟩
theorem SVM.rf {h : Hp} {N : Nat} : SVM h h N := ⟨fun _ _ => rfl, fun _ _ => rfl⟩
theorem SVX.trans {h h1 h2 : Hp} {N : Nat} (a : SVX h h1 N) (b : SVX h1 h2 N) : SVX h h2 N :=
  ⟨fun k hk => (b.1 k hk).trans (a.1 k hk), fun k hk => (b.2.1 k hk).trans (a.2.1 k hk), fun c hc => ⟨(b.2.2 c hc).1.trans (a.2.2 c hc).1, (b.2.2 c hc).2.trans (a.2.2 c hc).2⟩⟩
theorem SVM.trans {h h1 h2 : Hp} {N : Nat} (a : SVM h h1 N) (b : SVM h1 h2 N) : SVM h h2 N :=
  ⟨fun k hk => (b.1 k hk).trans (a.1 k hk), fun k hk => (b.2 k hk).trans (a.2 k hk)⟩
theorem VX.fin {h h' : Hp} {N m5 : Nat} {s : St} {t : Int32} (V : VX h N m5 s) (Q : SVX h h' N) (ht : gI h' N 4 = t) (h4 : t ≠ 4) : VX h' N m5 (fin s t) := by
  obtain ⟨v1, v2, v3, v4, v5, v6, v7, v8, v9, v10, v11, v12, v13, v14, v15, v16, v17, v18, v19, v20, v21, v22, v23, v24⟩ := V
  obtain ⟨Q1, Q2, Q3⟩ := Q
  refine ⟨(Q1 1 (by omega)).trans v1, ht, (Q1 5 (by omega)).trans v3, (Q1 7 (by omega)).trans v4, (Q1 16 (by omega)).trans v5, (Q1 21 (by omega)).trans v6, (Q1 26 (by omega)).trans v7, (Q1 32 (by omega)).trans v8, (Q1 40 (by omega)).trans v9, fun e => absurd e h4, fun _ => rfl, (Q2 1 (by omega)).trans v12, (Q2 28 (by omega)).trans v13, (Q2 27 (by omega)).trans v14, (Q2 29 (by omega)).trans v15, (Q2 30 (by omega)).trans v16, (Q2 31 (by omega)).trans v17, ?_, ?_, ?_, ?_, fun c hc => (Q3 c hc).1.trans (v22 c hc), fun c hc k hk => by rw [(Q3 c hc).2]; exact v23 c hc k hk, fun c hc => by rw [Q2 26 (by omega)]; exact v24 c hc⟩
  · rw [Q2 15 (by omega)]; exact v18
  · rw [Q2 18 (by omega)]; exact v19
  · rw [Q2 22 (by omega)]; exact v20
  · rw [Q2 25 (by omega)]; exact v21
theorem VM.fin {h h' : Hp} {N : Nat} {s : St} {t : Int32} (V : VM h N s) (Q : SVM h h' N) (ht : gI h' N 1 = t) (hw : gI h' N 2 = -1) : VM h' N (fin s t) := by
  obtain ⟨v1, v2, v3, v4, v5, v6, v7, v8, v9, v10, v11, v12, v13, v14, v15, v16, v17, v18, v19, v20, v21, v22⟩ := V
  obtain ⟨Q1, Q2⟩ := Q
  exact ⟨(Q1 6 (by omega)).trans v1, ht, (Q1 13 (by omega)).trans v3, hw, (Q1 19 (by omega)).trans v5, (Q1 27 (by omega)).trans v6, (Q1 33 (by omega)).trans v7, (Q1 34 (by omega)).trans v8, (Q1 37 (by omega)).trans v9, (Q1 42 (by omega)).trans v10, (Q2 1 (by omega)).trans v11, (Q2 7 (by omega)).trans v12, (Q2 11 (by omega)).trans v13, (Q2 13 (by omega)).trans v14, (Q2 14 (by omega)).trans v15, (Q2 16 (by omega)).trans v16, (Q2 17 (by omega)).trans v17, (Q2 18 (by omega)).trans v18, (Q2 19 (by omega)).trans v19, (Q2 20 (by omega)).trans v20, fun c hc => by rw [Q2 2 (by omega)]; exact v21 c hc, fun c hc k hk => by rw [Q2 3 (by omega)]; exact v22 c hc k hk⟩
/-- SVX where neither a counted slot of the component nor a counted cell is touched -/
theorem SVX.ofI {h : Hp} {N k : Nat} {v : Int32} (o : isO h N 0) (hk : k = 4 ∨ k = 6 ∨ k = 11 ∨ k = 17 ∨ k = 33 ∨ k = 34) : SVX h (sI h N k v) N :=
  ⟨fun j hj => by rw [gI_sI o, if_neg (by omega)], fun j _ => aF_sI, fun c _ => ⟨by rw [gI_sI o, if_neg (by omega)], aF_sI⟩⟩
theorem SVM.ofI {h : Hp} {N k : Nat} {v : Int32} (o : isO h N 4) (hk : k < 6 ∨ (7 ≤ k ∧ k < 13) ∨ k = 20 ∨ k = 21 ∨ k = 24 ∨ k = 25) : SVM h (sI h N k v) N :=
  ⟨fun j hj => by rw [gI_sI o, if_neg (by omega)], fun j _ => aF_sI⟩
def an (h : Hp) (N : Nat) : Hp := sI (sI h N 4 0) N 6 (-1)
def rf (h : Hp) (N : Nat) (t : Int32) : Hp := sI (sI h N 1 t) N 2 (-1)
theorem SX.o {h : Hp} {N : Nat} (S : SX h N) : isO h N 0 := by
  obtain ⟨hz, hfu0, o0, o1, r0_0, o2, r0_2, o3, r2_0, r2_1, o4, r2_2, o5, r0_8, o6, o7, o8, r6_0, r6_1, o9, o10, o11, r9_0, r9_1, o32, o33, o34, r32_0, r32_1, o35, o36, o37, r35_0, r35_1, o38, o39, o40, r38_0, r38_1, r0_9, r0_10, o12, r0_12, o13, r0_13, o14, r0_14, o15, r0_15, o16, r0_18, o17, r0_19, o18, r0_20, o19, r0_22, o20, r0_23, o21, r0_24, o22, r0_25, o23, r0_28, o24, r0_29, o25, r0_30, o26, r0_31, o27, r0_35, o28, r0_36, o29, r0_37, o30, r0_38, o31, r0_39, d5_0, d5_1, d5_2⟩ := id S
  exact o0
theorem SM.o {h : Hp} {N : Nat} (S : SM h N) : isO h N 4 := by
  obtain ⟨hz, hfu0, o0, o1, r0_5, o2, r0_17, o3, r0_18, o4, r0_22, o5, r0_23, o6, r0_26, o7, r0_28, o8, r0_29, o9, r0_30, o10, r0_31, o11, r0_32, o12, r0_35, o13, r0_36, o14, r0_38, o15, r0_39, o16, r0_40, o17, r0_41, o18, r0_43, o19, r0_44, o20, r0_45⟩ := id S
  exact o0
theorem SX.f {h : Hp} {N : Nat} (S : SX h N) : hfu h = 300000 := S.2.1
theorem SM.f {h : Hp} {N : Nat} (S : SM h N) : hfu h = 300000 := S.2.1
theorem an_all {h : Hp} {N : Nat} (S : SX h N) : Fr N (N + 41) h (an h N) ∧ SX (an h N) N ∧ SVX h (an h N) N ∧ gI (an h N) N 4 = 0 := by
  have S1 := S.kept (Kp.sI (v := 0) (k := 4) S.o rfl)
  have f : Fr N (N + 41) h (an h N) := (Fr.sI S.o rfl (by omega) (by omega)).trans (Fr.sI S1.o rfl (by omega) (by omega))
  refine ⟨f, S.kept f.1, (SVX.ofI S.o (by omega)).trans (SVX.ofI S1.o (by omega)), ?_⟩
  unfold an
  rw [gI_sI S1.o, if_neg (by omega), gI_sI S.o, if_pos ⟨rfl, rfl⟩]
theorem no_all {h : Hp} {N : Nat} (S : SX h N) (w : Int32) : Fr N (N + 41) h (sI h N 4 w) ∧ SX (sI h N 4 w) N ∧ SVX h (sI h N 4 w) N ∧ gI (sI h N 4 w) N 4 = w := by
  have f : Fr N (N + 41) h (sI h N 4 w) := Fr.sI S.o rfl (by omega) (by omega)
  exact ⟨f, S.kept f.1, SVX.ofI S.o (by omega), by rw [gI_sI S.o, if_pos ⟨rfl, rfl⟩]⟩
theorem rf_all {h : Hp} {N : Nat} (S : SM h N) (t : Int32) : Fr N (N + 21) h (rf h N t) ∧ SM (rf h N t) N ∧ SVM h (rf h N t) N ∧ gI (rf h N t) N 1 = t ∧ gI (rf h N t) N 2 = -1 := by
  have S1 := S.kept (Kp.sI (v := t) (k := 1) S.o rfl)
  have f : Fr N (N + 21) h (rf h N t) := (Fr.sI S.o rfl (by omega) (by omega)).trans (Fr.sI S1.o rfl (by omega) (by omega))
  refine ⟨f, S.kept f.1, (SVM.ofI S.o (by omega)).trans (SVM.ofI S1.o (by omega)), ?_, ?_⟩
  · unfold rf
    rw [gI_sI S1.o, if_neg (by omega), gI_sI S.o, if_pos ⟨rfl, rfl⟩]
  · unfold rf
    rw [gI_sI S1.o, if_pos ⟨rfl, rfl⟩]
theorem th_all {h : Hp} {N : Nat} (S : SM h N) (v : Int32) : Fr N (N + 21) h (sI h N 0 v) ∧ SM (sI h N 0 v) N ∧ SVM h (sI h N 0 v) N := by
  have f : Fr N (N + 21) h (sI h N 0 v) := Fr.sI S.o rfl (by omega) (by omega)
  exact ⟨f, S.kept f.1, SVM.ofI S.o (by omega)⟩
/-- with a day's thing of a sort -/
def onI {α : Type} (yo : Option Dy) (j : Nat) (x : Int32) (a : α) (f : Dy → Nat → α) : α := match yo with
  | none => a
  | some y => match ixo (some y) j x with
    | none => a
    | some i => f y i
def m5 (yo : Option Dy) : Nat := match yo with
  | none => 0
  | some y => y.1 5
/-- the component, the model stand for a day and a state -/
def RXs (h : Hp) (N E : Nat) (yo : Option Dy) (s : St) : Prop := SX h N ∧ PX h N E yo ∧ VX h N (m5 yo) s ∧ N + 41 ≤ E
def RMs (h : Hp) (N E : Nat) (yo : Option Dy) (s : St) : Prop := SM h N ∧ PM h N E yo ∧ VM h N s ∧ N + 21 ≤ E
/-- ranges of a state -/
def Inv (yo : Option Dy) (s : St) : Prop := (∃ t, t ≤ 900 ∧ s.2 0 0 = nI t) ∧
  (match yo with
    | none => ∀ c, s.1 c = []
    | some y => ∀ c, c < 3 → (y.1 6 ≤ c → s.1 c = []) ∧ (∀ x ∈ s.1 c, x < y.1 5) ∧ (s.1 c).Nodup ∧ (c < y.1 6 → (s.1 c).length ≤ (y.2 28 c).toNatClampNeg)) ∧
  (∀ x, x < 6 → ∃ k, k ≤ 10 ∧ s.2 8 x = nI k) ∧
  (∃ p, p ≤ 16 ∧ s.2 0 9 = nI p ∧ ∀ k, k < p → ∃ c, c < 3 ∧ (∀ y, yo = some y → c < y.1 6) ∧ s.2 10 k = nI c) ∧
  (∃ m, m ≤ 14 ∧ s.2 0 6 = nI m) ∧ (∃ m, m ≤ 5 ∧ s.2 0 7 = nI m) ∧ (s.2 0 5 = 0 ∨ s.2 0 5 = 1) ∧ (s.2 0 8 = 0 ∨ s.2 0 8 = 1)
