set_option maxRecDepth 100000
/-! CORE: the abstract operations (Option: none = stuck), and rows of the instructions that use them -/
def ab_bd {α β : Type} (x : Option α) (k : α → Option β) : Option β := match x with
  | none => none
  | some a => k a
def ab_b2 {α β : Type} (x : Option (α × Hp)) (k : α → Hp → Option β) : Option β := match x with
  | none => none
  | some p => k p.1 p.2
def ab_bx {α β : Type} (x : Option ((α ⊕ Nat) × Hp)) (k : α → Hp → Option β) (t : Nat → Hp → Option β) : Option β := match x with
  | none => none
  | some (.inl a, h) => k a h
  | some (.inr q, h) => t q h
theorem ab_bdE {α β : Type} {x : Option α} {k : α → Option β} {o : β} (h : ab_bd x k = some o) : ∃ a, x = some a ∧ k a = some o := by
  cases x with
  | none => cases h
  | some a => exact ⟨a, rfl, h⟩
theorem ab_b2E {α β : Type} {x : Option (α × Hp)} {k : α → Hp → Option β} {o : β} (h : ab_b2 x k = some o) : ∃ a h1, x = some (a, h1) ∧ k a h1 = some o := by
  cases x with
  | none => cases h
  | some a => exact ⟨a.1, a.2, rfl, h⟩
theorem ab_bxE {α β : Type} {x : Option ((α ⊕ Nat) × Hp)} {k : α → Hp → Option β} {t : Nat → Hp → Option β} {o : β} (h : ab_bx x k t = some o) : (∃ a h1, x = some (.inl a, h1) ∧ k a h1 = some o) ∨ ∃ q h1, x = some (.inr q, h1) ∧ t q h1 = some o := by
  rcases x with _ | ⟨a | q, h1⟩
  · cases h
  · exact Or.inl ⟨a, h1, rfl, h⟩
  · exact Or.inr ⟨q, h1, rfl, h⟩
theorem ab_ip {β : Type} {P : Prop} {dc : Decidable P} {A B : Option β} {o : β} (c : P) (h : @ite (Option β) P dc A B = some o) : A = some o := by
  rw [if_pos c] at h
  exact h
theorem ab_in {β : Type} {P : Prop} {dc : Decidable P} {A B : Option β} {o : β} (c : ¬ P) (h : @ite (Option β) P dc A B = some o) : B = some o := by
  rw [if_neg c] at h
  exact h
def ab_F (h : Hp) (a c : Nat) : Option (Nat → Value) := match h.1 a with
  | some (.inl o) => if o.1 = c then some o.2 else none
  | _ => none
def ab_is (h : Hp) (a c : Nat) : Prop := ∃ F, h.1 a = some (.inl (c, F))
theorem ab_FE {h : Hp} {a c : Nat} {F : Nat → Value} (e : ab_F h a c = some F) : h.1 a = some (.inl (c, F)) := by
  unfold ab_F at e
  split at e
  · rename_i o ho
    split at e
    · rename_i hc
      cases e
      rw [ho, ← hc]
    · cases e
  · cases e
def ab_ck {β : Type} (h : Hp) (a c : Nat) (K : Option β) : Option β := match ab_F h a c with
  | some _ => K
  | none => none
theorem ab_ckE {β : Type} {h : Hp} {a c : Nat} {K : Option β} {o : β} (e : ab_ck h a c K = some o) : ab_is h a c ∧ K = some o := by
  unfold ab_ck at e
  split at e
  · rename_i F hF
    exact ⟨⟨F, ab_FE hF⟩, e⟩
  · cases e
/-- of class c, and from the frozen place on -/
def ab_cz {β : Type} (h : Hp) (a c : Nat) (K : Option β) : Option β := ab_ck h a c (if hfz h ≤ a then K else none)
theorem ab_czE {β : Type} {h : Hp} {a c : Nat} {K : Option β} {o : β} (e : ab_cz h a c K = some o) : (ab_is h a c ∧ hfz h ≤ a) ∧ K = some o := by
  obtain ⟨h1, h2⟩ := ab_ckE e
  by_cases hz : hfz h ≤ a
  · rw [if_pos hz] at h2
    exact ⟨⟨h1, hz⟩, h2⟩
  · rw [if_neg hz] at h2
    cases h2
def ab_vI (v : Value) : Option Int32 := match v with
  | .int x => some x
  | _ => none
def ab_vJ (v : Value) : Option Int64 := match v with
  | .long x => some x
  | _ => none
def ab_vR (v : Value) : Option (Option Nat) := match v with
  | .null => some none
  | .ref a => some (some a)
  | _ => none
theorem ab_vIE {v : Value} {x : Int32} (h : ab_vI v = some x) : v = vv (vI x) := by
  cases v <;> cases h <;> rfl
theorem ab_vJE {v : Value} {x : Int64} (h : ab_vJ v = some x) : v = vv (vL x) := by
  cases v <;> cases h <;> rfl
theorem ab_vRE {v : Value} {x : Option Nat} (h : ab_vR v = some x) : v = vv (vR x) := by
  cases v <;> cases h <;> rfl
def ab_gI (h : Hp) (a c k : Nat) : Option Int32 := ab_bd (ab_F h a c) fun F => ab_vI (F k)
def ab_gJ (h : Hp) (a c k : Nat) : Option Int64 := ab_bd (ab_F h a c) fun F => ab_vJ (F k)
def ab_gR (h : Hp) (a c k : Nat) : Option (Option Nat) := ab_bd (ab_F h a c) fun F => ab_vR (F k)
theorem ab_gIE {h : Hp} {a c k : Nat} {x : Int32} (e : ab_gI h a c k = some x) : ∃ F, h.1 a = some (.inl (c, F)) ∧ F k = vv (vI x) := by
  obtain ⟨F, h1, h2⟩ := ab_bdE e
  exact ⟨F, ab_FE h1, ab_vIE h2⟩
theorem ab_gJE {h : Hp} {a c k : Nat} {x : Int64} (e : ab_gJ h a c k = some x) : ∃ F, h.1 a = some (.inl (c, F)) ∧ F k = vv (vL x) := by
  obtain ⟨F, h1, h2⟩ := ab_bdE e
  exact ⟨F, ab_FE h1, ab_vJE h2⟩
theorem ab_gRE {h : Hp} {a c k : Nat} {x : Option Nat} (e : ab_gR h a c k = some x) : ∃ F, h.1 a = some (.inl (c, F)) ∧ F k = vv (vR x) := by
  obtain ⟨F, h1, h2⟩ := ab_bdE e
  exact ⟨F, ab_FE h1, ab_vRE h2⟩
/-- the name and number of an object of a class under Named -/
def ab_gN (h : Hp) (a : Nat) : Option (Option Nat) := match h.1 a with
  | some (.inl o) => if 6 ≤ o.1 ∧ o.1 ≤ 12 then ab_vR (o.2 0) else none
  | _ => none
def ab_gNI (h : Hp) (a : Nat) : Option Int32 := match h.1 a with
  | some (.inl o) => if 6 ≤ o.1 ∧ o.1 ≤ 12 then ab_vI (o.2 1) else none
  | _ => none
def ab_up (h : Hp) (a : Nat) (o : Ob) : Hp := (fun q => if q = a then some o else h.1 q, h.2)
def ab_fu (F : Nat → Value) (k : Nat) (v : Value) : Nat → Value := fun j => if j = k then v else F j
/-- a write: not below the frozen place -/
def ab_w (h : Hp) (a : Nat) (o : Ob) : Option Hp := if hfz h ≤ a then some (ab_up h a o) else none
theorem ab_wE {h h' : Hp} {a : Nat} {o : Ob} (e : ab_w h a o = some h') : hfz h ≤ a ∧ h' = ab_up h a o := by
  unfold ab_w at e
  split at e
  · exact ⟨by assumption, (Option.some.inj e).symm⟩
  · cases e
def ab_p (h : Hp) (a c k : Nat) (v : Value) : Option Hp := ab_bd (ab_F h a c) fun F => ab_w h a (.inl (c, ab_fu F k v))
def ab_pI (h : Hp) (a c k : Nat) (x : Int32) : Option Hp := ab_p h a c k (.int x)
def ab_pJ (h : Hp) (a c k : Nat) (x : Int64) : Option Hp := ab_p h a c k (.long x)
def ab_pR (h : Hp) (a c k : Nat) (r : Option Nat) : Option Hp := ab_p h a c k (va_rf r)
def ab_pZ (h : Hp) (a c k : Nat) (x : Int32) : Option Hp := if x = 0 ∨ x = 1 then ab_p h a c k (.int x) else none
def ab_pB (h : Hp) (a c k : Nat) (x : Int32) : Option Hp := if x.toInt8.toInt32 = x then ab_p h a c k (.int x) else none
/-- Named's constructor: this is of a class under it -/
def ab_pN (h : Hp) (a k : Nat) (v : Value) : Option Hp := match h.1 a with
  | some (.inl o) => if 6 ≤ o.1 ∧ o.1 ≤ 12 then ab_w h a (.inl (o.1, ab_fu o.2 k v)) else none
  | _ => none
theorem ab_pE {h h' : Hp} {a c k : Nat} {v : Value} (e : ab_p h a c k v = some h') : ∃ F, h.1 a = some (.inl (c, F)) ∧ hfz h ≤ a ∧ h' = ab_up h a (.inl (c, ab_fu F k v)) := by
  obtain ⟨F, h1, h2⟩ := ab_bdE e
  exact ⟨F, ab_FE h1, ab_wE h2⟩
def ab_A (h : Hp) (a t : Nat) : Option vp_A := match h.1 a with
  | some (.inr o) => if o.1 = t then some o.2 else none
  | _ => none
theorem ab_AE {h : Hp} {a t : Nat} {z : vp_A} (e : ab_A h a t = some z) : h.1 a = some (.inr (t, z)) := by
  unfold ab_A at e
  split at e
  · rename_i o ho
    split at e
    · rename_i hc
      cases e
      rw [ho, ← hc]
    · cases e
  · cases e
def ab_len (h : Hp) (a : Nat) : Option Int32 := match h.1 a with
  | some (.inr o) => some (Int32.ofNat o.2.1)
  | _ => none
def ab_aI (h : Hp) (a t : Nat) (i : Int32) : Option Int32 := ab_bd (ab_A h a t) fun z => match z.2 with
  | .inl f => if i < 0 ∨ z.1 ≤ i.toNatClampNeg then none else some (f i.toNatClampNeg)
  | _ => none
def ab_aJ (h : Hp) (a t : Nat) (i : Int32) : Option Int64 := ab_bd (ab_A h a t) fun z => match z.2 with
  | .inr (.inl f) => if i < 0 ∨ z.1 ≤ i.toNatClampNeg then none else some (f i.toNatClampNeg)
  | _ => none
def ab_aR (h : Hp) (a t : Nat) (i : Int32) : Option (Option Nat) := ab_bd (ab_A h a t) fun z => match z.2 with
  | .inr (.inr (.inr (.inr f))) => if i < 0 ∨ z.1 ≤ i.toNatClampNeg then none else some (f i.toNatClampNeg)
  | _ => none
def ab_s (h : Hp) (a t : Nat) (i v : Int32) : Option Hp := ab_bd (ab_A h a t) fun z => match z.2 with
  | .inl f => if i < 0 ∨ z.1 ≤ i.toNatClampNeg then none else ab_w h a (.inr (t, z.1, .inl (upd f i.toNatClampNeg v)))
  | _ => none
def ab_sI (h : Hp) (a : Nat) (i v : Int32) : Option Hp := ab_s h a 0 i v
def ab_sB (h : Hp) (a : Nat) (i v : Int32) : Option Hp := ab_s h a 1 i (vp_nar .byte v)
def ab_sC (h : Hp) (a : Nat) (i v : Int32) : Option Hp := ab_s h a 2 i (vp_nar .char v)
def ab_sZ (h : Hp) (a : Nat) (i v : Int32) : Option Hp := ab_s h a 4 i (vp_nar .boolean v)
def ab_sJ (h : Hp) (a t : Nat) (i : Int32) (v : Int64) : Option Hp := ab_bd (ab_A h a t) fun z => match z.2 with
  | .inr (.inl f) => if i < 0 ∨ z.1 ≤ i.toNatClampNeg then none else ab_w h a (.inr (t, z.1, .inr (.inl (vp_updL f i.toNatClampNeg v))))
  | _ => none
/-- a store of an object of class c into an array of such -/
def ab_sR (h : Hp) (a t c : Nat) (i : Int32) (b : Nat) : Option Hp := ab_bd (ab_F h b c) fun _ => ab_bd (ab_A h a t) fun z => match z.2 with
  | .inr (.inr (.inr (.inr f))) => if i < 0 ∨ z.1 ≤ i.toNatClampNeg then none else ab_w h a (.inr (t, z.1, .inr (.inr (.inr (.inr (va_up f i.toNatClampNeg (some b)))))))
  | _ => none
def ab_new (h : Hp) (c N : Nat) (ty : Nat → FieldType) : Option (Nat × Hp) :=
  if 1 ≤ hbc h ∧ N ≤ hbs h then some (hsz h, (fun q => if q = hsz h then some (.inl (c, fun k => defaultValue (ty k))) else h.1 q, hsz h + 1, hbc h - 1, hbs h - N, hco h)) else none
def ab_nA (h : Hp) (t : Nat) (n : Int32) (z : (Nat → Int32) ⊕ (Nat → Int64) ⊕ (Nat → UInt32) ⊕ (Nat → UInt64) ⊕ (Nat → Option Nat)) : Option (Nat × Hp) :=
  if n < 0 then none else if n.toNatClampNeg ≤ 1000000 ∧ 1 ≤ hbc h ∧ n.toNatClampNeg ≤ hbs h then some (hsz h, (fun q => if q = hsz h then some (.inr (t, n.toNatClampNeg, z)) else h.1 q, hsz h + 1, hbc h - 1, hbs h - n.toNatClampNeg, hco h)) else none
def ab_zI : (Nat → Int32) ⊕ (Nat → Int64) ⊕ (Nat → UInt32) ⊕ (Nat → UInt64) ⊕ (Nat → Option Nat) := .inl (fun _ => 0)
def ab_zJ : (Nat → Int32) ⊕ (Nat → Int64) ⊕ (Nat → UInt32) ⊕ (Nat → UInt64) ⊕ (Nat → Option Nat) := .inr (.inl (fun _ => 0))
def ab_zR : (Nat → Int32) ⊕ (Nat → Int64) ⊕ (Nat → UInt32) ⊕ (Nat → UInt64) ⊕ (Nat → Option Nat) := .inr (.inr (.inr (.inr (fun _ => none))))
section XR3
variable {C : Cx} {D : Dd} {G : Gx} {y : MethodName} {cc : ByteArray} {nL : Nat} {ret : Option FieldType} {F LL : Nat} {tb : List (Nat × Nat × Nat × Nat)} {pc : Nat} {L : List (Nat × Vl)} {st : List Vl} {h h' : Hp}
/-- a cell changes, the rest stays -/
theorem HR.up {h0 : Hp} {H H1 : Heap} {locs : List Loc} {cells slots a k : Nat} {o : Ob} (hr : HR C D h0 h H locs cells slots) (ha : h.1 a ≠ none) (hz : hfz h ≤ a) (z : H1.size = H.size) (oq : ∀ q : Nat, q ≠ a → H1[q]? = H[q]?) (ho : hat D (hfz h) (cs_ C) a o H1) : HR C D h0 (ab_up h a o) H1 (locs ++ [⟨a, k⟩]) cells slots := by
  obtain ⟨⟨h1, h2⟩, h3, h4, h5, h6, h7⟩ := hr
  have hA : XA h0 a := by
    by_cases q : a < hsz h0
    · exact Or.inl ⟨fun e => ha (h3 a q e), by show (hco h0).1 1001 ≤ a; rw [← h7]; exact hz⟩
    · exact Or.inr (Nat.le_of_not_lt q)
  refine ⟨⟨fun q o' e => ?_, by rw [z]; exact h2⟩, fun q hq e => ?_, h4.put z oq hA, h5, h6, h7⟩
  · by_cases hq : q = a
    · subst hq
      have e1 : (if q = q then some o else h.1 q) = some o' := e
      rw [if_pos rfl] at e1
      cases e1
      exact ho
    · have e1 : (if q = a then some o else h.1 q) = some o' := e
      rw [if_neg hq] at e1
      exact (h1 q o' e1).kept (oq q hq)
  · show (if q = a then some o else h.1 q) = none
    by_cases hqa : q = a
    · subst hqa
      exact absurd (h3 q hq e) ha
    · rw [if_neg hqa]
      exact h3 q hq e
/-- a cell is made -/
theorem HR.new {h0 : Hp} {H H1 : Heap} {locs : List Loc} {cells slots n : Nat} {o : Ob} (hs0 : (cs_ C).heap.size = hsz h0) (hr : HR C D h0 h H locs cells slots) (z : H1.size = H.size + 1) (oq : ∀ q : Nat, q < H.size → H1[q]? = H[q]?) (ho : hat D (hfz h) (cs_ C) H.size o H1) (hc : 1 ≤ hbc h) (hn : n ≤ hbs h) :
    HR C D h0 (fun q => if q = hsz h then some o else h.1 q, hsz h + 1, hbc h - 1, hbs h - n, hco h) H1 locs (cells + 1) (slots + n) := by
  obtain ⟨⟨h1, h2⟩, h3, h4, h5, h6, h7⟩ := hr
  have hle : hsz h0 ≤ hsz h := by rw [← hs0, ← h2]; exact h4.1
  refine ⟨⟨fun q o' e => ?_, ?_⟩, fun q hq e => ?_, ⟨Nat.le_trans h4.1 (by omega), fun q g1 g2 => (oq q (Nat.lt_of_lt_of_le g1 h4.1)).trans (h4.2.1 q g1 g2), h4.2.2⟩, ?_, ?_, h7⟩
  · by_cases hq : q = hsz h
    · have e1 : (if q = hsz h then some o else h.1 q) = some o' := e
      rw [if_pos hq] at e1
      cases e1
      rw [hq, ← h2]
      exact ho
    · have e1 : (if q = hsz h then some o else h.1 q) = some o' := e
      rw [if_neg hq] at e1
      exact (h1 q o' e1).kept (oq q (h1 q o' e1).lt)
  · show H1.size = hsz h + 1
    rw [z, h2]
  · show (if q = hsz h then some o else h.1 q) = none
    rw [if_neg (by omega)]
    exact h3 q hq e
  · show cells + 1 + (hbc h - 1) = hbc h0
    omega
  · show slots + n + (hbs h - n) = hbs h0
    omega
theorem xr_get (A : Act C D G y cc nL ret F LL tb) {ci : Nat} {Cn ref : String} {T : u_T} {N i a : Nat} (hc : xCl[ci]? = some (Cn, T, N)) (hin : ∀ w ∈ u_ws Cn T N, w ∈ lw_all) (k : Nat) (hk : k < N) (hlink : Cond.fieldLink y.cls i ref (T k).2.1 (T k).2.2.1 ∈ lw_all) (hsame : (T k).1 = ref) {v : Vl} (hv : ∃ F, h.1 a = some (.inl (ci, F)) ∧ F k = vv v) (d : decode cc pc = .ok (.getfield i, 3))
    (kk : X C D G nL (pc + 3) L (v :: st) h) : X C D G nL pc L (vR (some a) :: st) h := by
  obtain ⟨hx, hb, -, -, hown, hts, hK, -⟩ := A
  intro ls H locs cells slots hl hr
  obtain ⟨Fd, hh, hv⟩ := hv
  obtain ⟨r, cell, h1, q1, q2, q5, q6, q7, q4⟩ := hr.1.1 a _ hh
  have hr' : r = (Cn, T, N) := Option.some.inj (h1.symm.trans hc)
  subst hr'
  obtain ⟨hS, hfc, kC, hkC, hkind⟩ := hK.1.1 ci _ hc
  obtain ⟨cf, kf, fi, f, hi, hsl⟩ := hS k hk
  refine W.getf hx hb hown (hts _ hlink) (by rw [← hsame]; exact hi) (u_facts hfc hkC (u_lays hts hin hk) hi).1 q1 q6 (v := vv v) ?_ rfl rfl d (kk ls H locs cells slots hl hr)
  rw [hsl, q4 k hk]
  exact congrArg some hv
theorem xr_getN (A : Act C D G y cc nL ret F LL tb) {ci : Nat} {Cn ref host : String} {T : u_T} {N i a : Nat} (hc : xCl[ci]? = some (Cn, T, N)) (hin : ∀ w ∈ u_ws Cn T N, w ∈ lw_all) (k : Nat) (hk : k < N) (hlink : Cond.fieldLinkNest y.cls i ref (T k).2.1 (T k).2.2.1 host ∈ xWd) (hsame : (T k).1 = ref) {v : Vl} (hv : ∃ F, h.1 a = some (.inl (ci, F)) ∧ F k = vv v) (d : decode cc pc = .ok (.getfield i, 3))
    (kk : X C D G nL (pc + 3) L (v :: st) h) : X C D G nL pc L (vR (some a) :: st) h := by
  obtain ⟨hx, hb, -, -, hown, hts, hK, -⟩ := A
  intro ls H locs cells slots hl hr
  obtain ⟨Fd, hh, hv⟩ := hv
  obtain ⟨r, cell, h1, q1, q2, q5, q6, q7, q4⟩ := hr.1.1 a _ hh
  have hr' : r = (Cn, T, N) := Option.some.inj (h1.symm.trans hc)
  subst hr'
  obtain ⟨hS, hfc, kC, hkC, hkind⟩ := hK.1.1 ci _ hc
  obtain ⟨cf, kf, fi, f, hi, hsl⟩ := hS k hk
  refine va_Wgetf hx hb hown (va_Nw.use rfl (hK.2.1 _ hlink)) (by rw [← hsame]; exact hi) (u_facts hfc hkC (u_lays hts hin hk) hi).1 q1 q6 (v := vv v) ?_ rfl rfl d (kk ls H locs cells slots hl hr)
  rw [hsl, q4 k hk]
  exact congrArg some hv
theorem x_apart {s : State} {args : Array Value} (hts : ∀ w ∈ lw_all, w.before args s = true) (hK : xK D s) {ci : Nat} {Cn : String} {T : u_T} {N : Nat} (hc : xCl[ci]? = some (Cn, T, N)) (hin : ∀ w ∈ u_ws Cn T N, w ∈ lw_all) (ty : Nat → FieldType) (hty : ∀ k, k < N → parseFieldDescriptor (T k).2.2.1 = some (ty k)) (hnm : ∀ a, a < N → ∀ b, b < N → a ≠ b → (T a).2.1 ≠ (T b).2.1) : ∀ x z, x < N → z < N → x ≠ z → (D.2.1 ci) x ≠ (D.2.1 ci) z := by
  intro x z hx hz hne
  obtain ⟨hS, -⟩ := hK.1 ci _ hc
  obtain ⟨_, _, _, fa, hia, ea⟩ := hS x hx
  obtain ⟨_, _, _, fb, hib, eb⟩ := hS z hz
  have e1 : (D.2.1 ci) x = fa.slot := ea.symm
  have e2 : (D.2.1 ci) z = fb.slot := eb.symm
  rw [e1, e2]
  refine u_apart (u_lays hts hin hx) (u_lays hts hin hz) hia hib ?_
  rw [(State.fieldFound?_type hia (hty x hx)).1, (State.fieldFound?_type hib (hty z hz)).1]
  exact hnm x hx z hz hne
theorem x_fu {cell : Cell} {N : Nat} {iS : Nat → Nat} {V : Nat → Value} (h : ∀ k, k < N → cell.slots[iS k]? = some (V k)) (hap : ∀ a b, a < N → b < N → a ≠ b → iS a ≠ iS b) {k : Nat} (hk : k < N) (v : Value) : ∀ j, j < N → (cell.setSlot (iS k) v).slots[iS j]? = some (ab_fu V k v j) := t_set h hap hk v
theorem xr_put (A : Act C D G y cc nL ret F LL tb) {ci : Nat} {Cn ref : String} {T : u_T} {N i a : Nat} (hc : xCl[ci]? = some (Cn, T, N)) (hin : ∀ w ∈ u_ws Cn T N, w ∈ lw_all) {ty0 : Nat → FieldType} (hty : ∀ k, k < N → parseFieldDescriptor (T k).2.2.1 = some (ty0 k)) (hnm : ∀ a, a < N → ∀ b, b < N → a ≠ b → (T a).2.1 ≠ (T b).2.1) (k : Nat) (hk : k < N) (hlink : Cond.fieldLink y.cls i ref (T k).2.1 (T k).2.2.1 ∈ lw_all) (hsame : (T k).1 = ref) (hfin : (T k).2.2.2 = false) {v : Vl} (hn : narrow (ty0 k) (vv v) = vv v) (hfit : fits (ty0 k) (vv v) = true) (hp : ab_p h a ci k (vv v) = some h') (d : decode cc pc = .ok (.putfield i, 3))
    (kk : X C D G nL (pc + 3) L st h') : X C D G nL pc L (v :: vR (some a) :: st) h := by
  obtain ⟨hx, hb, -, -, hown, hts, hK, -⟩ := A
  intro ls H locs cells slots hl hr
  have hap := x_apart hts hK.1 hc hin ty0 hty hnm
  obtain ⟨Fd, hh, hz, rfl⟩ := ab_pE hp
  obtain ⟨r, cell, h1, q1, q2, q5, q6, q7, q4⟩ := hr.1.1 a _ hh
  have q3 := q7 hz
  have hr' : r = (Cn, T, N) := Option.some.inj (h1.symm.trans hc)
  subst hr'
  obtain ⟨hS, hfc, kC, hkC, hkind⟩ := hK.1.1 ci _ hc
  obtain ⟨cf, kf, fi, f, hi, hsl⟩ := hS k hk
  have hlay := hts _ (hin _ (u_in_lay hk))
  unfold u_lay at hlay
  rw [if_neg (by rw [hfin]; decide)] at hlay
  have hst := (u_facts hfc hkC (u_lays hts hin hk) hi).1
  have h6 := u_store hfc hkC hkind hlay hi (hty k hk) hn hfit
  refine W.putK hx hb (f := f) ⟨hown, hts _ hlink, ⟨_, _, _, by rw [← hsame]; exact hi⟩, hst⟩ (by rw [q2]; exact h6) q1 q3 (by rw [hsl]; exact k2_hasslot (q4 k hk)) rfl rfl d fun H' e1 e2 e3 => ?_
  rw [hsl] at e1
  exact kk ls H' _ cells slots hl (hr.up (by rw [hh]; exact fun e => by cases e) hz e2 e3 ⟨_, _, hc, e1, q2, q5, q6, fun _ => q3, x_fu q4 hap hk (vv v)⟩)
theorem xr_putN (A : Act C D G y cc nL ret F LL tb) {ci : Nat} {Cn ref host : String} {T : u_T} {N i a : Nat} (hc : xCl[ci]? = some (Cn, T, N)) (hin : ∀ w ∈ u_ws Cn T N, w ∈ lw_all) {ty0 : Nat → FieldType} (hty : ∀ k, k < N → parseFieldDescriptor (T k).2.2.1 = some (ty0 k)) (hnm : ∀ a, a < N → ∀ b, b < N → a ≠ b → (T a).2.1 ≠ (T b).2.1) (k : Nat) (hk : k < N) (hlink : Cond.fieldLinkNest y.cls i ref (T k).2.1 (T k).2.2.1 host ∈ xWd) (hsame : (T k).1 = ref) (hfin : (T k).2.2.2 = false) {v : Vl} (hn : narrow (ty0 k) (vv v) = vv v) (hfit : fits (ty0 k) (vv v) = true) (hp : ab_p h a ci k (vv v) = some h') (d : decode cc pc = .ok (.putfield i, 3))
    (kk : X C D G nL (pc + 3) L st h') : X C D G nL pc L (v :: vR (some a) :: st) h := by
  obtain ⟨hx, hb, -, -, hown, hts, hK, -⟩ := A
  intro ls H locs cells slots hl hr
  have hap := x_apart hts hK.1 hc hin ty0 hty hnm
  obtain ⟨Fd, hh, hz, rfl⟩ := ab_pE hp
  obtain ⟨r, cell, h1, q1, q2, q5, q6, q7, q4⟩ := hr.1.1 a _ hh
  have q3 := q7 hz
  have hr' : r = (Cn, T, N) := Option.some.inj (h1.symm.trans hc)
  subst hr'
  obtain ⟨hS, hfc, kC, hkC, hkind⟩ := hK.1.1 ci _ hc
  obtain ⟨cf, kf, fi, f, hi, hsl⟩ := hS k hk
  have hlay := hts _ (hin _ (u_in_lay hk))
  unfold u_lay at hlay
  rw [if_neg (by rw [hfin]; decide)] at hlay
  have hst := (u_facts hfc hkC (u_lays hts hin hk) hi).1
  have h6 := u_store hfc hkC hkind hlay hi (hty k hk) hn hfit
  refine va_WputK hx hb (f := f) hown (va_Nw.use rfl (hK.2.1 _ hlink)) (by rw [← hsame]; exact hi) hst (by rw [q2]; exact h6) q1 q3 (by rw [hsl]; exact k2_hasslot (q4 k hk)) rfl rfl d fun H' e1 e2 e3 => ?_
  rw [hsl] at e1
  exact kk ls H' _ cells slots hl (hr.up (by rw [hh]; exact fun e => by cases e) hz e2 e3 ⟨_, _, hc, e1, q2, q5, q6, fun _ => q3, x_fu q4 hap hk (vv v)⟩)
theorem xr_putF (A : Act C D G y cc nL ret F LL tb) {ci : Nat} {Cn ref : String} {T : u_T} {N i a : Nat} (hc : xCl[ci]? = some (Cn, T, N)) (hin : ∀ w ∈ u_ws Cn T N, w ∈ lw_all) {ty0 : Nat → FieldType} (hty : ∀ k, k < N → parseFieldDescriptor (T k).2.2.1 = some (ty0 k)) (hnm : ∀ a, a < N → ∀ b, b < N → a ≠ b → (T a).2.1 ≠ (T b).2.1) (k : Nat) (hk : k < N) (hlink : Cond.fieldLink y.cls i ref (T k).2.1 (T k).2.2.1 ∈ lw_all) (hsame : (T k).1 = ref) (hfin : (T k).2.2.2 = true) (hin2 : y.name = "<init>") (hdecl : (T k).1 = y.cls) {v : Vl} (hn : narrow (ty0 k) (vv v) = vv v) (hfit : fits (ty0 k) (vv v) = true) (hp : ab_p h a ci k (vv v) = some h') (d : decode cc pc = .ok (.putfield i, 3))
    (kk : X C D G nL (pc + 3) L st h') : X C D G nL pc L (v :: vR (some a) :: st) h := by
  obtain ⟨hx, hb, -, -, hown, hts, hK, -, -, -, -, -, hnme, -⟩ := A
  intro ls H locs cells slots hl hr
  have hap := x_apart hts hK.1 hc hin ty0 hty hnm
  obtain ⟨Fd, hh, hz, rfl⟩ := ab_pE hp
  obtain ⟨r, cell, h1, q1, q2, q5, q6, q7, q4⟩ := hr.1.1 a _ hh
  have q3 := q7 hz
  have hr' : r = (Cn, T, N) := Option.some.inj (h1.symm.trans hc)
  subst hr'
  obtain ⟨hS, hfc, kC, hkC, hkind⟩ := hK.1.1 ci _ hc
  obtain ⟨cf, kf, fi, f, hi, hsl⟩ := hS k hk
  have hlay := hts _ (hin _ (u_in_lay hk))
  unfold u_lay at hlay
  rw [if_pos hfin] at hlay
  have hst := (u_facts hfc hkC (u_lays hts hin hk) hi).1
  have hcf : (cm C).cls = cf := by
    obtain ⟨_, _, c', _, _, _, -, -, hf', -, -, -, hown2, -⟩ := Cond.laysFinal_spec hlay
    have e1 : c' = cf := by have := hi.symm.trans hf'; simp at this; exact this.1.symm
    rw [hdecl] at hown2
    rw [← e1]; exact Option.some.inj (hown.symm.trans hown2)
  have h6 := u_fits hfc hkC hkind (Or.inr hlay) hi (hty k hk) hn hfit
  refine W.putFinK hx hb hown (hts _ hlink) (by rw [← hsame]; exact hi) hst hcf (hnme.trans hin2) (by rw [q2]; exact h6) q1 q3 (by rw [hsl]; exact k2_hasslot (q4 k hk)) rfl rfl d fun H' e1 e2 e3 => ?_
  rw [hsl] at e1
  exact kk ls H' _ cells slots hl (hr.up (by rw [hh]; exact fun e => by cases e) hz e2 e3 ⟨_, _, hc, e1, q2, q5, q6, fun _ => q3, x_fu q4 hap hk (vv v)⟩)
theorem xr_new (A : Act C D G y cc nL ret F LL tb) {ci : Nat} {Cn : String} {T : u_T} {N i a : Nat} (hc : xCl[ci]? = some (Cn, T, N)) (hin : ∀ w ∈ u_ws Cn T N, w ∈ lw_all) {ty0 : Nat → FieldType} (hty : ∀ k, k < N → parseFieldDescriptor (T k).2.2.1 = some (ty0 k)) (q1 : Cond.classLink y.cls i Cn ∈ lw_all) (q2 : Cond.instantiable Cn N ∈ lw_all) (q3 : Cond.initialized Cn ∈ lw_all) (hp : ab_new h ci N ty0 = some (a, h')) (d : decode cc pc = .ok (.new i, 3))
    (kk : X C D G nL (pc + 3) L (vR (some a) :: st) h') : X C D G nL pc L st h := by
  obtain ⟨hx, hb, -, -, hown, hts, hK, -, -, hR, -, -, -, hs0⟩ := A
  intro ls H locs cells slots hl hr
  unfold ab_new at hp
  split at hp
  · rename_i hbud
    cases hp
    have hKn := hK.1.1 ci _ hc
    have g5 := hr.2.2.2.1
    have g6 := hr.2.2.2.2.1
    refine W.newcK hx hb hown (hts _ q1) (hts _ q2) (hts _ q3) rfl d (by rw [hR]; show cells + 1 ≤ hbc G.1; omega) (by rw [hR]; show slots + N ≤ hbs G.1; omega) hKn.2.1 rfl fun H1 kC hkC e1 z1 o1 => ?_
    have h2 := hr.1.2
    have hk := kk ls H1 locs (cells + 1) (slots + N) hl (hr.new hs0 z1 o1 (o := .inl (ci, fun k => defaultValue (ty0 k))) (hat.obj hc (u_born ty0 hts hin hKn hkC e1 hty)) hbud.1 hbud.2)
    rw [h2]
    exact hk
  · cases hp
end XR3
/-! CORE: rows of arrays, classes, statics, strings -/
section XR4
variable {C : Cx} {D : Dd} {G : Gx} {y : MethodName} {cc : ByteArray} {nL : Nat} {ret : Option FieldType} {F LL : Nat} {tb : List (Nat × Nat × Nat × Nat)} {pc : Nat} {L : List (Nat × Vl)} {st : List Vl} {h h' : Hp}
theorem x_in {β : Type} {i : Int32} {n : Nat} {A : Option β} {o : β} (e : (if i < 0 ∨ n ≤ i.toNatClampNeg then none else A) = some o) : vp_in i n ∧ A = some o := by
  by_cases q : i < 0 ∨ n ≤ i.toNatClampNeg
  · rw [if_pos q] at e
    cases e
  · rw [if_neg q] at e
    exact ⟨q, e⟩
theorem ab_aIE {a t : Nat} {i x : Int32} (e : ab_aI h a t i = some x) : ∃ n f, h.1 a = some (.inr (t, n, .inl f)) ∧ vp_in i n ∧ f i.toNatClampNeg = x := by
  obtain ⟨⟨n, z⟩, h1, h2⟩ := ab_bdE e
  cases z with
  | inl f =>
    obtain ⟨g1, g2⟩ := x_in h2
    exact ⟨n, f, ab_AE h1, g1, Option.some.inj g2⟩
  | inr z => cases h2
theorem ab_aJE {a t : Nat} {i : Int32} {x : Int64} (e : ab_aJ h a t i = some x) : ∃ n f, h.1 a = some (.inr (t, n, .inr (.inl f))) ∧ vp_in i n ∧ f i.toNatClampNeg = x := by
  obtain ⟨⟨n, z⟩, h1, h2⟩ := ab_bdE e
  rcases z with f | f | f
  · cases h2
  · obtain ⟨g1, g2⟩ := x_in h2
    exact ⟨n, f, ab_AE h1, g1, Option.some.inj g2⟩
  · cases h2
theorem ab_aRE {a t : Nat} {i : Int32} {x : Option Nat} (e : ab_aR h a t i = some x) : ∃ n f, h.1 a = some (.inr (t, n, .inr (.inr (.inr (.inr f))))) ∧ vp_in i n ∧ f i.toNatClampNeg = x := by
  obtain ⟨⟨n, z⟩, h1, h2⟩ := ab_bdE e
  rcases z with f | f | f | f | f
  · cases h2
  · cases h2
  · cases h2
  · cases h2
  · obtain ⟨g1, g2⟩ := x_in h2
    exact ⟨n, f, ab_AE h1, g1, Option.some.inj g2⟩
theorem ab_sE {a t : Nat} {i v : Int32} (e : ab_s h a t i v = some h') : ∃ n f, h.1 a = some (.inr (t, n, .inl f)) ∧ vp_in i n ∧ hfz h ≤ a ∧ h' = ab_up h a (.inr (t, n, .inl (upd f i.toNatClampNeg v))) := by
  obtain ⟨⟨n, z⟩, h1, h2⟩ := ab_bdE e
  cases z with
  | inl f =>
    obtain ⟨g1, g2⟩ := x_in h2
    exact ⟨n, f, ab_AE h1, g1, ab_wE g2⟩
  | inr z => cases h2
theorem ab_sJE {a t : Nat} {i : Int32} {v : Int64} (e : ab_sJ h a t i v = some h') : ∃ n f, h.1 a = some (.inr (t, n, .inr (.inl f))) ∧ vp_in i n ∧ hfz h ≤ a ∧ h' = ab_up h a (.inr (t, n, .inr (.inl (vp_updL f i.toNatClampNeg v)))) := by
  obtain ⟨⟨n, z⟩, h1, h2⟩ := ab_bdE e
  rcases z with f | f | f
  · cases h2
  · obtain ⟨g1, g2⟩ := x_in h2
    exact ⟨n, f, ab_AE h1, g1, ab_wE g2⟩
  · cases h2
theorem ab_sRE {a t c b : Nat} {i : Int32} (e : ab_sR h a t c i b = some h') : ∃ n f Fb, h.1 b = some (.inl (c, Fb)) ∧ h.1 a = some (.inr (t, n, .inr (.inr (.inr (.inr f))))) ∧ vp_in i n ∧ hfz h ≤ a ∧ h' = ab_up h a (.inr (t, n, .inr (.inr (.inr (.inr (va_up f i.toNatClampNeg (some b))))))) := by
  obtain ⟨Fb, h0, e⟩ := ab_bdE e
  obtain ⟨⟨n, z⟩, h1, h2⟩ := ab_bdE e
  rcases z with f | f | f | f | f
  · cases h2
  · cases h2
  · cases h2
  · cases h2
  · obtain ⟨g1, g2⟩ := x_in h2
    exact ⟨n, f, Fb, ab_FE h0, ab_AE h1, g1, ab_wE g2⟩
theorem x_ty {s : State} (hK : xK D s) {t : Nat} {ty : FieldType} (ht : xTy[t]? = some ty) : ArrOfT s (D.2.2 t) ty ∧ va_RA s (D.2.2 t) ty := hK.2 t (D.2.2 t, ty) (by
  show (xTy.zipIdx.map (fun p => (D.2.2 p.2, p.1)))[t]? = _
  rw [List.getElem?_map, List.getElem?_zipIdx, ht]
  simp)
theorem xr_iaload (A : Act C D G y cc nL ret F LL tb) {a : Nat} {i : Int32} {x : Int32} (hp : ab_aI h a 0 i = some x) (d : decode cc pc = .ok (.iaload, 1)) (k : X C D G nL (pc + 1) L (vI x :: st) h) : X C D G nL pc L (vI i :: vR (some a) :: st) h := by
  obtain ⟨hx, hb, -, -, -, -, hK, -⟩ := A
  intro ls H locs cells slots hl hr
  obtain ⟨n, f, h1, hin, rfl⟩ := ab_aIE hp
  have hlt : i.toNatClampNeg < n := Nat.not_le.mp fun q => hin (Or.inr q)
  obtain ⟨-, cell, ty, c1, c2, c3, c4, c5, c6⟩ := hr.1.1 a _ h1
  have c2 : some .int = some ty := c2
  cases c2
  exact W.iald (v := .int (f i.toNatClampNeg)) hx hb c1 c3 c4 (fun q => hin (q.imp id (fun z => Nat.le_trans c5.1 z))) (c6 _ hlt) rfl rfl d (k ls H locs cells slots hl hr)
theorem xr_baload (A : Act C D G y cc nL ret F LL tb) {a : Nat} {i : Int32} {x : Int32} (hp : ab_aI h a 1 i = some x) (d : decode cc pc = .ok (.baload, 1)) (k : X C D G nL (pc + 1) L (vI x :: st) h) : X C D G nL pc L (vI i :: vR (some a) :: st) h := by
  obtain ⟨hx, hb, -, -, -, -, hK, -⟩ := A
  intro ls H locs cells slots hl hr
  obtain ⟨n, f, h1, hin, rfl⟩ := ab_aIE hp
  have hlt : i.toNatClampNeg < n := Nat.not_le.mp fun q => hin (Or.inr q)
  obtain ⟨-, cell, ty, c1, c2, c3, c4, c5, c6⟩ := hr.1.1 a _ h1
  have c2 : some .byte = some ty := c2
  cases c2
  exact W.bald (v := .int (f i.toNatClampNeg)) hx hb c1 c3 c4 (fun q => hin (q.imp id (fun z => Nat.le_trans c5.1 z))) (c6 _ hlt) rfl rfl d (k ls H locs cells slots hl hr)
theorem xr_zaload (A : Act C D G y cc nL ret F LL tb) {a : Nat} {i : Int32} {x : Int32} (hp : ab_aI h a 4 i = some x) (d : decode cc pc = .ok (.baload, 1)) (k : X C D G nL (pc + 1) L (vI x :: st) h) : X C D G nL pc L (vI i :: vR (some a) :: st) h := by
  obtain ⟨hx, hb, -, -, -, -, hK, -⟩ := A
  intro ls H locs cells slots hl hr
  obtain ⟨n, f, h1, hin, rfl⟩ := ab_aIE hp
  have hlt : i.toNatClampNeg < n := Nat.not_le.mp fun q => hin (Or.inr q)
  obtain ⟨-, cell, ty, c1, c2, c3, c4, c5, c6⟩ := hr.1.1 a _ h1
  have c2 : some .boolean = some ty := c2
  cases c2
  exact W.zald (v := .int (f i.toNatClampNeg)) hx hb c1 c3 c4 (fun q => hin (q.imp id (fun z => Nat.le_trans c5.1 z))) (c6 _ hlt) rfl rfl d (k ls H locs cells slots hl hr)
theorem xr_caload (A : Act C D G y cc nL ret F LL tb) {a : Nat} {i : Int32} {x : Int32} (hp : ab_aI h a 2 i = some x) (d : decode cc pc = .ok (.caload, 1)) (k : X C D G nL (pc + 1) L (vI x :: st) h) : X C D G nL pc L (vI i :: vR (some a) :: st) h := by
  obtain ⟨hx, hb, -, -, -, -, hK, -⟩ := A
  intro ls H locs cells slots hl hr
  obtain ⟨n, f, h1, hin, rfl⟩ := ab_aIE hp
  have hlt : i.toNatClampNeg < n := Nat.not_le.mp fun q => hin (Or.inr q)
  obtain ⟨-, cell, ty, c1, c2, c3, c4, c5, c6⟩ := hr.1.1 a _ h1
  have c2 : some .char = some ty := c2
  cases c2
  exact W.cald (v := .int (f i.toNatClampNeg)) hx hb c1 c3 c4 (fun q => hin (q.imp id (fun z => Nat.le_trans c5.1 z))) (c6 _ hlt) rfl rfl d (k ls H locs cells slots hl hr)
theorem xr_laload (A : Act C D G y cc nL ret F LL tb) {a : Nat} {i : Int32} {x : Int64} (hp : ab_aJ h a 3 i = some x) (d : decode cc pc = .ok (.laload, 1)) (k : X C D G nL (pc + 1) L (vL x :: st) h) : X C D G nL pc L (vI i :: vR (some a) :: st) h := by
  obtain ⟨hx, hb, -, -, -, -, hK, -⟩ := A
  intro ls H locs cells slots hl hr
  obtain ⟨n, f, h1, hin, rfl⟩ := ab_aJE hp
  have hlt : i.toNatClampNeg < n := Nat.not_le.mp fun q => hin (Or.inr q)
  obtain ⟨-, cell, ty, c1, c2, c3, c4, c5, c6⟩ := hr.1.1 a _ h1
  have c2 : some .long = some ty := c2
  cases c2
  exact W.lald (v := .long (f i.toNatClampNeg)) hx hb c1 c3 c4 (fun q => hin (q.imp id (fun z => Nat.le_trans c5.1 z))) (c6 _ hlt) rfl rfl d (k ls H locs cells slots hl hr)
theorem xr_aaload (A : Act C D G y cc nL ret F LL tb) {a t : Nat} {i : Int32} {x : Option Nat} {Cn : String} (ht : xTy[t]? = some (.object Cn)) (hp : ab_aR h a t i = some x) (d : decode cc pc = .ok (.aaload, 1)) (k : X C D G nL (pc + 1) L (vR x :: st) h) : X C D G nL pc L (vI i :: vR (some a) :: st) h := by
  obtain ⟨hx, hb, -, -, -, -, hK, -⟩ := A
  intro ls H locs cells slots hl hr
  obtain ⟨n, f, h1, hin, rfl⟩ := ab_aRE hp
  have hlt : i.toNatClampNeg < n := Nat.not_le.mp fun q => hin (Or.inr q)
  obtain ⟨-, cell, ty, c1, c2, c3, c4, c5, c6⟩ := hr.1.1 a _ h1
  cases Option.some.inj (ht.symm.trans c2)
  exact W.aald (v := va_rf (f i.toNatClampNeg)) (ty := .object Cn) hx hb c1 c3 rfl c4 (fun q => hin (q.imp id (fun z => Nat.le_trans c5.1 z))) (c6 _ hlt) rfl rfl d (k ls H locs cells slots hl hr)
theorem xr_iastore (A : Act C D G y cc nL ret F LL tb) {a : Nat} {i x : Int32} (hp : ab_sI h a i x = some h') (d : decode cc pc = .ok (.iastore, 1)) (k : X C D G nL (pc + 1) L st h') : X C D G nL pc L (vI x :: vI i :: vR (some a) :: st) h := by
  obtain ⟨hx, hb, -, -, -, -, hK, -⟩ := A
  intro ls H locs cells slots hl hr
  unfold ab_sI at hp
  obtain ⟨n, f, h1, hin, hz, rfl⟩ := ab_sE hp
  refine W.iast hx hb ((hr.1.1 a _ h1).1 hz) ((x_ty hK.1 (t := 0) (ty := .int) rfl).1 n (fun j => .int (f j))) (fun q => by cases q) (by show ¬ (i < 0 ∨ (arrV _ _ _).slots.size ≤ _); rw [arrV_size]; exact hin) rfl rfl d fun H1 e z oq => ?_
  refine k ls H1 _ cells slots hl (hr.up (by rw [h1]; exact fun q => by cases q) hz z oq (hat.arr (x_ty hK.1 (t := 0) (ty := .int) rfl).1 rfl ?_))
  show H1[a]? = some (vp_cell _ _)
  rw [e]
  rw [vp_cell_i, vp_cell_i, arrV_store]
  congr 2
  funext q
  by_cases hq : q = i.toNatClampNeg
  · subst hq
    simp [updV, upd, vp_nar]
    try rfl
  · simp [updV, upd, hq]
theorem xr_bastore (A : Act C D G y cc nL ret F LL tb) {a : Nat} {i x : Int32} (hp : ab_sB h a i x = some h') (d : decode cc pc = .ok (.bastore, 1)) (k : X C D G nL (pc + 1) L st h') : X C D G nL pc L (vI x :: vI i :: vR (some a) :: st) h := by
  obtain ⟨hx, hb, -, -, -, -, hK, -⟩ := A
  intro ls H locs cells slots hl hr
  unfold ab_sB at hp
  obtain ⟨n, f, h1, hin, hz, rfl⟩ := ab_sE hp
  refine W.bast hx hb ((hr.1.1 a _ h1).1 hz) ((x_ty hK.1 (t := 1) (ty := .byte) rfl).1 n (fun j => .int (f j))) (fun q => by cases q) (by show ¬ (i < 0 ∨ (arrV _ _ _).slots.size ≤ _); rw [arrV_size]; exact hin) rfl rfl d fun H1 e z oq => ?_
  refine k ls H1 _ cells slots hl (hr.up (by rw [h1]; exact fun q => by cases q) hz z oq (hat.arr (x_ty hK.1 (t := 1) (ty := .byte) rfl).1 rfl ?_))
  show H1[a]? = some (vp_cell _ _)
  rw [e]
  rw [vp_cell_i, vp_cell_i, arrV_store]
  congr 2
  funext q
  by_cases hq : q = i.toNatClampNeg
  · subst hq
    simp [updV, upd, vp_nar]
    try rfl
  · simp [updV, upd, hq]
theorem xr_zastore (A : Act C D G y cc nL ret F LL tb) {a : Nat} {i x : Int32} (hp : ab_sZ h a i x = some h') (d : decode cc pc = .ok (.bastore, 1)) (k : X C D G nL (pc + 1) L st h') : X C D G nL pc L (vI x :: vI i :: vR (some a) :: st) h := by
  obtain ⟨hx, hb, -, -, -, -, hK, -⟩ := A
  intro ls H locs cells slots hl hr
  unfold ab_sZ at hp
  obtain ⟨n, f, h1, hin, hz, rfl⟩ := ab_sE hp
  refine W.zast hx hb ((hr.1.1 a _ h1).1 hz) ((x_ty hK.1 (t := 4) (ty := .boolean) rfl).1 n (fun j => .int (f j))) (fun q => by cases q) (by show ¬ (i < 0 ∨ (arrV _ _ _).slots.size ≤ _); rw [arrV_size]; exact hin) rfl rfl d fun H1 e z oq => ?_
  refine k ls H1 _ cells slots hl (hr.up (by rw [h1]; exact fun q => by cases q) hz z oq (hat.arr (x_ty hK.1 (t := 4) (ty := .boolean) rfl).1 rfl ?_))
  show H1[a]? = some (vp_cell _ _)
  rw [e]
  rw [vp_cell_i, vp_cell_i, arrV_store]
  congr 2
  funext q
  by_cases hq : q = i.toNatClampNeg
  · subst hq
    simp [updV, upd, vp_nar]
    try rfl
  · simp [updV, upd, hq]
theorem xr_castore (A : Act C D G y cc nL ret F LL tb) {a : Nat} {i x : Int32} (hp : ab_sC h a i x = some h') (d : decode cc pc = .ok (.castore, 1)) (k : X C D G nL (pc + 1) L st h') : X C D G nL pc L (vI x :: vI i :: vR (some a) :: st) h := by
  obtain ⟨hx, hb, -, -, -, -, hK, -⟩ := A
  intro ls H locs cells slots hl hr
  unfold ab_sC at hp
  obtain ⟨n, f, h1, hin, hz, rfl⟩ := ab_sE hp
  refine W.cast hx hb ((hr.1.1 a _ h1).1 hz) ((x_ty hK.1 (t := 2) (ty := .char) rfl).1 n (fun j => .int (f j))) (fun q => by cases q) (by show ¬ (i < 0 ∨ (arrV _ _ _).slots.size ≤ _); rw [arrV_size]; exact hin) rfl rfl d fun H1 e z oq => ?_
  refine k ls H1 _ cells slots hl (hr.up (by rw [h1]; exact fun q => by cases q) hz z oq (hat.arr (x_ty hK.1 (t := 2) (ty := .char) rfl).1 rfl ?_))
  show H1[a]? = some (vp_cell _ _)
  rw [e]
  rw [vp_cell_i, vp_cell_i, arrV_store]
  congr 2
  funext q
  by_cases hq : q = i.toNatClampNeg
  · subst hq
    simp [updV, upd, vp_nar]
    try rfl
  · simp [updV, upd, hq]
theorem xr_lastore (A : Act C D G y cc nL ret F LL tb) {a : Nat} {i : Int32} {x : Int64} (hp : ab_sJ h a 3 i x = some h') (d : decode cc pc = .ok (.lastore, 1)) (k : X C D G nL (pc + 1) L st h') : X C D G nL pc L (vL x :: vI i :: vR (some a) :: st) h := by
  obtain ⟨hx, hb, -, -, -, -, hK, -⟩ := A
  intro ls H locs cells slots hl hr
  obtain ⟨n, f, h1, hin, hz, rfl⟩ := ab_sJE hp
  refine W.last hx hb ((hr.1.1 a _ h1).1 hz) ((x_ty hK.1 (t := 3) (ty := .long) rfl).1 n (fun j => .long (f j))) (fun q => by cases q) (by show ¬ (i < 0 ∨ (arrV _ _ _).slots.size ≤ _); rw [arrV_size]; exact hin) rfl rfl d fun H1 e z oq => ?_
  refine k ls H1 _ cells slots hl (hr.up (by rw [h1]; exact fun q => by cases q) hz z oq (hat.arr (x_ty hK.1 (t := 3) (ty := .long) rfl).1 rfl ?_))
  show H1[a]? = some (vp_cell _ _)
  rw [e]
  rw [vp_cell_l, vp_cell_l, arrV_store]
  congr 2
  funext q
  by_cases hq : q = i.toNatClampNeg
  · subst hq
    simp [updV, vp_updL]
  · simp [updV, vp_updL, hq]
theorem xr_aastore (A : Act C D G y cc nL ret F LL tb) {a t ci b : Nat} {i : Int32} {r : vw_C} (ht : xTy[t]? = some (.object r.1)) (hc : xCl[ci]? = some r) (hp : ab_sR h a t ci i b = some h') (d : decode cc pc = .ok (.aastore, 1)) (k : X C D G nL (pc + 1) L st h') : X C D G nL pc L (vR (some b) :: vI i :: vR (some a) :: st) h := by
  obtain ⟨hx, hb, -, -, -, -, hK, -⟩ := A
  intro ls H locs cells slots hl hr
  obtain ⟨n, f, Fb, h0, h1, hin, hz, rfl⟩ := ab_sRE hp
  have hlt : i.toNatClampNeg < n := Nat.not_le.mp fun q => hin (Or.inr q)
  have h00 : ¬ i < 0 := fun q => hin (Or.inl q)
  obtain ⟨r', cellV, hr', g1, g2, g3, -⟩ := hr.1.1 b _ h0
  have hcls := (hK.1.1 ci r hc).2
  obtain ⟨kA, comp, k1, k2, k3, -⟩ := (x_ty hK.1 ht).2
  have hcomp : comp = D.1 ci := Option.some.inj (k3.symm.trans hcls.1)
  subst hcomp
  obtain ⟨kC, hkC, -⟩ := hcls.2
  refine W.aast hx hb ((hr.1.1 a _ h1).1 hz) (fun q h => by cases h) (fun h => by cases h) k1 k2 rfl hkC ⟨h00, by show _ < (arrV _ _ _).slots.size; rw [arrV_size]; exact hlt⟩ g1 (fun q h => by rw [h] at g3; cases g3) (by rw [g2]; exact hkC) (by rw [g2]; exact va_assign hcls) rfl rfl d fun H1 e z oq => ?_
  refine k ls H1 _ cells slots hl (hr.up (by rw [h1]; exact fun q => by cases q) hz z oq (hat.arr (x_ty hK.1 ht).1 ht ?_))
  show H1[a]? = some (vp_cell _ _)
  rw [e]
  rw [vp_cell_q, vp_cell_q, arrV_store]
  congr 2
  funext q
  by_cases hq : q = i.toNatClampNeg
  · subst hq
    simp [updV, va_up, va_rf]
  · simp [updV, va_up, hq]
theorem xr_alen (A : Act C D G y cc nL ret F LL tb) {a : Nat} {x : Int32} (hp : ab_len h a = some x) (d : decode cc pc = .ok (.arraylength, 1)) (k : X C D G nL (pc + 1) L (vI x :: st) h) : X C D G nL pc L (vR (some a) :: st) h := by
  obtain ⟨hx, hb, -, -, -, -, hK, -⟩ := A
  intro ls H locs cells slots hl hr
  unfold ab_len at hp
  split at hp
  · rename_i o ho
    obtain ⟨t, n, z⟩ := o
    cases hp
    obtain ⟨-, cell, ty, c1, c2, c3, c4, c5, c6⟩ := hr.1.1 a _ ho
    exact W.alen (n := Int32.ofNat n) hx hb c1 c3 c5.2 rfl rfl d (k ls H locs cells slots hl hr)
  · cases hp
theorem xr_newa (A : Act C D G y cc nL ret F LL tb) {t a : Nat} {ty : FieldType} {atype : ArrayType} {n : Int32} {z : (Nat → Int32) ⊕ (Nat → Int64) ⊕ (Nat → UInt32) ⊕ (Nat → UInt64) ⊕ (Nat → Option Nat)} (hty : newarray.typeOf atype = ty) (ht : xTy[t]? = some ty) (q1 : Cond.arrayClass ty ∈ lw_all) (hz : ∀ (cA : ClassId) (N : Nat), vp_cell cA (N, z) = arrV cA N (fun _ => defaultValue ty)) (hcb : componentBytes ty ≤ 8) (hnm : ∀ cA, va_RA (cs_ C) cA ty → (cs_ C).vm.findClass ("[" ++ ty.toString) = some cA) (hp : ab_nA h t n z = some (a, h')) (d : decode cc pc = .ok (.newarray atype, 2)) (k : X C D G nL (pc + 2) L (vR (some a) :: st) h') : X C D G nL pc L (vI n :: st) h := by
  obtain ⟨hx, hb, -, -, -, hts, hK, -, -, hR, -, -, -, hs0⟩ := A
  intro ls H locs cells slots hl hr
  subst hty
  unfold ab_nA at hp
  split at hp
  · cases hp
  · rename_i hn
    split at hp
    · rename_i hbud
      cases hp
      have g5 := hr.2.2.2.1
      have g6 := hr.2.2.2.2.1
      have h2 := hr.1.2
      refine va_newaK hx hb (hts _ q1) rfl d rfl hn rfl (Nat.le_trans (Nat.mul_le_mul hbud.1 hcb) (by decide)) (by rw [hR]; show cells + 1 ≤ hbc G.1; omega) (by rw [hR]; show slots + _ ≤ hbs G.1; omega) rfl fun H1 cA e1 z1 o1 hAr hNm => ?_
      have hcA : cA = D.2.2 t := Option.some.inj (hNm.symm.trans (hnm _ (x_ty hK.1 ht).2))
      subst hcA
      have hk := k ls H1 locs (cells + 1) (slots + n.toNatClampNeg) hl (hr.new hs0 z1 o1 (o := .inr (t, n.toNatClampNeg, z)) (hat.arr (x_ty hK.1 ht).1 ht (by show H1[H.size]? = some (vp_cell _ _); rw [hz]; exact e1)) hbud.2.1 hbud.2.2)
      rw [h2]
      exact hk
    · cases hp
theorem xr_newq (A : Act C D G y cc nL ret F LL tb) {t a i : Nat} {Cn : String} {n : Int32} (ht : xTy[t]? = some (.object Cn)) (q1 : Cond.classLink y.cls i Cn ∈ lw_all) (q2 : Cn ∈ xAo) (hp : ab_nA h t n ab_zR = some (a, h')) (d : decode cc pc = .ok (.anewarray i, 3)) (k : X C D G nL (pc + 3) L (vR (some a) :: st) h') : X C D G nL pc L (vI n :: st) h := by
  obtain ⟨hx, hb, -, -, hown, hts, hK, -, -, hR, -, -, -, hs0⟩ := A
  intro ls H locs cells slots hl hr
  unfold ab_nA at hp
  split at hp
  · cases hp
  · rename_i hn
    split at hp
    · rename_i hbud
      cases hp
      have g5 := hr.2.2.2.1
      have g6 := hr.2.2.2.2.1
      have h2 := hr.1.2
      refine W.anew hx hb hown (hts _ q1) (va_AO.use (hK.2.2.2.2 _ q2)) rfl d rfl hn (Nat.le_trans (Nat.mul_le_mul_right 4 hbud.1) (by decide)) (by rw [hR]; show cells + 1 ≤ hbc G.1; omega) (by rw [hR]; show slots + _ ≤ hbs G.1; omega) fun cA kA comp f1 f2 f3 f4 => ?_
      have hcA : cA = D.2.2 t := by
        obtain ⟨kA', comp', -, -, -, h4⟩ := (x_ty hK.1 ht).2
        exact Option.some.inj (f1.symm.trans h4)
      subst hcA
      generalize hH1 : H.push ({ cls := D.2.2 t, slots := Array.replicate n.toNatClampNeg .null, vm := .none } : Cell) = H1
      have z1 : H1.size = H.size + 1 := by rw [← hH1, Array.size_push]
      have e1 : H1[H.size]? = some (arrV (D.2.2 t) n.toNatClampNeg (fun _ => .null)) := by rw [← hH1, Array.getElem?_push_size, ← arrV_new]
      have o1 : ∀ q : Nat, q < H.size → H1[q]? = H[q]? := fun q hq => by rw [← hH1, Array.getElem?_push, if_neg (Nat.ne_of_lt hq)]
      have hk := k ls H1 locs (cells + 1) (slots + n.toNatClampNeg) hl (hr.new hs0 z1 o1 (o := .inr (t, n.toNatClampNeg, ab_zR)) (hat.arr (x_ty hK.1 ht).1 ht (by show H1[H.size]? = some (vp_cell _ _); unfold ab_zR; rw [vp_cell_q]; exact e1)) hbud.2.1 hbud.2.2)
      rw [h2]
      exact hk
    · cases hp
end XR4
