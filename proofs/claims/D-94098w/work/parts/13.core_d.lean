set_option maxRecDepth 100000
/-! CORE: small words for the decompiled functions and their walks -/
abbrev hstr (h : Hp) (k : Nat) : Nat := (hco h).1 k
abbrev hsta (h : Hp) (k : Nat) : Option Nat := (hco h).2 k
abbrev hfu (h : Hp) : Nat := (hco h).1 1000
abbrev xoI (ρ : Int32 ⊕ Nat) : Ot := match ρ with
  | .inl v => .inl (some (vI v))
  | .inr q => .inr q
abbrev xoJ (ρ : Int64 ⊕ Nat) : Ot := match ρ with
  | .inl v => .inl (some (vL v))
  | .inr q => .inr q
abbrev xoR (ρ : (Option Nat) ⊕ Nat) : Ot := match ρ with
  | .inl v => .inl (some (vR v))
  | .inr q => .inr q
abbrev xoV (ρ : Unit ⊕ Nat) : Ot := match ρ with
  | .inl _ => .inl none
  | .inr q => .inr q
theorem ab_bdI {α β : Type} {x : Option α} {k : α → Option β} {o : β} {Q : Prop} (c : ∀ a, x = some a → k a = some o → Q) (h : ab_bd x k = some o) : Q := by
  obtain ⟨a, h1, h2⟩ := ab_bdE h
  exact c a h1 h2
theorem ab_b2I {α β : Type} {x : Option (α × Hp)} {k : α → Hp → Option β} {o : β} {Q : Prop} (c : ∀ a h1, x = some (a, h1) → k a h1 = some o → Q) (h : ab_b2 x k = some o) : Q := by
  obtain ⟨a, h1, h2, h3⟩ := ab_b2E h
  exact c a h1 h2 h3
theorem ab_bxI {α β : Type} {x : Option ((α ⊕ Nat) × Hp)} {k : α → Hp → Option β} {t : Nat → Hp → Option β} {o : β} {Q : Prop} (c : ∀ a h1, x = some (.inl a, h1) → k a h1 = some o → Q) (c2 : ∀ q h1, x = some (.inr q, h1) → t q h1 = some o → Q) (h : ab_bx x k t = some o) : Q := by
  rcases ab_bxE h with ⟨a, h1, h2, h3⟩ | ⟨a, h1, h2, h3⟩
  · exact c a h1 h2 h3
  · exact c2 a h1 h2 h3
theorem ab_no {β : Type} {o : β} {Q : Prop} (h : (none : Option β) = some o) : Q := by cases h
def ab_on {β : Type} (r : Option Nat) (A : Option β) (B : Nat → Option β) : Option β := match r with
  | none => A
  | some a => B a
theorem ab_onE {β : Type} {r : Option Nat} {A : Option β} {B : Nat → Option β} {o : β} (h : ab_on r A B = some o) : (r = none ∧ A = some o) ∨ ∃ a, r = some a ∧ B a = some o := by
  cases r with
  | none => exact Or.inl ⟨rfl, h⟩
  | some a => exact Or.inr ⟨a, rfl, h⟩
theorem ab_onI {β : Type} {r : Option Nat} {A : Option β} {B : Nat → Option β} {o : β} {Q : Prop} (c : r = none → A = some o → Q) (c2 : ∀ a, r = some a → B a = some o → Q) (h : ab_on r A B = some o) : Q := by
  rcases ab_onE h with ⟨h1, h2⟩ | ⟨a, h1, h2⟩
  · exact c h1 h2
  · exact c2 a h1 h2
def ab_nz {β : Type} (P : Prop) [dc : Decidable P] (A : Option β) : Option β := if P then none else A
theorem ab_nzE {β : Type} {P : Prop} {dc : Decidable P} {A : Option β} {o : β} (h : ab_nz P (dc := dc) A = some o) : ¬ P ∧ A = some o := by
  unfold ab_nz at h
  split at h
  · cases h
  · exact ⟨by assumption, h⟩
def ab_rq {β : Type} (P : Prop) [dc : Decidable P] (A : Option β) : Option β := if P then A else none
theorem ab_rqE {β : Type} {P : Prop} {dc : Decidable P} {A : Option β} {o : β} (h : ab_rq P (dc := dc) A = some o) : P ∧ A = some o := by
  unfold ab_rq at h
  split at h
  · exact ⟨by assumption, h⟩
  · cases h
theorem ab_pZE {h h' : Hp} {a c k : Nat} {x : Int32} (e : ab_pZ h a c k x = some h') : (x = 0 ∨ x = 1) ∧ ab_p h a c k (vv (vI x)) = some h' := by
  unfold ab_pZ at e
  split at e
  · exact ⟨by assumption, e⟩
  · cases e
theorem ab_pBE {h h' : Hp} {a c k : Nat} {x : Int32} (e : ab_pB h a c k x = some h') : x.toInt8.toInt32 = x ∧ ab_p h a c k (vv (vI x)) = some h' := by
  unfold ab_pB at e
  split at e
  · exact ⟨by assumption, e⟩
  · cases e
theorem ab_nZ {x : Int32} (h : x = 0 ∨ x = 1) : narrow .boolean (vv (vI x)) = vv (vI x) := by rcases h with rfl | rfl <;> rfl
theorem ab_tZ {x : Int32} (h : x = 0 ∨ x = 1) : fits .boolean (vv (vI x)) = true := by rcases h with rfl | rfl <;> rfl
theorem ab_nB {x : Int32} (h : x.toInt8.toInt32 = x) : narrow .byte (vv (vI x)) = vv (vI x) := by
  show Value.int x.toInt8.toInt32 = .int x
  rw [h]
theorem ab_tB {x : Int32} (h : x.toInt8.toInt32 = x) : fits .byte (vv (vI x)) = true := by
  rw [← h]
  exact pk_fb x
theorem ab_nC {x : Int32} (h : x = (x.toUInt32 % 65536).toInt32) : narrow .char (vv (vI x)) = vv (vI x) := by
  rw [h]
  exact pk_nc x
theorem ab_nR {ty : FieldType} (r : Option Nat) (h : ty.isReference = true) : narrow ty (vv (vR r)) = vv (vR r) := by
  cases r <;> cases ty <;> first | rfl | cases h
theorem ab_tR {ty : FieldType} (r : Option Nat) (h : ty.isReference = true) : fits ty (vv (vR r)) = true := by
  cases r <;> cases ty <;> first | rfl | cases h
section XR6
variable {C : Cx} {D : Dd} {G : Gx} {y : MethodName} {cc : ByteArray} {nL : Nat} {ret : Option FieldType} {F LL : Nat} {tb : List (Nat × Nat × Nat × Nat)} {pc : Nat} {L : List (Nat × Vl)} {st : List Vl} {h h' : Hp}
theorem xr_newa_int (A : Act C D G y cc nL ret F LL tb) {a : Nat} {n : Int32} (hp : ab_nA h 0 n ab_zI = some (a, h')) (d : decode cc pc = .ok (.newarray .int, 2)) (k : X C D G nL (pc + 2) L (vR (some a) :: st) h') : X C D G nL pc L (vI n :: st) h :=
  xr_newa A (atype := .int) (ty := .int) (z := ab_zI) rfl rfl q262 (fun _ _ => rfl) (by decide) (fun _ hh => hh) hp d k
theorem xr_newa_byte (A : Act C D G y cc nL ret F LL tb) {a : Nat} {n : Int32} (hp : ab_nA h 1 n ab_zI = some (a, h')) (d : decode cc pc = .ok (.newarray .byte, 2)) (k : X C D G nL (pc + 2) L (vR (some a) :: st) h') : X C D G nL pc L (vI n :: st) h :=
  xr_newa A (atype := .byte) (ty := .byte) (z := ab_zI) rfl rfl q205 (fun _ _ => rfl) (by decide) (fun _ hh => hh) hp d k
theorem xr_newa_char (A : Act C D G y cc nL ret F LL tb) {a : Nat} {n : Int32} (hp : ab_nA h 2 n ab_zI = some (a, h')) (d : decode cc pc = .ok (.newarray .char, 2)) (k : X C D G nL (pc + 2) L (vR (some a) :: st) h') : X C D G nL pc L (vI n :: st) h :=
  xr_newa A (atype := .char) (ty := .char) (z := ab_zI) rfl rfl q237 (fun _ _ => rfl) (by decide) (fun _ hh => hh) hp d k
theorem xr_newa_long (A : Act C D G y cc nL ret F LL tb) {a : Nat} {n : Int32} (hp : ab_nA h 3 n ab_zJ = some (a, h')) (d : decode cc pc = .ok (.newarray .long, 2)) (k : X C D G nL (pc + 2) L (vR (some a) :: st) h') : X C D G nL pc L (vI n :: st) h :=
  xr_newa A (atype := .long) (ty := .long) (z := ab_zJ) rfl rfl q1601 (fun _ _ => rfl) (by decide) (fun _ hh => hh) hp d k
theorem xr_newa_boolean (A : Act C D G y cc nL ret F LL tb) {a : Nat} {n : Int32} (hp : ab_nA h 4 n ab_zI = some (a, h')) (d : decode cc pc = .ok (.newarray .boolean, 2)) (k : X C D G nL (pc + 2) L (vR (some a) :: st) h') : X C D G nL pc L (vI n :: st) h :=
  xr_newa A (atype := .boolean) (ty := .boolean) (z := ab_zI) rfl rfl q1600 (fun _ _ => rfl) (by decide) (fun _ hh => hh) hp d k
theorem ab_tab {v : Int32} (lo hi : Int) (hlo : lo ≤ hi) (ks : List Int32) (hk : ks.map (fun k => k.toInt) = (List.range (hi - lo + 1).toNat).map (fun (i : Nat) => lo + (i : Int))) (hn : ∀ k ∈ ks, ¬ v = k) : v.toInt < lo ∨ hi < v.toInt := by
  by_cases h1 : v.toInt < lo
  · exact Or.inl h1
  · by_cases h2 : hi < v.toInt
    · exact Or.inr h2
    · exfalso
      have hm : v.toInt ∈ ks.map (fun k => k.toInt) := by
        rw [hk]
        refine List.mem_map.mpr ⟨(v.toInt - lo).toNat, List.mem_range.mpr (by omega), by omega⟩
      obtain ⟨k, hk1, hk2⟩ := List.mem_map.mp hm
      exact hn k hk1 (Int32.toInt_inj.mp hk2.symm)
end XR6
theorem xc_X1 : xCl[0]? = some (RX1, TX1, 41) := rfl
theorem xc_X2 : xCl[1]? = some (RX2, TX2, 10) := rfl
theorem xc_X3 : xCl[2]? = some (RX3, TX3, 8) := rfl
theorem xc_X4 : xCl[3]? = some (RX4, TX4, 4) := rfl
theorem xc_X5 : xCl[4]? = some (RX5, TX5, 46) := rfl
theorem xc_X6 : xCl[5]? = some (RX6, TX6, 19) := rfl
theorem xc_X8 : xCl[6]? = some (RX8, TX8, 4) := rfl
theorem xc_X9 : xCl[7]? = some (RX9, TX9, 4) := rfl
theorem xc_X10 : xCl[8]? = some (RX10, TX10, 3) := rfl
theorem xc_X11 : xCl[9]? = some (RX11, TX11, 9) := rfl
theorem xc_X12 : xCl[10]? = some (RX12, TX12, 7) := rfl
theorem xc_X13 : xCl[11]? = some (RX13, TX13, 4) := rfl
theorem xc_X14 : xCl[12]? = some (RX14, TX14, 4) := rfl
theorem xc_X15 : xCl[13]? = some (RX15, TX15, 37) := rfl
theorem xc_J3 : xCl[14]? = some (RJ3, TJ3, 4) := rfl
theorem q_oi2 : Cond.code Lib.objectInit ⟨#[0xb1]⟩ 1 none ∈ lw_all := q125
theorem q_oi1 : Cond.instanceMethod Lib.objectInit ∈ lw_all := q124

theorem x_ldcwS {p : Program} {l : Launch} {e : Env} {R : Room} {s : State} {m : MethodId} {args : Array Value} {below : List Frame} {meth : Method} {c : Code} {T : State} {locs : List Loc} {cells slots : Nat}
    (X : Stand p l e R s m args below meth c T locs cells slots) (hexec : p.tables.exec = Jvm.exec) {own text : String} {index : Nat} {a : Addr} (hown : s.vm.findClass own = some m.cls)
    (hconst : (Cond.stringRef own index text).before args s = true) (hev : (Term.string own index).eval args s none [] s = some (.ref a)) {g : JFrame} (hg : g.method = m) (hdg : decode c.code g.pc = .ok (.ldc_w index, 3)) :
    ∀ target, Steps p.tables e below (T.setTop { g with pc := g.pc + 3, stack := .ref a :: g.stack }) target → Steps p.tables e below (T.setTop g) target := by
  obtain ⟨k, cf, i, a', hk, hcf, hcp, -, hr, hev'⟩ := Cond.stringRef_spec hown hconst
  cases hev.symm.trans hev'
  obtain ⟨k', hk', he⟩ := X.warmed.alike.2.2 _ _ hk
  have hr' : k'.resolved[index]? = some (some (.string a)) := by
    rcases X.warmed.entry hk hk' index with h | ⟨h, -⟩
    · rw [h]; exact hr
    · rw [hr] at h; cases h
  intro target hrest
  subst hg
  jvm_step X.here [hexec, hdg, ldc_w.wp_string (e := e) (s := T) (f := g) X.here.top hk' (by rw [he]; exact hcf) hcp hr']
  exact hrest
section XR7
variable {C : Cx} {D : Dd} {G : Gx} {y : MethodName} {cc : ByteArray} {nL : Nat} {ret : Option FieldType} {F LL : Nat} {tb : List (Nat × Nat × Nat × Nat)} {pc : Nat} {L : List (Nat × Vl)} {st : List Vl} {h h' : Hp}
theorem xr_ldcs (A : Act C D G y cc nL ret F LL tb) {i k : Nat} {tx : String} (q : (y.cls, i, tx, k) ∈ xStr) (d : decode cc pc = .ok (.ldc i, 2)) (kk : X C D G nL (pc + 2) L (vR (some (hstr h k)) :: st) h) : X C D G nL pc L st h := by
  obtain ⟨hx, hb, -, -, hown, hts, hK, -⟩ := A
  intro ls H locs cells slots hl hr
  have hz := hK.2.2.2.1 _ q
  have e : hco h = hco G.1 := hr.2.2.2.2.2
  refine va_ldcS hx hb hown hz d ?_
  have hk := kk ls H locs cells slots hl hr
  unfold hstr at hk
  rw [e] at hk
  exact hk
theorem xr_ldcsw (A : Act C D G y cc nL ret F LL tb) {i k : Nat} {tx : String} (q : (y.cls, i, tx, k) ∈ xStr) (d : decode cc pc = .ok (.ldc_w i, 3)) (kk : X C D G nL (pc + 3) L (vR (some (hstr h k)) :: st) h) : X C D G nL pc L st h := by
  obtain ⟨hx, hb, -, -, hown, hts, hK, -⟩ := A
  intro ls H locs cells slots hl hr
  have hz := hK.2.2.2.1 _ q
  have e : hco h = hco G.1 := hr.2.2.2.2.2
  have hk := kk ls H locs cells slots hl hr
  unfold hstr at hk
  rw [e] at hk
  intro T hT Xs
  obtain ⟨t, a1, b1⟩ := hk T hT Xs
  exact ⟨t, x_ldcwS Xs hx hown (text := tx) (a := (hco G.1).1 k) hz.1 hz.2 (g := F0 (cm C) pc ls (xS st)) rfl (by rw [hb]; exact d) t a1, b1⟩
theorem xr_gsI (A : Act C D G y cc nL ret F LL tb) {i : Nat} {Cn n ds : String} {v : Int32} (q : Cond.fieldLink y.cls i Cn n ds ∈ lw_all) (j : Nat) (hj : xZi[j]? = some (Cn, n, ds, v)) (d : decode cc pc = .ok (.getstatic i, 3)) (kk : X C D G nL (pc + 3) L (vI v :: st) h) : X C D G nL pc L st h := by
  obtain ⟨hx, hb, -, -, hown, hts, hK, hZ, -⟩ := A
  intro ls H locs cells slots hl hr
  exact va_gets hx hb (hZ.1 _ (List.mem_of_getElem? hj)) hr.2.2.1 hown (hts _ q) (fun _ e => e) d (kk ls H locs cells slots hl hr)
theorem xr_gsR (A : Act C D G y cc nL ret F LL tb) {i k : Nat} {Cn n ds : String} (q : Cond.fieldLink y.cls i Cn n ds ∈ lw_all) (j : Nat) (hj : xZr[j]? = some (Cn, n, ds, k)) (d : decode cc pc = .ok (.getstatic i, 3)) (kk : X C D G nL (pc + 3) L (vR (hsta h k) :: st) h) : X C D G nL pc L st h := by
  obtain ⟨hx, hb, -, -, hown, hts, hK, hZ, -⟩ := A
  intro ls H locs cells slots hl hr
  have e : hco h = hco G.1 := hr.2.2.2.2.2
  have hk := kk ls H locs cells slots hl hr
  unfold hsta at hk
  rw [e] at hk
  exact va_gets hx hb (hZ.2 _ (List.mem_of_getElem? hj)).1 hr.2.2.1 hown (hts _ q) (fun _ e => e) d hk
/-- classes under Named: their first fields are Named's -/
theorem x_named {c : Nat} (h1 : 6 ≤ c) (h2 : c ≤ 12) : ∃ (Cn : String) (T : u_T) (N : Nat) (ty : Nat → FieldType), xCl[c]? = some (Cn, T, N) ∧ (∀ w ∈ u_ws Cn T N, w ∈ lw_all) ∧ 2 ≤ N ∧ T 0 = ("NoonMeals$Named", "name", "Ljava/lang/String;", true) ∧ T 1 = ("NoonMeals$Named", "number", "I", true) ∧ (∀ k, k < N → parseFieldDescriptor (T k).2.2.1 = some (ty k)) ∧ (∀ a, a < N → ∀ b, b < N → a ≠ b → (T a).2.1 ≠ (T b).2.1) ∧ ty 0 = .object "java/lang/String" ∧ ty 1 = .int := by
  have hc : c = 6 ∨ c = 7 ∨ c = 8 ∨ c = 9 ∨ c = 10 ∨ c = 11 ∨ c = 12 := by omega
  rcases hc with rfl | rfl | rfl | rfl | rfl | rfl | rfl
  · exact ⟨_, _, _, tyX8, xc_X8, in_X8, by decide, rfl, rfl, tyX8_ok, nmX8, rfl, rfl⟩
  · exact ⟨_, _, _, tyX9, xc_X9, in_X9, by decide, rfl, rfl, tyX9_ok, nmX9, rfl, rfl⟩
  · exact ⟨_, _, _, tyX10, xc_X10, in_X10, by decide, rfl, rfl, tyX10_ok, nmX10, rfl, rfl⟩
  · exact ⟨_, _, _, tyX11, xc_X11, in_X11, by decide, rfl, rfl, tyX11_ok, nmX11, rfl, rfl⟩
  · exact ⟨_, _, _, tyX12, xc_X12, in_X12, by decide, rfl, rfl, tyX12_ok, nmX12, rfl, rfl⟩
  · exact ⟨_, _, _, tyX13, xc_X13, in_X13, by decide, rfl, rfl, tyX13_ok, nmX13, rfl, rfl⟩
  · exact ⟨_, _, _, tyX14, xc_X14, in_X14, by decide, rfl, rfl, tyX14_ok, nmX14, rfl, rfl⟩
theorem ab_gNE {a : Nat} {x : Option Nat} (e : ab_gN h a = some x) : ∃ c F, 6 ≤ c ∧ c ≤ 12 ∧ h.1 a = some (.inl (c, F)) ∧ F 0 = vv (vR x) := by
  unfold ab_gN at e
  split at e
  · rename_i o ho
    split at e
    · rename_i hc
      exact ⟨o.1, o.2, hc.1, hc.2, ho, ab_vRE e⟩
    · cases e
  · cases e
theorem xr_gNm (A : Act C D G y cc nL ret F LL tb) {i a : Nat} {x : Option Nat} (q : Cond.fieldLink y.cls i "NoonMeals$Named" "name" "Ljava/lang/String;" ∈ lw_all) (hp : ab_gN h a = some x) (d : decode cc pc = .ok (.getfield i, 3)) (kk : X C D G nL (pc + 3) L (vR x :: st) h) : X C D G nL pc L (vR (some a) :: st) h := by
  obtain ⟨c, Fd, h1, h2, h3, h4⟩ := ab_gNE hp
  obtain ⟨Cn, T, N, ty, g1, g2, g3, g4, -⟩ := x_named h1 h2
  exact xr_get A g1 g2 0 (by omega) (ref := "NoonMeals$Named") (by rw [g4]; exact q) (by rw [g4]) ⟨Fd, h3, h4⟩ d kk
/-- an inherited field by the name of the class below -/
theorem xr_getS (A : Act C D G y cc nL ret F LL tb) {ci : Nat} {Cn ref : String} {T : u_T} {N i a : Nat} (hc : xCl[ci]? = some (Cn, T, N)) (hin : ∀ w ∈ u_ws Cn T N, w ∈ lw_all) (k : Nat) (hk : k < N) (hlink : Cond.fieldLink y.cls i ref (T k).2.1 (T k).2.2.1 ∈ lw_all) (hsame : Cond.sameField ref (T k).1 (T k).2.1 (T k).2.2.1 ∈ lw_all) {v : Vl} (hv : ∃ F, h.1 a = some (.inl (ci, F)) ∧ F k = vv v) (d : decode cc pc = .ok (.getfield i, 3))
    (kk : X C D G nL (pc + 3) L (v :: st) h) : X C D G nL pc L (vR (some a) :: st) h := by
  obtain ⟨hx, hb, -, -, hown, hts, hK, -⟩ := A
  intro ls H locs cells slots hl hr
  obtain ⟨Fd, hh, hv⟩ := hv
  obtain ⟨r, cell, h1, q1, q2, q5, q6, q7, q4⟩ := hr.1.1 a _ hh
  have hr' : r = (Cn, T, N) := Option.some.inj (h1.symm.trans hc)
  subst hr'
  obtain ⟨hS, hfc, kC, hkC, hkind⟩ := hK.1.1 ci _ hc
  obtain ⟨cf, kf, fi, f, hi, hsl⟩ := hS k hk
  refine W.getf hx hb hown (hts _ hlink) (u_same (hts _ hsame) _ hi) (u_facts hfc hkC (u_lays hts hin hk) hi).1 q1 q6 (v := vv v) ?_ rfl rfl d (kk ls H locs cells slots hl hr)
  rw [hsl, q4 k hk]
  exact congrArg some hv
theorem xr_pN (A : Act C D G y cc nL ret F LL tb) {i a k : Nat} (hk2 : k < 2) {nme ds : String} {v : Vl} (hT : ∀ T : u_T, T 0 = ("NoonMeals$Named", "name", "Ljava/lang/String;", true) → T 1 = ("NoonMeals$Named", "number", "I", true) → T k = ("NoonMeals$Named", nme, ds, true)) (q : Cond.fieldLink y.cls i "NoonMeals$Named" nme ds ∈ lw_all) (hy : y.cls = "NoonMeals$Named") (hin2 : y.name = "<init>") (hn : ∀ ty : Nat → FieldType, ty 0 = .object "java/lang/String" → ty 1 = .int → narrow (ty k) (vv v) = vv v ∧ fits (ty k) (vv v) = true) (hp : ab_pN h a k (vv v) = some h') (d : decode cc pc = .ok (.putfield i, 3)) (kk : X C D G nL (pc + 3) L st h') : X C D G nL pc L (v :: vR (some a) :: st) h := by
  unfold ab_pN at hp
  split at hp
  · rename_i o ho
    split at hp
    · rename_i hc
      obtain ⟨Cn, T, N, ty, g1, g2, g3, g4, g5, g6, g7, g8, g9⟩ := x_named hc.1 hc.2
      have gT := hT T g4 g5
      have gn := hn ty g8 g9
      have hp2 : ab_p h a o.1 k (vv v) = some h' := by
        unfold ab_p ab_F
        rw [ho]
        simp only [if_true]
        exact hp
      exact xr_putF A g1 g2 g6 g7 k (by omega) (ref := "NoonMeals$Named") (by rw [gT]; exact q) (by rw [gT]) (by rw [gT]) hin2 (by rw [gT]; exact hy.symm) gn.1 gn.2 hp2 d kk
    · cases hp
  · cases hp
theorem xr_pN0 (A : Act C D G y cc nL ret F LL tb) {i a : Nat} {r : Option Nat} (q : Cond.fieldLink y.cls i "NoonMeals$Named" "name" "Ljava/lang/String;" ∈ lw_all) (hy : y.cls = "NoonMeals$Named") (hin2 : y.name = "<init>") (hp : ab_pN h a 0 (va_rf r) = some h') (d : decode cc pc = .ok (.putfield i, 3)) (kk : X C D G nL (pc + 3) L st h') : X C D G nL pc L (vR r :: vR (some a) :: st) h :=
  xr_pN A (by decide) (fun _ e _ => e) q hy hin2 (fun ty e _ => by rw [e]; exact ⟨ab_nR r rfl, ab_tR r rfl⟩) hp d kk
theorem xr_pN1 (A : Act C D G y cc nL ret F LL tb) {i a : Nat} {x : Int32} (q : Cond.fieldLink y.cls i "NoonMeals$Named" "number" "I" ∈ lw_all) (hy : y.cls = "NoonMeals$Named") (hin2 : y.name = "<init>") (hp : ab_pN h a 1 (.int x) = some h') (d : decode cc pc = .ok (.putfield i, 3)) (kk : X C D G nL (pc + 3) L st h') : X C D G nL pc L (vI x :: vR (some a) :: st) h :=
  xr_pN A (v := vI x) (by decide) (fun _ _ e => e) q hy hin2 (fun ty _ e => by rw [e]; exact ⟨rfl, rfl⟩) hp d kk
/-- an array of things under Named, read -/
def ab_aRN (h : Hp) (a : Nat) (i : Int32) : Option (Option Nat) := match h.1 a with
  | some (.inr o) => if 6 ≤ o.1 ∧ o.1 ≤ 12 then ab_aR h a o.1 i else none
  | _ => none
theorem xr_aaloadN (A : Act C D G y cc nL ret F LL tb) {a : Nat} {i : Int32} {x : Option Nat} (hp : ab_aRN h a i = some x) (d : decode cc pc = .ok (.aaload, 1)) (k : X C D G nL (pc + 1) L (vR x :: st) h) : X C D G nL pc L (vI i :: vR (some a) :: st) h := by
  unfold ab_aRN at hp
  split at hp
  · rename_i o ho
    split at hp
    · rename_i hc
      have hcs : o.1 = 6 ∨ o.1 = 7 ∨ o.1 = 8 ∨ o.1 = 9 ∨ o.1 = 10 ∨ o.1 = 11 ∨ o.1 = 12 := by omega
      rcases hcs with e | e | e | e | e | e | e <;> (rw [e] at hp; exact xr_aaload A rfl hp d k)
    · cases hp
  · cases hp
theorem xr_cast (A : Act C D G y cc nL ret F LL tb) {ci : Nat} {Cn : String} {T : u_T} {N i a : Nat} (hc : xCl[ci]? = some (Cn, T, N)) (hi : ab_is h a ci) (q : Cond.classLink y.cls i Cn ∈ lw_all) (d : decode cc pc = .ok (.checkcast i, 3)) (kk : X C D G nL (pc + 3) L (vR (some a) :: st) h) : X C D G nL pc L (vR (some a) :: st) h := by
  obtain ⟨hx, hb, -, -, hown, hts, hK, -⟩ := A
  intro ls H locs cells slots hl hr
  exact va_castS hx hb hown (hts _ q) (hK.1.1 ci _ hc).2 (x_recv hK.1 hc hr.1 hi) d (kk ls H locs cells slots hl hr)
def ab_ca {β : Type} (h : Hp) (a t : Nat) (K : Option β) : Option β := match ab_A h a t with
  | some _ => if hfz h ≤ a then K else none
  | none => none
theorem ab_caE {β : Type} {a t : Nat} {K : Option β} {o : β} (e : ab_ca h a t K = some o) : (∃ z, h.1 a = some (.inr (t, z)) ∧ hfz h ≤ a) ∧ K = some o := by
  unfold ab_ca at e
  split at e
  · rename_i z hz
    split at e
    · exact ⟨⟨z, ab_AE hz, by assumption⟩, e⟩
    · cases e
  · cases e
theorem xr_castB (A : Act C D G y cc nL ret F LL tb) {i a : Nat} (hi : ∃ z, h.1 a = some (.inr (1, z)) ∧ hfz h ≤ a) (q : Cond.classLink y.cls i "[B" ∈ lw_all) (d : decode cc pc = .ok (.checkcast i, 3)) (kk : X C D G nL (pc + 3) L (vR (some a) :: st) h) : X C D G nL pc L (vR (some a) :: st) h := by
  obtain ⟨hx, hb, -, -, hown, hts, hK, -⟩ := A
  intro ls H locs cells slots hl hr
  obtain ⟨z, hz, hzz⟩ := hi
  have hP : va_P (D.1, D.2.1) xCl [(a, .inl (D.2.2 1, z))] H := by
    intro k q hk
    have hk0 : k < 1 := (List.getElem?_eq_some_iff.mp hk).1
    rw [show k = 0 by omega] at hk
    cases hk
    exact (hr.1.1 a _ hz).1 hzz
  exact va_castA (D := (D.1, D.2.1)) (cl := xCl) hx hb hown (hts _ q) hP 0 rfl (x_ty hK.1 (t := 1) (ty := .byte) rfl).2 d (kk ls H locs cells slots hl hr)
def ab_in9 (h : Hp) (r : Option Nat) (c : Nat) : Option Int32 := match r with
  | none => some 0
  | some a => match h.1 a with
    | some (.inl o) => if 6 ≤ o.1 ∧ o.1 ≤ 12 then (if o.1 = c then some 1 else some 0) else none
    | _ => none
theorem xr_inst (A : Act C D G y cc nL ret F LL tb) {ci : Nat} {Cn : String} {T : u_T} {N i : Nat} {r : Option Nat} {x : Int32} (hc : xCl[ci]? = some (Cn, T, N)) (hnc : ∀ c q, 6 ≤ c → c ≤ 12 → c ≠ ci → xCl[c]? = some q → (q.1, Cn) ∈ xNc) (hp : ab_in9 h r ci = some x) (q : Cond.classLink y.cls i Cn ∈ lw_all) (d : decode cc pc = .ok (.instanceof i, 3)) (kk : X C D G nL (pc + 3) L (vI x :: st) h) : X C D G nL pc L (vR r :: st) h := by
  obtain ⟨hx, hb, -, -, hown, hts, hK, -⟩ := A
  intro ls H locs cells slots hl hr
  cases r with
  | none =>
    cases hp
    exact lv_instN hx hb d (kk ls H locs cells slots hl hr)
  | some a =>
    unfold ab_in9 at hp
    dsimp only at hp
    split at hp
    · rename_i o ho
      split at hp
      · rename_i hcc
        obtain ⟨Cn2, T2, N2, ty, g1, -⟩ := x_named hcc.1 hcc.2
        split at hp
        · rename_i e
          cases hp
          exact va_instS hx hb hown (hts _ q) (hK.1.1 ci _ hc).2 (x_recv hK.1 hc hr.1 ⟨o.2, by rw [ho, ← e]⟩) d (kk ls H locs cells slots hl hr)
        · rename_i e
          cases hp
          exact va_instNo hx hb hown (hts _ q) (hK.2.2.1 _ (hnc _ _ hcc.1 hcc.2 e g1)) (x_recv hK.1 g1 hr.1 ⟨o.2, ho⟩) d (kk ls H locs cells slots hl hr)
      · cases hp
    · cases hp
theorem xr_instX10 (A : Act C D G y cc nL ret F LL tb) {i : Nat} {r : Option Nat} {x : Int32} (hp : ab_in9 h r 8 = some x) (q : Cond.classLink y.cls i RX10 ∈ lw_all) (d : decode cc pc = .ok (.instanceof i, 3)) (kk : X C D G nL (pc + 3) L (vI x :: st) h) : X C D G nL pc L (vR r :: st) h := by
  refine xr_inst A xc_X10 (fun c q h1 h2 h3 h4 => ?_) hp q d kk
  have hcs : c = 6 ∨ c = 7 ∨ c = 9 ∨ c = 10 ∨ c = 11 ∨ c = 12 := by omega
  rcases hcs with rfl | rfl | rfl | rfl | rfl | rfl <;> (cases h4; decide)
theorem xr_instX8 (A : Act C D G y cc nL ret F LL tb) {i : Nat} {r : Option Nat} {x : Int32} (hp : ab_in9 h r 6 = some x) (q : Cond.classLink y.cls i RX8 ∈ lw_all) (d : decode cc pc = .ok (.instanceof i, 3)) (kk : X C D G nL (pc + 3) L (vI x :: st) h) : X C D G nL pc L (vR r :: st) h := by
  refine xr_inst A xc_X8 (fun c q h1 h2 h3 h4 => ?_) hp q d kk
  have hcs : c = 7 ∨ c = 8 ∨ c = 9 ∨ c = 10 ∨ c = 11 ∨ c = 12 := by omega
  rcases hcs with rfl | rfl | rfl | rfl | rfl | rfl <;> (cases h4; decide)
def ab_inS (h : Hp) (r : Option Nat) : Option Int32 := match r with
  | none => some 0
  | some a => ab_ck h a 14 (some 1)
theorem xr_instS (A : Act C D G y cc nL ret F LL tb) {i : Nat} {r : Option Nat} {x : Int32} (hp : ab_inS h r = some x) (q : Cond.classLink y.cls i RJ3 ∈ lw_all) (d : decode cc pc = .ok (.instanceof i, 3)) (kk : X C D G nL (pc + 3) L (vI x :: st) h) : X C D G nL pc L (vR r :: st) h := by
  obtain ⟨hx, hb, -, -, hown, hts, hK, -⟩ := A
  intro ls H locs cells slots hl hr
  cases r with
  | none =>
    cases hp
    exact lv_instN hx hb d (kk ls H locs cells slots hl hr)
  | some a =>
    obtain ⟨hi, e⟩ := ab_ckE hp
    cases e
    exact va_instS hx hb hown (hts _ q) (hK.1.1 14 _ xc_J3).2 (x_recv hK.1 xc_J3 hr.1 hi) d (kk ls H locs cells slots hl hr)
def ab_cpy (h : Hp) (a : Nat) (sp : Int32) (b : Nat) (dp n : Int32) : Option Hp := ab_bd (ab_A h a 0) fun z => ab_bd (ab_A h b 0) fun w => match z.2, w.2 with
  | .inl f, .inl g => if (sp < 0 ∨ dp < 0 ∨ n < 0) ∨ z.1 < sp.toNatClampNeg + n.toNatClampNeg ∨ w.1 < dp.toNatClampNeg + n.toNatClampNeg ∨ a < hfz h then none else ab_w h b (.inr (0, w.1, .inl (va_cpy f g sp.toNatClampNeg dp.toNatClampNeg n.toNatClampNeg)))
  | _, _ => none
theorem xr_cpy (A : Act C D G y cc nL ret F LL tb) {i a b : Nat} {sp dp n : Int32} (q : Cond.methodLink y.cls i arraycopyName ∈ lw_all) (q2 : Cond.native arraycopyName ∈ lw_all) (q3 : Cond.static arraycopyName ∈ lw_all) (q4 : Cond.initialized "java/lang/System" ∈ lw_all) (hp : ab_cpy h a sp b dp n = some h') (d : decode cc pc = .ok (.invokestatic i, 3)) (hF : 1 ≤ F) (hL : 8 + (nativeFrameWords "java/lang/System" "arraycopy" 5 + 11) ≤ LL) (hrm : (st.map vcat).sum ≤ 8) (kk : X C D G nL (pc + 3) L st h') : X C D G nL pc L (vI n :: vI dp :: vR (some b) :: vI sp :: vR (some a) :: st) h := by
  obtain ⟨hx, hb, -, hml, hown, hts, hK, -, -, hR, -, -, -, hs0⟩ := A
  intro ls H locs cells slots hl hr
  obtain ⟨⟨n0, f'⟩, e0, hp⟩ := ab_bdE hp
  obtain ⟨⟨n1, g'⟩, e1, hp⟩ := ab_bdE hp
  rcases f' with f | f'
  · rcases g' with g | g'
    · dsimp only at hp
      split at hp
      · cases hp
      · rename_i hbad
        obtain ⟨hz9, rfl⟩ := ab_wE hp
        have h1 : ¬ sp < 0 := fun z => hbad (Or.inl (Or.inl z))
        have h2 : ¬ dp < 0 := fun z => hbad (Or.inl (Or.inr (Or.inl z)))
        have h3 : ¬ n < 0 := fun z => hbad (Or.inl (Or.inr (Or.inr z)))
        have h4 : sp.toNatClampNeg + n.toNatClampNeg ≤ n0 := Nat.le_of_not_lt fun z => hbad (Or.inr (Or.inl z))
        have h5 : dp.toNatClampNeg + n.toNatClampNeg ≤ n1 := Nat.le_of_not_lt fun z => hbad (Or.inr (Or.inr (Or.inl z)))
        have h6 : hfz h ≤ a := Nat.le_of_not_lt fun z => hbad (Or.inr (Or.inr (Or.inr z)))
        have nn : ∀ z : Int32, ¬ z < 0 → z.toInt = (z.toNatClampNeg : Int) := by
          intro z hz
          have hz0 : (0 : Int) ≤ z.toInt := by
            have := Int32.not_lt.mp hz
            simpa using Int32.le_iff_toInt_le.mp this
          show z.toInt = ((z.toInt.toNat : Nat) : Int)
          omega
        intro T hT Xs
        have hc0 : H[a]? = some (vp_cell (D.2.2 0) (n0, .inl f)) := (hr.1.1 a _ (ab_AE e0)).1 h6
        have hc1 : H[b]? = some (vp_cell (D.2.2 0) (n1, .inl g)) := (hr.1.1 b _ (ab_AE e1)).1 hz9
        obtain ⟨-, k0, hk0, cm0, hkk0⟩ := (x_ty hK.1 (t := 0) (ty := .int) rfl).1 n0 (fun j => .int (f j))
        obtain ⟨-, k1, hk1, cm1, hkk1⟩ := (x_ty hK.1 (t := 0) (ty := .int) rfl).1 n1 (fun j => .int (g j))
        obtain ⟨vm', X', step⟩ := Xs.arraycopy hx hown (hts _ q) (hts _ q2) (hts _ q3) (hts _ q4) (src := a) (dst := b) (cs := vp_cell (D.2.2 0) (n0, .inl f)) (cd := vp_cell (D.2.2 0) (n1, .inl g)) (srcPos := sp) (destPos := dp) (n := n) (by rw [hT]; exact hc0) (by rw [hT]; exact hc1)
          (fun _ h => by cases h) (fun _ h => by cases h) (fun h => by cases h) (fun h => by cases h) hk0 hk1 hkk0 hkk1 (by simp [refKind]) h1 h2 h3
          (by rw [nn sp h1, nn n h3]; show ¬ _ > ((arrV _ n0 (fun j => .int (f j))).slots.size : Int); rw [arrV_size]; omega)
          (by rw [nn dp h2, nn n h3]; show ¬ _ > ((arrV _ n1 (fun j => .int (g j))).slots.size : Int); rw [arrV_size]; omega)
          (fun vm₁ _ i hi => by
            have e : (vp_cell (D.2.2 0) (n0, .inl f)).slots.getD (sp.toNatClampNeg + i) .null = .int (f (sp.toNatClampNeg + i)) := by
              show (arrV _ n0 (fun j => .int (f j))).slots.getD _ _ = _
              rw [Array.getD_eq_getD_getElem?, arrV_read _ _ (by omega)]
              rfl
            refine ⟨?_, ?_⟩
            · rw [e]
              rfl
            · rw [e]
              exact trivial)
          (g := F0 (cm C) pc ls (.int n :: .int dp :: .ref b :: .int sp :: .ref a :: xS st)) rfl (hl.1.trans hml.symm) (rest := xS st) rfl (by rw [hb]; exact d) (by rw [hR]; exact hF) (by
            rw [hR]
            have := x_cat hrm
            show 2 * 0 + ((xS st).map fun v => v.category).sum + _ ≤ LL
            omega)
        have e1 : copied (vp_cell (D.2.2 0) (n0, .inl f)) (vp_cell (D.2.2 0) (n1, .inl g)) sp dp n = vp_cell (D.2.2 0) (n1, .inl (va_cpy f g sp.toNatClampNeg dp.toNatClampNeg n.toNatClampNeg)) := va_copied (fun z => .int z) _ _ f g h4
        rw [e1] at X' step
        have hlb : b < H.size := (Array.getElem?_eq_some_iff.mp hc1).1
        have hr2 : ∀ L9 : List Loc, (∀ q ∈ L9, q.base = b) → HR C D G.1 (ab_up h b (.inr (0, n1, .inl (va_cpy f g sp.toNatClampNeg dp.toNatClampNeg n.toNatClampNeg)))) (H.setIfInBounds b (vp_cell (D.2.2 0) (n1, .inl (va_cpy f g sp.toNatClampNeg dp.toNatClampNeg n.toNatClampNeg)))) (locs ++ L9) cells slots := by
          intro L9 hL9
          have e2 := hr.up (k := 0) (H1 := H.setIfInBounds b (vp_cell (D.2.2 0) (n1, .inl (va_cpy f g sp.toNatClampNeg dp.toNatClampNeg n.toNatClampNeg)))) (o := .inr (0, n1, .inl (va_cpy f g sp.toNatClampNeg dp.toNatClampNeg n.toNatClampNeg))) (a := b) (by rw [ab_AE ‹ab_A h b 0 = _›]; exact fun z => by cases z) hz9 (by simp) (fun q hq => by simp [Array.getElem?_setIfInBounds, Ne.symm hq]) (hat.arr (x_ty hK.1 (t := 0) (ty := .int) rfl).1 rfl (by show (H.setIfInBounds b _)[b]? = _; simp [Array.getElem?_setIfInBounds, hlb]))
          obtain ⟨a1, a2, a3, a4⟩ := e2
          refine ⟨a1, a2, ⟨a3.1, a3.2.1, fun q hq => ?_⟩, a4⟩
          rcases List.mem_append.mp hq with z | z
          · exact a3.2.2 q (List.mem_append_left _ z)
          · have e3 := a3.2.2 ⟨b, 0⟩ (List.mem_append_right _ (List.mem_singleton.mpr rfl))
            show XA G.1 q.base
            rw [hL9 q z]
            exact e3
        have hheap : ((T.setVm vm').setCell b (vp_cell (D.2.2 0) (n1, .inl (va_cpy f g sp.toNatClampNeg dp.toNatClampNeg n.toNatClampNeg)))).heap = H.setIfInBounds b (vp_cell (D.2.2 0) (n1, .inl (va_cpy f g sp.toNatClampNeg dp.toNatClampNeg n.toNatClampNeg))) := by rw [← hT]; rfl
        obtain ⟨t, a1, b1⟩ := kk ls _ _ cells slots hl (hr2 _ (fun q hq => by obtain ⟨z, -, hz⟩ := List.mem_map.mp hq; rw [← hz])) _ hheap X'
        exact ⟨t, step t a1, b1⟩
    · cases hp
  · rcases g' with g | g' <;> cases hp
/-- caught by the one row of the table -/
theorem xr_catch (A : Act C D G y cc nL ret F LL tb) {q0 : Nat × Nat × Nat × Nat} (htb : tb = [q0]) {a : Nat} (hi : ab_is h a 2) (q : Cond.classLink y.cls q0.2.2.2 RX3 ∈ lw_all) (hcv : (tableOf [q0]).all (fun x => covers x pc && decide (x.catchType = q0.2.2.2) && decide (x.handlerPc = q0.2.2.1)) = true) (h0 : q0.2.2.2 ≠ 0) (kk : X C D G nL q0.2.2.1 L [vR (some a)] h) : XT C D G nL pc L h a := by
  subst htb
  obtain ⟨hx, hb, -, hml, hown, hts, hK, -, hlk, -, htb, -⟩ := A
  intro ls H locs cells slots rest hl hr ⟨ce, g1, g2, g3⟩
  obtain ⟨F, hF⟩ := hi
  have e : xEn h a = RX3 := by unfold xEn; rw [hF]; rfl
  rw [e] at g3
  obtain ⟨x, hx1⟩ : ∃ x, tableOf [q0] = [x] := ⟨_, rfl⟩
  rw [hx1] at hcv htb
  simp only [List.all_cons, List.all_nil, Bool.and_true, Bool.and_eq_true, decide_eq_true_eq] at hcv
  obtain ⟨⟨c1, c2⟩, c3⟩ := hcv
  refine vx_catch hown [] x [] htb (fun z hz => by cases hz) (by simpa [covers] using c1) (by rw [c2]; exact h0) (name := RX3) (by rw [c2]; exact hts _ q) (E := RX3) (va_Nw.use rfl (hK.2.1 _ n134)) g1 g2 g3 ?_
  have hk := kk ls H locs cells slots hl hr
  rw [c3]
  exact hk
end XR7
/-! CORE: methods with handlers (x_backW follows vx_backW of EXCEPTIONS) -/
section XB8
variable {l : Launch} {R : Room} {p : Program} {e : Env} {below : List Frame} {s : State} {sargs : Array Value} {y : MethodName} {len W9 : Nat} {D : Dd} {F' LL' : Nat} {av : List Vl} {h9 : Hp} {o9 : Ot} {hz9 : Hp}
theorem x_backW {ws : List Cond} {bytes : ByteArray} {maxL : Nat} {ret : Option FieldType} {hh : List (Nat × Nat × Nat × Nat)} (hl9 : l.stackTraces = false)
    (hM9 : CtW D F' LL' y ws av h9 o9 hz9) (hframes : F' + 1 ≤ R.frames) (hlocals : W9 + (maxL + 11) + LL' ≤ R.locals)
    (hws : ∀ w ∈ ws, ∀ a' U, s.WarmedH U.vm → w.before a' U = true) (hcode : Cond.codeWith y bytes maxL ret hh ∈ ws) (hinit : ∀ a' U, s.WarmedH U.vm → (Cond.initialized y.cls).before a' U = true) :
    vx_Back l R p e below s sargs y len W9 (x_Pre D R av h9) (x_Po D (h9, o9, hz9)) (x_PoX D (h9, o9, hz9)) := by
  have hM := hM9 l hl9
  intro m meth c A g ig mk a X hg hsize hdg hW hn hp
  have h1 : (headSpec ws (xrm F' LL' h9)).pre.before a A.U = true := atoms_intro fun w hw => hws w hw _ _ X.warmed
  have h2 : (Cond.codeWith y bytes maxL ret hh).before a A.U = true := hws _ hcode _ _ X.warmed
  have h3 : (Cond.initialized y.cls).before a A.U = true := hinit _ _ X.warmed
  have h4 : A.cells + (headSpec ws (xrm F' LL' h9)).room.cells ≤ R.cells := hp.1
  have h5 : A.slots + (headSpec ws (xrm F' LL' h9)).room.slots ≤ R.slots := hp.2.1
  have hPc : x_Pc D av h9 a (A.U.calling g mk a) := x_blind _ _ _ _ hp.2.2
  obtain ⟨U, Ls, c0, s0⟩ := A
  dsimp only [Pt.U, Pt.locs, Pt.cells, Pt.slots] at h1 h2 h3 h4 h5 X hn hPc ⊢
  obtain ⟨m9, methY, cY, hn9, hmY, hcY, -, hlY, -⟩ := Cond.codeWith_spec h2
  cases Option.some.inj (hn9.symm.trans hn)
  obtain ⟨kY, hkY, -⟩ := className_of_methodNamed hn
  have hinitY : kY.init = .initialized := Cond.initialized_spec (findClass_of_methodNamed hn) hkY h3
  have h : At U g.method c below := by rw [hg]; exact X.here
  have hlocals9 : W9 + (maxL + 11) + (headSpec ws (xrm F' LL' h9)).room.locals ≤ R.locals := hlocals
  have happ : (headSpec ws (xrm F' LL' h9)).appliesLoose y e.platform (U.calling g mk a) = true :=
    Spec.appliesLoose_calling (g := g) h hdg hn hkY hinitY
      (X.room_calling (g := g) (R' := (headSpec ws (xrm F' LL' h9)).room) hsize hmY hcY hframes (by rw [hlY]; omega) h4 h5) h1
  obtain ⟨mid, hmid⟩ := h.above
  have hfr : (U.setTop g).frames = (.java g :: mid) ++ below := by rw [State.frames_setTop' g h.top, hmid]; rfl
  obtain ⟨o, s₂, hsteps, -, hend, hq⟩ := Steps.callFree hM p X.admits X.cas X.clock (acts := []) hfr happ hPc trivial
  have hq' : x_Q D (h9, o9, hz9) (hbc h9 - hbc hz9) (hbs h9 - hbs hz9) (XA h9) a (U.calling g mk a) o s₂ := hq
  rw [State.frames_setTop' g h.top] at hend
  obtain ⟨g₀, hg0⟩ := Option.isSome_iff_exists.mp h.top
  obtain ⟨r, hr⟩ := State.topJava?_eq_some.mp hg0
  have hr' : (({ U with heap := s₂.heap, slotsUsed := s₂.slotsUsed } : State).setVm s₂.vm).frames = .java g₀ :: r := hr
  rcases hq' with ⟨hqc, L, hfe, hL⟩ | ⟨q, rfl, E, ce, L, hx, hce, hcv, hcl, hW₂, hsm, hL⟩
  · obtain ⟨⟨v, rfl⟩, hW₂, e2, q2, q3, q4, q5, q6⟩ := id hfe
    have e3 : s₂ = ({ (U.calling g mk a).setFrames s₂.frames with heap := s₂.heap, slotsUsed := s₂.slotsUsed } : State).setVm s₂.vm := by
      have : s₂ = ({ s₂ with vm := (U.calling g mk a).vm } : State).setVm s₂.vm := rfl
      rw [e2] at this
      exact this
    obtain ⟨c₂, i₂, len₂, hc₂, hd₂, hf₂⟩ := hend
    have hW' : U.WarmedH s₂.vm := hW₂
    have hcc : c₂ = c := by
      have h1 : s₂.code? g.method = U.code? g.method := by
        rw [State.code?_eq, State.code?_eq, hW'.alike.method?]
      exact Option.some.inj (hc₂.symm.trans (h1.trans h.code))
    subst hcc
    have hlen : len₂ = len := by rw [hdg] at hd₂; cases hd₂; rfl
    subst hlen
    have hs₂ : s₂ = (({ U with heap := s₂.heap, slotsUsed := s₂.slotsUsed } : State).setVm s₂.vm).setTop { g with pc := g.pc + len₂, stack := v.toList ++ g.stack } := by
      refine e3.trans ?_
      rw [hf₂, State.calling_eq h.top, State.setFrames_setFrames, State.setTop_of_frames _ hr', hr]
      rfl
    have hsame : U.sameButNew ({ U with heap := s₂.heap, slotsUsed := s₂.slotsUsed } : State) L (hbc h9 - hbc hz9) (hbs h9 - hbs hz9) := by
      refine ⟨?_, q2, q3, q4, q5, q6⟩
      obtain ⟨t, ht, -⟩ := State.frames_cons hr
      show ({ U with heap := s₂.heap, slotsUsed := s₂.slotsUsed } : State) = { U.setFrames U.frames with heap := s₂.heap, slotsUsed := s₂.slotsUsed }
      rw [State.setFrames_self ht]
    subst hg
    refine Or.inl ⟨v, ⟨(({ U with heap := s₂.heap, slotsUsed := s₂.slotsUsed } : State).setVm s₂.vm), Ls ++ L, c0 + (hbc h9 - hbc hz9), s0 + (hbs h9 - hbs hz9)⟩,
      ⟨X.admits, X.cas, X.clock, X.frames, X.room, X.hears, X.method, X.code, (X.here.setHeapUsed s₂.heap s₂.slotsUsed).setVm hW'.alike, X.tail, State.WarmedH.trans X.warmed hW', X.limits, X.bytes, X.same.trans (hsame.setVm s.vm)⟩,
      ⟨g, mk, s₂, L, rfl, rfl, hqc, rfl, hL, rfl, rfl⟩, ?_⟩
    show Steps p.tables e below _ ((({ U with heap := s₂.heap, slotsUsed := s₂.slotsUsed } : State).setVm s₂.vm).setTop { g with pc := g.pc + len₂, stack := v.toList ++ g.stack })
    rw [← hs₂]
    exact hsteps
  · obtain ⟨e2, q2, q3, q4, q5, q6⟩ := id hsm
    have e3 : s₂ = ({ (U.calling g mk a).setFrames s₂.frames with heap := s₂.heap, slotsUsed := s₂.slotsUsed } : State).setVm s₂.vm := by
      have : s₂ = ({ s₂ with vm := (U.calling g mk a).vm } : State).setVm s₂.vm := rfl
      rw [e2] at this
      exact this
    have hf₂ : s₂.frames = .throwing q :: .java g :: U.frames.tail := hend
    have hW' : U.WarmedH s₂.vm := hW₂
    have hs₂ : s₂ = ((({ U with heap := s₂.heap, slotsUsed := s₂.slotsUsed } : State).setVm s₂.vm).setTop g).pushFrame (.throwing q) := by
      refine e3.trans ?_
      rw [hf₂, State.calling_eq h.top, State.setFrames_setFrames, State.pushFrame, State.frames_setTop _ hr', State.setTop_of_frames _ hr', State.setFrames_setFrames, hr]
      rfl
    have hsame : U.sameButNew ({ U with heap := s₂.heap, slotsUsed := s₂.slotsUsed } : State) L (hbc h9 - hbc hz9) (hbs h9 - hbs hz9) := by
      refine ⟨?_, q2, q3, q4, q5, q6⟩
      obtain ⟨t, ht, -⟩ := State.frames_cons hr
      show ({ U with heap := s₂.heap, slotsUsed := s₂.slotsUsed } : State) = { U.setFrames U.frames with heap := s₂.heap, slotsUsed := s₂.slotsUsed }
      rw [State.setFrames_self ht]
    subst hg
    refine Or.inr ⟨q, ⟨(({ U with heap := s₂.heap, slotsUsed := s₂.slotsUsed } : State).setVm s₂.vm), Ls ++ L, c0 + (hbc h9 - hbc hz9), s0 + (hbs h9 - hbs hz9)⟩,
      ⟨X.admits, X.cas, X.clock, X.frames, X.room, X.hears, X.method, X.code, (X.here.setHeapUsed s₂.heap s₂.slotsUsed).setVm hW'.alike, X.tail, State.WarmedH.trans X.warmed hW', X.limits, X.bytes, X.same.trans (hsame.setVm s.vm)⟩,
      ⟨g, mk, s₂, L, E, ce, rfl, rfl, hx, hce, hcv, hcl, rfl, hL, rfl, rfl⟩, ?_⟩
    show Steps p.tables e below _ (((({ U with heap := s₂.heap, slotsUsed := s₂.slotsUsed } : State).setVm s₂.vm).setTop g).pushFrame (.throwing q))
    rw [← hs₂]
    exact hsteps
end XB8
section XC8
variable {C : Cx} {D : Dd} {G : Gx} {y : MethodName} {cc : ByteArray} {nL : Nat} {ret : Option FieldType} {F LL : Nat} {tb : List (Nat × Nat × Nat × Nat)} {pc : Nat} {L : List (Nat × Vl)} {st : List Vl} {h h1 h' : Hp} {o : Ot}
def MBW (y : MethodName) (cc : ByteArray) (nL : Nat) (ret : Option FieldType) (hh : List (Nat × Nat × Nat × Nat)) (n : Nat) : Prop := Cond.codeWith y cc nL ret hh ∈ lw_all ∧ Cond.initialized y.cls ∈ lw_all ∧ (y.cls ≠ "java/lang/invoke/MethodHandle" ∧ y.cls ≠ "java/lang/invoke/VarHandle") ∧ (parseMethodDescriptor y.desc).map (fun d => d.parameters.length) = some n
theorem MBW.len {y : MethodName} {cc : ByteArray} {nL : Nat} {ret : Option FieldType} {hh : List (Nat × Nat × Nat × Nat)} {n : Nat} (M : MBW y cc nL ret hh n) {As : List Value} (hn : As.length = n) : ∀ sig, parseMethodDescriptor y.desc = some sig → As.length = sig.parameters.length := by
  intro sig hs
  have h2 := M.2.2.2
  rw [hs] at h2
  exact hn.trans (Option.some.inj h2).symm
theorem MBW.back {y' : MethodName} {cc' : ByteArray} {nL' : Nat} {ret' : Option FieldType} {hh : List (Nat × Nat × Nat × Nat)} {n F' LL' : Nat} {av : List Vl} (A : Act C D G y cc nL ret F LL tb) (M : MBW y' cc' nL' ret' hh n) (ct : CtW D F' LL' y' (wsW_ y' cc' nL' ret' hh) av h o h1) (hF : F' + 1 ≤ F) (hL : 8 + (nL' + 11) + LL' ≤ LL) :
    vx_Back (cl_ C) (cR C) (cp C) (ce_ C) (cb_ C) (cs_ C) (ca C) y' 3 8 (x_Pre D (cR C) av h) (x_Po D (h, o, h1)) (x_PoX D (h, o, h1)) := by
  obtain ⟨-, -, -, -, -, hts, -, -, -, hR, -, hlt, -⟩ := A
  have hini := hts _ M.2.1
  exact x_backW (bytes := cc') (maxL := nL') (ret := ret') (hh := hh) hlt ct (by rw [hR]; exact hF) (by rw [hR]; exact hL) (pay_in hts (lw_methW M.1)) List.mem_cons_self (fun a' U hW => word_at hW (Or.inl (by first | rfl | simp [Cond.onTables, Cond.keeps, Cond.steady])) hini)
theorem xr_VW (A : Act C D G y cc nL ret F LL tb) {y' : MethodName} {cc' : ByteArray} {nL' n F' LL' i b : Nat} {ret' : Option FieldType} {hh : List (Nat × Nat × Nat × Nat)} {v : Vl} {av rest : List Vl} (M : MBW y' cc' nL' ret' hh n) (ct : CtW D F' LL' y' (wsW_ y' cc' nL' ret' hh) (vR (some b) :: av) h (.inl (some v)) h1) {ci N : Nat} {T : u_T} {Cn : String} (hc : xCl[ci]? = some (Cn, T, N)) (hb' : ab_is h b ci) (q2 : Cond.instanceMethod y' ∈ lw_all) (q3 : Cond.selects Cn y' y' ∈ lw_all) (q1 : Cond.methodLink y.cls i y' ∈ lw_all) (hn : av.length = n) (d : decode cc pc = .ok (.invokevirtual i, 3)) (hF : F' + 1 ≤ F) (hL : 8 + (nL' + 11) + LL' ≤ LL) (hst : st = av.reverse ++ vR (some b) :: rest) (hrm : (rest.map vcat).sum ≤ 8)
    (k : X C D G nL (pc + 3) L (v :: rest) h1) : X C D G nL pc L st h := by
  have A0 := A
  obtain ⟨hx, hb, -, hml, hown, hts, hK, -⟩ := A
  intro ls H locs cells slots hl hr T hT Xs
  subst hst
  obtain ⟨cellB, hcB, hoB, hclB⟩ := x_recv hK.1 hc hr.1 hb'
  refine x_done (o := .inl (some v)) (h1 := h1) (rest := rest) (st0 := xS (av.reverse ++ vR (some b) :: rest)) (a := ((vR (some b) :: av).map vv).toArray) A0 hl hr hT ?_ (fun v' e => by cases e; exact k) (fun q e => by cases e)
  refine vx_callVX Xs hx (C := Cn) (bytes := cc') (maxL := nL') (ret := ret') hown (hts _ q1) (hts _ q2) (hts _ q3) (hts _ M.1) M.2.2.1 (MBW.back A0 M ct hF hL) (by rw [hT]; exact hcB) hoB hclB (g := F0 (cm C) pc ls (xS (av.reverse ++ vR (some b) :: rest))) rfl (hl.1.trans hml.symm) (argsL := xS av) (rest := xS rest) (MBW.len M (by rw [List.length_map]; exact hn)) (by show xS _ = _; simp [xS, vv, va_rf]) (lv_room (x_cat hrm)) (by rw [hb]; exact d) (fun vm₁ hW => ?_)
  exact x_start (av := (vR (some b) :: av)) A0 hr hT hW
theorem xr_SW (A : Act C D G y cc nL ret F LL tb) {y' : MethodName} {cc' : ByteArray} {nL' n F' LL' i : Nat} {ret' : Option FieldType} {hh : List (Nat × Nat × Nat × Nat)} {v : Vl} {av rest : List Vl} (M : MBW y' cc' nL' ret' hh n) (ct : CtW D F' LL' y' (wsW_ y' cc' nL' ret' hh) av h (.inl (some v)) h1) (q2 : Cond.static y' ∈ lw_all) (q1 : Cond.methodLink y.cls i y' ∈ lw_all) (hn : av.length = n) (d : decode cc pc = .ok (.invokestatic i, 3)) (hF : F' + 1 ≤ F) (hL : 8 + (nL' + 11) + LL' ≤ LL) (hst : st = av.reverse ++ rest) (hrm : (rest.map vcat).sum ≤ 8)
    (k : X C D G nL (pc + 3) L (v :: rest) h1) : X C D G nL pc L st h := by
  have A0 := A
  obtain ⟨hx, hb, -, hml, hown, hts, hK, -⟩ := A
  intro ls H locs cells slots hl hr T hT Xs
  subst hst
  refine x_done (o := .inl (some v)) (h1 := h1) (rest := rest) (st0 := xS (av.reverse ++ rest)) (a := (av.map vv).toArray) A0 hl hr hT ?_ (fun v' e => by cases e; exact k) (fun q e => by cases e)
  refine vx_callSX Xs hx (bytes := cc') (maxL := nL') (ret := ret') hown (hts _ q1) (hts _ q2) (hts _ M.2.1) (hts _ M.1) M.2.2.1 (MBW.back A0 M ct hF hL) (g := F0 (cm C) pc ls (xS (av.reverse ++ rest))) rfl (hl.1.trans hml.symm) (argsL := xS av) (rest := xS rest) (MBW.len M (by rw [List.length_map]; exact hn)) (by show xS _ = _; simp [xS, vv, va_rf]) (lv_room (x_cat hrm)) (by rw [hb]; exact d) (fun vm₁ hW => ?_)
  exact x_start (av := av) A0 hr hT hW
/-- a contract out of a walk of a body with handlers -/
theorem Ct.ofW {h0 : Hp} {av : List Vl} {hh : List (Nat × Nat × Nat × Nat)} (hy : plainName y.cls = true) {L : List (Nat × Vl)} (hL : xArgs 0 av = L) (hlen : (av.map vcat).sum ≤ nL) (k : ∀ C : Cx, Act C D (h0, o, h') y cc nL ret F LL hh → X C D (h0, o, h') nL 0 L [] h0) : CtW D F LL y (wsW_ y cc nL ret hh) av h0 o h' := by
  intro l hl9
  refine MetFree.of_bodyS (code := cc) (maxLocals := nL) (ret := ret) hy ?_ ?_
  · intro args s m h hn
    obtain ⟨m9, meth, c, hn9, h1, h2, h3, h4, -, h5, h6, -⟩ := Cond.codeWith_spec (atoms_spec (ws := wsW_ y cc nL ret hh) h _ List.mem_cons_self)
    cases hn.symm.trans hn9
    exact ⟨meth, c, h1, h2, h3, h4, h5, h6⟩
  · intro p e s m args below meth c s₁ B hml hP _
    have hh0 : s₁.heap = s.heap := by rw [B.state]; rfl
    have hts := atoms_spec (ws := wsW_ y cc nL ret hh) B.pre
    have ht : c.exceptionTable.toList = tableOf hh := vx_table (x := y) B (hts _ List.mem_cons_self)
    obtain ⟨ha, hHP, hKX, hZX⟩ := hP
    have hts : ∀ w ∈ lw_all, w.before args s = true := fun w h => hts w (List.mem_cons_of_mem _ h)
    have A : Act (p, l, e, xrm F LL h0, s, m, args, below, meth, c) D (h0, o, h') y cc nL ret F LL hh :=
      ⟨B.exec, B.bytes, B.returns, hml, findClass_of_methodNamed B.named, hts, hKX, hZX, B.notSynchronized, rfl, ht, hl9, (name_of_methodNamed B.named B.method).1, hHP.2⟩
    have hk := k _ A
    subst ha
    subst hL
    have hent := lv_entry (xS av) (n := nL) (by rw [x_len]; exact hlen)
    rw [← xL_args av 0] at hent
    have hk1 := hk _ s.heap [] 0 0 hent ⟨hHP, fun q _ e => e, va_S.rf, Nat.zero_add _, Nat.zero_add _, rfl⟩
    have hk2 := W.eq (lg_entry_eq m (xS av) nL) hk1
    obtain ⟨t, a1, oc, b1, b2, b3⟩ := hk2 s₁ hh0 (Stand.of_body B)
    exact ⟨t, oc, a1, b1, b2, b3⟩
end XC8
def ab_max (x y : Int32) : Int32 := if x < y then y else x
def ab_min (x y : Int32) : Int32 := if y < x then y else x
section XR9
variable {C : Cx} {D : Dd} {G : Gx} {y : MethodName} {cc : ByteArray} {nL : Nat} {ret : Option FieldType} {F LL : Nat} {tb : List (Nat × Nat × Nat × Nat)} {pc : Nat} {L : List (Nat × Vl)} {st : List Vl} {h h' : Hp}
theorem xr_mmax (A : Act C D G y cc nL ret F LL tb) {i : Nat} {x z : Int32} (q : Cond.methodLink y.cls i Lib.Math.max.name ∈ lw_all) (d : decode cc pc = .ok (.invokestatic i, 3)) (hF : 1 ≤ F) (hL : 21 ≤ LL) (hrm : (st.map vcat).sum ≤ 8) (kk : X C D G nL (pc + 3) L (vI (ab_max x z) :: st) h) : X C D G nL pc L (vI z :: vI x :: st) h := by
  obtain ⟨hx, hb, -, hml, hown, hts, hK, -, -, hR, -⟩ := A
  intro ls H locs cells slots hl hr
  have g5 := hr.2.2.2.1
  have g6 := hr.2.2.2.2.1
  have g7 := x_cat hrm
  exact va_mmax hx hb (hml.trans hl.1.symm) hown (hts _ q) (hts _ q1061) (hts _ q115) (hts _ q1062) (by rw [hR]; exact hF) (by rw [hR]; exact Nat.le_trans (Nat.add_le_add_right g7 13) hL) (by rw [hR]; show cells ≤ hbc G.1; omega) (by rw [hR]; show slots ≤ hbs G.1; omega) d (kk ls H locs cells slots hl hr)
theorem xr_mmin (A : Act C D G y cc nL ret F LL tb) {i : Nat} {x z : Int32} (q : Cond.methodLink y.cls i Lib.Math.min.name ∈ lw_all) (d : decode cc pc = .ok (.invokestatic i, 3)) (hF : 1 ≤ F) (hL : 21 ≤ LL) (hrm : (st.map vcat).sum ≤ 8) (kk : X C D G nL (pc + 3) L (vI (ab_min x z) :: st) h) : X C D G nL pc L (vI z :: vI x :: st) h := by
  obtain ⟨hx, hb, -, hml, hown, hts, hK, -, -, hR, -⟩ := A
  intro ls H locs cells slots hl hr
  have g5 := hr.2.2.2.1
  have g6 := hr.2.2.2.2.1
  have g7 := x_cat hrm
  exact va_mmin hx hb (hml.trans hl.1.symm) hown (hts _ q) (hts _ q1058) (hts _ q115) (hts _ q1059) (by rw [hR]; exact hF) (by rw [hR]; exact Nat.le_trans (Nat.add_le_add_right g7 13) hL) (by rw [hR]; show cells ≤ hbc G.1; omega) (by rw [hR]; show slots ≤ hbs G.1; omega) d (kk ls H locs cells slots hl hr)
end XR9
theorem x_nfw : nativeFrameWords "java/lang/System" "arraycopy" 5 ≤ 21 := Nat.le_of_ble_eq_true rfl
def yL_law : MethodName := ⟨"NoonMealsLaw", "law", "([I)Z"⟩
/-! CORE: 'throw new NoSuchElementException()' (x_throw0 follows vx_throw0 of EXCEPTIONS) -/
section XN1
variable {p : Program} {l : Launch} {e : Env} {R : Room} {s : State} {m : MethodId} {args : Array Value} {below : List Frame} {meth : Method} {c : Code} {H : Heap} {locs : List Loc} {cells slots : Nat} {free : Addr → Prop} {ls : Array Slot} {rest : List Value}
theorem x_throw0 {D : Dd} {G : Gx} {cc : ByteArray} {pc : Nat} (hexec : p.tables.exec = Jvm.exec) (hb : c.code = cc) (hl : l.stackTraces = false) {own cls : String} {names : List String} {ik ic mc ms : Nat} {A : Nat → Prop}
    (hown : s.vm.findClass own = some m.cls) (hcls : Bundle.fit cls = true) (hnames : ∀ n ∈ names, Bundle.fit n = true)
    (hk : (Cond.classLink own ik cls).before args s = true) (hini : (Cond.initialized cls).before args s = true) (hat : ∀ w ∈ vx_at0 own ic cls names, w.before args s = true)
    (hgood : ∀ w ∈ Cond.classLink own ik cls :: Cond.initialized cls :: vx_at0 own ic cls names, vx_ot w = true)
    (hU : vx_Zq Bundle.tN "UNASSIGNED_STACK" Bundle.steD A s s.heap) (hN : vx_Zq Bundle.tN "SUPPRESSED_SENTINEL" Bundle.listD A s s.heap) (hS : va_S A s.heap H locs) (hsize : ls.size = c.maxLocals)
    (d0 : decode cc pc = .ok (.new ik, 3)) (d3 : decode cc (pc + 3) = .ok (.dup, 1)) (d4 : decode cc (pc + 4) = .ok (.invokespecial ic, 3)) (d7 : decode cc (pc + 7) = .ok (.athrow, 1))
    (hout : ∀ x ∈ c.exceptionTable.toList, covers x (pc + 7) = false)
    (hRframes : names.length + 3 < R.frames) (hRlocals : (rest.map fun v => v.category).sum + (13 * (names.length + 1) + 42) ≤ R.locals) (hRcells : cells + 1 ≤ R.cells) (hRslots : slots + 6 ≤ R.slots) (hlocks : meth.locks = false)
    (hx : ∀ t : State, s.vm.Alike t.vm → t.heap.size = H.size + 1 → (∀ q : Nat, q < H.size → t.heap[q]? = H[q]?) → x_XC D G H.size cls s t)
    (hf : ∀ z ∈ locs, free z.base) (hc : cells + 1 ≤ mc) (hs : slots + 6 ≤ ms) :
    W p l e R s m args below meth c H locs cells slots (fun t => ∃ o, t.status = .running ∧ Ended t below o ∧ x_Q D G mc ms free args s o t) (F0 m pc ls rest) := by
  intro T hT X
  have htr : e.platform.stackTraces = false := (show e.platform.stackTraces = l.stackTraces by rw [X.admits.platform]).trans hl
  have Y := vx_rebase X (R' := { frames := R.frames, locals := R.locals, cells := 1, slots := 6 }) (Nat.le_refl _) (Nat.le_refl _) hRcells hRslots
  obtain ⟨s', hA⟩ : ∃ z, z = (T.setVm s.vm).setFrames (.invoking m args :: below) := ⟨_, rfl⟩
  rw [← hA] at Y
  have hvm : s'.vm = s.vm := by rw [hA]; rfl
  have hhp : s'.heap = H := by rw [hA]; exact hT
  have hW0 : s.WarmedH s'.vm := by rw [hvm]; exact State.WarmedH.refl s
  have hat' : ∀ w ∈ vx_at0 own ic cls names, w.before args s' = true := fun w hw => vx_ot_at hW0 hvm.symm (hgood w (List.mem_cons_of_mem _ (List.mem_cons_of_mem _ hw))) (hat w hw)
  have hk' : (Cond.classLink own ik cls).before args s' = true := vx_ot_at hW0 hvm.symm (hgood _ List.mem_cons_self) hk
  have hini' : (Cond.initialized cls).before args s' = true := vx_ot_at hW0 hvm.symm (hgood _ (List.mem_cons_of_mem _ List.mem_cons_self)) hini
  have hU' : vx_Zq Bundle.tN "UNASSIGNED_STACK" Bundle.steD A s' s'.heap := by rw [hhp]; exact vx_Zq.moved hW0.alike (hU.kept hS.2.1)
  have hN' : vx_Zq Bundle.tN "SUPPRESSED_SENTINEL" Bundle.listD A s' s'.heap := by rw [hhp]; exact vx_Zq.moved hW0.alike (hN.kept hS.2.1)
  have h : ∀ w ∈ Bundle.ownAtoms0 own ic cls names, w.before args s' = true := vx_own hat' (vx_isRefq hU'.1) (vx_isRefq hN'.1) hU'.2.word hN'.2.word
  have hown' : s'.vm.findClass own = some m.cls := by rw [hvm]; exact hown
  have hins : (Cond.instantiable cls 6).before args s' = true := h _ (by simp [Bundle.ownAtoms0])
  obtain ⟨vm₁, cX, kX, hfX, hkX, -, -, X₁, st1⟩ := Y.newCold hexec (own := own) (C := cls) (index := ik) (n := 6) hown' hk' hins hini'
    (g := F0 m pc ls rest) rfl (by rw [hb]; exact d0) (Nat.le_refl _) (Nat.le_refl _)
  generalize hT1 : (T.setVm vm₁).pushCell { cls := cX, slots := kX.instanceTypes.map defaultValue, vm := .none } = T1 at X₁ st1
  have hcat : (Value.ref T.heap.size).category = 1 := rfl
  have hcellA : T1.heap[T.heap.size]? = some (freshCell cX kX) := by rw [← hT1]; exact State.heap_pushCell_size _ _
  have d3' : decode c.code (pc + 3) = .ok (.dup, 1) := by rw [hb]; exact d3
  obtain ⟨U, hsteps, hrun, hend, hW, hsame, ce, hce, hO⟩ := X₁.ctorThrow0 hexec htr (own := own) (cls := cls) (names := names) (ic := ic) hown' hcls hnames h (fun x hx => nomatch hx) hfX hkX hcellA (by rw [hhp, hT]; exact Nat.le_refl _)
    (g := { method := m, pc := pc + 4, locals := ls, stack := .ref T.heap.size :: .ref T.heap.size :: rest, locked := none }) rfl hsize rfl rfl (rest := rest) rfl
    (by rw [hb]; exact d4) (by rw [hb]; exact d7) hout hRframes (by simp only [List.map_cons, List.sum_cons, hcat]; omega) hlocks
  obtain ⟨f1, f2⟩ := vx_frame hsame
  rw [hhp] at f1 f2
  have hsz9 : U.heap.size = H.size + 1 := by
    have g1 : U.heap.size ≤ s'.heap.size + (0 + 1) := hsame.2.2.1
    rw [hhp] at g1
    have g2 : T.heap.size < U.heap.size := (Array.getElem?_eq_some_iff.mp hce).1
    rw [hT] at g2
    omega
  have hWs : s.WarmedH U.vm := State.WarmedH.trans hW0 hW
  have hcl : s.vm.findClass cls = some ce.cls := by
    have h9 := hO.cls
    rw [hvm] at h9
    exact h9
  have hall : s.sameButNew ({ U with vm := s.vm } : State) locs mc ms := by
    subst hA
    obtain ⟨e1, e2⟩ := hsame
    rw [State.setFrames_setFrames] at e1
    have h2 : (T.setVm s.vm).sameButNew ({ U with vm := s.vm } : State) [] (0 + 1) (0 + 6) := ⟨e1, e2⟩
    have h3 := X.same.trans h2
    rw [List.append_nil] at h3
    exact h3.mono hc hs
  refine ⟨U, ?_, .threw T.heap.size, hrun, hend, Or.inr ⟨T.heap.size, rfl, cls, ce, locs, hT ▸ hx U hWs.alike hsz9 (fun q hq => f2 q hq (fun z hz => nomatch hz)), hce, hO.vm, hcl, hWs, hall, hf⟩⟩
  refine st1 _ ?_
  show Steps p.tables e below (T1.setTop { method := m, pc := pc + 3, locals := ls, stack := .ref T.heap.size :: rest, locked := none }) _
  jvm_step X₁.here [X₁.here.top, hexec, d3', Value.category]
  exact hsteps
end XN1
abbrev xNs : List Cond := vx_at0 "NoonMeals" 406 "java/util/NoSuchElementException" ["java/lang/RuntimeException", "java/lang/Exception"]
def xNl : List Cond := [94, 95, 96, 117, 124, 125, 135, 136, 137, 138, 139, 140, 144, 146, 148, 150, 152, 153, 154, 155, 156, 157, 158, 159, 160, 161, 162, 163, 164, 165, 166, 167, 168, 169, 170, 171, 176, 177, 178, 179, 180, 181, 182, 183, 188, 189, 190, 191, 192, 197, 198, 199, 200, 202, 203, 1272, 1273, 1274, 1275, 1276, 1277, 1278, 1279, 1280, 1281, 1282, 1283, 1284, 1285, 1286, 1287, 1288, 1289, 1290, 1291, 1991, 2008, 2009].filterMap (fun i => lw_tbl[i]?)
theorem xNl_tbl : ∀ w ∈ xNl, w ∈ lw_tbl := by
  intro w h
  obtain ⟨i, -, hi⟩ := List.mem_filterMap.mp h
  exact List.mem_of_getElem? hi
theorem xNs_good : ∀ w ∈ xNs.filter goodWord, w ∈ lw_all := by
  have h : (xNs.filter goodWord).all (fun w => decide (w ∈ xNl)) = true := by decide +kernel
  intro w hw
  have h1 := List.all_eq_true.mp h w hw
  exact lw_g (xNl_tbl w (of_decide_eq_true h1)) (List.mem_filter.mp hw).2
theorem xNs_bad : ∀ w ∈ xNs.filter (fun w => !goodWord w), w ∈ xWd := by
  have h : (xNs.filter (fun w => !goodWord w)).all (fun w => decide (w ∈ xWd)) = true := by decide +kernel
  intro w hw
  exact of_decide_eq_true (List.all_eq_true.mp h w hw)
/-- the object isn't in the abstract heap: nothing of it is ever asked -/
def ab_nse (h : Hp) : Option (Nat × Hp) := if 1 ≤ hbc h ∧ 6 ≤ hbs h then some (hsz h, (fun q => if q = hsz h then none else h.1 q, hsz h + 1, hbc h - 1, hbs h - 6, hco h)) else none
def ab_nc {β : Type} (h : Hp) (a : Nat) (K : Option β) : Option β := match h.1 a with
  | none => K
  | some _ => none
theorem ab_ncE {β : Type} {h : Hp} {a : Nat} {K : Option β} {o : β} (e : ab_nc h a K = some o) : h.1 a = none ∧ K = some o := by
  unfold ab_nc at e
  split at e
  · exact ⟨by assumption, e⟩
  · cases e
section XN2
variable {C : Cx} {D : Dd} {G : Gx} {y : MethodName} {cc : ByteArray} {nL : Nat} {ret : Option FieldType} {F LL : Nat} {tb : List (Nat × Nat × Nat × Nat)} {pc : Nat} {L : List (Nat × Vl)} {st : List Vl} {h h' h0 : Hp}
theorem xr_throw0 {q : Nat} (A : Act C D (h0, .inr q, h') y cc nL ret F LL []) (hy : y.cls = "NoonMeals") (hp : ab_nse h = some (q, h')) (d0 : decode cc pc = .ok (.new 404, 3)) (d3 : decode cc (pc + 3) = .ok (.dup, 1)) (d4 : decode cc (pc + 4) = .ok (.invokespecial 406, 3)) (d7 : decode cc (pc + 7) = .ok (.athrow, 1)) (hF : 6 ≤ F) (hL : 90 ≤ LL) (hrm : (st.map vcat).sum ≤ 8) : X C D (h0, .inr q, h') nL pc L st h := by
  have A0 := A
  obtain ⟨hx, hb, -, hml, hown, hts, hK, hZ, hlk, hR, htb, hlt, -, hs0⟩ := A
  intro ls H locs cells slots hl hr
  unfold ab_nse at hp
  split at hp
  · rename_i hbud
    cases hp
    have g5 : cells + hbc h = hbc h0 := hr.2.2.2.1
    have g6 : slots + hbs h = hbs h0 := hr.2.2.2.2.1
    have g7 := x_cat hrm
    have hszH : H.size = hsz h := hr.1.2
    rw [hy] at hown
    have hat : ∀ w ∈ xNs, w.before (ca C) (cs_ C) = true := by
      intro w hw
      by_cases g : goodWord w = true
      · exact hts _ (xNs_good w (List.mem_filter.mpr ⟨hw, g⟩))
      · have hw2 := xNs_bad w (List.mem_filter.mpr ⟨hw, by
          cases hgw : goodWord w
          · rfl
          · exact absurd hgw g⟩)
        exact va_Nw.use (xWd_on w hw2) (hK.2.1 w hw2)
    have hgood : ∀ w ∈ Cond.classLink "NoonMeals" 404 "java/util/NoSuchElementException" :: Cond.initialized "java/util/NoSuchElementException" :: xNs, vx_ot w = true := List.all_eq_true.mp (by decide +kernel)
    have z0 := hZ.2 _ (List.mem_of_getElem? (show xZr[0]? = some _ from rfl))
    have z1 := hZ.2 _ (List.mem_of_getElem? (show xZr[1]? = some _ from rfl))
    have zq : ∀ {n ds : String} {r : Option Nat}, va_Z "java/lang/Throwable" n ds (va_rf r) (XA h0) (cs_ C) (cs_ C).heap → va_Zq "java/lang/Throwable" n ds (XA h0) (cs_ C) (cs_ C).heap := by
      intro n ds r hz
      cases r with
      | none => exact Or.inl hz
      | some a => exact Or.inr ⟨a, hz⟩
    refine x_throw0 (D := D) (G := (h0, .inr (hsz h), _)) (names := ["java/lang/RuntimeException", "java/lang/Exception"]) (A := XA h0) hx hb hlt hown (by decide) (by decide) (hts _ q1271) (hts _ q117) hat hgood ⟨zq z0.1, z0.2⟩ ⟨zq z1.1, z1.2⟩ hr.2.2.1 (hl.1.trans hml.symm) d0 d3 d4 d7 (fun x hxx => by rw [htb] at hxx; cases hxx) (by rw [hR]; show 2 + 3 < F; omega) ?_ (by rw [hR]; show cells + 1 ≤ hbc h0; omega) (by rw [hR]; show slots + 6 ≤ hbs h0; omega) hlk ?_ hr.2.2.1.2.2 (by show cells + 1 ≤ hbc h0 - (hbc h - 1); omega) (by show slots + 6 ≤ hbs h0 - (hbs h - 6); omega)
    · rw [hR]
      exact Nat.le_trans (Nat.add_le_add_right g7 _) (Nat.le_trans (Nat.le_of_ble_eq_true rfl) hL)
    · intro t hal hsz9 hkeep
      refine ⟨by rw [hszH], ?_, ?_⟩
      · show _ = xEn (_, _) H.size
        unfold xEn
        rw [hszH]
        show _ = (match (if hsz h = hsz h then none else h.1 (hsz h)) with | none => _ | some _ => _)
        rw [if_pos rfl]
      · have hle : hsz h0 ≤ hsz h := by
          have := hr.2.2.1.1
          rw [hs0, hszH] at this
          exact this
        refine ⟨⟨fun q o e => ?_, ?_⟩, fun q hq e => ?_, ⟨?_, fun q hq hn => ?_⟩, ?_, ?_, hr.2.2.2.2.2⟩
        · have e1 : (if q = hsz h then none else h.1 q) = some o := e
          by_cases hqq : q = hsz h
          · rw [if_pos hqq] at e1
            cases e1
          · rw [if_neg hqq] at e1
            exact ((hr.1.1 q o e1).kept (hkeep q (hr.1.1 q o e1).lt)).moved hal
        · show t.heap.size = hsz h + 1
          rw [hsz9, hszH]
        · show (if q = hsz h then none else h.1 q) = none
          by_cases hqq : q = hsz h
          · rw [if_pos hqq]
          · rw [if_neg hqq]
            exact hr.2.1 q hq e
        · rw [hsz9]
          exact Nat.le_trans hr.2.2.1.1 (Nat.le_succ _)
        · exact (hkeep q (Nat.lt_of_lt_of_le hq hr.2.2.1.1)).trans (hr.2.2.1.2.1 q hq hn)
        · show hbc h - 1 ≤ hbc h0
          omega
        · show hbs h - 6 ≤ hbs h0
          omega
  · cases hp
/-- caught: an exception that isn't one of ours -/
theorem xr_catchN (A : Act C D G y cc nL ret F LL tb) {q0 : Nat × Nat × Nat × Nat} (htb : tb = [q0]) {a : Nat} (hi : h.1 a = none) (q : Cond.classLink y.cls q0.2.2.2 "java/util/NoSuchElementException" ∈ lw_all) (hcv : (tableOf [q0]).all (fun x => covers x pc && decide (x.catchType = q0.2.2.2) && decide (x.handlerPc = q0.2.2.1)) = true) (h0 : q0.2.2.2 ≠ 0) (kk : X C D G nL q0.2.2.1 L [vR (some a)] h) : XT C D G nL pc L h a := by
  subst htb
  obtain ⟨hx, hb, -, hml, hown, hts, hK, -, hlk, -, htb, -⟩ := A
  intro ls H locs cells slots rest hl hr ⟨ce, g1, g2, g3⟩
  have e : xEn h a = "java/util/NoSuchElementException" := by unfold xEn; rw [hi]
  rw [e] at g3
  obtain ⟨x, hx1⟩ : ∃ x, tableOf [q0] = [x] := ⟨_, rfl⟩
  rw [hx1] at hcv htb
  simp only [List.all_cons, List.all_nil, Bool.and_true, Bool.and_eq_true, decide_eq_true_eq] at hcv
  obtain ⟨⟨c1, c2⟩, c3⟩ := hcv
  refine vx_catch hown [] x [] htb (fun z hz => by cases hz) (by simpa [covers] using c1) (by rw [c2]; exact h0) (name := "java/util/NoSuchElementException") (by rw [c2]; exact hts _ q) (E := "java/util/NoSuchElementException") (va_Nw.use rfl (hK.2.1 _ n1273)) g1 g2 g3 ?_
  have hk := kk ls H locs cells slots hl hr
  rw [c3]
  exact hk
end XN2
