set_option maxRecDepth 100000
/-! CORE: a contract's end and start, calls. x_back follows vx_back of EXCEPTIONS (a starting text), its room the whole budget that is left, the thrown object named -/
def x_Pre (D : Dd) (R : Room) (av : List Vl) (h : Hp) : Pt → Array Value → Prop := fun A a => A.cells + hbc h ≤ R.cells ∧ A.slots + hbs h ≤ R.slots ∧ x_Pc D av h a A.U
def x_Po (D : Dd) (G : Gx) : Pt → Array Value → Option Value → Pt → Prop := fun A a v B =>
  ∃ (g : JFrame) (mk : MethodId) (t : State) (L : List Loc), B.U.heap = t.heap ∧ B.U.vm = t.vm ∧ x_Qc D G a (A.U.calling g mk a) (.returned v) t ∧ B.locs = A.locs ++ L ∧ (∀ q ∈ L, XA G.1 q.base) ∧ B.cells = A.cells + (hbc G.1 - hbc G.2.2) ∧ B.slots = A.slots + (hbs G.1 - hbs G.2.2)
def x_PoX (D : Dd) (G : Gx) : Pt → Array Value → Addr → Pt → Prop := fun A a q B =>
  ∃ (g : JFrame) (mk : MethodId) (t : State) (L : List Loc) (E : String) (ce : Cell), B.U.heap = t.heap ∧ B.U.vm = t.vm ∧ x_XC D G q E (A.U.calling g mk a) t ∧ t.heap[q]? = some ce ∧ ce.vm = .none ∧ A.U.vm.findClass E = some ce.cls ∧ B.locs = A.locs ++ L ∧ (∀ z ∈ L, XA G.1 z.base) ∧ B.cells = A.cells + (hbc G.1 - hbc G.2.2) ∧ B.slots = A.slots + (hbs G.1 - hbs G.2.2)
section XB
variable {l : Launch} {R : Room} {p : Program} {e : Env} {below : List Frame} {s : State} {sargs : Array Value} {y : MethodName} {len W9 : Nat} {D : Dd} {F' LL' : Nat} {av : List Vl} {h9 : Hp} {o9 : Ot} {hz9 : Hp}
theorem x_back {ws : List Cond} {bytes : ByteArray} {maxL : Nat} {ret : Option FieldType} (hl9 : l.stackTraces = false)
    (hM9 : CtW D F' LL' y ws av h9 o9 hz9) (hframes : F' + 1 ≤ R.frames) (hlocals : W9 + (maxL + 11) + LL' ≤ R.locals)
    (hws : ∀ w ∈ ws, ∀ a' U, s.WarmedH U.vm → w.before a' U = true) (hcode : Cond.code y bytes maxL ret ∈ ws) (hinit : ∀ a' U, s.WarmedH U.vm → (Cond.initialized y.cls).before a' U = true) :
    vx_Back l R p e below s sargs y len W9 (x_Pre D R av h9) (x_Po D (h9, o9, hz9)) (x_PoX D (h9, o9, hz9)) := by
  have hM := hM9 l hl9
  intro m meth c A g ig mk a X hg hsize hdg hW hn hp
  have h1 : (headSpec ws (xrm F' LL' h9)).pre.before a A.U = true := atoms_intro fun w hw => hws w hw _ _ X.warmed
  have h2 : (Cond.code y bytes maxL ret).before a A.U = true := hws _ hcode _ _ X.warmed
  have h3 : (Cond.initialized y.cls).before a A.U = true := hinit _ _ X.warmed
  have h4 : A.cells + (headSpec ws (xrm F' LL' h9)).room.cells ≤ R.cells := hp.1
  have h5 : A.slots + (headSpec ws (xrm F' LL' h9)).room.slots ≤ R.slots := hp.2.1
  have hPc : x_Pc D av h9 a (A.U.calling g mk a) := x_blind _ _ _ _ hp.2.2
  obtain ⟨U, Ls, c0, s0⟩ := A
  dsimp only [Pt.U, Pt.locs, Pt.cells, Pt.slots] at h1 h2 h3 h4 h5 X hn hPc ⊢
  obtain ⟨methY, cY, hmY, hcY, -, hlY, -, -, -, -⟩ := Cond.code_spec hn h2
  obtain ⟨kY, hkY, -⟩ := className_of_methodNamed hn
  have hinitY : kY.init = .initialized := Cond.initialized_spec (findClass_of_methodNamed hn) hkY h3
  have h : At U g.method c below := by rw [hg]; exact X.here
  have hlocals9 : W9 + (maxL + 11) + (headSpec ws (xrm F' LL' h9)).room.locals ≤ R.locals := hlocals
  have happ : (headSpec ws (xrm F' LL' h9)).appliesLoose y e.platform (U.calling g mk a) = true :=
    Spec.appliesLoose_calling (g := g) h hdg hn hkY hinitY
      (X.room_calling (g := g) (R' := (headSpec ws (xrm F' LL' h9)).room) hsize hmY hcY hframes (by rw [hlY]; omega) h4 h5) h1
  obtain ⟨mid, hmid⟩ := h.above
  have hfr : (U.setTop g).frames = (.java g :: mid) ++ below := by rw [State.frames_setTop' g h.top, hmid]; rfl
  obtain ⟨o, s₂, hsteps, -, hend, hq⟩ := Steps.callFree hM p X.admits X.cas X.clock (acts := []) hfr happ hPc trivial
  have hq' : x_Q D (h9, o9, hz9) (hbc h9 - hbc hz9) (hbs h9 - hbs hz9) (XA h9) a (U.calling g mk a) o s₂ := hq
  rw [State.frames_setTop' g h.top] at hend
  obtain ⟨g₀, hg0⟩ := Option.isSome_iff_exists.mp h.top
  obtain ⟨r, hr⟩ := State.topJava?_eq_some.mp hg0
  have hr' : (({ U with heap := s₂.heap, slotsUsed := s₂.slotsUsed } : State).setVm s₂.vm).frames = .java g₀ :: r := hr
  rcases hq' with ⟨hqc, L, hfe, hL⟩ | ⟨q, rfl, E, ce, L, hx, hce, hcv, hcl, hW₂, hsm, hL⟩
  · obtain ⟨⟨v, rfl⟩, hW₂, e2, q2, q3, q4, q5, q6⟩ := id hfe
    have e3 : s₂ = ({ (U.calling g mk a).setFrames s₂.frames with heap := s₂.heap, slotsUsed := s₂.slotsUsed } : State).setVm s₂.vm := by
      have : s₂ = ({ s₂ with vm := (U.calling g mk a).vm } : State).setVm s₂.vm := rfl
      rw [e2] at this
      exact this
    obtain ⟨c₂, i₂, len₂, hc₂, hd₂, hf₂⟩ := hend
    have hW' : U.WarmedH s₂.vm := hW₂
    have hcc : c₂ = c := by
      have h1 : s₂.code? g.method = U.code? g.method := by
        rw [State.code?_eq, State.code?_eq, hW'.alike.method?]
      exact Option.some.inj (hc₂.symm.trans (h1.trans h.code))
    subst hcc
    have hlen : len₂ = len := by rw [hdg] at hd₂; cases hd₂; rfl
    subst hlen
    have hs₂ : s₂ = (({ U with heap := s₂.heap, slotsUsed := s₂.slotsUsed } : State).setVm s₂.vm).setTop { g with pc := g.pc + len₂, stack := v.toList ++ g.stack } := by
      refine e3.trans ?_
      rw [hf₂, State.calling_eq h.top, State.setFrames_setFrames, State.setTop_of_frames _ hr', hr]
      rfl
    have hsame : U.sameButNew ({ U with heap := s₂.heap, slotsUsed := s₂.slotsUsed } : State) L (hbc h9 - hbc hz9) (hbs h9 - hbs hz9) := by
      refine ⟨?_, q2, q3, q4, q5, q6⟩
      obtain ⟨t, ht, -⟩ := State.frames_cons hr
      show ({ U with heap := s₂.heap, slotsUsed := s₂.slotsUsed } : State) = { U.setFrames U.frames with heap := s₂.heap, slotsUsed := s₂.slotsUsed }
      rw [State.setFrames_self ht]
    subst hg
    refine Or.inl ⟨v, ⟨(({ U with heap := s₂.heap, slotsUsed := s₂.slotsUsed } : State).setVm s₂.vm), Ls ++ L, c0 + (hbc h9 - hbc hz9), s0 + (hbs h9 - hbs hz9)⟩,
      ⟨X.admits, X.cas, X.clock, X.frames, X.room, X.hears, X.method, X.code, (X.here.setHeapUsed s₂.heap s₂.slotsUsed).setVm hW'.alike, X.tail, State.WarmedH.trans X.warmed hW', X.limits, X.bytes, X.same.trans (hsame.setVm s.vm)⟩,
      ⟨g, mk, s₂, L, rfl, rfl, hqc, rfl, hL, rfl, rfl⟩, ?_⟩
    show Steps p.tables e below _ ((({ U with heap := s₂.heap, slotsUsed := s₂.slotsUsed } : State).setVm s₂.vm).setTop { g with pc := g.pc + len₂, stack := v.toList ++ g.stack })
    rw [← hs₂]
    exact hsteps
  · obtain ⟨e2, q2, q3, q4, q5, q6⟩ := id hsm
    have e3 : s₂ = ({ (U.calling g mk a).setFrames s₂.frames with heap := s₂.heap, slotsUsed := s₂.slotsUsed } : State).setVm s₂.vm := by
      have : s₂ = ({ s₂ with vm := (U.calling g mk a).vm } : State).setVm s₂.vm := rfl
      rw [e2] at this
      exact this
    have hf₂ : s₂.frames = .throwing q :: .java g :: U.frames.tail := hend
    have hW' : U.WarmedH s₂.vm := hW₂
    have hs₂ : s₂ = ((({ U with heap := s₂.heap, slotsUsed := s₂.slotsUsed } : State).setVm s₂.vm).setTop g).pushFrame (.throwing q) := by
      refine e3.trans ?_
      rw [hf₂, State.calling_eq h.top, State.setFrames_setFrames, State.pushFrame, State.frames_setTop _ hr', State.setTop_of_frames _ hr', State.setFrames_setFrames, hr]
      rfl
    have hsame : U.sameButNew ({ U with heap := s₂.heap, slotsUsed := s₂.slotsUsed } : State) L (hbc h9 - hbc hz9) (hbs h9 - hbs hz9) := by
      refine ⟨?_, q2, q3, q4, q5, q6⟩
      obtain ⟨t, ht, -⟩ := State.frames_cons hr
      show ({ U with heap := s₂.heap, slotsUsed := s₂.slotsUsed } : State) = { U.setFrames U.frames with heap := s₂.heap, slotsUsed := s₂.slotsUsed }
      rw [State.setFrames_self ht]
    subst hg
    refine Or.inr ⟨q, ⟨(({ U with heap := s₂.heap, slotsUsed := s₂.slotsUsed } : State).setVm s₂.vm), Ls ++ L, c0 + (hbc h9 - hbc hz9), s0 + (hbs h9 - hbs hz9)⟩,
      ⟨X.admits, X.cas, X.clock, X.frames, X.room, X.hears, X.method, X.code, (X.here.setHeapUsed s₂.heap s₂.slotsUsed).setVm hW'.alike, X.tail, State.WarmedH.trans X.warmed hW', X.limits, X.bytes, X.same.trans (hsame.setVm s.vm)⟩,
      ⟨g, mk, s₂, L, E, ce, rfl, rfl, hx, hce, hcv, hcl, rfl, hL, rfl, rfl⟩, ?_⟩
    show Steps p.tables e below _ (((({ U with heap := s₂.heap, slotsUsed := s₂.slotsUsed } : State).setVm s₂.vm).setTop g).pushFrame (.throwing q))
    rw [← hs₂]
    exact hsteps
end XB
section XC5
variable {C : Cx} {D : Dd} {G : Gx} {y : MethodName} {cc : ByteArray} {nL : Nat} {ret : Option FieldType} {F LL : Nat} {tb : List (Nat × Nat × Nat × Nat)} {pc : Nat} {L : List (Nat × Vl)} {st : List Vl} {h h1 h' : Hp} {o : Ot}
theorem xA_sub {h0 : Hp} {H : Heap} {locs : List Loc} {cells slots : Nat} (hs0 : (cs_ C).heap.size = hsz h0) (hr : HR C D h0 h H locs cells slots) : ∀ q, XA h q → XA h0 q := by
  intro q hq
  by_cases hlt : q < hsz h0
  · rcases hq with hq | hq
    · exact Or.inl ⟨fun e => hq.1 (hr.2.1 q hlt e), by have h9 := hr.2.2.2.2.2; show (hco h0).1 1001 ≤ q; rw [← h9]; exact hq.2⟩
    · have h3 := hr.2.2.1.1
      rw [hs0, hr.1.2] at h3
      exact absurd hq (by omega)
  · exact Or.inr (Nat.le_of_not_lt hlt)
/-- the heap behind a callee -/
theorem HR.behind {h0 : Hp} {H : Heap} {locs : List Loc} {cells slots : Nat} {st0 t : State} {L9 : List Loc} (hs0 : (cs_ C).heap.size = hsz h0) (hr : HR C D h0 h H locs cells slots) (e0 : st0.heap = H) (hal : (cs_ C).vm.Alike t.vm) (hp : x_post D (h, o, h1) st0 t) (hL : ∀ q ∈ L9, XA h q.base) : HR C D h0 h1 t.heap (locs ++ L9) (cells + (hbc h - hbc h1)) (slots + (hbs h - hbs h1)) := by
  have hsub := xA_sub hs0 hr
  obtain ⟨g1, g2, g3, g4, g5, g6⟩ := hr
  obtain ⟨p1, p2, p3, p4, p5, p6⟩ := hp
  have hle : hsz h0 ≤ hsz h := by rw [← hs0, ← g1.2]; exact g3.1
  refine ⟨HP.moved hal.symm p1, fun q hq e => p2 q (Nat.lt_of_lt_of_le hq hle) (g2 q hq e), ⟨?_, fun q hq hn => ?_, fun q hq => ?_⟩, ?_, ?_, p6.trans g6⟩
  · have h3 := p3.1
    rw [e0] at h3
    exact Nat.le_trans g3.1 h3
  · have hlt : q < H.size := Nat.lt_of_lt_of_le hq g3.1
    rw [p3.2 q (by rw [e0]; exact hlt) (fun z => hn (hsub q z)), e0]
    exact g3.2.1 q hq hn
  · rcases List.mem_append.mp hq with z | z
    · exact g3.2.2 q z
    · exact hsub _ (hL q z)
  · have e1 : hbc h1 ≤ hbc h := p4
    omega
  · have e1 : hbs h1 ≤ hbs h := p5
    omega
theorem x_start {av : List Vl} {H : Heap} {locs : List Loc} {cells slots : Nat} (A : Act C D G y cc nL ret F LL tb) (hr : HR C D G.1 h H locs cells slots) {T : State} (hT : T.heap = H) {vm₁ : Vm} (hW : (cs_ C).WarmedH vm₁) : x_Pre D (cR C) av h ⟨T.setVm vm₁, locs, cells, slots⟩ (av.map vv).toArray := by
  obtain ⟨-, -, -, -, -, -, hK, hZ, -, hR, -, -, -, hs0⟩ := A
  have hsub := xA_sub hs0 hr
  obtain ⟨g1, g2, g3, g4, g5, g6⟩ := hr
  refine ⟨by rw [hR]; show cells + hbc h ≤ hbc G.1; omega, by rw [hR]; show slots + hbs h ≤ hbs G.1; omega, rfl, by show HP D h (T.setVm vm₁) T.heap; rw [hT]; exact HP.moved hW.alike g1, by rw [g6]; exact KX.warm hW hK, ?_⟩
  rw [g6]
  refine ZX.moved hW.alike (s := cs_ C) ?_
  show ZX _ _ _ T.heap
  rw [hT]
  exact (hZ.kept (fun a ha hn => g3.2.1 a ha hn)).narrow hsub
theorem x_done {H : Heap} {locs : List Loc} {cells slots : Nat} (A : Act C D G y cc nL ret F LL tb) {ls : Array Slot} (hl : lv_has ls nL (xL L)) (hr : HR C D G.1 h H locs cells slots) {T : State} (hT : T.heap = H) {st0 : List Value} {rest : List Vl} {a : Array Value}
    (res : (∃ (v : Option Value) (vm₁ : Vm) (B : Pt), (cs_ C).WarmedH vm₁ ∧ Stand (cp C) (cl_ C) (ce_ C) (cR C) (cs_ C) (cm C) (ca C) (cb_ C) (ct_ C) (cc_ C) B.U B.locs B.cells B.slots ∧ x_Po D (h, o, h1) ⟨T.setVm vm₁, locs, cells, slots⟩ a v B ∧
      ∀ target, Steps (cp C).tables (ce_ C) (cb_ C) (B.U.setTop { (F0 (cm C) pc ls st0) with pc := (F0 (cm C) pc ls st0).pc + 3, stack := v.toList ++ xS rest }) target → Steps (cp C).tables (ce_ C) (cb_ C) (T.setTop (F0 (cm C) pc ls st0)) target) ∨
    (∃ (q : Addr) (vm₁ : Vm) (B : Pt), (cs_ C).WarmedH vm₁ ∧ Stand (cp C) (cl_ C) (ce_ C) (cR C) (cs_ C) (cm C) (ca C) (cb_ C) (ct_ C) (cc_ C) B.U B.locs B.cells B.slots ∧ x_PoX D (h, o, h1) ⟨T.setVm vm₁, locs, cells, slots⟩ a q B ∧
      Steps (cp C).tables (ce_ C) (cb_ C) (T.setTop (F0 (cm C) pc ls st0)) ((B.U.setTop { (F0 (cm C) pc ls st0) with stack := xS rest }).pushFrame (.throwing q))))
    (kR : ∀ v : Option Vl, o = .inl v → X C D G nL (pc + 3) L (v.toList ++ rest) h1) (kX : ∀ q : Nat, o = .inr q → XT C D G nL pc L h1 q) : ∃ t, Steps (cp C).tables (ce_ C) (cb_ C) (T.setTop (F0 (cm C) pc ls st0)) t ∧ XQ C D G t := by
  obtain ⟨-, -, -, -, -, -, hK, hZ, -, hR, -, -, -, hs0⟩ := A
  rcases res with ⟨v, vm₁, ⟨U', l2, c2, s2⟩, hW₁, X', ⟨g', mk, t, L9, e1, e2, ⟨⟨v', ho, hv⟩, hpost⟩, q1, hL, q2, q3⟩, st9⟩ | ⟨q, vm₁, ⟨U', l2, c2, s2⟩, hW₁, X', ⟨g', mk, t, L9, E, ce, e1, e2, ⟨ho, hE, hpost⟩, hce, hcv, hcl, q1, hL, q2, q3⟩, st9⟩
  · dsimp only [Pt.U, Pt.locs, Pt.cells, Pt.slots] at X' e1 e2 q1 q2 q3 st9
    subst q1; subst q2; subst q3
    have ho : o = .inl v' := ho
    have hv : v = v'.map vv := by injection hv
    subst hv
    have hk := kR v' ho ls t.heap _ _ _ hl (hr.behind hs0 hT (by rw [← e2]; exact X'.warmed.alike) hpost hL)
    have hk2 : W (cp C) (cl_ C) (ce_ C) (cR C) (cs_ C) (cm C) (ca C) (cb_ C) (ct_ C) (cc_ C) t.heap (locs ++ L9) (cells + (hbc h - hbc h1)) (slots + (hbs h - hbs h1)) (XQ C D G) (F0 (cm C) (pc + 3) ls ((v'.map vv).toList ++ xS rest)) := by
      refine W.eq ?_ hk
      cases v' <;> rfl
    obtain ⟨t2, a1, b1⟩ := hk2 U' e1 X'
    exact ⟨t2, st9 t2 a1, b1⟩
  · dsimp only [Pt.U, Pt.locs, Pt.cells, Pt.slots] at X' e1 e2 q1 q2 q3 st9 hcl
    subst q1; subst q2; subst q3
    have ho : o = .inr q := ho
    have hk := kX q ho ls t.heap _ _ _ (xS rest) hl (hr.behind hs0 hT (by rw [← e2]; exact X'.warmed.alike) hpost hL) ⟨ce, hce, hcv, by rw [← hE]; exact vx_cls hW₁ hcl⟩
    obtain ⟨t2, a1, b1⟩ := hk U' e1 X'
    exact ⟨t2, st9.trans a1, b1⟩
/-- what is known of a method by its tables' words -/
def MB (y : MethodName) (cc : ByteArray) (nL : Nat) (ret : Option FieldType) (n : Nat) : Prop := Cond.code y cc nL ret ∈ lw_all ∧ Cond.initialized y.cls ∈ lw_all ∧ (y.cls ≠ "java/lang/invoke/MethodHandle" ∧ y.cls ≠ "java/lang/invoke/VarHandle") ∧ (parseMethodDescriptor y.desc).map (fun d => d.parameters.length) = some n
theorem MB.len {y : MethodName} {cc : ByteArray} {nL : Nat} {ret : Option FieldType} {n : Nat} (M : MB y cc nL ret n) {As : List Value} (hn : As.length = n) : ∀ sig, parseMethodDescriptor y.desc = some sig → As.length = sig.parameters.length := by
  intro sig hs
  have h2 := M.2.2.2
  rw [hs] at h2
  exact hn.trans (Option.some.inj h2).symm
theorem MB.back {y' : MethodName} {cc' : ByteArray} {nL' : Nat} {ret' : Option FieldType} {n F' LL' : Nat} {av : List Vl} (A : Act C D G y cc nL ret F LL tb) (M : MB y' cc' nL' ret' n) (ct : Ct D F' LL' y' cc' nL' ret' av h o h1) (hF : F' + 1 ≤ F) (hL : 8 + (nL' + 11) + LL' ≤ LL) :
    vx_Back (cl_ C) (cR C) (cp C) (ce_ C) (cb_ C) (cs_ C) (ca C) y' 3 8 (x_Pre D (cR C) av h) (x_Po D (h, o, h1)) (x_PoX D (h, o, h1)) := by
  obtain ⟨-, -, -, -, -, hts, -, -, -, hR, -, hlt, -⟩ := A
  have hini := hts _ M.2.1
  exact x_back (bytes := cc') (maxL := nL') (ret := ret') hlt ct (by rw [hR]; exact hF) (by rw [hR]; exact hL) (pay_in hts (lw_meth M.1)) List.mem_cons_self (fun a' U hW => word_at hW (Or.inl (by first | rfl | simp [Cond.onTables, Cond.keeps, Cond.steady])) hini)
theorem x_cat {rest : List Vl} (h : (rest.map vcat).sum ≤ 8) : ((xS rest).map fun v => v.category).sum ≤ 8 := by
  have e : (xS rest).map (fun v => v.category) = rest.map vcat := by
    rw [List.map_map]
    exact List.map_congr_left fun v _ => vcat_eq v
  rw [e]
  exact h
theorem x_recv {s : State} {H : Heap} {b ci N : Nat} {T : u_T} {Cn : String} (hK : xK D s) (hc : xCl[ci]? = some (Cn, T, N)) {hh : Hp} (hP : HP D hh s H) (hi : ab_is hh b ci) : ∃ cell : Cell, H[b]? = some cell ∧ cell.vm.isStatics = false ∧ s.vm.findClass Cn = some cell.cls := by
  obtain ⟨F, hF⟩ := hi
  obtain ⟨r, cell, h1, q1, q2, q3, -⟩ := hP.1 b _ hF
  have hr' : r = (Cn, T, N) := Option.some.inj (h1.symm.trans hc)
  subst hr'
  exact ⟨cell, q1, q3, by rw [q2]; exact (hK.1 ci _ hc).2.1⟩
theorem xr_Vg (A : Act C D G y cc nL ret F LL tb) {y' : MethodName} {cc' : ByteArray} {nL' n F' LL' i b : Nat} {ret' : Option FieldType} {av rest : List Vl} (M : MB y' cc' nL' ret' n) (ct : Ct D F' LL' y' cc' nL' ret' (vR (some b) :: av) h o h1) {ci N : Nat} {T : u_T} {Cn : String} (hc : xCl[ci]? = some (Cn, T, N)) (hb' : ab_is h b ci) (q2 : Cond.instanceMethod y' ∈ lw_all) (q3 : Cond.selects Cn y' y' ∈ lw_all) (q1 : Cond.methodLink y.cls i y' ∈ lw_all) (hn : av.length = n) (d : decode cc pc = .ok (.invokevirtual i, 3)) (hF : F' + 1 ≤ F) (hL : 8 + (nL' + 11) + LL' ≤ LL) (hst : st = av.reverse ++ vR (some b) :: rest) (hrm : (rest.map vcat).sum ≤ 8)
    (kR : ∀ v : Option Vl, o = .inl v → X C D G nL (pc + 3) L (v.toList ++ rest) h1) (kX : ∀ q : Nat, o = .inr q → XT C D G nL pc L h1 q) : X C D G nL pc L st h := by
  have A0 := A
  obtain ⟨hx, hb, -, hml, hown, hts, hK, -⟩ := A
  intro ls H locs cells slots hl hr T hT Xs
  subst hst
  obtain ⟨cellB, hcB, hoB, hclB⟩ := x_recv hK.1 hc hr.1 hb'
  refine x_done (rest := rest) (st0 := xS (av.reverse ++ vR (some b) :: rest)) (a := ((vR (some b) :: av).map vv).toArray) A0 hl hr hT ?_ kR kX
  refine vx_callV Xs hx (C := Cn) (bytes := cc') (maxL := nL') (ret := ret') hown (hts _ q1) (hts _ q2) (hts _ q3) (hts _ M.1) M.2.2.1 (MB.back A0 M ct hF hL) (by rw [hT]; exact hcB) hoB hclB (g := F0 (cm C) pc ls (xS (av.reverse ++ vR (some b) :: rest))) rfl (hl.1.trans hml.symm) (argsL := xS av) (rest := xS rest) (MB.len M (by rw [List.length_map]; exact hn)) (by show xS _ = _; simp [xS, vv, va_rf]) (lv_room (x_cat hrm)) (by rw [hb]; exact d) (fun vm₁ hW => ?_)
  exact x_start (av := (vR (some b) :: av)) A0 hr hT hW
theorem xr_V {v : Vl} (A : Act C D G y cc nL ret F LL tb) {y' : MethodName} {cc' : ByteArray} {nL' n F' LL' i b : Nat} {ret' : Option FieldType} {av rest : List Vl} (M : MB y' cc' nL' ret' n) (ct : Ct D F' LL' y' cc' nL' ret' (vR (some b) :: av) h (.inl (some v)) h1) {ci N : Nat} {T : u_T} {Cn : String} (hc : xCl[ci]? = some (Cn, T, N)) (hb' : ab_is h b ci) (q2 : Cond.instanceMethod y' ∈ lw_all) (q3 : Cond.selects Cn y' y' ∈ lw_all) (q1 : Cond.methodLink y.cls i y' ∈ lw_all) (hn : av.length = n) (d : decode cc pc = .ok (.invokevirtual i, 3)) (hF : F' + 1 ≤ F) (hL : 8 + (nL' + 11) + LL' ≤ LL) (hst : st = av.reverse ++ vR (some b) :: rest) (hrm : (rest.map vcat).sum ≤ 8) (k : X C D G nL (pc + 3) L (v :: rest) h1) : X C D G nL pc L st h :=
  xr_Vg A M ct hc hb' q2 q3 q1 hn d hF hL hst hrm (fun v' e => by cases e; exact k) (fun q e => by cases e)
theorem xr_V0 (A : Act C D G y cc nL ret F LL tb) {y' : MethodName} {cc' : ByteArray} {nL' n F' LL' i b : Nat} {ret' : Option FieldType} {av rest : List Vl} (M : MB y' cc' nL' ret' n) (ct : Ct D F' LL' y' cc' nL' ret' (vR (some b) :: av) h (.inl none) h1) {ci N : Nat} {T : u_T} {Cn : String} (hc : xCl[ci]? = some (Cn, T, N)) (hb' : ab_is h b ci) (q2 : Cond.instanceMethod y' ∈ lw_all) (q3 : Cond.selects Cn y' y' ∈ lw_all) (q1 : Cond.methodLink y.cls i y' ∈ lw_all) (hn : av.length = n) (d : decode cc pc = .ok (.invokevirtual i, 3)) (hF : F' + 1 ≤ F) (hL : 8 + (nL' + 11) + LL' ≤ LL) (hst : st = av.reverse ++ vR (some b) :: rest) (hrm : (rest.map vcat).sum ≤ 8) (k : X C D G nL (pc + 3) L rest h1) : X C D G nL pc L st h :=
  xr_Vg A M ct hc hb' q2 q3 q1 hn d hF hL hst hrm (fun v' e => by cases e; exact k) (fun q e => by cases e)
theorem xr_VX {q : Nat} (A : Act C D G y cc nL ret F LL tb) {y' : MethodName} {cc' : ByteArray} {nL' n F' LL' i b : Nat} {ret' : Option FieldType} {av rest : List Vl} (M : MB y' cc' nL' ret' n) (ct : Ct D F' LL' y' cc' nL' ret' (vR (some b) :: av) h (.inr q) h1) {ci N : Nat} {T : u_T} {Cn : String} (hc : xCl[ci]? = some (Cn, T, N)) (hb' : ab_is h b ci) (q2 : Cond.instanceMethod y' ∈ lw_all) (q3 : Cond.selects Cn y' y' ∈ lw_all) (q1 : Cond.methodLink y.cls i y' ∈ lw_all) (hn : av.length = n) (d : decode cc pc = .ok (.invokevirtual i, 3)) (hF : F' + 1 ≤ F) (hL : 8 + (nL' + 11) + LL' ≤ LL) (hst : st = av.reverse ++ vR (some b) :: rest) (hrm : (rest.map vcat).sum ≤ 8) (k : XT C D G nL pc L h1 q) : X C D G nL pc L st h :=
  xr_Vg A M ct hc hb' q2 q3 q1 hn d hF hL hst hrm (fun v' e => by cases e) (fun q' e => by cases e; exact k)
theorem xr_Sg (A : Act C D G y cc nL ret F LL tb) {y' : MethodName} {cc' : ByteArray} {nL' n F' LL' i : Nat} {ret' : Option FieldType} {av rest : List Vl} (M : MB y' cc' nL' ret' n) (ct : Ct D F' LL' y' cc' nL' ret' av h o h1) (q2 : Cond.static y' ∈ lw_all) (q1 : Cond.methodLink y.cls i y' ∈ lw_all) (hn : av.length = n) (d : decode cc pc = .ok (.invokestatic i, 3)) (hF : F' + 1 ≤ F) (hL : 8 + (nL' + 11) + LL' ≤ LL) (hst : st = av.reverse ++ rest) (hrm : (rest.map vcat).sum ≤ 8)
    (kR : ∀ v : Option Vl, o = .inl v → X C D G nL (pc + 3) L (v.toList ++ rest) h1) (kX : ∀ q : Nat, o = .inr q → XT C D G nL pc L h1 q) : X C D G nL pc L st h := by
  have A0 := A
  obtain ⟨hx, hb, -, hml, hown, hts, hK, -⟩ := A
  intro ls H locs cells slots hl hr T hT Xs
  subst hst
  refine x_done (rest := rest) (st0 := xS (av.reverse ++ rest)) (a := (av.map vv).toArray) A0 hl hr hT ?_ kR kX
  refine vx_callS Xs hx (bytes := cc') (maxL := nL') (ret := ret') hown (hts _ q1) (hts _ q2) (hts _ M.2.1) (hts _ M.1) M.2.2.1 (MB.back A0 M ct hF hL) (g := F0 (cm C) pc ls (xS (av.reverse ++ rest))) rfl (hl.1.trans hml.symm) (argsL := xS av) (rest := xS rest) (MB.len M (by rw [List.length_map]; exact hn)) (by show xS _ = _; simp [xS, vv, va_rf]) (lv_room (x_cat hrm)) (by rw [hb]; exact d) (fun vm₁ hW => ?_)
  exact x_start (av := av) A0 hr hT hW
theorem xr_S {v : Vl} (A : Act C D G y cc nL ret F LL tb) {y' : MethodName} {cc' : ByteArray} {nL' n F' LL' i : Nat} {ret' : Option FieldType} {av rest : List Vl} (M : MB y' cc' nL' ret' n) (ct : Ct D F' LL' y' cc' nL' ret' av h (.inl (some v)) h1) (q2 : Cond.static y' ∈ lw_all) (q1 : Cond.methodLink y.cls i y' ∈ lw_all) (hn : av.length = n) (d : decode cc pc = .ok (.invokestatic i, 3)) (hF : F' + 1 ≤ F) (hL : 8 + (nL' + 11) + LL' ≤ LL) (hst : st = av.reverse ++ rest) (hrm : (rest.map vcat).sum ≤ 8) (k : X C D G nL (pc + 3) L (v :: rest) h1) : X C D G nL pc L st h :=
  xr_Sg A M ct q2 q1 hn d hF hL hst hrm (fun v' e => by cases e; exact k) (fun q e => by cases e)
theorem xr_S0 (A : Act C D G y cc nL ret F LL tb) {y' : MethodName} {cc' : ByteArray} {nL' n F' LL' i : Nat} {ret' : Option FieldType} {av rest : List Vl} (M : MB y' cc' nL' ret' n) (ct : Ct D F' LL' y' cc' nL' ret' av h (.inl none) h1) (q2 : Cond.static y' ∈ lw_all) (q1 : Cond.methodLink y.cls i y' ∈ lw_all) (hn : av.length = n) (d : decode cc pc = .ok (.invokestatic i, 3)) (hF : F' + 1 ≤ F) (hL : 8 + (nL' + 11) + LL' ≤ LL) (hst : st = av.reverse ++ rest) (hrm : (rest.map vcat).sum ≤ 8) (k : X C D G nL (pc + 3) L rest h1) : X C D G nL pc L st h :=
  xr_Sg A M ct q2 q1 hn d hF hL hst hrm (fun v' e => by cases e; exact k) (fun q e => by cases e)
theorem xr_SX {q : Nat} (A : Act C D G y cc nL ret F LL tb) {y' : MethodName} {cc' : ByteArray} {nL' n F' LL' i : Nat} {ret' : Option FieldType} {av rest : List Vl} (M : MB y' cc' nL' ret' n) (ct : Ct D F' LL' y' cc' nL' ret' av h (.inr q) h1) (q2 : Cond.static y' ∈ lw_all) (q1 : Cond.methodLink y.cls i y' ∈ lw_all) (hn : av.length = n) (d : decode cc pc = .ok (.invokestatic i, 3)) (hF : F' + 1 ≤ F) (hL : 8 + (nL' + 11) + LL' ≤ LL) (hst : st = av.reverse ++ rest) (hrm : (rest.map vcat).sum ≤ 8) (k : XT C D G nL pc L h1 q) : X C D G nL pc L st h :=
  xr_Sg A M ct q2 q1 hn d hF hL hst hrm (fun v' e => by cases e) (fun q' e => by cases e; exact k)
theorem xr_Ig (A : Act C D G y cc nL ret F LL tb) {y' : MethodName} {cc' : ByteArray} {nL' n F' LL' i b : Nat}  {av rest : List Vl} (M : MB y' cc' nL' none n) (ct : Ct D F' LL' y' cc' nL' none (vR (some b) :: av) h o h1) (hy1 : y'.name = "<init>") (q2 : Cond.instanceMethod y' ∈ lw_all) (q1 : Cond.methodLink y.cls i y' ∈ lw_all) (hn : av.length = n) (d : decode cc pc = .ok (.invokespecial i, 3)) (hF : F' + 1 ≤ F) (hL : 8 + (nL' + 11) + LL' ≤ LL) (hst : st = av.reverse ++ vR (some b) :: rest) (hrm : (rest.map vcat).sum ≤ 8)
    (kR : ∀ v : Option Vl, o = .inl v → X C D G nL (pc + 3) L (v.toList ++ rest) h1) (kX : ∀ q : Nat, o = .inr q → XT C D G nL pc L h1 q) : X C D G nL pc L st h := by
  have A0 := A
  obtain ⟨hx, hb, -, hml, hown, hts, hK, -⟩ := A
  intro ls H locs cells slots hl hr T hT Xs
  subst hst
  refine x_done (rest := rest) (st0 := xS (av.reverse ++ vR (some b) :: rest)) (a := ((vR (some b) :: av).map vv).toArray) A0 hl hr hT ?_ kR kX
  refine vx_callI Xs hx (bytes := cc') (maxL := nL') hown hy1 (hts _ q1) (hts _ q2) (hts _ M.1) M.2.2.1 (MB.back A0 M ct hF hL) (g := F0 (cm C) pc ls (xS (av.reverse ++ vR (some b) :: rest))) rfl (hl.1.trans hml.symm) (a := b) (argsL := xS av) (rest := xS rest) (MB.len M (by rw [List.length_map]; exact hn)) (by show xS _ = _; simp [xS, vv, va_rf]) (lv_room (x_cat hrm)) (by rw [hb]; exact d) (fun vm₁ hW => ?_)
  exact x_start (av := (vR (some b) :: av)) A0 hr hT hW
theorem xr_I {v : Vl} (A : Act C D G y cc nL ret F LL tb) {y' : MethodName} {cc' : ByteArray} {nL' n F' LL' i b : Nat}  {av rest : List Vl} (M : MB y' cc' nL' none n) (ct : Ct D F' LL' y' cc' nL' none (vR (some b) :: av) h (.inl (some v)) h1) (hy1 : y'.name = "<init>") (q2 : Cond.instanceMethod y' ∈ lw_all) (q1 : Cond.methodLink y.cls i y' ∈ lw_all) (hn : av.length = n) (d : decode cc pc = .ok (.invokespecial i, 3)) (hF : F' + 1 ≤ F) (hL : 8 + (nL' + 11) + LL' ≤ LL) (hst : st = av.reverse ++ vR (some b) :: rest) (hrm : (rest.map vcat).sum ≤ 8) (k : X C D G nL (pc + 3) L (v :: rest) h1) : X C D G nL pc L st h :=
  xr_Ig A M ct hy1 q2 q1 hn d hF hL hst hrm (fun v' e => by cases e; exact k) (fun q e => by cases e)
theorem xr_I0 (A : Act C D G y cc nL ret F LL tb) {y' : MethodName} {cc' : ByteArray} {nL' n F' LL' i b : Nat}  {av rest : List Vl} (M : MB y' cc' nL' none n) (ct : Ct D F' LL' y' cc' nL' none (vR (some b) :: av) h (.inl none) h1) (hy1 : y'.name = "<init>") (q2 : Cond.instanceMethod y' ∈ lw_all) (q1 : Cond.methodLink y.cls i y' ∈ lw_all) (hn : av.length = n) (d : decode cc pc = .ok (.invokespecial i, 3)) (hF : F' + 1 ≤ F) (hL : 8 + (nL' + 11) + LL' ≤ LL) (hst : st = av.reverse ++ vR (some b) :: rest) (hrm : (rest.map vcat).sum ≤ 8) (k : X C D G nL (pc + 3) L rest h1) : X C D G nL pc L st h :=
  xr_Ig A M ct hy1 q2 q1 hn d hF hL hst hrm (fun v' e => by cases e; exact k) (fun q e => by cases e)
theorem xr_IX {q : Nat} (A : Act C D G y cc nL ret F LL tb) {y' : MethodName} {cc' : ByteArray} {nL' n F' LL' i b : Nat}  {av rest : List Vl} (M : MB y' cc' nL' none n) (ct : Ct D F' LL' y' cc' nL' none (vR (some b) :: av) h (.inr q) h1) (hy1 : y'.name = "<init>") (q2 : Cond.instanceMethod y' ∈ lw_all) (q1 : Cond.methodLink y.cls i y' ∈ lw_all) (hn : av.length = n) (d : decode cc pc = .ok (.invokespecial i, 3)) (hF : F' + 1 ≤ F) (hL : 8 + (nL' + 11) + LL' ≤ LL) (hst : st = av.reverse ++ vR (some b) :: rest) (hrm : (rest.map vcat).sum ≤ 8) (k : XT C D G nL pc L h1 q) : X C D G nL pc L st h :=
  xr_Ig A M ct hy1 q2 q1 hn d hF hL hst hrm (fun v' e => by cases e) (fun q' e => by cases e; exact k)
theorem xr_VNg (A : Act C D G y cc nL ret F LL tb) {y' : MethodName} {cc' : ByteArray} {nL' n F' LL' i b : Nat} {ret' : Option FieldType} {host : String} {av rest : List Vl} (M : MB y' cc' nL' ret' n) (ct : Ct D F' LL' y' cc' nL' ret' (vR (some b) :: av) h o h1) {ci N : Nat} {T : u_T} {Cn : String} (hc : xCl[ci]? = some (Cn, T, N)) (hb' : ab_is h b ci) (q2 : Cond.instanceMethod y' ∈ lw_all) (q3 : Cond.selects Cn y' y' ∈ lw_all) (q1 : Cond.methodLinkNest y.cls i y' host ∈ xWd) (hn : av.length = n) (d : decode cc pc = .ok (.invokevirtual i, 3)) (hF : F' + 1 ≤ F) (hL : 8 + (nL' + 11) + LL' ≤ LL) (hst : st = av.reverse ++ vR (some b) :: rest) (hrm : (rest.map vcat).sum ≤ 8)
    (kR : ∀ v : Option Vl, o = .inl v → X C D G nL (pc + 3) L (v.toList ++ rest) h1) (kX : ∀ q : Nat, o = .inr q → XT C D G nL pc L h1 q) : X C D G nL pc L st h := by
  have A0 := A
  obtain ⟨hx, hb, -, hml, hown, hts, hK, -⟩ := A
  intro ls H locs cells slots hl hr T hT Xs
  subst hst
  obtain ⟨cellB, hcB, hoB, hclB⟩ := x_recv hK.1 hc hr.1 hb'
  refine x_done (rest := rest) (st0 := xS (av.reverse ++ vR (some b) :: rest)) (a := ((vR (some b) :: av).map vv).toArray) A0 hl hr hT ?_ kR kX
  refine vx_callVN Xs hx (C := Cn) (bytes := cc') (maxL := nL') (ret := ret') hown (va_Nw.use rfl (hK.2.1 _ q1)) (hts _ q2) (hts _ q3) (hts _ M.1) M.2.2.1 (MB.back A0 M ct hF hL) (by rw [hT]; exact hcB) hoB hclB (g := F0 (cm C) pc ls (xS (av.reverse ++ vR (some b) :: rest))) rfl (hl.1.trans hml.symm) (argsL := xS av) (rest := xS rest) (MB.len M (by rw [List.length_map]; exact hn)) (by show xS _ = _; simp [xS, vv, va_rf]) (lv_room (x_cat hrm)) (by rw [hb]; exact d) (fun vm₁ hW => ?_)
  exact x_start (av := (vR (some b) :: av)) A0 hr hT hW
theorem xr_VN {v : Vl} (A : Act C D G y cc nL ret F LL tb) {y' : MethodName} {cc' : ByteArray} {nL' n F' LL' i b : Nat} {ret' : Option FieldType} {host : String} {av rest : List Vl} (M : MB y' cc' nL' ret' n) (ct : Ct D F' LL' y' cc' nL' ret' (vR (some b) :: av) h (.inl (some v)) h1) {ci N : Nat} {T : u_T} {Cn : String} (hc : xCl[ci]? = some (Cn, T, N)) (hb' : ab_is h b ci) (q2 : Cond.instanceMethod y' ∈ lw_all) (q3 : Cond.selects Cn y' y' ∈ lw_all) (q1 : Cond.methodLinkNest y.cls i y' host ∈ xWd) (hn : av.length = n) (d : decode cc pc = .ok (.invokevirtual i, 3)) (hF : F' + 1 ≤ F) (hL : 8 + (nL' + 11) + LL' ≤ LL) (hst : st = av.reverse ++ vR (some b) :: rest) (hrm : (rest.map vcat).sum ≤ 8) (k : X C D G nL (pc + 3) L (v :: rest) h1) : X C D G nL pc L st h :=
  xr_VNg A M ct hc hb' q2 q3 q1 hn d hF hL hst hrm (fun v' e => by cases e; exact k) (fun q e => by cases e)
theorem xr_VN0 (A : Act C D G y cc nL ret F LL tb) {y' : MethodName} {cc' : ByteArray} {nL' n F' LL' i b : Nat} {ret' : Option FieldType} {host : String} {av rest : List Vl} (M : MB y' cc' nL' ret' n) (ct : Ct D F' LL' y' cc' nL' ret' (vR (some b) :: av) h (.inl none) h1) {ci N : Nat} {T : u_T} {Cn : String} (hc : xCl[ci]? = some (Cn, T, N)) (hb' : ab_is h b ci) (q2 : Cond.instanceMethod y' ∈ lw_all) (q3 : Cond.selects Cn y' y' ∈ lw_all) (q1 : Cond.methodLinkNest y.cls i y' host ∈ xWd) (hn : av.length = n) (d : decode cc pc = .ok (.invokevirtual i, 3)) (hF : F' + 1 ≤ F) (hL : 8 + (nL' + 11) + LL' ≤ LL) (hst : st = av.reverse ++ vR (some b) :: rest) (hrm : (rest.map vcat).sum ≤ 8) (k : X C D G nL (pc + 3) L rest h1) : X C D G nL pc L st h :=
  xr_VNg A M ct hc hb' q2 q3 q1 hn d hF hL hst hrm (fun v' e => by cases e; exact k) (fun q e => by cases e)
theorem xr_VNX {q : Nat} (A : Act C D G y cc nL ret F LL tb) {y' : MethodName} {cc' : ByteArray} {nL' n F' LL' i b : Nat} {ret' : Option FieldType} {host : String} {av rest : List Vl} (M : MB y' cc' nL' ret' n) (ct : Ct D F' LL' y' cc' nL' ret' (vR (some b) :: av) h (.inr q) h1) {ci N : Nat} {T : u_T} {Cn : String} (hc : xCl[ci]? = some (Cn, T, N)) (hb' : ab_is h b ci) (q2 : Cond.instanceMethod y' ∈ lw_all) (q3 : Cond.selects Cn y' y' ∈ lw_all) (q1 : Cond.methodLinkNest y.cls i y' host ∈ xWd) (hn : av.length = n) (d : decode cc pc = .ok (.invokevirtual i, 3)) (hF : F' + 1 ≤ F) (hL : 8 + (nL' + 11) + LL' ≤ LL) (hst : st = av.reverse ++ vR (some b) :: rest) (hrm : (rest.map vcat).sum ≤ 8) (k : XT C D G nL pc L h1 q) : X C D G nL pc L st h :=
  xr_VNg A M ct hc hb' q2 q3 q1 hn d hF hL hst hrm (fun v' e => by cases e) (fun q' e => by cases e; exact k)
theorem xr_SNg (A : Act C D G y cc nL ret F LL tb) {y' : MethodName} {cc' : ByteArray} {nL' n F' LL' i : Nat} {ret' : Option FieldType} {host : String} {av rest : List Vl} (M : MB y' cc' nL' ret' n) (ct : Ct D F' LL' y' cc' nL' ret' av h o h1) (q2 : Cond.static y' ∈ lw_all) (q1 : Cond.methodLinkNest y.cls i y' host ∈ xWd) (hn : av.length = n) (d : decode cc pc = .ok (.invokestatic i, 3)) (hF : F' + 1 ≤ F) (hL : 8 + (nL' + 11) + LL' ≤ LL) (hst : st = av.reverse ++ rest) (hrm : (rest.map vcat).sum ≤ 8)
    (kR : ∀ v : Option Vl, o = .inl v → X C D G nL (pc + 3) L (v.toList ++ rest) h1) (kX : ∀ q : Nat, o = .inr q → XT C D G nL pc L h1 q) : X C D G nL pc L st h := by
  have A0 := A
  obtain ⟨hx, hb, -, hml, hown, hts, hK, -⟩ := A
  intro ls H locs cells slots hl hr T hT Xs
  subst hst
  refine x_done (rest := rest) (st0 := xS (av.reverse ++ rest)) (a := (av.map vv).toArray) A0 hl hr hT ?_ kR kX
  refine vx_callSN Xs hx (bytes := cc') (maxL := nL') (ret := ret') hown (va_Nw.use rfl (hK.2.1 _ q1)) (hts _ q2) (hts _ M.2.1) (hts _ M.1) M.2.2.1 (MB.back A0 M ct hF hL) (g := F0 (cm C) pc ls (xS (av.reverse ++ rest))) rfl (hl.1.trans hml.symm) (argsL := xS av) (rest := xS rest) (MB.len M (by rw [List.length_map]; exact hn)) (by show xS _ = _; simp [xS, vv, va_rf]) (lv_room (x_cat hrm)) (by rw [hb]; exact d) (fun vm₁ hW => ?_)
  exact x_start (av := av) A0 hr hT hW
theorem xr_SN {v : Vl} (A : Act C D G y cc nL ret F LL tb) {y' : MethodName} {cc' : ByteArray} {nL' n F' LL' i : Nat} {ret' : Option FieldType} {host : String} {av rest : List Vl} (M : MB y' cc' nL' ret' n) (ct : Ct D F' LL' y' cc' nL' ret' av h (.inl (some v)) h1) (q2 : Cond.static y' ∈ lw_all) (q1 : Cond.methodLinkNest y.cls i y' host ∈ xWd) (hn : av.length = n) (d : decode cc pc = .ok (.invokestatic i, 3)) (hF : F' + 1 ≤ F) (hL : 8 + (nL' + 11) + LL' ≤ LL) (hst : st = av.reverse ++ rest) (hrm : (rest.map vcat).sum ≤ 8) (k : X C D G nL (pc + 3) L (v :: rest) h1) : X C D G nL pc L st h :=
  xr_SNg A M ct q2 q1 hn d hF hL hst hrm (fun v' e => by cases e; exact k) (fun q e => by cases e)
theorem xr_SN0 (A : Act C D G y cc nL ret F LL tb) {y' : MethodName} {cc' : ByteArray} {nL' n F' LL' i : Nat} {ret' : Option FieldType} {host : String} {av rest : List Vl} (M : MB y' cc' nL' ret' n) (ct : Ct D F' LL' y' cc' nL' ret' av h (.inl none) h1) (q2 : Cond.static y' ∈ lw_all) (q1 : Cond.methodLinkNest y.cls i y' host ∈ xWd) (hn : av.length = n) (d : decode cc pc = .ok (.invokestatic i, 3)) (hF : F' + 1 ≤ F) (hL : 8 + (nL' + 11) + LL' ≤ LL) (hst : st = av.reverse ++ rest) (hrm : (rest.map vcat).sum ≤ 8) (k : X C D G nL (pc + 3) L rest h1) : X C D G nL pc L st h :=
  xr_SNg A M ct q2 q1 hn d hF hL hst hrm (fun v' e => by cases e; exact k) (fun q e => by cases e)
theorem xr_SNX {q : Nat} (A : Act C D G y cc nL ret F LL tb) {y' : MethodName} {cc' : ByteArray} {nL' n F' LL' i : Nat} {ret' : Option FieldType} {host : String} {av rest : List Vl} (M : MB y' cc' nL' ret' n) (ct : Ct D F' LL' y' cc' nL' ret' av h (.inr q) h1) (q2 : Cond.static y' ∈ lw_all) (q1 : Cond.methodLinkNest y.cls i y' host ∈ xWd) (hn : av.length = n) (d : decode cc pc = .ok (.invokestatic i, 3)) (hF : F' + 1 ≤ F) (hL : 8 + (nL' + 11) + LL' ≤ LL) (hst : st = av.reverse ++ rest) (hrm : (rest.map vcat).sum ≤ 8) (k : XT C D G nL pc L h1 q) : X C D G nL pc L st h :=
  xr_SNg A M ct q2 q1 hn d hF hL hst hrm (fun v' e => by cases e) (fun q' e => by cases e; exact k)
theorem xr_INg (A : Act C D G y cc nL ret F LL tb) {y' : MethodName} {cc' : ByteArray} {nL' n F' LL' i b : Nat}  {host : String} {av rest : List Vl} (M : MB y' cc' nL' none n) (ct : Ct D F' LL' y' cc' nL' none (vR (some b) :: av) h o h1) (hy1 : y'.name = "<init>") (q2 : Cond.instanceMethod y' ∈ lw_all) (q1 : Cond.methodLinkNest y.cls i y' host ∈ xWd) (hn : av.length = n) (d : decode cc pc = .ok (.invokespecial i, 3)) (hF : F' + 1 ≤ F) (hL : 8 + (nL' + 11) + LL' ≤ LL) (hst : st = av.reverse ++ vR (some b) :: rest) (hrm : (rest.map vcat).sum ≤ 8)
    (kR : ∀ v : Option Vl, o = .inl v → X C D G nL (pc + 3) L (v.toList ++ rest) h1) (kX : ∀ q : Nat, o = .inr q → XT C D G nL pc L h1 q) : X C D G nL pc L st h := by
  have A0 := A
  obtain ⟨hx, hb, -, hml, hown, hts, hK, -⟩ := A
  intro ls H locs cells slots hl hr T hT Xs
  subst hst
  refine x_done (rest := rest) (st0 := xS (av.reverse ++ vR (some b) :: rest)) (a := ((vR (some b) :: av).map vv).toArray) A0 hl hr hT ?_ kR kX
  refine vx_callIN Xs hx (bytes := cc') (maxL := nL') hown hy1 (va_Nw.use rfl (hK.2.1 _ q1)) (hts _ q2) (hts _ M.1) M.2.2.1 (MB.back A0 M ct hF hL) (g := F0 (cm C) pc ls (xS (av.reverse ++ vR (some b) :: rest))) rfl (hl.1.trans hml.symm) (a := b) (argsL := xS av) (rest := xS rest) (MB.len M (by rw [List.length_map]; exact hn)) (by show xS _ = _; simp [xS, vv, va_rf]) (lv_room (x_cat hrm)) (by rw [hb]; exact d) (fun vm₁ hW => ?_)
  exact x_start (av := (vR (some b) :: av)) A0 hr hT hW
theorem xr_IN {v : Vl} (A : Act C D G y cc nL ret F LL tb) {y' : MethodName} {cc' : ByteArray} {nL' n F' LL' i b : Nat}  {host : String} {av rest : List Vl} (M : MB y' cc' nL' none n) (ct : Ct D F' LL' y' cc' nL' none (vR (some b) :: av) h (.inl (some v)) h1) (hy1 : y'.name = "<init>") (q2 : Cond.instanceMethod y' ∈ lw_all) (q1 : Cond.methodLinkNest y.cls i y' host ∈ xWd) (hn : av.length = n) (d : decode cc pc = .ok (.invokespecial i, 3)) (hF : F' + 1 ≤ F) (hL : 8 + (nL' + 11) + LL' ≤ LL) (hst : st = av.reverse ++ vR (some b) :: rest) (hrm : (rest.map vcat).sum ≤ 8) (k : X C D G nL (pc + 3) L (v :: rest) h1) : X C D G nL pc L st h :=
  xr_INg A M ct hy1 q2 q1 hn d hF hL hst hrm (fun v' e => by cases e; exact k) (fun q e => by cases e)
theorem xr_IN0 (A : Act C D G y cc nL ret F LL tb) {y' : MethodName} {cc' : ByteArray} {nL' n F' LL' i b : Nat}  {host : String} {av rest : List Vl} (M : MB y' cc' nL' none n) (ct : Ct D F' LL' y' cc' nL' none (vR (some b) :: av) h (.inl none) h1) (hy1 : y'.name = "<init>") (q2 : Cond.instanceMethod y' ∈ lw_all) (q1 : Cond.methodLinkNest y.cls i y' host ∈ xWd) (hn : av.length = n) (d : decode cc pc = .ok (.invokespecial i, 3)) (hF : F' + 1 ≤ F) (hL : 8 + (nL' + 11) + LL' ≤ LL) (hst : st = av.reverse ++ vR (some b) :: rest) (hrm : (rest.map vcat).sum ≤ 8) (k : X C D G nL (pc + 3) L rest h1) : X C D G nL pc L st h :=
  xr_INg A M ct hy1 q2 q1 hn d hF hL hst hrm (fun v' e => by cases e; exact k) (fun q e => by cases e)
theorem xr_INX {q : Nat} (A : Act C D G y cc nL ret F LL tb) {y' : MethodName} {cc' : ByteArray} {nL' n F' LL' i b : Nat}  {host : String} {av rest : List Vl} (M : MB y' cc' nL' none n) (ct : Ct D F' LL' y' cc' nL' none (vR (some b) :: av) h (.inr q) h1) (hy1 : y'.name = "<init>") (q2 : Cond.instanceMethod y' ∈ lw_all) (q1 : Cond.methodLinkNest y.cls i y' host ∈ xWd) (hn : av.length = n) (d : decode cc pc = .ok (.invokespecial i, 3)) (hF : F' + 1 ≤ F) (hL : 8 + (nL' + 11) + LL' ≤ LL) (hst : st = av.reverse ++ vR (some b) :: rest) (hrm : (rest.map vcat).sum ≤ 8) (k : XT C D G nL pc L h1 q) : X C D G nL pc L st h :=
  xr_INg A M ct hy1 q2 q1 hn d hF hL hst hrm (fun v' e => by cases e) (fun q' e => by cases e; exact k)
theorem xr_objInit (A : Act C D G y cc nL ret F LL tb) {i a : Nat} (q1 : Cond.methodLink y.cls i Lib.objectInit ∈ lw_all) (q2 : Cond.instanceMethod Lib.objectInit ∈ lw_all) (q3 : Cond.code Lib.objectInit ⟨#[0xb1]⟩ 1 none ∈ lw_all) (d : decode cc pc = .ok (.invokespecial i, 3)) (hF : 1 ≤ F) (hL : 20 ≤ LL) (hrm : (st.map vcat).sum ≤ 8) (k : X C D G nL (pc + 3) L st h) : X C D G nL pc L (vR (some a) :: st) h := by
  obtain ⟨hx, hb, -, hml, hown, hts, -, -, -, hR, -⟩ := A
  intro ls H locs cells slots hl hr
  refine W.objInit hx hb hown (hts _ q1) (hts _ q2) (hts _ q3) rfl (hl.1.trans hml.symm) (a := a) (rest := xS st) rfl d (by rw [hR]; exact hF) ?_ (k ls H locs cells slots hl hr)
  rw [hR]
  have h1 := lv_room (m := cm C) (pc := pc) (ls := ls) (rest := xS (vR (some a) :: st)) (x_cat hrm)
  show _ + 12 ≤ LL
  exact Nat.le_trans (Nat.add_le_add_right h1 12) hL
theorem x_end {H : Heap} {locs : List Loc} {cells slots : Nat} (A : Act C D (G.1, o, h) y cc nL ret F LL tb) (hr : HR C D G.1 h H locs cells slots) {t : State} (ht : t.heap = H) (hal : (cs_ C).vm.Alike t.vm) : x_post D (G.1, o, h) (cs_ C) t := by
  obtain ⟨-, -, -, -, -, -, -, -, -, -, -, -, -, hs0⟩ := A
  obtain ⟨g1, g2, g3, g4, g5, g6⟩ := hr
  exact ⟨by show HP D h t t.heap; rw [ht]; exact HP.moved hal g1, g2, g3.F ht, by show hbc h ≤ hbc G.1; omega, by show hbs h ≤ hbs G.1; omega, g6⟩
theorem x_ret {H : Heap} {locs : List Loc} {cells slots : Nat} {g : JFrame} (hr : HR C D G.1 h H locs cells slots) (k : W (cp C) (cl_ C) (ce_ C) (cR C) (cs_ C) (cm C) (ca C) (cb_ C) (ct_ C) (cc_ C) H locs cells slots (MQ (cb_ C) (x_Qc D (G.1, o, h)) (ca C) (cs_ C) cells slots (XA G.1)) g) : W (cp C) (cl_ C) (ce_ C) (cR C) (cs_ C) (cm C) (ca C) (cb_ C) (ct_ C) (cc_ C) H locs cells slots (XQ C D (G.1, o, h)) g := by
  have e1 : cells = hbc G.1 - hbc h := by have := hr.2.2.2.1; omega
  have e2 : slots = hbs G.1 - hbs h := by have := hr.2.2.2.2.1; omega
  intro T hT Xs
  obtain ⟨t, a1, oc, b1, b2, b3, b4⟩ := k T hT Xs
  refine ⟨t, a1, oc, b1, b2, Or.inl ⟨b3, ?_⟩⟩
  show ∃ L, FrameEnd (cs_ C) oc t L (hbc G.1 - hbc h) (hbs G.1 - hbs h) ∧ _
  rw [← e1, ← e2]
  exact b4
theorem ab_pr {α : Type} {a b : α} {x z : Hp} (e : some (a, x) = some (b, z)) : a = b ∧ x = z := by
  cases e
  exact ⟨rfl, rfl⟩
section RET
variable {h0 : Hp}
theorem xr_ireturn {v r : Int32} {ty : FieldType} (A : Act C D (h0, .inl (some (vI r)), h') y cc nL (some ty) F LL tb) (hn : narrow ty (.int v) = .int v) (hf : some (v, h) = some (r, h')) (d : decode cc pc = .ok (.ireturn, 1)) : X C D (h0, .inl (some (vI r)), h') nL pc L [vI v] h := by
  obtain ⟨rfl, rfl⟩ := ab_pr hf
  intro ls H locs cells slots hl hr
  refine x_ret (G := (h0, .inl (some (vI v)), h)) (o := .inl (some (vI v))) hr ?_
  exact W.zret (v := v) A.1 A.2.1 A.2.2.1 hn (fun t ht hW => ⟨⟨some (vI v), rfl, rfl⟩, x_end (G := (h0, .inl (some (vI v)), h)) A hr ht hW.alike⟩) hr.2.2.1.2.2 d A.2.2.2.2.2.2.2.2.1
theorem xr_lreturn {v r : Int64} (A : Act C D (h0, .inl (some (vL r)), h') y cc nL (some .long) F LL tb) (hf : some (v, h) = some (r, h')) (d : decode cc pc = .ok (.lreturn, 1)) : X C D (h0, .inl (some (vL r)), h') nL pc L [vL v] h := by
  obtain ⟨rfl, rfl⟩ := ab_pr hf
  intro ls H locs cells slots hl hr
  refine x_ret (G := (h0, .inl (some (vL v)), h)) (o := .inl (some (vL v))) hr ?_
  exact W.lret (v := v) A.1 A.2.1 A.2.2.1 (fun t ht hW => ⟨⟨some (vL v), rfl, rfl⟩, x_end (G := (h0, .inl (some (vL v)), h)) A hr ht hW.alike⟩) hr.2.2.1.2.2 d A.2.2.2.2.2.2.2.2.1
theorem xr_areturn {v r : Option Nat} {rt : FieldType} (A : Act C D (h0, .inl (some (vR r)), h') y cc nL (some rt) F LL tb) (hrt : (∃ n, rt = .object n) ∨ ∃ t, rt = .array t) (hf : some (v, h) = some (r, h')) (d : decode cc pc = .ok (.areturn, 1)) : X C D (h0, .inl (some (vR r)), h') nL pc L [vR v] h := by
  obtain ⟨rfl, rfl⟩ := ab_pr hf
  intro ls H locs cells slots hl hr
  refine x_ret (G := (h0, .inl (some (vR v)), h)) (o := .inl (some (vR v))) hr ?_
  exact W.aret (v := va_rf v) A.1 A.2.1 A.2.2.1 hrt (va_rf_or v) (fun t ht hW => ⟨⟨some (vR v), rfl, rfl⟩, x_end (G := (h0, .inl (some (vR v)), h)) A hr ht hW.alike⟩) hr.2.2.1.2.2 d A.2.2.2.2.2.2.2.2.1
theorem xr_return (A : Act C D (h0, .inl none, h') y cc nL none F LL tb) (hf : some h = some h') (d : decode cc pc = .ok (.return_, 1)) : X C D (h0, .inl none, h') nL pc L [] h := by
  cases hf
  intro ls H locs cells slots hl hr
  refine x_ret (G := (h0, .inl none, h)) (o := .inl none) hr ?_
  exact W.vret A.1 A.2.1 A.2.2.1 (fun t ht hW => ⟨⟨none, rfl, rfl⟩, x_end (G := (h0, .inl none, h)) A hr ht hW.alike⟩) hr.2.2.1.2.2 d A.2.2.2.2.2.2.2.2.1
/-- an exception leaves the method: no handler covers the place -/
theorem xr_out {q : Nat} (A : Act C D (h0, .inr q, h) y cc nL ret F LL tb) (hout : (tableOf tb).all (fun x => !covers x pc) = true) : XT C D (h0, .inr q, h) nL pc L h q := by
  have A0 := A
  obtain ⟨hx, hb, -, hml, hown, hts, hK, -, hlk, -, htb, -⟩ := A
  intro ls H locs cells slots rest hl hr ⟨ce, g1, g2, g3⟩ T hT Xs
  have hout2 : ∀ x ∈ (cc_ C).exceptionTable.toList, covers x pc = false := by
    intro x hxx
    rw [htb] at hxx
    have := List.all_eq_true.mp hout x hxx
    cases hcv : covers x pc with
    | false => rfl
    | true => rw [hcv] at this; cases this
  obtain ⟨st1, hrun, hend, hW, hsm⟩ := Xs.leaveThrown q (g := F0 (cm C) pc ls rest) rfl rfl rfl hout2 hlk
  have hcell9 : (T.setFrames (.throwing q :: (cb_ C))).heap[q]? = some ce := by
    show T.heap[q]? = some ce
    rw [hT]; exact g1
  have e1 : cells ≤ hbc h0 - hbc h := by have := hr.2.2.2.1; show cells ≤ hbc h0 - hbc h; have e : cells + hbc h = hbc h0 := this; omega
  have e2 : slots ≤ hbs h0 - hbs h := by have := hr.2.2.2.2.1; have e : slots + hbs h = hbs h0 := this; omega
  exact ⟨_, st1, .threw q, hrun, hend, Or.inr ⟨q, rfl, xEn h q, ce, locs, ⟨rfl, rfl, x_end (G := (h0, .inr q, h)) (t := T.setFrames (.throwing q :: (cb_ C))) A0 hr hT hW.alike⟩, hcell9, g2, g3, hW, hsm.mono e1 e2, hr.2.2.1.2.2⟩⟩
theorem xr_athrow {q : Nat} (A : Act C D G y cc nL ret F LL tb) (hq : ab_is h q 2 ∧ hfz h ≤ q) (d : decode cc pc = .ok (.athrow, 1)) (k : XT C D G nL pc L h q) : X C D G nL pc L (vR (some q) :: st) h := by
  obtain ⟨hx, hb, -, hml, hown, hts, hK, -⟩ := A
  intro ls H locs cells slots hl hr
  refine vx_athrow hx hb d (k ls H locs cells slots (xS st) hl hr ?_)
  obtain ⟨cell, q1, q2, q3⟩ := x_recv (ci := 2) (Cn := RX3) (T := TX3) (N := 8) hK.1 rfl hr.1 hq.1
  obtain ⟨⟨F, hF⟩, hz⟩ := hq
  obtain ⟨r, cell', h1, q1', q2', -, -, q3', -⟩ := hr.1.1 q _ hF
  refine ⟨cell', q1', q3' hz, ?_⟩
  have e : xEn h q = RX3 := by unfold xEn; rw [hF]; rfl
  rw [e]
  cases Option.some.inj (q1.symm.trans q1')
  exact q3
end RET
theorem xL_args (av : List Vl) : ∀ i, xL (xArgs i av) = lv_args i (xS av) := by
  induction av with
  | nil => intro i; rfl
  | cons v r ih =>
    intro i
    show (i, vv v) :: xL (xArgs (i + vcat v) r) = (i, vv v) :: lv_args (if (vv v).category = 2 then i + 2 else i + 1) (xS r)
    rw [ih, vcat_eq]
    congr 2
    rcases v with x | x | x <;> rfl
theorem x_len (av : List Vl) : (lg_sl (xS av)).length = (av.map vcat).sum := by
  induction av with
  | nil => rfl
  | cons v r ih =>
    have e : lg_sl (xS (v :: r)) = (if (vv v).category = 2 then [Slot.val (vv v), .second] else [.val (vv v)]) ++ lg_sl (xS r) := rfl
    rw [e, List.length_append, ih, vcat_eq, List.map_cons, List.sum_cons]
    congr 1
    rcases v with x | x | x <;> rfl
/-- a contract out of a walk of the body -/
theorem Ct.of {h0 : Hp} {av : List Vl} (hy : plainName y.cls = true) {L : List (Nat × Vl)} (hL : xArgs 0 av = L) (hlen : (av.map vcat).sum ≤ nL) (k : ∀ C : Cx, Act C D (h0, o, h') y cc nL ret F LL [] → X C D (h0, o, h') nL 0 L [] h0) : Ct D F LL y cc nL ret av h0 o h' := by
  intro l hl9
  refine MetFree.of_bodyS (code := cc) (maxLocals := nL) (ret := ret) hy ?_ ?_
  · intro args s m h hn
    obtain ⟨meth, c, h1, h2, h3, h4, h5, h6, -, -⟩ := Cond.code_spec hn (atoms_spec (ws := ws_ y cc nL ret) h _ List.mem_cons_self)
    exact ⟨meth, c, h1, h2, h3, h4, h5, h6⟩
  · intro p e s m args below meth c s₁ B hml hP _
    have hh0 : s₁.heap = s.heap := by rw [B.state]; rfl
    have ht : c.exceptionTable.toList = [] := by
      obtain ⟨meth9, c9, h1, h2, -, -, -, -, h7, -⟩ := Cond.code_spec B.named (atoms_spec (ws := ws_ y cc nL ret) B.pre _ List.mem_cons_self)
      cases Option.some.inj (h1.symm.trans B.method)
      cases Option.some.inj (h2.symm.trans (Stand.of_body B).code)
      rw [Array.isEmpty_iff.mp h7]
    obtain ⟨ha, hHP, hKX, hZX⟩ := hP
    have hts := atoms_spec (ws := ws_ y cc nL ret) B.pre
    have hts : ∀ w ∈ lw_all, w.before args s = true := fun w h => hts w (List.mem_cons_of_mem _ h)
    have A : Act (p, l, e, xrm F LL h0, s, m, args, below, meth, c) D (h0, o, h') y cc nL ret F LL [] :=
      ⟨B.exec, B.bytes, B.returns, hml, findClass_of_methodNamed B.named, hts, hKX, hZX, B.notSynchronized, rfl, ht, hl9, (name_of_methodNamed B.named B.method).1, hHP.2⟩
    have hk := k _ A
    subst ha
    subst hL
    have hent := lv_entry (xS av) (n := nL) (by rw [x_len]; exact hlen)
    rw [← xL_args av 0] at hent
    have hk1 := hk _ s.heap [] 0 0 hent ⟨hHP, fun q _ e => e, va_S.rf, Nat.zero_add _, Nat.zero_add _, rfl⟩
    have hk2 := W.eq (lg_entry_eq m (xS av) nL) hk1
    obtain ⟨t, a1, oc, b1, b2, b3⟩ := hk2 s₁ hh0 (Stand.of_body B)
    exact ⟨t, oc, a1, b1, b2, b3⟩
end XC5
