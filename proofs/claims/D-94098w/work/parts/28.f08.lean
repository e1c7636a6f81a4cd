set_option maxRecDepth 100000
/-! X5_orders -/
theorem bX5_orders : MB yX5_orders cX5_orders 3 (some FieldType.int) 1 := ⟨q1843, q99, by decide, by decide +kernel⟩
noncomputable def fX5_orders_l4 : Nat → Int32 → Int32 → Int32 → Hp → Option (Int32 × Hp)
  | 0, _, _, _, _ => none
  | n + 1, l0, l1, l2, h =>
  if l0 < l2 then (
    some (l1, h))
  else (
    fX5_orders_l4 n l0 (l1 * l2) (l2 + (1 : Int32)) h)
theorem wX5_orders_l4 {D : Dd} {C : Cx} {h0 h' : Hp} {r : Int32} (A : Act C D (h0, (.inl (some (vI r))), h') yX5_orders cX5_orders 3 (some FieldType.int) 1 20 []) : ∀ (n : Nat) {l0 : Int32} {l1 : Int32} {l2 : Int32} {h : Hp}, fX5_orders_l4 n l0 l1 l2 h = some (r, h') → X C D (h0, (.inl (some (vI r))), h') 3 4 [(0, vI l0), (1, vI l1), (2, vI l2)] [] h := by
  intro n
  induction n with
  | zero => intro l0 l1 l2 h hf; exact ab_no hf
  | succ n ih =>
    intro l0 l1 l2 h hf
    unfold fX5_orders_l4 at hf
    refine xr_iload_n A dX5_orders_4 2 rfl rfl ?_
    refine xr_iload_n A dX5_orders_5 0 rfl rfl ?_
    refine xr_icmp_gt A (tgt := 19) dX5_orders_6 (by decide) (fun c6 => ?_) (fun c6 => ?_)
    · replace hf := ab_ip c6 hf
      refine xr_iload_n A dX5_orders_19 1 rfl rfl ?_
      exact xr_ireturn A rfl hf dX5_orders_20
    · replace hf := ab_in c6 hf
      refine xr_iload_n A dX5_orders_9 1 rfl rfl ?_
      refine xr_iload_n A dX5_orders_10 2 rfl rfl ?_
      refine xr_imul A dX5_orders_11 ?_
      refine xr_istore_n A dX5_orders_12 rfl (Nat.le_of_ble_eq_true rfl) (L' := [(1, vI (l1 * l2)), (0, vI l0), (2, vI l2)]) rfl ?_
      refine xr_iinc A dX5_orders_13 2 rfl (v := (l2 + (1 : Int32))) rfl (Nat.le_of_ble_eq_true rfl) (L' := [(2, vI (l2 + (1 : Int32))), (1, vI (l1 * l2)), (0, vI l0)]) rfl ?_
      refine xr_goto A (tgt := 4) dX5_orders_16 (by decide) ?_
      refine X.sub [2, 1, 0] rfl ?_
      exact ih hf
noncomputable def fX5_orders (p0 : Int32) (h : Hp) : Option (Int32 × Hp) :=
  fX5_orders_l4 (hfu h) p0 (1 : Int32) (2 : Int32) h
theorem wX5_orders (D : Dd) {p0 : Int32} {h : Hp} {r : Int32} {h' : Hp} (hf : fX5_orders p0 h = some (r, h')) : Ct D 1 20 yX5_orders cX5_orders 3 (some FieldType.int) [vI p0] h (.inl (some (vI r))) h' := by
    unfold fX5_orders at hf
    refine Ct.of (by decide) (L := [(0, vI p0)]) rfl (Nat.le_of_ble_eq_true rfl) (fun C A => ?_)
    refine xr_iconst A (v := 1) dX5_orders_0 (by decide) ?_
    refine xr_istore_n A dX5_orders_1 rfl (Nat.le_of_ble_eq_true rfl) (L' := [(1, vI (1 : Int32)), (0, vI p0)]) rfl ?_
    refine xr_iconst A (v := 2) dX5_orders_2 (by decide) ?_
    refine xr_istore_n A dX5_orders_3 rfl (Nat.le_of_ble_eq_true rfl) (L' := [(2, vI (2 : Int32)), (1, vI (1 : Int32)), (0, vI p0)]) rfl ?_
    refine X.sub [2, 1, 0] rfl ?_
    exact wX5_orders_l4 A _ hf
/-! X5_ordered -/
theorem bX5_ordered : MB yX5_ordered cX5_ordered 9 (none : Option FieldType) 2 := ⟨q1847, q99, by decide, by decide +kernel⟩
noncomputable def fX5_ordered_b75 (x : Nat) (K25 : Int32 → Int32 → Int32 → Int32 → Hp → Option Hp) (K60 : Int32 → Int32 → Int32 → Int32 → Int32 → Int32 → Hp → Option Hp) (l3 : Int32) (l4 : Int32) (l5 : Int32) (l6 : Int32) (l7 : Int32) (l8 : Int32) (h : Hp) : Option Hp :=
  ab_b2 (fX5_has l4 l8 h) fun v3 h2 =>
  if v3 = 0 then (
    K60 l3 l4 l5 l6 (l7 - (0 : Int32)) (l8 + (1 : Int32)) h2)
  else (
    K60 l3 l4 l5 l6 (l7 - (1 : Int32)) (l8 + (1 : Int32)) h2)
theorem wX5_ordered_b75 {D : Dd} {C : Cx} {h0 h' : Hp} (A : Act C D (h0, (.inl none), h') yX5_ordered cX5_ordered 9 (none : Option FieldType) 2 42 []) {x : Nat} {K25 : Int32 → Int32 → Int32 → Int32 → Hp → Option Hp} (hK25 : ∀ {l3 : Int32} {l4 : Int32} {l5 : Int32} {l6 : Int32} {h : Hp}, K25 l3 l4 l5 l6 h = some h' → X C D (h0, (.inl none), h') 9 25 [(0, vR (some x)), (3, vI l3), (4, vI l4), (5, vI l5), (6, vI l6)] [] h) {K60 : Int32 → Int32 → Int32 → Int32 → Int32 → Int32 → Hp → Option Hp} (hK60 : ∀ {l3 : Int32} {l4 : Int32} {l5 : Int32} {l6 : Int32} {l7 : Int32} {l8 : Int32} {h : Hp}, K60 l3 l4 l5 l6 l7 l8 h = some h' → X C D (h0, (.inl none), h') 9 60 [(0, vR (some x)), (3, vI l3), (4, vI l4), (5, vI l5), (6, vI l6), (7, vI l7), (8, vI l8)] [] h) {l3 : Int32} {l4 : Int32} {l5 : Int32} {l6 : Int32} {l7 : Int32} {l8 : Int32} {h : Hp} (hf : fX5_ordered_b75 x K25 K60 l3 l4 l5 l6 l7 l8 h = some h') : X C D (h0, (.inl none), h') 9 75 [(0, vR (some x)), (3, vI l3), (4, vI l4), (5, vI l5), (6, vI l6), (7, vI l7), (8, vI l8)] [] h := by
  unfold fX5_ordered_b75 at hf
  refine xr_iload A dX5_ordered_75 5 rfl ?_
  refine xr_iload A dX5_ordered_77 2 rfl ?_
  refine xr_iload A dX5_ordered_79 6 rfl ?_
  revert hf; refine ab_b2I (fun v3 h2 m1 hf => ?_)
  refine xr_S A bX5_has (wX5_has D m1) q1804 q1803 (av := [vI l4, vI l8]) (rest := [vI l7]) rfl dX5_ordered_81 (Nat.le_of_ble_eq_true rfl) (Nat.le_of_ble_eq_true rfl) rfl (Nat.le_of_ble_eq_true rfl) ?_
  refine xr_if_eq A (tgt := 91) dX5_ordered_84 (by decide) (fun c84 => ?_) (fun c84 => ?_)
  · replace hf := ab_ip c84 hf
    refine xr_iconst A (v := 0) dX5_ordered_91 (by decide) ?_
    refine xr_isub A dX5_ordered_92 ?_
    refine xr_istore A dX5_ordered_93 (Nat.le_of_ble_eq_true rfl) (L' := [(7, vI (l7 - (0 : Int32))), (0, vR (some x)), (3, vI l3), (4, vI l4), (5, vI l5), (6, vI l6), (8, vI l8)]) rfl ?_
    refine xr_iinc A dX5_ordered_95 6 rfl (v := (l8 + (1 : Int32))) rfl (Nat.le_of_ble_eq_true rfl) (L' := [(8, vI (l8 + (1 : Int32))), (7, vI (l7 - (0 : Int32))), (0, vR (some x)), (3, vI l3), (4, vI l4), (5, vI l5), (6, vI l6)]) rfl ?_
    refine xr_goto A (tgt := 60) dX5_ordered_98 (by decide) ?_
    refine X.sub [2, 3, 4, 5, 6, 1, 0] rfl ?_
    exact hK60 hf
  · replace hf := ab_in c84 hf
    refine xr_iconst A (v := 1) dX5_ordered_87 (by decide) ?_
    refine xr_goto A (tgt := 92) dX5_ordered_88 (by decide) ?_
    refine xr_isub A dX5_ordered_92 ?_
    refine xr_istore A dX5_ordered_93 (Nat.le_of_ble_eq_true rfl) (L' := [(7, vI (l7 - (1 : Int32))), (0, vR (some x)), (3, vI l3), (4, vI l4), (5, vI l5), (6, vI l6), (8, vI l8)]) rfl ?_
    refine xr_iinc A dX5_ordered_95 6 rfl (v := (l8 + (1 : Int32))) rfl (Nat.le_of_ble_eq_true rfl) (L' := [(8, vI (l8 + (1 : Int32))), (7, vI (l7 - (1 : Int32))), (0, vR (some x)), (3, vI l3), (4, vI l4), (5, vI l5), (6, vI l6)]) rfl ?_
    refine xr_goto A (tgt := 60) dX5_ordered_98 (by decide) ?_
    refine X.sub [2, 3, 4, 5, 6, 1, 0] rfl ?_
    exact hK60 hf
noncomputable def fX5_ordered_l60 (x : Nat) (K25 : Int32 → Int32 → Int32 → Int32 → Hp → Option Hp) : Nat → Int32 → Int32 → Int32 → Int32 → Int32 → Int32 → Hp → Option Hp
  | 0, _, _, _, _, _, _, _ => none
  | n + 1, l3, l4, l5, l6, l7, l8, h =>
  ab_b2 (fX5_has l4 l8 h) fun v3 h2 =>
  if v3 = 0 then (
    fX5_ordered_b75 x K25 (fX5_ordered_l60 x K25 n) l3 l4 l5 l6 l7 l8 h2)
  else (
    if l7 ≤ 0 then (
      ab_bd (ab_gR h2 x 4 22) fun v4 =>
      ab_bd v4 fun a5 =>
      ab_bd (ab_sI h2 a5 l6 l8) fun h6 =>
      K25 l3 (l4 &&& (((1 : Int32) <<< (l8 &&& 31)) ^^^ (-1 : Int32))) l5 (l6 + (1 : Int32)) h6)
    else (
      fX5_ordered_b75 x K25 (fX5_ordered_l60 x K25 n) l3 l4 l5 l6 l7 l8 h2))
theorem wX5_ordered_l60 {D : Dd} {C : Cx} {h0 h' : Hp} (A : Act C D (h0, (.inl none), h') yX5_ordered cX5_ordered 9 (none : Option FieldType) 2 42 []) {x : Nat} {K25 : Int32 → Int32 → Int32 → Int32 → Hp → Option Hp} (hK25 : ∀ {l3 : Int32} {l4 : Int32} {l5 : Int32} {l6 : Int32} {h : Hp}, K25 l3 l4 l5 l6 h = some h' → X C D (h0, (.inl none), h') 9 25 [(0, vR (some x)), (3, vI l3), (4, vI l4), (5, vI l5), (6, vI l6)] [] h) : ∀ (n : Nat) {l3 : Int32} {l4 : Int32} {l5 : Int32} {l6 : Int32} {l7 : Int32} {l8 : Int32} {h : Hp}, fX5_ordered_l60 x K25 n l3 l4 l5 l6 l7 l8 h = some h' → X C D (h0, (.inl none), h') 9 60 [(0, vR (some x)), (3, vI l3), (4, vI l4), (5, vI l5), (6, vI l6), (7, vI l7), (8, vI l8)] [] h := by
  intro n
  induction n with
  | zero => intro l3 l4 l5 l6 l7 l8 h hf; exact ab_no hf
  | succ n ih =>
    intro l3 l4 l5 l6 l7 l8 h hf
    unfold fX5_ordered_l60 at hf
    refine xr_iload A dX5_ordered_60 2 rfl ?_
    refine xr_iload A dX5_ordered_62 6 rfl ?_
    revert hf; refine ab_b2I (fun v3 h2 m1 hf => ?_)
    refine xr_S A bX5_has (wX5_has D m1) q1804 q1803 (av := [vI l4, vI l8]) (rest := []) rfl dX5_ordered_64 (Nat.le_of_ble_eq_true rfl) (Nat.le_of_ble_eq_true rfl) rfl (Nat.le_of_ble_eq_true rfl) ?_
    refine xr_if_eq A (tgt := 75) dX5_ordered_67 (by decide) (fun c67 => ?_) (fun c67 => ?_)
    · replace hf := ab_ip c67 hf
      exact wX5_ordered_b75 A @hK25 (fun hf => ih hf) hf
    · replace hf := ab_in c67 hf
      refine xr_iload A dX5_ordered_70 5 rfl ?_
      refine xr_if_le A (tgt := 101) dX5_ordered_72 (by decide) (fun c72 => ?_) (fun c72 => ?_)
      · replace hf := ab_ip c72 hf
        refine xr_iload A dX5_ordered_101 2 rfl ?_
        refine xr_iconst A (v := 1) dX5_ordered_103 (by decide) ?_
        refine xr_iload A dX5_ordered_104 6 rfl ?_
        refine xr_ishl A dX5_ordered_106 ?_
        refine xr_iconst A (v := (-1)) dX5_ordered_107 (by decide) ?_
        refine xr_ixor A dX5_ordered_108 ?_
        refine xr_iand A dX5_ordered_109 ?_
        refine xr_istore A dX5_ordered_110 (Nat.le_of_ble_eq_true rfl) (L' := [(4, vI (l4 &&& (((1 : Int32) <<< (l8 &&& 31)) ^^^ (-1 : Int32)))), (0, vR (some x)), (3, vI l3), (5, vI l5), (6, vI l6), (7, vI l7), (8, vI l8)]) rfl ?_
        refine xr_aload_n A dX5_ordered_112 1 rfl rfl ?_
        revert hf; refine ab_bdI (fun v4 mv4 hf => ?_)
        refine xr_get A xc_X5 in_X5 22 (Nat.le_of_ble_eq_true rfl) q1320 rfl (ab_gRE mv4) dX5_ordered_113 ?_
        refine xr_iload A dX5_ordered_116 4 rfl ?_
        refine xr_iload A dX5_ordered_118 6 rfl ?_
        revert hf; refine ab_bdI (fun a5 e hf => ?_); subst e
        revert hf; refine ab_bdI (fun h6 mh6 hf => ?_)
        refine xr_iastore A mh6 dX5_ordered_120 ?_
        refine xr_iinc A dX5_ordered_121 4 rfl (v := (l6 + (1 : Int32))) rfl (Nat.le_of_ble_eq_true rfl) (L' := [(6, vI (l6 + (1 : Int32))), (4, vI (l4 &&& (((1 : Int32) <<< (l8 &&& 31)) ^^^ (-1 : Int32)))), (0, vR (some x)), (3, vI l3), (5, vI l5), (7, vI l7), (8, vI l8)]) rfl ?_
        refine xr_goto A (tgt := 25) dX5_ordered_124 (by decide) ?_
        refine X.sub [2, 3, 1, 4, 0] rfl ?_
        exact hK25 hf
      · replace hf := ab_in c72 hf
        exact wX5_ordered_b75 A @hK25 (fun hf => ih hf) hf
noncomputable def fX5_ordered_l25 (x : Nat) : Nat → Int32 → Int32 → Int32 → Int32 → Hp → Option Hp
  | 0, _, _, _, _, _ => none
  | n + 1, l3, l4, l5, l6, h =>
  ab_bd (ab_gI h x 4 20) fun v1 =>
  if v1 ≤ l6 then (
    some h)
  else (
    ab_bd (ab_gI h x 4 20) fun v2 =>
    ab_nz ((v2 - l6) = 0) <|
    ab_nz ((l5 / (v2 - l6)) = 0) <|
    ab_nz ((l5 / (v2 - l6)) = 0) <|
    fX5_ordered_l60 x (fX5_ordered_l25 x n) (hfu h) (l3 - l3 / (l5 / (v2 - l6)) * (l5 / (v2 - l6))) l4 (l5 / (v2 - l6)) l6 (l3 / (l5 / (v2 - l6))) (0 : Int32) h)
theorem wX5_ordered_l25 {D : Dd} {C : Cx} {h0 h' : Hp} (A : Act C D (h0, (.inl none), h') yX5_ordered cX5_ordered 9 (none : Option FieldType) 2 42 []) {x : Nat} : ∀ (n : Nat) {l3 : Int32} {l4 : Int32} {l5 : Int32} {l6 : Int32} {h : Hp}, fX5_ordered_l25 x n l3 l4 l5 l6 h = some h' → X C D (h0, (.inl none), h') 9 25 [(0, vR (some x)), (3, vI l3), (4, vI l4), (5, vI l5), (6, vI l6)] [] h := by
  intro n
  induction n with
  | zero => intro l3 l4 l5 l6 h hf; exact ab_no hf
  | succ n ih =>
    intro l3 l4 l5 l6 h hf
    unfold fX5_ordered_l25 at hf
    refine xr_iload A dX5_ordered_25 4 rfl ?_
    refine xr_aload_n A dX5_ordered_27 0 rfl rfl ?_
    revert hf; refine ab_bdI (fun v1 mv1 hf => ?_)
    refine xr_get A xc_X5 in_X5 20 (Nat.le_of_ble_eq_true rfl) q1318 rfl (ab_gIE mv1) dX5_ordered_28 ?_
    refine xr_icmp_ge A (tgt := 127) dX5_ordered_31 (by decide) (fun c31 => ?_) (fun c31 => ?_)
    · replace hf := ab_ip c31 hf
      exact xr_return A hf dX5_ordered_127
    · replace hf := ab_in c31 hf
      refine xr_iload A dX5_ordered_34 3 rfl ?_
      refine xr_aload_n A dX5_ordered_36 0 rfl rfl ?_
      revert hf; refine ab_bdI (fun v2 mv2 hf => ?_)
      refine xr_get A xc_X5 in_X5 20 (Nat.le_of_ble_eq_true rfl) q1318 rfl (ab_gIE mv2) dX5_ordered_37 ?_
      refine xr_iload A dX5_ordered_40 4 rfl ?_
      refine xr_isub A dX5_ordered_42 ?_
      replace hf := ab_nzE hf; obtain ⟨c43, hf⟩ := hf
      refine xr_idiv A dX5_ordered_43 c43 ?_
      refine xr_istore A dX5_ordered_44 (Nat.le_of_ble_eq_true rfl) (L' := [(5, vI (l5 / (v2 - l6))), (0, vR (some x)), (3, vI l3), (4, vI l4), (6, vI l6)]) rfl ?_
      refine xr_iload_n A dX5_ordered_46 2 rfl rfl ?_
      refine xr_iload A dX5_ordered_47 0 rfl ?_
      replace hf := ab_nzE hf; obtain ⟨c49, hf⟩ := hf
      refine xr_idiv A dX5_ordered_49 c49 ?_
      refine xr_istore A dX5_ordered_50 (Nat.le_of_ble_eq_true rfl) (L' := [(7, vI (l3 / (l5 / (v2 - l6)))), (5, vI (l5 / (v2 - l6))), (0, vR (some x)), (3, vI l3), (4, vI l4), (6, vI l6)]) rfl ?_
      refine xr_iload_n A dX5_ordered_52 3 rfl rfl ?_
      refine xr_iload A dX5_ordered_53 1 rfl ?_
      replace hf := ab_nzE hf; obtain ⟨c55, hf⟩ := hf
      refine xr_irem A dX5_ordered_55 c55 ?_
      refine xr_istore_n A dX5_ordered_56 rfl (Nat.le_of_ble_eq_true rfl) (L' := [(3, vI (l3 - l3 / (l5 / (v2 - l6)) * (l5 / (v2 - l6)))), (7, vI (l3 / (l5 / (v2 - l6)))), (5, vI (l5 / (v2 - l6))), (0, vR (some x)), (4, vI l4), (6, vI l6)]) rfl ?_
      refine xr_iconst A (v := 0) dX5_ordered_57 (by decide) ?_
      refine xr_istore A dX5_ordered_58 (Nat.le_of_ble_eq_true rfl) (L' := [(8, vI (0 : Int32)), (3, vI (l3 - l3 / (l5 / (v2 - l6)) * (l5 / (v2 - l6)))), (7, vI (l3 / (l5 / (v2 - l6)))), (5, vI (l5 / (v2 - l6))), (0, vR (some x)), (4, vI l4), (6, vI l6)]) rfl ?_
      refine X.sub [4, 1, 5, 3, 6, 2, 0] rfl ?_
      exact wX5_ordered_l60 A (fun hf => ih hf) _ hf
noncomputable def fX5_ordered (x : Nat) (p1 : Int32) (p2 : Int32) (h : Hp) : Option Hp :=
  ab_ck h x 4 <|
  ab_b2 (fX5_bits p1 h) fun v3 h2 =>
  ab_bd (ab_pI h2 x 4 20 v3) fun h4 =>
  ab_bd (ab_gI h4 x 4 20) fun v5 =>
  ab_b2 (fX5_orders v5 h4) fun v8 h7 =>
  fX5_ordered_l25 x (hfu h7) p2 p1 v8 (0 : Int32) h7
theorem wX5_ordered (D : Dd) {x : Nat} {p1 : Int32} {p2 : Int32} {h : Hp} {h' : Hp} (hf : fX5_ordered x p1 p2 h = some h') : ab_is h x 4 ∧ Ct D 2 42 yX5_ordered cX5_ordered 9 (none : Option FieldType) [vR (some x), vI p1, vI p2] h (.inl none) h' := by
    unfold fX5_ordered at hf
    replace hf := ab_ckE hf; obtain ⟨i0, hf⟩ := hf
    refine ⟨i0, ?_⟩
    refine Ct.of (by decide) (L := [(0, vR (some x)), (1, vI p1), (2, vI p2)]) rfl (Nat.le_of_ble_eq_true rfl) (fun C A => ?_)
    refine xr_aload_n A dX5_ordered_0 0 rfl rfl ?_
    refine xr_iload_n A dX5_ordered_1 1 rfl rfl ?_
    revert hf; refine ab_b2I (fun v3 h2 m1 hf => ?_)
    refine xr_S A bX5_bits (wX5_bits D m1) q1835 q1834 (av := [vI p1]) (rest := [vR (some x)]) rfl dX5_ordered_2 (Nat.le_of_ble_eq_true rfl) (Nat.le_of_ble_eq_true rfl) rfl (Nat.le_of_ble_eq_true rfl) ?_
    revert hf; refine ab_bdI (fun h4 mh4 hf => ?_)
    refine xr_put A xc_X5 in_X5 tyX5_ok nmX5 20 (Nat.le_of_ble_eq_true rfl) q1318 rfl rfl (v := vI v3) rfl rfl mh4 dX5_ordered_5 ?_
    refine xr_iload_n A dX5_ordered_8 2 rfl rfl ?_
    refine xr_istore_n A dX5_ordered_9 rfl (Nat.le_of_ble_eq_true rfl) (L' := [(3, vI p2), (0, vR (some x)), (1, vI p1), (2, vI p2)]) rfl ?_
    refine xr_iload_n A dX5_ordered_10 2 rfl rfl ?_
    refine xr_istore A dX5_ordered_11 (Nat.le_of_ble_eq_true rfl) (L' := [(4, vI p1), (3, vI p2), (0, vR (some x)), (1, vI p1), (2, vI p2)]) rfl ?_
    refine xr_aload_n A dX5_ordered_13 2 rfl rfl ?_
    revert hf; refine ab_bdI (fun v5 mv5 hf => ?_)
    refine xr_get A xc_X5 in_X5 20 (Nat.le_of_ble_eq_true rfl) q1318 rfl (ab_gIE mv5) dX5_ordered_14 ?_
    revert hf; refine ab_b2I (fun v8 h7 m6 hf => ?_)
    refine xr_S A bX5_orders (wX5_orders D m6) q1842 q1841 (av := [vI v5]) (rest := []) rfl dX5_ordered_17 (Nat.le_of_ble_eq_true rfl) (Nat.le_of_ble_eq_true rfl) rfl (Nat.le_of_ble_eq_true rfl) ?_
    refine xr_istore A dX5_ordered_20 (Nat.le_of_ble_eq_true rfl) (L' := [(5, vI v8), (4, vI p1), (3, vI p2), (0, vR (some x)), (1, vI p1), (2, vI p2)]) rfl ?_
    refine xr_iconst A (v := 0) dX5_ordered_22 (by decide) ?_
    refine xr_istore A dX5_ordered_23 (Nat.le_of_ble_eq_true rfl) (L' := [(6, vI (0 : Int32)), (5, vI v8), (4, vI p1), (3, vI p2), (0, vR (some x)), (1, vI p1), (2, vI p2)]) rfl ?_
    refine X.sub [4, 3, 2, 1, 0] rfl ?_
    exact wX5_ordered_l25 A _ hf
/-! X5_bests -/
theorem bX5_bests : MB yX5_bests cX5_bests 8 (none : Option FieldType) 2 := ⟨q1840, q99, by decide, by decide +kernel⟩
noncomputable def fX5_bests_l124 (x : Nat) (K29 : Int32 → Int32 → Int32 → Int32 → Hp → Option Hp) : Nat → Int32 → Int32 → Int32 → Int32 → Int32 → Hp → Option Hp
  | 0, _, _, _, _, _, _ => none
  | n + 1, l1, l2, l3, l4, l7, h =>
  ab_bd (ab_gI h x 4 20) fun v1 =>
  if v1 ≤ l7 then (
    K29 l1 l2 l3 (l4 + (1 : Int32)) h)
  else (
    ab_bd (ab_gR h x 4 26) fun v2 =>
    ab_bd (ab_gR h x 4 22) fun v3 =>
    ab_bd v3 fun a4 =>
    ab_bd (ab_aI h a4 0 l7) fun v5 =>
    ab_bd v2 fun a6 =>
    ab_bd (ab_sI h a6 l7 v5) fun h7 =>
    fX5_bests_l124 x K29 n l1 l2 l3 l4 (l7 + (1 : Int32)) h7)
theorem wX5_bests_l124 {D : Dd} {C : Cx} {h0 h' : Hp} (A : Act C D (h0, (.inl none), h') yX5_bests cX5_bests 8 (none : Option FieldType) 3 72 []) {x : Nat} {K29 : Int32 → Int32 → Int32 → Int32 → Hp → Option Hp} (hK29 : ∀ {l1 : Int32} {l2 : Int32} {l3 : Int32} {l4 : Int32} {h : Hp}, K29 l1 l2 l3 l4 h = some h' → X C D (h0, (.inl none), h') 8 29 [(0, vR (some x)), (1, vI l1), (2, vI l2), (3, vI l3), (4, vI l4)] [] h) : ∀ (n : Nat) {l1 : Int32} {l2 : Int32} {l3 : Int32} {l4 : Int32} {l7 : Int32} {h : Hp}, fX5_bests_l124 x K29 n l1 l2 l3 l4 l7 h = some h' → X C D (h0, (.inl none), h') 8 124 [(0, vR (some x)), (1, vI l1), (2, vI l2), (3, vI l3), (4, vI l4), (7, vI l7)] [] h := by
  intro n
  induction n with
  | zero => intro l1 l2 l3 l4 l7 h hf; exact ab_no hf
  | succ n ih =>
    intro l1 l2 l3 l4 l7 h hf
    unfold fX5_bests_l124 at hf
    refine xr_iload A dX5_bests_124 5 rfl ?_
    refine xr_aload_n A dX5_bests_126 0 rfl rfl ?_
    revert hf; refine ab_bdI (fun v1 mv1 hf => ?_)
    refine xr_get A xc_X5 in_X5 20 (Nat.le_of_ble_eq_true rfl) q1318 rfl (ab_gIE mv1) dX5_bests_127 ?_
    refine xr_icmp_ge A (tgt := 153) dX5_bests_130 (by decide) (fun c130 => ?_) (fun c130 => ?_)
    · replace hf := ab_ip c130 hf
      refine xr_iinc A dX5_bests_153 4 rfl (v := (l4 + (1 : Int32))) rfl (Nat.le_of_ble_eq_true rfl) (L' := [(4, vI (l4 + (1 : Int32))), (0, vR (some x)), (1, vI l1), (2, vI l2), (3, vI l3), (7, vI l7)]) rfl ?_
      refine xr_goto A (tgt := 29) dX5_bests_156 (by decide) ?_
      refine X.sub [1, 2, 3, 4, 0] rfl ?_
      exact hK29 hf
    · replace hf := ab_in c130 hf
      refine xr_aload_n A dX5_bests_133 0 rfl rfl ?_
      revert hf; refine ab_bdI (fun v2 mv2 hf => ?_)
      refine xr_get A xc_X5 in_X5 26 (Nat.le_of_ble_eq_true rfl) q1324 rfl (ab_gRE mv2) dX5_bests_134 ?_
      refine xr_iload A dX5_bests_137 5 rfl ?_
      refine xr_aload_n A dX5_bests_139 0 rfl rfl ?_
      revert hf; refine ab_bdI (fun v3 mv3 hf => ?_)
      refine xr_get A xc_X5 in_X5 22 (Nat.le_of_ble_eq_true rfl) q1320 rfl (ab_gRE mv3) dX5_bests_140 ?_
      refine xr_iload A dX5_bests_143 5 rfl ?_
      revert hf; refine ab_bdI (fun a4 e hf => ?_); subst e
      revert hf; refine ab_bdI (fun v5 mv5 hf => ?_)
      refine xr_iaload A mv5 dX5_bests_145 ?_
      revert hf; refine ab_bdI (fun a6 e hf => ?_); subst e
      revert hf; refine ab_bdI (fun h7 mh7 hf => ?_)
      refine xr_iastore A mh7 dX5_bests_146 ?_
      refine xr_iinc A dX5_bests_147 5 rfl (v := (l7 + (1 : Int32))) rfl (Nat.le_of_ble_eq_true rfl) (L' := [(7, vI (l7 + (1 : Int32))), (0, vR (some x)), (1, vI l1), (2, vI l2), (3, vI l3), (4, vI l4)]) rfl ?_
      refine xr_goto A (tgt := 124) dX5_bests_150 (by decide) ?_
      refine X.sub [1, 2, 3, 4, 5, 0] rfl ?_
      exact ih hf
noncomputable def fX5_bests_b109 (x : Nat) (K29 : Int32 → Int32 → Int32 → Int32 → Hp → Option Hp) (l1 : Int32) (l2 : Int32) (l3 : Int32) (l4 : Int32) (l5 : Int32) (l6 : Int32) (h : Hp) : Option Hp :=
  ab_bd (ab_pI h x 4 24 l5) fun h1 =>
  ab_bd (ab_pI h1 x 4 25 l6) fun h2 =>
  fX5_bests_l124 x K29 (hfu h2) l1 l2 l3 l4 (0 : Int32) h2
theorem wX5_bests_b109 {D : Dd} {C : Cx} {h0 h' : Hp} (A : Act C D (h0, (.inl none), h') yX5_bests cX5_bests 8 (none : Option FieldType) 3 72 []) {x : Nat} {K29 : Int32 → Int32 → Int32 → Int32 → Hp → Option Hp} (hK29 : ∀ {l1 : Int32} {l2 : Int32} {l3 : Int32} {l4 : Int32} {h : Hp}, K29 l1 l2 l3 l4 h = some h' → X C D (h0, (.inl none), h') 8 29 [(0, vR (some x)), (1, vI l1), (2, vI l2), (3, vI l3), (4, vI l4)] [] h) {l1 : Int32} {l2 : Int32} {l3 : Int32} {l4 : Int32} {l5 : Int32} {l6 : Int32} {h : Hp} (hf : fX5_bests_b109 x K29 l1 l2 l3 l4 l5 l6 h = some h') : X C D (h0, (.inl none), h') 8 109 [(0, vR (some x)), (1, vI l1), (2, vI l2), (3, vI l3), (4, vI l4), (5, vI l5), (6, vI l6)] [] h := by
  unfold fX5_bests_b109 at hf
  refine xr_aload_n A dX5_bests_109 0 rfl rfl ?_
  refine xr_iload A dX5_bests_110 5 rfl ?_
  revert hf; refine ab_bdI (fun h1 mh1 hf => ?_)
  refine xr_put A xc_X5 in_X5 tyX5_ok nmX5 24 (Nat.le_of_ble_eq_true rfl) q1322 rfl rfl (v := vI l5) rfl rfl mh1 dX5_bests_112 ?_
  refine xr_aload_n A dX5_bests_115 0 rfl rfl ?_
  refine xr_iload A dX5_bests_116 6 rfl ?_
  revert hf; refine ab_bdI (fun h2 mh2 hf => ?_)
  refine xr_put A xc_X5 in_X5 tyX5_ok nmX5 25 (Nat.le_of_ble_eq_true rfl) q1323 rfl rfl (v := vI l6) rfl rfl mh2 dX5_bests_118 ?_
  refine xr_iconst A (v := 0) dX5_bests_121 (by decide) ?_
  refine xr_istore A dX5_bests_122 (Nat.le_of_ble_eq_true rfl) (L' := [(7, vI (0 : Int32)), (0, vR (some x)), (1, vI l1), (2, vI l2), (3, vI l3), (4, vI l4), (5, vI l5), (6, vI l6)]) rfl ?_
  refine X.sub [1, 2, 3, 4, 5, 0] rfl ?_
  exact wX5_bests_l124 A @hK29 _ hf
noncomputable def fX5_bests_l29 (x : Nat) : Nat → Int32 → Int32 → Int32 → Int32 → Hp → Option Hp
  | 0, _, _, _, _, _ => none
  | n + 1, l1, l2, l3, l4, h =>
  if l3 ≤ l4 then (
    some h)
  else (
    if l2 = 0 then (
      some h)
    else (
      ab_bd (fX5_ordered x l2 l4 h) fun h2 =>
      ab_bd (fX5_goes x l1 (0 : Int32) h2) fun h4 =>
      ab_bd (ab_gI h4 x 4 21) fun v5 =>
      ab_b2 (fX5_bits v5 h4) fun v8 h7 =>
      ab_bd (ab_gR h7 x 4 23) fun v9 =>
      ab_bd (ab_gI h7 x 4 20) fun v10 =>
      ab_bd v9 fun a11 =>
      ab_bd (ab_aI h7 a11 0 (v10 - (1 : Int32))) fun v12 =>
      if l4 ≤ 0 then (
        fX5_bests_b109 x (fX5_bests_l29 x n) l1 l2 l3 l4 v8 v12 h7)
      else (
        ab_bd (ab_gI h7 x 4 24) fun v13 =>
        if v13 < v8 then (
          fX5_bests_l29 x n l1 l2 l3 (l4 + (1 : Int32)) h7)
        else (
          ab_bd (ab_gI h7 x 4 24) fun v14 =>
          if v8 = v14 then (
            ab_bd (ab_gI h7 x 4 25) fun v15 =>
            if v12 < v15 then (
              fX5_bests_b109 x (fX5_bests_l29 x n) l1 l2 l3 l4 v8 v12 h7)
            else (
              fX5_bests_l29 x n l1 l2 l3 (l4 + (1 : Int32)) h7))
          else (
            fX5_bests_b109 x (fX5_bests_l29 x n) l1 l2 l3 l4 v8 v12 h7)))))
theorem wX5_bests_l29 {D : Dd} {C : Cx} {h0 h' : Hp} (A : Act C D (h0, (.inl none), h') yX5_bests cX5_bests 8 (none : Option FieldType) 3 72 []) {x : Nat} : ∀ (n : Nat) {l1 : Int32} {l2 : Int32} {l3 : Int32} {l4 : Int32} {h : Hp}, fX5_bests_l29 x n l1 l2 l3 l4 h = some h' → X C D (h0, (.inl none), h') 8 29 [(0, vR (some x)), (1, vI l1), (2, vI l2), (3, vI l3), (4, vI l4)] [] h := by
  intro n
  induction n with
  | zero => intro l1 l2 l3 l4 h hf; exact ab_no hf
  | succ n ih =>
    intro l1 l2 l3 l4 h hf
    unfold fX5_bests_l29 at hf
    refine xr_iload A dX5_bests_29 4 rfl ?_
    refine xr_iload_n A dX5_bests_31 3 rfl rfl ?_
    refine xr_icmp_ge A (tgt := 159) dX5_bests_32 (by decide) (fun c32 => ?_) (fun c32 => ?_)
    · replace hf := ab_ip c32 hf
      exact xr_return A hf dX5_bests_159
    · replace hf := ab_in c32 hf
      refine xr_iload_n A dX5_bests_35 2 rfl rfl ?_
      refine xr_if_eq A (tgt := 159) dX5_bests_36 (by decide) (fun c36 => ?_) (fun c36 => ?_)
      · replace hf := ab_ip c36 hf
        exact xr_return A hf dX5_bests_159
      · replace hf := ab_in c36 hf
        refine xr_aload_n A dX5_bests_39 0 rfl rfl ?_
        refine xr_iload_n A dX5_bests_40 2 rfl rfl ?_
        refine xr_iload A dX5_bests_41 4 rfl ?_
        revert hf; refine ab_bdI (fun h2 m1 hf => ?_)
        refine xr_V0 A bX5_ordered (wX5_ordered D m1).2 xc_X5 (wX5_ordered D m1).1 q1846 qs80 q1844 (av := [vI l2, vI l4]) (rest := []) rfl dX5_bests_43 (Nat.le_of_ble_eq_true rfl) (Nat.le_of_ble_eq_true rfl) rfl (Nat.le_of_ble_eq_true rfl) ?_
        refine xr_aload_n A dX5_bests_46 0 rfl rfl ?_
        refine xr_iload_n A dX5_bests_47 1 rfl rfl ?_
        refine xr_iconst A (v := 0) dX5_bests_48 (by decide) ?_
        revert hf; refine ab_bdI (fun h4 m3 hf => ?_)
        refine xr_V0 A bX5_goes (wX5_goes D m3).2 xc_X5 (wX5_goes D m3).1 q1793 qs74 q1791 (av := [vI l1, vI (0 : Int32)]) (rest := []) rfl dX5_bests_49 (Nat.le_of_ble_eq_true rfl) (Nat.le_of_ble_eq_true rfl) rfl (Nat.le_of_ble_eq_true rfl) ?_
        refine xr_aload_n A dX5_bests_52 0 rfl rfl ?_
        revert hf; refine ab_bdI (fun v5 mv5 hf => ?_)
        refine xr_get A xc_X5 in_X5 21 (Nat.le_of_ble_eq_true rfl) q1319 rfl (ab_gIE mv5) dX5_bests_53 ?_
        revert hf; refine ab_b2I (fun v8 h7 m6 hf => ?_)
        refine xr_S A bX5_bits (wX5_bits D m6) q1835 q1834 (av := [vI v5]) (rest := []) rfl dX5_bests_56 (Nat.le_of_ble_eq_true rfl) (Nat.le_of_ble_eq_true rfl) rfl (Nat.le_of_ble_eq_true rfl) ?_
        refine xr_istore A dX5_bests_59 (Nat.le_of_ble_eq_true rfl) (L' := [(5, vI v8), (0, vR (some x)), (1, vI l1), (2, vI l2), (3, vI l3), (4, vI l4)]) rfl ?_
        refine xr_aload_n A dX5_bests_61 1 rfl rfl ?_
        revert hf; refine ab_bdI (fun v9 mv9 hf => ?_)
        refine xr_get A xc_X5 in_X5 23 (Nat.le_of_ble_eq_true rfl) q1321 rfl (ab_gRE mv9) dX5_bests_62 ?_
        refine xr_aload_n A dX5_bests_65 1 rfl rfl ?_
        revert hf; refine ab_bdI (fun v10 mv10 hf => ?_)
        refine xr_get A xc_X5 in_X5 20 (Nat.le_of_ble_eq_true rfl) q1318 rfl (ab_gIE mv10) dX5_bests_66 ?_
        refine xr_iconst A (v := 1) dX5_bests_69 (by decide) ?_
        refine xr_isub A dX5_bests_70 ?_
        revert hf; refine ab_bdI (fun a11 e hf => ?_); subst e
        revert hf; refine ab_bdI (fun v12 mv12 hf => ?_)
        refine xr_iaload A mv12 dX5_bests_71 ?_
        refine xr_istore A dX5_bests_72 (Nat.le_of_ble_eq_true rfl) (L' := [(6, vI v12), (5, vI v8), (0, vR (some x)), (1, vI l1), (2, vI l2), (3, vI l3), (4, vI l4)]) rfl ?_
        refine xr_iload A dX5_bests_74 6 rfl ?_
        refine xr_if_le A (tgt := 109) dX5_bests_76 (by decide) (fun c76 => ?_) (fun c76 => ?_)
        · replace hf := ab_ip c76 hf
          refine X.sub [2, 3, 4, 5, 6, 1, 0] rfl ?_
          exact wX5_bests_b109 A (fun hf => ih hf) hf
        · replace hf := ab_in c76 hf
          refine xr_iload A dX5_bests_79 1 rfl ?_
          refine xr_aload_n A dX5_bests_81 2 rfl rfl ?_
          revert hf; refine ab_bdI (fun v13 mv13 hf => ?_)
          refine xr_get A xc_X5 in_X5 24 (Nat.le_of_ble_eq_true rfl) q1322 rfl (ab_gIE mv13) dX5_bests_82 ?_
          refine xr_icmp_gt A (tgt := 153) dX5_bests_85 (by decide) (fun c85 => ?_) (fun c85 => ?_)
          · replace hf := ab_ip c85 hf
            refine xr_iinc A dX5_bests_153 6 rfl (v := (l4 + (1 : Int32))) rfl (Nat.le_of_ble_eq_true rfl) (L' := [(4, vI (l4 + (1 : Int32))), (6, vI v12), (5, vI v8), (0, vR (some x)), (1, vI l1), (2, vI l2), (3, vI l3)]) rfl ?_
            refine xr_goto A (tgt := 29) dX5_bests_156 (by decide) ?_
            refine X.sub [3, 4, 5, 6, 0] rfl ?_
            exact ih hf
          · replace hf := ab_in c85 hf
            refine xr_iload A dX5_bests_88 1 rfl ?_
            refine xr_aload_n A dX5_bests_90 2 rfl rfl ?_
            revert hf; refine ab_bdI (fun v14 mv14 hf => ?_)
            refine xr_get A xc_X5 in_X5 24 (Nat.le_of_ble_eq_true rfl) q1322 rfl (ab_gIE mv14) dX5_bests_91 ?_
            refine xr_icmp_ne A (tgt := 109) dX5_bests_94 (by decide) (fun c94 => ?_) (fun c94 => ?_)
            · replace hf := ab_in c94 hf
              refine X.sub [2, 3, 4, 5, 6, 1, 0] rfl ?_
              exact wX5_bests_b109 A (fun hf => ih hf) hf
            · replace hf := ab_ip c94 hf
              refine xr_iload A dX5_bests_97 0 rfl ?_
              refine xr_aload_n A dX5_bests_99 2 rfl rfl ?_
              revert hf; refine ab_bdI (fun v15 mv15 hf => ?_)
              refine xr_get A xc_X5 in_X5 25 (Nat.le_of_ble_eq_true rfl) q1323 rfl (ab_gIE mv15) dX5_bests_100 ?_
              refine xr_icmp_lt A (tgt := 109) dX5_bests_103 (by decide) (fun c103 => ?_) (fun c103 => ?_)
              · replace hf := ab_ip c103 hf
                refine X.sub [2, 3, 4, 5, 6, 1, 0] rfl ?_
                exact wX5_bests_b109 A (fun hf => ih hf) hf
              · replace hf := ab_in c103 hf
                refine xr_goto A (tgt := 153) dX5_bests_106 (by decide) ?_
                refine xr_iinc A dX5_bests_153 6 rfl (v := (l4 + (1 : Int32))) rfl (Nat.le_of_ble_eq_true rfl) (L' := [(4, vI (l4 + (1 : Int32))), (6, vI v12), (5, vI v8), (0, vR (some x)), (1, vI l1), (2, vI l2), (3, vI l3)]) rfl ?_
                refine xr_goto A (tgt := 29) dX5_bests_156 (by decide) ?_
                refine X.sub [3, 4, 5, 6, 0] rfl ?_
                exact ih hf
noncomputable def fX5_bests (x : Nat) (p1 : Int32) (p2 : Int32) (h : Hp) : Option Hp :=
  ab_ck h x 4 <|
  ab_bd (ab_pI h x 4 24 (0 : Int32)) fun h1 =>
  ab_bd (ab_gR h1 x 4 3) fun v2 =>
  ab_bd v2 fun a3 =>
  ab_bd (ab_gR h1 a3 13 27) fun v4 =>
  ab_bd v4 fun a5 =>
  ab_bd (ab_aI h1 a5 0 p1) fun v6 =>
  ab_bd (ab_pI h1 x 4 25 v6) fun h7 =>
  ab_b2 (fX5_bits p2 h7) fun v10 h9 =>
  ab_b2 (fX5_orders v10 h9) fun v13 h12 =>
  fX5_bests_l29 x (hfu h12) p1 p2 v13 (0 : Int32) h12
theorem wX5_bests (D : Dd) {x : Nat} {p1 : Int32} {p2 : Int32} {h : Hp} {h' : Hp} (hf : fX5_bests x p1 p2 h = some h') : ab_is h x 4 ∧ Ct D 3 72 yX5_bests cX5_bests 8 (none : Option FieldType) [vR (some x), vI p1, vI p2] h (.inl none) h' := by
    unfold fX5_bests at hf
    replace hf := ab_ckE hf; obtain ⟨i0, hf⟩ := hf
    refine ⟨i0, ?_⟩
    refine Ct.of (by decide) (L := [(0, vR (some x)), (1, vI p1), (2, vI p2)]) rfl (Nat.le_of_ble_eq_true rfl) (fun C A => ?_)
    refine xr_aload_n A dX5_bests_0 0 rfl rfl ?_
    refine xr_iconst A (v := 0) dX5_bests_1 (by decide) ?_
    revert hf; refine ab_bdI (fun h1 mh1 hf => ?_)
    refine xr_put A xc_X5 in_X5 tyX5_ok nmX5 24 (Nat.le_of_ble_eq_true rfl) q1322 rfl rfl (v := vI (0 : Int32)) rfl rfl mh1 dX5_bests_2 ?_
    refine xr_aload_n A dX5_bests_5 0 rfl rfl ?_
    refine xr_aload_n A dX5_bests_6 0 rfl rfl ?_
    revert hf; refine ab_bdI (fun v2 mv2 hf => ?_)
    refine xr_get A xc_X5 in_X5 3 (Nat.le_of_ble_eq_true rfl) q1301 rfl (ab_gRE mv2) dX5_bests_7 ?_
    revert hf; refine ab_bdI (fun a3 e hf => ?_); subst e
    revert hf; refine ab_bdI (fun v4 mv4 hf => ?_)
    refine xr_getN A xc_X15 in_X15 27 (Nat.le_of_ble_eq_true rfl) n1506 rfl (ab_gRE mv4) dX5_bests_10 ?_
    refine xr_iload_n A dX5_bests_13 1 rfl rfl ?_
    revert hf; refine ab_bdI (fun a5 e hf => ?_); subst e
    revert hf; refine ab_bdI (fun v6 mv6 hf => ?_)
    refine xr_iaload A mv6 dX5_bests_14 ?_
    revert hf; refine ab_bdI (fun h7 mh7 hf => ?_)
    refine xr_put A xc_X5 in_X5 tyX5_ok nmX5 25 (Nat.le_of_ble_eq_true rfl) q1323 rfl rfl (v := vI v6) rfl rfl mh7 dX5_bests_15 ?_
    refine xr_iload_n A dX5_bests_18 2 rfl rfl ?_
    revert hf; refine ab_b2I (fun v10 h9 m8 hf => ?_)
    refine xr_S A bX5_bits (wX5_bits D m8) q1835 q1834 (av := [vI p2]) (rest := []) rfl dX5_bests_19 (Nat.le_of_ble_eq_true rfl) (Nat.le_of_ble_eq_true rfl) rfl (Nat.le_of_ble_eq_true rfl) ?_
    revert hf; refine ab_b2I (fun v13 h12 m11 hf => ?_)
    refine xr_S A bX5_orders (wX5_orders D m11) q1842 q1841 (av := [vI v10]) (rest := []) rfl dX5_bests_22 (Nat.le_of_ble_eq_true rfl) (Nat.le_of_ble_eq_true rfl) rfl (Nat.le_of_ble_eq_true rfl) ?_
    refine xr_istore_n A dX5_bests_25 rfl (Nat.le_of_ble_eq_true rfl) (L' := [(3, vI v13), (0, vR (some x)), (1, vI p1), (2, vI p2)]) rfl ?_
    refine xr_iconst A (v := 0) dX5_bests_26 (by decide) ?_
    refine xr_istore A dX5_bests_27 (Nat.le_of_ble_eq_true rfl) (L' := [(4, vI (0 : Int32)), (3, vI v13), (0, vR (some x)), (1, vI p1), (2, vI p2)]) rfl ?_
    refine X.sub [2, 3, 4, 1, 0] rfl ?_
    exact wX5_bests_l29 A _ hf
/-! X5_best -/
theorem bX5_best : MB yX5_best cX5_best 4 (some FieldType.int) 2 := ⟨q1829, q99, by decide, by decide +kernel⟩
noncomputable def fX5_best (x : Nat) (p1 : Int32) (p2 : Int32) (h : Hp) : Option (Int32 × Hp) :=
  ab_ck h x 4 <|
  ab_bd (ab_pI h x 4 0 (0 : Int32)) fun h1 =>
  ab_b2 (fX5_refusesBest x p1 p2 h1) fun v4 h3 =>
  if v4 ≤ 0 then (
    ab_bd (fX5_bests x p1 p2 h3) fun h6 =>
    ab_bd (ab_gI h6 x 4 24) fun v7 =>
    ab_bd (ab_gI h6 x 4 25) fun v8 =>
    ab_b2 (fX5_done x (((10000 : Int32) * v7) + v8) h6) fun v11 h10 =>
    some (v11, h10))
  else (
    ab_b2 (fX5_refused x v4 h3) fun v14 h13 =>
    some (v14, h13))
theorem wX5_best (D : Dd) {x : Nat} {p1 : Int32} {p2 : Int32} {h : Hp} {r : Int32} {h' : Hp} (hf : fX5_best x p1 p2 h = some (r, h')) : ab_is h x 4 ∧ Ct D 4 99 yX5_best cX5_best 4 (some FieldType.int) [vR (some x), vI p1, vI p2] h (.inl (some (vI r))) h' := by
    unfold fX5_best at hf
    replace hf := ab_ckE hf; obtain ⟨i0, hf⟩ := hf
    refine ⟨i0, ?_⟩
    refine Ct.of (by decide) (L := [(0, vR (some x)), (1, vI p1), (2, vI p2)]) rfl (Nat.le_of_ble_eq_true rfl) (fun C A => ?_)
    refine xr_aload_n A dX5_best_0 0 rfl rfl ?_
    refine xr_iconst A (v := 0) dX5_best_1 (by decide) ?_
    revert hf; refine ab_bdI (fun h1 mh1 hf => ?_)
    refine xr_put A xc_X5 in_X5 tyX5_ok nmX5 0 (Nat.le_of_ble_eq_true rfl) q1298 rfl rfl (v := vI (0 : Int32)) rfl rfl mh1 dX5_best_2 ?_
    refine xr_aload_n A dX5_best_5 0 rfl rfl ?_
    refine xr_iload_n A dX5_best_6 1 rfl rfl ?_
    refine xr_iload_n A dX5_best_7 2 rfl rfl ?_
    revert hf; refine ab_b2I (fun v4 h3 m2 hf => ?_)
    refine xr_V A bX5_refusesBest (wX5_refusesBest D m2).2 xc_X5 (wX5_refusesBest D m2).1 q1832 qs78 q1830 (av := [vI p1, vI p2]) (rest := []) rfl dX5_best_8 (Nat.le_of_ble_eq_true rfl) (Nat.le_of_ble_eq_true rfl) rfl (Nat.le_of_ble_eq_true rfl) ?_
    refine xr_istore_n A dX5_best_11 rfl (Nat.le_of_ble_eq_true rfl) (L' := [(3, vI v4), (0, vR (some x)), (1, vI p1), (2, vI p2)]) rfl ?_
    refine xr_iload_n A dX5_best_12 0 rfl rfl ?_
    refine xr_if_le A (tgt := 22) dX5_best_13 (by decide) (fun c13 => ?_) (fun c13 => ?_)
    · replace hf := ab_ip c13 hf
      refine xr_aload_n A dX5_best_22 1 rfl rfl ?_
      refine xr_iload_n A dX5_best_23 2 rfl rfl ?_
      refine xr_iload_n A dX5_best_24 3 rfl rfl ?_
      revert hf; refine ab_bdI (fun h6 m5 hf => ?_)
      refine xr_V0 A bX5_bests (wX5_bests D m5).2 xc_X5 (wX5_bests D m5).1 q1839 qs79 q1837 (av := [vI p1, vI p2]) (rest := []) rfl dX5_best_25 (Nat.le_of_ble_eq_true rfl) (Nat.le_of_ble_eq_true rfl) rfl (Nat.le_of_ble_eq_true rfl) ?_
      refine xr_aload_n A dX5_best_28 1 rfl rfl ?_
      refine xr_sipush A (v := 10000) dX5_best_29 (by decide) ?_
      refine xr_aload_n A dX5_best_32 1 rfl rfl ?_
      revert hf; refine ab_bdI (fun v7 mv7 hf => ?_)
      refine xr_get A xc_X5 in_X5 24 (Nat.le_of_ble_eq_true rfl) q1322 rfl (ab_gIE mv7) dX5_best_33 ?_
      refine xr_imul A dX5_best_36 ?_
      refine xr_aload_n A dX5_best_37 1 rfl rfl ?_
      revert hf; refine ab_bdI (fun v8 mv8 hf => ?_)
      refine xr_get A xc_X5 in_X5 25 (Nat.le_of_ble_eq_true rfl) q1323 rfl (ab_gIE mv8) dX5_best_38 ?_
      refine xr_iadd A dX5_best_41 ?_
      revert hf; refine ab_b2I (fun v11 h10 m9 hf => ?_)
      refine xr_V A bX5_done (wX5_done D m9).2 xc_X5 (wX5_done D m9).1 q1749 qs69 q1747 (av := [vI (((10000 : Int32) * v7) + v8)]) (rest := []) rfl dX5_best_42 (Nat.le_of_ble_eq_true rfl) (Nat.le_of_ble_eq_true rfl) rfl (Nat.le_of_ble_eq_true rfl) ?_
      exact xr_ireturn A rfl hf dX5_best_45
    · replace hf := ab_in c13 hf
      refine xr_aload_n A dX5_best_16 1 rfl rfl ?_
      refine xr_iload_n A dX5_best_17 0 rfl rfl ?_
      revert hf; refine ab_b2I (fun v14 h13 m12 hf => ?_)
      refine xr_V A bX5_refused (wX5_refused D m12).2 xc_X5 (wX5_refused D m12).1 q1451 qs44 q1449 (av := [vI v4]) (rest := []) rfl dX5_best_18 (Nat.le_of_ble_eq_true rfl) (Nat.le_of_ble_eq_true rfl) rfl (Nat.le_of_ble_eq_true rfl) ?_
      exact xr_ireturn A rfl hf dX5_best_21
/-! X5_bestAt -/
theorem bX5_bestAt : MB yX5_bestAt cX5_bestAt 5 (some FieldType.int) 3 := ⟨q1851, q99, by decide, by decide +kernel⟩
noncomputable def fX5_bestAt (x : Nat) (p1 : Int32) (p2 : Int32) (p3 : Int32) (h : Hp) : Option (Int32 × Hp) :=
  ab_ck h x 4 <|
  ab_bd (ab_pI h x 4 0 (0 : Int32)) fun h1 =>
  ab_b2 (fX5_refusesBest x p1 p2 h1) fun v4 h3 =>
  if v4 ≤ 0 then (
    if p3 < 0 then (
      ab_b2 (fX5_refused x (1 : Int32) h3) fun v7 h6 =>
      some (v7, h6))
    else (
      ab_b2 (fX5_bits p2 h3) fun v10 h9 =>
      if p3 < v10 then (
        ab_bd (fX5_bests x p1 p2 h9) fun h12 =>
        ab_bd (ab_gR h12 x 4 26) fun v13 =>
        ab_bd v13 fun a14 =>
        ab_bd (ab_aI h12 a14 0 p3) fun v15 =>
        ab_b2 (fX5_done x v15 h12) fun v18 h17 =>
        some (v18, h17))
      else (
        ab_b2 (fX5_refused x (1 : Int32) h9) fun v21 h20 =>
        some (v21, h20))))
  else (
    ab_b2 (fX5_refused x v4 h3) fun v24 h23 =>
    some (v24, h23))
theorem wX5_bestAt (D : Dd) {x : Nat} {p1 : Int32} {p2 : Int32} {p3 : Int32} {h : Hp} {r : Int32} {h' : Hp} (hf : fX5_bestAt x p1 p2 p3 h = some (r, h')) : ab_is h x 4 ∧ Ct D 4 99 yX5_bestAt cX5_bestAt 5 (some FieldType.int) [vR (some x), vI p1, vI p2, vI p3] h (.inl (some (vI r))) h' := by
    unfold fX5_bestAt at hf
    replace hf := ab_ckE hf; obtain ⟨i0, hf⟩ := hf
    refine ⟨i0, ?_⟩
    refine Ct.of (by decide) (L := [(0, vR (some x)), (1, vI p1), (2, vI p2), (3, vI p3)]) rfl (Nat.le_of_ble_eq_true rfl) (fun C A => ?_)
    refine xr_aload_n A dX5_bestAt_0 0 rfl rfl ?_
    refine xr_iconst A (v := 0) dX5_bestAt_1 (by decide) ?_
    revert hf; refine ab_bdI (fun h1 mh1 hf => ?_)
    refine xr_put A xc_X5 in_X5 tyX5_ok nmX5 0 (Nat.le_of_ble_eq_true rfl) q1298 rfl rfl (v := vI (0 : Int32)) rfl rfl mh1 dX5_bestAt_2 ?_
    refine xr_aload_n A dX5_bestAt_5 0 rfl rfl ?_
    refine xr_iload_n A dX5_bestAt_6 1 rfl rfl ?_
    refine xr_iload_n A dX5_bestAt_7 2 rfl rfl ?_
    revert hf; refine ab_b2I (fun v4 h3 m2 hf => ?_)
    refine xr_V A bX5_refusesBest (wX5_refusesBest D m2).2 xc_X5 (wX5_refusesBest D m2).1 q1832 qs78 q1830 (av := [vI p1, vI p2]) (rest := []) rfl dX5_bestAt_8 (Nat.le_of_ble_eq_true rfl) (Nat.le_of_ble_eq_true rfl) rfl (Nat.le_of_ble_eq_true rfl) ?_
    refine xr_istore A dX5_bestAt_11 (Nat.le_of_ble_eq_true rfl) (L' := [(4, vI v4), (0, vR (some x)), (1, vI p1), (2, vI p2), (3, vI p3)]) rfl ?_
    refine xr_iload A dX5_bestAt_13 0 rfl ?_
    refine xr_if_le A (tgt := 25) dX5_bestAt_15 (by decide) (fun c15 => ?_) (fun c15 => ?_)
    · replace hf := ab_ip c15 hf
      refine xr_iload_n A dX5_bestAt_25 4 rfl rfl ?_
      refine xr_if_lt A (tgt := 37) dX5_bestAt_26 (by decide) (fun c26 => ?_) (fun c26 => ?_)
      · replace hf := ab_ip c26 hf
        refine xr_aload_n A dX5_bestAt_37 1 rfl rfl ?_
        refine xr_iconst A (v := 1) dX5_bestAt_38 (by decide) ?_
        revert hf; refine ab_b2I (fun v7 h6 m5 hf => ?_)
        refine xr_V A bX5_refused (wX5_refused D m5).2 xc_X5 (wX5_refused D m5).1 q1451 qs44 q1449 (av := [vI (1 : Int32)]) (rest := []) rfl dX5_bestAt_39 (Nat.le_of_ble_eq_true rfl) (Nat.le_of_ble_eq_true rfl) rfl (Nat.le_of_ble_eq_true rfl) ?_
        exact xr_ireturn A rfl hf dX5_bestAt_42
      · replace hf := ab_in c26 hf
        refine xr_iload_n A dX5_bestAt_29 4 rfl rfl ?_
        refine xr_iload_n A dX5_bestAt_30 3 rfl rfl ?_
        revert hf; refine ab_b2I (fun v10 h9 m8 hf => ?_)
        refine xr_S A bX5_bits (wX5_bits D m8) q1835 q1834 (av := [vI p2]) (rest := [vI p3]) rfl dX5_bestAt_31 (Nat.le_of_ble_eq_true rfl) (Nat.le_of_ble_eq_true rfl) rfl (Nat.le_of_ble_eq_true rfl) ?_
        refine xr_icmp_lt A (tgt := 43) dX5_bestAt_34 (by decide) (fun c34 => ?_) (fun c34 => ?_)
        · replace hf := ab_ip c34 hf
          refine xr_aload_n A dX5_bestAt_43 1 rfl rfl ?_
          refine xr_iload_n A dX5_bestAt_44 2 rfl rfl ?_
          refine xr_iload_n A dX5_bestAt_45 3 rfl rfl ?_
          revert hf; refine ab_bdI (fun h12 m11 hf => ?_)
          refine xr_V0 A bX5_bests (wX5_bests D m11).2 xc_X5 (wX5_bests D m11).1 q1839 qs79 q1837 (av := [vI p1, vI p2]) (rest := []) rfl dX5_bestAt_46 (Nat.le_of_ble_eq_true rfl) (Nat.le_of_ble_eq_true rfl) rfl (Nat.le_of_ble_eq_true rfl) ?_
          refine xr_aload_n A dX5_bestAt_49 1 rfl rfl ?_
          refine xr_aload_n A dX5_bestAt_50 1 rfl rfl ?_
          revert hf; refine ab_bdI (fun v13 mv13 hf => ?_)
          refine xr_get A xc_X5 in_X5 26 (Nat.le_of_ble_eq_true rfl) q1324 rfl (ab_gRE mv13) dX5_bestAt_51 ?_
          refine xr_iload_n A dX5_bestAt_54 4 rfl rfl ?_
          revert hf; refine ab_bdI (fun a14 e hf => ?_); subst e
          revert hf; refine ab_bdI (fun v15 mv15 hf => ?_)
          refine xr_iaload A mv15 dX5_bestAt_55 ?_
          revert hf; refine ab_b2I (fun v18 h17 m16 hf => ?_)
          refine xr_V A bX5_done (wX5_done D m16).2 xc_X5 (wX5_done D m16).1 q1749 qs69 q1747 (av := [vI v15]) (rest := []) rfl dX5_bestAt_56 (Nat.le_of_ble_eq_true rfl) (Nat.le_of_ble_eq_true rfl) rfl (Nat.le_of_ble_eq_true rfl) ?_
          exact xr_ireturn A rfl hf dX5_bestAt_59
        · replace hf := ab_in c34 hf
          refine xr_aload_n A dX5_bestAt_37 1 rfl rfl ?_
          refine xr_iconst A (v := 1) dX5_bestAt_38 (by decide) ?_
          revert hf; refine ab_b2I (fun v21 h20 m19 hf => ?_)
          refine xr_V A bX5_refused (wX5_refused D m19).2 xc_X5 (wX5_refused D m19).1 q1451 qs44 q1449 (av := [vI (1 : Int32)]) (rest := []) rfl dX5_bestAt_39 (Nat.le_of_ble_eq_true rfl) (Nat.le_of_ble_eq_true rfl) rfl (Nat.le_of_ble_eq_true rfl) ?_
          exact xr_ireturn A rfl hf dX5_bestAt_42
    · replace hf := ab_in c15 hf
      refine xr_aload_n A dX5_bestAt_18 1 rfl rfl ?_
      refine xr_iload A dX5_bestAt_19 0 rfl ?_
      revert hf; refine ab_b2I (fun v24 h23 m22 hf => ?_)
      refine xr_V A bX5_refused (wX5_refused D m22).2 xc_X5 (wX5_refused D m22).1 q1451 qs44 q1449 (av := [vI v4]) (rest := []) rfl dX5_bestAt_21 (Nat.le_of_ble_eq_true rfl) (Nat.le_of_ble_eq_true rfl) rfl (Nat.le_of_ble_eq_true rfl) ?_
      exact xr_ireturn A rfl hf dX5_bestAt_24
/-! X5_weighsCars -/
theorem bX5_weighsCars : MB yX5_weighsCars cX5_weighsCars 3 (none : Option FieldType) 0 := ⟨q1859, q99, by decide, by decide +kernel⟩
noncomputable def fX5_weighsCars_l15 (x : Nat) (K2 : Int32 → Hp → Option Hp) : Nat → Int32 → Int32 → Hp → Option Hp
  | 0, _, _, _ => none
  | n + 1, l1, l2, h =>
  ab_bd (ab_gR h x 4 3) fun v1 =>
  ab_bd v1 fun a2 =>
  ab_bd (ab_gI h a2 13 5) fun v3 =>
  if ((1 : Int32) <<< (v3 &&& 31)) ≤ l2 then (
    K2 (l1 + (1 : Int32)) h)
  else (
    ab_b2 (fX5_bits l2 h) fun v6 h5 =>
    ab_bd (ab_gR h5 x 4 3) fun v7 =>
    ab_bd v7 fun a8 =>
    ab_bd (ab_gR h5 a8 13 28) fun v9 =>
    ab_bd v9 fun a10 =>
    ab_bd (ab_aI h5 a10 0 l1) fun v11 =>
    if v6 ≤ v11 then (
      ab_bd (fX5_bests x l1 l2 h5) fun h13 =>
      ab_bd (ab_gR h13 x 4 29) fun v14 =>
      ab_bd (ab_gI h13 x 4 24) fun v15 =>
      ab_bd v14 fun a16 =>
      ab_bd (ab_sI h13 a16 ((l1 <<< ((6 : Int32) &&& 31)) + l2) v15) fun h17 =>
      ab_bd (ab_gR h17 x 4 30) fun v18 =>
      if l2 = 0 then (
        ab_bd v18 fun a22 =>
        ab_bd (ab_sI h17 a22 ((l1 <<< ((6 : Int32) &&& 31)) + l2) (0 : Int32)) fun h23 =>
        fX5_weighsCars_l15 x K2 n l1 (l2 + (1 : Int32)) h23)
      else (
        ab_bd (ab_gI h17 x 4 25) fun v19 =>
        ab_bd v18 fun a20 =>
        ab_bd (ab_sI h17 a20 ((l1 <<< ((6 : Int32) &&& 31)) + l2) v19) fun h21 =>
        fX5_weighsCars_l15 x K2 n l1 (l2 + (1 : Int32)) h21))
    else (
      fX5_weighsCars_l15 x K2 n l1 (l2 + (1 : Int32)) h5))
theorem wX5_weighsCars_l15 {D : Dd} {C : Cx} {h0 h' : Hp} (A : Act C D (h0, (.inl none), h') yX5_weighsCars cX5_weighsCars 3 (none : Option FieldType) 4 99 []) {x : Nat} {K2 : Int32 → Hp → Option Hp} (hK2 : ∀ {l1 : Int32} {h : Hp}, K2 l1 h = some h' → X C D (h0, (.inl none), h') 3 2 [(0, vR (some x)), (1, vI l1)] [] h) : ∀ (n : Nat) {l1 : Int32} {l2 : Int32} {h : Hp}, fX5_weighsCars_l15 x K2 n l1 l2 h = some h' → X C D (h0, (.inl none), h') 3 15 [(0, vR (some x)), (1, vI l1), (2, vI l2)] [] h := by
  intro n
  induction n with
  | zero => intro l1 l2 h hf; exact ab_no hf
  | succ n ih =>
    intro l1 l2 h hf
    unfold fX5_weighsCars_l15 at hf
    refine xr_iload_n A dX5_weighsCars_15 2 rfl rfl ?_
    refine xr_iconst A (v := 1) dX5_weighsCars_16 (by decide) ?_
    refine xr_aload_n A dX5_weighsCars_17 0 rfl rfl ?_
    revert hf; refine ab_bdI (fun v1 mv1 hf => ?_)
    refine xr_get A xc_X5 in_X5 3 (Nat.le_of_ble_eq_true rfl) q1301 rfl (ab_gRE mv1) dX5_weighsCars_18 ?_
    revert hf; refine ab_bdI (fun a2 e hf => ?_); subst e
    revert hf; refine ab_bdI (fun v3 mv3 hf => ?_)
    refine xr_getN A xc_X15 in_X15 5 (Nat.le_of_ble_eq_true rfl) n1465 rfl (ab_gIE mv3) dX5_weighsCars_21 ?_
    refine xr_ishl A dX5_weighsCars_24 ?_
    refine xr_icmp_ge A (tgt := 97) dX5_weighsCars_25 (by decide) (fun c25 => ?_) (fun c25 => ?_)
    · replace hf := ab_ip c25 hf
      refine xr_iinc A dX5_weighsCars_97 1 rfl (v := (l1 + (1 : Int32))) rfl (Nat.le_of_ble_eq_true rfl) (L' := [(1, vI (l1 + (1 : Int32))), (0, vR (some x)), (2, vI l2)]) rfl ?_
      refine xr_goto A (tgt := 2) dX5_weighsCars_100 (by decide) ?_
      refine X.sub [1, 0] rfl ?_
      exact hK2 hf
    · replace hf := ab_in c25 hf
      refine xr_iload_n A dX5_weighsCars_28 2 rfl rfl ?_
      revert hf; refine ab_b2I (fun v6 h5 m4 hf => ?_)
      refine xr_S A bX5_bits (wX5_bits D m4) q1835 q1834 (av := [vI l2]) (rest := []) rfl dX5_weighsCars_29 (Nat.le_of_ble_eq_true rfl) (Nat.le_of_ble_eq_true rfl) rfl (Nat.le_of_ble_eq_true rfl) ?_
      refine xr_aload_n A dX5_weighsCars_32 0 rfl rfl ?_
      revert hf; refine ab_bdI (fun v7 mv7 hf => ?_)
      refine xr_get A xc_X5 in_X5 3 (Nat.le_of_ble_eq_true rfl) q1301 rfl (ab_gRE mv7) dX5_weighsCars_33 ?_
      revert hf; refine ab_bdI (fun a8 e hf => ?_); subst e
      revert hf; refine ab_bdI (fun v9 mv9 hf => ?_)
      refine xr_getN A xc_X15 in_X15 28 (Nat.le_of_ble_eq_true rfl) n1508 rfl (ab_gRE mv9) dX5_weighsCars_36 ?_
      refine xr_iload_n A dX5_weighsCars_39 1 rfl rfl ?_
      revert hf; refine ab_bdI (fun a10 e hf => ?_); subst e
      revert hf; refine ab_bdI (fun v11 mv11 hf => ?_)
      refine xr_iaload A mv11 dX5_weighsCars_40 ?_
      refine xr_icmp_le A (tgt := 47) dX5_weighsCars_41 (by decide) (fun c41 => ?_) (fun c41 => ?_)
      · replace hf := ab_ip c41 hf
        refine xr_aload_n A dX5_weighsCars_47 0 rfl rfl ?_
        refine xr_iload_n A dX5_weighsCars_48 1 rfl rfl ?_
        refine xr_iload_n A dX5_weighsCars_49 2 rfl rfl ?_
        revert hf; refine ab_bdI (fun h13 m12 hf => ?_)
        refine xr_V0 A bX5_bests (wX5_bests D m12).2 xc_X5 (wX5_bests D m12).1 q1839 qs79 q1837 (av := [vI l1, vI l2]) (rest := []) rfl dX5_weighsCars_50 (Nat.le_of_ble_eq_true rfl) (Nat.le_of_ble_eq_true rfl) rfl (Nat.le_of_ble_eq_true rfl) ?_
        refine xr_aload_n A dX5_weighsCars_53 0 rfl rfl ?_
        revert hf; refine ab_bdI (fun v14 mv14 hf => ?_)
        refine xr_get A xc_X5 in_X5 29 (Nat.le_of_ble_eq_true rfl) q1327 rfl (ab_gRE mv14) dX5_weighsCars_54 ?_
        refine xr_iload_n A dX5_weighsCars_57 1 rfl rfl ?_
        refine xr_bipush A (v := 6) dX5_weighsCars_58 (by decide) ?_
        refine xr_ishl A dX5_weighsCars_60 ?_
        refine xr_iload_n A dX5_weighsCars_61 2 rfl rfl ?_
        refine xr_iadd A dX5_weighsCars_62 ?_
        refine xr_aload_n A dX5_weighsCars_63 0 rfl rfl ?_
        revert hf; refine ab_bdI (fun v15 mv15 hf => ?_)
        refine xr_get A xc_X5 in_X5 24 (Nat.le_of_ble_eq_true rfl) q1322 rfl (ab_gIE mv15) dX5_weighsCars_64 ?_
        revert hf; refine ab_bdI (fun a16 e hf => ?_); subst e
        revert hf; refine ab_bdI (fun h17 mh17 hf => ?_)
        refine xr_iastore A mh17 dX5_weighsCars_67 ?_
        refine xr_aload_n A dX5_weighsCars_68 0 rfl rfl ?_
        revert hf; refine ab_bdI (fun v18 mv18 hf => ?_)
        refine xr_get A xc_X5 in_X5 30 (Nat.le_of_ble_eq_true rfl) q1328 rfl (ab_gRE mv18) dX5_weighsCars_69 ?_
        refine xr_iload_n A dX5_weighsCars_72 1 rfl rfl ?_
        refine xr_bipush A (v := 6) dX5_weighsCars_73 (by decide) ?_
        refine xr_ishl A dX5_weighsCars_75 ?_
        refine xr_iload_n A dX5_weighsCars_76 2 rfl rfl ?_
        refine xr_iadd A dX5_weighsCars_77 ?_
        refine xr_iload_n A dX5_weighsCars_78 2 rfl rfl ?_
        refine xr_if_ne A (tgt := 86) dX5_weighsCars_79 (by decide) (fun c79 => ?_) (fun c79 => ?_)
        · replace hf := ab_in c79 hf
          refine xr_aload_n A dX5_weighsCars_86 0 rfl rfl ?_
          revert hf; refine ab_bdI (fun v19 mv19 hf => ?_)
          refine xr_get A xc_X5 in_X5 25 (Nat.le_of_ble_eq_true rfl) q1323 rfl (ab_gIE mv19) dX5_weighsCars_87 ?_
          revert hf; refine ab_bdI (fun a20 e hf => ?_); subst e
          revert hf; refine ab_bdI (fun h21 mh21 hf => ?_)
          refine xr_iastore A mh21 dX5_weighsCars_90 ?_
          refine xr_iinc A dX5_weighsCars_91 2 rfl (v := (l2 + (1 : Int32))) rfl (Nat.le_of_ble_eq_true rfl) (L' := [(2, vI (l2 + (1 : Int32))), (0, vR (some x)), (1, vI l1)]) rfl ?_
          refine xr_goto A (tgt := 15) dX5_weighsCars_94 (by decide) ?_
          refine X.sub [1, 2, 0] rfl ?_
          exact ih hf
        · replace hf := ab_ip c79 hf
          refine xr_iconst A (v := 0) dX5_weighsCars_82 (by decide) ?_
          refine xr_goto A (tgt := 90) dX5_weighsCars_83 (by decide) ?_
          revert hf; refine ab_bdI (fun a22 e hf => ?_); subst e
          revert hf; refine ab_bdI (fun h23 mh23 hf => ?_)
          refine xr_iastore A mh23 dX5_weighsCars_90 ?_
          refine xr_iinc A dX5_weighsCars_91 2 rfl (v := (l2 + (1 : Int32))) rfl (Nat.le_of_ble_eq_true rfl) (L' := [(2, vI (l2 + (1 : Int32))), (0, vR (some x)), (1, vI l1)]) rfl ?_
          refine xr_goto A (tgt := 15) dX5_weighsCars_94 (by decide) ?_
          refine X.sub [1, 2, 0] rfl ?_
          exact ih hf
      · replace hf := ab_in c41 hf
        refine xr_goto A (tgt := 91) dX5_weighsCars_44 (by decide) ?_
        refine xr_iinc A dX5_weighsCars_91 2 rfl (v := (l2 + (1 : Int32))) rfl (Nat.le_of_ble_eq_true rfl) (L' := [(2, vI (l2 + (1 : Int32))), (0, vR (some x)), (1, vI l1)]) rfl ?_
        refine xr_goto A (tgt := 15) dX5_weighsCars_94 (by decide) ?_
        refine X.sub [1, 2, 0] rfl ?_
        exact ih hf
noncomputable def fX5_weighsCars_l2 (x : Nat) : Nat → Int32 → Hp → Option Hp
  | 0, _, _ => none
  | n + 1, l1, h =>
  ab_bd (ab_gR h x 4 3) fun v1 =>
  ab_bd v1 fun a2 =>
  ab_bd (ab_gI h a2 13 6) fun v3 =>
  if v3 ≤ l1 then (
    some h)
  else (
    fX5_weighsCars_l15 x (fX5_weighsCars_l2 x n) (hfu h) l1 (0 : Int32) h)
theorem wX5_weighsCars_l2 {D : Dd} {C : Cx} {h0 h' : Hp} (A : Act C D (h0, (.inl none), h') yX5_weighsCars cX5_weighsCars 3 (none : Option FieldType) 4 99 []) {x : Nat} : ∀ (n : Nat) {l1 : Int32} {h : Hp}, fX5_weighsCars_l2 x n l1 h = some h' → X C D (h0, (.inl none), h') 3 2 [(0, vR (some x)), (1, vI l1)] [] h := by
  intro n
  induction n with
  | zero => intro l1 h hf; exact ab_no hf
  | succ n ih =>
    intro l1 h hf
    unfold fX5_weighsCars_l2 at hf
    refine xr_iload_n A dX5_weighsCars_2 1 rfl rfl ?_
    refine xr_aload_n A dX5_weighsCars_3 0 rfl rfl ?_
    revert hf; refine ab_bdI (fun v1 mv1 hf => ?_)
    refine xr_get A xc_X5 in_X5 3 (Nat.le_of_ble_eq_true rfl) q1301 rfl (ab_gRE mv1) dX5_weighsCars_4 ?_
    revert hf; refine ab_bdI (fun a2 e hf => ?_); subst e
    revert hf; refine ab_bdI (fun v3 mv3 hf => ?_)
    refine xr_getN A xc_X15 in_X15 6 (Nat.le_of_ble_eq_true rfl) n1466 rfl (ab_gIE mv3) dX5_weighsCars_7 ?_
    refine xr_icmp_ge A (tgt := 103) dX5_weighsCars_10 (by decide) (fun c10 => ?_) (fun c10 => ?_)
    · replace hf := ab_ip c10 hf
      exact xr_return A hf dX5_weighsCars_103
    · replace hf := ab_in c10 hf
      refine xr_iconst A (v := 0) dX5_weighsCars_13 (by decide) ?_
      refine xr_istore_n A dX5_weighsCars_14 rfl (Nat.le_of_ble_eq_true rfl) (L' := [(2, vI (0 : Int32)), (0, vR (some x)), (1, vI l1)]) rfl ?_
      refine X.sub [1, 2, 0] rfl ?_
      exact wX5_weighsCars_l15 A (fun hf => ih hf) _ hf
noncomputable def fX5_weighsCars (x : Nat) (h : Hp) : Option Hp :=
  ab_ck h x 4 <|
  fX5_weighsCars_l2 x (hfu h) (0 : Int32) h
theorem wX5_weighsCars (D : Dd) {x : Nat} {h : Hp} {h' : Hp} (hf : fX5_weighsCars x h = some h') : ab_is h x 4 ∧ Ct D 4 99 yX5_weighsCars cX5_weighsCars 3 (none : Option FieldType) [vR (some x)] h (.inl none) h' := by
    unfold fX5_weighsCars at hf
    replace hf := ab_ckE hf; obtain ⟨i0, hf⟩ := hf
    refine ⟨i0, ?_⟩
    refine Ct.of (by decide) (L := [(0, vR (some x))]) rfl (Nat.le_of_ble_eq_true rfl) (fun C A => ?_)
    refine xr_iconst A (v := 0) dX5_weighsCars_0 (by decide) ?_
    refine xr_istore_n A dX5_weighsCars_1 rfl (Nat.le_of_ble_eq_true rfl) (L' := [(1, vI (0 : Int32)), (0, vR (some x))]) rfl ?_
    refine X.sub [1, 0] rfl ?_
    exact wX5_weighsCars_l2 A _ hf
/-! X5_shares -/
theorem bX5_shares : MB yX5_shares cX5_shares 3 (some FieldType.int) 0 := ⟨q1863, q99, by decide, by decide +kernel⟩
noncomputable def fX5_shares_l4 (x : Nat) : Nat → Int32 → Int32 → Hp → Option (Int32 × Hp)
  | 0, _, _, _ => none
  | n + 1, l1, l2, h =>
  ab_bd (ab_gR h x 4 3) fun v1 =>
  ab_bd v1 fun a2 =>
  ab_bd (ab_gI h a2 13 5) fun v3 =>
  if v3 ≤ l2 then (
    some (l1, h))
  else (
    ab_bd (ab_gR h x 4 3) fun v4 =>
    ab_bd v4 fun a5 =>
    ab_bd (ab_gI h a5 13 6) fun v6 =>
    fX5_shares_l4 x n (l1 * v6) (l2 + (1 : Int32)) h)
theorem wX5_shares_l4 {D : Dd} {C : Cx} {h0 h' : Hp} {r : Int32} (A : Act C D (h0, (.inl (some (vI r))), h') yX5_shares cX5_shares 3 (some FieldType.int) 1 20 []) {x : Nat} : ∀ (n : Nat) {l1 : Int32} {l2 : Int32} {h : Hp}, fX5_shares_l4 x n l1 l2 h = some (r, h') → X C D (h0, (.inl (some (vI r))), h') 3 4 [(0, vR (some x)), (1, vI l1), (2, vI l2)] [] h := by
  intro n
  induction n with
  | zero => intro l1 l2 h hf; exact ab_no hf
  | succ n ih =>
    intro l1 l2 h hf
    unfold fX5_shares_l4 at hf
    refine xr_iload_n A dX5_shares_4 2 rfl rfl ?_
    refine xr_aload_n A dX5_shares_5 0 rfl rfl ?_
    revert hf; refine ab_bdI (fun v1 mv1 hf => ?_)
    refine xr_get A xc_X5 in_X5 3 (Nat.le_of_ble_eq_true rfl) q1301 rfl (ab_gRE mv1) dX5_shares_6 ?_
    revert hf; refine ab_bdI (fun a2 e hf => ?_); subst e
    revert hf; refine ab_bdI (fun v3 mv3 hf => ?_)
    refine xr_getN A xc_X15 in_X15 5 (Nat.le_of_ble_eq_true rfl) n1465 rfl (ab_gIE mv3) dX5_shares_9 ?_
    refine xr_icmp_ge A (tgt := 31) dX5_shares_12 (by decide) (fun c12 => ?_) (fun c12 => ?_)
    · replace hf := ab_ip c12 hf
      refine xr_iload_n A dX5_shares_31 1 rfl rfl ?_
      exact xr_ireturn A rfl hf dX5_shares_32
    · replace hf := ab_in c12 hf
      refine xr_iload_n A dX5_shares_15 1 rfl rfl ?_
      refine xr_aload_n A dX5_shares_16 0 rfl rfl ?_
      revert hf; refine ab_bdI (fun v4 mv4 hf => ?_)
      refine xr_get A xc_X5 in_X5 3 (Nat.le_of_ble_eq_true rfl) q1301 rfl (ab_gRE mv4) dX5_shares_17 ?_
      revert hf; refine ab_bdI (fun a5 e hf => ?_); subst e
      revert hf; refine ab_bdI (fun v6 mv6 hf => ?_)
      refine xr_getN A xc_X15 in_X15 6 (Nat.le_of_ble_eq_true rfl) n1466 rfl (ab_gIE mv6) dX5_shares_20 ?_
      refine xr_imul A dX5_shares_23 ?_
      refine xr_istore_n A dX5_shares_24 rfl (Nat.le_of_ble_eq_true rfl) (L' := [(1, vI (l1 * v6)), (0, vR (some x)), (2, vI l2)]) rfl ?_
      refine xr_iinc A dX5_shares_25 2 rfl (v := (l2 + (1 : Int32))) rfl (Nat.le_of_ble_eq_true rfl) (L' := [(2, vI (l2 + (1 : Int32))), (1, vI (l1 * v6)), (0, vR (some x))]) rfl ?_
      refine xr_goto A (tgt := 4) dX5_shares_28 (by decide) ?_
      refine X.sub [2, 1, 0] rfl ?_
      exact ih hf
noncomputable def fX5_shares (x : Nat) (h : Hp) : Option (Int32 × Hp) :=
  ab_ck h x 4 <|
  fX5_shares_l4 x (hfu h) (1 : Int32) (0 : Int32) h
theorem wX5_shares (D : Dd) {x : Nat} {h : Hp} {r : Int32} {h' : Hp} (hf : fX5_shares x h = some (r, h')) : ab_is h x 4 ∧ Ct D 1 20 yX5_shares cX5_shares 3 (some FieldType.int) [vR (some x)] h (.inl (some (vI r))) h' := by
    unfold fX5_shares at hf
    replace hf := ab_ckE hf; obtain ⟨i0, hf⟩ := hf
    refine ⟨i0, ?_⟩
    refine Ct.of (by decide) (L := [(0, vR (some x))]) rfl (Nat.le_of_ble_eq_true rfl) (fun C A => ?_)
    refine xr_iconst A (v := 1) dX5_shares_0 (by decide) ?_
    refine xr_istore_n A dX5_shares_1 rfl (Nat.le_of_ble_eq_true rfl) (L' := [(1, vI (1 : Int32)), (0, vR (some x))]) rfl ?_
    refine xr_iconst A (v := 0) dX5_shares_2 (by decide) ?_
    refine xr_istore_n A dX5_shares_3 rfl (Nat.le_of_ble_eq_true rfl) (L' := [(2, vI (0 : Int32)), (1, vI (1 : Int32)), (0, vR (some x))]) rfl ?_
    refine X.sub [2, 1, 0] rfl ?_
    exact wX5_shares_l4 A _ hf
/-! X5_housesOf -/
theorem bX5_housesOf : MB yX5_housesOf cX5_housesOf 6 (some FieldType.int) 2 := ⟨q1867, q99, by decide, by decide +kernel⟩
noncomputable def fX5_housesOf_l16 (x : Nat) : Nat → Int32 → Int32 → Int32 → Int32 → Hp → Option (Int32 × Hp)
  | 0, _, _, _, _, _ => none
  | n + 1, l2, l3, l4, l5, h =>
  if l5 < 0 then (
    some (l3, h))
  else (
    ab_bd (ab_gR h x 4 3) fun v1 =>
    ab_bd v1 fun a2 =>
    ab_bd (ab_gI h a2 13 6) fun v3 =>
    ab_nz (v3 = 0) <|
    if (l4 - l4 / v3 * v3) = l2 then (
      ab_bd (ab_gR h x 4 3) fun v7 =>
      ab_bd v7 fun a8 =>
      ab_bd (ab_gI h a8 13 6) fun v9 =>
      ab_nz (v9 = 0) <|
      fX5_housesOf_l16 x n l2 (l3 ||| ((1 : Int32) <<< (l5 &&& 31))) (l4 / v9) (l5 + (-1 : Int32)) h)
    else (
      ab_bd (ab_gR h x 4 3) fun v4 =>
      ab_bd v4 fun a5 =>
      ab_bd (ab_gI h a5 13 6) fun v6 =>
      ab_nz (v6 = 0) <|
      fX5_housesOf_l16 x n l2 l3 (l4 / v6) (l5 + (-1 : Int32)) h))
theorem wX5_housesOf_l16 {D : Dd} {C : Cx} {h0 h' : Hp} {r : Int32} (A : Act C D (h0, (.inl (some (vI r))), h') yX5_housesOf cX5_housesOf 6 (some FieldType.int) 1 20 []) {x : Nat} : ∀ (n : Nat) {l2 : Int32} {l3 : Int32} {l4 : Int32} {l5 : Int32} {h : Hp}, fX5_housesOf_l16 x n l2 l3 l4 l5 h = some (r, h') → X C D (h0, (.inl (some (vI r))), h') 6 16 [(0, vR (some x)), (2, vI l2), (3, vI l3), (4, vI l4), (5, vI l5)] [] h := by
  intro n
  induction n with
  | zero => intro l2 l3 l4 l5 h hf; exact ab_no hf
  | succ n ih =>
    intro l2 l3 l4 l5 h hf
    unfold fX5_housesOf_l16 at hf
    refine xr_iload A dX5_housesOf_16 4 rfl ?_
    refine xr_if_lt A (tgt := 60) dX5_housesOf_18 (by decide) (fun c18 => ?_) (fun c18 => ?_)
    · replace hf := ab_ip c18 hf
      refine xr_iload_n A dX5_housesOf_60 2 rfl rfl ?_
      exact xr_ireturn A rfl hf dX5_housesOf_61
    · replace hf := ab_in c18 hf
      refine xr_iload A dX5_housesOf_21 3 rfl ?_
      refine xr_aload_n A dX5_housesOf_23 0 rfl rfl ?_
      revert hf; refine ab_bdI (fun v1 mv1 hf => ?_)
      refine xr_get A xc_X5 in_X5 3 (Nat.le_of_ble_eq_true rfl) q1301 rfl (ab_gRE mv1) dX5_housesOf_24 ?_
      revert hf; refine ab_bdI (fun a2 e hf => ?_); subst e
      revert hf; refine ab_bdI (fun v3 mv3 hf => ?_)
      refine xr_getN A xc_X15 in_X15 6 (Nat.le_of_ble_eq_true rfl) n1466 rfl (ab_gIE mv3) dX5_housesOf_27 ?_
      replace hf := ab_nzE hf; obtain ⟨c30, hf⟩ := hf
      refine xr_irem A dX5_housesOf_30 c30 ?_
      refine xr_iload_n A dX5_housesOf_31 1 rfl rfl ?_
      refine xr_icmp_ne A (tgt := 42) dX5_housesOf_32 (by decide) (fun c32 => ?_) (fun c32 => ?_)
      · replace hf := ab_in c32 hf
        refine xr_iload A dX5_housesOf_42 3 rfl ?_
        refine xr_aload_n A dX5_housesOf_44 0 rfl rfl ?_
        revert hf; refine ab_bdI (fun v4 mv4 hf => ?_)
        refine xr_get A xc_X5 in_X5 3 (Nat.le_of_ble_eq_true rfl) q1301 rfl (ab_gRE mv4) dX5_housesOf_45 ?_
        revert hf; refine ab_bdI (fun a5 e hf => ?_); subst e
        revert hf; refine ab_bdI (fun v6 mv6 hf => ?_)
        refine xr_getN A xc_X15 in_X15 6 (Nat.le_of_ble_eq_true rfl) n1466 rfl (ab_gIE mv6) dX5_housesOf_48 ?_
        replace hf := ab_nzE hf; obtain ⟨c51, hf⟩ := hf
        refine xr_idiv A dX5_housesOf_51 c51 ?_
        refine xr_istore A dX5_housesOf_52 (Nat.le_of_ble_eq_true rfl) (L' := [(4, vI (l4 / v6)), (0, vR (some x)), (2, vI l2), (3, vI l3), (5, vI l5)]) rfl ?_
        refine xr_iinc A dX5_housesOf_54 4 rfl (v := (l5 + (-1 : Int32))) rfl (Nat.le_of_ble_eq_true rfl) (L' := [(5, vI (l5 + (-1 : Int32))), (4, vI (l4 / v6)), (0, vR (some x)), (2, vI l2), (3, vI l3)]) rfl ?_
        refine xr_goto A (tgt := 16) dX5_housesOf_57 (by decide) ?_
        refine X.sub [2, 3, 4, 1, 0] rfl ?_
        exact ih hf
      · replace hf := ab_ip c32 hf
        refine xr_iload_n A dX5_housesOf_35 2 rfl rfl ?_
        refine xr_iconst A (v := 1) dX5_housesOf_36 (by decide) ?_
        refine xr_iload A dX5_housesOf_37 4 rfl ?_
        refine xr_ishl A dX5_housesOf_39 ?_
        refine xr_ior A dX5_housesOf_40 ?_
        refine xr_istore_n A dX5_housesOf_41 rfl (Nat.le_of_ble_eq_true rfl) (L' := [(3, vI (l3 ||| ((1 : Int32) <<< (l5 &&& 31)))), (0, vR (some x)), (2, vI l2), (4, vI l4), (5, vI l5)]) rfl ?_
        refine xr_iload A dX5_housesOf_42 3 rfl ?_
        refine xr_aload_n A dX5_housesOf_44 1 rfl rfl ?_
        revert hf; refine ab_bdI (fun v7 mv7 hf => ?_)
        refine xr_get A xc_X5 in_X5 3 (Nat.le_of_ble_eq_true rfl) q1301 rfl (ab_gRE mv7) dX5_housesOf_45 ?_
        revert hf; refine ab_bdI (fun a8 e hf => ?_); subst e
        revert hf; refine ab_bdI (fun v9 mv9 hf => ?_)
        refine xr_getN A xc_X15 in_X15 6 (Nat.le_of_ble_eq_true rfl) n1466 rfl (ab_gIE mv9) dX5_housesOf_48 ?_
        replace hf := ab_nzE hf; obtain ⟨c51, hf⟩ := hf
        refine xr_idiv A dX5_housesOf_51 c51 ?_
        refine xr_istore A dX5_housesOf_52 (Nat.le_of_ble_eq_true rfl) (L' := [(4, vI (l4 / v9)), (3, vI (l3 ||| ((1 : Int32) <<< (l5 &&& 31)))), (0, vR (some x)), (2, vI l2), (5, vI l5)]) rfl ?_
        refine xr_iinc A dX5_housesOf_54 4 rfl (v := (l5 + (-1 : Int32))) rfl (Nat.le_of_ble_eq_true rfl) (L' := [(5, vI (l5 + (-1 : Int32))), (4, vI (l4 / v9)), (3, vI (l3 ||| ((1 : Int32) <<< (l5 &&& 31)))), (0, vR (some x)), (2, vI l2)]) rfl ?_
        refine xr_goto A (tgt := 16) dX5_housesOf_57 (by decide) ?_
        refine X.sub [3, 4, 2, 1, 0] rfl ?_
        exact ih hf
noncomputable def fX5_housesOf (x : Nat) (p1 : Int32) (p2 : Int32) (h : Hp) : Option (Int32 × Hp) :=
  ab_ck h x 4 <|
  ab_bd (ab_gR h x 4 3) fun v1 =>
  ab_bd v1 fun a2 =>
  ab_bd (ab_gI h a2 13 5) fun v3 =>
  fX5_housesOf_l16 x (hfu h) p2 (0 : Int32) p1 (v3 - (1 : Int32)) h
theorem wX5_housesOf (D : Dd) {x : Nat} {p1 : Int32} {p2 : Int32} {h : Hp} {r : Int32} {h' : Hp} (hf : fX5_housesOf x p1 p2 h = some (r, h')) : ab_is h x 4 ∧ Ct D 1 20 yX5_housesOf cX5_housesOf 6 (some FieldType.int) [vR (some x), vI p1, vI p2] h (.inl (some (vI r))) h' := by
    unfold fX5_housesOf at hf
    replace hf := ab_ckE hf; obtain ⟨i0, hf⟩ := hf
    refine ⟨i0, ?_⟩
    refine Ct.of (by decide) (L := [(0, vR (some x)), (1, vI p1), (2, vI p2)]) rfl (Nat.le_of_ble_eq_true rfl) (fun C A => ?_)
    refine xr_iconst A (v := 0) dX5_housesOf_0 (by decide) ?_
    refine xr_istore_n A dX5_housesOf_1 rfl (Nat.le_of_ble_eq_true rfl) (L' := [(3, vI (0 : Int32)), (0, vR (some x)), (1, vI p1), (2, vI p2)]) rfl ?_
    refine xr_iload_n A dX5_housesOf_2 2 rfl rfl ?_
    refine xr_istore A dX5_housesOf_3 (Nat.le_of_ble_eq_true rfl) (L' := [(4, vI p1), (3, vI (0 : Int32)), (0, vR (some x)), (1, vI p1), (2, vI p2)]) rfl ?_
    refine xr_aload_n A dX5_housesOf_5 2 rfl rfl ?_
    revert hf; refine ab_bdI (fun v1 mv1 hf => ?_)
    refine xr_get A xc_X5 in_X5 3 (Nat.le_of_ble_eq_true rfl) q1301 rfl (ab_gRE mv1) dX5_housesOf_6 ?_
    revert hf; refine ab_bdI (fun a2 e hf => ?_); subst e
    revert hf; refine ab_bdI (fun v3 mv3 hf => ?_)
    refine xr_getN A xc_X15 in_X15 5 (Nat.le_of_ble_eq_true rfl) n1465 rfl (ab_gIE mv3) dX5_housesOf_9 ?_
    refine xr_iconst A (v := 1) dX5_housesOf_12 (by decide) ?_
    refine xr_isub A dX5_housesOf_13 ?_
    refine xr_istore A dX5_housesOf_14 (Nat.le_of_ble_eq_true rfl) (L' := [(5, vI (v3 - (1 : Int32))), (4, vI p1), (3, vI (0 : Int32)), (0, vR (some x)), (1, vI p1), (2, vI p2)]) rfl ?_
    refine X.sub [3, 5, 2, 1, 0] rfl ?_
    exact wX5_housesOf_l16 A _ hf
/-! X5_share -/
theorem bX5_share : MB yX5_share cX5_share 10 (some FieldType.int) 0 := ⟨q1855, q99, by decide, by decide +kernel⟩
noncomputable def fX5_share_l227 (x : Nat) (K212 : Int32 → Int32 → Int32 → Hp → Option (Int32 × Hp)) : Nat → Int32 → Int32 → Int32 → Int32 → Hp → Option (Int32 × Hp)
  | 0, _, _, _, _, _ => none
  | n + 1, l1, l2, l4, l5, h =>
  ab_bd (ab_gR h x 4 3) fun v1 =>
  ab_bd v1 fun a2 =>
  ab_bd (ab_gI h a2 13 5) fun v3 =>
  if v3 ≤ l5 then (
    K212 l1 l2 (l4 + (1 : Int32)) h)
  else (
    ab_b2 (fX5_housesOf x l1 l4 h) fun v6 h5 =>
    ab_b2 (fX5_has v6 l5 h5) fun v9 h8 =>
    if v9 = 0 then (
      fX5_share_l227 x K212 n l1 l2 l4 (l5 + (1 : Int32)) h8)
    else (
      ab_bd (ab_gR h8 x 4 28) fun v10 =>
      ab_bd v10 fun a11 =>
      ab_bd (ab_sI h8 a11 l5 l4) fun h12 =>
      fX5_share_l227 x K212 n l1 l2 l4 (l5 + (1 : Int32)) h12))
theorem wX5_share_l227 {D : Dd} {C : Cx} {h0 h' : Hp} {r : Int32} (A : Act C D (h0, (.inl (some (vI r))), h') yX5_share cX5_share 10 (some FieldType.int) 5 121 []) {x : Nat} {K212 : Int32 → Int32 → Int32 → Hp → Option (Int32 × Hp)} (hK212 : ∀ {l1 : Int32} {l2 : Int32} {l4 : Int32} {h : Hp}, K212 l1 l2 l4 h = some (r, h') → X C D (h0, (.inl (some (vI r))), h') 10 212 [(0, vR (some x)), (1, vI l1), (2, vI l2), (4, vI l4)] [] h) : ∀ (n : Nat) {l1 : Int32} {l2 : Int32} {l4 : Int32} {l5 : Int32} {h : Hp}, fX5_share_l227 x K212 n l1 l2 l4 l5 h = some (r, h') → X C D (h0, (.inl (some (vI r))), h') 10 227 [(0, vR (some x)), (1, vI l1), (2, vI l2), (4, vI l4), (5, vI l5)] [] h := by
  intro n
  induction n with
  | zero => intro l1 l2 l4 l5 h hf; exact ab_no hf
  | succ n ih =>
    intro l1 l2 l4 l5 h hf
    unfold fX5_share_l227 at hf
    refine xr_iload A dX5_share_227 4 rfl ?_
    refine xr_aload_n A dX5_share_229 0 rfl rfl ?_
    revert hf; refine ab_bdI (fun v1 mv1 hf => ?_)
    refine xr_get A xc_X5 in_X5 3 (Nat.le_of_ble_eq_true rfl) q1301 rfl (ab_gRE mv1) dX5_share_230 ?_
    revert hf; refine ab_bdI (fun a2 e hf => ?_); subst e
    revert hf; refine ab_bdI (fun v3 mv3 hf => ?_)
    refine xr_getN A xc_X15 in_X15 5 (Nat.le_of_ble_eq_true rfl) n1465 rfl (ab_gIE mv3) dX5_share_233 ?_
    refine xr_icmp_ge A (tgt := 269) dX5_share_236 (by decide) (fun c236 => ?_) (fun c236 => ?_)
    · replace hf := ab_ip c236 hf
      refine xr_iinc A dX5_share_269 3 rfl (v := (l4 + (1 : Int32))) rfl (Nat.le_of_ble_eq_true rfl) (L' := [(4, vI (l4 + (1 : Int32))), (0, vR (some x)), (1, vI l1), (2, vI l2), (5, vI l5)]) rfl ?_
      refine xr_goto A (tgt := 212) dX5_share_272 (by decide) ?_
      refine X.sub [1, 2, 3, 0] rfl ?_
      exact hK212 hf
    · replace hf := ab_in c236 hf
      refine xr_aload_n A dX5_share_239 0 rfl rfl ?_
      refine xr_iload_n A dX5_share_240 1 rfl rfl ?_
      refine xr_iload A dX5_share_241 3 rfl ?_
      revert hf; refine ab_b2I (fun v6 h5 m4 hf => ?_)
      refine xr_V A bX5_housesOf (wX5_housesOf D m4).2 xc_X5 (wX5_housesOf D m4).1 q1866 qs83 q1864 (av := [vI l1, vI l4]) (rest := []) rfl dX5_share_243 (Nat.le_of_ble_eq_true rfl) (Nat.le_of_ble_eq_true rfl) rfl (Nat.le_of_ble_eq_true rfl) ?_
      refine xr_iload A dX5_share_246 4 rfl ?_
      revert hf; refine ab_b2I (fun v9 h8 m7 hf => ?_)
      refine xr_S A bX5_has (wX5_has D m7) q1804 q1803 (av := [vI v6, vI l5]) (rest := []) rfl dX5_share_248 (Nat.le_of_ble_eq_true rfl) (Nat.le_of_ble_eq_true rfl) rfl (Nat.le_of_ble_eq_true rfl) ?_
      refine xr_if_eq A (tgt := 263) dX5_share_251 (by decide) (fun c251 => ?_) (fun c251 => ?_)
      · replace hf := ab_ip c251 hf
        refine xr_iinc A dX5_share_263 4 rfl (v := (l5 + (1 : Int32))) rfl (Nat.le_of_ble_eq_true rfl) (L' := [(5, vI (l5 + (1 : Int32))), (0, vR (some x)), (1, vI l1), (2, vI l2), (4, vI l4)]) rfl ?_
        refine xr_goto A (tgt := 227) dX5_share_266 (by decide) ?_
        refine X.sub [1, 2, 3, 4, 0] rfl ?_
        exact ih hf
      · replace hf := ab_in c251 hf
        refine xr_aload_n A dX5_share_254 0 rfl rfl ?_
        revert hf; refine ab_bdI (fun v10 mv10 hf => ?_)
        refine xr_get A xc_X5 in_X5 28 (Nat.le_of_ble_eq_true rfl) q1326 rfl (ab_gRE mv10) dX5_share_255 ?_
        refine xr_iload A dX5_share_258 4 rfl ?_
        refine xr_iload A dX5_share_260 3 rfl ?_
        revert hf; refine ab_bdI (fun a11 e hf => ?_); subst e
        revert hf; refine ab_bdI (fun h12 mh12 hf => ?_)
        refine xr_iastore A mh12 dX5_share_262 ?_
        refine xr_iinc A dX5_share_263 4 rfl (v := (l5 + (1 : Int32))) rfl (Nat.le_of_ble_eq_true rfl) (L' := [(5, vI (l5 + (1 : Int32))), (0, vR (some x)), (1, vI l1), (2, vI l2), (4, vI l4)]) rfl ?_
        refine xr_goto A (tgt := 227) dX5_share_266 (by decide) ?_
        refine X.sub [1, 2, 3, 4, 0] rfl ?_
        exact ih hf
noncomputable def fX5_share_l212 (x : Nat) : Nat → Int32 → Int32 → Int32 → Hp → Option (Int32 × Hp)
  | 0, _, _, _, _ => none
  | n + 1, l1, l2, l4, h =>
  ab_bd (ab_gR h x 4 3) fun v1 =>
  ab_bd v1 fun a2 =>
  ab_bd (ab_gI h a2 13 6) fun v3 =>
  if v3 ≤ l4 then (
    ab_b2 (fX5_done x l2 h) fun v6 h5 =>
    some (v6, h5))
  else (
    fX5_share_l227 x (fX5_share_l212 x n) (hfu h) l1 l2 l4 (0 : Int32) h)
theorem wX5_share_l212 {D : Dd} {C : Cx} {h0 h' : Hp} {r : Int32} (A : Act C D (h0, (.inl (some (vI r))), h') yX5_share cX5_share 10 (some FieldType.int) 5 121 []) {x : Nat} : ∀ (n : Nat) {l1 : Int32} {l2 : Int32} {l4 : Int32} {h : Hp}, fX5_share_l212 x n l1 l2 l4 h = some (r, h') → X C D (h0, (.inl (some (vI r))), h') 10 212 [(0, vR (some x)), (1, vI l1), (2, vI l2), (4, vI l4)] [] h := by
  intro n
  induction n with
  | zero => intro l1 l2 l4 h hf; exact ab_no hf
  | succ n ih =>
    intro l1 l2 l4 h hf
    unfold fX5_share_l212 at hf
    refine xr_iload A dX5_share_212 3 rfl ?_
    refine xr_aload_n A dX5_share_214 0 rfl rfl ?_
    revert hf; refine ab_bdI (fun v1 mv1 hf => ?_)
    refine xr_get A xc_X5 in_X5 3 (Nat.le_of_ble_eq_true rfl) q1301 rfl (ab_gRE mv1) dX5_share_215 ?_
    revert hf; refine ab_bdI (fun a2 e hf => ?_); subst e
    revert hf; refine ab_bdI (fun v3 mv3 hf => ?_)
    refine xr_getN A xc_X15 in_X15 6 (Nat.le_of_ble_eq_true rfl) n1466 rfl (ab_gIE mv3) dX5_share_218 ?_
    refine xr_icmp_ge A (tgt := 275) dX5_share_221 (by decide) (fun c221 => ?_) (fun c221 => ?_)
    · replace hf := ab_ip c221 hf
      refine xr_aload_n A dX5_share_275 0 rfl rfl ?_
      refine xr_iload_n A dX5_share_276 2 rfl rfl ?_
      revert hf; refine ab_b2I (fun v6 h5 m4 hf => ?_)
      refine xr_V A bX5_done (wX5_done D m4).2 xc_X5 (wX5_done D m4).1 q1749 qs69 q1747 (av := [vI l2]) (rest := []) rfl dX5_share_277 (Nat.le_of_ble_eq_true rfl) (Nat.le_of_ble_eq_true rfl) rfl (Nat.le_of_ble_eq_true rfl) ?_
      exact xr_ireturn A rfl hf dX5_share_280
    · replace hf := ab_in c221 hf
      refine xr_iconst A (v := 0) dX5_share_224 (by decide) ?_
      refine xr_istore A dX5_share_225 (Nat.le_of_ble_eq_true rfl) (L' := [(5, vI (0 : Int32)), (0, vR (some x)), (1, vI l1), (2, vI l2), (4, vI l4)]) rfl ?_
      refine X.sub [1, 2, 3, 4, 0] rfl ?_
      exact wX5_share_l227 A (fun hf => ih hf) _ hf
noncomputable def fX5_share_b177 (x : Nat) (K31 : Int32 → Int32 → Int32 → Int32 → Hp → Option (Int32 × Hp)) (l4 : Int32) (l5 : Int32) (l6 : Int32) (h : Hp) : Option (Int32 × Hp) :=
  K31 l4 l5 l6 (l4 + (1 : Int32)) h
theorem wX5_share_b177 {D : Dd} {C : Cx} {h0 h' : Hp} {r : Int32} (A : Act C D (h0, (.inl (some (vI r))), h') yX5_share cX5_share 10 (some FieldType.int) 5 121 []) {x : Nat} {K31 : Int32 → Int32 → Int32 → Int32 → Hp → Option (Int32 × Hp)} (hK31 : ∀ {l1 : Int32} {l2 : Int32} {l3 : Int32} {l4 : Int32} {h : Hp}, K31 l1 l2 l3 l4 h = some (r, h') → X C D (h0, (.inl (some (vI r))), h') 10 31 [(0, vR (some x)), (1, vI l1), (2, vI l2), (3, vI l3), (4, vI l4)] [] h) {l4 : Int32} {l5 : Int32} {l6 : Int32} {h : Hp} (hf : fX5_share_b177 x K31 l4 l5 l6 h = some (r, h')) : X C D (h0, (.inl (some (vI r))), h') 10 177 [(0, vR (some x)), (4, vI l4), (5, vI l5), (6, vI l6)] [] h := by
  unfold fX5_share_b177 at hf
  refine xr_iload A dX5_share_177 1 rfl ?_
  refine xr_istore_n A dX5_share_179 rfl (Nat.le_of_ble_eq_true rfl) (L' := [(1, vI l4), (0, vR (some x)), (4, vI l4), (5, vI l5), (6, vI l6)]) rfl ?_
  refine xr_iload A dX5_share_180 3 rfl ?_
  refine xr_istore_n A dX5_share_182 rfl (Nat.le_of_ble_eq_true rfl) (L' := [(2, vI l5), (1, vI l4), (0, vR (some x)), (4, vI l4), (5, vI l5), (6, vI l6)]) rfl ?_
  refine xr_iload A dX5_share_183 5 rfl ?_
  refine xr_istore_n A dX5_share_185 rfl (Nat.le_of_ble_eq_true rfl) (L' := [(3, vI l6), (2, vI l5), (1, vI l4), (0, vR (some x)), (4, vI l4), (5, vI l5), (6, vI l6)]) rfl ?_
  refine xr_iinc A dX5_share_186 4 rfl (v := (l4 + (1 : Int32))) rfl (Nat.le_of_ble_eq_true rfl) (L' := [(4, vI (l4 + (1 : Int32))), (3, vI l6), (2, vI l5), (1, vI l4), (0, vR (some x)), (5, vI l5), (6, vI l6)]) rfl ?_
  refine xr_goto A (tgt := 31) dX5_share_189 (by decide) ?_
  refine X.sub [4, 3, 2, 1, 0] rfl ?_
  exact hK31 hf
noncomputable def fX5_share_b102 (x : Nat) (K31 : Int32 → Int32 → Int32 → Int32 → Hp → Option (Int32 × Hp)) (K52 : Int32 → Int32 → Int32 → Int32 → Int32 → Int32 → Int32 → Int32 → Hp → Option (Int32 × Hp)) (l1 : Int32) (l2 : Int32) (l3 : Int32) (l4 : Int32) (l5 : Int32) (l6 : Int32) (l8 : Int32) (l9 : Int32) (s0 : Int32) (h : Hp) : Option (Int32 × Hp) :=
  ab_bd (ab_gR h x 4 29) fun v1 =>
  ab_bd v1 fun a2 =>
  ab_bd (ab_aI h a2 0 ((l8 <<< ((6 : Int32) &&& 31)) + l9)) fun v3 =>
  ab_bd (ab_gR h x 4 30) fun v4 =>
  ab_bd v4 fun a5 =>
  ab_bd (ab_aI h a5 0 ((l8 <<< ((6 : Int32) &&& 31)) + l9)) fun v6 =>
  K52 l1 l2 l3 l4 (l5 + v3) (l6 + v6) s0 (l8 + (1 : Int32)) h
theorem wX5_share_b102 {D : Dd} {C : Cx} {h0 h' : Hp} {r : Int32} (A : Act C D (h0, (.inl (some (vI r))), h') yX5_share cX5_share 10 (some FieldType.int) 5 121 []) {x : Nat} {K31 : Int32 → Int32 → Int32 → Int32 → Hp → Option (Int32 × Hp)} (hK31 : ∀ {l1 : Int32} {l2 : Int32} {l3 : Int32} {l4 : Int32} {h : Hp}, K31 l1 l2 l3 l4 h = some (r, h') → X C D (h0, (.inl (some (vI r))), h') 10 31 [(0, vR (some x)), (1, vI l1), (2, vI l2), (3, vI l3), (4, vI l4)] [] h) {K52 : Int32 → Int32 → Int32 → Int32 → Int32 → Int32 → Int32 → Int32 → Hp → Option (Int32 × Hp)} (hK52 : ∀ {l1 : Int32} {l2 : Int32} {l3 : Int32} {l4 : Int32} {l5 : Int32} {l6 : Int32} {l7 : Int32} {l8 : Int32} {h : Hp}, K52 l1 l2 l3 l4 l5 l6 l7 l8 h = some (r, h') → X C D (h0, (.inl (some (vI r))), h') 10 52 [(0, vR (some x)), (1, vI l1), (2, vI l2), (3, vI l3), (4, vI l4), (5, vI l5), (6, vI l6), (7, vI l7), (8, vI l8)] [] h) {l1 : Int32} {l2 : Int32} {l3 : Int32} {l4 : Int32} {l5 : Int32} {l6 : Int32} {l8 : Int32} {l9 : Int32} {s0 : Int32} {h : Hp} (hf : fX5_share_b102 x K31 K52 l1 l2 l3 l4 l5 l6 l8 l9 s0 h = some (r, h')) : X C D (h0, (.inl (some (vI r))), h') 10 102 [(0, vR (some x)), (1, vI l1), (2, vI l2), (3, vI l3), (4, vI l4), (5, vI l5), (6, vI l6), (8, vI l8), (9, vI l9)] [vI s0] h := by
  unfold fX5_share_b102 at hf
  refine xr_istore A dX5_share_102 (Nat.le_of_ble_eq_true rfl) (L' := [(7, vI s0), (0, vR (some x)), (1, vI l1), (2, vI l2), (3, vI l3), (4, vI l4), (5, vI l5), (6, vI l6), (8, vI l8), (9, vI l9)]) rfl ?_
  refine xr_iload A dX5_share_104 6 rfl ?_
  refine xr_aload_n A dX5_share_106 1 rfl rfl ?_
  revert hf; refine ab_bdI (fun v1 mv1 hf => ?_)
  refine xr_get A xc_X5 in_X5 29 (Nat.le_of_ble_eq_true rfl) q1327 rfl (ab_gRE mv1) dX5_share_107 ?_
  refine xr_iload A dX5_share_110 8 rfl ?_
  refine xr_bipush A (v := 6) dX5_share_112 (by decide) ?_
  refine xr_ishl A dX5_share_114 ?_
  refine xr_iload A dX5_share_115 9 rfl ?_
  refine xr_iadd A dX5_share_117 ?_
  revert hf; refine ab_bdI (fun a2 e hf => ?_); subst e
  revert hf; refine ab_bdI (fun v3 mv3 hf => ?_)
  refine xr_iaload A mv3 dX5_share_118 ?_
  refine xr_iadd A dX5_share_119 ?_
  refine xr_istore A dX5_share_120 (Nat.le_of_ble_eq_true rfl) (L' := [(5, vI (l5 + v3)), (7, vI s0), (0, vR (some x)), (1, vI l1), (2, vI l2), (3, vI l3), (4, vI l4), (6, vI l6), (8, vI l8), (9, vI l9)]) rfl ?_
  refine xr_iload A dX5_share_122 7 rfl ?_
  refine xr_aload_n A dX5_share_124 2 rfl rfl ?_
  revert hf; refine ab_bdI (fun v4 mv4 hf => ?_)
  refine xr_get A xc_X5 in_X5 30 (Nat.le_of_ble_eq_true rfl) q1328 rfl (ab_gRE mv4) dX5_share_125 ?_
  refine xr_iload A dX5_share_128 8 rfl ?_
  refine xr_bipush A (v := 6) dX5_share_130 (by decide) ?_
  refine xr_ishl A dX5_share_132 ?_
  refine xr_iload A dX5_share_133 9 rfl ?_
  refine xr_iadd A dX5_share_135 ?_
  revert hf; refine ab_bdI (fun a5 e hf => ?_); subst e
  revert hf; refine ab_bdI (fun v6 mv6 hf => ?_)
  refine xr_iaload A mv6 dX5_share_136 ?_
  refine xr_iadd A dX5_share_137 ?_
  refine xr_istore A dX5_share_138 (Nat.le_of_ble_eq_true rfl) (L' := [(6, vI (l6 + v6)), (5, vI (l5 + v3)), (7, vI s0), (0, vR (some x)), (1, vI l1), (2, vI l2), (3, vI l3), (4, vI l4), (8, vI l8), (9, vI l9)]) rfl ?_
  refine xr_iinc A dX5_share_140 8 rfl (v := (l8 + (1 : Int32))) rfl (Nat.le_of_ble_eq_true rfl) (L' := [(8, vI (l8 + (1 : Int32))), (6, vI (l6 + v6)), (5, vI (l5 + v3)), (7, vI s0), (0, vR (some x)), (1, vI l1), (2, vI l2), (3, vI l3), (4, vI l4), (9, vI l9)]) rfl ?_
  refine xr_goto A (tgt := 52) dX5_share_143 (by decide) ?_
  refine X.sub [4, 5, 6, 7, 8, 2, 1, 3, 0] rfl ?_
  exact hK52 hf
noncomputable def fX5_share_l52 (x : Nat) (K31 : Int32 → Int32 → Int32 → Int32 → Hp → Option (Int32 × Hp)) : Nat → Int32 → Int32 → Int32 → Int32 → Int32 → Int32 → Int32 → Int32 → Hp → Option (Int32 × Hp)
  | 0, _, _, _, _, _, _, _, _, _ => none
  | n + 1, l1, l2, l3, l4, l5, l6, l7, l8, h =>
  ab_bd (ab_gR h x 4 3) fun v1 =>
  ab_bd v1 fun a2 =>
  ab_bd (ab_gI h a2 13 6) fun v3 =>
  if v3 ≤ l8 then (
    if l7 = 0 then (
      K31 l1 l2 l3 (l4 + (1 : Int32)) h)
    else (
      if l1 = (-1 : Int32) then (
        fX5_share_b177 x K31 l4 l5 l6 h)
      else (
        if l2 < l5 then (
          K31 l1 l2 l3 (l4 + (1 : Int32)) h)
        else (
          if l5 = l2 then (
            if l6 < l3 then (
              fX5_share_b177 x K31 l4 l5 l6 h)
            else (
              K31 l1 l2 l3 (l4 + (1 : Int32)) h))
          else (
            fX5_share_b177 x K31 l4 l5 l6 h)))))
  else (
    ab_b2 (fX5_housesOf x l4 l8 h) fun v6 h5 =>
    if l7 = 0 then (
      fX5_share_b102 x K31 (fX5_share_l52 x K31 n) l1 l2 l3 l4 l5 l6 l8 v6 (0 : Int32) h5)
    else (
      ab_b2 (fX5_bits v6 h5) fun v9 h8 =>
      ab_bd (ab_gR h8 x 4 3) fun v10 =>
      ab_bd v10 fun a11 =>
      ab_bd (ab_gR h8 a11 13 28) fun v12 =>
      ab_bd v12 fun a13 =>
      ab_bd (ab_aI h8 a13 0 l8) fun v14 =>
      if v14 < v9 then (
        fX5_share_b102 x K31 (fX5_share_l52 x K31 n) l1 l2 l3 l4 l5 l6 l8 v6 (0 : Int32) h8)
      else (
        fX5_share_b102 x K31 (fX5_share_l52 x K31 n) l1 l2 l3 l4 l5 l6 l8 v6 (1 : Int32) h8)))
theorem wX5_share_l52 {D : Dd} {C : Cx} {h0 h' : Hp} {r : Int32} (A : Act C D (h0, (.inl (some (vI r))), h') yX5_share cX5_share 10 (some FieldType.int) 5 121 []) {x : Nat} {K31 : Int32 → Int32 → Int32 → Int32 → Hp → Option (Int32 × Hp)} (hK31 : ∀ {l1 : Int32} {l2 : Int32} {l3 : Int32} {l4 : Int32} {h : Hp}, K31 l1 l2 l3 l4 h = some (r, h') → X C D (h0, (.inl (some (vI r))), h') 10 31 [(0, vR (some x)), (1, vI l1), (2, vI l2), (3, vI l3), (4, vI l4)] [] h) : ∀ (n : Nat) {l1 : Int32} {l2 : Int32} {l3 : Int32} {l4 : Int32} {l5 : Int32} {l6 : Int32} {l7 : Int32} {l8 : Int32} {h : Hp}, fX5_share_l52 x K31 n l1 l2 l3 l4 l5 l6 l7 l8 h = some (r, h') → X C D (h0, (.inl (some (vI r))), h') 10 52 [(0, vR (some x)), (1, vI l1), (2, vI l2), (3, vI l3), (4, vI l4), (5, vI l5), (6, vI l6), (7, vI l7), (8, vI l8)] [] h := by
  intro n
  induction n with
  | zero => intro l1 l2 l3 l4 l5 l6 l7 l8 h hf; exact ab_no hf
  | succ n ih =>
    intro l1 l2 l3 l4 l5 l6 l7 l8 h hf
    unfold fX5_share_l52 at hf
    refine xr_iload A dX5_share_52 8 rfl ?_
    refine xr_aload_n A dX5_share_54 0 rfl rfl ?_
    revert hf; refine ab_bdI (fun v1 mv1 hf => ?_)
    refine xr_get A xc_X5 in_X5 3 (Nat.le_of_ble_eq_true rfl) q1301 rfl (ab_gRE mv1) dX5_share_55 ?_
    revert hf; refine ab_bdI (fun a2 e hf => ?_); subst e
    revert hf; refine ab_bdI (fun v3 mv3 hf => ?_)
    refine xr_getN A xc_X15 in_X15 6 (Nat.le_of_ble_eq_true rfl) n1466 rfl (ab_gIE mv3) dX5_share_58 ?_
    refine xr_icmp_ge A (tgt := 146) dX5_share_61 (by decide) (fun c61 => ?_) (fun c61 => ?_)
    · replace hf := ab_ip c61 hf
      refine xr_iload A dX5_share_146 7 rfl ?_
      refine xr_if_eq A (tgt := 186) dX5_share_148 (by decide) (fun c148 => ?_) (fun c148 => ?_)
      · replace hf := ab_ip c148 hf
        refine xr_iinc A dX5_share_186 4 rfl (v := (l4 + (1 : Int32))) rfl (Nat.le_of_ble_eq_true rfl) (L' := [(4, vI (l4 + (1 : Int32))), (0, vR (some x)), (1, vI l1), (2, vI l2), (3, vI l3), (5, vI l5), (6, vI l6), (7, vI l7), (8, vI l8)]) rfl ?_
        refine xr_goto A (tgt := 31) dX5_share_189 (by decide) ?_
        refine X.sub [1, 2, 3, 4, 0] rfl ?_
        exact hK31 hf
      · replace hf := ab_in c148 hf
        refine xr_iload_n A dX5_share_151 1 rfl rfl ?_
        refine xr_iconst A (v := (-1)) dX5_share_152 (by decide) ?_
        refine xr_icmp_eq A (tgt := 177) dX5_share_153 (by decide) (fun c153 => ?_) (fun c153 => ?_)
        · replace hf := ab_ip c153 hf
          refine X.sub [0, 4, 5, 6] rfl ?_
          exact wX5_share_b177 A @hK31 hf
        · replace hf := ab_in c153 hf
          refine xr_iload A dX5_share_156 5 rfl ?_
          refine xr_iload_n A dX5_share_158 2 rfl rfl ?_
          refine xr_icmp_gt A (tgt := 186) dX5_share_159 (by decide) (fun c159 => ?_) (fun c159 => ?_)
          · replace hf := ab_ip c159 hf
            refine xr_iinc A dX5_share_186 4 rfl (v := (l4 + (1 : Int32))) rfl (Nat.le_of_ble_eq_true rfl) (L' := [(4, vI (l4 + (1 : Int32))), (0, vR (some x)), (1, vI l1), (2, vI l2), (3, vI l3), (5, vI l5), (6, vI l6), (7, vI l7), (8, vI l8)]) rfl ?_
            refine xr_goto A (tgt := 31) dX5_share_189 (by decide) ?_
            refine X.sub [1, 2, 3, 4, 0] rfl ?_
            exact hK31 hf
          · replace hf := ab_in c159 hf
            refine xr_iload A dX5_share_162 5 rfl ?_
            refine xr_iload_n A dX5_share_164 2 rfl rfl ?_
            refine xr_icmp_ne A (tgt := 177) dX5_share_165 (by decide) (fun c165 => ?_) (fun c165 => ?_)
            · replace hf := ab_in c165 hf
              refine X.sub [0, 4, 5, 6] rfl ?_
              exact wX5_share_b177 A @hK31 hf
            · replace hf := ab_ip c165 hf
              refine xr_iload A dX5_share_168 6 rfl ?_
              refine xr_iload_n A dX5_share_170 3 rfl rfl ?_
              refine xr_icmp_lt A (tgt := 177) dX5_share_171 (by decide) (fun c171 => ?_) (fun c171 => ?_)
              · replace hf := ab_ip c171 hf
                refine X.sub [0, 4, 5, 6] rfl ?_
                exact wX5_share_b177 A @hK31 hf
              · replace hf := ab_in c171 hf
                refine xr_goto A (tgt := 186) dX5_share_174 (by decide) ?_
                refine xr_iinc A dX5_share_186 4 rfl (v := (l4 + (1 : Int32))) rfl (Nat.le_of_ble_eq_true rfl) (L' := [(4, vI (l4 + (1 : Int32))), (0, vR (some x)), (1, vI l1), (2, vI l2), (3, vI l3), (5, vI l5), (6, vI l6), (7, vI l7), (8, vI l8)]) rfl ?_
                refine xr_goto A (tgt := 31) dX5_share_189 (by decide) ?_
                refine X.sub [1, 2, 3, 4, 0] rfl ?_
                exact hK31 hf
    · replace hf := ab_in c61 hf
      refine xr_aload_n A dX5_share_64 0 rfl rfl ?_
      refine xr_iload A dX5_share_65 4 rfl ?_
      refine xr_iload A dX5_share_67 8 rfl ?_
      revert hf; refine ab_b2I (fun v6 h5 m4 hf => ?_)
      refine xr_V A bX5_housesOf (wX5_housesOf D m4).2 xc_X5 (wX5_housesOf D m4).1 q1866 qs83 q1864 (av := [vI l4, vI l8]) (rest := []) rfl dX5_share_69 (Nat.le_of_ble_eq_true rfl) (Nat.le_of_ble_eq_true rfl) rfl (Nat.le_of_ble_eq_true rfl) ?_
      refine xr_istore A dX5_share_72 (Nat.le_of_ble_eq_true rfl) (L' := [(9, vI v6), (0, vR (some x)), (1, vI l1), (2, vI l2), (3, vI l3), (4, vI l4), (5, vI l5), (6, vI l6), (7, vI l7), (8, vI l8)]) rfl ?_
      refine xr_iload A dX5_share_74 8 rfl ?_
      refine xr_if_eq A (tgt := 101) dX5_share_76 (by decide) (fun c76 => ?_) (fun c76 => ?_)
      · replace hf := ab_ip c76 hf
        refine xr_iconst A (v := 0) dX5_share_101 (by decide) ?_
        refine X.sub [1, 2, 3, 4, 5, 6, 7, 9, 0] rfl ?_
        exact wX5_share_b102 A @hK31 (fun hf => ih hf) hf
      · replace hf := ab_in c76 hf
        refine xr_iload A dX5_share_79 0 rfl ?_
        revert hf; refine ab_b2I (fun v9 h8 m7 hf => ?_)
        refine xr_S A bX5_bits (wX5_bits D m7) q1835 q1834 (av := [vI v6]) (rest := []) rfl dX5_share_81 (Nat.le_of_ble_eq_true rfl) (Nat.le_of_ble_eq_true rfl) rfl (Nat.le_of_ble_eq_true rfl) ?_
        refine xr_aload_n A dX5_share_84 1 rfl rfl ?_
        revert hf; refine ab_bdI (fun v10 mv10 hf => ?_)
        refine xr_get A xc_X5 in_X5 3 (Nat.le_of_ble_eq_true rfl) q1301 rfl (ab_gRE mv10) dX5_share_85 ?_
        revert hf; refine ab_bdI (fun a11 e hf => ?_); subst e
        revert hf; refine ab_bdI (fun v12 mv12 hf => ?_)
        refine xr_getN A xc_X15 in_X15 28 (Nat.le_of_ble_eq_true rfl) n1508 rfl (ab_gRE mv12) dX5_share_88 ?_
        refine xr_iload A dX5_share_91 9 rfl ?_
        revert hf; refine ab_bdI (fun a13 e hf => ?_); subst e
        revert hf; refine ab_bdI (fun v14 mv14 hf => ?_)
        refine xr_iaload A mv14 dX5_share_93 ?_
        refine xr_icmp_gt A (tgt := 101) dX5_share_94 (by decide) (fun c94 => ?_) (fun c94 => ?_)
        · replace hf := ab_ip c94 hf
          refine xr_iconst A (v := 0) dX5_share_101 (by decide) ?_
          refine X.sub [1, 2, 3, 4, 5, 6, 7, 9, 0] rfl ?_
          exact wX5_share_b102 A @hK31 (fun hf => ih hf) hf
        · replace hf := ab_in c94 hf
          refine xr_iconst A (v := 1) dX5_share_97 (by decide) ?_
          refine xr_goto A (tgt := 102) dX5_share_98 (by decide) ?_
          refine X.sub [1, 2, 3, 4, 5, 6, 7, 9, 0] rfl ?_
          exact wX5_share_b102 A @hK31 (fun hf => ih hf) hf
noncomputable def fX5_share_l31 (x : Nat) : Nat → Int32 → Int32 → Int32 → Int32 → Hp → Option (Int32 × Hp)
  | 0, _, _, _, _, _ => none
  | n + 1, l1, l2, l3, l4, h =>
  ab_b2 (fX5_shares x h) fun v3 h2 =>
  if v3 ≤ l4 then (
    if l1 = (-1 : Int32) then (
      ab_b2 (fX5_refused x (6 : Int32) h2) fun v7 h6 =>
      some (v7, h6))
    else (
      ab_bd (ab_pI h2 x 4 27 (1 : Int32)) fun h4 =>
      fX5_share_l212 x (hfu h4) l1 l2 (0 : Int32) h4))
  else (
    fX5_share_l52 x (fX5_share_l31 x n) (hfu h2) l1 l2 l3 l4 (0 : Int32) (0 : Int32) (1 : Int32) (0 : Int32) h2)
theorem wX5_share_l31 {D : Dd} {C : Cx} {h0 h' : Hp} {r : Int32} (A : Act C D (h0, (.inl (some (vI r))), h') yX5_share cX5_share 10 (some FieldType.int) 5 121 []) {x : Nat} : ∀ (n : Nat) {l1 : Int32} {l2 : Int32} {l3 : Int32} {l4 : Int32} {h : Hp}, fX5_share_l31 x n l1 l2 l3 l4 h = some (r, h') → X C D (h0, (.inl (some (vI r))), h') 10 31 [(0, vR (some x)), (1, vI l1), (2, vI l2), (3, vI l3), (4, vI l4)] [] h := by
  intro n
  induction n with
  | zero => intro l1 l2 l3 l4 h hf; exact ab_no hf
  | succ n ih =>
    intro l1 l2 l3 l4 h hf
    unfold fX5_share_l31 at hf
    refine xr_iload A dX5_share_31 4 rfl ?_
    refine xr_aload_n A dX5_share_33 0 rfl rfl ?_
    revert hf; refine ab_b2I (fun v3 h2 m1 hf => ?_)
    refine xr_V A bX5_shares (wX5_shares D m1).2 xc_X5 (wX5_shares D m1).1 q1862 qs82 q1860 (av := []) (rest := [vI l4]) rfl dX5_share_34 (Nat.le_of_ble_eq_true rfl) (Nat.le_of_ble_eq_true rfl) rfl (Nat.le_of_ble_eq_true rfl) ?_
    refine xr_icmp_ge A (tgt := 192) dX5_share_37 (by decide) (fun c37 => ?_) (fun c37 => ?_)
    · replace hf := ab_ip c37 hf
      refine xr_iload_n A dX5_share_192 1 rfl rfl ?_
      refine xr_iconst A (v := (-1)) dX5_share_193 (by decide) ?_
      refine xr_icmp_ne A (tgt := 204) dX5_share_194 (by decide) (fun c194 => ?_) (fun c194 => ?_)
      · replace hf := ab_in c194 hf
        refine xr_aload_n A dX5_share_204 0 rfl rfl ?_
        refine xr_iconst A (v := 1) dX5_share_205 (by decide) ?_
        revert hf; refine ab_bdI (fun h4 mh4 hf => ?_)
        refine xr_put A xc_X5 in_X5 tyX5_ok nmX5 27 (Nat.le_of_ble_eq_true rfl) q1325 rfl rfl (v := vI (1 : Int32)) rfl rfl mh4 dX5_share_206 ?_
        refine xr_iconst A (v := 0) dX5_share_209 (by decide) ?_
        refine xr_istore A dX5_share_210 (Nat.le_of_ble_eq_true rfl) (L' := [(4, vI (0 : Int32)), (0, vR (some x)), (1, vI l1), (2, vI l2), (3, vI l3)]) rfl ?_
        refine X.sub [1, 2, 3, 0] rfl ?_
        exact wX5_share_l212 A _ hf
      · replace hf := ab_ip c194 hf
        refine xr_aload_n A dX5_share_197 0 rfl rfl ?_
        refine xr_bipush A (v := 6) dX5_share_198 (by decide) ?_
        revert hf; refine ab_b2I (fun v7 h6 m5 hf => ?_)
        refine xr_V A bX5_refused (wX5_refused D m5).2 xc_X5 (wX5_refused D m5).1 q1451 qs44 q1449 (av := [vI (6 : Int32)]) (rest := []) rfl dX5_share_200 (Nat.le_of_ble_eq_true rfl) (Nat.le_of_ble_eq_true rfl) rfl (Nat.le_of_ble_eq_true rfl) ?_
        exact xr_ireturn A rfl hf dX5_share_203
    · replace hf := ab_in c37 hf
      refine xr_iconst A (v := 0) dX5_share_40 (by decide) ?_
      refine xr_istore A dX5_share_41 (Nat.le_of_ble_eq_true rfl) (L' := [(5, vI (0 : Int32)), (0, vR (some x)), (1, vI l1), (2, vI l2), (3, vI l3), (4, vI l4)]) rfl ?_
      refine xr_iconst A (v := 0) dX5_share_43 (by decide) ?_
      refine xr_istore A dX5_share_44 (Nat.le_of_ble_eq_true rfl) (L' := [(6, vI (0 : Int32)), (5, vI (0 : Int32)), (0, vR (some x)), (1, vI l1), (2, vI l2), (3, vI l3), (4, vI l4)]) rfl ?_
      refine xr_iconst A (v := 1) dX5_share_46 (by decide) ?_
      refine xr_istore A dX5_share_47 (Nat.le_of_ble_eq_true rfl) (L' := [(7, vI (1 : Int32)), (6, vI (0 : Int32)), (5, vI (0 : Int32)), (0, vR (some x)), (1, vI l1), (2, vI l2), (3, vI l3), (4, vI l4)]) rfl ?_
      refine xr_iconst A (v := 0) dX5_share_49 (by decide) ?_
      refine xr_istore A dX5_share_50 (Nat.le_of_ble_eq_true rfl) (L' := [(8, vI (0 : Int32)), (7, vI (1 : Int32)), (6, vI (0 : Int32)), (5, vI (0 : Int32)), (0, vR (some x)), (1, vI l1), (2, vI l2), (3, vI l3), (4, vI l4)]) rfl ?_
      refine X.sub [4, 5, 6, 7, 8, 3, 2, 1, 0] rfl ?_
      exact wX5_share_l52 A (fun hf => ih hf) _ hf
noncomputable def fX5_share (x : Nat) (h : Hp) : Option (Int32 × Hp) :=
  ab_ck h x 4 <|
  ab_bd (ab_pI h x 4 0 (0 : Int32)) fun h1 =>
  ab_bd (ab_gR h1 x 4 3) fun v2 =>
  ab_on v2 (
    ab_b2 (fX5_refused x (1 : Int32) h1) fun v6 h5 =>
    some (v6, h5)) fun a3 => (
    ab_bd (fX5_weighsCars x h1) fun h8 =>
    fX5_share_l31 x (hfu h8) (-1 : Int32) (0 : Int32) (0 : Int32) (0 : Int32) h8)
theorem wX5_share (D : Dd) {x : Nat} {h : Hp} {r : Int32} {h' : Hp} (hf : fX5_share x h = some (r, h')) : ab_is h x 4 ∧ Ct D 5 121 yX5_share cX5_share 10 (some FieldType.int) [vR (some x)] h (.inl (some (vI r))) h' := by
    unfold fX5_share at hf
    replace hf := ab_ckE hf; obtain ⟨i0, hf⟩ := hf
    refine ⟨i0, ?_⟩
    refine Ct.of (by decide) (L := [(0, vR (some x))]) rfl (Nat.le_of_ble_eq_true rfl) (fun C A => ?_)
    refine xr_aload_n A dX5_share_0 0 rfl rfl ?_
    refine xr_iconst A (v := 0) dX5_share_1 (by decide) ?_
    revert hf; refine ab_bdI (fun h1 mh1 hf => ?_)
    refine xr_put A xc_X5 in_X5 tyX5_ok nmX5 0 (Nat.le_of_ble_eq_true rfl) q1298 rfl rfl (v := vI (0 : Int32)) rfl rfl mh1 dX5_share_2 ?_
    refine xr_aload_n A dX5_share_5 0 rfl rfl ?_
    revert hf; refine ab_bdI (fun v2 mv2 hf => ?_)
    refine xr_get A xc_X5 in_X5 3 (Nat.le_of_ble_eq_true rfl) q1301 rfl (ab_gRE mv2) dX5_share_6 ?_
    revert hf; refine ab_onI (fun e hf => ?_) (fun a3 e hf => ?_) <;> subst e
    · refine xr_ifnonnull A (tgt := 18) dX5_share_9 (by decide) (fun _ e => by cases e) (fun _ => ?_)
      refine xr_aload_n A dX5_share_12 0 rfl rfl ?_
      refine xr_iconst A (v := 1) dX5_share_13 (by decide) ?_
      revert hf; refine ab_b2I (fun v6 h5 m4 hf => ?_)
      refine xr_V A bX5_refused (wX5_refused D m4).2 xc_X5 (wX5_refused D m4).1 q1451 qs44 q1449 (av := [vI (1 : Int32)]) (rest := []) rfl dX5_share_14 (Nat.le_of_ble_eq_true rfl) (Nat.le_of_ble_eq_true rfl) rfl (Nat.le_of_ble_eq_true rfl) ?_
      exact xr_ireturn A rfl hf dX5_share_17
    · refine xr_ifnonnull A (tgt := 18) dX5_share_9 (by decide) (fun _ _ => ?_) (fun e => by cases e)
      refine xr_aload_n A dX5_share_18 0 rfl rfl ?_
      revert hf; refine ab_bdI (fun h8 m7 hf => ?_)
      refine xr_V0 A bX5_weighsCars (wX5_weighsCars D m7).2 xc_X5 (wX5_weighsCars D m7).1 q1858 qs81 q1856 (av := []) (rest := []) rfl dX5_share_19 (Nat.le_of_ble_eq_true rfl) (Nat.le_of_ble_eq_true rfl) rfl (Nat.le_of_ble_eq_true rfl) ?_
      refine xr_iconst A (v := (-1)) dX5_share_22 (by decide) ?_
      refine xr_istore_n A dX5_share_23 rfl (Nat.le_of_ble_eq_true rfl) (L' := [(1, vI (-1 : Int32)), (0, vR (some x))]) rfl ?_
      refine xr_iconst A (v := 0) dX5_share_24 (by decide) ?_
      refine xr_istore_n A dX5_share_25 rfl (Nat.le_of_ble_eq_true rfl) (L' := [(2, vI (0 : Int32)), (1, vI (-1 : Int32)), (0, vR (some x))]) rfl ?_
      refine xr_iconst A (v := 0) dX5_share_26 (by decide) ?_
      refine xr_istore_n A dX5_share_27 rfl (Nat.le_of_ble_eq_true rfl) (L' := [(3, vI (0 : Int32)), (2, vI (0 : Int32)), (1, vI (-1 : Int32)), (0, vR (some x))]) rfl ?_
      refine xr_iconst A (v := 0) dX5_share_28 (by decide) ?_
      refine xr_istore A dX5_share_29 (Nat.le_of_ble_eq_true rfl) (L' := [(4, vI (0 : Int32)), (3, vI (0 : Int32)), (2, vI (0 : Int32)), (1, vI (-1 : Int32)), (0, vR (some x))]) rfl ?_
      refine X.sub [4, 3, 2, 1, 0] rfl ?_
      exact wX5_share_l31 A _ hf
/-! X5_shared -/
theorem bX5_shared : MB yX5_shared cX5_shared 2 (some FieldType.int) 1 := ⟨q1871, q99, by decide, by decide +kernel⟩
noncomputable def fX5_shared (x : Nat) (p1 : Int32) (h : Hp) : Option (Int32 × Hp) :=
  ab_ck h x 4 <|
  ab_bd (ab_pI h x 4 0 (0 : Int32)) fun h1 =>
  ab_b2 (fX5_isHouse x p1 h1) fun v4 h3 =>
  if v4 = 0 then (
    some ((-1 : Int32), h3))
  else (
    ab_bd (ab_gI h3 x 4 27) fun v5 =>
    if v5 = 0 then (
      some ((-1 : Int32), h3))
    else (
      ab_bd (ab_gR h3 x 4 28) fun v6 =>
      ab_bd v6 fun a7 =>
      ab_bd (ab_aI h3 a7 0 p1) fun v8 =>
      some (v8, h3)))
theorem wX5_shared (D : Dd) {x : Nat} {p1 : Int32} {h : Hp} {r : Int32} {h' : Hp} (hf : fX5_shared x p1 h = some (r, h')) : ab_is h x 4 ∧ Ct D 2 41 yX5_shared cX5_shared 2 (some FieldType.int) [vR (some x), vI p1] h (.inl (some (vI r))) h' := by
    unfold fX5_shared at hf
    replace hf := ab_ckE hf; obtain ⟨i0, hf⟩ := hf
    refine ⟨i0, ?_⟩
    refine Ct.of (by decide) (L := [(0, vR (some x)), (1, vI p1)]) rfl (Nat.le_of_ble_eq_true rfl) (fun C A => ?_)
    refine xr_aload_n A dX5_shared_0 0 rfl rfl ?_
    refine xr_iconst A (v := 0) dX5_shared_1 (by decide) ?_
    revert hf; refine ab_bdI (fun h1 mh1 hf => ?_)
    refine xr_put A xc_X5 in_X5 tyX5_ok nmX5 0 (Nat.le_of_ble_eq_true rfl) q1298 rfl rfl (v := vI (0 : Int32)) rfl rfl mh1 dX5_shared_2 ?_
    refine xr_aload_n A dX5_shared_5 0 rfl rfl ?_
    refine xr_iload_n A dX5_shared_6 1 rfl rfl ?_
    revert hf; refine ab_b2I (fun v4 h3 m2 hf => ?_)
    refine xr_V A bX5_isHouse (wX5_isHouse D m2).2 xc_X5 (wX5_isHouse D m2).1 q1769 qs71 q1767 (av := [vI p1]) (rest := []) rfl dX5_shared_7 (Nat.le_of_ble_eq_true rfl) (Nat.le_of_ble_eq_true rfl) rfl (Nat.le_of_ble_eq_true rfl) ?_
    refine xr_if_eq A (tgt := 29) dX5_shared_10 (by decide) (fun c10 => ?_) (fun c10 => ?_)
    · replace hf := ab_ip c10 hf
      refine xr_iconst A (v := (-1)) dX5_shared_29 (by decide) ?_
      exact xr_ireturn A rfl hf dX5_shared_30
    · replace hf := ab_in c10 hf
      refine xr_aload_n A dX5_shared_13 0 rfl rfl ?_
      revert hf; refine ab_bdI (fun v5 mv5 hf => ?_)
      refine xr_get A xc_X5 in_X5 27 (Nat.le_of_ble_eq_true rfl) q1325 rfl (ab_gIE mv5) dX5_shared_14 ?_
      refine xr_if_eq A (tgt := 29) dX5_shared_17 (by decide) (fun c17 => ?_) (fun c17 => ?_)
      · replace hf := ab_ip c17 hf
        refine xr_iconst A (v := (-1)) dX5_shared_29 (by decide) ?_
        exact xr_ireturn A rfl hf dX5_shared_30
      · replace hf := ab_in c17 hf
        refine xr_aload_n A dX5_shared_20 0 rfl rfl ?_
        revert hf; refine ab_bdI (fun v6 mv6 hf => ?_)
        refine xr_get A xc_X5 in_X5 28 (Nat.le_of_ble_eq_true rfl) q1326 rfl (ab_gRE mv6) dX5_shared_21 ?_
        refine xr_iload_n A dX5_shared_24 1 rfl rfl ?_
        revert hf; refine ab_bdI (fun a7 e hf => ?_); subst e
        revert hf; refine ab_bdI (fun v8 mv8 hf => ?_)
        refine xr_iaload A mv8 dX5_shared_25 ?_
        refine xr_goto A (tgt := 30) dX5_shared_26 (by decide) ?_
        exact xr_ireturn A rfl hf dX5_shared_30
/-! X5_odds -/
theorem bX5_odds : MB yX5_odds cX5_odds 10 (some FieldType.long) 1 := ⟨q1875, q99, by decide, by decide +kernel⟩
noncomputable def fX5_odds_b92 (x : Nat) (K25 : Int32 → Int64 → Int32 → Hp → Option (Int64 × Hp)) (K47 : Int32 → Int64 → Int32 → Int32 → Int64 → Int32 → Hp → Option (Int64 × Hp)) (l1 : Int32) (l2 : Int64) (l4 : Int32) (l6 : Int64) (l8 : Int32) (l9 : Int32) (s0 : Int32) (s1 : Int32) (h : Hp) : Option (Int64 × Hp) :=
  ab_b2 (fX5_has l4 l8 h) fun v3 h2 =>
  if v3 = 0 then (
    ab_bd (ab_gR h2 x 4 3) fun v4 =>
    ab_bd v4 fun a5 =>
    ab_bd (ab_gR h2 a5 13 22) fun v6 =>
    ab_bd v6 fun a7 =>
    ab_bd (ab_aI h2 a7 0 l9) fun v8 =>
    K47 l1 l2 l4 (s1 ||| s0) (l6 * ((100 : Int32) - v8).toInt64) (l8 + (1 : Int32)) h2)
  else (
    ab_bd (ab_gR h2 x 4 3) fun v9 =>
    ab_bd v9 fun a10 =>
    ab_bd (ab_gR h2 a10 13 22) fun v11 =>
    ab_bd v11 fun a12 =>
    ab_bd (ab_aI h2 a12 0 l9) fun v13 =>
    K47 l1 l2 l4 (s1 ||| s0) (l6 * v13.toInt64) (l8 + (1 : Int32)) h2)
theorem wX5_odds_b92 {D : Dd} {C : Cx} {h0 h' : Hp} {r : Int64} (A : Act C D (h0, (.inl (some (vL r))), h') yX5_odds cX5_odds 10 (some FieldType.long) 4 95 []) {x : Nat} {K25 : Int32 → Int64 → Int32 → Hp → Option (Int64 × Hp)} (hK25 : ∀ {l1 : Int32} {l2 : Int64} {l4 : Int32} {h : Hp}, K25 l1 l2 l4 h = some (r, h') → X C D (h0, (.inl (some (vL r))), h') 10 25 [(0, vR (some x)), (1, vI l1), (2, vL l2), (4, vI l4)] [] h) {K47 : Int32 → Int64 → Int32 → Int32 → Int64 → Int32 → Hp → Option (Int64 × Hp)} (hK47 : ∀ {l1 : Int32} {l2 : Int64} {l4 : Int32} {l5 : Int32} {l6 : Int64} {l8 : Int32} {h : Hp}, K47 l1 l2 l4 l5 l6 l8 h = some (r, h') → X C D (h0, (.inl (some (vL r))), h') 10 47 [(0, vR (some x)), (1, vI l1), (2, vL l2), (4, vI l4), (5, vI l5), (6, vL l6), (8, vI l8)] [] h) {l1 : Int32} {l2 : Int64} {l4 : Int32} {l6 : Int64} {l8 : Int32} {l9 : Int32} {s0 : Int32} {s1 : Int32} {h : Hp} (hf : fX5_odds_b92 x K25 K47 l1 l2 l4 l6 l8 l9 s0 s1 h = some (r, h')) : X C D (h0, (.inl (some (vL r))), h') 10 92 [(0, vR (some x)), (1, vI l1), (2, vL l2), (4, vI l4), (6, vL l6), (8, vI l8), (9, vI l9)] [vI s0, vI s1] h := by
  unfold fX5_odds_b92 at hf
  refine xr_ior A dX5_odds_92 ?_
  refine xr_istore A dX5_odds_93 (Nat.le_of_ble_eq_true rfl) (L' := [(5, vI (s1 ||| s0)), (0, vR (some x)), (1, vI l1), (2, vL l2), (4, vI l4), (6, vL l6), (8, vI l8), (9, vI l9)]) rfl ?_
  refine xr_lload A dX5_odds_95 5 rfl ?_
  refine xr_iload A dX5_odds_97 4 rfl ?_
  refine xr_iload A dX5_odds_99 6 rfl ?_
  revert hf; refine ab_b2I (fun v3 h2 m1 hf => ?_)
  refine xr_S A bX5_has (wX5_has D m1) q1804 q1803 (av := [vI l4, vI l8]) (rest := [vL l6]) rfl dX5_odds_101 (Nat.le_of_ble_eq_true rfl) (Nat.le_of_ble_eq_true rfl) rfl (Nat.le_of_ble_eq_true rfl) ?_
  refine xr_if_eq A (tgt := 121) dX5_odds_104 (by decide) (fun c104 => ?_) (fun c104 => ?_)
  · replace hf := ab_ip c104 hf
    refine xr_bipush A (v := 100) dX5_odds_121 (by decide) ?_
    refine xr_aload_n A dX5_odds_123 1 rfl rfl ?_
    revert hf; refine ab_bdI (fun v4 mv4 hf => ?_)
    refine xr_get A xc_X5 in_X5 3 (Nat.le_of_ble_eq_true rfl) q1301 rfl (ab_gRE mv4) dX5_odds_124 ?_
    revert hf; refine ab_bdI (fun a5 e hf => ?_); subst e
    revert hf; refine ab_bdI (fun v6 mv6 hf => ?_)
    refine xr_getN A xc_X15 in_X15 22 (Nat.le_of_ble_eq_true rfl) n1496 rfl (ab_gRE mv6) dX5_odds_127 ?_
    refine xr_iload A dX5_odds_130 7 rfl ?_
    revert hf; refine ab_bdI (fun a7 e hf => ?_); subst e
    revert hf; refine ab_bdI (fun v8 mv8 hf => ?_)
    refine xr_iaload A mv8 dX5_odds_132 ?_
    refine xr_isub A dX5_odds_133 ?_
    refine xr_i2l A dX5_odds_134 ?_
    refine xr_lmul A dX5_odds_135 ?_
    refine xr_lstore A dX5_odds_136 (Nat.le_of_ble_eq_true rfl) (L' := [(6, vL (l6 * ((100 : Int32) - v8).toInt64)), (5, vI (s1 ||| s0)), (0, vR (some x)), (1, vI l1), (2, vL l2), (4, vI l4), (8, vI l8), (9, vI l9)]) rfl ?_
    refine xr_iinc A dX5_odds_138 6 rfl (v := (l8 + (1 : Int32))) rfl (Nat.le_of_ble_eq_true rfl) (L' := [(8, vI (l8 + (1 : Int32))), (6, vL (l6 * ((100 : Int32) - v8).toInt64)), (5, vI (s1 ||| s0)), (0, vR (some x)), (1, vI l1), (2, vL l2), (4, vI l4), (9, vI l9)]) rfl ?_
    refine xr_goto A (tgt := 47) dX5_odds_141 (by decide) ?_
    refine X.sub [3, 4, 5, 6, 2, 1, 0] rfl ?_
    exact hK47 hf
  · replace hf := ab_in c104 hf
    refine xr_aload_n A dX5_odds_107 1 rfl rfl ?_
    revert hf; refine ab_bdI (fun v9 mv9 hf => ?_)
    refine xr_get A xc_X5 in_X5 3 (Nat.le_of_ble_eq_true rfl) q1301 rfl (ab_gRE mv9) dX5_odds_108 ?_
    revert hf; refine ab_bdI (fun a10 e hf => ?_); subst e
    revert hf; refine ab_bdI (fun v11 mv11 hf => ?_)
    refine xr_getN A xc_X15 in_X15 22 (Nat.le_of_ble_eq_true rfl) n1496 rfl (ab_gRE mv11) dX5_odds_111 ?_
    refine xr_iload A dX5_odds_114 7 rfl ?_
    revert hf; refine ab_bdI (fun a12 e hf => ?_); subst e
    revert hf; refine ab_bdI (fun v13 mv13 hf => ?_)
    refine xr_iaload A mv13 dX5_odds_116 ?_
    refine xr_i2l A dX5_odds_117 ?_
    refine xr_goto A (tgt := 135) dX5_odds_118 (by decide) ?_
    refine xr_lmul A dX5_odds_135 ?_
    refine xr_lstore A dX5_odds_136 (Nat.le_of_ble_eq_true rfl) (L' := [(6, vL (l6 * v13.toInt64)), (5, vI (s1 ||| s0)), (0, vR (some x)), (1, vI l1), (2, vL l2), (4, vI l4), (8, vI l8), (9, vI l9)]) rfl ?_
    refine xr_iinc A dX5_odds_138 6 rfl (v := (l8 + (1 : Int32))) rfl (Nat.le_of_ble_eq_true rfl) (L' := [(8, vI (l8 + (1 : Int32))), (6, vL (l6 * v13.toInt64)), (5, vI (s1 ||| s0)), (0, vR (some x)), (1, vI l1), (2, vL l2), (4, vI l4), (9, vI l9)]) rfl ?_
    refine xr_goto A (tgt := 47) dX5_odds_141 (by decide) ?_
    refine X.sub [3, 4, 5, 6, 2, 1, 0] rfl ?_
    exact hK47 hf
noncomputable def fX5_odds_l47 (x : Nat) (K25 : Int32 → Int64 → Int32 → Hp → Option (Int64 × Hp)) : Nat → Int32 → Int64 → Int32 → Int32 → Int64 → Int32 → Hp → Option (Int64 × Hp)
  | 0, _, _, _, _, _, _, _ => none
  | n + 1, l1, l2, l4, l5, l6, l8, h =>
  ab_bd (ab_gR h x 4 17) fun v1 =>
  ab_bd v1 fun a2 =>
  ab_bd (ab_aI h a2 0 l1) fun v3 =>
  if v3 ≤ l8 then (
    ab_bd (fX5_goesAsDriven x l1 l5 h) fun h5 =>
    ab_bd (ab_gI h5 x 4 21) fun v6 =>
    if v6 = 0 then (
      K25 l1 (l2 + l6) (l4 + (1 : Int32)) h5)
    else (
      K25 l1 (l2 + (0 : Int64)) (l4 + (1 : Int32)) h5))
  else (
    ab_bd (ab_gR h x 4 18) fun v7 =>
    ab_bd v7 fun a8 =>
    ab_bd (ab_aI h a8 0 (((6 : Int32) * l1) + l8)) fun v9 =>
    ab_b2 (fX5_has l4 l8 h) fun v12 h11 =>
    if v12 = 0 then (
      fX5_odds_b92 x K25 (fX5_odds_l47 x K25 n) l1 l2 l4 l6 l8 v9 (0 : Int32) l5 h11)
    else (
      fX5_odds_b92 x K25 (fX5_odds_l47 x K25 n) l1 l2 l4 l6 l8 v9 ((1 : Int32) <<< (v9 &&& 31)) l5 h11))
theorem wX5_odds_l47 {D : Dd} {C : Cx} {h0 h' : Hp} {r : Int64} (A : Act C D (h0, (.inl (some (vL r))), h') yX5_odds cX5_odds 10 (some FieldType.long) 4 95 []) {x : Nat} {K25 : Int32 → Int64 → Int32 → Hp → Option (Int64 × Hp)} (hK25 : ∀ {l1 : Int32} {l2 : Int64} {l4 : Int32} {h : Hp}, K25 l1 l2 l4 h = some (r, h') → X C D (h0, (.inl (some (vL r))), h') 10 25 [(0, vR (some x)), (1, vI l1), (2, vL l2), (4, vI l4)] [] h) : ∀ (n : Nat) {l1 : Int32} {l2 : Int64} {l4 : Int32} {l5 : Int32} {l6 : Int64} {l8 : Int32} {h : Hp}, fX5_odds_l47 x K25 n l1 l2 l4 l5 l6 l8 h = some (r, h') → X C D (h0, (.inl (some (vL r))), h') 10 47 [(0, vR (some x)), (1, vI l1), (2, vL l2), (4, vI l4), (5, vI l5), (6, vL l6), (8, vI l8)] [] h := by
  intro n
  induction n with
  | zero => intro l1 l2 l4 l5 l6 l8 h hf; exact ab_no hf
  | succ n ih =>
    intro l1 l2 l4 l5 l6 l8 h hf
    unfold fX5_odds_l47 at hf
    refine xr_iload A dX5_odds_47 6 rfl ?_
    refine xr_aload_n A dX5_odds_49 0 rfl rfl ?_
    revert hf; refine ab_bdI (fun v1 mv1 hf => ?_)
    refine xr_get A xc_X5 in_X5 17 (Nat.le_of_ble_eq_true rfl) q1315 rfl (ab_gRE mv1) dX5_odds_50 ?_
    refine xr_iload_n A dX5_odds_53 1 rfl rfl ?_
    revert hf; refine ab_bdI (fun a2 e hf => ?_); subst e
    revert hf; refine ab_bdI (fun v3 mv3 hf => ?_)
    refine xr_iaload A mv3 dX5_odds_54 ?_
    refine xr_icmp_ge A (tgt := 144) dX5_odds_55 (by decide) (fun c55 => ?_) (fun c55 => ?_)
    · replace hf := ab_ip c55 hf
      refine xr_aload_n A dX5_odds_144 0 rfl rfl ?_
      refine xr_iload_n A dX5_odds_145 1 rfl rfl ?_
      refine xr_iload A dX5_odds_146 4 rfl ?_
      revert hf; refine ab_bdI (fun h5 m4 hf => ?_)
      refine xr_V0 A bX5_goesAsDriven (wX5_goesAsDriven D m4).2 xc_X5 (wX5_goesAsDriven D m4).1 q1789 qs73 q1787 (av := [vI l1, vI l5]) (rest := []) rfl dX5_odds_148 (Nat.le_of_ble_eq_true rfl) (Nat.le_of_ble_eq_true rfl) rfl (Nat.le_of_ble_eq_true rfl) ?_
      refine xr_lload_n A dX5_odds_151 2 rfl rfl ?_
      refine xr_aload_n A dX5_odds_152 0 rfl rfl ?_
      revert hf; refine ab_bdI (fun v6 mv6 hf => ?_)
      refine xr_get A xc_X5 in_X5 21 (Nat.le_of_ble_eq_true rfl) q1319 rfl (ab_gIE mv6) dX5_odds_153 ?_
      refine xr_if_ne A (tgt := 164) dX5_odds_156 (by decide) (fun c156 => ?_) (fun c156 => ?_)
      · replace hf := ab_in c156 hf
        refine xr_lconst A (v := 0) dX5_odds_164 (by decide) ?_
        refine xr_ladd A dX5_odds_165 ?_
        refine xr_lstore_n A dX5_odds_166 rfl (Nat.le_of_ble_eq_true rfl) (L' := [(2, vL (l2 + (0 : Int64))), (0, vR (some x)), (1, vI l1), (4, vI l4), (5, vI l5), (6, vL l6), (8, vI l8)]) rfl ?_
        refine xr_iinc A dX5_odds_167 3 rfl (v := (l4 + (1 : Int32))) rfl (Nat.le_of_ble_eq_true rfl) (L' := [(4, vI (l4 + (1 : Int32))), (2, vL (l2 + (0 : Int64))), (0, vR (some x)), (1, vI l1), (5, vI l5), (6, vL l6), (8, vI l8)]) rfl ?_
        refine xr_goto A (tgt := 25) dX5_odds_170 (by decide) ?_
        refine X.sub [2, 3, 1, 0] rfl ?_
        exact hK25 hf
      · replace hf := ab_ip c156 hf
        refine xr_lload A dX5_odds_159 5 rfl ?_
        refine xr_goto A (tgt := 165) dX5_odds_161 (by decide) ?_
        refine xr_ladd A dX5_odds_165 ?_
        refine xr_lstore_n A dX5_odds_166 rfl (Nat.le_of_ble_eq_true rfl) (L' := [(2, vL (l2 + l6)), (0, vR (some x)), (1, vI l1), (4, vI l4), (5, vI l5), (6, vL l6), (8, vI l8)]) rfl ?_
        refine xr_iinc A dX5_odds_167 3 rfl (v := (l4 + (1 : Int32))) rfl (Nat.le_of_ble_eq_true rfl) (L' := [(4, vI (l4 + (1 : Int32))), (2, vL (l2 + l6)), (0, vR (some x)), (1, vI l1), (5, vI l5), (6, vL l6), (8, vI l8)]) rfl ?_
        refine xr_goto A (tgt := 25) dX5_odds_170 (by decide) ?_
        refine X.sub [2, 3, 1, 0] rfl ?_
        exact hK25 hf
    · replace hf := ab_in c55 hf
      refine xr_aload_n A dX5_odds_58 0 rfl rfl ?_
      revert hf; refine ab_bdI (fun v7 mv7 hf => ?_)
      refine xr_get A xc_X5 in_X5 18 (Nat.le_of_ble_eq_true rfl) q1316 rfl (ab_gRE mv7) dX5_odds_59 ?_
      refine xr_bipush A (v := 6) dX5_odds_62 (by decide) ?_
      refine xr_iload_n A dX5_odds_64 1 rfl rfl ?_
      refine xr_imul A dX5_odds_65 ?_
      refine xr_iload A dX5_odds_66 6 rfl ?_
      refine xr_iadd A dX5_odds_68 ?_
      revert hf; refine ab_bdI (fun a8 e hf => ?_); subst e
      revert hf; refine ab_bdI (fun v9 mv9 hf => ?_)
      refine xr_iaload A mv9 dX5_odds_69 ?_
      refine xr_istore A dX5_odds_70 (Nat.le_of_ble_eq_true rfl) (L' := [(9, vI v9), (0, vR (some x)), (1, vI l1), (2, vL l2), (4, vI l4), (5, vI l5), (6, vL l6), (8, vI l8)]) rfl ?_
      refine xr_iload A dX5_odds_72 5 rfl ?_
      refine xr_iload A dX5_odds_74 4 rfl ?_
      refine xr_iload A dX5_odds_76 7 rfl ?_
      revert hf; refine ab_b2I (fun v12 h11 m10 hf => ?_)
      refine xr_S A bX5_has (wX5_has D m10) q1804 q1803 (av := [vI l4, vI l8]) (rest := [vI l5]) rfl dX5_odds_78 (Nat.le_of_ble_eq_true rfl) (Nat.le_of_ble_eq_true rfl) rfl (Nat.le_of_ble_eq_true rfl) ?_
      refine xr_if_eq A (tgt := 91) dX5_odds_81 (by decide) (fun c81 => ?_) (fun c81 => ?_)
      · replace hf := ab_ip c81 hf
        refine xr_iconst A (v := 0) dX5_odds_91 (by decide) ?_
        refine X.sub [1, 2, 3, 4, 6, 7, 0] rfl ?_
        exact wX5_odds_b92 A @hK25 (fun hf => ih hf) hf
      · replace hf := ab_in c81 hf
        refine xr_iconst A (v := 1) dX5_odds_84 (by decide) ?_
        refine xr_iload A dX5_odds_85 0 rfl ?_
        refine xr_ishl A dX5_odds_87 ?_
        refine xr_goto A (tgt := 92) dX5_odds_88 (by decide) ?_
        refine X.sub [1, 2, 3, 4, 6, 7, 0] rfl ?_
        exact wX5_odds_b92 A @hK25 (fun hf => ih hf) hf
noncomputable def fX5_odds_l25 (x : Nat) : Nat → Int32 → Int64 → Int32 → Hp → Option (Int64 × Hp)
  | 0, _, _, _, _ => none
  | n + 1, l1, l2, l4, h =>
  ab_bd (ab_gR h x 4 17) fun v1 =>
  ab_bd v1 fun a2 =>
  ab_bd (ab_aI h a2 0 l1) fun v3 =>
  if ((1 : Int32) <<< (v3 &&& 31)) ≤ l4 then (
    ab_b2 (fX5_done x (0 : Int32) h) fun v6 h5 =>
    some (l2, h5))
  else (
    fX5_odds_l47 x (fX5_odds_l25 x n) (hfu h) l1 l2 l4 (0 : Int32) (1 : Int64) (0 : Int32) h)
theorem wX5_odds_l25 {D : Dd} {C : Cx} {h0 h' : Hp} {r : Int64} (A : Act C D (h0, (.inl (some (vL r))), h') yX5_odds cX5_odds 10 (some FieldType.long) 4 95 []) {x : Nat} : ∀ (n : Nat) {l1 : Int32} {l2 : Int64} {l4 : Int32} {h : Hp}, fX5_odds_l25 x n l1 l2 l4 h = some (r, h') → X C D (h0, (.inl (some (vL r))), h') 10 25 [(0, vR (some x)), (1, vI l1), (2, vL l2), (4, vI l4)] [] h := by
  intro n
  induction n with
  | zero => intro l1 l2 l4 h hf; exact ab_no hf
  | succ n ih =>
    intro l1 l2 l4 h hf
    unfold fX5_odds_l25 at hf
    refine xr_iload A dX5_odds_25 3 rfl ?_
    refine xr_iconst A (v := 1) dX5_odds_27 (by decide) ?_
    refine xr_aload_n A dX5_odds_28 0 rfl rfl ?_
    revert hf; refine ab_bdI (fun v1 mv1 hf => ?_)
    refine xr_get A xc_X5 in_X5 17 (Nat.le_of_ble_eq_true rfl) q1315 rfl (ab_gRE mv1) dX5_odds_29 ?_
    refine xr_iload_n A dX5_odds_32 1 rfl rfl ?_
    revert hf; refine ab_bdI (fun a2 e hf => ?_); subst e
    revert hf; refine ab_bdI (fun v3 mv3 hf => ?_)
    refine xr_iaload A mv3 dX5_odds_33 ?_
    refine xr_ishl A dX5_odds_34 ?_
    refine xr_icmp_ge A (tgt := 173) dX5_odds_35 (by decide) (fun c35 => ?_) (fun c35 => ?_)
    · replace hf := ab_ip c35 hf
      refine xr_aload_n A dX5_odds_173 0 rfl rfl ?_
      refine xr_iconst A (v := 0) dX5_odds_174 (by decide) ?_
      revert hf; refine ab_b2I (fun v6 h5 m4 hf => ?_)
      refine xr_V A bX5_done (wX5_done D m4).2 xc_X5 (wX5_done D m4).1 q1749 qs69 q1747 (av := [vI (0 : Int32)]) (rest := []) rfl dX5_odds_175 (Nat.le_of_ble_eq_true rfl) (Nat.le_of_ble_eq_true rfl) rfl (Nat.le_of_ble_eq_true rfl) ?_
      refine xr_pop A dX5_odds_178 rfl ?_
      refine xr_lload_n A dX5_odds_179 2 rfl rfl ?_
      exact xr_lreturn A hf dX5_odds_180
    · replace hf := ab_in c35 hf
      refine xr_iconst A (v := 0) dX5_odds_38 (by decide) ?_
      refine xr_istore A dX5_odds_39 (Nat.le_of_ble_eq_true rfl) (L' := [(5, vI (0 : Int32)), (0, vR (some x)), (1, vI l1), (2, vL l2), (4, vI l4)]) rfl ?_
      refine xr_lconst A (v := 1) dX5_odds_41 (by decide) ?_
      refine xr_lstore A dX5_odds_42 (Nat.le_of_ble_eq_true rfl) (L' := [(6, vL (1 : Int64)), (5, vI (0 : Int32)), (0, vR (some x)), (1, vI l1), (2, vL l2), (4, vI l4)]) rfl ?_
      refine xr_iconst A (v := 0) dX5_odds_44 (by decide) ?_
      refine xr_istore A dX5_odds_45 (Nat.le_of_ble_eq_true rfl) (L' := [(8, vI (0 : Int32)), (6, vL (1 : Int64)), (5, vI (0 : Int32)), (0, vR (some x)), (1, vI l1), (2, vL l2), (4, vI l4)]) rfl ?_
      refine X.sub [3, 4, 5, 6, 2, 1, 0] rfl ?_
      exact wX5_odds_l47 A (fun hf => ih hf) _ hf
noncomputable def fX5_odds (x : Nat) (p1 : Int32) (h : Hp) : Option (Int64 × Hp) :=
  ab_ck h x 4 <|
  ab_bd (ab_pI h x 4 0 (0 : Int32)) fun h1 =>
  ab_b2 (fX5_isCar x p1 h1) fun v4 h3 =>
  if v4 = 0 then (
    ab_b2 (fX5_refused x (1 : Int32) h3) fun v7 h6 =>
    some (v7.toInt64, h6))
  else (
    fX5_odds_l25 x (hfu h3) p1 (0 : Int64) (0 : Int32) h3)
theorem wX5_odds (D : Dd) {x : Nat} {p1 : Int32} {h : Hp} {r : Int64} {h' : Hp} (hf : fX5_odds x p1 h = some (r, h')) : ab_is h x 4 ∧ Ct D 4 95 yX5_odds cX5_odds 10 (some FieldType.long) [vR (some x), vI p1] h (.inl (some (vL r))) h' := by
    unfold fX5_odds at hf
    replace hf := ab_ckE hf; obtain ⟨i0, hf⟩ := hf
    refine ⟨i0, ?_⟩
    refine Ct.of (by decide) (L := [(0, vR (some x)), (1, vI p1)]) rfl (Nat.le_of_ble_eq_true rfl) (fun C A => ?_)
    refine xr_aload_n A dX5_odds_0 0 rfl rfl ?_
    refine xr_iconst A (v := 0) dX5_odds_1 (by decide) ?_
    revert hf; refine ab_bdI (fun h1 mh1 hf => ?_)
    refine xr_put A xc_X5 in_X5 tyX5_ok nmX5 0 (Nat.le_of_ble_eq_true rfl) q1298 rfl rfl (v := vI (0 : Int32)) rfl rfl mh1 dX5_odds_2 ?_
    refine xr_aload_n A dX5_odds_5 0 rfl rfl ?_
    refine xr_iload_n A dX5_odds_6 1 rfl rfl ?_
    revert hf; refine ab_b2I (fun v4 h3 m2 hf => ?_)
    refine xr_V A bX5_isCar (wX5_isCar D m2).2 xc_X5 (wX5_isCar D m2).1 q1765 qs70 q1763 (av := [vI p1]) (rest := []) rfl dX5_odds_7 (Nat.le_of_ble_eq_true rfl) (Nat.le_of_ble_eq_true rfl) rfl (Nat.le_of_ble_eq_true rfl) ?_
    refine xr_if_ne A (tgt := 20) dX5_odds_10 (by decide) (fun c10 => ?_) (fun c10 => ?_)
    · replace hf := ab_in c10 hf
      refine xr_lconst A (v := 0) dX5_odds_20 (by decide) ?_
      refine xr_lstore_n A dX5_odds_21 rfl (Nat.le_of_ble_eq_true rfl) (L' := [(2, vL (0 : Int64)), (0, vR (some x)), (1, vI p1)]) rfl ?_
      refine xr_iconst A (v := 0) dX5_odds_22 (by decide) ?_
      refine xr_istore A dX5_odds_23 (Nat.le_of_ble_eq_true rfl) (L' := [(4, vI (0 : Int32)), (2, vL (0 : Int64)), (0, vR (some x)), (1, vI p1)]) rfl ?_
      refine X.sub [2, 3, 1, 0] rfl ?_
      exact wX5_odds_l25 A _ hf
    · replace hf := ab_ip c10 hf
      refine xr_aload_n A dX5_odds_13 0 rfl rfl ?_
      refine xr_iconst A (v := 1) dX5_odds_14 (by decide) ?_
      revert hf; refine ab_b2I (fun v7 h6 m5 hf => ?_)
      refine xr_V A bX5_refused (wX5_refused D m5).2 xc_X5 (wX5_refused D m5).1 q1451 qs44 q1449 (av := [vI (1 : Int32)]) (rest := []) rfl dX5_odds_15 (Nat.le_of_ble_eq_true rfl) (Nat.le_of_ble_eq_true rfl) rfl (Nat.le_of_ble_eq_true rfl) ?_
      refine xr_i2l A dX5_odds_18 ?_
      exact xr_lreturn A hf dX5_odds_19
/-! X5_costs -/
theorem bX5_costs : MB yX5_costs cX5_costs 4 (some FieldType.int) 1 := ⟨q1879, q99, by decide, by decide +kernel⟩
noncomputable def fX5_costs (x : Nat) (p1 : Int32) (h : Hp) : Option (Int32 × Hp) :=
  ab_ck h x 4 <|
  ab_bd (ab_pI h x 4 0 (0 : Int32)) fun h1 =>
  ab_b2 (fX5_isHouse x p1 h1) fun v4 h3 =>
  if v4 = 0 then (
    ab_b2 (fX5_lost x (1 : Int32) h3) fun v28 h27 =>
    some (v28, h27))
  else (
    ab_b2 (fX5_carOf x p1 h3) fun v7 h6 =>
    if v7 = (-1 : Int32) then (
      ab_b2 (fX5_lost x (6 : Int32) h6) fun v25 h24 =>
      some (v25, h24))
    else (
      ab_bd (fX5_goesAsDriven x v7 (0 : Int32) h6) fun h9 =>
      ab_bd (ab_gI h9 x 4 21) fun v10 =>
      ab_b2 (fX5_bits v10 h9) fun v13 h12 =>
      ab_bd (fX5_goesAsDriven x v7 ((1 : Int32) <<< (p1 &&& 31)) h12) fun h15 =>
      ab_bd (ab_gI h15 x 4 21) fun v16 =>
      ab_b2 (fX5_bits v16 h15) fun v19 h18 =>
      ab_b2 (fX5_done x (v19 - v13) h18) fun v22 h21 =>
      some (v22, h21)))
theorem wX5_costs (D : Dd) {x : Nat} {p1 : Int32} {h : Hp} {r : Int32} {h' : Hp} (hf : fX5_costs x p1 h = some (r, h')) : ab_is h x 4 ∧ Ct D 4 95 yX5_costs cX5_costs 4 (some FieldType.int) [vR (some x), vI p1] h (.inl (some (vI r))) h' := by
    unfold fX5_costs at hf
    replace hf := ab_ckE hf; obtain ⟨i0, hf⟩ := hf
    refine ⟨i0, ?_⟩
    refine Ct.of (by decide) (L := [(0, vR (some x)), (1, vI p1)]) rfl (Nat.le_of_ble_eq_true rfl) (fun C A => ?_)
    refine xr_aload_n A dX5_costs_0 0 rfl rfl ?_
    refine xr_iconst A (v := 0) dX5_costs_1 (by decide) ?_
    revert hf; refine ab_bdI (fun h1 mh1 hf => ?_)
    refine xr_put A xc_X5 in_X5 tyX5_ok nmX5 0 (Nat.le_of_ble_eq_true rfl) q1298 rfl rfl (v := vI (0 : Int32)) rfl rfl mh1 dX5_costs_2 ?_
    refine xr_aload_n A dX5_costs_5 0 rfl rfl ?_
    refine xr_iload_n A dX5_costs_6 1 rfl rfl ?_
    revert hf; refine ab_b2I (fun v4 h3 m2 hf => ?_)
    refine xr_V A bX5_isHouse (wX5_isHouse D m2).2 xc_X5 (wX5_isHouse D m2).1 q1769 qs71 q1767 (av := [vI p1]) (rest := []) rfl dX5_costs_7 (Nat.le_of_ble_eq_true rfl) (Nat.le_of_ble_eq_true rfl) rfl (Nat.le_of_ble_eq_true rfl) ?_
    refine xr_if_ne A (tgt := 19) dX5_costs_10 (by decide) (fun c10 => ?_) (fun c10 => ?_)
    · replace hf := ab_in c10 hf
      refine xr_aload_n A dX5_costs_19 0 rfl rfl ?_
      refine xr_iload_n A dX5_costs_20 1 rfl rfl ?_
      revert hf; refine ab_b2I (fun v7 h6 m5 hf => ?_)
      refine xr_V A bX5_carOf (wX5_carOf D m5).2 xc_X5 (wX5_carOf D m5).1 q1773 qs72 q1771 (av := [vI p1]) (rest := []) rfl dX5_costs_21 (Nat.le_of_ble_eq_true rfl) (Nat.le_of_ble_eq_true rfl) rfl (Nat.le_of_ble_eq_true rfl) ?_
      refine xr_istore_n A dX5_costs_24 rfl (Nat.le_of_ble_eq_true rfl) (L' := [(2, vI v7), (0, vR (some x)), (1, vI p1)]) rfl ?_
      refine xr_iload_n A dX5_costs_25 0 rfl rfl ?_
      refine xr_iconst A (v := (-1)) dX5_costs_26 (by decide) ?_
      refine xr_icmp_ne A (tgt := 37) dX5_costs_27 (by decide) (fun c27 => ?_) (fun c27 => ?_)
      · replace hf := ab_in c27 hf
        refine xr_aload_n A dX5_costs_37 1 rfl rfl ?_
        refine xr_iload_n A dX5_costs_38 0 rfl rfl ?_
        refine xr_iconst A (v := 0) dX5_costs_39 (by decide) ?_
        revert hf; refine ab_bdI (fun h9 m8 hf => ?_)
        refine xr_V0 A bX5_goesAsDriven (wX5_goesAsDriven D m8).2 xc_X5 (wX5_goesAsDriven D m8).1 q1789 qs73 q1787 (av := [vI v7, vI (0 : Int32)]) (rest := []) rfl dX5_costs_40 (Nat.le_of_ble_eq_true rfl) (Nat.le_of_ble_eq_true rfl) rfl (Nat.le_of_ble_eq_true rfl) ?_
        refine xr_aload_n A dX5_costs_43 1 rfl rfl ?_
        revert hf; refine ab_bdI (fun v10 mv10 hf => ?_)
        refine xr_get A xc_X5 in_X5 21 (Nat.le_of_ble_eq_true rfl) q1319 rfl (ab_gIE mv10) dX5_costs_44 ?_
        revert hf; refine ab_b2I (fun v13 h12 m11 hf => ?_)
        refine xr_S A bX5_bits (wX5_bits D m11) q1835 q1834 (av := [vI v10]) (rest := []) rfl dX5_costs_47 (Nat.le_of_ble_eq_true rfl) (Nat.le_of_ble_eq_true rfl) rfl (Nat.le_of_ble_eq_true rfl) ?_
        refine xr_istore_n A dX5_costs_50 rfl (Nat.le_of_ble_eq_true rfl) (L' := [(3, vI v13), (2, vI v7), (0, vR (some x)), (1, vI p1)]) rfl ?_
        refine xr_aload_n A dX5_costs_51 2 rfl rfl ?_
        refine xr_iload_n A dX5_costs_52 1 rfl rfl ?_
        refine xr_iconst A (v := 1) dX5_costs_53 (by decide) ?_
        refine xr_iload_n A dX5_costs_54 3 rfl rfl ?_
        refine xr_ishl A dX5_costs_55 ?_
        revert hf; refine ab_bdI (fun h15 m14 hf => ?_)
        refine xr_V0 A bX5_goesAsDriven (wX5_goesAsDriven D m14).2 xc_X5 (wX5_goesAsDriven D m14).1 q1789 qs73 q1787 (av := [vI v7, vI ((1 : Int32) <<< (p1 &&& 31))]) (rest := []) rfl dX5_costs_56 (Nat.le_of_ble_eq_true rfl) (Nat.le_of_ble_eq_true rfl) rfl (Nat.le_of_ble_eq_true rfl) ?_
        refine xr_aload_n A dX5_costs_59 2 rfl rfl ?_
        refine xr_aload_n A dX5_costs_60 2 rfl rfl ?_
        revert hf; refine ab_bdI (fun v16 mv16 hf => ?_)
        refine xr_get A xc_X5 in_X5 21 (Nat.le_of_ble_eq_true rfl) q1319 rfl (ab_gIE mv16) dX5_costs_61 ?_
        revert hf; refine ab_b2I (fun v19 h18 m17 hf => ?_)
        refine xr_S A bX5_bits (wX5_bits D m17) q1835 q1834 (av := [vI v16]) (rest := [vR (some x)]) rfl dX5_costs_64 (Nat.le_of_ble_eq_true rfl) (Nat.le_of_ble_eq_true rfl) rfl (Nat.le_of_ble_eq_true rfl) ?_
        refine xr_iload_n A dX5_costs_67 0 rfl rfl ?_
        refine xr_isub A dX5_costs_68 ?_
        revert hf; refine ab_b2I (fun v22 h21 m20 hf => ?_)
        refine xr_V A bX5_done (wX5_done D m20).2 xc_X5 (wX5_done D m20).1 q1749 qs69 q1747 (av := [vI (v19 - v13)]) (rest := []) rfl dX5_costs_69 (Nat.le_of_ble_eq_true rfl) (Nat.le_of_ble_eq_true rfl) rfl (Nat.le_of_ble_eq_true rfl) ?_
        exact xr_ireturn A rfl hf dX5_costs_72
      · replace hf := ab_ip c27 hf
        refine xr_aload_n A dX5_costs_30 1 rfl rfl ?_
        refine xr_bipush A (v := 6) dX5_costs_31 (by decide) ?_
        revert hf; refine ab_b2I (fun v25 h24 m23 hf => ?_)
        refine xr_V A bX5_lost (wX5_lost D m23).2 xc_X5 (wX5_lost D m23).1 q1816 qs77 q1814 (av := [vI (6 : Int32)]) (rest := []) rfl dX5_costs_33 (Nat.le_of_ble_eq_true rfl) (Nat.le_of_ble_eq_true rfl) rfl (Nat.le_of_ble_eq_true rfl) ?_
        exact xr_ireturn A rfl hf dX5_costs_36
    · replace hf := ab_ip c10 hf
      refine xr_aload_n A dX5_costs_13 0 rfl rfl ?_
      refine xr_iconst A (v := 1) dX5_costs_14 (by decide) ?_
      revert hf; refine ab_b2I (fun v28 h27 m26 hf => ?_)
      refine xr_V A bX5_lost (wX5_lost D m26).2 xc_X5 (wX5_lost D m26).1 q1816 qs77 q1814 (av := [vI (1 : Int32)]) (rest := []) rfl dX5_costs_15 (Nat.le_of_ble_eq_true rfl) (Nat.le_of_ble_eq_true rfl) rfl (Nat.le_of_ble_eq_true rfl) ?_
      exact xr_ireturn A rfl hf dX5_costs_18
/-! X5_isDish -/
theorem bX5_isDish : MB yX5_isDish cX5_isDish 2 (some FieldType.boolean) 1 := ⟨q1887, q99, by decide, by decide +kernel⟩
noncomputable def fX5_isDish (x : Nat) (p1 : Int32) (h : Hp) : Option (Int32 × Hp) :=
  ab_ck h x 4 <|
  ab_bd (ab_gR h x 4 3) fun v1 =>
  ab_on v1 (
    some ((0 : Int32), h)) fun a2 => (
    if p1 < 0 then (
      some ((0 : Int32), h))
    else (
      ab_bd (ab_gR h x 4 3) fun v3 =>
      ab_bd v3 fun a4 =>
      ab_bd (ab_gI h a4 13 3) fun v5 =>
      if v5 ≤ p1 then (
        some ((0 : Int32), h))
      else (
        some ((1 : Int32), h))))
theorem wX5_isDish (D : Dd) {x : Nat} {p1 : Int32} {h : Hp} {r : Int32} {h' : Hp} (hf : fX5_isDish x p1 h = some (r, h')) : ab_is h x 4 ∧ Ct D 1 20 yX5_isDish cX5_isDish 2 (some FieldType.boolean) [vR (some x), vI p1] h (.inl (some (vI r))) h' := by
    unfold fX5_isDish at hf
    replace hf := ab_ckE hf; obtain ⟨i0, hf⟩ := hf
    refine ⟨i0, ?_⟩
    refine Ct.of (by decide) (L := [(0, vR (some x)), (1, vI p1)]) rfl (Nat.le_of_ble_eq_true rfl) (fun C A => ?_)
    refine xr_aload_n A dX5_isDish_0 0 rfl rfl ?_
    revert hf; refine ab_bdI (fun v1 mv1 hf => ?_)
    refine xr_get A xc_X5 in_X5 3 (Nat.le_of_ble_eq_true rfl) q1301 rfl (ab_gRE mv1) dX5_isDish_1 ?_
    revert hf; refine ab_onI (fun e hf => ?_) (fun a2 e hf => ?_) <;> subst e
    · refine xr_ifnull A (tgt := 26) dX5_isDish_4 (by decide) (fun _ => ?_) (fun _ e => by cases e)
      refine xr_iconst A (v := 0) dX5_isDish_26 (by decide) ?_
      exact xr_ireturn A rfl hf dX5_isDish_27
    · refine xr_ifnull A (tgt := 26) dX5_isDish_4 (by decide) (fun e => by cases e) (fun _ _ => ?_)
      refine xr_iload_n A dX5_isDish_7 1 rfl rfl ?_
      refine xr_if_lt A (tgt := 26) dX5_isDish_8 (by decide) (fun c8 => ?_) (fun c8 => ?_)
      · replace hf := ab_ip c8 hf
        refine xr_iconst A (v := 0) dX5_isDish_26 (by decide) ?_
        exact xr_ireturn A rfl hf dX5_isDish_27
      · replace hf := ab_in c8 hf
        refine xr_iload_n A dX5_isDish_11 1 rfl rfl ?_
        refine xr_aload_n A dX5_isDish_12 0 rfl rfl ?_
        revert hf; refine ab_bdI (fun v3 mv3 hf => ?_)
        refine xr_get A xc_X5 in_X5 3 (Nat.le_of_ble_eq_true rfl) q1301 rfl (ab_gRE mv3) dX5_isDish_13 ?_
        revert hf; refine ab_bdI (fun a4 e hf => ?_); subst e
        revert hf; refine ab_bdI (fun v5 mv5 hf => ?_)
        refine xr_getN A xc_X15 in_X15 3 (Nat.le_of_ble_eq_true rfl) n1463 rfl (ab_gIE mv5) dX5_isDish_16 ?_
        refine xr_icmp_ge A (tgt := 26) dX5_isDish_19 (by decide) (fun c19 => ?_) (fun c19 => ?_)
        · replace hf := ab_ip c19 hf
          refine xr_iconst A (v := 0) dX5_isDish_26 (by decide) ?_
          exact xr_ireturn A rfl hf dX5_isDish_27
        · replace hf := ab_in c19 hf
          refine xr_iconst A (v := 1) dX5_isDish_22 (by decide) ?_
          refine xr_goto A (tgt := 27) dX5_isDish_23 (by decide) ?_
          exact xr_ireturn A rfl hf dX5_isDish_27
/-! X5_barred -/
theorem bX5_barred : MB yX5_barred cX5_barred 3 (some FieldType.int) 2 := ⟨q1891, q99, by decide, by decide +kernel⟩
noncomputable def fX5_barred (x : Nat) (p1 : Int32) (p2 : Int32) (h : Hp) : Option (Int32 × Hp) :=
  ab_ck h x 4 <|
  ab_bd (ab_gR h x 4 3) fun v1 =>
  ab_bd v1 fun a2 =>
  ab_bd (ab_gR h a2 13 13) fun v3 =>
  ab_bd v3 fun a4 =>
  ab_bd (ab_aI h a4 0 p2) fun v5 =>
  ab_bd (ab_gR h x 4 3) fun v6 =>
  ab_bd v6 fun a7 =>
  ab_bd (ab_gR h a7 13 15) fun v8 =>
  ab_bd v8 fun a9 =>
  ab_bd (ab_aI h a9 0 p1) fun v10 =>
  some ((v5 &&& v10), h)
theorem wX5_barred (D : Dd) {x : Nat} {p1 : Int32} {p2 : Int32} {h : Hp} {r : Int32} {h' : Hp} (hf : fX5_barred x p1 p2 h = some (r, h')) : ab_is h x 4 ∧ Ct D 1 20 yX5_barred cX5_barred 3 (some FieldType.int) [vR (some x), vI p1, vI p2] h (.inl (some (vI r))) h' := by
    unfold fX5_barred at hf
    replace hf := ab_ckE hf; obtain ⟨i0, hf⟩ := hf
    refine ⟨i0, ?_⟩
    refine Ct.of (by decide) (L := [(0, vR (some x)), (1, vI p1), (2, vI p2)]) rfl (Nat.le_of_ble_eq_true rfl) (fun C A => ?_)
    refine xr_aload_n A dX5_barred_0 0 rfl rfl ?_
    revert hf; refine ab_bdI (fun v1 mv1 hf => ?_)
    refine xr_get A xc_X5 in_X5 3 (Nat.le_of_ble_eq_true rfl) q1301 rfl (ab_gRE mv1) dX5_barred_1 ?_
    revert hf; refine ab_bdI (fun a2 e hf => ?_); subst e
    revert hf; refine ab_bdI (fun v3 mv3 hf => ?_)
    refine xr_getN A xc_X15 in_X15 13 (Nat.le_of_ble_eq_true rfl) n1478 rfl (ab_gRE mv3) dX5_barred_4 ?_
    refine xr_iload_n A dX5_barred_7 2 rfl rfl ?_
    revert hf; refine ab_bdI (fun a4 e hf => ?_); subst e
    revert hf; refine ab_bdI (fun v5 mv5 hf => ?_)
    refine xr_iaload A mv5 dX5_barred_8 ?_
    refine xr_aload_n A dX5_barred_9 0 rfl rfl ?_
    revert hf; refine ab_bdI (fun v6 mv6 hf => ?_)
    refine xr_get A xc_X5 in_X5 3 (Nat.le_of_ble_eq_true rfl) q1301 rfl (ab_gRE mv6) dX5_barred_10 ?_
    revert hf; refine ab_bdI (fun a7 e hf => ?_); subst e
    revert hf; refine ab_bdI (fun v8 mv8 hf => ?_)
    refine xr_getN A xc_X15 in_X15 15 (Nat.le_of_ble_eq_true rfl) n1482 rfl (ab_gRE mv8) dX5_barred_13 ?_
    refine xr_iload_n A dX5_barred_16 1 rfl rfl ?_
    revert hf; refine ab_bdI (fun a9 e hf => ?_); subst e
    revert hf; refine ab_bdI (fun v10 mv10 hf => ?_)
    refine xr_iaload A mv10 dX5_barred_17 ?_
    refine xr_iand A dX5_barred_18 ?_
    exact xr_ireturn A rfl hf dX5_barred_19
/-! X5_fits -/
theorem bX5_fits : MB yX5_fits cX5_fits 3 (some FieldType.int) 2 := ⟨q1883, q99, by decide, by decide +kernel⟩
noncomputable def fX5_fits (x : Nat) (p1 : Int32) (p2 : Int32) (h : Hp) : Option (Int32 × Hp) :=
  ab_ck h x 4 <|
  ab_bd (ab_pI h x 4 0 (0 : Int32)) fun h1 =>
  ab_b2 (fX5_isHouse x p1 h1) fun v4 h3 =>
  if v4 = 0 then (
    ab_b2 (fX5_refused x (1 : Int32) h3) fun v7 h6 =>
    some (v7, h6))
  else (
    ab_b2 (fX5_isDish x p2 h3) fun v10 h9 =>
    if v10 = 0 then (
      ab_b2 (fX5_refused x (1 : Int32) h9) fun v13 h12 =>
      some (v13, h12))
    else (
      ab_bd (ab_gR h9 x 4 3) fun v14 =>
      ab_bd v14 fun a15 =>
      ab_bd (ab_gR h9 a15 13 19) fun v16 =>
      ab_bd v16 fun a17 =>
      ab_bd (ab_aI h9 a17 0 p1) fun v18 =>
      ab_b2 (fX5_barred x v18 p2 h9) fun v21 h20 =>
      if v21 = 0 then (
        ab_b2 (fX5_done x (1 : Int32) h20) fun v27 h26 =>
        some (v27, h26))
      else (
        ab_b2 (fX5_done x (0 : Int32) h20) fun v24 h23 =>
        some (v24, h23))))
theorem wX5_fits (D : Dd) {x : Nat} {p1 : Int32} {p2 : Int32} {h : Hp} {r : Int32} {h' : Hp} (hf : fX5_fits x p1 p2 h = some (r, h')) : ab_is h x 4 ∧ Ct D 2 42 yX5_fits cX5_fits 3 (some FieldType.int) [vR (some x), vI p1, vI p2] h (.inl (some (vI r))) h' := by
    unfold fX5_fits at hf
    replace hf := ab_ckE hf; obtain ⟨i0, hf⟩ := hf
    refine ⟨i0, ?_⟩
    refine Ct.of (by decide) (L := [(0, vR (some x)), (1, vI p1), (2, vI p2)]) rfl (Nat.le_of_ble_eq_true rfl) (fun C A => ?_)
    refine xr_aload_n A dX5_fits_0 0 rfl rfl ?_
    refine xr_iconst A (v := 0) dX5_fits_1 (by decide) ?_
    revert hf; refine ab_bdI (fun h1 mh1 hf => ?_)
    refine xr_put A xc_X5 in_X5 tyX5_ok nmX5 0 (Nat.le_of_ble_eq_true rfl) q1298 rfl rfl (v := vI (0 : Int32)) rfl rfl mh1 dX5_fits_2 ?_
    refine xr_aload_n A dX5_fits_5 0 rfl rfl ?_
    refine xr_iload_n A dX5_fits_6 1 rfl rfl ?_
    revert hf; refine ab_b2I (fun v4 h3 m2 hf => ?_)
    refine xr_V A bX5_isHouse (wX5_isHouse D m2).2 xc_X5 (wX5_isHouse D m2).1 q1769 qs71 q1767 (av := [vI p1]) (rest := []) rfl dX5_fits_7 (Nat.le_of_ble_eq_true rfl) (Nat.le_of_ble_eq_true rfl) rfl (Nat.le_of_ble_eq_true rfl) ?_
    refine xr_if_eq A (tgt := 50) dX5_fits_10 (by decide) (fun c10 => ?_) (fun c10 => ?_)
    · replace hf := ab_ip c10 hf
      refine xr_aload_n A dX5_fits_50 0 rfl rfl ?_
      refine xr_iconst A (v := 1) dX5_fits_51 (by decide) ?_
      revert hf; refine ab_b2I (fun v7 h6 m5 hf => ?_)
      refine xr_V A bX5_refused (wX5_refused D m5).2 xc_X5 (wX5_refused D m5).1 q1451 qs44 q1449 (av := [vI (1 : Int32)]) (rest := []) rfl dX5_fits_52 (Nat.le_of_ble_eq_true rfl) (Nat.le_of_ble_eq_true rfl) rfl (Nat.le_of_ble_eq_true rfl) ?_
      exact xr_ireturn A rfl hf dX5_fits_55
    · replace hf := ab_in c10 hf
      refine xr_aload_n A dX5_fits_13 0 rfl rfl ?_
      refine xr_iload_n A dX5_fits_14 2 rfl rfl ?_
      revert hf; refine ab_b2I (fun v10 h9 m8 hf => ?_)
      refine xr_V A bX5_isDish (wX5_isDish D m8).2 xc_X5 (wX5_isDish D m8).1 q1886 qs84 q1884 (av := [vI p2]) (rest := []) rfl dX5_fits_15 (Nat.le_of_ble_eq_true rfl) (Nat.le_of_ble_eq_true rfl) rfl (Nat.le_of_ble_eq_true rfl) ?_
      refine xr_if_eq A (tgt := 50) dX5_fits_18 (by decide) (fun c18 => ?_) (fun c18 => ?_)
      · replace hf := ab_ip c18 hf
        refine xr_aload_n A dX5_fits_50 0 rfl rfl ?_
        refine xr_iconst A (v := 1) dX5_fits_51 (by decide) ?_
        revert hf; refine ab_b2I (fun v13 h12 m11 hf => ?_)
        refine xr_V A bX5_refused (wX5_refused D m11).2 xc_X5 (wX5_refused D m11).1 q1451 qs44 q1449 (av := [vI (1 : Int32)]) (rest := []) rfl dX5_fits_52 (Nat.le_of_ble_eq_true rfl) (Nat.le_of_ble_eq_true rfl) rfl (Nat.le_of_ble_eq_true rfl) ?_
        exact xr_ireturn A rfl hf dX5_fits_55
      · replace hf := ab_in c18 hf
        refine xr_aload_n A dX5_fits_21 0 rfl rfl ?_
        refine xr_aload_n A dX5_fits_22 0 rfl rfl ?_
        refine xr_aload_n A dX5_fits_23 0 rfl rfl ?_
        revert hf; refine ab_bdI (fun v14 mv14 hf => ?_)
        refine xr_get A xc_X5 in_X5 3 (Nat.le_of_ble_eq_true rfl) q1301 rfl (ab_gRE mv14) dX5_fits_24 ?_
        revert hf; refine ab_bdI (fun a15 e hf => ?_); subst e
        revert hf; refine ab_bdI (fun v16 mv16 hf => ?_)
        refine xr_getN A xc_X15 in_X15 19 (Nat.le_of_ble_eq_true rfl) n1490 rfl (ab_gRE mv16) dX5_fits_27 ?_
        refine xr_iload_n A dX5_fits_30 1 rfl rfl ?_
        revert hf; refine ab_bdI (fun a17 e hf => ?_); subst e
        revert hf; refine ab_bdI (fun v18 mv18 hf => ?_)
        refine xr_iaload A mv18 dX5_fits_31 ?_
        refine xr_iload_n A dX5_fits_32 2 rfl rfl ?_
        revert hf; refine ab_b2I (fun v21 h20 m19 hf => ?_)
        refine xr_V A bX5_barred (wX5_barred D m19).2 xc_X5 (wX5_barred D m19).1 q1890 qs85 q1888 (av := [vI v18, vI p2]) (rest := [vR (some x)]) rfl dX5_fits_33 (Nat.le_of_ble_eq_true rfl) (Nat.le_of_ble_eq_true rfl) rfl (Nat.le_of_ble_eq_true rfl) ?_
        refine xr_if_ne A (tgt := 43) dX5_fits_36 (by decide) (fun c36 => ?_) (fun c36 => ?_)
        · replace hf := ab_in c36 hf
          refine xr_iconst A (v := 0) dX5_fits_43 (by decide) ?_
          revert hf; refine ab_b2I (fun v24 h23 m22 hf => ?_)
          refine xr_V A bX5_done (wX5_done D m22).2 xc_X5 (wX5_done D m22).1 q1749 qs69 q1747 (av := [vI (0 : Int32)]) (rest := []) rfl dX5_fits_44 (Nat.le_of_ble_eq_true rfl) (Nat.le_of_ble_eq_true rfl) rfl (Nat.le_of_ble_eq_true rfl) ?_
          refine xr_goto A (tgt := 55) dX5_fits_47 (by decide) ?_
          exact xr_ireturn A rfl hf dX5_fits_55
        · replace hf := ab_ip c36 hf
          refine xr_iconst A (v := 1) dX5_fits_39 (by decide) ?_
          refine xr_goto A (tgt := 44) dX5_fits_40 (by decide) ?_
          revert hf; refine ab_b2I (fun v27 h26 m25 hf => ?_)
          refine xr_V A bX5_done (wX5_done D m25).2 xc_X5 (wX5_done D m25).1 q1749 qs69 q1747 (av := [vI (1 : Int32)]) (rest := []) rfl dX5_fits_44 (Nat.le_of_ble_eq_true rfl) (Nat.le_of_ble_eq_true rfl) rfl (Nat.le_of_ble_eq_true rfl) ?_
          refine xr_goto A (tgt := 55) dX5_fits_47 (by decide) ?_
          exact xr_ireturn A rfl hf dX5_fits_55
/-! X5_breach -/
theorem bX5_breach : MB yX5_breach cX5_breach 3 (some FieldType.int) 2 := ⟨q1895, q99, by decide, by decide +kernel⟩
noncomputable def fX5_breach (x : Nat) (p1 : Int32) (p2 : Int32) (h : Hp) : Option (Int32 × Hp) :=
  ab_ck h x 4 <|
  ab_bd (ab_pI h x 4 0 (0 : Int32)) fun h1 =>
  ab_b2 (fX5_isHouse x p1 h1) fun v4 h3 =>
  if v4 = 0 then (
    ab_b2 (fX5_refused x (1 : Int32) h3) fun v7 h6 =>
    some (v7, h6))
  else (
    ab_b2 (fX5_isDish x p2 h3) fun v10 h9 =>
    if v10 = 0 then (
      ab_b2 (fX5_refused x (1 : Int32) h9) fun v13 h12 =>
      some (v13, h12))
    else (
      ab_bd (ab_gR h9 x 4 3) fun v14 =>
      ab_bd v14 fun a15 =>
      ab_bd (ab_gR h9 a15 13 19) fun v16 =>
      ab_bd v16 fun a17 =>
      ab_bd (ab_aI h9 a17 0 p1) fun v18 =>
      ab_b2 (fX5_barred x v18 p2 h9) fun v21 h20 =>
      ab_b2 (fX5_done x v21 h20) fun v24 h23 =>
      some (v24, h23)))
theorem wX5_breach (D : Dd) {x : Nat} {p1 : Int32} {p2 : Int32} {h : Hp} {r : Int32} {h' : Hp} (hf : fX5_breach x p1 p2 h = some (r, h')) : ab_is h x 4 ∧ Ct D 2 42 yX5_breach cX5_breach 3 (some FieldType.int) [vR (some x), vI p1, vI p2] h (.inl (some (vI r))) h' := by
    unfold fX5_breach at hf
    replace hf := ab_ckE hf; obtain ⟨i0, hf⟩ := hf
    refine ⟨i0, ?_⟩
    refine Ct.of (by decide) (L := [(0, vR (some x)), (1, vI p1), (2, vI p2)]) rfl (Nat.le_of_ble_eq_true rfl) (fun C A => ?_)
    refine xr_aload_n A dX5_breach_0 0 rfl rfl ?_
    refine xr_iconst A (v := 0) dX5_breach_1 (by decide) ?_
    revert hf; refine ab_bdI (fun h1 mh1 hf => ?_)
    refine xr_put A xc_X5 in_X5 tyX5_ok nmX5 0 (Nat.le_of_ble_eq_true rfl) q1298 rfl rfl (v := vI (0 : Int32)) rfl rfl mh1 dX5_breach_2 ?_
    refine xr_aload_n A dX5_breach_5 0 rfl rfl ?_
    refine xr_iload_n A dX5_breach_6 1 rfl rfl ?_
    revert hf; refine ab_b2I (fun v4 h3 m2 hf => ?_)
    refine xr_V A bX5_isHouse (wX5_isHouse D m2).2 xc_X5 (wX5_isHouse D m2).1 q1769 qs71 q1767 (av := [vI p1]) (rest := []) rfl dX5_breach_7 (Nat.le_of_ble_eq_true rfl) (Nat.le_of_ble_eq_true rfl) rfl (Nat.le_of_ble_eq_true rfl) ?_
    refine xr_if_eq A (tgt := 42) dX5_breach_10 (by decide) (fun c10 => ?_) (fun c10 => ?_)
    · replace hf := ab_ip c10 hf
      refine xr_aload_n A dX5_breach_42 0 rfl rfl ?_
      refine xr_iconst A (v := 1) dX5_breach_43 (by decide) ?_
      revert hf; refine ab_b2I (fun v7 h6 m5 hf => ?_)
      refine xr_V A bX5_refused (wX5_refused D m5).2 xc_X5 (wX5_refused D m5).1 q1451 qs44 q1449 (av := [vI (1 : Int32)]) (rest := []) rfl dX5_breach_44 (Nat.le_of_ble_eq_true rfl) (Nat.le_of_ble_eq_true rfl) rfl (Nat.le_of_ble_eq_true rfl) ?_
      exact xr_ireturn A rfl hf dX5_breach_47
    · replace hf := ab_in c10 hf
      refine xr_aload_n A dX5_breach_13 0 rfl rfl ?_
      refine xr_iload_n A dX5_breach_14 2 rfl rfl ?_
      revert hf; refine ab_b2I (fun v10 h9 m8 hf => ?_)
      refine xr_V A bX5_isDish (wX5_isDish D m8).2 xc_X5 (wX5_isDish D m8).1 q1886 qs84 q1884 (av := [vI p2]) (rest := []) rfl dX5_breach_15 (Nat.le_of_ble_eq_true rfl) (Nat.le_of_ble_eq_true rfl) rfl (Nat.le_of_ble_eq_true rfl) ?_
      refine xr_if_eq A (tgt := 42) dX5_breach_18 (by decide) (fun c18 => ?_) (fun c18 => ?_)
      · replace hf := ab_ip c18 hf
        refine xr_aload_n A dX5_breach_42 0 rfl rfl ?_
        refine xr_iconst A (v := 1) dX5_breach_43 (by decide) ?_
        revert hf; refine ab_b2I (fun v13 h12 m11 hf => ?_)
        refine xr_V A bX5_refused (wX5_refused D m11).2 xc_X5 (wX5_refused D m11).1 q1451 qs44 q1449 (av := [vI (1 : Int32)]) (rest := []) rfl dX5_breach_44 (Nat.le_of_ble_eq_true rfl) (Nat.le_of_ble_eq_true rfl) rfl (Nat.le_of_ble_eq_true rfl) ?_
        exact xr_ireturn A rfl hf dX5_breach_47
      · replace hf := ab_in c18 hf
        refine xr_aload_n A dX5_breach_21 0 rfl rfl ?_
        refine xr_aload_n A dX5_breach_22 0 rfl rfl ?_
        refine xr_aload_n A dX5_breach_23 0 rfl rfl ?_
        revert hf; refine ab_bdI (fun v14 mv14 hf => ?_)
        refine xr_get A xc_X5 in_X5 3 (Nat.le_of_ble_eq_true rfl) q1301 rfl (ab_gRE mv14) dX5_breach_24 ?_
        revert hf; refine ab_bdI (fun a15 e hf => ?_); subst e
        revert hf; refine ab_bdI (fun v16 mv16 hf => ?_)
        refine xr_getN A xc_X15 in_X15 19 (Nat.le_of_ble_eq_true rfl) n1490 rfl (ab_gRE mv16) dX5_breach_27 ?_
        refine xr_iload_n A dX5_breach_30 1 rfl rfl ?_
        revert hf; refine ab_bdI (fun a17 e hf => ?_); subst e
        revert hf; refine ab_bdI (fun v18 mv18 hf => ?_)
        refine xr_iaload A mv18 dX5_breach_31 ?_
        refine xr_iload_n A dX5_breach_32 2 rfl rfl ?_
        revert hf; refine ab_b2I (fun v21 h20 m19 hf => ?_)
        refine xr_V A bX5_barred (wX5_barred D m19).2 xc_X5 (wX5_barred D m19).1 q1890 qs85 q1888 (av := [vI v18, vI p2]) (rest := [vR (some x)]) rfl dX5_breach_33 (Nat.le_of_ble_eq_true rfl) (Nat.le_of_ble_eq_true rfl) rfl (Nat.le_of_ble_eq_true rfl) ?_
        revert hf; refine ab_b2I (fun v24 h23 m22 hf => ?_)
        refine xr_V A bX5_done (wX5_done D m22).2 xc_X5 (wX5_done D m22).1 q1749 qs69 q1747 (av := [vI v21]) (rest := []) rfl dX5_breach_36 (Nat.le_of_ble_eq_true rfl) (Nat.le_of_ble_eq_true rfl) rfl (Nat.le_of_ble_eq_true rfl) ?_
        refine xr_goto A (tgt := 47) dX5_breach_39 (by decide) ?_
        exact xr_ireturn A rfl hf dX5_breach_47
/-! X5_forAll -/
theorem bX5_forAll : MB yX5_forAll cX5_forAll 5 (some FieldType.int) 0 := ⟨q1899, q99, by decide, by decide +kernel⟩
noncomputable def fX5_forAll_l38 (x : Nat) (K22 : Int32 → Int32 → Hp → Option (Int32 × Hp)) : Nat → Int32 → Int32 → Int32 → Int32 → Hp → Option (Int32 × Hp)
  | 0, _, _, _, _, _ => none
  | n + 1, l1, l2, l3, l4, h =>
  ab_bd (ab_gR h x 4 3) fun v1 =>
  ab_bd v1 fun a2 =>
  ab_bd (ab_gI h a2 13 5) fun v3 =>
  if v3 ≤ l4 then (
    if l3 = 0 then (
      K22 (l1 ||| (0 : Int32)) (l2 + (1 : Int32)) h)
    else (
      K22 (l1 ||| ((1 : Int32) <<< (l2 &&& 31))) (l2 + (1 : Int32)) h))
  else (
    if l3 = 0 then (
      fX5_forAll_l38 x K22 n l1 l2 (0 : Int32) (l4 + (1 : Int32)) h)
    else (
      ab_bd (ab_gR h x 4 3) fun v4 =>
      ab_bd v4 fun a5 =>
      ab_bd (ab_gR h a5 13 19) fun v6 =>
      ab_bd v6 fun a7 =>
      ab_bd (ab_aI h a7 0 l4) fun v8 =>
      ab_b2 (fX5_barred x v8 l2 h) fun v11 h10 =>
      if v11 = 0 then (
        fX5_forAll_l38 x K22 n l1 l2 (1 : Int32) (l4 + (1 : Int32)) h10)
      else (
        fX5_forAll_l38 x K22 n l1 l2 (0 : Int32) (l4 + (1 : Int32)) h10)))
theorem wX5_forAll_l38 {D : Dd} {C : Cx} {h0 h' : Hp} {r : Int32} (A : Act C D (h0, (.inl (some (vI r))), h') yX5_forAll cX5_forAll 5 (some FieldType.int) 2 42 []) {x : Nat} {K22 : Int32 → Int32 → Hp → Option (Int32 × Hp)} (hK22 : ∀ {l1 : Int32} {l2 : Int32} {h : Hp}, K22 l1 l2 h = some (r, h') → X C D (h0, (.inl (some (vI r))), h') 5 22 [(0, vR (some x)), (1, vI l1), (2, vI l2)] [] h) : ∀ (n : Nat) {l1 : Int32} {l2 : Int32} {l3 : Int32} {l4 : Int32} {h : Hp}, fX5_forAll_l38 x K22 n l1 l2 l3 l4 h = some (r, h') → X C D (h0, (.inl (some (vI r))), h') 5 38 [(0, vR (some x)), (1, vI l1), (2, vI l2), (3, vI l3), (4, vI l4)] [] h := by
  intro n
  induction n with
  | zero => intro l1 l2 l3 l4 h hf; exact ab_no hf
  | succ n ih =>
    intro l1 l2 l3 l4 h hf
    unfold fX5_forAll_l38 at hf
    refine xr_iload A dX5_forAll_38 4 rfl ?_
    refine xr_aload_n A dX5_forAll_40 0 rfl rfl ?_
    revert hf; refine ab_bdI (fun v1 mv1 hf => ?_)
    refine xr_get A xc_X5 in_X5 3 (Nat.le_of_ble_eq_true rfl) q1301 rfl (ab_gRE mv1) dX5_forAll_41 ?_
    revert hf; refine ab_bdI (fun a2 e hf => ?_); subst e
    revert hf; refine ab_bdI (fun v3 mv3 hf => ?_)
    refine xr_getN A xc_X15 in_X15 5 (Nat.le_of_ble_eq_true rfl) n1465 rfl (ab_gIE mv3) dX5_forAll_44 ?_
    refine xr_icmp_ge A (tgt := 84) dX5_forAll_47 (by decide) (fun c47 => ?_) (fun c47 => ?_)
    · replace hf := ab_ip c47 hf
      refine xr_iload_n A dX5_forAll_84 1 rfl rfl ?_
      refine xr_iload_n A dX5_forAll_85 3 rfl rfl ?_
      refine xr_if_eq A (tgt := 95) dX5_forAll_86 (by decide) (fun c86 => ?_) (fun c86 => ?_)
      · replace hf := ab_ip c86 hf
        refine xr_iconst A (v := 0) dX5_forAll_95 (by decide) ?_
        refine xr_ior A dX5_forAll_96 ?_
        refine xr_istore_n A dX5_forAll_97 rfl (Nat.le_of_ble_eq_true rfl) (L' := [(1, vI (l1 ||| (0 : Int32))), (0, vR (some x)), (2, vI l2), (3, vI l3), (4, vI l4)]) rfl ?_
        refine xr_iinc A dX5_forAll_98 2 rfl (v := (l2 + (1 : Int32))) rfl (Nat.le_of_ble_eq_true rfl) (L' := [(2, vI (l2 + (1 : Int32))), (1, vI (l1 ||| (0 : Int32))), (0, vR (some x)), (3, vI l3), (4, vI l4)]) rfl ?_
        refine xr_goto A (tgt := 22) dX5_forAll_101 (by decide) ?_
        refine X.sub [2, 1, 0] rfl ?_
        exact hK22 hf
      · replace hf := ab_in c86 hf
        refine xr_iconst A (v := 1) dX5_forAll_89 (by decide) ?_
        refine xr_iload_n A dX5_forAll_90 2 rfl rfl ?_
        refine xr_ishl A dX5_forAll_91 ?_
        refine xr_goto A (tgt := 96) dX5_forAll_92 (by decide) ?_
        refine xr_ior A dX5_forAll_96 ?_
        refine xr_istore_n A dX5_forAll_97 rfl (Nat.le_of_ble_eq_true rfl) (L' := [(1, vI (l1 ||| ((1 : Int32) <<< (l2 &&& 31)))), (0, vR (some x)), (2, vI l2), (3, vI l3), (4, vI l4)]) rfl ?_
        refine xr_iinc A dX5_forAll_98 2 rfl (v := (l2 + (1 : Int32))) rfl (Nat.le_of_ble_eq_true rfl) (L' := [(2, vI (l2 + (1 : Int32))), (1, vI (l1 ||| ((1 : Int32) <<< (l2 &&& 31)))), (0, vR (some x)), (3, vI l3), (4, vI l4)]) rfl ?_
        refine xr_goto A (tgt := 22) dX5_forAll_101 (by decide) ?_
        refine X.sub [2, 1, 0] rfl ?_
        exact hK22 hf
    · replace hf := ab_in c47 hf
      refine xr_iload_n A dX5_forAll_50 3 rfl rfl ?_
      refine xr_if_eq A (tgt := 76) dX5_forAll_51 (by decide) (fun c51 => ?_) (fun c51 => ?_)
      · replace hf := ab_ip c51 hf
        refine xr_iconst A (v := 0) dX5_forAll_76 (by decide) ?_
        refine xr_istore_n A dX5_forAll_77 rfl (Nat.le_of_ble_eq_true rfl) (L' := [(3, vI (0 : Int32)), (0, vR (some x)), (1, vI l1), (2, vI l2), (4, vI l4)]) rfl ?_
        refine xr_iinc A dX5_forAll_78 4 rfl (v := (l4 + (1 : Int32))) rfl (Nat.le_of_ble_eq_true rfl) (L' := [(4, vI (l4 + (1 : Int32))), (3, vI (0 : Int32)), (0, vR (some x)), (1, vI l1), (2, vI l2)]) rfl ?_
        refine xr_goto A (tgt := 38) dX5_forAll_81 (by decide) ?_
        refine X.sub [2, 3, 4, 1, 0] rfl ?_
        exact ih hf
      · replace hf := ab_in c51 hf
        refine xr_aload_n A dX5_forAll_54 0 rfl rfl ?_
        refine xr_aload_n A dX5_forAll_55 0 rfl rfl ?_
        revert hf; refine ab_bdI (fun v4 mv4 hf => ?_)
        refine xr_get A xc_X5 in_X5 3 (Nat.le_of_ble_eq_true rfl) q1301 rfl (ab_gRE mv4) dX5_forAll_56 ?_
        revert hf; refine ab_bdI (fun a5 e hf => ?_); subst e
        revert hf; refine ab_bdI (fun v6 mv6 hf => ?_)
        refine xr_getN A xc_X15 in_X15 19 (Nat.le_of_ble_eq_true rfl) n1490 rfl (ab_gRE mv6) dX5_forAll_59 ?_
        refine xr_iload A dX5_forAll_62 4 rfl ?_
        revert hf; refine ab_bdI (fun a7 e hf => ?_); subst e
        revert hf; refine ab_bdI (fun v8 mv8 hf => ?_)
        refine xr_iaload A mv8 dX5_forAll_64 ?_
        refine xr_iload_n A dX5_forAll_65 2 rfl rfl ?_
        revert hf; refine ab_b2I (fun v11 h10 m9 hf => ?_)
        refine xr_V A bX5_barred (wX5_barred D m9).2 xc_X5 (wX5_barred D m9).1 q1890 qs85 q1888 (av := [vI v8, vI l2]) (rest := []) rfl dX5_forAll_66 (Nat.le_of_ble_eq_true rfl) (Nat.le_of_ble_eq_true rfl) rfl (Nat.le_of_ble_eq_true rfl) ?_
        refine xr_if_ne A (tgt := 76) dX5_forAll_69 (by decide) (fun c69 => ?_) (fun c69 => ?_)
        · replace hf := ab_in c69 hf
          refine xr_iconst A (v := 0) dX5_forAll_76 (by decide) ?_
          refine xr_istore_n A dX5_forAll_77 rfl (Nat.le_of_ble_eq_true rfl) (L' := [(3, vI (0 : Int32)), (0, vR (some x)), (1, vI l1), (2, vI l2), (4, vI l4)]) rfl ?_
          refine xr_iinc A dX5_forAll_78 4 rfl (v := (l4 + (1 : Int32))) rfl (Nat.le_of_ble_eq_true rfl) (L' := [(4, vI (l4 + (1 : Int32))), (3, vI (0 : Int32)), (0, vR (some x)), (1, vI l1), (2, vI l2)]) rfl ?_
          refine xr_goto A (tgt := 38) dX5_forAll_81 (by decide) ?_
          refine X.sub [2, 3, 4, 1, 0] rfl ?_
          exact ih hf
        · replace hf := ab_ip c69 hf
          refine xr_iconst A (v := 1) dX5_forAll_72 (by decide) ?_
          refine xr_goto A (tgt := 77) dX5_forAll_73 (by decide) ?_
          refine xr_istore_n A dX5_forAll_77 rfl (Nat.le_of_ble_eq_true rfl) (L' := [(3, vI (1 : Int32)), (0, vR (some x)), (1, vI l1), (2, vI l2), (4, vI l4)]) rfl ?_
          refine xr_iinc A dX5_forAll_78 4 rfl (v := (l4 + (1 : Int32))) rfl (Nat.le_of_ble_eq_true rfl) (L' := [(4, vI (l4 + (1 : Int32))), (3, vI (1 : Int32)), (0, vR (some x)), (1, vI l1), (2, vI l2)]) rfl ?_
          refine xr_goto A (tgt := 38) dX5_forAll_81 (by decide) ?_
          refine X.sub [2, 3, 4, 1, 0] rfl ?_
          exact ih hf
noncomputable def fX5_forAll_l22 (x : Nat) : Nat → Int32 → Int32 → Hp → Option (Int32 × Hp)
  | 0, _, _, _ => none
  | n + 1, l1, l2, h =>
  ab_bd (ab_gR h x 4 3) fun v1 =>
  ab_bd v1 fun a2 =>
  ab_bd (ab_gI h a2 13 3) fun v3 =>
  if v3 ≤ l2 then (
    ab_b2 (fX5_done x l1 h) fun v6 h5 =>
    some (v6, h5))
  else (
    fX5_forAll_l38 x (fX5_forAll_l22 x n) (hfu h) l1 l2 (1 : Int32) (0 : Int32) h)
theorem wX5_forAll_l22 {D : Dd} {C : Cx} {h0 h' : Hp} {r : Int32} (A : Act C D (h0, (.inl (some (vI r))), h') yX5_forAll cX5_forAll 5 (some FieldType.int) 2 42 []) {x : Nat} : ∀ (n : Nat) {l1 : Int32} {l2 : Int32} {h : Hp}, fX5_forAll_l22 x n l1 l2 h = some (r, h') → X C D (h0, (.inl (some (vI r))), h') 5 22 [(0, vR (some x)), (1, vI l1), (2, vI l2)] [] h := by
  intro n
  induction n with
  | zero => intro l1 l2 h hf; exact ab_no hf
  | succ n ih =>
    intro l1 l2 h hf
    unfold fX5_forAll_l22 at hf
    refine xr_iload_n A dX5_forAll_22 2 rfl rfl ?_
    refine xr_aload_n A dX5_forAll_23 0 rfl rfl ?_
    revert hf; refine ab_bdI (fun v1 mv1 hf => ?_)
    refine xr_get A xc_X5 in_X5 3 (Nat.le_of_ble_eq_true rfl) q1301 rfl (ab_gRE mv1) dX5_forAll_24 ?_
    revert hf; refine ab_bdI (fun a2 e hf => ?_); subst e
    revert hf; refine ab_bdI (fun v3 mv3 hf => ?_)
    refine xr_getN A xc_X15 in_X15 3 (Nat.le_of_ble_eq_true rfl) n1463 rfl (ab_gIE mv3) dX5_forAll_27 ?_
    refine xr_icmp_ge A (tgt := 104) dX5_forAll_30 (by decide) (fun c30 => ?_) (fun c30 => ?_)
    · replace hf := ab_ip c30 hf
      refine xr_aload_n A dX5_forAll_104 0 rfl rfl ?_
      refine xr_iload_n A dX5_forAll_105 1 rfl rfl ?_
      revert hf; refine ab_b2I (fun v6 h5 m4 hf => ?_)
      refine xr_V A bX5_done (wX5_done D m4).2 xc_X5 (wX5_done D m4).1 q1749 qs69 q1747 (av := [vI l1]) (rest := []) rfl dX5_forAll_106 (Nat.le_of_ble_eq_true rfl) (Nat.le_of_ble_eq_true rfl) rfl (Nat.le_of_ble_eq_true rfl) ?_
      exact xr_ireturn A rfl hf dX5_forAll_109
    · replace hf := ab_in c30 hf
      refine xr_iconst A (v := 1) dX5_forAll_33 (by decide) ?_
      refine xr_istore_n A dX5_forAll_34 rfl (Nat.le_of_ble_eq_true rfl) (L' := [(3, vI (1 : Int32)), (0, vR (some x)), (1, vI l1), (2, vI l2)]) rfl ?_
      refine xr_iconst A (v := 0) dX5_forAll_35 (by decide) ?_
      refine xr_istore A dX5_forAll_36 (Nat.le_of_ble_eq_true rfl) (L' := [(4, vI (0 : Int32)), (3, vI (1 : Int32)), (0, vR (some x)), (1, vI l1), (2, vI l2)]) rfl ?_
      refine X.sub [2, 3, 4, 1, 0] rfl ?_
      exact wX5_forAll_l38 A (fun hf => ih hf) _ hf
noncomputable def fX5_forAll (x : Nat) (h : Hp) : Option (Int32 × Hp) :=
  ab_ck h x 4 <|
  ab_bd (ab_pI h x 4 0 (0 : Int32)) fun h1 =>
  ab_bd (ab_gR h1 x 4 3) fun v2 =>
  ab_on v2 (
    ab_b2 (fX5_refused x (1 : Int32) h1) fun v6 h5 =>
    some (v6, h5)) fun a3 => (
    fX5_forAll_l22 x (hfu h1) (0 : Int32) (0 : Int32) h1)
theorem wX5_forAll (D : Dd) {x : Nat} {h : Hp} {r : Int32} {h' : Hp} (hf : fX5_forAll x h = some (r, h')) : ab_is h x 4 ∧ Ct D 2 42 yX5_forAll cX5_forAll 5 (some FieldType.int) [vR (some x)] h (.inl (some (vI r))) h' := by
    unfold fX5_forAll at hf
    replace hf := ab_ckE hf; obtain ⟨i0, hf⟩ := hf
    refine ⟨i0, ?_⟩
    refine Ct.of (by decide) (L := [(0, vR (some x))]) rfl (Nat.le_of_ble_eq_true rfl) (fun C A => ?_)
    refine xr_aload_n A dX5_forAll_0 0 rfl rfl ?_
    refine xr_iconst A (v := 0) dX5_forAll_1 (by decide) ?_
    revert hf; refine ab_bdI (fun h1 mh1 hf => ?_)
    refine xr_put A xc_X5 in_X5 tyX5_ok nmX5 0 (Nat.le_of_ble_eq_true rfl) q1298 rfl rfl (v := vI (0 : Int32)) rfl rfl mh1 dX5_forAll_2 ?_
    refine xr_aload_n A dX5_forAll_5 0 rfl rfl ?_
    revert hf; refine ab_bdI (fun v2 mv2 hf => ?_)
    refine xr_get A xc_X5 in_X5 3 (Nat.le_of_ble_eq_true rfl) q1301 rfl (ab_gRE mv2) dX5_forAll_6 ?_
    revert hf; refine ab_onI (fun e hf => ?_) (fun a3 e hf => ?_) <;> subst e
    · refine xr_ifnonnull A (tgt := 18) dX5_forAll_9 (by decide) (fun _ e => by cases e) (fun _ => ?_)
      refine xr_aload_n A dX5_forAll_12 0 rfl rfl ?_
      refine xr_iconst A (v := 1) dX5_forAll_13 (by decide) ?_
      revert hf; refine ab_b2I (fun v6 h5 m4 hf => ?_)
      refine xr_V A bX5_refused (wX5_refused D m4).2 xc_X5 (wX5_refused D m4).1 q1451 qs44 q1449 (av := [vI (1 : Int32)]) (rest := []) rfl dX5_forAll_14 (Nat.le_of_ble_eq_true rfl) (Nat.le_of_ble_eq_true rfl) rfl (Nat.le_of_ble_eq_true rfl) ?_
      exact xr_ireturn A rfl hf dX5_forAll_17
    · refine xr_ifnonnull A (tgt := 18) dX5_forAll_9 (by decide) (fun _ _ => ?_) (fun e => by cases e)
      refine xr_iconst A (v := 0) dX5_forAll_18 (by decide) ?_
      refine xr_istore_n A dX5_forAll_19 rfl (Nat.le_of_ble_eq_true rfl) (L' := [(1, vI (0 : Int32)), (0, vR (some x))]) rfl ?_
      refine xr_iconst A (v := 0) dX5_forAll_20 (by decide) ?_
      refine xr_istore_n A dX5_forAll_21 rfl (Nat.le_of_ble_eq_true rfl) (L' := [(2, vI (0 : Int32)), (1, vI (0 : Int32)), (0, vR (some x))]) rfl ?_
      refine X.sub [2, 1, 0] rfl ?_
      exact wX5_forAll_l22 A _ hf
/-! X5_cheapest -/
theorem bX5_cheapest : MB yX5_cheapest cX5_cheapest 6 (some FieldType.int) 2 := ⟨q1911, q99, by decide, by decide +kernel⟩
noncomputable def fX5_cheapest_l5 (x : Nat) : Nat → Int32 → Int32 → Int32 → Int32 → Hp → Option (Int32 × Hp)
  | 0, _, _, _, _, _ => none
  | n + 1, l1, l2, l3, l4, h =>
  ab_bd (ab_gR h x 4 3) fun v1 =>
  ab_bd v1 fun a2 =>
  ab_bd (ab_gI h a2 13 3) fun v3 =>
  if v3 ≤ l4 then (
    some (l3, h))
  else (
    ab_bd (ab_gR h x 4 31) fun v4 =>
    ab_bd v4 fun a5 =>
    ab_bd (ab_aI h a5 0 (((6 : Int32) * l1) + l4)) fun v6 =>
    if l4 = l2 then (
      fX5_cheapest_l5 x n l1 l2 l3 (l4 + (1 : Int32)) h)
    else (
      if v6 = (-1 : Int32) then (
        fX5_cheapest_l5 x n l1 l2 l3 (l4 + (1 : Int32)) h)
      else (
        if l3 = (-1 : Int32) then (
          fX5_cheapest_l5 x n l1 l2 v6 (l4 + (1 : Int32)) h)
        else (
          if l3 ≤ v6 then (
            fX5_cheapest_l5 x n l1 l2 l3 (l4 + (1 : Int32)) h)
          else (
            fX5_cheapest_l5 x n l1 l2 v6 (l4 + (1 : Int32)) h)))))
theorem wX5_cheapest_l5 {D : Dd} {C : Cx} {h0 h' : Hp} {r : Int32} (A : Act C D (h0, (.inl (some (vI r))), h') yX5_cheapest cX5_cheapest 6 (some FieldType.int) 1 20 []) {x : Nat} : ∀ (n : Nat) {l1 : Int32} {l2 : Int32} {l3 : Int32} {l4 : Int32} {h : Hp}, fX5_cheapest_l5 x n l1 l2 l3 l4 h = some (r, h') → X C D (h0, (.inl (some (vI r))), h') 6 5 [(0, vR (some x)), (1, vI l1), (2, vI l2), (3, vI l3), (4, vI l4)] [] h := by
  intro n
  induction n with
  | zero => intro l1 l2 l3 l4 h hf; exact ab_no hf
  | succ n ih =>
    intro l1 l2 l3 l4 h hf
    unfold fX5_cheapest_l5 at hf
    refine xr_iload A dX5_cheapest_5 4 rfl ?_
    refine xr_aload_n A dX5_cheapest_7 0 rfl rfl ?_
    revert hf; refine ab_bdI (fun v1 mv1 hf => ?_)
    refine xr_get A xc_X5 in_X5 3 (Nat.le_of_ble_eq_true rfl) q1301 rfl (ab_gRE mv1) dX5_cheapest_8 ?_
    revert hf; refine ab_bdI (fun a2 e hf => ?_); subst e
    revert hf; refine ab_bdI (fun v3 mv3 hf => ?_)
    refine xr_getN A xc_X15 in_X15 3 (Nat.le_of_ble_eq_true rfl) n1463 rfl (ab_gIE mv3) dX5_cheapest_11 ?_
    refine xr_icmp_ge A (tgt := 63) dX5_cheapest_14 (by decide) (fun c14 => ?_) (fun c14 => ?_)
    · replace hf := ab_ip c14 hf
      refine xr_iload_n A dX5_cheapest_63 3 rfl rfl ?_
      exact xr_ireturn A rfl hf dX5_cheapest_64
    · replace hf := ab_in c14 hf
      refine xr_aload_n A dX5_cheapest_17 0 rfl rfl ?_
      revert hf; refine ab_bdI (fun v4 mv4 hf => ?_)
      refine xr_get A xc_X5 in_X5 31 (Nat.le_of_ble_eq_true rfl) q1329 rfl (ab_gRE mv4) dX5_cheapest_18 ?_
      refine xr_bipush A (v := 6) dX5_cheapest_21 (by decide) ?_
      refine xr_iload_n A dX5_cheapest_23 1 rfl rfl ?_
      refine xr_imul A dX5_cheapest_24 ?_
      refine xr_iload A dX5_cheapest_25 4 rfl ?_
      refine xr_iadd A dX5_cheapest_27 ?_
      revert hf; refine ab_bdI (fun a5 e hf => ?_); subst e
      revert hf; refine ab_bdI (fun v6 mv6 hf => ?_)
      refine xr_iaload A mv6 dX5_cheapest_28 ?_
      refine xr_istore A dX5_cheapest_29 (Nat.le_of_ble_eq_true rfl) (L' := [(5, vI v6), (0, vR (some x)), (1, vI l1), (2, vI l2), (3, vI l3), (4, vI l4)]) rfl ?_
      refine xr_iload A dX5_cheapest_31 5 rfl ?_
      refine xr_iload_n A dX5_cheapest_33 3 rfl rfl ?_
      refine xr_icmp_eq A (tgt := 57) dX5_cheapest_34 (by decide) (fun c34 => ?_) (fun c34 => ?_)
      · replace hf := ab_ip c34 hf
        refine xr_iinc A dX5_cheapest_57 5 rfl (v := (l4 + (1 : Int32))) rfl (Nat.le_of_ble_eq_true rfl) (L' := [(4, vI (l4 + (1 : Int32))), (5, vI v6), (0, vR (some x)), (1, vI l1), (2, vI l2), (3, vI l3)]) rfl ?_
        refine xr_goto A (tgt := 5) dX5_cheapest_60 (by decide) ?_
        refine X.sub [2, 3, 4, 5, 0] rfl ?_
        exact ih hf
      · replace hf := ab_in c34 hf
        refine xr_iload A dX5_cheapest_37 0 rfl ?_
        refine xr_iconst A (v := (-1)) dX5_cheapest_39 (by decide) ?_
        refine xr_icmp_eq A (tgt := 57) dX5_cheapest_40 (by decide) (fun c40 => ?_) (fun c40 => ?_)
        · replace hf := ab_ip c40 hf
          refine xr_iinc A dX5_cheapest_57 5 rfl (v := (l4 + (1 : Int32))) rfl (Nat.le_of_ble_eq_true rfl) (L' := [(4, vI (l4 + (1 : Int32))), (5, vI v6), (0, vR (some x)), (1, vI l1), (2, vI l2), (3, vI l3)]) rfl ?_
          refine xr_goto A (tgt := 5) dX5_cheapest_60 (by decide) ?_
          refine X.sub [2, 3, 4, 5, 0] rfl ?_
          exact ih hf
        · replace hf := ab_in c40 hf
          refine xr_iload_n A dX5_cheapest_43 4 rfl rfl ?_
          refine xr_iconst A (v := (-1)) dX5_cheapest_44 (by decide) ?_
          refine xr_icmp_eq A (tgt := 54) dX5_cheapest_45 (by decide) (fun c45 => ?_) (fun c45 => ?_)
          · replace hf := ab_ip c45 hf
            refine xr_iload A dX5_cheapest_54 0 rfl ?_
            refine xr_istore_n A dX5_cheapest_56 rfl (Nat.le_of_ble_eq_true rfl) (L' := [(3, vI v6), (5, vI v6), (0, vR (some x)), (1, vI l1), (2, vI l2), (4, vI l4)]) rfl ?_
            refine xr_iinc A dX5_cheapest_57 5 rfl (v := (l4 + (1 : Int32))) rfl (Nat.le_of_ble_eq_true rfl) (L' := [(4, vI (l4 + (1 : Int32))), (3, vI v6), (5, vI v6), (0, vR (some x)), (1, vI l1), (2, vI l2)]) rfl ?_
            refine xr_goto A (tgt := 5) dX5_cheapest_60 (by decide) ?_
            refine X.sub [3, 4, 5, 1, 0] rfl ?_
            exact ih hf
          · replace hf := ab_in c45 hf
            refine xr_iload A dX5_cheapest_48 0 rfl ?_
            refine xr_iload_n A dX5_cheapest_50 4 rfl rfl ?_
            refine xr_icmp_ge A (tgt := 57) dX5_cheapest_51 (by decide) (fun c51 => ?_) (fun c51 => ?_)
            · replace hf := ab_ip c51 hf
              refine xr_iinc A dX5_cheapest_57 5 rfl (v := (l4 + (1 : Int32))) rfl (Nat.le_of_ble_eq_true rfl) (L' := [(4, vI (l4 + (1 : Int32))), (5, vI v6), (0, vR (some x)), (1, vI l1), (2, vI l2), (3, vI l3)]) rfl ?_
              refine xr_goto A (tgt := 5) dX5_cheapest_60 (by decide) ?_
              refine X.sub [2, 3, 4, 5, 0] rfl ?_
              exact ih hf
            · replace hf := ab_in c51 hf
              refine xr_iload A dX5_cheapest_54 0 rfl ?_
              refine xr_istore_n A dX5_cheapest_56 rfl (Nat.le_of_ble_eq_true rfl) (L' := [(3, vI v6), (5, vI v6), (0, vR (some x)), (1, vI l1), (2, vI l2), (4, vI l4)]) rfl ?_
              refine xr_iinc A dX5_cheapest_57 5 rfl (v := (l4 + (1 : Int32))) rfl (Nat.le_of_ble_eq_true rfl) (L' := [(4, vI (l4 + (1 : Int32))), (3, vI v6), (5, vI v6), (0, vR (some x)), (1, vI l1), (2, vI l2)]) rfl ?_
              refine xr_goto A (tgt := 5) dX5_cheapest_60 (by decide) ?_
              refine X.sub [3, 4, 5, 1, 0] rfl ?_
              exact ih hf
noncomputable def fX5_cheapest (x : Nat) (p1 : Int32) (p2 : Int32) (h : Hp) : Option (Int32 × Hp) :=
  ab_ck h x 4 <|
  fX5_cheapest_l5 x (hfu h) p1 p2 (-1 : Int32) (0 : Int32) h
theorem wX5_cheapest (D : Dd) {x : Nat} {p1 : Int32} {p2 : Int32} {h : Hp} {r : Int32} {h' : Hp} (hf : fX5_cheapest x p1 p2 h = some (r, h')) : ab_is h x 4 ∧ Ct D 1 20 yX5_cheapest cX5_cheapest 6 (some FieldType.int) [vR (some x), vI p1, vI p2] h (.inl (some (vI r))) h' := by
    unfold fX5_cheapest at hf
    replace hf := ab_ckE hf; obtain ⟨i0, hf⟩ := hf
    refine ⟨i0, ?_⟩
    refine Ct.of (by decide) (L := [(0, vR (some x)), (1, vI p1), (2, vI p2)]) rfl (Nat.le_of_ble_eq_true rfl) (fun C A => ?_)
    refine xr_iconst A (v := (-1)) dX5_cheapest_0 (by decide) ?_
    refine xr_istore_n A dX5_cheapest_1 rfl (Nat.le_of_ble_eq_true rfl) (L' := [(3, vI (-1 : Int32)), (0, vR (some x)), (1, vI p1), (2, vI p2)]) rfl ?_
    refine xr_iconst A (v := 0) dX5_cheapest_2 (by decide) ?_
    refine xr_istore A dX5_cheapest_3 (Nat.le_of_ble_eq_true rfl) (L' := [(4, vI (0 : Int32)), (3, vI (-1 : Int32)), (0, vR (some x)), (1, vI p1), (2, vI p2)]) rfl ?_
    refine X.sub [2, 3, 4, 1, 0] rfl ?_
    exact wX5_cheapest_l5 A _ hf
/-! X5_coinOf -/
theorem bX5_coinOf : MB yX5_coinOf cX5_coinOf 6 (some FieldType.int) 2 := ⟨q1907, q99, by decide, by decide +kernel⟩
noncomputable def fX5_coinOf_b43 (x : Nat) (K4 : Int32 → Int32 → Int32 → Hp → Option (Int32 × Hp)) (K11 : Int32 → Int32 → Int32 → Int32 → Hp → Option (Int32 × Hp)) (l1 : Int32) (l2 : Int32) (l3 : Int32) (l4 : Int32) (s0 : Int32) (h : Hp) : Option (Int32 × Hp) :=
  ab_bd (ab_gR h x 4 31) fun v1 =>
  ab_b2 (fX5_barred x l1 l4 h) fun v4 h3 =>
  if v4 = 0 then (
    if s0 = (-1 : Int32) then (
      ab_bd v1 fun a14 =>
      ab_bd (ab_sI h3 a14 (((6 : Int32) * l3) + l4) (-1 : Int32)) fun h15 =>
      K11 l1 l2 l3 (l4 + (1 : Int32)) h15)
    else (
      ab_bd (ab_gR h3 x 4 3) fun v7 =>
      ab_bd v7 fun a8 =>
      ab_bd (ab_gR h3 a8 13 14) fun v9 =>
      ab_bd v9 fun a10 =>
      ab_bd (ab_aI h3 a10 0 l4) fun v11 =>
      ab_bd v1 fun a12 =>
      ab_bd (ab_sI h3 a12 (((6 : Int32) * l3) + l4) (v11 + s0)) fun h13 =>
      K11 l1 l2 l3 (l4 + (1 : Int32)) h13))
  else (
    ab_bd v1 fun a5 =>
    ab_bd (ab_sI h3 a5 (((6 : Int32) * l3) + l4) (-1 : Int32)) fun h6 =>
    K11 l1 l2 l3 (l4 + (1 : Int32)) h6)
theorem wX5_coinOf_b43 {D : Dd} {C : Cx} {h0 h' : Hp} {r : Int32} (A : Act C D (h0, (.inl (some (vI r))), h') yX5_coinOf cX5_coinOf 6 (some FieldType.int) 2 45 []) {x : Nat} {K4 : Int32 → Int32 → Int32 → Hp → Option (Int32 × Hp)} (hK4 : ∀ {l1 : Int32} {l2 : Int32} {l3 : Int32} {h : Hp}, K4 l1 l2 l3 h = some (r, h') → X C D (h0, (.inl (some (vI r))), h') 6 4 [(0, vR (some x)), (1, vI l1), (2, vI l2), (3, vI l3)] [] h) {K11 : Int32 → Int32 → Int32 → Int32 → Hp → Option (Int32 × Hp)} (hK11 : ∀ {l1 : Int32} {l2 : Int32} {l3 : Int32} {l4 : Int32} {h : Hp}, K11 l1 l2 l3 l4 h = some (r, h') → X C D (h0, (.inl (some (vI r))), h') 6 11 [(0, vR (some x)), (1, vI l1), (2, vI l2), (3, vI l3), (4, vI l4)] [] h) {l1 : Int32} {l2 : Int32} {l3 : Int32} {l4 : Int32} {s0 : Int32} {h : Hp} (hf : fX5_coinOf_b43 x K4 K11 l1 l2 l3 l4 s0 h = some (r, h')) : X C D (h0, (.inl (some (vI r))), h') 6 43 [(0, vR (some x)), (1, vI l1), (2, vI l2), (3, vI l3), (4, vI l4)] [vI s0] h := by
  unfold fX5_coinOf_b43 at hf
  refine xr_istore A dX5_coinOf_43 (Nat.le_of_ble_eq_true rfl) (L' := [(5, vI s0), (0, vR (some x)), (1, vI l1), (2, vI l2), (3, vI l3), (4, vI l4)]) rfl ?_
  refine xr_aload_n A dX5_coinOf_45 1 rfl rfl ?_
  revert hf; refine ab_bdI (fun v1 mv1 hf => ?_)
  refine xr_get A xc_X5 in_X5 31 (Nat.le_of_ble_eq_true rfl) q1329 rfl (ab_gRE mv1) dX5_coinOf_46 ?_
  refine xr_bipush A (v := 6) dX5_coinOf_49 (by decide) ?_
  refine xr_iload_n A dX5_coinOf_51 4 rfl rfl ?_
  refine xr_imul A dX5_coinOf_52 ?_
  refine xr_iload A dX5_coinOf_53 5 rfl ?_
  refine xr_iadd A dX5_coinOf_55 ?_
  refine xr_aload_n A dX5_coinOf_56 1 rfl rfl ?_
  refine xr_iload_n A dX5_coinOf_57 2 rfl rfl ?_
  refine xr_iload A dX5_coinOf_58 5 rfl ?_
  revert hf; refine ab_b2I (fun v4 h3 m2 hf => ?_)
  refine xr_V A bX5_barred (wX5_barred D m2).2 xc_X5 (wX5_barred D m2).1 q1890 qs85 q1888 (av := [vI l1, vI l4]) (rest := [vI (((6 : Int32) * l3) + l4), vR v1]) rfl dX5_coinOf_60 (Nat.le_of_ble_eq_true rfl) (Nat.le_of_ble_eq_true rfl) rfl (Nat.le_of_ble_eq_true rfl) ?_
  refine xr_if_ne A (tgt := 72) dX5_coinOf_63 (by decide) (fun c63 => ?_) (fun c63 => ?_)
  · replace hf := ab_in c63 hf
    refine xr_iconst A (v := (-1)) dX5_coinOf_72 (by decide) ?_
    refine xr_goto A (tgt := 89) dX5_coinOf_73 (by decide) ?_
    revert hf; refine ab_bdI (fun a5 e hf => ?_); subst e
    revert hf; refine ab_bdI (fun h6 mh6 hf => ?_)
    refine xr_iastore A mh6 dX5_coinOf_89 ?_
    refine xr_iinc A dX5_coinOf_90 5 rfl (v := (l4 + (1 : Int32))) rfl (Nat.le_of_ble_eq_true rfl) (L' := [(4, vI (l4 + (1 : Int32))), (5, vI s0), (0, vR (some x)), (1, vI l1), (2, vI l2), (3, vI l3)]) rfl ?_
    refine xr_goto A (tgt := 11) dX5_coinOf_93 (by decide) ?_
    refine X.sub [2, 3, 4, 5, 0] rfl ?_
    exact hK11 hf
  · replace hf := ab_ip c63 hf
    refine xr_iload A dX5_coinOf_66 0 rfl ?_
    refine xr_iconst A (v := (-1)) dX5_coinOf_68 (by decide) ?_
    refine xr_icmp_ne A (tgt := 76) dX5_coinOf_69 (by decide) (fun c69 => ?_) (fun c69 => ?_)
    · replace hf := ab_in c69 hf
      refine xr_aload_n A dX5_coinOf_76 1 rfl rfl ?_
      revert hf; refine ab_bdI (fun v7 mv7 hf => ?_)
      refine xr_get A xc_X5 in_X5 3 (Nat.le_of_ble_eq_true rfl) q1301 rfl (ab_gRE mv7) dX5_coinOf_77 ?_
      revert hf; refine ab_bdI (fun a8 e hf => ?_); subst e
      revert hf; refine ab_bdI (fun v9 mv9 hf => ?_)
      refine xr_getN A xc_X15 in_X15 14 (Nat.le_of_ble_eq_true rfl) n1480 rfl (ab_gRE mv9) dX5_coinOf_80 ?_
      refine xr_iload A dX5_coinOf_83 5 rfl ?_
      revert hf; refine ab_bdI (fun a10 e hf => ?_); subst e
      revert hf; refine ab_bdI (fun v11 mv11 hf => ?_)
      refine xr_iaload A mv11 dX5_coinOf_85 ?_
      refine xr_iload A dX5_coinOf_86 0 rfl ?_
      refine xr_iadd A dX5_coinOf_88 ?_
      revert hf; refine ab_bdI (fun a12 e hf => ?_); subst e
      revert hf; refine ab_bdI (fun h13 mh13 hf => ?_)
      refine xr_iastore A mh13 dX5_coinOf_89 ?_
      refine xr_iinc A dX5_coinOf_90 5 rfl (v := (l4 + (1 : Int32))) rfl (Nat.le_of_ble_eq_true rfl) (L' := [(4, vI (l4 + (1 : Int32))), (5, vI s0), (0, vR (some x)), (1, vI l1), (2, vI l2), (3, vI l3)]) rfl ?_
      refine xr_goto A (tgt := 11) dX5_coinOf_93 (by decide) ?_
      refine X.sub [2, 3, 4, 5, 0] rfl ?_
      exact hK11 hf
    · replace hf := ab_ip c69 hf
      refine xr_iconst A (v := (-1)) dX5_coinOf_72 (by decide) ?_
      refine xr_goto A (tgt := 89) dX5_coinOf_73 (by decide) ?_
      revert hf; refine ab_bdI (fun a14 e hf => ?_); subst e
      revert hf; refine ab_bdI (fun h15 mh15 hf => ?_)
      refine xr_iastore A mh15 dX5_coinOf_89 ?_
      refine xr_iinc A dX5_coinOf_90 5 rfl (v := (l4 + (1 : Int32))) rfl (Nat.le_of_ble_eq_true rfl) (L' := [(4, vI (l4 + (1 : Int32))), (5, vI s0), (0, vR (some x)), (1, vI l1), (2, vI l2), (3, vI l3)]) rfl ?_
      refine xr_goto A (tgt := 11) dX5_coinOf_93 (by decide) ?_
      refine X.sub [2, 3, 4, 5, 0] rfl ?_
      exact hK11 hf
noncomputable def fX5_coinOf_l11 (x : Nat) (K4 : Int32 → Int32 → Int32 → Hp → Option (Int32 × Hp)) : Nat → Int32 → Int32 → Int32 → Int32 → Hp → Option (Int32 × Hp)
  | 0, _, _, _, _, _ => none
  | n + 1, l1, l2, l3, l4, h =>
  ab_bd (ab_gR h x 4 3) fun v1 =>
  ab_bd v1 fun a2 =>
  ab_bd (ab_gI h a2 13 3) fun v3 =>
  if v3 ≤ l4 then (
    K4 l1 l2 (l3 + (-1 : Int32)) h)
  else (
    if l3 = (l2 - (1 : Int32)) then (
      fX5_coinOf_b43 x K4 (fX5_coinOf_l11 x K4 n) l1 l2 l3 l4 (0 : Int32) h)
    else (
      ab_b2 (fX5_cheapest x (l3 + (1 : Int32)) l4 h) fun v6 h5 =>
      fX5_coinOf_b43 x K4 (fX5_coinOf_l11 x K4 n) l1 l2 l3 l4 v6 h5))
theorem wX5_coinOf_l11 {D : Dd} {C : Cx} {h0 h' : Hp} {r : Int32} (A : Act C D (h0, (.inl (some (vI r))), h') yX5_coinOf cX5_coinOf 6 (some FieldType.int) 2 45 []) {x : Nat} {K4 : Int32 → Int32 → Int32 → Hp → Option (Int32 × Hp)} (hK4 : ∀ {l1 : Int32} {l2 : Int32} {l3 : Int32} {h : Hp}, K4 l1 l2 l3 h = some (r, h') → X C D (h0, (.inl (some (vI r))), h') 6 4 [(0, vR (some x)), (1, vI l1), (2, vI l2), (3, vI l3)] [] h) : ∀ (n : Nat) {l1 : Int32} {l2 : Int32} {l3 : Int32} {l4 : Int32} {h : Hp}, fX5_coinOf_l11 x K4 n l1 l2 l3 l4 h = some (r, h') → X C D (h0, (.inl (some (vI r))), h') 6 11 [(0, vR (some x)), (1, vI l1), (2, vI l2), (3, vI l3), (4, vI l4)] [] h := by
  intro n
  induction n with
  | zero => intro l1 l2 l3 l4 h hf; exact ab_no hf
  | succ n ih =>
    intro l1 l2 l3 l4 h hf
    unfold fX5_coinOf_l11 at hf
    refine xr_iload A dX5_coinOf_11 4 rfl ?_
    refine xr_aload_n A dX5_coinOf_13 0 rfl rfl ?_
    revert hf; refine ab_bdI (fun v1 mv1 hf => ?_)
    refine xr_get A xc_X5 in_X5 3 (Nat.le_of_ble_eq_true rfl) q1301 rfl (ab_gRE mv1) dX5_coinOf_14 ?_
    revert hf; refine ab_bdI (fun a2 e hf => ?_); subst e
    revert hf; refine ab_bdI (fun v3 mv3 hf => ?_)
    refine xr_getN A xc_X15 in_X15 3 (Nat.le_of_ble_eq_true rfl) n1463 rfl (ab_gIE mv3) dX5_coinOf_17 ?_
    refine xr_icmp_ge A (tgt := 96) dX5_coinOf_20 (by decide) (fun c20 => ?_) (fun c20 => ?_)
    · replace hf := ab_ip c20 hf
      refine xr_iinc A dX5_coinOf_96 3 rfl (v := (l3 + (-1 : Int32))) rfl (Nat.le_of_ble_eq_true rfl) (L' := [(3, vI (l3 + (-1 : Int32))), (0, vR (some x)), (1, vI l1), (2, vI l2), (4, vI l4)]) rfl ?_
      refine xr_goto A (tgt := 4) dX5_coinOf_99 (by decide) ?_
      refine X.sub [1, 2, 3, 0] rfl ?_
      exact hK4 hf
    · replace hf := ab_in c20 hf
      refine xr_iload_n A dX5_coinOf_23 3 rfl rfl ?_
      refine xr_iload_n A dX5_coinOf_24 2 rfl rfl ?_
      refine xr_iconst A (v := 1) dX5_coinOf_25 (by decide) ?_
      refine xr_isub A dX5_coinOf_26 ?_
      refine xr_icmp_ne A (tgt := 34) dX5_coinOf_27 (by decide) (fun c27 => ?_) (fun c27 => ?_)
      · replace hf := ab_in c27 hf
        refine xr_aload_n A dX5_coinOf_34 0 rfl rfl ?_
        refine xr_iload_n A dX5_coinOf_35 3 rfl rfl ?_
        refine xr_iconst A (v := 1) dX5_coinOf_36 (by decide) ?_
        refine xr_iadd A dX5_coinOf_37 ?_
        refine xr_iload A dX5_coinOf_38 4 rfl ?_
        revert hf; refine ab_b2I (fun v6 h5 m4 hf => ?_)
        refine xr_V A bX5_cheapest (wX5_cheapest D m4).2 xc_X5 (wX5_cheapest D m4).1 q1910 qs87 q1908 (av := [vI (l3 + (1 : Int32)), vI l4]) (rest := []) rfl dX5_coinOf_40 (Nat.le_of_ble_eq_true rfl) (Nat.le_of_ble_eq_true rfl) rfl (Nat.le_of_ble_eq_true rfl) ?_
        exact wX5_coinOf_b43 A @hK4 (fun hf => ih hf) hf
      · replace hf := ab_ip c27 hf
        refine xr_iconst A (v := 0) dX5_coinOf_30 (by decide) ?_
        refine xr_goto A (tgt := 43) dX5_coinOf_31 (by decide) ?_
        exact wX5_coinOf_b43 A @hK4 (fun hf => ih hf) hf
noncomputable def fX5_coinOf_l4 (x : Nat) : Nat → Int32 → Int32 → Int32 → Hp → Option (Int32 × Hp)
  | 0, _, _, _, _ => none
  | n + 1, l1, l2, l3, h =>
  if l3 < 0 then (
    ab_b2 (fX5_cheapest x (0 : Int32) (-1 : Int32) h) fun v3 h2 =>
    some (v3, h2))
  else (
    fX5_coinOf_l11 x (fX5_coinOf_l4 x n) (hfu h) l1 l2 l3 (0 : Int32) h)
theorem wX5_coinOf_l4 {D : Dd} {C : Cx} {h0 h' : Hp} {r : Int32} (A : Act C D (h0, (.inl (some (vI r))), h') yX5_coinOf cX5_coinOf 6 (some FieldType.int) 2 45 []) {x : Nat} : ∀ (n : Nat) {l1 : Int32} {l2 : Int32} {l3 : Int32} {h : Hp}, fX5_coinOf_l4 x n l1 l2 l3 h = some (r, h') → X C D (h0, (.inl (some (vI r))), h') 6 4 [(0, vR (some x)), (1, vI l1), (2, vI l2), (3, vI l3)] [] h := by
  intro n
  induction n with
  | zero => intro l1 l2 l3 h hf; exact ab_no hf
  | succ n ih =>
    intro l1 l2 l3 h hf
    unfold fX5_coinOf_l4 at hf
    refine xr_iload_n A dX5_coinOf_4 3 rfl rfl ?_
    refine xr_if_lt A (tgt := 102) dX5_coinOf_5 (by decide) (fun c5 => ?_) (fun c5 => ?_)
    · replace hf := ab_ip c5 hf
      refine xr_aload_n A dX5_coinOf_102 0 rfl rfl ?_
      refine xr_iconst A (v := 0) dX5_coinOf_103 (by decide) ?_
      refine xr_iconst A (v := (-1)) dX5_coinOf_104 (by decide) ?_
      revert hf; refine ab_b2I (fun v3 h2 m1 hf => ?_)
      refine xr_V A bX5_cheapest (wX5_cheapest D m1).2 xc_X5 (wX5_cheapest D m1).1 q1910 qs87 q1908 (av := [vI (0 : Int32), vI (-1 : Int32)]) (rest := []) rfl dX5_coinOf_105 (Nat.le_of_ble_eq_true rfl) (Nat.le_of_ble_eq_true rfl) rfl (Nat.le_of_ble_eq_true rfl) ?_
      exact xr_ireturn A rfl hf dX5_coinOf_108
    · replace hf := ab_in c5 hf
      refine xr_iconst A (v := 0) dX5_coinOf_8 (by decide) ?_
      refine xr_istore A dX5_coinOf_9 (Nat.le_of_ble_eq_true rfl) (L' := [(4, vI (0 : Int32)), (0, vR (some x)), (1, vI l1), (2, vI l2), (3, vI l3)]) rfl ?_
      refine X.sub [1, 2, 3, 4, 0] rfl ?_
      exact wX5_coinOf_l11 A (fun hf => ih hf) _ hf
noncomputable def fX5_coinOf (x : Nat) (p1 : Int32) (p2 : Int32) (h : Hp) : Option (Int32 × Hp) :=
  ab_ck h x 4 <|
  fX5_coinOf_l4 x (hfu h) p1 p2 (p2 - (1 : Int32)) h
theorem wX5_coinOf (D : Dd) {x : Nat} {p1 : Int32} {p2 : Int32} {h : Hp} {r : Int32} {h' : Hp} (hf : fX5_coinOf x p1 p2 h = some (r, h')) : ab_is h x 4 ∧ Ct D 2 45 yX5_coinOf cX5_coinOf 6 (some FieldType.int) [vR (some x), vI p1, vI p2] h (.inl (some (vI r))) h' := by
    unfold fX5_coinOf at hf
    replace hf := ab_ckE hf; obtain ⟨i0, hf⟩ := hf
    refine ⟨i0, ?_⟩
    refine Ct.of (by decide) (L := [(0, vR (some x)), (1, vI p1), (2, vI p2)]) rfl (Nat.le_of_ble_eq_true rfl) (fun C A => ?_)
    refine xr_iload_n A dX5_coinOf_0 2 rfl rfl ?_
    refine xr_iconst A (v := 1) dX5_coinOf_1 (by decide) ?_
    refine xr_isub A dX5_coinOf_2 ?_
    refine xr_istore_n A dX5_coinOf_3 rfl (Nat.le_of_ble_eq_true rfl) (L' := [(3, vI (p2 - (1 : Int32))), (0, vR (some x)), (1, vI p1), (2, vI p2)]) rfl ?_
    refine X.sub [1, 2, 3, 0] rfl ?_
    exact wX5_coinOf_l4 A _ hf
/-! X5_menu -/
theorem bX5_menu : MB yX5_menu cX5_menu 8 (some FieldType.int) 2 := ⟨q1903, q99, by decide, by decide +kernel⟩
noncomputable def fX5_menu_b27 (x : Nat) (h : Hp) : Option (Int32 × Hp) :=
  ab_b2 (fX5_refused x (1 : Int32) h) fun v3 h2 =>
  some (v3, h2)
theorem wX5_menu_b27 {D : Dd} {C : Cx} {h0 h' : Hp} {r : Int32} (A : Act C D (h0, (.inl (some (vI r))), h') yX5_menu cX5_menu 8 (some FieldType.int) 3 70 []) {x : Nat} {h : Hp} (hf : fX5_menu_b27 x h = some (r, h')) : X C D (h0, (.inl (some (vI r))), h') 8 27 [(0, vR (some x))] [] h := by
  unfold fX5_menu_b27 at hf
  refine xr_aload_n A dX5_menu_27 0 rfl rfl ?_
  refine xr_iconst A (v := 1) dX5_menu_28 (by decide) ?_
  revert hf; refine ab_b2I (fun v3 h2 m1 hf => ?_)
  refine xr_V A bX5_refused (wX5_refused D m1).2 xc_X5 (wX5_refused D m1).1 q1451 qs44 q1449 (av := [vI (1 : Int32)]) (rest := []) rfl dX5_menu_29 (Nat.le_of_ble_eq_true rfl) (Nat.le_of_ble_eq_true rfl) rfl (Nat.le_of_ble_eq_true rfl) ?_
  exact xr_ireturn A rfl hf dX5_menu_32
noncomputable def fX5_menu_l98 (x : Nat) (K79 : Int32 → Int32 → Int32 → Int32 → Hp → Option (Int32 × Hp)) : Nat → Int32 → Int32 → Int32 → Int32 → Int32 → Int32 → Hp → Option (Int32 × Hp)
  | 0, _, _, _, _, _, _, _ => none
  | n + 1, l2, l3, l4, l5, l6, l7, h =>
  if l7 = l4 then (
    fX5_menu_l98 x K79 n l2 l3 l4 l5 l6 (l7 + (1 : Int32)) h)
  else (
    ab_bd (ab_gR h x 4 31) fun v1 =>
    ab_bd v1 fun a2 =>
    ab_bd (ab_aI h a2 0 (((6 : Int32) * l5) + l7)) fun v3 =>
    if v3 = l6 then (
      ab_bd (ab_gR h x 4 32) fun v4 =>
      ab_bd v4 fun a5 =>
      ab_bd (ab_sI h a5 l5 l7) fun h6 =>
      K79 l2 l3 l7 (l5 + (1 : Int32)) h6)
    else (
      fX5_menu_l98 x K79 n l2 l3 l4 l5 l6 (l7 + (1 : Int32)) h))
theorem wX5_menu_l98 {D : Dd} {C : Cx} {h0 h' : Hp} {r : Int32} (A : Act C D (h0, (.inl (some (vI r))), h') yX5_menu cX5_menu 8 (some FieldType.int) 3 70 []) {x : Nat} {K79 : Int32 → Int32 → Int32 → Int32 → Hp → Option (Int32 × Hp)} (hK79 : ∀ {l2 : Int32} {l3 : Int32} {l4 : Int32} {l5 : Int32} {h : Hp}, K79 l2 l3 l4 l5 h = some (r, h') → X C D (h0, (.inl (some (vI r))), h') 8 79 [(0, vR (some x)), (2, vI l2), (3, vI l3), (4, vI l4), (5, vI l5)] [] h) : ∀ (n : Nat) {l2 : Int32} {l3 : Int32} {l4 : Int32} {l5 : Int32} {l6 : Int32} {l7 : Int32} {h : Hp}, fX5_menu_l98 x K79 n l2 l3 l4 l5 l6 l7 h = some (r, h') → X C D (h0, (.inl (some (vI r))), h') 8 98 [(0, vR (some x)), (2, vI l2), (3, vI l3), (4, vI l4), (5, vI l5), (6, vI l6), (7, vI l7)] [] h := by
  intro n
  induction n with
  | zero => intro l2 l3 l4 l5 l6 l7 h hf; exact ab_no hf
  | succ n ih =>
    intro l2 l3 l4 l5 l6 l7 h hf
    unfold fX5_menu_l98 at hf
    refine xr_iload A dX5_menu_98 6 rfl ?_
    refine xr_iload A dX5_menu_100 3 rfl ?_
    refine xr_icmp_eq A (tgt := 123) dX5_menu_102 (by decide) (fun c102 => ?_) (fun c102 => ?_)
    · replace hf := ab_ip c102 hf
      refine xr_iinc A dX5_menu_123 6 rfl (v := (l7 + (1 : Int32))) rfl (Nat.le_of_ble_eq_true rfl) (L' := [(7, vI (l7 + (1 : Int32))), (0, vR (some x)), (2, vI l2), (3, vI l3), (4, vI l4), (5, vI l5), (6, vI l6)]) rfl ?_
      refine xr_goto A (tgt := 98) dX5_menu_126 (by decide) ?_
      refine X.sub [1, 2, 3, 4, 5, 6, 0] rfl ?_
      exact ih hf
    · replace hf := ab_in c102 hf
      refine xr_aload_n A dX5_menu_105 0 rfl rfl ?_
      revert hf; refine ab_bdI (fun v1 mv1 hf => ?_)
      refine xr_get A xc_X5 in_X5 31 (Nat.le_of_ble_eq_true rfl) q1329 rfl (ab_gRE mv1) dX5_menu_106 ?_
      refine xr_bipush A (v := 6) dX5_menu_109 (by decide) ?_
      refine xr_iload A dX5_menu_111 4 rfl ?_
      refine xr_imul A dX5_menu_113 ?_
      refine xr_iload A dX5_menu_114 6 rfl ?_
      refine xr_iadd A dX5_menu_116 ?_
      revert hf; refine ab_bdI (fun a2 e hf => ?_); subst e
      revert hf; refine ab_bdI (fun v3 mv3 hf => ?_)
      refine xr_iaload A mv3 dX5_menu_117 ?_
      refine xr_iload A dX5_menu_118 5 rfl ?_
      refine xr_icmp_eq A (tgt := 129) dX5_menu_120 (by decide) (fun c120 => ?_) (fun c120 => ?_)
      · replace hf := ab_ip c120 hf
        refine xr_aload_n A dX5_menu_129 0 rfl rfl ?_
        revert hf; refine ab_bdI (fun v4 mv4 hf => ?_)
        refine xr_get A xc_X5 in_X5 32 (Nat.le_of_ble_eq_true rfl) q1330 rfl (ab_gRE mv4) dX5_menu_130 ?_
        refine xr_iload A dX5_menu_133 4 rfl ?_
        refine xr_iload A dX5_menu_135 6 rfl ?_
        revert hf; refine ab_bdI (fun a5 e hf => ?_); subst e
        revert hf; refine ab_bdI (fun h6 mh6 hf => ?_)
        refine xr_iastore A mh6 dX5_menu_137 ?_
        refine xr_iload A dX5_menu_138 6 rfl ?_
        refine xr_istore A dX5_menu_140 (Nat.le_of_ble_eq_true rfl) (L' := [(4, vI l7), (0, vR (some x)), (2, vI l2), (3, vI l3), (5, vI l5), (6, vI l6), (7, vI l7)]) rfl ?_
        refine xr_iinc A dX5_menu_142 4 rfl (v := (l5 + (1 : Int32))) rfl (Nat.le_of_ble_eq_true rfl) (L' := [(5, vI (l5 + (1 : Int32))), (4, vI l7), (0, vR (some x)), (2, vI l2), (3, vI l3), (6, vI l6), (7, vI l7)]) rfl ?_
        refine xr_goto A (tgt := 79) dX5_menu_145 (by decide) ?_
        refine X.sub [2, 3, 4, 1, 0] rfl ?_
        exact hK79 hf
      · replace hf := ab_in c120 hf
        refine xr_iinc A dX5_menu_123 6 rfl (v := (l7 + (1 : Int32))) rfl (Nat.le_of_ble_eq_true rfl) (L' := [(7, vI (l7 + (1 : Int32))), (0, vR (some x)), (2, vI l2), (3, vI l3), (4, vI l4), (5, vI l5), (6, vI l6)]) rfl ?_
        refine xr_goto A (tgt := 98) dX5_menu_126 (by decide) ?_
        refine X.sub [1, 2, 3, 4, 5, 6, 0] rfl ?_
        exact ih hf
noncomputable def fX5_menu_l79 (x : Nat) : Nat → Int32 → Int32 → Int32 → Int32 → Hp → Option (Int32 × Hp)
  | 0, _, _, _, _, _ => none
  | n + 1, l2, l3, l4, l5, h =>
  if l2 ≤ l5 then (
    ab_b2 (fX5_done x l3 h) fun v3 h2 =>
    some (v3, h2))
  else (
    ab_b2 (fX5_cheapest x l5 l4 h) fun v6 h5 =>
    fX5_menu_l98 x (fX5_menu_l79 x n) (hfu h5) l2 l3 l4 l5 v6 (0 : Int32) h5)
theorem wX5_menu_l79 {D : Dd} {C : Cx} {h0 h' : Hp} {r : Int32} (A : Act C D (h0, (.inl (some (vI r))), h') yX5_menu cX5_menu 8 (some FieldType.int) 3 70 []) {x : Nat} : ∀ (n : Nat) {l2 : Int32} {l3 : Int32} {l4 : Int32} {l5 : Int32} {h : Hp}, fX5_menu_l79 x n l2 l3 l4 l5 h = some (r, h') → X C D (h0, (.inl (some (vI r))), h') 8 79 [(0, vR (some x)), (2, vI l2), (3, vI l3), (4, vI l4), (5, vI l5)] [] h := by
  intro n
  induction n with
  | zero => intro l2 l3 l4 l5 h hf; exact ab_no hf
  | succ n ih =>
    intro l2 l3 l4 l5 h hf
    unfold fX5_menu_l79 at hf
    refine xr_iload A dX5_menu_79 4 rfl ?_
    refine xr_iload_n A dX5_menu_81 1 rfl rfl ?_
    refine xr_icmp_ge A (tgt := 148) dX5_menu_82 (by decide) (fun c82 => ?_) (fun c82 => ?_)
    · replace hf := ab_ip c82 hf
      refine xr_aload_n A dX5_menu_148 0 rfl rfl ?_
      refine xr_iload_n A dX5_menu_149 2 rfl rfl ?_
      revert hf; refine ab_b2I (fun v3 h2 m1 hf => ?_)
      refine xr_V A bX5_done (wX5_done D m1).2 xc_X5 (wX5_done D m1).1 q1749 qs69 q1747 (av := [vI l3]) (rest := []) rfl dX5_menu_150 (Nat.le_of_ble_eq_true rfl) (Nat.le_of_ble_eq_true rfl) rfl (Nat.le_of_ble_eq_true rfl) ?_
      exact xr_ireturn A rfl hf dX5_menu_153
    · replace hf := ab_in c82 hf
      refine xr_aload_n A dX5_menu_85 0 rfl rfl ?_
      refine xr_iload A dX5_menu_86 4 rfl ?_
      refine xr_iload A dX5_menu_88 3 rfl ?_
      revert hf; refine ab_b2I (fun v6 h5 m4 hf => ?_)
      refine xr_V A bX5_cheapest (wX5_cheapest D m4).2 xc_X5 (wX5_cheapest D m4).1 q1910 qs87 q1908 (av := [vI l5, vI l4]) (rest := []) rfl dX5_menu_90 (Nat.le_of_ble_eq_true rfl) (Nat.le_of_ble_eq_true rfl) rfl (Nat.le_of_ble_eq_true rfl) ?_
      refine xr_istore A dX5_menu_93 (Nat.le_of_ble_eq_true rfl) (L' := [(6, vI v6), (0, vR (some x)), (2, vI l2), (3, vI l3), (4, vI l4), (5, vI l5)]) rfl ?_
      refine xr_iconst A (v := 0) dX5_menu_95 (by decide) ?_
      refine xr_istore A dX5_menu_96 (Nat.le_of_ble_eq_true rfl) (L' := [(7, vI (0 : Int32)), (6, vI v6), (0, vR (some x)), (2, vI l2), (3, vI l3), (4, vI l4), (5, vI l5)]) rfl ?_
      refine X.sub [2, 3, 4, 5, 6, 1, 0] rfl ?_
      exact wX5_menu_l98 A (fun hf => ih hf) _ hf
noncomputable def fX5_menu (x : Nat) (p1 : Int32) (p2 : Int32) (h : Hp) : Option (Int32 × Hp) :=
  ab_ck h x 4 <|
  ab_bd (ab_pI h x 4 0 (0 : Int32)) fun h1 =>
  ab_bd (ab_gR h1 x 4 3) fun v2 =>
  ab_on v2 (
    fX5_menu_b27 x  h1) fun a3 => (
    if p1 < 0 then (
      fX5_menu_b27 x  h1)
    else (
      ab_bd (ab_gR h1 x 4 3) fun v4 =>
      ab_bd v4 fun a5 =>
      ab_bd (ab_gI h1 a5 13 4) fun v6 =>
      if p1 < v6 then (
        ab_b2 (fX5_in p2 (1 : Int32) (14 : Int32) h1) fun v9 h8 =>
        if v9 = 0 then (
          ab_b2 (fX5_refused x (2 : Int32) h8) fun v19 h18 =>
          some (v19, h18))
        else (
          ab_b2 (fX5_coinOf x p1 p2 h8) fun v12 h11 =>
          if v12 = (-1 : Int32) then (
            ab_b2 (fX5_refused x (6 : Int32) h11) fun v16 h15 =>
            some (v16, h15))
          else (
            ab_bd (ab_pI h11 x 4 33 p2) fun h13 =>
            fX5_menu_l79 x (hfu h13) p2 v12 (-1 : Int32) (0 : Int32) h13)))
      else (
        fX5_menu_b27 x  h1)))
theorem wX5_menu (D : Dd) {x : Nat} {p1 : Int32} {p2 : Int32} {h : Hp} {r : Int32} {h' : Hp} (hf : fX5_menu x p1 p2 h = some (r, h')) : ab_is h x 4 ∧ Ct D 3 70 yX5_menu cX5_menu 8 (some FieldType.int) [vR (some x), vI p1, vI p2] h (.inl (some (vI r))) h' := by
    unfold fX5_menu at hf
    replace hf := ab_ckE hf; obtain ⟨i0, hf⟩ := hf
    refine ⟨i0, ?_⟩
    refine Ct.of (by decide) (L := [(0, vR (some x)), (1, vI p1), (2, vI p2)]) rfl (Nat.le_of_ble_eq_true rfl) (fun C A => ?_)
    refine xr_aload_n A dX5_menu_0 0 rfl rfl ?_
    refine xr_iconst A (v := 0) dX5_menu_1 (by decide) ?_
    revert hf; refine ab_bdI (fun h1 mh1 hf => ?_)
    refine xr_put A xc_X5 in_X5 tyX5_ok nmX5 0 (Nat.le_of_ble_eq_true rfl) q1298 rfl rfl (v := vI (0 : Int32)) rfl rfl mh1 dX5_menu_2 ?_
    refine xr_aload_n A dX5_menu_5 0 rfl rfl ?_
    revert hf; refine ab_bdI (fun v2 mv2 hf => ?_)
    refine xr_get A xc_X5 in_X5 3 (Nat.le_of_ble_eq_true rfl) q1301 rfl (ab_gRE mv2) dX5_menu_6 ?_
    revert hf; refine ab_onI (fun e hf => ?_) (fun a3 e hf => ?_) <;> subst e
    · refine xr_ifnull A (tgt := 27) dX5_menu_9 (by decide) (fun _ => ?_) (fun _ e => by cases e)
      refine X.sub [0] rfl ?_
      exact wX5_menu_b27 A hf
    · refine xr_ifnull A (tgt := 27) dX5_menu_9 (by decide) (fun e => by cases e) (fun _ _ => ?_)
      refine xr_iload_n A dX5_menu_12 1 rfl rfl ?_
      refine xr_if_lt A (tgt := 27) dX5_menu_13 (by decide) (fun c13 => ?_) (fun c13 => ?_)
      · replace hf := ab_ip c13 hf
        refine X.sub [0] rfl ?_
        exact wX5_menu_b27 A hf
      · replace hf := ab_in c13 hf
        refine xr_iload_n A dX5_menu_16 1 rfl rfl ?_
        refine xr_aload_n A dX5_menu_17 0 rfl rfl ?_
        revert hf; refine ab_bdI (fun v4 mv4 hf => ?_)
        refine xr_get A xc_X5 in_X5 3 (Nat.le_of_ble_eq_true rfl) q1301 rfl (ab_gRE mv4) dX5_menu_18 ?_
        revert hf; refine ab_bdI (fun a5 e hf => ?_); subst e
        revert hf; refine ab_bdI (fun v6 mv6 hf => ?_)
        refine xr_getN A xc_X15 in_X15 4 (Nat.le_of_ble_eq_true rfl) n1464 rfl (ab_gIE mv6) dX5_menu_21 ?_
        refine xr_icmp_lt A (tgt := 33) dX5_menu_24 (by decide) (fun c24 => ?_) (fun c24 => ?_)
        · replace hf := ab_ip c24 hf
          refine xr_iload_n A dX5_menu_33 2 rfl rfl ?_
          refine xr_iconst A (v := 1) dX5_menu_34 (by decide) ?_
          refine xr_bipush A (v := 14) dX5_menu_35 (by decide) ?_
          revert hf; refine ab_b2I (fun v9 h8 m7 hf => ?_)
          refine xr_S A bX5_in (wX5_in D m7) q1657 q1656 (av := [vI p2, vI (1 : Int32), vI (14 : Int32)]) (rest := []) rfl dX5_menu_37 (Nat.le_of_ble_eq_true rfl) (Nat.le_of_ble_eq_true rfl) rfl (Nat.le_of_ble_eq_true rfl) ?_
          refine xr_if_ne A (tgt := 49) dX5_menu_40 (by decide) (fun c40 => ?_) (fun c40 => ?_)
          · replace hf := ab_in c40 hf
            refine xr_aload_n A dX5_menu_49 0 rfl rfl ?_
            refine xr_iload_n A dX5_menu_50 1 rfl rfl ?_
            refine xr_iload_n A dX5_menu_51 2 rfl rfl ?_
            revert hf; refine ab_b2I (fun v12 h11 m10 hf => ?_)
            refine xr_V A bX5_coinOf (wX5_coinOf D m10).2 xc_X5 (wX5_coinOf D m10).1 q1906 qs86 q1904 (av := [vI p1, vI p2]) (rest := []) rfl dX5_menu_52 (Nat.le_of_ble_eq_true rfl) (Nat.le_of_ble_eq_true rfl) rfl (Nat.le_of_ble_eq_true rfl) ?_
            refine xr_istore_n A dX5_menu_55 rfl (Nat.le_of_ble_eq_true rfl) (L' := [(3, vI v12), (0, vR (some x)), (1, vI p1), (2, vI p2)]) rfl ?_
            refine xr_iload_n A dX5_menu_56 0 rfl rfl ?_
            refine xr_iconst A (v := (-1)) dX5_menu_57 (by decide) ?_
            refine xr_icmp_ne A (tgt := 68) dX5_menu_58 (by decide) (fun c58 => ?_) (fun c58 => ?_)
            · replace hf := ab_in c58 hf
              refine xr_aload_n A dX5_menu_68 1 rfl rfl ?_
              refine xr_iload_n A dX5_menu_69 3 rfl rfl ?_
              revert hf; refine ab_bdI (fun h13 mh13 hf => ?_)
              refine xr_put A xc_X5 in_X5 tyX5_ok nmX5 33 (Nat.le_of_ble_eq_true rfl) q1331 rfl rfl (v := vI p2) rfl rfl mh13 dX5_menu_70 ?_
              refine xr_iconst A (v := (-1)) dX5_menu_73 (by decide) ?_
              refine xr_istore A dX5_menu_74 (Nat.le_of_ble_eq_true rfl) (L' := [(4, vI (-1 : Int32)), (3, vI v12), (0, vR (some x)), (1, vI p1), (2, vI p2)]) rfl ?_
              refine xr_iconst A (v := 0) dX5_menu_76 (by decide) ?_
              refine xr_istore A dX5_menu_77 (Nat.le_of_ble_eq_true rfl) (L' := [(5, vI (0 : Int32)), (4, vI (-1 : Int32)), (3, vI v12), (0, vR (some x)), (1, vI p1), (2, vI p2)]) rfl ?_
              refine X.sub [3, 5, 2, 1, 0] rfl ?_
              exact wX5_menu_l79 A _ hf
            · replace hf := ab_ip c58 hf
              refine xr_aload_n A dX5_menu_61 1 rfl rfl ?_
              refine xr_bipush A (v := 6) dX5_menu_62 (by decide) ?_
              revert hf; refine ab_b2I (fun v16 h15 m14 hf => ?_)
              refine xr_V A bX5_refused (wX5_refused D m14).2 xc_X5 (wX5_refused D m14).1 q1451 qs44 q1449 (av := [vI (6 : Int32)]) (rest := []) rfl dX5_menu_64 (Nat.le_of_ble_eq_true rfl) (Nat.le_of_ble_eq_true rfl) rfl (Nat.le_of_ble_eq_true rfl) ?_
              exact xr_ireturn A rfl hf dX5_menu_67
          · replace hf := ab_ip c40 hf
            refine xr_aload_n A dX5_menu_43 0 rfl rfl ?_
            refine xr_iconst A (v := 2) dX5_menu_44 (by decide) ?_
            revert hf; refine ab_b2I (fun v19 h18 m17 hf => ?_)
            refine xr_V A bX5_refused (wX5_refused D m17).2 xc_X5 (wX5_refused D m17).1 q1451 qs44 q1449 (av := [vI (2 : Int32)]) (rest := []) rfl dX5_menu_45 (Nat.le_of_ble_eq_true rfl) (Nat.le_of_ble_eq_true rfl) rfl (Nat.le_of_ble_eq_true rfl) ?_
            exact xr_ireturn A rfl hf dX5_menu_48
        · replace hf := ab_in c24 hf
          refine X.sub [0] rfl ?_
          exact wX5_menu_b27 A hf
/-! X5_menuAt -/
theorem bX5_menuAt : MB yX5_menuAt cX5_menuAt 2 (some FieldType.int) 1 := ⟨q1915, q99, by decide, by decide +kernel⟩
noncomputable def fX5_menuAt (x : Nat) (p1 : Int32) (h : Hp) : Option (Int32 × Hp) :=
  ab_ck h x 4 <|
  ab_bd (ab_pI h x 4 0 (0 : Int32)) fun h1 =>
  if p1 < 0 then (
    some ((-1 : Int32), h1))
  else (
    ab_bd (ab_gI h1 x 4 33) fun v2 =>
    if v2 ≤ p1 then (
      some ((-1 : Int32), h1))
    else (
      ab_bd (ab_gR h1 x 4 32) fun v3 =>
      ab_bd v3 fun a4 =>
      ab_bd (ab_aI h1 a4 0 p1) fun v5 =>
      some (v5, h1)))
theorem wX5_menuAt (D : Dd) {x : Nat} {p1 : Int32} {h : Hp} {r : Int32} {h' : Hp} (hf : fX5_menuAt x p1 h = some (r, h')) : ab_is h x 4 ∧ Ct D 1 20 yX5_menuAt cX5_menuAt 2 (some FieldType.int) [vR (some x), vI p1] h (.inl (some (vI r))) h' := by
    unfold fX5_menuAt at hf
    replace hf := ab_ckE hf; obtain ⟨i0, hf⟩ := hf
    refine ⟨i0, ?_⟩
    refine Ct.of (by decide) (L := [(0, vR (some x)), (1, vI p1)]) rfl (Nat.le_of_ble_eq_true rfl) (fun C A => ?_)
    refine xr_aload_n A dX5_menuAt_0 0 rfl rfl ?_
    refine xr_iconst A (v := 0) dX5_menuAt_1 (by decide) ?_
    revert hf; refine ab_bdI (fun h1 mh1 hf => ?_)
    refine xr_put A xc_X5 in_X5 tyX5_ok nmX5 0 (Nat.le_of_ble_eq_true rfl) q1298 rfl rfl (v := vI (0 : Int32)) rfl rfl mh1 dX5_menuAt_2 ?_
    refine xr_iload_n A dX5_menuAt_5 1 rfl rfl ?_
    refine xr_if_lt A (tgt := 26) dX5_menuAt_6 (by decide) (fun c6 => ?_) (fun c6 => ?_)
    · replace hf := ab_ip c6 hf
      refine xr_iconst A (v := (-1)) dX5_menuAt_26 (by decide) ?_
      exact xr_ireturn A rfl hf dX5_menuAt_27
    · replace hf := ab_in c6 hf
      refine xr_iload_n A dX5_menuAt_9 1 rfl rfl ?_
      refine xr_aload_n A dX5_menuAt_10 0 rfl rfl ?_
      revert hf; refine ab_bdI (fun v2 mv2 hf => ?_)
      refine xr_get A xc_X5 in_X5 33 (Nat.le_of_ble_eq_true rfl) q1331 rfl (ab_gIE mv2) dX5_menuAt_11 ?_
      refine xr_icmp_ge A (tgt := 26) dX5_menuAt_14 (by decide) (fun c14 => ?_) (fun c14 => ?_)
      · replace hf := ab_ip c14 hf
        refine xr_iconst A (v := (-1)) dX5_menuAt_26 (by decide) ?_
        exact xr_ireturn A rfl hf dX5_menuAt_27
      · replace hf := ab_in c14 hf
        refine xr_aload_n A dX5_menuAt_17 0 rfl rfl ?_
        revert hf; refine ab_bdI (fun v3 mv3 hf => ?_)
        refine xr_get A xc_X5 in_X5 32 (Nat.le_of_ble_eq_true rfl) q1330 rfl (ab_gRE mv3) dX5_menuAt_18 ?_
        refine xr_iload_n A dX5_menuAt_21 1 rfl rfl ?_
        revert hf; refine ab_bdI (fun a4 e hf => ?_); subst e
        revert hf; refine ab_bdI (fun v5 mv5 hf => ?_)
        refine xr_iaload A mv5 dX5_menuAt_22 ?_
        refine xr_goto A (tgt := 27) dX5_menuAt_23 (by decide) ?_
        exact xr_ireturn A rfl hf dX5_menuAt_27
/-! X5_dropped -/
theorem bX5_dropped : MB yX5_dropped cX5_dropped 7 (some FieldType.int) 2 := ⟨q1919, q99, by decide, by decide +kernel⟩
noncomputable def fX5_dropped_l117 (x : Nat) (K106 : Int32 → Int32 → Int32 → Int32 → Hp → Option (Int32 × Hp)) : Nat → Int32 → Int32 → Int32 → Int32 → Int32 → Int32 → Hp → Option (Int32 × Hp)
  | 0, _, _, _, _, _, _, _ => none
  | n + 1, l1, l2, l3, l4, l5, l6, h =>
  ab_bd (ab_gR h x 4 3) fun v1 =>
  ab_bd v1 fun a2 =>
  ab_bd (ab_gI h a2 13 5) fun v3 =>
  if v3 ≤ l6 then (
    ab_bd (ab_gR h x 4 3) fun v4 =>
    ab_bd v4 fun a5 =>
    ab_bd (ab_gR h a5 13 19) fun v6 =>
    ab_bd v6 fun a7 =>
    ab_bd (ab_aI h a7 0 l5) fun v8 =>
    ab_b2 (fX5_coinOf x v8 l2 h) fun v11 h10 =>
    K106 l1 l2 (l3 - v11) (l4 ||| ((1 : Int32) <<< (l5 &&& 31))) h10)
  else (
    ab_b2 (fX5_has l4 l6 h) fun v14 h13 =>
    if v14 = 0 then (
      if l5 = (-1 : Int32) then (
        fX5_dropped_l117 x K106 n l1 l2 l3 l4 l6 (l6 + (1 : Int32)) h13)
      else (
        ab_bd (ab_gR h13 x 4 3) fun v15 =>
        ab_bd v15 fun a16 =>
        ab_bd (ab_gR h13 a16 13 23) fun v17 =>
        ab_bd v17 fun a18 =>
        ab_bd (ab_aI h13 a18 0 l6) fun v19 =>
        ab_bd (ab_gR h13 x 4 3) fun v20 =>
        ab_bd v20 fun a21 =>
        ab_bd (ab_gR h13 a21 13 23) fun v22 =>
        ab_bd v22 fun a23 =>
        ab_bd (ab_aI h13 a23 0 l5) fun v24 =>
        if v24 < v19 then (
          fX5_dropped_l117 x K106 n l1 l2 l3 l4 l5 (l6 + (1 : Int32)) h13)
        else (
          fX5_dropped_l117 x K106 n l1 l2 l3 l4 l6 (l6 + (1 : Int32)) h13)))
    else (
      fX5_dropped_l117 x K106 n l1 l2 l3 l4 l5 (l6 + (1 : Int32)) h13))
theorem wX5_dropped_l117 {D : Dd} {C : Cx} {h0 h' : Hp} {r : Int32} (A : Act C D (h0, (.inl (some (vI r))), h') yX5_dropped cX5_dropped 7 (some FieldType.int) 3 70 []) {x : Nat} {K106 : Int32 → Int32 → Int32 → Int32 → Hp → Option (Int32 × Hp)} (hK106 : ∀ {l1 : Int32} {l2 : Int32} {l3 : Int32} {l4 : Int32} {h : Hp}, K106 l1 l2 l3 l4 h = some (r, h') → X C D (h0, (.inl (some (vI r))), h') 7 106 [(0, vR (some x)), (1, vI l1), (2, vI l2), (3, vI l3), (4, vI l4)] [] h) : ∀ (n : Nat) {l1 : Int32} {l2 : Int32} {l3 : Int32} {l4 : Int32} {l5 : Int32} {l6 : Int32} {h : Hp}, fX5_dropped_l117 x K106 n l1 l2 l3 l4 l5 l6 h = some (r, h') → X C D (h0, (.inl (some (vI r))), h') 7 117 [(0, vR (some x)), (1, vI l1), (2, vI l2), (3, vI l3), (4, vI l4), (5, vI l5), (6, vI l6)] [] h := by
  intro n
  induction n with
  | zero => intro l1 l2 l3 l4 l5 l6 h hf; exact ab_no hf
  | succ n ih =>
    intro l1 l2 l3 l4 l5 l6 h hf
    unfold fX5_dropped_l117 at hf
    refine xr_iload A dX5_dropped_117 6 rfl ?_
    refine xr_aload_n A dX5_dropped_119 0 rfl rfl ?_
    revert hf; refine ab_bdI (fun v1 mv1 hf => ?_)
    refine xr_get A xc_X5 in_X5 3 (Nat.le_of_ble_eq_true rfl) q1301 rfl (ab_gRE mv1) dX5_dropped_120 ?_
    revert hf; refine ab_bdI (fun a2 e hf => ?_); subst e
    revert hf; refine ab_bdI (fun v3 mv3 hf => ?_)
    refine xr_getN A xc_X15 in_X15 5 (Nat.le_of_ble_eq_true rfl) n1465 rfl (ab_gIE mv3) dX5_dropped_123 ?_
    refine xr_icmp_ge A (tgt := 178) dX5_dropped_126 (by decide) (fun c126 => ?_) (fun c126 => ?_)
    · replace hf := ab_ip c126 hf
      refine xr_iload A dX5_dropped_178 4 rfl ?_
      refine xr_iconst A (v := 1) dX5_dropped_180 (by decide) ?_
      refine xr_iload A dX5_dropped_181 5 rfl ?_
      refine xr_ishl A dX5_dropped_183 ?_
      refine xr_ior A dX5_dropped_184 ?_
      refine xr_istore A dX5_dropped_185 (Nat.le_of_ble_eq_true rfl) (L' := [(4, vI (l4 ||| ((1 : Int32) <<< (l5 &&& 31)))), (0, vR (some x)), (1, vI l1), (2, vI l2), (3, vI l3), (5, vI l5), (6, vI l6)]) rfl ?_
      refine xr_iload_n A dX5_dropped_187 4 rfl rfl ?_
      refine xr_aload_n A dX5_dropped_188 1 rfl rfl ?_
      refine xr_aload_n A dX5_dropped_189 1 rfl rfl ?_
      revert hf; refine ab_bdI (fun v4 mv4 hf => ?_)
      refine xr_get A xc_X5 in_X5 3 (Nat.le_of_ble_eq_true rfl) q1301 rfl (ab_gRE mv4) dX5_dropped_190 ?_
      revert hf; refine ab_bdI (fun a5 e hf => ?_); subst e
      revert hf; refine ab_bdI (fun v6 mv6 hf => ?_)
      refine xr_getN A xc_X15 in_X15 19 (Nat.le_of_ble_eq_true rfl) n1490 rfl (ab_gRE mv6) dX5_dropped_193 ?_
      refine xr_iload A dX5_dropped_196 5 rfl ?_
      revert hf; refine ab_bdI (fun a7 e hf => ?_); subst e
      revert hf; refine ab_bdI (fun v8 mv8 hf => ?_)
      refine xr_iaload A mv8 dX5_dropped_198 ?_
      refine xr_iload_n A dX5_dropped_199 3 rfl rfl ?_
      revert hf; refine ab_b2I (fun v11 h10 m9 hf => ?_)
      refine xr_V A bX5_coinOf (wX5_coinOf D m9).2 xc_X5 (wX5_coinOf D m9).1 q1906 qs86 q1904 (av := [vI v8, vI l2]) (rest := [vI l3]) rfl dX5_dropped_200 (Nat.le_of_ble_eq_true rfl) (Nat.le_of_ble_eq_true rfl) rfl (Nat.le_of_ble_eq_true rfl) ?_
      refine xr_isub A dX5_dropped_203 ?_
      refine xr_istore_n A dX5_dropped_204 rfl (Nat.le_of_ble_eq_true rfl) (L' := [(3, vI (l3 - v11)), (4, vI (l4 ||| ((1 : Int32) <<< (l5 &&& 31)))), (0, vR (some x)), (1, vI l1), (2, vI l2), (5, vI l5), (6, vI l6)]) rfl ?_
      refine xr_goto A (tgt := 106) dX5_dropped_205 (by decide) ?_
      refine X.sub [2, 3, 4, 0, 1] rfl ?_
      exact hK106 hf
    · replace hf := ab_in c126 hf
      refine xr_iload A dX5_dropped_129 4 rfl ?_
      refine xr_iload A dX5_dropped_131 6 rfl ?_
      revert hf; refine ab_b2I (fun v14 h13 m12 hf => ?_)
      refine xr_S A bX5_has (wX5_has D m12) q1804 q1803 (av := [vI l4, vI l6]) (rest := []) rfl dX5_dropped_133 (Nat.le_of_ble_eq_true rfl) (Nat.le_of_ble_eq_true rfl) rfl (Nat.le_of_ble_eq_true rfl) ?_
      refine xr_if_ne A (tgt := 172) dX5_dropped_136 (by decide) (fun c136 => ?_) (fun c136 => ?_)
      · replace hf := ab_in c136 hf
        refine xr_iinc A dX5_dropped_172 6 rfl (v := (l6 + (1 : Int32))) rfl (Nat.le_of_ble_eq_true rfl) (L' := [(6, vI (l6 + (1 : Int32))), (0, vR (some x)), (1, vI l1), (2, vI l2), (3, vI l3), (4, vI l4), (5, vI l5)]) rfl ?_
        refine xr_goto A (tgt := 117) dX5_dropped_175 (by decide) ?_
        refine X.sub [1, 2, 3, 4, 5, 6, 0] rfl ?_
        exact ih hf
      · replace hf := ab_ip c136 hf
        refine xr_iload A dX5_dropped_139 5 rfl ?_
        refine xr_iconst A (v := (-1)) dX5_dropped_141 (by decide) ?_
        refine xr_icmp_eq A (tgt := 168) dX5_dropped_142 (by decide) (fun c142 => ?_) (fun c142 => ?_)
        · replace hf := ab_ip c142 hf
          refine xr_iload A dX5_dropped_168 6 rfl ?_
          refine xr_istore A dX5_dropped_170 (Nat.le_of_ble_eq_true rfl) (L' := [(5, vI l6), (0, vR (some x)), (1, vI l1), (2, vI l2), (3, vI l3), (4, vI l4), (6, vI l6)]) rfl ?_
          refine xr_iinc A dX5_dropped_172 6 rfl (v := (l6 + (1 : Int32))) rfl (Nat.le_of_ble_eq_true rfl) (L' := [(6, vI (l6 + (1 : Int32))), (5, vI l6), (0, vR (some x)), (1, vI l1), (2, vI l2), (3, vI l3), (4, vI l4)]) rfl ?_
          refine xr_goto A (tgt := 117) dX5_dropped_175 (by decide) ?_
          refine X.sub [2, 3, 4, 5, 6, 1, 0] rfl ?_
          exact ih hf
        · replace hf := ab_in c142 hf
          refine xr_aload_n A dX5_dropped_145 0 rfl rfl ?_
          revert hf; refine ab_bdI (fun v15 mv15 hf => ?_)
          refine xr_get A xc_X5 in_X5 3 (Nat.le_of_ble_eq_true rfl) q1301 rfl (ab_gRE mv15) dX5_dropped_146 ?_
          revert hf; refine ab_bdI (fun a16 e hf => ?_); subst e
          revert hf; refine ab_bdI (fun v17 mv17 hf => ?_)
          refine xr_getN A xc_X15 in_X15 23 (Nat.le_of_ble_eq_true rfl) n1498 rfl (ab_gRE mv17) dX5_dropped_149 ?_
          refine xr_iload A dX5_dropped_152 6 rfl ?_
          revert hf; refine ab_bdI (fun a18 e hf => ?_); subst e
          revert hf; refine ab_bdI (fun v19 mv19 hf => ?_)
          refine xr_iaload A mv19 dX5_dropped_154 ?_
          refine xr_aload_n A dX5_dropped_155 0 rfl rfl ?_
          revert hf; refine ab_bdI (fun v20 mv20 hf => ?_)
          refine xr_get A xc_X5 in_X5 3 (Nat.le_of_ble_eq_true rfl) q1301 rfl (ab_gRE mv20) dX5_dropped_156 ?_
          revert hf; refine ab_bdI (fun a21 e hf => ?_); subst e
          revert hf; refine ab_bdI (fun v22 mv22 hf => ?_)
          refine xr_getN A xc_X15 in_X15 23 (Nat.le_of_ble_eq_true rfl) n1498 rfl (ab_gRE mv22) dX5_dropped_159 ?_
          refine xr_iload A dX5_dropped_162 5 rfl ?_
          revert hf; refine ab_bdI (fun a23 e hf => ?_); subst e
          revert hf; refine ab_bdI (fun v24 mv24 hf => ?_)
          refine xr_iaload A mv24 dX5_dropped_164 ?_
          refine xr_icmp_gt A (tgt := 172) dX5_dropped_165 (by decide) (fun c165 => ?_) (fun c165 => ?_)
          · replace hf := ab_ip c165 hf
            refine xr_iinc A dX5_dropped_172 6 rfl (v := (l6 + (1 : Int32))) rfl (Nat.le_of_ble_eq_true rfl) (L' := [(6, vI (l6 + (1 : Int32))), (0, vR (some x)), (1, vI l1), (2, vI l2), (3, vI l3), (4, vI l4), (5, vI l5)]) rfl ?_
            refine xr_goto A (tgt := 117) dX5_dropped_175 (by decide) ?_
            refine X.sub [1, 2, 3, 4, 5, 6, 0] rfl ?_
            exact ih hf
          · replace hf := ab_in c165 hf
            refine xr_iload A dX5_dropped_168 6 rfl ?_
            refine xr_istore A dX5_dropped_170 (Nat.le_of_ble_eq_true rfl) (L' := [(5, vI l6), (0, vR (some x)), (1, vI l1), (2, vI l2), (3, vI l3), (4, vI l4), (6, vI l6)]) rfl ?_
            refine xr_iinc A dX5_dropped_172 6 rfl (v := (l6 + (1 : Int32))) rfl (Nat.le_of_ble_eq_true rfl) (L' := [(6, vI (l6 + (1 : Int32))), (5, vI l6), (0, vR (some x)), (1, vI l1), (2, vI l2), (3, vI l3), (4, vI l4)]) rfl ?_
            refine xr_goto A (tgt := 117) dX5_dropped_175 (by decide) ?_
            refine X.sub [2, 3, 4, 5, 6, 1, 0] rfl ?_
            exact ih hf
noncomputable def fX5_dropped_l106 (x : Nat) : Nat → Int32 → Int32 → Int32 → Int32 → Hp → Option (Int32 × Hp)
  | 0, _, _, _, _, _ => none
  | n + 1, l1, l2, l3, l4, h =>
  if l3 ≤ l1 then (
    ab_b2 (fX5_done x l4 h) fun v3 h2 =>
    some (v3, h2))
  else (
    fX5_dropped_l117 x (fX5_dropped_l106 x n) (hfu h) l1 l2 l3 l4 (-1 : Int32) (0 : Int32) h)
theorem wX5_dropped_l106 {D : Dd} {C : Cx} {h0 h' : Hp} {r : Int32} (A : Act C D (h0, (.inl (some (vI r))), h') yX5_dropped cX5_dropped 7 (some FieldType.int) 3 70 []) {x : Nat} : ∀ (n : Nat) {l1 : Int32} {l2 : Int32} {l3 : Int32} {l4 : Int32} {h : Hp}, fX5_dropped_l106 x n l1 l2 l3 l4 h = some (r, h') → X C D (h0, (.inl (some (vI r))), h') 7 106 [(0, vR (some x)), (1, vI l1), (2, vI l2), (3, vI l3), (4, vI l4)] [] h := by
  intro n
  induction n with
  | zero => intro l1 l2 l3 l4 h hf; exact ab_no hf
  | succ n ih =>
    intro l1 l2 l3 l4 h hf
    unfold fX5_dropped_l106 at hf
    refine xr_iload_n A dX5_dropped_106 3 rfl rfl ?_
    refine xr_iload_n A dX5_dropped_107 1 rfl rfl ?_
    refine xr_icmp_le A (tgt := 208) dX5_dropped_108 (by decide) (fun c108 => ?_) (fun c108 => ?_)
    · replace hf := ab_ip c108 hf
      refine xr_aload_n A dX5_dropped_208 0 rfl rfl ?_
      refine xr_iload A dX5_dropped_209 4 rfl ?_
      revert hf; refine ab_b2I (fun v3 h2 m1 hf => ?_)
      refine xr_V A bX5_done (wX5_done D m1).2 xc_X5 (wX5_done D m1).1 q1749 qs69 q1747 (av := [vI l4]) (rest := []) rfl dX5_dropped_211 (Nat.le_of_ble_eq_true rfl) (Nat.le_of_ble_eq_true rfl) rfl (Nat.le_of_ble_eq_true rfl) ?_
      exact xr_ireturn A rfl hf dX5_dropped_214
    · replace hf := ab_in c108 hf
      refine xr_iconst A (v := (-1)) dX5_dropped_111 (by decide) ?_
      refine xr_istore A dX5_dropped_112 (Nat.le_of_ble_eq_true rfl) (L' := [(5, vI (-1 : Int32)), (0, vR (some x)), (1, vI l1), (2, vI l2), (3, vI l3), (4, vI l4)]) rfl ?_
      refine xr_iconst A (v := 0) dX5_dropped_114 (by decide) ?_
      refine xr_istore A dX5_dropped_115 (Nat.le_of_ble_eq_true rfl) (L' := [(6, vI (0 : Int32)), (5, vI (-1 : Int32)), (0, vR (some x)), (1, vI l1), (2, vI l2), (3, vI l3), (4, vI l4)]) rfl ?_
      refine X.sub [2, 3, 4, 5, 6, 1, 0] rfl ?_
      exact wX5_dropped_l117 A (fun hf => ih hf) _ hf
noncomputable def fX5_dropped_l50 (x : Nat) : Nat → Int32 → Int32 → Int32 → Int32 → Hp → Option (Int32 × Hp)
  | 0, _, _, _, _, _ => none
  | n + 1, l1, l2, l3, l4, h =>
  ab_bd (ab_gR h x 4 3) fun v1 =>
  ab_bd v1 fun a2 =>
  ab_bd (ab_gI h a2 13 5) fun v3 =>
  if v3 ≤ l4 then (
    fX5_dropped_l106 x (hfu h) l1 l2 l3 (0 : Int32) h)
  else (
    ab_bd (ab_gR h x 4 3) fun v4 =>
    ab_bd v4 fun a5 =>
    ab_bd (ab_gR h a5 13 19) fun v6 =>
    ab_bd v6 fun a7 =>
    ab_bd (ab_aI h a7 0 l4) fun v8 =>
    ab_b2 (fX5_coinOf x v8 l2 h) fun v11 h10 =>
    if v11 = (-1 : Int32) then (
      ab_b2 (fX5_refused x (6 : Int32) h10) fun v14 h13 =>
      some (v14, h13))
    else (
      fX5_dropped_l50 x n l1 l2 (l3 + v11) (l4 + (1 : Int32)) h10))
theorem wX5_dropped_l50 {D : Dd} {C : Cx} {h0 h' : Hp} {r : Int32} (A : Act C D (h0, (.inl (some (vI r))), h') yX5_dropped cX5_dropped 7 (some FieldType.int) 3 70 []) {x : Nat} : ∀ (n : Nat) {l1 : Int32} {l2 : Int32} {l3 : Int32} {l4 : Int32} {h : Hp}, fX5_dropped_l50 x n l1 l2 l3 l4 h = some (r, h') → X C D (h0, (.inl (some (vI r))), h') 7 50 [(0, vR (some x)), (1, vI l1), (2, vI l2), (3, vI l3), (4, vI l4)] [] h := by
  intro n
  induction n with
  | zero => intro l1 l2 l3 l4 h hf; exact ab_no hf
  | succ n ih =>
    intro l1 l2 l3 l4 h hf
    unfold fX5_dropped_l50 at hf
    refine xr_iload A dX5_dropped_50 4 rfl ?_
    refine xr_aload_n A dX5_dropped_52 0 rfl rfl ?_
    revert hf; refine ab_bdI (fun v1 mv1 hf => ?_)
    refine xr_get A xc_X5 in_X5 3 (Nat.le_of_ble_eq_true rfl) q1301 rfl (ab_gRE mv1) dX5_dropped_53 ?_
    revert hf; refine ab_bdI (fun a2 e hf => ?_); subst e
    revert hf; refine ab_bdI (fun v3 mv3 hf => ?_)
    refine xr_getN A xc_X15 in_X15 5 (Nat.le_of_ble_eq_true rfl) n1465 rfl (ab_gIE mv3) dX5_dropped_56 ?_
    refine xr_icmp_ge A (tgt := 103) dX5_dropped_59 (by decide) (fun c59 => ?_) (fun c59 => ?_)
    · replace hf := ab_ip c59 hf
      refine xr_iconst A (v := 0) dX5_dropped_103 (by decide) ?_
      refine xr_istore A dX5_dropped_104 (Nat.le_of_ble_eq_true rfl) (L' := [(4, vI (0 : Int32)), (0, vR (some x)), (1, vI l1), (2, vI l2), (3, vI l3)]) rfl ?_
      refine X.sub [1, 2, 3, 4, 0] rfl ?_
      exact wX5_dropped_l106 A _ hf
    · replace hf := ab_in c59 hf
      refine xr_aload_n A dX5_dropped_62 0 rfl rfl ?_
      refine xr_aload_n A dX5_dropped_63 0 rfl rfl ?_
      revert hf; refine ab_bdI (fun v4 mv4 hf => ?_)
      refine xr_get A xc_X5 in_X5 3 (Nat.le_of_ble_eq_true rfl) q1301 rfl (ab_gRE mv4) dX5_dropped_64 ?_
      revert hf; refine ab_bdI (fun a5 e hf => ?_); subst e
      revert hf; refine ab_bdI (fun v6 mv6 hf => ?_)
      refine xr_getN A xc_X15 in_X15 19 (Nat.le_of_ble_eq_true rfl) n1490 rfl (ab_gRE mv6) dX5_dropped_67 ?_
      refine xr_iload A dX5_dropped_70 4 rfl ?_
      revert hf; refine ab_bdI (fun a7 e hf => ?_); subst e
      revert hf; refine ab_bdI (fun v8 mv8 hf => ?_)
      refine xr_iaload A mv8 dX5_dropped_72 ?_
      refine xr_iload_n A dX5_dropped_73 2 rfl rfl ?_
      revert hf; refine ab_b2I (fun v11 h10 m9 hf => ?_)
      refine xr_V A bX5_coinOf (wX5_coinOf D m9).2 xc_X5 (wX5_coinOf D m9).1 q1906 qs86 q1904 (av := [vI v8, vI l2]) (rest := []) rfl dX5_dropped_74 (Nat.le_of_ble_eq_true rfl) (Nat.le_of_ble_eq_true rfl) rfl (Nat.le_of_ble_eq_true rfl) ?_
      refine xr_istore A dX5_dropped_77 (Nat.le_of_ble_eq_true rfl) (L' := [(5, vI v11), (0, vR (some x)), (1, vI l1), (2, vI l2), (3, vI l3), (4, vI l4)]) rfl ?_
      refine xr_iload A dX5_dropped_79 0 rfl ?_
      refine xr_iconst A (v := (-1)) dX5_dropped_81 (by decide) ?_
      refine xr_icmp_ne A (tgt := 92) dX5_dropped_82 (by decide) (fun c82 => ?_) (fun c82 => ?_)
      · replace hf := ab_in c82 hf
        refine xr_iload_n A dX5_dropped_92 4 rfl rfl ?_
        refine xr_iload A dX5_dropped_93 0 rfl ?_
        refine xr_iadd A dX5_dropped_95 ?_
        refine xr_istore_n A dX5_dropped_96 rfl (Nat.le_of_ble_eq_true rfl) (L' := [(3, vI (l3 + v11)), (5, vI v11), (0, vR (some x)), (1, vI l1), (2, vI l2), (4, vI l4)]) rfl ?_
        refine xr_iinc A dX5_dropped_97 5 rfl (v := (l4 + (1 : Int32))) rfl (Nat.le_of_ble_eq_true rfl) (L' := [(4, vI (l4 + (1 : Int32))), (3, vI (l3 + v11)), (5, vI v11), (0, vR (some x)), (1, vI l1), (2, vI l2)]) rfl ?_
        refine xr_goto A (tgt := 50) dX5_dropped_100 (by decide) ?_
        refine X.sub [3, 4, 5, 1, 0] rfl ?_
        exact ih hf
      · replace hf := ab_ip c82 hf
        refine xr_aload_n A dX5_dropped_85 1 rfl rfl ?_
        refine xr_bipush A (v := 6) dX5_dropped_86 (by decide) ?_
        revert hf; refine ab_b2I (fun v14 h13 m12 hf => ?_)
        refine xr_V A bX5_refused (wX5_refused D m12).2 xc_X5 (wX5_refused D m12).1 q1451 qs44 q1449 (av := [vI (6 : Int32)]) (rest := []) rfl dX5_dropped_88 (Nat.le_of_ble_eq_true rfl) (Nat.le_of_ble_eq_true rfl) rfl (Nat.le_of_ble_eq_true rfl) ?_
        exact xr_ireturn A rfl hf dX5_dropped_91
noncomputable def fX5_dropped (x : Nat) (p1 : Int32) (p2 : Int32) (h : Hp) : Option (Int32 × Hp) :=
  ab_ck h x 4 <|
  ab_bd (ab_pI h x 4 0 (0 : Int32)) fun h1 =>
  ab_bd (ab_gR h1 x 4 3) fun v2 =>
  ab_on v2 (
    ab_b2 (fX5_refused x (1 : Int32) h1) fun v6 h5 =>
    some (v6, h5)) fun a3 => (
    ab_b2 (fX5_in p2 (1 : Int32) (14 : Int32) h1) fun v9 h8 =>
    if v9 = 0 then (
      ab_b2 (fX5_refused x (2 : Int32) h8) fun v12 h11 =>
      some (v12, h11))
    else (
      ab_b2 (fX5_in p1 (0 : Int32) (99999 : Int32) h8) fun v15 h14 =>
      if v15 = 0 then (
        ab_b2 (fX5_refused x (2 : Int32) h14) fun v18 h17 =>
        some (v18, h17))
      else (
        fX5_dropped_l50 x (hfu h14) p1 p2 (0 : Int32) (0 : Int32) h14)))
theorem wX5_dropped (D : Dd) {x : Nat} {p1 : Int32} {p2 : Int32} {h : Hp} {r : Int32} {h' : Hp} (hf : fX5_dropped x p1 p2 h = some (r, h')) : ab_is h x 4 ∧ Ct D 3 70 yX5_dropped cX5_dropped 7 (some FieldType.int) [vR (some x), vI p1, vI p2] h (.inl (some (vI r))) h' := by
    unfold fX5_dropped at hf
    replace hf := ab_ckE hf; obtain ⟨i0, hf⟩ := hf
    refine ⟨i0, ?_⟩
    refine Ct.of (by decide) (L := [(0, vR (some x)), (1, vI p1), (2, vI p2)]) rfl (Nat.le_of_ble_eq_true rfl) (fun C A => ?_)
    refine xr_aload_n A dX5_dropped_0 0 rfl rfl ?_
    refine xr_iconst A (v := 0) dX5_dropped_1 (by decide) ?_
    revert hf; refine ab_bdI (fun h1 mh1 hf => ?_)
    refine xr_put A xc_X5 in_X5 tyX5_ok nmX5 0 (Nat.le_of_ble_eq_true rfl) q1298 rfl rfl (v := vI (0 : Int32)) rfl rfl mh1 dX5_dropped_2 ?_
    refine xr_aload_n A dX5_dropped_5 0 rfl rfl ?_
    revert hf; refine ab_bdI (fun v2 mv2 hf => ?_)
    refine xr_get A xc_X5 in_X5 3 (Nat.le_of_ble_eq_true rfl) q1301 rfl (ab_gRE mv2) dX5_dropped_6 ?_
    revert hf; refine ab_onI (fun e hf => ?_) (fun a3 e hf => ?_) <;> subst e
    · refine xr_ifnonnull A (tgt := 18) dX5_dropped_9 (by decide) (fun _ e => by cases e) (fun _ => ?_)
      refine xr_aload_n A dX5_dropped_12 0 rfl rfl ?_
      refine xr_iconst A (v := 1) dX5_dropped_13 (by decide) ?_
      revert hf; refine ab_b2I (fun v6 h5 m4 hf => ?_)
      refine xr_V A bX5_refused (wX5_refused D m4).2 xc_X5 (wX5_refused D m4).1 q1451 qs44 q1449 (av := [vI (1 : Int32)]) (rest := []) rfl dX5_dropped_14 (Nat.le_of_ble_eq_true rfl) (Nat.le_of_ble_eq_true rfl) rfl (Nat.le_of_ble_eq_true rfl) ?_
      exact xr_ireturn A rfl hf dX5_dropped_17
    · refine xr_ifnonnull A (tgt := 18) dX5_dropped_9 (by decide) (fun _ _ => ?_) (fun e => by cases e)
      refine xr_iload_n A dX5_dropped_18 2 rfl rfl ?_
      refine xr_iconst A (v := 1) dX5_dropped_19 (by decide) ?_
      refine xr_bipush A (v := 14) dX5_dropped_20 (by decide) ?_
      revert hf; refine ab_b2I (fun v9 h8 m7 hf => ?_)
      refine xr_S A bX5_in (wX5_in D m7) q1657 q1656 (av := [vI p2, vI (1 : Int32), vI (14 : Int32)]) (rest := []) rfl dX5_dropped_22 (Nat.le_of_ble_eq_true rfl) (Nat.le_of_ble_eq_true rfl) rfl (Nat.le_of_ble_eq_true rfl) ?_
      refine xr_if_eq A (tgt := 39) dX5_dropped_25 (by decide) (fun c25 => ?_) (fun c25 => ?_)
      · replace hf := ab_ip c25 hf
        refine xr_aload_n A dX5_dropped_39 0 rfl rfl ?_
        refine xr_iconst A (v := 2) dX5_dropped_40 (by decide) ?_
        revert hf; refine ab_b2I (fun v12 h11 m10 hf => ?_)
        refine xr_V A bX5_refused (wX5_refused D m10).2 xc_X5 (wX5_refused D m10).1 q1451 qs44 q1449 (av := [vI (2 : Int32)]) (rest := []) rfl dX5_dropped_41 (Nat.le_of_ble_eq_true rfl) (Nat.le_of_ble_eq_true rfl) rfl (Nat.le_of_ble_eq_true rfl) ?_
        exact xr_ireturn A rfl hf dX5_dropped_44
      · replace hf := ab_in c25 hf
        refine xr_iload_n A dX5_dropped_28 1 rfl rfl ?_
        refine xr_iconst A (v := 0) dX5_dropped_29 (by decide) ?_
        refine xr_ldcw A q1920 dX5_dropped_30 ?_
        revert hf; refine ab_b2I (fun v15 h14 m13 hf => ?_)
        refine xr_S A bX5_in (wX5_in D m13) q1657 q1656 (av := [vI p1, vI (0 : Int32), vI (99999 : Int32)]) (rest := []) rfl dX5_dropped_33 (Nat.le_of_ble_eq_true rfl) (Nat.le_of_ble_eq_true rfl) rfl (Nat.le_of_ble_eq_true rfl) ?_
        refine xr_if_ne A (tgt := 45) dX5_dropped_36 (by decide) (fun c36 => ?_) (fun c36 => ?_)
        · replace hf := ab_in c36 hf
          refine xr_iconst A (v := 0) dX5_dropped_45 (by decide) ?_
          refine xr_istore_n A dX5_dropped_46 rfl (Nat.le_of_ble_eq_true rfl) (L' := [(3, vI (0 : Int32)), (0, vR (some x)), (1, vI p1), (2, vI p2)]) rfl ?_
          refine xr_iconst A (v := 0) dX5_dropped_47 (by decide) ?_
          refine xr_istore A dX5_dropped_48 (Nat.le_of_ble_eq_true rfl) (L' := [(4, vI (0 : Int32)), (3, vI (0 : Int32)), (0, vR (some x)), (1, vI p1), (2, vI p2)]) rfl ?_
          refine X.sub [2, 3, 4, 1, 0] rfl ?_
          exact wX5_dropped_l50 A _ hf
        · replace hf := ab_ip c36 hf
          refine xr_aload_n A dX5_dropped_39 0 rfl rfl ?_
          refine xr_iconst A (v := 2) dX5_dropped_40 (by decide) ?_
          revert hf; refine ab_b2I (fun v18 h17 m16 hf => ?_)
          refine xr_V A bX5_refused (wX5_refused D m16).2 xc_X5 (wX5_refused D m16).1 q1451 qs44 q1449 (av := [vI (2 : Int32)]) (rest := []) rfl dX5_dropped_41 (Nat.le_of_ble_eq_true rfl) (Nat.le_of_ble_eq_true rfl) rfl (Nat.le_of_ble_eq_true rfl) ?_
          exact xr_ireturn A rfl hf dX5_dropped_44
/-! X5_expected -/
theorem bX5_expected : MB yX5_expected cX5_expected 8 (some FieldType.long) 1 := ⟨q1929, q99, by decide, by decide +kernel⟩
noncomputable def fX5_expected_l35 (x : Nat) (K5 : Option Nat → Int64 → Int32 → Hp → Option (Int64 × Hp)) : Nat → Nat → Int64 → Int32 → Int64 → Int32 → Hp → Option (Int64 × Hp)
  | 0, _, _, _, _, _, _ => none
  | n + 1, l1, l2, l4, l5, l7, h =>
  ab_bd (ab_gR h x 4 3) fun v1 =>
  ab_bd v1 fun a2 =>
  ab_bd (ab_gI h a2 13 8) fun v3 =>
  if v3 ≤ l7 then (
    K5 (some l1) (l2 + l5) (l4 + (1 : Int32)) h)
  else (
    if l4 ≤ l7 then (
      fX5_expected_l35 x K5 n l1 l2 l4 (l5 * (100 : Int64)) (l7 + (1 : Int32)) h)
    else (
      ab_bd (ab_gR h x 4 3) fun v4 =>
      ab_bd v4 fun a5 =>
      ab_bd (ab_gR h a5 13 31) fun v6 =>
      ab_bd (ab_aI h l1 0 l7) fun v7 =>
      ab_bd v6 fun a8 =>
      ab_bd (ab_aI h a8 0 v7) fun v9 =>
      fX5_expected_l35 x K5 n l1 l2 l4 (l5 * ((100 : Int32) - v9).toInt64) (l7 + (1 : Int32)) h))
theorem wX5_expected_l35 {D : Dd} {C : Cx} {h0 h' : Hp} {r : Int64} (A : Act C D (h0, (.inl (some (vL r))), h') yX5_expected cX5_expected 8 (some FieldType.long) 1 20 []) {x : Nat} {K5 : Option Nat → Int64 → Int32 → Hp → Option (Int64 × Hp)} (hK5 : ∀ {l1 : Option Nat} {l2 : Int64} {l4 : Int32} {h : Hp}, K5 l1 l2 l4 h = some (r, h') → X C D (h0, (.inl (some (vL r))), h') 8 5 [(0, vR (some x)), (1, vR l1), (2, vL l2), (4, vI l4)] [] h) : ∀ (n : Nat) {l1 : Nat} {l2 : Int64} {l4 : Int32} {l5 : Int64} {l7 : Int32} {h : Hp}, fX5_expected_l35 x K5 n l1 l2 l4 l5 l7 h = some (r, h') → X C D (h0, (.inl (some (vL r))), h') 8 35 [(0, vR (some x)), (1, vR (some l1)), (2, vL l2), (4, vI l4), (5, vL l5), (7, vI l7)] [] h := by
  intro n
  induction n with
  | zero => intro l1 l2 l4 l5 l7 h hf; exact ab_no hf
  | succ n ih =>
    intro l1 l2 l4 l5 l7 h hf
    unfold fX5_expected_l35 at hf
    refine xr_iload A dX5_expected_35 5 rfl ?_
    refine xr_aload_n A dX5_expected_37 0 rfl rfl ?_
    revert hf; refine ab_bdI (fun v1 mv1 hf => ?_)
    refine xr_get A xc_X5 in_X5 3 (Nat.le_of_ble_eq_true rfl) q1301 rfl (ab_gRE mv1) dX5_expected_38 ?_
    revert hf; refine ab_bdI (fun a2 e hf => ?_); subst e
    revert hf; refine ab_bdI (fun v3 mv3 hf => ?_)
    refine xr_getN A xc_X15 in_X15 8 (Nat.le_of_ble_eq_true rfl) n1469 rfl (ab_gIE mv3) dX5_expected_41 ?_
    refine xr_icmp_ge A (tgt := 87) dX5_expected_44 (by decide) (fun c44 => ?_) (fun c44 => ?_)
    · replace hf := ab_ip c44 hf
      refine xr_lload_n A dX5_expected_87 2 rfl rfl ?_
      refine xr_lload A dX5_expected_88 4 rfl ?_
      refine xr_ladd A dX5_expected_90 ?_
      refine xr_lstore_n A dX5_expected_91 rfl (Nat.le_of_ble_eq_true rfl) (L' := [(2, vL (l2 + l5)), (0, vR (some x)), (1, vR (some l1)), (4, vI l4), (5, vL l5), (7, vI l7)]) rfl ?_
      refine xr_iinc A dX5_expected_92 3 rfl (v := (l4 + (1 : Int32))) rfl (Nat.le_of_ble_eq_true rfl) (L' := [(4, vI (l4 + (1 : Int32))), (2, vL (l2 + l5)), (0, vR (some x)), (1, vR (some l1)), (5, vL l5), (7, vI l7)]) rfl ?_
      refine xr_goto A (tgt := 5) dX5_expected_95 (by decide) ?_
      refine X.sub [2, 3, 1, 0] rfl ?_
      exact hK5 hf
    · replace hf := ab_in c44 hf
      refine xr_lload A dX5_expected_47 4 rfl ?_
      refine xr_iload A dX5_expected_49 5 rfl ?_
      refine xr_iload A dX5_expected_51 3 rfl ?_
      refine xr_icmp_ge A (tgt := 75) dX5_expected_53 (by decide) (fun c53 => ?_) (fun c53 => ?_)
      · replace hf := ab_ip c53 hf
        refine xr_ldc2 A q1930 dX5_expected_75 ?_
        refine xr_lmul A dX5_expected_78 ?_
        refine xr_lstore A dX5_expected_79 (Nat.le_of_ble_eq_true rfl) (L' := [(5, vL (l5 * (100 : Int64))), (0, vR (some x)), (1, vR (some l1)), (2, vL l2), (4, vI l4), (7, vI l7)]) rfl ?_
        refine xr_iinc A dX5_expected_81 5 rfl (v := (l7 + (1 : Int32))) rfl (Nat.le_of_ble_eq_true rfl) (L' := [(7, vI (l7 + (1 : Int32))), (5, vL (l5 * (100 : Int64))), (0, vR (some x)), (1, vR (some l1)), (2, vL l2), (4, vI l4)]) rfl ?_
        refine xr_goto A (tgt := 35) dX5_expected_84 (by decide) ?_
        refine X.sub [2, 3, 4, 5, 1, 0] rfl ?_
        exact ih hf
      · replace hf := ab_in c53 hf
        refine xr_bipush A (v := 100) dX5_expected_56 (by decide) ?_
        refine xr_aload_n A dX5_expected_58 0 rfl rfl ?_
        revert hf; refine ab_bdI (fun v4 mv4 hf => ?_)
        refine xr_get A xc_X5 in_X5 3 (Nat.le_of_ble_eq_true rfl) q1301 rfl (ab_gRE mv4) dX5_expected_59 ?_
        revert hf; refine ab_bdI (fun a5 e hf => ?_); subst e
        revert hf; refine ab_bdI (fun v6 mv6 hf => ?_)
        refine xr_getN A xc_X15 in_X15 31 (Nat.le_of_ble_eq_true rfl) n1514 rfl (ab_gRE mv6) dX5_expected_62 ?_
        refine xr_aload_n A dX5_expected_65 1 rfl rfl ?_
        refine xr_iload A dX5_expected_66 5 rfl ?_
        revert hf; refine ab_bdI (fun v7 mv7 hf => ?_)
        refine xr_iaload A mv7 dX5_expected_68 ?_
        revert hf; refine ab_bdI (fun a8 e hf => ?_); subst e
        revert hf; refine ab_bdI (fun v9 mv9 hf => ?_)
        refine xr_iaload A mv9 dX5_expected_69 ?_
        refine xr_isub A dX5_expected_70 ?_
        refine xr_i2l A dX5_expected_71 ?_
        refine xr_goto A (tgt := 78) dX5_expected_72 (by decide) ?_
        refine xr_lmul A dX5_expected_78 ?_
        refine xr_lstore A dX5_expected_79 (Nat.le_of_ble_eq_true rfl) (L' := [(5, vL (l5 * ((100 : Int32) - v9).toInt64)), (0, vR (some x)), (1, vR (some l1)), (2, vL l2), (4, vI l4), (7, vI l7)]) rfl ?_
        refine xr_iinc A dX5_expected_81 5 rfl (v := (l7 + (1 : Int32))) rfl (Nat.le_of_ble_eq_true rfl) (L' := [(7, vI (l7 + (1 : Int32))), (5, vL (l5 * ((100 : Int32) - v9).toInt64)), (0, vR (some x)), (1, vR (some l1)), (2, vL l2), (4, vI l4)]) rfl ?_
        refine xr_goto A (tgt := 35) dX5_expected_84 (by decide) ?_
        refine X.sub [2, 3, 4, 5, 1, 0] rfl ?_
        exact ih hf
noncomputable def fX5_expected_l5 (x : Nat) : Nat → Option Nat → Int64 → Int32 → Hp → Option (Int64 × Hp)
  | 0, _, _, _, _ => none
  | n + 1, l1, l2, l4, h =>
  ab_bd (ab_gR h x 4 3) fun v1 =>
  ab_bd v1 fun a2 =>
  ab_bd (ab_gI h a2 13 8) fun v3 =>
  if v3 ≤ l4 then (
    some (l2, h))
  else (
    ab_bd (ab_gR h x 4 3) fun v4 =>
    ab_bd v4 fun a5 =>
    ab_bd (ab_gR h a5 13 30) fun v6 =>
    ab_bd l1 fun a7 =>
    ab_bd (ab_aI h a7 0 l4) fun v8 =>
    ab_bd v6 fun a9 =>
    ab_bd (ab_aI h a9 0 v8) fun v10 =>
    fX5_expected_l35 x (fX5_expected_l5 x n) (hfu h) a7 l2 l4 v10.toInt64 (0 : Int32) h)
theorem wX5_expected_l5 {D : Dd} {C : Cx} {h0 h' : Hp} {r : Int64} (A : Act C D (h0, (.inl (some (vL r))), h') yX5_expected cX5_expected 8 (some FieldType.long) 1 20 []) {x : Nat} : ∀ (n : Nat) {l1 : Option Nat} {l2 : Int64} {l4 : Int32} {h : Hp}, fX5_expected_l5 x n l1 l2 l4 h = some (r, h') → X C D (h0, (.inl (some (vL r))), h') 8 5 [(0, vR (some x)), (1, vR l1), (2, vL l2), (4, vI l4)] [] h := by
  intro n
  induction n with
  | zero => intro l1 l2 l4 h hf; exact ab_no hf
  | succ n ih =>
    intro l1 l2 l4 h hf
    unfold fX5_expected_l5 at hf
    refine xr_iload A dX5_expected_5 3 rfl ?_
    refine xr_aload_n A dX5_expected_7 0 rfl rfl ?_
    revert hf; refine ab_bdI (fun v1 mv1 hf => ?_)
    refine xr_get A xc_X5 in_X5 3 (Nat.le_of_ble_eq_true rfl) q1301 rfl (ab_gRE mv1) dX5_expected_8 ?_
    revert hf; refine ab_bdI (fun a2 e hf => ?_); subst e
    revert hf; refine ab_bdI (fun v3 mv3 hf => ?_)
    refine xr_getN A xc_X15 in_X15 8 (Nat.le_of_ble_eq_true rfl) n1469 rfl (ab_gIE mv3) dX5_expected_11 ?_
    refine xr_icmp_ge A (tgt := 98) dX5_expected_14 (by decide) (fun c14 => ?_) (fun c14 => ?_)
    · replace hf := ab_ip c14 hf
      refine xr_lload_n A dX5_expected_98 2 rfl rfl ?_
      exact xr_lreturn A hf dX5_expected_99
    · replace hf := ab_in c14 hf
      refine xr_aload_n A dX5_expected_17 0 rfl rfl ?_
      revert hf; refine ab_bdI (fun v4 mv4 hf => ?_)
      refine xr_get A xc_X5 in_X5 3 (Nat.le_of_ble_eq_true rfl) q1301 rfl (ab_gRE mv4) dX5_expected_18 ?_
      revert hf; refine ab_bdI (fun a5 e hf => ?_); subst e
      revert hf; refine ab_bdI (fun v6 mv6 hf => ?_)
      refine xr_getN A xc_X15 in_X15 30 (Nat.le_of_ble_eq_true rfl) n1512 rfl (ab_gRE mv6) dX5_expected_21 ?_
      refine xr_aload_n A dX5_expected_24 1 rfl rfl ?_
      refine xr_iload A dX5_expected_25 3 rfl ?_
      revert hf; refine ab_bdI (fun a7 e hf => ?_); subst e
      revert hf; refine ab_bdI (fun v8 mv8 hf => ?_)
      refine xr_iaload A mv8 dX5_expected_27 ?_
      revert hf; refine ab_bdI (fun a9 e hf => ?_); subst e
      revert hf; refine ab_bdI (fun v10 mv10 hf => ?_)
      refine xr_iaload A mv10 dX5_expected_28 ?_
      refine xr_i2l A dX5_expected_29 ?_
      refine xr_lstore A dX5_expected_30 (Nat.le_of_ble_eq_true rfl) (L' := [(5, vL v10.toInt64), (0, vR (some x)), (1, vR (some a7)), (2, vL l2), (4, vI l4)]) rfl ?_
      refine xr_iconst A (v := 0) dX5_expected_32 (by decide) ?_
      refine xr_istore A dX5_expected_33 (Nat.le_of_ble_eq_true rfl) (L' := [(7, vI (0 : Int32)), (5, vL v10.toInt64), (0, vR (some x)), (1, vR (some a7)), (2, vL l2), (4, vI l4)]) rfl ?_
      refine X.sub [2, 3, 4, 5, 1, 0] rfl ?_
      exact wX5_expected_l35 A (fun hf => ih hf) _ hf
noncomputable def fX5_expected (x : Nat) (p1 : Option Nat) (h : Hp) : Option (Int64 × Hp) :=
  ab_ck h x 4 <|
  fX5_expected_l5 x (hfu h) p1 (0 : Int64) (0 : Int32) h
theorem wX5_expected (D : Dd) {x : Nat} {p1 : Option Nat} {h : Hp} {r : Int64} {h' : Hp} (hf : fX5_expected x p1 h = some (r, h')) : ab_is h x 4 ∧ Ct D 1 20 yX5_expected cX5_expected 8 (some FieldType.long) [vR (some x), vR p1] h (.inl (some (vL r))) h' := by
    unfold fX5_expected at hf
    replace hf := ab_ckE hf; obtain ⟨i0, hf⟩ := hf
    refine ⟨i0, ?_⟩
    refine Ct.of (by decide) (L := [(0, vR (some x)), (1, vR p1)]) rfl (Nat.le_of_ble_eq_true rfl) (fun C A => ?_)
    refine xr_lconst A (v := 0) dX5_expected_0 (by decide) ?_
    refine xr_lstore_n A dX5_expected_1 rfl (Nat.le_of_ble_eq_true rfl) (L' := [(2, vL (0 : Int64)), (0, vR (some x)), (1, vR p1)]) rfl ?_
    refine xr_iconst A (v := 0) dX5_expected_2 (by decide) ?_
    refine xr_istore A dX5_expected_3 (Nat.le_of_ble_eq_true rfl) (L' := [(4, vI (0 : Int32)), (2, vL (0 : Int64)), (0, vR (some x)), (1, vR p1)]) rfl ?_
    refine X.sub [2, 3, 1, 0] rfl ?_
    exact wX5_expected_l5 A _ hf
/-! X5_knock -/
theorem bX5_knock : MB yX5_knock cX5_knock 7 (some FieldType.long) 0 := ⟨q1924, q99, by decide, by decide +kernel⟩
noncomputable def fX5_knock_l140 (x : Nat) (K43 : Int64 → Int32 → Hp → Option (Int64 × Hp)) : Nat → Int64 → Int32 → Int32 → Hp → Option (Int64 × Hp)
  | 0, _, _, _, _ => none
  | n + 1, l1, l3, l6, h =>
  ab_bd (ab_gR h x 4 3) fun v1 =>
  ab_bd v1 fun a2 =>
  ab_bd (ab_gI h a2 13 8) fun v3 =>
  if v3 ≤ l6 then (
    K43 l1 (l3 + (1 : Int32)) h)
  else (
    ab_bd (ab_gR h x 4 36) fun v4 =>
    ab_bd (ab_gR h x 4 35) fun v5 =>
    ab_bd v5 fun a6 =>
    ab_bd (ab_aI h a6 0 l6) fun v7 =>
    ab_bd v4 fun a8 =>
    ab_bd (ab_sI h a8 l6 v7) fun h9 =>
    fX5_knock_l140 x K43 n l1 l3 (l6 + (1 : Int32)) h9)
theorem wX5_knock_l140 {D : Dd} {C : Cx} {h0 h' : Hp} {r : Int64} (A : Act C D (h0, (.inl (some (vL r))), h') yX5_knock cX5_knock 7 (some FieldType.long) 3 70 []) {x : Nat} {K43 : Int64 → Int32 → Hp → Option (Int64 × Hp)} (hK43 : ∀ {l1 : Int64} {l3 : Int32} {h : Hp}, K43 l1 l3 h = some (r, h') → X C D (h0, (.inl (some (vL r))), h') 7 43 [(0, vR (some x)), (1, vL l1), (3, vI l3)] [] h) : ∀ (n : Nat) {l1 : Int64} {l3 : Int32} {l6 : Int32} {h : Hp}, fX5_knock_l140 x K43 n l1 l3 l6 h = some (r, h') → X C D (h0, (.inl (some (vL r))), h') 7 140 [(0, vR (some x)), (1, vL l1), (3, vI l3), (6, vI l6)] [] h := by
  intro n
  induction n with
  | zero => intro l1 l3 l6 h hf; exact ab_no hf
  | succ n ih =>
    intro l1 l3 l6 h hf
    unfold fX5_knock_l140 at hf
    refine xr_iload A dX5_knock_140 3 rfl ?_
    refine xr_aload_n A dX5_knock_142 0 rfl rfl ?_
    revert hf; refine ab_bdI (fun v1 mv1 hf => ?_)
    refine xr_get A xc_X5 in_X5 3 (Nat.le_of_ble_eq_true rfl) q1301 rfl (ab_gRE mv1) dX5_knock_143 ?_
    revert hf; refine ab_bdI (fun a2 e hf => ?_); subst e
    revert hf; refine ab_bdI (fun v3 mv3 hf => ?_)
    refine xr_getN A xc_X15 in_X15 8 (Nat.le_of_ble_eq_true rfl) n1469 rfl (ab_gIE mv3) dX5_knock_146 ?_
    refine xr_icmp_ge A (tgt := 172) dX5_knock_149 (by decide) (fun c149 => ?_) (fun c149 => ?_)
    · replace hf := ab_ip c149 hf
      refine xr_iinc A dX5_knock_172 2 rfl (v := (l3 + (1 : Int32))) rfl (Nat.le_of_ble_eq_true rfl) (L' := [(3, vI (l3 + (1 : Int32))), (0, vR (some x)), (1, vL l1), (6, vI l6)]) rfl ?_
      refine xr_goto A (tgt := 43) dX5_knock_175 (by decide) ?_
      refine X.sub [1, 2, 0] rfl ?_
      exact hK43 hf
    · replace hf := ab_in c149 hf
      refine xr_aload_n A dX5_knock_152 0 rfl rfl ?_
      revert hf; refine ab_bdI (fun v4 mv4 hf => ?_)
      refine xr_get A xc_X5 in_X5 36 (Nat.le_of_ble_eq_true rfl) q1334 rfl (ab_gRE mv4) dX5_knock_153 ?_
      refine xr_iload A dX5_knock_156 3 rfl ?_
      refine xr_aload_n A dX5_knock_158 0 rfl rfl ?_
      revert hf; refine ab_bdI (fun v5 mv5 hf => ?_)
      refine xr_get A xc_X5 in_X5 35 (Nat.le_of_ble_eq_true rfl) q1333 rfl (ab_gRE mv5) dX5_knock_159 ?_
      refine xr_iload A dX5_knock_162 3 rfl ?_
      revert hf; refine ab_bdI (fun a6 e hf => ?_); subst e
      revert hf; refine ab_bdI (fun v7 mv7 hf => ?_)
      refine xr_iaload A mv7 dX5_knock_164 ?_
      revert hf; refine ab_bdI (fun a8 e hf => ?_); subst e
      revert hf; refine ab_bdI (fun h9 mh9 hf => ?_)
      refine xr_iastore A mh9 dX5_knock_165 ?_
      refine xr_iinc A dX5_knock_166 3 rfl (v := (l6 + (1 : Int32))) rfl (Nat.le_of_ble_eq_true rfl) (L' := [(6, vI (l6 + (1 : Int32))), (0, vR (some x)), (1, vL l1), (3, vI l3)]) rfl ?_
      refine xr_goto A (tgt := 140) dX5_knock_169 (by decide) ?_
      refine X.sub [1, 2, 3, 0] rfl ?_
      exact ih hf
noncomputable def fX5_knock_l76 (x : Nat) (K43 : Int64 → Int32 → Hp → Option (Int64 × Hp)) : Nat → Int64 → Int32 → Int32 → Hp → Option (Int64 × Hp)
  | 0, _, _, _, _ => none
  | n + 1, l1, l3, l4, h =>
  ab_bd (ab_gR h x 4 3) fun v1 =>
  ab_bd v1 fun a2 =>
  ab_bd (ab_gI h a2 13 8) fun v3 =>
  if v3 ≤ l4 then (
    ab_bd (ab_gR h x 4 35) fun v4 =>
    ab_b2 (fX5_expected x v4 h) fun v7 h6 =>
    if (lg_cmp l1 (0 : Int64)) < 0 then (
      fX5_knock_l140 x K43 (hfu h6) v7 l3 (0 : Int32) h6)
    else (
      if (lg_cmp v7 l1) < 0 then (
        fX5_knock_l140 x K43 (hfu h6) v7 l3 (0 : Int32) h6)
      else (
        K43 l1 (l3 + (1 : Int32)) h6)))
  else (
    ab_bd (ab_gR h x 4 35) fun v8 =>
    ab_bd (ab_gR h x 4 22) fun v9 =>
    ab_bd v9 fun a10 =>
    ab_bd (ab_aI h a10 0 l4) fun v11 =>
    ab_bd v8 fun a12 =>
    ab_bd (ab_sI h a12 l4 v11) fun h13 =>
    fX5_knock_l76 x K43 n l1 l3 (l4 + (1 : Int32)) h13)
theorem wX5_knock_l76 {D : Dd} {C : Cx} {h0 h' : Hp} {r : Int64} (A : Act C D (h0, (.inl (some (vL r))), h') yX5_knock cX5_knock 7 (some FieldType.long) 3 70 []) {x : Nat} {K43 : Int64 → Int32 → Hp → Option (Int64 × Hp)} (hK43 : ∀ {l1 : Int64} {l3 : Int32} {h : Hp}, K43 l1 l3 h = some (r, h') → X C D (h0, (.inl (some (vL r))), h') 7 43 [(0, vR (some x)), (1, vL l1), (3, vI l3)] [] h) : ∀ (n : Nat) {l1 : Int64} {l3 : Int32} {l4 : Int32} {h : Hp}, fX5_knock_l76 x K43 n l1 l3 l4 h = some (r, h') → X C D (h0, (.inl (some (vL r))), h') 7 76 [(0, vR (some x)), (1, vL l1), (3, vI l3), (4, vI l4)] [] h := by
  intro n
  induction n with
  | zero => intro l1 l3 l4 h hf; exact ab_no hf
  | succ n ih =>
    intro l1 l3 l4 h hf
    unfold fX5_knock_l76 at hf
    refine xr_iload A dX5_knock_76 3 rfl ?_
    refine xr_aload_n A dX5_knock_78 0 rfl rfl ?_
    revert hf; refine ab_bdI (fun v1 mv1 hf => ?_)
    refine xr_get A xc_X5 in_X5 3 (Nat.le_of_ble_eq_true rfl) q1301 rfl (ab_gRE mv1) dX5_knock_79 ?_
    revert hf; refine ab_bdI (fun a2 e hf => ?_); subst e
    revert hf; refine ab_bdI (fun v3 mv3 hf => ?_)
    refine xr_getN A xc_X15 in_X15 8 (Nat.le_of_ble_eq_true rfl) n1469 rfl (ab_gIE mv3) dX5_knock_82 ?_
    refine xr_icmp_ge A (tgt := 108) dX5_knock_85 (by decide) (fun c85 => ?_) (fun c85 => ?_)
    · replace hf := ab_ip c85 hf
      refine xr_aload_n A dX5_knock_108 0 rfl rfl ?_
      refine xr_aload_n A dX5_knock_109 0 rfl rfl ?_
      revert hf; refine ab_bdI (fun v4 mv4 hf => ?_)
      refine xr_get A xc_X5 in_X5 35 (Nat.le_of_ble_eq_true rfl) q1333 rfl (ab_gRE mv4) dX5_knock_110 ?_
      revert hf; refine ab_b2I (fun v7 h6 m5 hf => ?_)
      refine xr_V A bX5_expected (wX5_expected D m5).2 xc_X5 (wX5_expected D m5).1 q1928 qs88 q1926 (av := [vR v4]) (rest := []) rfl dX5_knock_113 (Nat.le_of_ble_eq_true rfl) (Nat.le_of_ble_eq_true rfl) rfl (Nat.le_of_ble_eq_true rfl) ?_
      refine xr_lstore A dX5_knock_116 (Nat.le_of_ble_eq_true rfl) (L' := [(4, vL v7), (0, vR (some x)), (1, vL l1), (3, vI l3)]) rfl ?_
      refine xr_lload_n A dX5_knock_118 2 rfl rfl ?_
      refine xr_lconst A (v := 0) dX5_knock_119 (by decide) ?_
      refine xr_lcmp A dX5_knock_120 ?_
      refine xr_if_lt A (tgt := 134) dX5_knock_121 (by decide) (fun c121 => ?_) (fun c121 => ?_)
      · replace hf := ab_ip c121 hf
        refine xr_lload A dX5_knock_134 0 rfl ?_
        refine xr_lstore_n A dX5_knock_136 rfl (Nat.le_of_ble_eq_true rfl) (L' := [(1, vL v7), (4, vL v7), (0, vR (some x)), (3, vI l3)]) rfl ?_
        refine xr_iconst A (v := 0) dX5_knock_137 (by decide) ?_
        refine xr_istore A dX5_knock_138 (Nat.le_of_ble_eq_true rfl) (L' := [(6, vI (0 : Int32)), (1, vL v7), (4, vL v7), (0, vR (some x)), (3, vI l3)]) rfl ?_
        refine X.sub [3, 1, 4, 0] rfl ?_
        exact wX5_knock_l140 A @hK43 _ hf
      · replace hf := ab_in c121 hf
        refine xr_lload A dX5_knock_124 0 rfl ?_
        refine xr_lload_n A dX5_knock_126 2 rfl rfl ?_
        refine xr_lcmp A dX5_knock_127 ?_
        refine xr_if_lt A (tgt := 134) dX5_knock_128 (by decide) (fun c128 => ?_) (fun c128 => ?_)
        · replace hf := ab_ip c128 hf
          refine xr_lload A dX5_knock_134 0 rfl ?_
          refine xr_lstore_n A dX5_knock_136 rfl (Nat.le_of_ble_eq_true rfl) (L' := [(1, vL v7), (4, vL v7), (0, vR (some x)), (3, vI l3)]) rfl ?_
          refine xr_iconst A (v := 0) dX5_knock_137 (by decide) ?_
          refine xr_istore A dX5_knock_138 (Nat.le_of_ble_eq_true rfl) (L' := [(6, vI (0 : Int32)), (1, vL v7), (4, vL v7), (0, vR (some x)), (3, vI l3)]) rfl ?_
          refine X.sub [3, 1, 4, 0] rfl ?_
          exact wX5_knock_l140 A @hK43 _ hf
        · replace hf := ab_in c128 hf
          refine xr_goto A (tgt := 172) dX5_knock_131 (by decide) ?_
          refine xr_iinc A dX5_knock_172 3 rfl (v := (l3 + (1 : Int32))) rfl (Nat.le_of_ble_eq_true rfl) (L' := [(3, vI (l3 + (1 : Int32))), (4, vL v7), (0, vR (some x)), (1, vL l1)]) rfl ?_
          refine xr_goto A (tgt := 43) dX5_knock_175 (by decide) ?_
          refine X.sub [2, 3, 0] rfl ?_
          exact hK43 hf
    · replace hf := ab_in c85 hf
      refine xr_aload_n A dX5_knock_88 0 rfl rfl ?_
      revert hf; refine ab_bdI (fun v8 mv8 hf => ?_)
      refine xr_get A xc_X5 in_X5 35 (Nat.le_of_ble_eq_true rfl) q1333 rfl (ab_gRE mv8) dX5_knock_89 ?_
      refine xr_iload A dX5_knock_92 3 rfl ?_
      refine xr_aload_n A dX5_knock_94 0 rfl rfl ?_
      revert hf; refine ab_bdI (fun v9 mv9 hf => ?_)
      refine xr_get A xc_X5 in_X5 22 (Nat.le_of_ble_eq_true rfl) q1320 rfl (ab_gRE mv9) dX5_knock_95 ?_
      refine xr_iload A dX5_knock_98 3 rfl ?_
      revert hf; refine ab_bdI (fun a10 e hf => ?_); subst e
      revert hf; refine ab_bdI (fun v11 mv11 hf => ?_)
      refine xr_iaload A mv11 dX5_knock_100 ?_
      revert hf; refine ab_bdI (fun a12 e hf => ?_); subst e
      revert hf; refine ab_bdI (fun h13 mh13 hf => ?_)
      refine xr_iastore A mh13 dX5_knock_101 ?_
      refine xr_iinc A dX5_knock_102 3 rfl (v := (l4 + (1 : Int32))) rfl (Nat.le_of_ble_eq_true rfl) (L' := [(4, vI (l4 + (1 : Int32))), (0, vR (some x)), (1, vL l1), (3, vI l3)]) rfl ?_
      refine xr_goto A (tgt := 76) dX5_knock_105 (by decide) ?_
      refine X.sub [1, 2, 3, 0] rfl ?_
      exact ih hf
noncomputable def fX5_knock_l43 (x : Nat) : Nat → Int64 → Int32 → Hp → Option (Int64 × Hp)
  | 0, _, _, _ => none
  | n + 1, l1, l3, h =>
  ab_bd (ab_gR h x 4 3) fun v1 =>
  ab_bd v1 fun a2 =>
  ab_bd (ab_gI h a2 13 8) fun v3 =>
  ab_b2 (fX5_orders v3 h) fun v6 h5 =>
  if v6 ≤ l3 then (
    ab_bd (ab_gR h5 x 4 3) fun v7 =>
    ab_bd v7 fun a8 =>
    ab_bd (ab_gI h5 a8 13 8) fun v9 =>
    ab_bd (ab_pI h5 x 4 34 v9) fun h10 =>
    ab_b2 (fX5_done x (0 : Int32) h10) fun v13 h12 =>
    some (l1, h12))
  else (
    ab_bd (ab_gR h5 x 4 3) fun v14 =>
    ab_bd v14 fun a15 =>
    ab_bd (ab_gI h5 a15 13 8) fun v16 =>
    ab_bd (fX5_ordered x (((1 : Int32) <<< (v16 &&& 31)) - (1 : Int32)) l3 h5) fun h18 =>
    fX5_knock_l76 x (fX5_knock_l43 x n) (hfu h18) l1 l3 (0 : Int32) h18)
theorem wX5_knock_l43 {D : Dd} {C : Cx} {h0 h' : Hp} {r : Int64} (A : Act C D (h0, (.inl (some (vL r))), h') yX5_knock cX5_knock 7 (some FieldType.long) 3 70 []) {x : Nat} : ∀ (n : Nat) {l1 : Int64} {l3 : Int32} {h : Hp}, fX5_knock_l43 x n l1 l3 h = some (r, h') → X C D (h0, (.inl (some (vL r))), h') 7 43 [(0, vR (some x)), (1, vL l1), (3, vI l3)] [] h := by
  intro n
  induction n with
  | zero => intro l1 l3 h hf; exact ab_no hf
  | succ n ih =>
    intro l1 l3 h hf
    unfold fX5_knock_l43 at hf
    refine xr_iload_n A dX5_knock_43 2 rfl rfl ?_
    refine xr_aload_n A dX5_knock_44 0 rfl rfl ?_
    revert hf; refine ab_bdI (fun v1 mv1 hf => ?_)
    refine xr_get A xc_X5 in_X5 3 (Nat.le_of_ble_eq_true rfl) q1301 rfl (ab_gRE mv1) dX5_knock_45 ?_
    revert hf; refine ab_bdI (fun a2 e hf => ?_); subst e
    revert hf; refine ab_bdI (fun v3 mv3 hf => ?_)
    refine xr_getN A xc_X15 in_X15 8 (Nat.le_of_ble_eq_true rfl) n1469 rfl (ab_gIE mv3) dX5_knock_48 ?_
    revert hf; refine ab_b2I (fun v6 h5 m4 hf => ?_)
    refine xr_S A bX5_orders (wX5_orders D m4) q1842 q1841 (av := [vI v3]) (rest := [vI l3]) rfl dX5_knock_51 (Nat.le_of_ble_eq_true rfl) (Nat.le_of_ble_eq_true rfl) rfl (Nat.le_of_ble_eq_true rfl) ?_
    refine xr_icmp_ge A (tgt := 178) dX5_knock_54 (by decide) (fun c54 => ?_) (fun c54 => ?_)
    · replace hf := ab_ip c54 hf
      refine xr_aload_n A dX5_knock_178 0 rfl rfl ?_
      refine xr_aload_n A dX5_knock_179 0 rfl rfl ?_
      revert hf; refine ab_bdI (fun v7 mv7 hf => ?_)
      refine xr_get A xc_X5 in_X5 3 (Nat.le_of_ble_eq_true rfl) q1301 rfl (ab_gRE mv7) dX5_knock_180 ?_
      revert hf; refine ab_bdI (fun a8 e hf => ?_); subst e
      revert hf; refine ab_bdI (fun v9 mv9 hf => ?_)
      refine xr_getN A xc_X15 in_X15 8 (Nat.le_of_ble_eq_true rfl) n1469 rfl (ab_gIE mv9) dX5_knock_183 ?_
      revert hf; refine ab_bdI (fun h10 mh10 hf => ?_)
      refine xr_put A xc_X5 in_X5 tyX5_ok nmX5 34 (Nat.le_of_ble_eq_true rfl) q1332 rfl rfl (v := vI v9) rfl rfl mh10 dX5_knock_186 ?_
      refine xr_aload_n A dX5_knock_189 0 rfl rfl ?_
      refine xr_iconst A (v := 0) dX5_knock_190 (by decide) ?_
      revert hf; refine ab_b2I (fun v13 h12 m11 hf => ?_)
      refine xr_V A bX5_done (wX5_done D m11).2 xc_X5 (wX5_done D m11).1 q1749 qs69 q1747 (av := [vI (0 : Int32)]) (rest := []) rfl dX5_knock_191 (Nat.le_of_ble_eq_true rfl) (Nat.le_of_ble_eq_true rfl) rfl (Nat.le_of_ble_eq_true rfl) ?_
      refine xr_pop A dX5_knock_194 rfl ?_
      refine xr_lload_n A dX5_knock_195 1 rfl rfl ?_
      exact xr_lreturn A hf dX5_knock_196
    · replace hf := ab_in c54 hf
      refine xr_aload_n A dX5_knock_57 0 rfl rfl ?_
      refine xr_iconst A (v := 1) dX5_knock_58 (by decide) ?_
      refine xr_aload_n A dX5_knock_59 0 rfl rfl ?_
      revert hf; refine ab_bdI (fun v14 mv14 hf => ?_)
      refine xr_get A xc_X5 in_X5 3 (Nat.le_of_ble_eq_true rfl) q1301 rfl (ab_gRE mv14) dX5_knock_60 ?_
      revert hf; refine ab_bdI (fun a15 e hf => ?_); subst e
      revert hf; refine ab_bdI (fun v16 mv16 hf => ?_)
      refine xr_getN A xc_X15 in_X15 8 (Nat.le_of_ble_eq_true rfl) n1469 rfl (ab_gIE mv16) dX5_knock_63 ?_
      refine xr_ishl A dX5_knock_66 ?_
      refine xr_iconst A (v := 1) dX5_knock_67 (by decide) ?_
      refine xr_isub A dX5_knock_68 ?_
      refine xr_iload_n A dX5_knock_69 2 rfl rfl ?_
      revert hf; refine ab_bdI (fun h18 m17 hf => ?_)
      refine xr_V0 A bX5_ordered (wX5_ordered D m17).2 xc_X5 (wX5_ordered D m17).1 q1846 qs80 q1844 (av := [vI (((1 : Int32) <<< (v16 &&& 31)) - (1 : Int32)), vI l3]) (rest := []) rfl dX5_knock_70 (Nat.le_of_ble_eq_true rfl) (Nat.le_of_ble_eq_true rfl) rfl (Nat.le_of_ble_eq_true rfl) ?_
      refine xr_iconst A (v := 0) dX5_knock_73 (by decide) ?_
      refine xr_istore A dX5_knock_74 (Nat.le_of_ble_eq_true rfl) (L' := [(4, vI (0 : Int32)), (0, vR (some x)), (1, vL l1), (3, vI l3)]) rfl ?_
      refine X.sub [1, 2, 3, 0] rfl ?_
      exact wX5_knock_l76 A (fun hf => ih hf) _ hf
noncomputable def fX5_knock (x : Nat) (h : Hp) : Option (Int64 × Hp) :=
  ab_ck h x 4 <|
  ab_bd (ab_pI h x 4 0 (0 : Int32)) fun h1 =>
  ab_bd (ab_gR h1 x 4 3) fun v2 =>
  ab_on v2 (
    ab_b2 (fX5_refused x (1 : Int32) h1) fun v6 h5 =>
    some (v6.toInt64, h5)) fun a3 => (
    ab_bd (ab_gR h1 x 4 3) fun v7 =>
    ab_bd v7 fun a8 =>
    ab_bd (ab_gI h1 a8 13 8) fun v9 =>
    if v9 = 0 then (
      ab_b2 (fX5_refused x (6 : Int32) h1) fun v12 h11 =>
      some (v12.toInt64, h11))
    else (
      fX5_knock_l43 x (hfu h1) (-1 : Int64) (0 : Int32) h1))
theorem wX5_knock (D : Dd) {x : Nat} {h : Hp} {r : Int64} {h' : Hp} (hf : fX5_knock x h = some (r, h')) : ab_is h x 4 ∧ Ct D 3 70 yX5_knock cX5_knock 7 (some FieldType.long) [vR (some x)] h (.inl (some (vL r))) h' := by
    unfold fX5_knock at hf
    replace hf := ab_ckE hf; obtain ⟨i0, hf⟩ := hf
    refine ⟨i0, ?_⟩
    refine Ct.of (by decide) (L := [(0, vR (some x))]) rfl (Nat.le_of_ble_eq_true rfl) (fun C A => ?_)
    refine xr_aload_n A dX5_knock_0 0 rfl rfl ?_
    refine xr_iconst A (v := 0) dX5_knock_1 (by decide) ?_
    revert hf; refine ab_bdI (fun h1 mh1 hf => ?_)
    refine xr_put A xc_X5 in_X5 tyX5_ok nmX5 0 (Nat.le_of_ble_eq_true rfl) q1298 rfl rfl (v := vI (0 : Int32)) rfl rfl mh1 dX5_knock_2 ?_
    refine xr_aload_n A dX5_knock_5 0 rfl rfl ?_
    revert hf; refine ab_bdI (fun v2 mv2 hf => ?_)
    refine xr_get A xc_X5 in_X5 3 (Nat.le_of_ble_eq_true rfl) q1301 rfl (ab_gRE mv2) dX5_knock_6 ?_
    revert hf; refine ab_onI (fun e hf => ?_) (fun a3 e hf => ?_) <;> subst e
    · refine xr_ifnonnull A (tgt := 19) dX5_knock_9 (by decide) (fun _ e => by cases e) (fun _ => ?_)
      refine xr_aload_n A dX5_knock_12 0 rfl rfl ?_
      refine xr_iconst A (v := 1) dX5_knock_13 (by decide) ?_
      revert hf; refine ab_b2I (fun v6 h5 m4 hf => ?_)
      refine xr_V A bX5_refused (wX5_refused D m4).2 xc_X5 (wX5_refused D m4).1 q1451 qs44 q1449 (av := [vI (1 : Int32)]) (rest := []) rfl dX5_knock_14 (Nat.le_of_ble_eq_true rfl) (Nat.le_of_ble_eq_true rfl) rfl (Nat.le_of_ble_eq_true rfl) ?_
      refine xr_i2l A dX5_knock_17 ?_
      exact xr_lreturn A hf dX5_knock_18
    · refine xr_ifnonnull A (tgt := 19) dX5_knock_9 (by decide) (fun _ _ => ?_) (fun e => by cases e)
      refine xr_aload_n A dX5_knock_19 0 rfl rfl ?_
      revert hf; refine ab_bdI (fun v7 mv7 hf => ?_)
      refine xr_get A xc_X5 in_X5 3 (Nat.le_of_ble_eq_true rfl) q1301 rfl (ab_gRE mv7) dX5_knock_20 ?_
      revert hf; refine ab_bdI (fun a8 e hf => ?_); subst e
      revert hf; refine ab_bdI (fun v9 mv9 hf => ?_)
      refine xr_getN A xc_X15 in_X15 8 (Nat.le_of_ble_eq_true rfl) n1469 rfl (ab_gIE mv9) dX5_knock_23 ?_
      refine xr_if_ne A (tgt := 37) dX5_knock_26 (by decide) (fun c26 => ?_) (fun c26 => ?_)
      · replace hf := ab_in c26 hf
        refine xr_ldc2 A q1925 dX5_knock_37 ?_
        refine xr_lstore_n A dX5_knock_40 rfl (Nat.le_of_ble_eq_true rfl) (L' := [(1, vL (-1 : Int64)), (0, vR (some x))]) rfl ?_
        refine xr_iconst A (v := 0) dX5_knock_41 (by decide) ?_
        refine xr_istore_n A dX5_knock_42 rfl (Nat.le_of_ble_eq_true rfl) (L' := [(3, vI (0 : Int32)), (1, vL (-1 : Int64)), (0, vR (some x))]) rfl ?_
        refine X.sub [2, 1, 0] rfl ?_
        exact wX5_knock_l43 A _ hf
      · replace hf := ab_ip c26 hf
        refine xr_aload_n A dX5_knock_29 0 rfl rfl ?_
        refine xr_bipush A (v := 6) dX5_knock_30 (by decide) ?_
        revert hf; refine ab_b2I (fun v12 h11 m10 hf => ?_)
        refine xr_V A bX5_refused (wX5_refused D m10).2 xc_X5 (wX5_refused D m10).1 q1451 qs44 q1449 (av := [vI (6 : Int32)]) (rest := []) rfl dX5_knock_32 (Nat.le_of_ble_eq_true rfl) (Nat.le_of_ble_eq_true rfl) rfl (Nat.le_of_ble_eq_true rfl) ?_
        refine xr_i2l A dX5_knock_35 ?_
        exact xr_lreturn A hf dX5_knock_36
