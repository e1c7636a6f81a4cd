set_option maxRecDepth 100000
/-! X4_worth -/
theorem bX4_worth : MB yX4_worth cX4_worth 2 (some FieldType.int) 1 := ⟨q1108, q98, by decide, by decide +kernel⟩
noncomputable def fX4_worth (x : Nat) (p1 : Option Nat) (h : Hp) : Option (Int32 × Hp) :=
  ab_ck h x 3 <|
  ab_bd (ab_gI h x 3 3) fun v1 =>
  ab_b2 (fX1_ones v1 h) fun v4 h3 =>
  ab_b2 (fX4_last x p1 h3) fun v7 h6 =>
  some ((((10000 : Int32) * v4) + v7), h6)
theorem wX4_worth (D : Dd) {x : Nat} {p1 : Option Nat} {h : Hp} {r : Int32} {h' : Hp} (hf : fX4_worth x p1 h = some (r, h')) : ab_is h x 3 ∧ Ct D 2 42 yX4_worth cX4_worth 2 (some FieldType.int) [vR (some x), vR p1] h (.inl (some (vI r))) h' := by
    unfold fX4_worth at hf
    replace hf := ab_ckE hf; obtain ⟨i0, hf⟩ := hf
    refine ⟨i0, ?_⟩
    refine Ct.of (by decide) (L := [(0, vR (some x)), (1, vR p1)]) rfl (Nat.le_of_ble_eq_true rfl) (fun C A => ?_)
    refine xr_sipush A (v := 10000) dX4_worth_0 (by decide) ?_
    refine xr_aload_n A dX4_worth_3 0 rfl rfl ?_
    revert hf; refine ab_bdI (fun v1 mv1 hf => ?_)
    refine xr_get A xc_X4 in_X4 3 (Nat.le_of_ble_eq_true rfl) q251 rfl (ab_gIE mv1) dX4_worth_4 ?_
    revert hf; refine ab_b2I (fun v4 h3 m2 hf => ?_)
    refine xr_SN A bX1_ones (wX1_ones D m2) q1095 n1109 (av := [vI v1]) (rest := [vI (10000 : Int32)]) rfl dX4_worth_7 (Nat.le_of_ble_eq_true rfl) (Nat.le_of_ble_eq_true rfl) rfl (Nat.le_of_ble_eq_true rfl) ?_
    refine xr_imul A dX4_worth_10 ?_
    refine xr_aload_n A dX4_worth_11 0 rfl rfl ?_
    refine xr_aload_n A dX4_worth_12 1 rfl rfl ?_
    revert hf; refine ab_b2I (fun v7 h6 m5 hf => ?_)
    refine xr_V A bX4_last (wX4_last D m5).2 xc_X4 (wX4_last D m5).1 q1111 q1112 q1110 (av := [vR p1]) (rest := [vI ((10000 : Int32) * v4)]) rfl dX4_worth_13 (Nat.le_of_ble_eq_true rfl) (Nat.le_of_ble_eq_true rfl) rfl (Nat.le_of_ble_eq_true rfl) ?_
    refine xr_iadd A dX4_worth_16 ?_
    exact xr_ireturn A rfl hf dX4_worth_17
/-! X4_become -/
theorem bX4_become : MB yX4_become cX4_become 2 (none : Option FieldType) 1 := ⟨q1117, q98, by decide, by decide +kernel⟩
noncomputable def fX4_become (x : Nat) (p1 : Option Nat) (h : Hp) : Option Hp :=
  ab_ck h x 3 <|
  ab_bd p1 fun a1 =>
  ab_bd (ab_gI h a1 3 2) fun v2 =>
  ab_bd (ab_pI h x 3 2 v2) fun h3 =>
  ab_bd (ab_gR h3 a1 3 0) fun v4 =>
  ab_bd (ab_gR h3 x 3 0) fun v5 =>
  ab_bd (ab_gI h3 x 3 2) fun v6 =>
  ab_bd v4 fun a7 =>
  ab_bd v5 fun a8 =>
  ab_bd (ab_cpy h3 a7 (0 : Int32) a8 (0 : Int32) v6) fun h9 =>
  some h9
theorem wX4_become (D : Dd) {x : Nat} {p1 : Option Nat} {h : Hp} {h' : Hp} (hf : fX4_become x p1 h = some h') : ab_is h x 3 ∧ Ct D 1 40 yX4_become cX4_become 2 (none : Option FieldType) [vR (some x), vR p1] h (.inl none) h' := by
    unfold fX4_become at hf
    replace hf := ab_ckE hf; obtain ⟨i0, hf⟩ := hf
    refine ⟨i0, ?_⟩
    refine Ct.of (by decide) (L := [(0, vR (some x)), (1, vR p1)]) rfl (Nat.le_of_ble_eq_true rfl) (fun C A => ?_)
    refine xr_aload_n A dX4_become_0 0 rfl rfl ?_
    refine xr_aload_n A dX4_become_1 1 rfl rfl ?_
    revert hf; refine ab_bdI (fun a1 e hf => ?_); subst e
    revert hf; refine ab_bdI (fun v2 mv2 hf => ?_)
    refine xr_get A xc_X4 in_X4 2 (Nat.le_of_ble_eq_true rfl) q249 rfl (ab_gIE mv2) dX4_become_2 ?_
    revert hf; refine ab_bdI (fun h3 mh3 hf => ?_)
    refine xr_put A xc_X4 in_X4 tyX4_ok nmX4 2 (Nat.le_of_ble_eq_true rfl) q249 rfl rfl (v := vI v2) rfl rfl mh3 dX4_become_5 ?_
    refine xr_aload_n A dX4_become_8 1 rfl rfl ?_
    revert hf; refine ab_bdI (fun v4 mv4 hf => ?_)
    refine xr_get A xc_X4 in_X4 0 (Nat.le_of_ble_eq_true rfl) q245 rfl (ab_gRE mv4) dX4_become_9 ?_
    refine xr_iconst A (v := 0) dX4_become_12 (by decide) ?_
    refine xr_aload_n A dX4_become_13 0 rfl rfl ?_
    revert hf; refine ab_bdI (fun v5 mv5 hf => ?_)
    refine xr_get A xc_X4 in_X4 0 (Nat.le_of_ble_eq_true rfl) q245 rfl (ab_gRE mv5) dX4_become_14 ?_
    refine xr_iconst A (v := 0) dX4_become_17 (by decide) ?_
    refine xr_aload_n A dX4_become_18 0 rfl rfl ?_
    revert hf; refine ab_bdI (fun v6 mv6 hf => ?_)
    refine xr_get A xc_X4 in_X4 2 (Nat.le_of_ble_eq_true rfl) q249 rfl (ab_gIE mv6) dX4_become_19 ?_
    revert hf; refine ab_bdI (fun a7 e hf => ?_); subst e
    revert hf; refine ab_bdI (fun a8 e hf => ?_); subst e
    revert hf; refine ab_bdI (fun h9 mh9 hf => ?_)
    refine xr_cpy A q1118 q1120 q1119 q116 mh9 dX4_become_22 (Nat.le_of_ble_eq_true rfl) (Nat.le_of_ble_eq_true rfl) (Nat.le_of_ble_eq_true rfl) ?_
    exact xr_return A hf dX4_become_25
/-! X1_orders -/
theorem bX1_orders : MB yX1_orders cX1_orders 4 (none : Option FieldType) 2 := ⟨q1104, q92, by decide, by decide +kernel⟩
noncomputable def fX1_orders_l58 (x : Nat) (rec : Option Nat → Int32 → Hp → Option Hp) : Nat → Option Nat → Int32 → Int32 → Hp → Option Hp
  | 0, _, _, _, _ => none
  | n + 1, l1, l2, l3, h =>
  ab_bd (ab_gR h x 0 3) fun v1 =>
  ab_bd v1 fun a2 =>
  ab_bd (ab_gI h a2 5 12) fun v3 =>
  if v3 ≤ l3 then (
    some h)
  else (
    ab_b2 (fX1_lies l2 l3 h) fun v6 h5 =>
    if v6 = 0 then (
      fX1_orders_l58 x rec n l1 l2 (l3 + (1 : Int32)) h5)
    else (
      ab_bd (ab_gR h5 x 0 9) fun v7 =>
      ab_bd v7 fun a8 =>
      ab_bd (ab_gR h5 a8 3 0) fun v9 =>
      ab_bd (ab_gR h5 x 0 9) fun v10 =>
      ab_bd v10 fun a11 =>
      ab_bd (ab_gI h5 a11 3 2) fun v12 =>
      ab_bd v9 fun a13 =>
      ab_bd (ab_sI h5 a13 v12 l3) fun h14 =>
      ab_bd (ab_gR h14 x 0 9) fun v15 =>
      ab_bd v15 fun a16 =>
      ab_bd (ab_gI h14 a16 3 2) fun v17 =>
      ab_bd (ab_pI h14 a16 3 2 (v17 + (1 : Int32))) fun h18 =>
      ab_bd (rec l1 (l2 &&& (((1 : Int32) <<< (l3 &&& 31)) ^^^ (-1 : Int32))) h18) fun h20 =>
      ab_bd (ab_gR h20 x 0 9) fun v21 =>
      ab_bd v21 fun a22 =>
      ab_bd (ab_gI h20 a22 3 2) fun v23 =>
      ab_bd (ab_pI h20 a22 3 2 (v23 - (1 : Int32))) fun h24 =>
      fX1_orders_l58 x rec n l1 l2 (l3 + (1 : Int32)) h24))
theorem wX1_orders_l58 {D : Dd} {C : Cx} {h0 h' : Hp} {k : Nat} (A : Act C D (h0, (.inl none), h') yX1_orders cX1_orders 4 (none : Option FieldType) (4 + (k + 1)) (90 + (k + 1) * 23) []) {x : Nat} {rec : Option Nat → Int32 → Hp → Option Hp} (hrec : ∀ {p1 : Option Nat} {p2 : Int32} {h0 : Hp} {h' : Hp}, rec p1 p2 h0 = some h' → ab_is h0 x 0 ∧ Ct D (4 + k) (90 + k * 23) yX1_orders cX1_orders 4 (none : Option FieldType) [vR (some x), vR p1, vI p2] h0 (.inl none) h') : ∀ (n : Nat) {l1 : Option Nat} {l2 : Int32} {l3 : Int32} {h : Hp}, fX1_orders_l58 x rec n l1 l2 l3 h = some h' → X C D (h0, (.inl none), h') 4 58 [(0, vR (some x)), (1, vR l1), (2, vI l2), (3, vI l3)] [] h := by
  intro n
  induction n with
  | zero => intro l1 l2 l3 h hf; exact ab_no hf
  | succ n ih =>
    intro l1 l2 l3 h hf
    unfold fX1_orders_l58 at hf
    refine xr_iload_n A dX1_orders_58 3 rfl rfl ?_
    refine xr_aload_n A dX1_orders_59 0 rfl rfl ?_
    revert hf; refine ab_bdI (fun v1 mv1 hf => ?_)
    refine xr_get A xc_X1 in_X1 3 (Nat.le_of_ble_eq_true rfl) q266 rfl (ab_gRE mv1) dX1_orders_60 ?_
    revert hf; refine ab_bdI (fun a2 e hf => ?_); subst e
    revert hf; refine ab_bdI (fun v3 mv3 hf => ?_)
    refine xr_get A xc_X6 in_X6 12 (Nat.le_of_ble_eq_true rfl) q470 rfl (ab_gIE mv3) dX1_orders_63 ?_
    refine xr_icmp_ge A (tgt := 140) dX1_orders_66 (by decide) (fun c66 => ?_) (fun c66 => ?_)
    · replace hf := ab_ip c66 hf
      exact xr_return A hf dX1_orders_140
    · replace hf := ab_in c66 hf
      refine xr_iload_n A dX1_orders_69 2 rfl rfl ?_
      refine xr_iload_n A dX1_orders_70 3 rfl rfl ?_
      revert hf; refine ab_b2I (fun v6 h5 m4 hf => ?_)
      refine xr_S A bX1_lies (wX1_lies D m4) q986 q1121 (av := [vI l2, vI l3]) (rest := []) rfl dX1_orders_71 (by omega) (by omega) rfl (Nat.le_of_ble_eq_true rfl) ?_
      refine xr_if_ne A (tgt := 80) dX1_orders_74 (by decide) (fun c74 => ?_) (fun c74 => ?_)
      · replace hf := ab_in c74 hf
        refine xr_aload_n A dX1_orders_80 0 rfl rfl ?_
        revert hf; refine ab_bdI (fun v7 mv7 hf => ?_)
        refine xr_get A xc_X1 in_X1 9 (Nat.le_of_ble_eq_true rfl) q272 rfl (ab_gRE mv7) dX1_orders_81 ?_
        revert hf; refine ab_bdI (fun a8 e hf => ?_); subst e
        revert hf; refine ab_bdI (fun v9 mv9 hf => ?_)
        refine xr_get A xc_X4 in_X4 0 (Nat.le_of_ble_eq_true rfl) q246 rfl (ab_gRE mv9) dX1_orders_84 ?_
        refine xr_aload_n A dX1_orders_87 0 rfl rfl ?_
        revert hf; refine ab_bdI (fun v10 mv10 hf => ?_)
        refine xr_get A xc_X1 in_X1 9 (Nat.le_of_ble_eq_true rfl) q272 rfl (ab_gRE mv10) dX1_orders_88 ?_
        revert hf; refine ab_bdI (fun a11 e hf => ?_); subst e
        revert hf; refine ab_bdI (fun v12 mv12 hf => ?_)
        refine xr_get A xc_X4 in_X4 2 (Nat.le_of_ble_eq_true rfl) q250 rfl (ab_gIE mv12) dX1_orders_91 ?_
        refine xr_iload_n A dX1_orders_94 3 rfl rfl ?_
        revert hf; refine ab_bdI (fun a13 e hf => ?_); subst e
        revert hf; refine ab_bdI (fun h14 mh14 hf => ?_)
        refine xr_iastore A mh14 dX1_orders_95 ?_
        refine xr_aload_n A dX1_orders_96 0 rfl rfl ?_
        revert hf; refine ab_bdI (fun v15 mv15 hf => ?_)
        refine xr_get A xc_X1 in_X1 9 (Nat.le_of_ble_eq_true rfl) q272 rfl (ab_gRE mv15) dX1_orders_97 ?_
        refine xr_dup A dX1_orders_100 rfl ?_
        revert hf; refine ab_bdI (fun a16 e hf => ?_); subst e
        revert hf; refine ab_bdI (fun v17 mv17 hf => ?_)
        refine xr_get A xc_X4 in_X4 2 (Nat.le_of_ble_eq_true rfl) q250 rfl (ab_gIE mv17) dX1_orders_101 ?_
        refine xr_iconst A (v := 1) dX1_orders_104 (by decide) ?_
        refine xr_iadd A dX1_orders_105 ?_
        revert hf; refine ab_bdI (fun h18 mh18 hf => ?_)
        refine xr_put A xc_X4 in_X4 tyX4_ok nmX4 2 (Nat.le_of_ble_eq_true rfl) q250 rfl rfl (v := vI (v17 + (1 : Int32))) rfl rfl mh18 dX1_orders_106 ?_
        refine xr_aload_n A dX1_orders_109 0 rfl rfl ?_
        refine xr_aload_n A dX1_orders_110 1 rfl rfl ?_
        refine xr_iload_n A dX1_orders_111 2 rfl rfl ?_
        refine xr_iconst A (v := 1) dX1_orders_112 (by decide) ?_
        refine xr_iload_n A dX1_orders_113 3 rfl rfl ?_
        refine xr_ishl A dX1_orders_114 ?_
        refine xr_iconst A (v := (-1)) dX1_orders_115 (by decide) ?_
        refine xr_ixor A dX1_orders_116 ?_
        refine xr_iand A dX1_orders_117 ?_
        revert hf; refine ab_bdI (fun h20 m19 hf => ?_)
        refine xr_V0 A bX1_orders (hrec m19).2 xc_X1 (hrec m19).1 q1103 qs34 q1101 (av := [vR l1, vI (l2 &&& (((1 : Int32) <<< (l3 &&& 31)) ^^^ (-1 : Int32)))]) (rest := []) rfl dX1_orders_118 (by omega) (by omega) rfl (Nat.le_of_ble_eq_true rfl) ?_
        refine xr_aload_n A dX1_orders_121 0 rfl rfl ?_
        revert hf; refine ab_bdI (fun v21 mv21 hf => ?_)
        refine xr_get A xc_X1 in_X1 9 (Nat.le_of_ble_eq_true rfl) q272 rfl (ab_gRE mv21) dX1_orders_122 ?_
        refine xr_dup A dX1_orders_125 rfl ?_
        revert hf; refine ab_bdI (fun a22 e hf => ?_); subst e
        revert hf; refine ab_bdI (fun v23 mv23 hf => ?_)
        refine xr_get A xc_X4 in_X4 2 (Nat.le_of_ble_eq_true rfl) q250 rfl (ab_gIE mv23) dX1_orders_126 ?_
        refine xr_iconst A (v := 1) dX1_orders_129 (by decide) ?_
        refine xr_isub A dX1_orders_130 ?_
        revert hf; refine ab_bdI (fun h24 mh24 hf => ?_)
        refine xr_put A xc_X4 in_X4 tyX4_ok nmX4 2 (Nat.le_of_ble_eq_true rfl) q250 rfl rfl (v := vI (v23 - (1 : Int32))) rfl rfl mh24 dX1_orders_131 ?_
        refine xr_iinc A dX1_orders_134 3 rfl (v := (l3 + (1 : Int32))) rfl (Nat.le_of_ble_eq_true rfl) (L' := [(3, vI (l3 + (1 : Int32))), (0, vR (some x)), (1, vR l1), (2, vI l2)]) rfl ?_
        refine xr_goto A (tgt := 58) dX1_orders_137 (by decide) ?_
        refine X.sub [1, 2, 3, 0] rfl ?_
        exact ih hf
      · replace hf := ab_ip c74 hf
        refine xr_goto A (tgt := 134) dX1_orders_77 (by decide) ?_
        refine xr_iinc A dX1_orders_134 3 rfl (v := (l3 + (1 : Int32))) rfl (Nat.le_of_ble_eq_true rfl) (L' := [(3, vI (l3 + (1 : Int32))), (0, vR (some x)), (1, vR l1), (2, vI l2)]) rfl ?_
        refine xr_goto A (tgt := 58) dX1_orders_137 (by decide) ?_
        refine X.sub [1, 2, 3, 0] rfl ?_
        exact ih hf
noncomputable def fX1_orders_b39 (x : Nat) (rec : Option Nat → Int32 → Hp → Option Hp) (l3 : Int32) (h : Hp) : Option Hp :=
  ab_bd (ab_pI h x 0 11 l3) fun h1 =>
  ab_bd (ab_gR h1 x 0 10) fun v2 =>
  ab_bd (ab_gR h1 x 0 9) fun v3 =>
  ab_bd v2 fun a4 =>
  ab_bd (fX4_become a4 v3 h1) fun h6 =>
  some h6
theorem wX1_orders_b39 {D : Dd} {C : Cx} {h0 h' : Hp} {k : Nat} (A : Act C D (h0, (.inl none), h') yX1_orders cX1_orders 4 (none : Option FieldType) (4 + (k + 1)) (90 + (k + 1) * 23) []) {x : Nat} {rec : Option Nat → Int32 → Hp → Option Hp} (hrec : ∀ {p1 : Option Nat} {p2 : Int32} {h0 : Hp} {h' : Hp}, rec p1 p2 h0 = some h' → ab_is h0 x 0 ∧ Ct D (4 + k) (90 + k * 23) yX1_orders cX1_orders 4 (none : Option FieldType) [vR (some x), vR p1, vI p2] h0 (.inl none) h') {l3 : Int32} {h : Hp} (hf : fX1_orders_b39 x rec l3 h = some h') : X C D (h0, (.inl none), h') 4 39 [(0, vR (some x)), (3, vI l3)] [] h := by
  unfold fX1_orders_b39 at hf
  refine xr_aload_n A dX1_orders_39 0 rfl rfl ?_
  refine xr_iload_n A dX1_orders_40 1 rfl rfl ?_
  revert hf; refine ab_bdI (fun h1 mh1 hf => ?_)
  refine xr_put A xc_X1 in_X1 tyX1_ok nmX1 11 (Nat.le_of_ble_eq_true rfl) q274 rfl rfl (v := vI l3) rfl rfl mh1 dX1_orders_41 ?_
  refine xr_aload_n A dX1_orders_44 0 rfl rfl ?_
  revert hf; refine ab_bdI (fun v2 mv2 hf => ?_)
  refine xr_get A xc_X1 in_X1 10 (Nat.le_of_ble_eq_true rfl) q273 rfl (ab_gRE mv2) dX1_orders_45 ?_
  refine xr_aload_n A dX1_orders_48 0 rfl rfl ?_
  revert hf; refine ab_bdI (fun v3 mv3 hf => ?_)
  refine xr_get A xc_X1 in_X1 9 (Nat.le_of_ble_eq_true rfl) q272 rfl (ab_gRE mv3) dX1_orders_49 ?_
  revert hf; refine ab_bdI (fun a4 e hf => ?_); subst e
  revert hf; refine ab_bdI (fun h6 m5 hf => ?_)
  refine xr_V0 A bX4_become (wX4_become D m5).2 xc_X4 (wX4_become D m5).1 q1115 q1116 q1114 (av := [vR v3]) (rest := []) rfl dX1_orders_52 (by omega) (by omega) rfl (Nat.le_of_ble_eq_true rfl) ?_
  exact xr_return A hf dX1_orders_55
noncomputable def fX1_orders : Nat → Nat → Option Nat → Int32 → Hp → Option Hp
  | 0, _, _, _, _ => none
  | n + 1, x, p1, p2, h =>
  ab_ck h x 0 <|
  if p2 = 0 then (
    ab_bd (ab_gR h x 0 9) fun v1 =>
    ab_bd (ab_gR h x 0 3) fun v2 =>
    ab_bd v1 fun a3 =>
    ab_b2 (fX4_walks a3 v2 p1 (0 : Int32) h) fun v6 h5 =>
    ab_bd v6 fun a7 =>
    ab_b2 (fX4_worth a7 p1 h5) fun v10 h9 =>
    ab_bd (ab_gI h9 x 0 11) fun v11 =>
    if v11 = (-1 : Int32) then (
      fX1_orders_b39 x (fX1_orders n x) v10 h9)
    else (
      ab_bd (ab_gI h9 x 0 11) fun v12 =>
      if v10 < v12 then (
        fX1_orders_b39 x (fX1_orders n x) v10 h9)
      else (
        some h9)))
  else (
    fX1_orders_l58 x (fX1_orders n x) (hfu h) p1 p2 (0 : Int32) h)
theorem wX1_orders (D : Dd) : ∀ (n : Nat) {x : Nat} {p1 : Option Nat} {p2 : Int32} {h : Hp} {h' : Hp}, fX1_orders n x p1 p2 h = some h' → ab_is h x 0 ∧ Ct D (4 + n) (90 + n * 23) yX1_orders cX1_orders 4 (none : Option FieldType) [vR (some x), vR p1, vI p2] h (.inl none) h' := by
  intro n
  induction n with
  | zero => intros; rename_i hf; exact ab_no hf
  | succ n ih =>
    intro x p1 p2 h h' hf
    unfold fX1_orders at hf
    replace hf := ab_ckE hf; obtain ⟨i0, hf⟩ := hf
    refine ⟨i0, ?_⟩
    refine Ct.of (by decide) (L := [(0, vR (some x)), (1, vR p1), (2, vI p2)]) rfl (Nat.le_of_ble_eq_true rfl) (fun C A => ?_)
    have hrec : ∀ {p1 : Option Nat} {p2 : Int32} {h0 : Hp} {h' : Hp}, fX1_orders n x p1 p2 h0 = some h' → ab_is h0 x 0 ∧ Ct D (4 + n) (90 + n * 23) yX1_orders cX1_orders 4 (none : Option FieldType) [vR (some x), vR p1, vI p2] h0 (.inl none) h' := fun hf => ih hf
    refine xr_iload_n A dX1_orders_0 2 rfl rfl ?_
    refine xr_if_ne A (tgt := 56) dX1_orders_1 (by decide) (fun c1 => ?_) (fun c1 => ?_)
    · replace hf := ab_in c1 hf
      refine xr_iconst A (v := 0) dX1_orders_56 (by decide) ?_
      refine xr_istore_n A dX1_orders_57 rfl (Nat.le_of_ble_eq_true rfl) (L' := [(3, vI (0 : Int32)), (0, vR (some x)), (1, vR p1), (2, vI p2)]) rfl ?_
      refine X.sub [1, 2, 3, 0] rfl ?_
      exact wX1_orders_l58 A @hrec _ hf
    · replace hf := ab_ip c1 hf
      refine xr_aload_n A dX1_orders_4 0 rfl rfl ?_
      revert hf; refine ab_bdI (fun v1 mv1 hf => ?_)
      refine xr_get A xc_X1 in_X1 9 (Nat.le_of_ble_eq_true rfl) q272 rfl (ab_gRE mv1) dX1_orders_5 ?_
      refine xr_aload_n A dX1_orders_8 0 rfl rfl ?_
      revert hf; refine ab_bdI (fun v2 mv2 hf => ?_)
      refine xr_get A xc_X1 in_X1 3 (Nat.le_of_ble_eq_true rfl) q266 rfl (ab_gRE mv2) dX1_orders_9 ?_
      refine xr_aload_n A dX1_orders_12 1 rfl rfl ?_
      refine xr_iconst A (v := 0) dX1_orders_13 (by decide) ?_
      revert hf; refine ab_bdI (fun a3 e hf => ?_); subst e
      revert hf; refine ab_b2I (fun v6 h5 m4 hf => ?_)
      refine xr_V A bX4_walks (wX4_walks D m4).2 xc_X4 (wX4_walks D m4).1 q1050 q1051 q1049 (av := [vR v2, vR p1, vI (0 : Int32)]) (rest := []) rfl dX1_orders_14 (by omega) (by omega) rfl (Nat.le_of_ble_eq_true rfl) ?_
      refine xr_aload_n A dX1_orders_17 1 rfl rfl ?_
      revert hf; refine ab_bdI (fun a7 e hf => ?_); subst e
      revert hf; refine ab_b2I (fun v10 h9 m8 hf => ?_)
      refine xr_V A bX4_worth (wX4_worth D m8).2 xc_X4 (wX4_worth D m8).1 q1106 q1107 q1105 (av := [vR p1]) (rest := []) rfl dX1_orders_18 (by omega) (by omega) rfl (Nat.le_of_ble_eq_true rfl) ?_
      refine xr_istore_n A dX1_orders_21 rfl (Nat.le_of_ble_eq_true rfl) (L' := [(3, vI v10), (0, vR (some x)), (1, vR p1), (2, vI p2)]) rfl ?_
      refine xr_aload_n A dX1_orders_22 1 rfl rfl ?_
      revert hf; refine ab_bdI (fun v11 mv11 hf => ?_)
      refine xr_get A xc_X1 in_X1 11 (Nat.le_of_ble_eq_true rfl) q274 rfl (ab_gIE mv11) dX1_orders_23 ?_
      refine xr_iconst A (v := (-1)) dX1_orders_26 (by decide) ?_
      refine xr_icmp_eq A (tgt := 39) dX1_orders_27 (by decide) (fun c27 => ?_) (fun c27 => ?_)
      · replace hf := ab_ip c27 hf
        refine X.sub [1, 0] rfl ?_
        exact wX1_orders_b39 A @hrec hf
      · replace hf := ab_in c27 hf
        refine xr_iload_n A dX1_orders_30 0 rfl rfl ?_
        refine xr_aload_n A dX1_orders_31 1 rfl rfl ?_
        revert hf; refine ab_bdI (fun v12 mv12 hf => ?_)
        refine xr_get A xc_X1 in_X1 11 (Nat.le_of_ble_eq_true rfl) q274 rfl (ab_gIE mv12) dX1_orders_32 ?_
        refine xr_icmp_lt A (tgt := 39) dX1_orders_35 (by decide) (fun c35 => ?_) (fun c35 => ?_)
        · replace hf := ab_ip c35 hf
          refine X.sub [1, 0] rfl ?_
          exact wX1_orders_b39 A @hrec hf
        · replace hf := ab_in c35 hf
          exact xr_return A hf dX1_orders_38
/-! X1_bestOf -/
theorem bX1_bestOf : MB yX1_bestOf cX1_bestOf 3 (some FieldType.int) 2 := ⟨q1100, q92, by decide, by decide +kernel⟩
noncomputable def fX1_bestOf (x : Nat) (p1 : Int32) (p2 : Int32) (h : Hp) : Option (Int32 × Hp) :=
  ab_ck h x 0 <|
  ab_bd (ab_gR h x 0 9) fun v1 =>
  ab_bd v1 fun a2 =>
  ab_bd (ab_pI h a2 3 2 (0 : Int32)) fun h3 =>
  ab_bd (ab_pI h3 x 0 11 (-1 : Int32)) fun h4 =>
  ab_bd (ab_gR h4 x 0 3) fun v5 =>
  ab_bd v5 fun a6 =>
  ab_bd (ab_gR h4 a6 5 4) fun v7 =>
  ab_bd v7 fun a8 =>
  ab_bd (ab_aR h4 a8 10 p1) fun v9 =>
  ab_bd (fX1_orders 10 x v9 p2 h4) fun h11 =>
  ab_bd (ab_gI h11 x 0 11) fun v12 =>
  some (v12, h11)
theorem wX1_bestOf (D : Dd) {x : Nat} {p1 : Int32} {p2 : Int32} {h : Hp} {r : Int32} {h' : Hp} (hf : fX1_bestOf x p1 p2 h = some (r, h')) : ab_is h x 0 ∧ Ct D 15 343 yX1_bestOf cX1_bestOf 3 (some FieldType.int) [vR (some x), vI p1, vI p2] h (.inl (some (vI r))) h' := by
    unfold fX1_bestOf at hf
    replace hf := ab_ckE hf; obtain ⟨i0, hf⟩ := hf
    refine ⟨i0, ?_⟩
    refine Ct.of (by decide) (L := [(0, vR (some x)), (1, vI p1), (2, vI p2)]) rfl (Nat.le_of_ble_eq_true rfl) (fun C A => ?_)
    refine xr_aload_n A dX1_bestOf_0 0 rfl rfl ?_
    revert hf; refine ab_bdI (fun v1 mv1 hf => ?_)
    refine xr_get A xc_X1 in_X1 9 (Nat.le_of_ble_eq_true rfl) q272 rfl (ab_gRE mv1) dX1_bestOf_1 ?_
    refine xr_iconst A (v := 0) dX1_bestOf_4 (by decide) ?_
    revert hf; refine ab_bdI (fun a2 e hf => ?_); subst e
    revert hf; refine ab_bdI (fun h3 mh3 hf => ?_)
    refine xr_put A xc_X4 in_X4 tyX4_ok nmX4 2 (Nat.le_of_ble_eq_true rfl) q250 rfl rfl (v := vI (0 : Int32)) rfl rfl mh3 dX1_bestOf_5 ?_
    refine xr_aload_n A dX1_bestOf_8 0 rfl rfl ?_
    refine xr_iconst A (v := (-1)) dX1_bestOf_9 (by decide) ?_
    revert hf; refine ab_bdI (fun h4 mh4 hf => ?_)
    refine xr_put A xc_X1 in_X1 tyX1_ok nmX1 11 (Nat.le_of_ble_eq_true rfl) q274 rfl rfl (v := vI (-1 : Int32)) rfl rfl mh4 dX1_bestOf_10 ?_
    refine xr_aload_n A dX1_bestOf_13 0 rfl rfl ?_
    refine xr_aload_n A dX1_bestOf_14 0 rfl rfl ?_
    revert hf; refine ab_bdI (fun v5 mv5 hf => ?_)
    refine xr_get A xc_X1 in_X1 3 (Nat.le_of_ble_eq_true rfl) q266 rfl (ab_gRE mv5) dX1_bestOf_15 ?_
    revert hf; refine ab_bdI (fun a6 e hf => ?_); subst e
    revert hf; refine ab_bdI (fun v7 mv7 hf => ?_)
    refine xr_get A xc_X6 in_X6 4 (Nat.le_of_ble_eq_true rfl) q448 rfl (ab_gRE mv7) dX1_bestOf_18 ?_
    refine xr_iload_n A dX1_bestOf_21 1 rfl rfl ?_
    revert hf; refine ab_bdI (fun a8 e hf => ?_); subst e
    revert hf; refine ab_bdI (fun v9 mv9 hf => ?_)
    refine xr_aaload A (t := 10) rfl mv9 dX1_bestOf_22 ?_
    refine xr_iload_n A dX1_bestOf_23 2 rfl rfl ?_
    revert hf; refine ab_bdI (fun h11 m10 hf => ?_)
    refine xr_V0 A bX1_orders (wX1_orders D 10 m10).2 xc_X1 (wX1_orders D 10 m10).1 q1103 qs34 q1101 (av := [vR v9, vI p2]) (rest := []) rfl dX1_bestOf_24 (Nat.le_of_ble_eq_true rfl) (Nat.le_of_ble_eq_true rfl) rfl (Nat.le_of_ble_eq_true rfl) ?_
    refine xr_aload_n A dX1_bestOf_27 0 rfl rfl ?_
    revert hf; refine ab_bdI (fun v12 mv12 hf => ?_)
    refine xr_get A xc_X1 in_X1 11 (Nat.le_of_ble_eq_true rfl) q274 rfl (ab_gIE mv12) dX1_bestOf_28 ?_
    exact xr_ireturn A rfl hf dX1_bestOf_31
/-! X1_best -/
theorem bX1_best : MB yX1_best cX1_best 4 (some FieldType.int) 2 := ⟨q1089, q92, by decide, by decide +kernel⟩
noncomputable def fX1_best (x : Nat) (p1 : Int32) (p2 : Int32) (h : Hp) : Option (Int32 × Hp) :=
  ab_ck h x 0 <|
  ab_bd (fX1_anew x h) fun h2 =>
  ab_b2 (fX1_bestWhy x p1 p2 h2) fun v5 h4 =>
  if v5 = 0 then (
    ab_b2 (fX1_bestOf x p1 p2 h4) fun v8 h7 =>
    some (v8, h7))
  else (
    ab_b2 (fX1_no x v5 h4) fun v11 h10 =>
    some (v11, h10))
theorem wX1_best (D : Dd) {x : Nat} {p1 : Int32} {p2 : Int32} {h : Hp} {r : Int32} {h' : Hp} (hf : fX1_best x p1 p2 h = some (r, h')) : ab_is h x 0 ∧ Ct D 16 365 yX1_best cX1_best 4 (some FieldType.int) [vR (some x), vI p1, vI p2] h (.inl (some (vI r))) h' := by
    unfold fX1_best at hf
    replace hf := ab_ckE hf; obtain ⟨i0, hf⟩ := hf
    refine ⟨i0, ?_⟩
    refine Ct.of (by decide) (L := [(0, vR (some x)), (1, vI p1), (2, vI p2)]) rfl (Nat.le_of_ble_eq_true rfl) (fun C A => ?_)
    refine xr_aload_n A dX1_best_0 0 rfl rfl ?_
    revert hf; refine ab_bdI (fun h2 m1 hf => ?_)
    refine xr_V0 A bX1_anew (wX1_anew D m1).2 xc_X1 (wX1_anew D m1).1 q402 qs2 q400 (av := []) (rest := []) rfl dX1_best_1 (Nat.le_of_ble_eq_true rfl) (Nat.le_of_ble_eq_true rfl) rfl (Nat.le_of_ble_eq_true rfl) ?_
    refine xr_aload_n A dX1_best_4 0 rfl rfl ?_
    refine xr_iload_n A dX1_best_5 1 rfl rfl ?_
    refine xr_iload_n A dX1_best_6 2 rfl rfl ?_
    revert hf; refine ab_b2I (fun v5 h4 m3 hf => ?_)
    refine xr_V A bX1_bestWhy (wX1_bestWhy D m3).2 xc_X1 (wX1_bestWhy D m3).1 q1092 qs32 q1090 (av := [vI p1, vI p2]) (rest := []) rfl dX1_best_7 (Nat.le_of_ble_eq_true rfl) (Nat.le_of_ble_eq_true rfl) rfl (Nat.le_of_ble_eq_true rfl) ?_
    refine xr_istore_n A dX1_best_10 rfl (Nat.le_of_ble_eq_true rfl) (L' := [(3, vI v5), (0, vR (some x)), (1, vI p1), (2, vI p2)]) rfl ?_
    refine xr_iload_n A dX1_best_11 0 rfl rfl ?_
    refine xr_if_eq A (tgt := 23) dX1_best_12 (by decide) (fun c12 => ?_) (fun c12 => ?_)
    · replace hf := ab_ip c12 hf
      refine xr_aload_n A dX1_best_23 1 rfl rfl ?_
      refine xr_iload_n A dX1_best_24 2 rfl rfl ?_
      refine xr_iload_n A dX1_best_25 3 rfl rfl ?_
      revert hf; refine ab_b2I (fun v8 h7 m6 hf => ?_)
      refine xr_V A bX1_bestOf (wX1_bestOf D m6).2 xc_X1 (wX1_bestOf D m6).1 q1099 qs33 q1097 (av := [vI p1, vI p2]) (rest := []) rfl dX1_best_26 (Nat.le_of_ble_eq_true rfl) (Nat.le_of_ble_eq_true rfl) rfl (Nat.le_of_ble_eq_true rfl) ?_
      exact xr_ireturn A rfl hf dX1_best_29
    · replace hf := ab_in c12 hf
      refine xr_aload_n A dX1_best_15 1 rfl rfl ?_
      refine xr_iload_n A dX1_best_16 0 rfl rfl ?_
      revert hf; refine ab_b2I (fun v11 h10 m9 hf => ?_)
      refine xr_V A bX1_no (wX1_no D m9).2 xc_X1 (wX1_no D m9).1 q409 qs3 q407 (av := [vI v5]) (rest := []) rfl dX1_best_17 (Nat.le_of_ble_eq_true rfl) (Nat.le_of_ble_eq_true rfl) rfl (Nat.le_of_ble_eq_true rfl) ?_
      refine xr_goto A (tgt := 29) dX1_best_20 (by decide) ?_
      exact xr_ireturn A rfl hf dX1_best_29
/-! X1_bestAt -/
theorem bX1_bestAt : MB yX1_bestAt cX1_bestAt 5 (some FieldType.int) 3 := ⟨q1125, q92, by decide, by decide +kernel⟩
noncomputable def fX1_bestAt (x : Nat) (p1 : Int32) (p2 : Int32) (p3 : Int32) (h : Hp) : Option (Int32 × Hp) :=
  ab_ck h x 0 <|
  ab_bd (fX1_anew x h) fun h2 =>
  ab_b2 (fX1_bestWhy x p1 p2 h2) fun v5 h4 =>
  if v5 = 0 then (
    ab_b2 (fX1_ones p2 h4) fun v8 h7 =>
    ab_b2 (fX1_in p3 (0 : Int32) (v8 - (1 : Int32)) h7) fun v11 h10 =>
    if v11 = 0 then (
      ab_b2 (fX1_no x (1 : Int32) h10) fun v22 h21 =>
      some (v22, h21))
    else (
      ab_b2 (fX1_bestOf x p1 p2 h10) fun v14 h13 =>
      ab_bd (ab_gR h13 x 0 10) fun v15 =>
      ab_bd v15 fun a16 =>
      ab_bd (ab_gR h13 a16 3 0) fun v17 =>
      ab_bd v17 fun a18 =>
      ab_bd (ab_aI h13 a18 0 p3) fun v19 =>
      some (v19, h13)))
  else (
    ab_b2 (fX1_no x v5 h4) fun v25 h24 =>
    some (v25, h24))
theorem wX1_bestAt (D : Dd) {x : Nat} {p1 : Int32} {p2 : Int32} {p3 : Int32} {h : Hp} {r : Int32} {h' : Hp} (hf : fX1_bestAt x p1 p2 p3 h = some (r, h')) : ab_is h x 0 ∧ Ct D 16 365 yX1_bestAt cX1_bestAt 5 (some FieldType.int) [vR (some x), vI p1, vI p2, vI p3] h (.inl (some (vI r))) h' := by
    unfold fX1_bestAt at hf
    replace hf := ab_ckE hf; obtain ⟨i0, hf⟩ := hf
    refine ⟨i0, ?_⟩
    refine Ct.of (by decide) (L := [(0, vR (some x)), (1, vI p1), (2, vI p2), (3, vI p3)]) rfl (Nat.le_of_ble_eq_true rfl) (fun C A => ?_)
    refine xr_aload_n A dX1_bestAt_0 0 rfl rfl ?_
    revert hf; refine ab_bdI (fun h2 m1 hf => ?_)
    refine xr_V0 A bX1_anew (wX1_anew D m1).2 xc_X1 (wX1_anew D m1).1 q402 qs2 q400 (av := []) (rest := []) rfl dX1_bestAt_1 (Nat.le_of_ble_eq_true rfl) (Nat.le_of_ble_eq_true rfl) rfl (Nat.le_of_ble_eq_true rfl) ?_
    refine xr_aload_n A dX1_bestAt_4 0 rfl rfl ?_
    refine xr_iload_n A dX1_bestAt_5 1 rfl rfl ?_
    refine xr_iload_n A dX1_bestAt_6 2 rfl rfl ?_
    revert hf; refine ab_b2I (fun v5 h4 m3 hf => ?_)
    refine xr_V A bX1_bestWhy (wX1_bestWhy D m3).2 xc_X1 (wX1_bestWhy D m3).1 q1092 qs32 q1090 (av := [vI p1, vI p2]) (rest := []) rfl dX1_bestAt_7 (Nat.le_of_ble_eq_true rfl) (Nat.le_of_ble_eq_true rfl) rfl (Nat.le_of_ble_eq_true rfl) ?_
    refine xr_istore A dX1_bestAt_10 (Nat.le_of_ble_eq_true rfl) (L' := [(4, vI v5), (0, vR (some x)), (1, vI p1), (2, vI p2), (3, vI p3)]) rfl ?_
    refine xr_iload A dX1_bestAt_12 0 rfl ?_
    refine xr_if_eq A (tgt := 24) dX1_bestAt_14 (by decide) (fun c14 => ?_) (fun c14 => ?_)
    · replace hf := ab_ip c14 hf
      refine xr_iload_n A dX1_bestAt_24 4 rfl rfl ?_
      refine xr_iconst A (v := 0) dX1_bestAt_25 (by decide) ?_
      refine xr_iload_n A dX1_bestAt_26 3 rfl rfl ?_
      revert hf; refine ab_b2I (fun v8 h7 m6 hf => ?_)
      refine xr_S A bX1_ones (wX1_ones D m6) q1095 q1094 (av := [vI p2]) (rest := [vI (0 : Int32), vI p3]) rfl dX1_bestAt_27 (Nat.le_of_ble_eq_true rfl) (Nat.le_of_ble_eq_true rfl) rfl (Nat.le_of_ble_eq_true rfl) ?_
      refine xr_iconst A (v := 1) dX1_bestAt_30 (by decide) ?_
      refine xr_isub A dX1_bestAt_31 ?_
      revert hf; refine ab_b2I (fun v11 h10 m9 hf => ?_)
      refine xr_S A bX1_in (wX1_in D m9) q405 q404 (av := [vI p3, vI (0 : Int32), vI (v8 - (1 : Int32))]) (rest := []) rfl dX1_bestAt_32 (Nat.le_of_ble_eq_true rfl) (Nat.le_of_ble_eq_true rfl) rfl (Nat.le_of_ble_eq_true rfl) ?_
      refine xr_if_ne A (tgt := 44) dX1_bestAt_35 (by decide) (fun c35 => ?_) (fun c35 => ?_)
      · replace hf := ab_in c35 hf
        refine xr_aload_n A dX1_bestAt_44 1 rfl rfl ?_
        refine xr_iload_n A dX1_bestAt_45 2 rfl rfl ?_
        refine xr_iload_n A dX1_bestAt_46 3 rfl rfl ?_
        revert hf; refine ab_b2I (fun v14 h13 m12 hf => ?_)
        refine xr_V A bX1_bestOf (wX1_bestOf D m12).2 xc_X1 (wX1_bestOf D m12).1 q1099 qs33 q1097 (av := [vI p1, vI p2]) (rest := []) rfl dX1_bestAt_47 (Nat.le_of_ble_eq_true rfl) (Nat.le_of_ble_eq_true rfl) rfl (Nat.le_of_ble_eq_true rfl) ?_
        refine xr_pop A dX1_bestAt_50 rfl ?_
        refine xr_aload_n A dX1_bestAt_51 1 rfl rfl ?_
        revert hf; refine ab_bdI (fun v15 mv15 hf => ?_)
        refine xr_get A xc_X1 in_X1 10 (Nat.le_of_ble_eq_true rfl) q273 rfl (ab_gRE mv15) dX1_bestAt_52 ?_
        revert hf; refine ab_bdI (fun a16 e hf => ?_); subst e
        revert hf; refine ab_bdI (fun v17 mv17 hf => ?_)
        refine xr_get A xc_X4 in_X4 0 (Nat.le_of_ble_eq_true rfl) q246 rfl (ab_gRE mv17) dX1_bestAt_55 ?_
        refine xr_iload_n A dX1_bestAt_58 4 rfl rfl ?_
        revert hf; refine ab_bdI (fun a18 e hf => ?_); subst e
        revert hf; refine ab_bdI (fun v19 mv19 hf => ?_)
        refine xr_iaload A mv19 dX1_bestAt_59 ?_
        exact xr_ireturn A rfl hf dX1_bestAt_60
      · replace hf := ab_ip c35 hf
        refine xr_aload_n A dX1_bestAt_38 1 rfl rfl ?_
        refine xr_iconst A (v := 1) dX1_bestAt_39 (by decide) ?_
        revert hf; refine ab_b2I (fun v22 h21 m20 hf => ?_)
        refine xr_V A bX1_no (wX1_no D m20).2 xc_X1 (wX1_no D m20).1 q409 qs3 q407 (av := [vI (1 : Int32)]) (rest := []) rfl dX1_bestAt_40 (Nat.le_of_ble_eq_true rfl) (Nat.le_of_ble_eq_true rfl) rfl (Nat.le_of_ble_eq_true rfl) ?_
        exact xr_ireturn A rfl hf dX1_bestAt_43
    · replace hf := ab_in c14 hf
      refine xr_aload_n A dX1_bestAt_17 1 rfl rfl ?_
      refine xr_iload A dX1_bestAt_18 0 rfl ?_
      revert hf; refine ab_b2I (fun v25 h24 m23 hf => ?_)
      refine xr_V A bX1_no (wX1_no D m23).2 xc_X1 (wX1_no D m23).1 q409 qs3 q407 (av := [vI v5]) (rest := []) rfl dX1_bestAt_20 (Nat.le_of_ble_eq_true rfl) (Nat.le_of_ble_eq_true rfl) rfl (Nat.le_of_ble_eq_true rfl) ?_
      exact xr_ireturn A rfl hf dX1_bestAt_23
/-! X1_shares -/
theorem bX1_shares : MB yX1_shares cX1_shares 4 (none : Option FieldType) 1 := ⟨q1133, q92, by decide, by decide +kernel⟩
noncomputable def fX1_shares_l103 (x : Nat) (rec : Int32 → Hp → Option Hp) : Nat → Int32 → Int32 → Hp → Option Hp
  | 0, _, _, _ => none
  | n + 1, l1, l2, h =>
  ab_bd (ab_gR h x 0 3) fun v1 =>
  ab_bd v1 fun a2 =>
  ab_bd (ab_gI h a2 5 13) fun v3 =>
  if v3 ≤ l2 then (
    some h)
  else (
    ab_bd (ab_gR h x 0 13) fun v4 =>
    ab_bd v4 fun a5 =>
    ab_bd (ab_aI h a5 0 l2) fun v6 =>
    ab_b2 (fX1_ones v6 h) fun v9 h8 =>
    ab_bd (ab_gR h8 x 0 3) fun v10 =>
    ab_bd v10 fun a11 =>
    ab_bd (ab_gR h8 a11 5 4) fun v12 =>
    ab_bd v12 fun a13 =>
    ab_bd (ab_aR h8 a13 10 l2) fun v14 =>
    ab_bd v14 fun a15 =>
    ab_bd (ab_gI h8 a15 10 4) fun v16 =>
    if v9 = v16 then (
      fX1_shares_l103 x rec n l1 (l2 + (1 : Int32)) h8)
    else (
      ab_bd (ab_gR h8 x 0 13) fun v17 =>
      ab_bd v17 fun a18 =>
      ab_bd (ab_aI h8 a18 0 l2) fun v19 =>
      ab_bd (ab_sI h8 a18 l2 (v19 ||| ((1 : Int32) <<< (l1 &&& 31)))) fun h20 =>
      ab_bd (ab_gR h20 x 0 14) fun v21 =>
      ab_bd v21 fun a22 =>
      ab_bd (ab_sI h20 a22 l1 l2) fun h23 =>
      ab_bd (rec (l1 + (1 : Int32)) h23) fun h25 =>
      ab_bd (ab_gR h25 x 0 13) fun v26 =>
      ab_bd v26 fun a27 =>
      ab_bd (ab_aI h25 a27 0 l2) fun v28 =>
      ab_bd (ab_sI h25 a27 l2 (v28 &&& (((1 : Int32) <<< (l1 &&& 31)) ^^^ (-1 : Int32)))) fun h29 =>
      fX1_shares_l103 x rec n l1 (l2 + (1 : Int32)) h29))
theorem wX1_shares_l103 {D : Dd} {C : Cx} {h0 h' : Hp} {k : Nat} (A : Act C D (h0, (.inl none), h') yX1_shares cX1_shares 4 (none : Option FieldType) (2 + (k + 1)) (42 + (k + 1) * 23) []) {x : Nat} {rec : Int32 → Hp → Option Hp} (hrec : ∀ {p1 : Int32} {h0 : Hp} {h' : Hp}, rec p1 h0 = some h' → ab_is h0 x 0 ∧ Ct D (2 + k) (42 + k * 23) yX1_shares cX1_shares 4 (none : Option FieldType) [vR (some x), vI p1] h0 (.inl none) h') : ∀ (n : Nat) {l1 : Int32} {l2 : Int32} {h : Hp}, fX1_shares_l103 x rec n l1 l2 h = some h' → X C D (h0, (.inl none), h') 4 103 [(0, vR (some x)), (1, vI l1), (2, vI l2)] [] h := by
  intro n
  induction n with
  | zero => intro l1 l2 h hf; exact ab_no hf
  | succ n ih =>
    intro l1 l2 h hf
    unfold fX1_shares_l103 at hf
    refine xr_iload_n A dX1_shares_103 2 rfl rfl ?_
    refine xr_aload_n A dX1_shares_104 0 rfl rfl ?_
    revert hf; refine ab_bdI (fun v1 mv1 hf => ?_)
    refine xr_get A xc_X1 in_X1 3 (Nat.le_of_ble_eq_true rfl) q266 rfl (ab_gRE mv1) dX1_shares_105 ?_
    revert hf; refine ab_bdI (fun a2 e hf => ?_); subst e
    revert hf; refine ab_bdI (fun v3 mv3 hf => ?_)
    refine xr_get A xc_X6 in_X6 13 (Nat.le_of_ble_eq_true rfl) q473 rfl (ab_gIE mv3) dX1_shares_108 ?_
    refine xr_icmp_ge A (tgt := 187) dX1_shares_111 (by decide) (fun c111 => ?_) (fun c111 => ?_)
    · replace hf := ab_ip c111 hf
      exact xr_return A hf dX1_shares_187
    · replace hf := ab_in c111 hf
      refine xr_aload_n A dX1_shares_114 0 rfl rfl ?_
      revert hf; refine ab_bdI (fun v4 mv4 hf => ?_)
      refine xr_get A xc_X1 in_X1 13 (Nat.le_of_ble_eq_true rfl) q276 rfl (ab_gRE mv4) dX1_shares_115 ?_
      refine xr_iload_n A dX1_shares_118 2 rfl rfl ?_
      revert hf; refine ab_bdI (fun a5 e hf => ?_); subst e
      revert hf; refine ab_bdI (fun v6 mv6 hf => ?_)
      refine xr_iaload A mv6 dX1_shares_119 ?_
      revert hf; refine ab_b2I (fun v9 h8 m7 hf => ?_)
      refine xr_S A bX1_ones (wX1_ones D m7) q1095 q1094 (av := [vI v6]) (rest := []) rfl dX1_shares_120 (by omega) (by omega) rfl (Nat.le_of_ble_eq_true rfl) ?_
      refine xr_aload_n A dX1_shares_123 0 rfl rfl ?_
      revert hf; refine ab_bdI (fun v10 mv10 hf => ?_)
      refine xr_get A xc_X1 in_X1 3 (Nat.le_of_ble_eq_true rfl) q266 rfl (ab_gRE mv10) dX1_shares_124 ?_
      revert hf; refine ab_bdI (fun a11 e hf => ?_); subst e
      revert hf; refine ab_bdI (fun v12 mv12 hf => ?_)
      refine xr_get A xc_X6 in_X6 4 (Nat.le_of_ble_eq_true rfl) q448 rfl (ab_gRE mv12) dX1_shares_127 ?_
      refine xr_iload_n A dX1_shares_130 2 rfl rfl ?_
      revert hf; refine ab_bdI (fun a13 e hf => ?_); subst e
      revert hf; refine ab_bdI (fun v14 mv14 hf => ?_)
      refine xr_aaload A (t := 10) rfl mv14 dX1_shares_131 ?_
      revert hf; refine ab_bdI (fun a15 e hf => ?_); subst e
      revert hf; refine ab_bdI (fun v16 mv16 hf => ?_)
      refine xr_get A xc_X12 in_X12 4 (Nat.le_of_ble_eq_true rfl) q918 rfl (ab_gIE mv16) dX1_shares_132 ?_
      refine xr_icmp_ne A (tgt := 141) dX1_shares_135 (by decide) (fun c135 => ?_) (fun c135 => ?_)
      · replace hf := ab_in c135 hf
        refine xr_aload_n A dX1_shares_141 0 rfl rfl ?_
        revert hf; refine ab_bdI (fun v17 mv17 hf => ?_)
        refine xr_get A xc_X1 in_X1 13 (Nat.le_of_ble_eq_true rfl) q276 rfl (ab_gRE mv17) dX1_shares_142 ?_
        refine xr_iload_n A dX1_shares_145 2 rfl rfl ?_
        refine xr_dup2 A dX1_shares_146 rfl rfl ?_
        revert hf; refine ab_bdI (fun a18 e hf => ?_); subst e
        revert hf; refine ab_bdI (fun v19 mv19 hf => ?_)
        refine xr_iaload A mv19 dX1_shares_147 ?_
        refine xr_iconst A (v := 1) dX1_shares_148 (by decide) ?_
        refine xr_iload_n A dX1_shares_149 1 rfl rfl ?_
        refine xr_ishl A dX1_shares_150 ?_
        refine xr_ior A dX1_shares_151 ?_
        revert hf; refine ab_bdI (fun h20 mh20 hf => ?_)
        refine xr_iastore A mh20 dX1_shares_152 ?_
        refine xr_aload_n A dX1_shares_153 0 rfl rfl ?_
        revert hf; refine ab_bdI (fun v21 mv21 hf => ?_)
        refine xr_get A xc_X1 in_X1 14 (Nat.le_of_ble_eq_true rfl) q277 rfl (ab_gRE mv21) dX1_shares_154 ?_
        refine xr_iload_n A dX1_shares_157 1 rfl rfl ?_
        refine xr_iload_n A dX1_shares_158 2 rfl rfl ?_
        revert hf; refine ab_bdI (fun a22 e hf => ?_); subst e
        revert hf; refine ab_bdI (fun h23 mh23 hf => ?_)
        refine xr_iastore A mh23 dX1_shares_159 ?_
        refine xr_aload_n A dX1_shares_160 0 rfl rfl ?_
        refine xr_iload_n A dX1_shares_161 1 rfl rfl ?_
        refine xr_iconst A (v := 1) dX1_shares_162 (by decide) ?_
        refine xr_iadd A dX1_shares_163 ?_
        revert hf; refine ab_bdI (fun h25 m24 hf => ?_)
        refine xr_V0 A bX1_shares (hrec m24).2 xc_X1 (hrec m24).1 q1132 qs35 q1130 (av := [vI (l1 + (1 : Int32))]) (rest := []) rfl dX1_shares_164 (by omega) (by omega) rfl (Nat.le_of_ble_eq_true rfl) ?_
        refine xr_aload_n A dX1_shares_167 0 rfl rfl ?_
        revert hf; refine ab_bdI (fun v26 mv26 hf => ?_)
        refine xr_get A xc_X1 in_X1 13 (Nat.le_of_ble_eq_true rfl) q276 rfl (ab_gRE mv26) dX1_shares_168 ?_
        refine xr_iload_n A dX1_shares_171 2 rfl rfl ?_
        refine xr_dup2 A dX1_shares_172 rfl rfl ?_
        revert hf; refine ab_bdI (fun a27 e hf => ?_); subst e
        revert hf; refine ab_bdI (fun v28 mv28 hf => ?_)
        refine xr_iaload A mv28 dX1_shares_173 ?_
        refine xr_iconst A (v := 1) dX1_shares_174 (by decide) ?_
        refine xr_iload_n A dX1_shares_175 1 rfl rfl ?_
        refine xr_ishl A dX1_shares_176 ?_
        refine xr_iconst A (v := (-1)) dX1_shares_177 (by decide) ?_
        refine xr_ixor A dX1_shares_178 ?_
        refine xr_iand A dX1_shares_179 ?_
        revert hf; refine ab_bdI (fun h29 mh29 hf => ?_)
        refine xr_iastore A mh29 dX1_shares_180 ?_
        refine xr_iinc A dX1_shares_181 2 rfl (v := (l2 + (1 : Int32))) rfl (Nat.le_of_ble_eq_true rfl) (L' := [(2, vI (l2 + (1 : Int32))), (0, vR (some x)), (1, vI l1)]) rfl ?_
        refine xr_goto A (tgt := 103) dX1_shares_184 (by decide) ?_
        refine X.sub [1, 2, 0] rfl ?_
        exact ih hf
      · replace hf := ab_ip c135 hf
        refine xr_goto A (tgt := 181) dX1_shares_138 (by decide) ?_
        refine xr_iinc A dX1_shares_181 2 rfl (v := (l2 + (1 : Int32))) rfl (Nat.le_of_ble_eq_true rfl) (L' := [(2, vI (l2 + (1 : Int32))), (0, vR (some x)), (1, vI l1)]) rfl ?_
        refine xr_goto A (tgt := 103) dX1_shares_184 (by decide) ?_
        refine X.sub [1, 2, 0] rfl ?_
        exact ih hf
noncomputable def fX1_shares_b81 (x : Nat) (rec : Int32 → Hp → Option Hp) (l1 : Int32) (l2 : Int32) (h : Hp) : Option Hp :=
  ab_bd (ab_pI h x 0 17 l2) fun h1 =>
  ab_bd (ab_gR h1 x 0 14) fun v2 =>
  ab_bd (ab_gR h1 x 0 18) fun v3 =>
  ab_bd v2 fun a4 =>
  ab_bd v3 fun a5 =>
  ab_bd (ab_cpy h1 a4 (0 : Int32) a5 (0 : Int32) l1) fun h6 =>
  some h6
theorem wX1_shares_b81 {D : Dd} {C : Cx} {h0 h' : Hp} {k : Nat} (A : Act C D (h0, (.inl none), h') yX1_shares cX1_shares 4 (none : Option FieldType) (2 + (k + 1)) (42 + (k + 1) * 23) []) {x : Nat} {rec : Int32 → Hp → Option Hp} (hrec : ∀ {p1 : Int32} {h0 : Hp} {h' : Hp}, rec p1 h0 = some h' → ab_is h0 x 0 ∧ Ct D (2 + k) (42 + k * 23) yX1_shares cX1_shares 4 (none : Option FieldType) [vR (some x), vI p1] h0 (.inl none) h') {l1 : Int32} {l2 : Int32} {h : Hp} (hf : fX1_shares_b81 x rec l1 l2 h = some h') : X C D (h0, (.inl none), h') 4 81 [(0, vR (some x)), (1, vI l1), (2, vI l2)] [] h := by
  unfold fX1_shares_b81 at hf
  refine xr_aload_n A dX1_shares_81 0 rfl rfl ?_
  refine xr_iload_n A dX1_shares_82 2 rfl rfl ?_
  revert hf; refine ab_bdI (fun h1 mh1 hf => ?_)
  refine xr_put A xc_X1 in_X1 tyX1_ok nmX1 17 (Nat.le_of_ble_eq_true rfl) q280 rfl rfl (v := vI l2) rfl rfl mh1 dX1_shares_83 ?_
  refine xr_aload_n A dX1_shares_86 0 rfl rfl ?_
  revert hf; refine ab_bdI (fun v2 mv2 hf => ?_)
  refine xr_get A xc_X1 in_X1 14 (Nat.le_of_ble_eq_true rfl) q277 rfl (ab_gRE mv2) dX1_shares_87 ?_
  refine xr_iconst A (v := 0) dX1_shares_90 (by decide) ?_
  refine xr_aload_n A dX1_shares_91 0 rfl rfl ?_
  revert hf; refine ab_bdI (fun v3 mv3 hf => ?_)
  refine xr_get A xc_X1 in_X1 18 (Nat.le_of_ble_eq_true rfl) q281 rfl (ab_gRE mv3) dX1_shares_92 ?_
  refine xr_iconst A (v := 0) dX1_shares_95 (by decide) ?_
  refine xr_iload_n A dX1_shares_96 1 rfl rfl ?_
  revert hf; refine ab_bdI (fun a4 e hf => ?_); subst e
  revert hf; refine ab_bdI (fun a5 e hf => ?_); subst e
  revert hf; refine ab_bdI (fun h6 mh6 hf => ?_)
  refine xr_cpy A q1134 q1120 q1119 q116 mh6 dX1_shares_97 (by omega) (by have := x_nfw; omega) (Nat.le_of_ble_eq_true rfl) ?_
  exact xr_return A hf dX1_shares_100
noncomputable def fX1_shares_l15 (x : Nat) (rec : Int32 → Hp → Option Hp) : Nat → Int32 → Int32 → Int32 → Hp → Option Hp
  | 0, _, _, _, _ => none
  | n + 1, l1, l2, l3, h =>
  ab_bd (ab_gR h x 0 3) fun v1 =>
  ab_bd v1 fun a2 =>
  ab_bd (ab_gI h a2 5 13) fun v3 =>
  if v3 ≤ l3 then (
    ab_bd (ab_gI h x 0 17) fun v4 =>
    if v4 = (-1 : Int32) then (
      fX1_shares_b81 x rec l1 l2 h)
    else (
      ab_bd (ab_gI h x 0 17) fun v5 =>
      if l2 < v5 then (
        fX1_shares_b81 x rec l1 l2 h)
      else (
        some h)))
  else (
    ab_bd (ab_gR h x 0 13) fun v6 =>
    ab_bd v6 fun a7 =>
    ab_bd (ab_aI h a7 0 l3) fun v8 =>
    if v8 = 0 then (
      fX1_shares_l15 x rec n l1 (l2 + (0 : Int32)) (l3 + (1 : Int32)) h)
    else (
      ab_bd (ab_gR h x 0 12) fun v9 =>
      ab_bd (ab_gR h x 0 13) fun v10 =>
      ab_bd v10 fun a11 =>
      ab_bd (ab_aI h a11 0 l3) fun v12 =>
      ab_bd v9 fun a13 =>
      ab_bd (ab_aI h a13 0 ((l3 <<< ((6 : Int32) &&& 31)) + v12)) fun v14 =>
      fX1_shares_l15 x rec n l1 (l2 + v14) (l3 + (1 : Int32)) h))
theorem wX1_shares_l15 {D : Dd} {C : Cx} {h0 h' : Hp} {k : Nat} (A : Act C D (h0, (.inl none), h') yX1_shares cX1_shares 4 (none : Option FieldType) (2 + (k + 1)) (42 + (k + 1) * 23) []) {x : Nat} {rec : Int32 → Hp → Option Hp} (hrec : ∀ {p1 : Int32} {h0 : Hp} {h' : Hp}, rec p1 h0 = some h' → ab_is h0 x 0 ∧ Ct D (2 + k) (42 + k * 23) yX1_shares cX1_shares 4 (none : Option FieldType) [vR (some x), vI p1] h0 (.inl none) h') : ∀ (n : Nat) {l1 : Int32} {l2 : Int32} {l3 : Int32} {h : Hp}, fX1_shares_l15 x rec n l1 l2 l3 h = some h' → X C D (h0, (.inl none), h') 4 15 [(0, vR (some x)), (1, vI l1), (2, vI l2), (3, vI l3)] [] h := by
  intro n
  induction n with
  | zero => intro l1 l2 l3 h hf; exact ab_no hf
  | succ n ih =>
    intro l1 l2 l3 h hf
    unfold fX1_shares_l15 at hf
    refine xr_iload_n A dX1_shares_15 3 rfl rfl ?_
    refine xr_aload_n A dX1_shares_16 0 rfl rfl ?_
    revert hf; refine ab_bdI (fun v1 mv1 hf => ?_)
    refine xr_get A xc_X1 in_X1 3 (Nat.le_of_ble_eq_true rfl) q266 rfl (ab_gRE mv1) dX1_shares_17 ?_
    revert hf; refine ab_bdI (fun a2 e hf => ?_); subst e
    revert hf; refine ab_bdI (fun v3 mv3 hf => ?_)
    refine xr_get A xc_X6 in_X6 13 (Nat.le_of_ble_eq_true rfl) q473 rfl (ab_gIE mv3) dX1_shares_20 ?_
    refine xr_icmp_ge A (tgt := 64) dX1_shares_23 (by decide) (fun c23 => ?_) (fun c23 => ?_)
    · replace hf := ab_ip c23 hf
      refine xr_aload_n A dX1_shares_64 0 rfl rfl ?_
      revert hf; refine ab_bdI (fun v4 mv4 hf => ?_)
      refine xr_get A xc_X1 in_X1 17 (Nat.le_of_ble_eq_true rfl) q280 rfl (ab_gIE mv4) dX1_shares_65 ?_
      refine xr_iconst A (v := (-1)) dX1_shares_68 (by decide) ?_
      refine xr_icmp_eq A (tgt := 81) dX1_shares_69 (by decide) (fun c69 => ?_) (fun c69 => ?_)
      · replace hf := ab_ip c69 hf
        refine X.sub [0, 1, 2] rfl ?_
        exact wX1_shares_b81 A @hrec hf
      · replace hf := ab_in c69 hf
        refine xr_iload_n A dX1_shares_72 2 rfl rfl ?_
        refine xr_aload_n A dX1_shares_73 0 rfl rfl ?_
        revert hf; refine ab_bdI (fun v5 mv5 hf => ?_)
        refine xr_get A xc_X1 in_X1 17 (Nat.le_of_ble_eq_true rfl) q280 rfl (ab_gIE mv5) dX1_shares_74 ?_
        refine xr_icmp_lt A (tgt := 81) dX1_shares_77 (by decide) (fun c77 => ?_) (fun c77 => ?_)
        · replace hf := ab_ip c77 hf
          refine X.sub [0, 1, 2] rfl ?_
          exact wX1_shares_b81 A @hrec hf
        · replace hf := ab_in c77 hf
          exact xr_return A hf dX1_shares_80
    · replace hf := ab_in c23 hf
      refine xr_iload_n A dX1_shares_26 2 rfl rfl ?_
      refine xr_aload_n A dX1_shares_27 0 rfl rfl ?_
      revert hf; refine ab_bdI (fun v6 mv6 hf => ?_)
      refine xr_get A xc_X1 in_X1 13 (Nat.le_of_ble_eq_true rfl) q276 rfl (ab_gRE mv6) dX1_shares_28 ?_
      refine xr_iload_n A dX1_shares_31 3 rfl rfl ?_
      revert hf; refine ab_bdI (fun a7 e hf => ?_); subst e
      revert hf; refine ab_bdI (fun v8 mv8 hf => ?_)
      refine xr_iaload A mv8 dX1_shares_32 ?_
      refine xr_if_ne A (tgt := 40) dX1_shares_33 (by decide) (fun c33 => ?_) (fun c33 => ?_)
      · replace hf := ab_in c33 hf
        refine xr_aload_n A dX1_shares_40 0 rfl rfl ?_
        revert hf; refine ab_bdI (fun v9 mv9 hf => ?_)
        refine xr_get A xc_X1 in_X1 12 (Nat.le_of_ble_eq_true rfl) q275 rfl (ab_gRE mv9) dX1_shares_41 ?_
        refine xr_iload_n A dX1_shares_44 3 rfl rfl ?_
        refine xr_bipush A (v := 6) dX1_shares_45 (by decide) ?_
        refine xr_ishl A dX1_shares_47 ?_
        refine xr_aload_n A dX1_shares_48 0 rfl rfl ?_
        revert hf; refine ab_bdI (fun v10 mv10 hf => ?_)
        refine xr_get A xc_X1 in_X1 13 (Nat.le_of_ble_eq_true rfl) q276 rfl (ab_gRE mv10) dX1_shares_49 ?_
        refine xr_iload_n A dX1_shares_52 3 rfl rfl ?_
        revert hf; refine ab_bdI (fun a11 e hf => ?_); subst e
        revert hf; refine ab_bdI (fun v12 mv12 hf => ?_)
        refine xr_iaload A mv12 dX1_shares_53 ?_
        refine xr_iadd A dX1_shares_54 ?_
        revert hf; refine ab_bdI (fun a13 e hf => ?_); subst e
        revert hf; refine ab_bdI (fun v14 mv14 hf => ?_)
        refine xr_iaload A mv14 dX1_shares_55 ?_
        refine xr_iadd A dX1_shares_56 ?_
        refine xr_istore_n A dX1_shares_57 rfl (Nat.le_of_ble_eq_true rfl) (L' := [(2, vI (l2 + v14)), (0, vR (some x)), (1, vI l1), (3, vI l3)]) rfl ?_
        refine xr_iinc A dX1_shares_58 3 rfl (v := (l3 + (1 : Int32))) rfl (Nat.le_of_ble_eq_true rfl) (L' := [(3, vI (l3 + (1 : Int32))), (2, vI (l2 + v14)), (0, vR (some x)), (1, vI l1)]) rfl ?_
        refine xr_goto A (tgt := 15) dX1_shares_61 (by decide) ?_
        refine X.sub [2, 3, 1, 0] rfl ?_
        exact ih hf
      · replace hf := ab_ip c33 hf
        refine xr_iconst A (v := 0) dX1_shares_36 (by decide) ?_
        refine xr_goto A (tgt := 56) dX1_shares_37 (by decide) ?_
        refine xr_iadd A dX1_shares_56 ?_
        refine xr_istore_n A dX1_shares_57 rfl (Nat.le_of_ble_eq_true rfl) (L' := [(2, vI (l2 + (0 : Int32))), (0, vR (some x)), (1, vI l1), (3, vI l3)]) rfl ?_
        refine xr_iinc A dX1_shares_58 3 rfl (v := (l3 + (1 : Int32))) rfl (Nat.le_of_ble_eq_true rfl) (L' := [(3, vI (l3 + (1 : Int32))), (2, vI (l2 + (0 : Int32))), (0, vR (some x)), (1, vI l1)]) rfl ?_
        refine xr_goto A (tgt := 15) dX1_shares_61 (by decide) ?_
        refine X.sub [2, 3, 1, 0] rfl ?_
        exact ih hf
noncomputable def fX1_shares : Nat → Nat → Int32 → Hp → Option Hp
  | 0, _, _, _ => none
  | n + 1, x, p1, h =>
  ab_ck h x 0 <|
  ab_bd (ab_gR h x 0 3) fun v1 =>
  ab_bd v1 fun a2 =>
  ab_bd (ab_gI h a2 5 12) fun v3 =>
  if p1 = v3 then (
    fX1_shares_l15 x (fX1_shares n x) (hfu h) p1 (0 : Int32) (0 : Int32) h)
  else (
    fX1_shares_l103 x (fX1_shares n x) (hfu h) p1 (0 : Int32) h)
theorem wX1_shares (D : Dd) : ∀ (n : Nat) {x : Nat} {p1 : Int32} {h : Hp} {h' : Hp}, fX1_shares n x p1 h = some h' → ab_is h x 0 ∧ Ct D (2 + n) (42 + n * 23) yX1_shares cX1_shares 4 (none : Option FieldType) [vR (some x), vI p1] h (.inl none) h' := by
  intro n
  induction n with
  | zero => intros; rename_i hf; exact ab_no hf
  | succ n ih =>
    intro x p1 h h' hf
    unfold fX1_shares at hf
    replace hf := ab_ckE hf; obtain ⟨i0, hf⟩ := hf
    refine ⟨i0, ?_⟩
    refine Ct.of (by decide) (L := [(0, vR (some x)), (1, vI p1)]) rfl (Nat.le_of_ble_eq_true rfl) (fun C A => ?_)
    have hrec : ∀ {p1 : Int32} {h0 : Hp} {h' : Hp}, fX1_shares n x p1 h0 = some h' → ab_is h0 x 0 ∧ Ct D (2 + n) (42 + n * 23) yX1_shares cX1_shares 4 (none : Option FieldType) [vR (some x), vI p1] h0 (.inl none) h' := fun hf => ih hf
    refine xr_iload_n A dX1_shares_0 1 rfl rfl ?_
    refine xr_aload_n A dX1_shares_1 0 rfl rfl ?_
    revert hf; refine ab_bdI (fun v1 mv1 hf => ?_)
    refine xr_get A xc_X1 in_X1 3 (Nat.le_of_ble_eq_true rfl) q266 rfl (ab_gRE mv1) dX1_shares_2 ?_
    revert hf; refine ab_bdI (fun a2 e hf => ?_); subst e
    revert hf; refine ab_bdI (fun v3 mv3 hf => ?_)
    refine xr_get A xc_X6 in_X6 12 (Nat.le_of_ble_eq_true rfl) q470 rfl (ab_gIE mv3) dX1_shares_5 ?_
    refine xr_icmp_ne A (tgt := 101) dX1_shares_8 (by decide) (fun c8 => ?_) (fun c8 => ?_)
    · replace hf := ab_in c8 hf
      refine xr_iconst A (v := 0) dX1_shares_101 (by decide) ?_
      refine xr_istore_n A dX1_shares_102 rfl (Nat.le_of_ble_eq_true rfl) (L' := [(2, vI (0 : Int32)), (0, vR (some x)), (1, vI p1)]) rfl ?_
      refine X.sub [1, 2, 0] rfl ?_
      exact wX1_shares_l103 A @hrec _ hf
    · replace hf := ab_ip c8 hf
      refine xr_iconst A (v := 0) dX1_shares_11 (by decide) ?_
      refine xr_istore_n A dX1_shares_12 rfl (Nat.le_of_ble_eq_true rfl) (L' := [(2, vI (0 : Int32)), (0, vR (some x)), (1, vI p1)]) rfl ?_
      refine xr_iconst A (v := 0) dX1_shares_13 (by decide) ?_
      refine xr_istore_n A dX1_shares_14 rfl (Nat.le_of_ble_eq_true rfl) (L' := [(3, vI (0 : Int32)), (2, vI (0 : Int32)), (0, vR (some x)), (1, vI p1)]) rfl ?_
      refine X.sub [2, 3, 1, 0] rfl ?_
      exact wX1_shares_l15 A @hrec _ hf
/-! X1_share -/
theorem bX1_share : MB yX1_share cX1_share 3 (some FieldType.int) 0 := ⟨q1129, q92, by decide, by decide +kernel⟩
noncomputable def fX1_share_l39 (x : Nat) (K19 : Int32 → Hp → Option (Int32 × Hp)) : Nat → Int32 → Int32 → Hp → Option (Int32 × Hp)
  | 0, _, _, _ => none
  | n + 1, l1, l2, h =>
  ab_bd (ab_gR h x 0 3) fun v1 =>
  ab_bd v1 fun a2 =>
  ab_bd (ab_gI h a2 5 12) fun v3 =>
  if ((1 : Int32) <<< (v3 &&& 31)) ≤ l2 then (
    K19 (l1 + (1 : Int32)) h)
  else (
    ab_b2 (fX1_ones l2 h) fun v6 h5 =>
    ab_bd (ab_gR h5 x 0 3) fun v7 =>
    ab_bd v7 fun a8 =>
    ab_bd (ab_gR h5 a8 5 4) fun v9 =>
    ab_bd v9 fun a10 =>
    ab_bd (ab_aR h5 a10 10 l1) fun v11 =>
    ab_bd v11 fun a12 =>
    ab_bd (ab_gI h5 a12 10 4) fun v13 =>
    if v13 < v6 then (
      fX1_share_l39 x K19 n l1 (l2 + (1 : Int32)) h5)
    else (
      ab_bd (ab_gR h5 x 0 12) fun v14 =>
      ab_b2 (fX1_bestOf x l1 l2 h5) fun v17 h16 =>
      ab_bd v14 fun a18 =>
      ab_bd (ab_sI h16 a18 ((l1 <<< ((6 : Int32) &&& 31)) + l2) v17) fun h19 =>
      fX1_share_l39 x K19 n l1 (l2 + (1 : Int32)) h19))
theorem wX1_share_l39 {D : Dd} {C : Cx} {h0 h' : Hp} {r : Int32} (A : Act C D (h0, (.inl (some (vI r))), h') yX1_share cX1_share 3 (some FieldType.int) 16 365 []) {x : Nat} {K19 : Int32 → Hp → Option (Int32 × Hp)} (hK19 : ∀ {l1 : Int32} {h : Hp}, K19 l1 h = some (r, h') → X C D (h0, (.inl (some (vI r))), h') 3 19 [(0, vR (some x)), (1, vI l1)] [] h) : ∀ (n : Nat) {l1 : Int32} {l2 : Int32} {h : Hp}, fX1_share_l39 x K19 n l1 l2 h = some (r, h') → X C D (h0, (.inl (some (vI r))), h') 3 39 [(0, vR (some x)), (1, vI l1), (2, vI l2)] [] h := by
  intro n
  induction n with
  | zero => intro l1 l2 h hf; exact ab_no hf
  | succ n ih =>
    intro l1 l2 h hf
    unfold fX1_share_l39 at hf
    refine xr_iload_n A dX1_share_39 2 rfl rfl ?_
    refine xr_iconst A (v := 1) dX1_share_40 (by decide) ?_
    refine xr_aload_n A dX1_share_41 0 rfl rfl ?_
    revert hf; refine ab_bdI (fun v1 mv1 hf => ?_)
    refine xr_get A xc_X1 in_X1 3 (Nat.le_of_ble_eq_true rfl) q266 rfl (ab_gRE mv1) dX1_share_42 ?_
    revert hf; refine ab_bdI (fun a2 e hf => ?_); subst e
    revert hf; refine ab_bdI (fun v3 mv3 hf => ?_)
    refine xr_get A xc_X6 in_X6 12 (Nat.le_of_ble_eq_true rfl) q470 rfl (ab_gIE mv3) dX1_share_45 ?_
    refine xr_ishl A dX1_share_48 ?_
    refine xr_icmp_ge A (tgt := 94) dX1_share_49 (by decide) (fun c49 => ?_) (fun c49 => ?_)
    · replace hf := ab_ip c49 hf
      refine xr_iinc A dX1_share_94 1 rfl (v := (l1 + (1 : Int32))) rfl (Nat.le_of_ble_eq_true rfl) (L' := [(1, vI (l1 + (1 : Int32))), (0, vR (some x)), (2, vI l2)]) rfl ?_
      refine xr_goto A (tgt := 19) dX1_share_97 (by decide) ?_
      refine X.sub [1, 0] rfl ?_
      exact hK19 hf
    · replace hf := ab_in c49 hf
      refine xr_iload_n A dX1_share_52 2 rfl rfl ?_
      revert hf; refine ab_b2I (fun v6 h5 m4 hf => ?_)
      refine xr_S A bX1_ones (wX1_ones D m4) q1095 q1094 (av := [vI l2]) (rest := []) rfl dX1_share_53 (Nat.le_of_ble_eq_true rfl) (Nat.le_of_ble_eq_true rfl) rfl (Nat.le_of_ble_eq_true rfl) ?_
      refine xr_aload_n A dX1_share_56 0 rfl rfl ?_
      revert hf; refine ab_bdI (fun v7 mv7 hf => ?_)
      refine xr_get A xc_X1 in_X1 3 (Nat.le_of_ble_eq_true rfl) q266 rfl (ab_gRE mv7) dX1_share_57 ?_
      revert hf; refine ab_bdI (fun a8 e hf => ?_); subst e
      revert hf; refine ab_bdI (fun v9 mv9 hf => ?_)
      refine xr_get A xc_X6 in_X6 4 (Nat.le_of_ble_eq_true rfl) q448 rfl (ab_gRE mv9) dX1_share_60 ?_
      refine xr_iload_n A dX1_share_63 1 rfl rfl ?_
      revert hf; refine ab_bdI (fun a10 e hf => ?_); subst e
      revert hf; refine ab_bdI (fun v11 mv11 hf => ?_)
      refine xr_aaload A (t := 10) rfl mv11 dX1_share_64 ?_
      revert hf; refine ab_bdI (fun a12 e hf => ?_); subst e
      revert hf; refine ab_bdI (fun v13 mv13 hf => ?_)
      refine xr_get A xc_X12 in_X12 4 (Nat.le_of_ble_eq_true rfl) q918 rfl (ab_gIE mv13) dX1_share_65 ?_
      refine xr_icmp_gt A (tgt := 88) dX1_share_68 (by decide) (fun c68 => ?_) (fun c68 => ?_)
      · replace hf := ab_ip c68 hf
        refine xr_iinc A dX1_share_88 2 rfl (v := (l2 + (1 : Int32))) rfl (Nat.le_of_ble_eq_true rfl) (L' := [(2, vI (l2 + (1 : Int32))), (0, vR (some x)), (1, vI l1)]) rfl ?_
        refine xr_goto A (tgt := 39) dX1_share_91 (by decide) ?_
        refine X.sub [1, 2, 0] rfl ?_
        exact ih hf
      · replace hf := ab_in c68 hf
        refine xr_aload_n A dX1_share_71 0 rfl rfl ?_
        revert hf; refine ab_bdI (fun v14 mv14 hf => ?_)
        refine xr_get A xc_X1 in_X1 12 (Nat.le_of_ble_eq_true rfl) q275 rfl (ab_gRE mv14) dX1_share_72 ?_
        refine xr_iload_n A dX1_share_75 1 rfl rfl ?_
        refine xr_bipush A (v := 6) dX1_share_76 (by decide) ?_
        refine xr_ishl A dX1_share_78 ?_
        refine xr_iload_n A dX1_share_79 2 rfl rfl ?_
        refine xr_iadd A dX1_share_80 ?_
        refine xr_aload_n A dX1_share_81 0 rfl rfl ?_
        refine xr_iload_n A dX1_share_82 1 rfl rfl ?_
        refine xr_iload_n A dX1_share_83 2 rfl rfl ?_
        revert hf; refine ab_b2I (fun v17 h16 m15 hf => ?_)
        refine xr_V A bX1_bestOf (wX1_bestOf D m15).2 xc_X1 (wX1_bestOf D m15).1 q1099 qs33 q1097 (av := [vI l1, vI l2]) (rest := [vI ((l1 <<< ((6 : Int32) &&& 31)) + l2), vR v14]) rfl dX1_share_84 (Nat.le_of_ble_eq_true rfl) (Nat.le_of_ble_eq_true rfl) rfl (Nat.le_of_ble_eq_true rfl) ?_
        revert hf; refine ab_bdI (fun a18 e hf => ?_); subst e
        revert hf; refine ab_bdI (fun h19 mh19 hf => ?_)
        refine xr_iastore A mh19 dX1_share_87 ?_
        refine xr_iinc A dX1_share_88 2 rfl (v := (l2 + (1 : Int32))) rfl (Nat.le_of_ble_eq_true rfl) (L' := [(2, vI (l2 + (1 : Int32))), (0, vR (some x)), (1, vI l1)]) rfl ?_
        refine xr_goto A (tgt := 39) dX1_share_91 (by decide) ?_
        refine X.sub [1, 2, 0] rfl ?_
        exact ih hf
noncomputable def fX1_share_l19 (x : Nat) : Nat → Int32 → Hp → Option (Int32 × Hp)
  | 0, _, _ => none
  | n + 1, l1, h =>
  ab_bd (ab_gR h x 0 3) fun v1 =>
  ab_bd v1 fun a2 =>
  ab_bd (ab_gI h a2 5 13) fun v3 =>
  if v3 ≤ l1 then (
    ab_bd (ab_pI h x 0 17 (-1 : Int32)) fun h4 =>
    ab_bd (fX1_shares 10 x (0 : Int32) h4) fun h6 =>
    ab_bd (ab_gI h6 x 0 17) fun v7 =>
    if v7 = (-1 : Int32) then (
      ab_b2 (fX1_no x (6 : Int32) h6) fun v17 h16 =>
      some (v17, h16))
    else (
      ab_bd (ab_pI h6 x 0 16 (1 : Int32)) fun h8 =>
      ab_bd (ab_gR h8 x 0 18) fun v9 =>
      ab_bd (ab_gR h8 x 0 15) fun v10 =>
      ab_bd v9 fun a11 =>
      ab_bd v10 fun a12 =>
      ab_bd (ab_cpy h8 a11 (0 : Int32) a12 (0 : Int32) (6 : Int32)) fun h13 =>
      ab_bd (ab_gI h13 x 0 17) fun v14 =>
      some ((v14 / (10000 : Int32)), h13)))
  else (
    ab_bd (ab_gR h x 0 13) fun v18 =>
    ab_bd v18 fun a19 =>
    ab_bd (ab_sI h a19 l1 (0 : Int32)) fun h20 =>
    fX1_share_l39 x (fX1_share_l19 x n) (hfu h20) l1 (1 : Int32) h20)
theorem wX1_share_l19 {D : Dd} {C : Cx} {h0 h' : Hp} {r : Int32} (A : Act C D (h0, (.inl (some (vI r))), h') yX1_share cX1_share 3 (some FieldType.int) 16 365 []) {x : Nat} : ∀ (n : Nat) {l1 : Int32} {h : Hp}, fX1_share_l19 x n l1 h = some (r, h') → X C D (h0, (.inl (some (vI r))), h') 3 19 [(0, vR (some x)), (1, vI l1)] [] h := by
  intro n
  induction n with
  | zero => intro l1 h hf; exact ab_no hf
  | succ n ih =>
    intro l1 h hf
    unfold fX1_share_l19 at hf
    refine xr_iload_n A dX1_share_19 1 rfl rfl ?_
    refine xr_aload_n A dX1_share_20 0 rfl rfl ?_
    revert hf; refine ab_bdI (fun v1 mv1 hf => ?_)
    refine xr_get A xc_X1 in_X1 3 (Nat.le_of_ble_eq_true rfl) q266 rfl (ab_gRE mv1) dX1_share_21 ?_
    revert hf; refine ab_bdI (fun a2 e hf => ?_); subst e
    revert hf; refine ab_bdI (fun v3 mv3 hf => ?_)
    refine xr_get A xc_X6 in_X6 13 (Nat.le_of_ble_eq_true rfl) q473 rfl (ab_gIE mv3) dX1_share_24 ?_
    refine xr_icmp_ge A (tgt := 100) dX1_share_27 (by decide) (fun c27 => ?_) (fun c27 => ?_)
    · replace hf := ab_ip c27 hf
      refine xr_aload_n A dX1_share_100 0 rfl rfl ?_
      refine xr_iconst A (v := (-1)) dX1_share_101 (by decide) ?_
      revert hf; refine ab_bdI (fun h4 mh4 hf => ?_)
      refine xr_put A xc_X1 in_X1 tyX1_ok nmX1 17 (Nat.le_of_ble_eq_true rfl) q280 rfl rfl (v := vI (-1 : Int32)) rfl rfl mh4 dX1_share_102 ?_
      refine xr_aload_n A dX1_share_105 0 rfl rfl ?_
      refine xr_iconst A (v := 0) dX1_share_106 (by decide) ?_
      revert hf; refine ab_bdI (fun h6 m5 hf => ?_)
      refine xr_V0 A bX1_shares (wX1_shares D 10 m5).2 xc_X1 (wX1_shares D 10 m5).1 q1132 qs35 q1130 (av := [vI (0 : Int32)]) (rest := []) rfl dX1_share_107 (Nat.le_of_ble_eq_true rfl) (Nat.le_of_ble_eq_true rfl) rfl (Nat.le_of_ble_eq_true rfl) ?_
      refine xr_aload_n A dX1_share_110 0 rfl rfl ?_
      revert hf; refine ab_bdI (fun v7 mv7 hf => ?_)
      refine xr_get A xc_X1 in_X1 17 (Nat.le_of_ble_eq_true rfl) q280 rfl (ab_gIE mv7) dX1_share_111 ?_
      refine xr_iconst A (v := (-1)) dX1_share_114 (by decide) ?_
      refine xr_icmp_ne A (tgt := 125) dX1_share_115 (by decide) (fun c115 => ?_) (fun c115 => ?_)
      · replace hf := ab_in c115 hf
        refine xr_aload_n A dX1_share_125 0 rfl rfl ?_
        refine xr_iconst A (v := 1) dX1_share_126 (by decide) ?_
        revert hf; refine ab_bdI (fun h8 mh8 hf => ?_)
        refine xr_put A xc_X1 in_X1 tyX1_ok nmX1 16 (Nat.le_of_ble_eq_true rfl) q279 rfl rfl (v := vI (1 : Int32)) rfl rfl mh8 dX1_share_127 ?_
        refine xr_aload_n A dX1_share_130 0 rfl rfl ?_
        revert hf; refine ab_bdI (fun v9 mv9 hf => ?_)
        refine xr_get A xc_X1 in_X1 18 (Nat.le_of_ble_eq_true rfl) q281 rfl (ab_gRE mv9) dX1_share_131 ?_
        refine xr_iconst A (v := 0) dX1_share_134 (by decide) ?_
        refine xr_aload_n A dX1_share_135 0 rfl rfl ?_
        revert hf; refine ab_bdI (fun v10 mv10 hf => ?_)
        refine xr_get A xc_X1 in_X1 15 (Nat.le_of_ble_eq_true rfl) q278 rfl (ab_gRE mv10) dX1_share_136 ?_
        refine xr_iconst A (v := 0) dX1_share_139 (by decide) ?_
        refine xr_bipush A (v := 6) dX1_share_140 (by decide) ?_
        revert hf; refine ab_bdI (fun a11 e hf => ?_); subst e
        revert hf; refine ab_bdI (fun a12 e hf => ?_); subst e
        revert hf; refine ab_bdI (fun h13 mh13 hf => ?_)
        refine xr_cpy A q1134 q1120 q1119 q116 mh13 dX1_share_142 (Nat.le_of_ble_eq_true rfl) (Nat.le_of_ble_eq_true rfl) (Nat.le_of_ble_eq_true rfl) ?_
        refine xr_aload_n A dX1_share_145 0 rfl rfl ?_
        revert hf; refine ab_bdI (fun v14 mv14 hf => ?_)
        refine xr_get A xc_X1 in_X1 17 (Nat.le_of_ble_eq_true rfl) q280 rfl (ab_gIE mv14) dX1_share_146 ?_
        refine xr_sipush A (v := 10000) dX1_share_149 (by decide) ?_
        refine xr_idiv A dX1_share_152 (by decide) ?_
        exact xr_ireturn A rfl hf dX1_share_153
      · replace hf := ab_ip c115 hf
        refine xr_aload_n A dX1_share_118 0 rfl rfl ?_
        refine xr_bipush A (v := 6) dX1_share_119 (by decide) ?_
        revert hf; refine ab_b2I (fun v17 h16 m15 hf => ?_)
        refine xr_V A bX1_no (wX1_no D m15).2 xc_X1 (wX1_no D m15).1 q409 qs3 q407 (av := [vI (6 : Int32)]) (rest := []) rfl dX1_share_121 (Nat.le_of_ble_eq_true rfl) (Nat.le_of_ble_eq_true rfl) rfl (Nat.le_of_ble_eq_true rfl) ?_
        exact xr_ireturn A rfl hf dX1_share_124
    · replace hf := ab_in c27 hf
      refine xr_aload_n A dX1_share_30 0 rfl rfl ?_
      revert hf; refine ab_bdI (fun v18 mv18 hf => ?_)
      refine xr_get A xc_X1 in_X1 13 (Nat.le_of_ble_eq_true rfl) q276 rfl (ab_gRE mv18) dX1_share_31 ?_
      refine xr_iload_n A dX1_share_34 1 rfl rfl ?_
      refine xr_iconst A (v := 0) dX1_share_35 (by decide) ?_
      revert hf; refine ab_bdI (fun a19 e hf => ?_); subst e
      revert hf; refine ab_bdI (fun h20 mh20 hf => ?_)
      refine xr_iastore A mh20 dX1_share_36 ?_
      refine xr_iconst A (v := 1) dX1_share_37 (by decide) ?_
      refine xr_istore_n A dX1_share_38 rfl (Nat.le_of_ble_eq_true rfl) (L' := [(2, vI (1 : Int32)), (0, vR (some x)), (1, vI l1)]) rfl ?_
      refine X.sub [1, 2, 0] rfl ?_
      exact wX1_share_l39 A (fun hf => ih hf) _ hf
noncomputable def fX1_share (x : Nat) (h : Hp) : Option (Int32 × Hp) :=
  ab_ck h x 0 <|
  ab_bd (fX1_anew x h) fun h2 =>
  ab_bd (ab_gR h2 x 0 3) fun v3 =>
  ab_on v3 (
    ab_b2 (fX1_no x (1 : Int32) h2) fun v7 h6 =>
    some (v7, h6)) fun a4 => (
    fX1_share_l19 x (hfu h2) (0 : Int32) h2)
theorem wX1_share (D : Dd) {x : Nat} {h : Hp} {r : Int32} {h' : Hp} (hf : fX1_share x h = some (r, h')) : ab_is h x 0 ∧ Ct D 16 365 yX1_share cX1_share 3 (some FieldType.int) [vR (some x)] h (.inl (some (vI r))) h' := by
    unfold fX1_share at hf
    replace hf := ab_ckE hf; obtain ⟨i0, hf⟩ := hf
    refine ⟨i0, ?_⟩
    refine Ct.of (by decide) (L := [(0, vR (some x))]) rfl (Nat.le_of_ble_eq_true rfl) (fun C A => ?_)
    refine xr_aload_n A dX1_share_0 0 rfl rfl ?_
    revert hf; refine ab_bdI (fun h2 m1 hf => ?_)
    refine xr_V0 A bX1_anew (wX1_anew D m1).2 xc_X1 (wX1_anew D m1).1 q402 qs2 q400 (av := []) (rest := []) rfl dX1_share_1 (Nat.le_of_ble_eq_true rfl) (Nat.le_of_ble_eq_true rfl) rfl (Nat.le_of_ble_eq_true rfl) ?_
    refine xr_aload_n A dX1_share_4 0 rfl rfl ?_
    revert hf; refine ab_bdI (fun v3 mv3 hf => ?_)
    refine xr_get A xc_X1 in_X1 3 (Nat.le_of_ble_eq_true rfl) q266 rfl (ab_gRE mv3) dX1_share_5 ?_
    revert hf; refine ab_onI (fun e hf => ?_) (fun a4 e hf => ?_) <;> subst e
    · refine xr_ifnonnull A (tgt := 17) dX1_share_8 (by decide) (fun _ e => by cases e) (fun _ => ?_)
      refine xr_aload_n A dX1_share_11 0 rfl rfl ?_
      refine xr_iconst A (v := 1) dX1_share_12 (by decide) ?_
      revert hf; refine ab_b2I (fun v7 h6 m5 hf => ?_)
      refine xr_V A bX1_no (wX1_no D m5).2 xc_X1 (wX1_no D m5).1 q409 qs3 q407 (av := [vI (1 : Int32)]) (rest := []) rfl dX1_share_13 (Nat.le_of_ble_eq_true rfl) (Nat.le_of_ble_eq_true rfl) rfl (Nat.le_of_ble_eq_true rfl) ?_
      exact xr_ireturn A rfl hf dX1_share_16
    · refine xr_ifnonnull A (tgt := 17) dX1_share_8 (by decide) (fun _ _ => ?_) (fun e => by cases e)
      refine xr_iconst A (v := 0) dX1_share_17 (by decide) ?_
      refine xr_istore_n A dX1_share_18 rfl (Nat.le_of_ble_eq_true rfl) (L' := [(1, vI (0 : Int32)), (0, vR (some x))]) rfl ?_
      refine X.sub [1, 0] rfl ?_
      exact wX1_share_l19 A _ hf
/-! X1_shared -/
theorem bX1_shared : MB yX1_shared cX1_shared 2 (some FieldType.int) 1 := ⟨q1138, q92, by decide, by decide +kernel⟩
noncomputable def fX1_shared (x : Nat) (p1 : Int32) (h : Hp) : Option (Int32 × Hp) :=
  ab_ck h x 0 <|
  ab_b2 (fX1_isHouse x p1 h) fun v3 h2 =>
  if v3 = 0 then (
    some ((-1 : Int32), h2))
  else (
    ab_bd (ab_gI h2 x 0 16) fun v4 =>
    if v4 = 0 then (
      some ((-1 : Int32), h2))
    else (
      ab_bd (ab_gR h2 x 0 15) fun v5 =>
      ab_bd v5 fun a6 =>
      ab_bd (ab_aI h2 a6 0 p1) fun v7 =>
      some (v7, h2)))
theorem wX1_shared (D : Dd) {x : Nat} {p1 : Int32} {h : Hp} {r : Int32} {h' : Hp} (hf : fX1_shared x p1 h = some (r, h')) : ab_is h x 0 ∧ Ct D 3 63 yX1_shared cX1_shared 2 (some FieldType.int) [vR (some x), vI p1] h (.inl (some (vI r))) h' := by
    unfold fX1_shared at hf
    replace hf := ab_ckE hf; obtain ⟨i0, hf⟩ := hf
    refine ⟨i0, ?_⟩
    refine Ct.of (by decide) (L := [(0, vR (some x)), (1, vI p1)]) rfl (Nat.le_of_ble_eq_true rfl) (fun C A => ?_)
    refine xr_aload_n A dX1_shared_0 0 rfl rfl ?_
    refine xr_iload_n A dX1_shared_1 1 rfl rfl ?_
    revert hf; refine ab_b2I (fun v3 h2 m1 hf => ?_)
    refine xr_V A bX1_isHouse (wX1_isHouse D m1).2 xc_X1 (wX1_isHouse D m1).1 q1007 qs25 q1005 (av := [vI p1]) (rest := []) rfl dX1_shared_2 (Nat.le_of_ble_eq_true rfl) (Nat.le_of_ble_eq_true rfl) rfl (Nat.le_of_ble_eq_true rfl) ?_
    refine xr_if_eq A (tgt := 24) dX1_shared_5 (by decide) (fun c5 => ?_) (fun c5 => ?_)
    · replace hf := ab_ip c5 hf
      refine xr_iconst A (v := (-1)) dX1_shared_24 (by decide) ?_
      exact xr_ireturn A rfl hf dX1_shared_25
    · replace hf := ab_in c5 hf
      refine xr_aload_n A dX1_shared_8 0 rfl rfl ?_
      revert hf; refine ab_bdI (fun v4 mv4 hf => ?_)
      refine xr_get A xc_X1 in_X1 16 (Nat.le_of_ble_eq_true rfl) q279 rfl (ab_gIE mv4) dX1_shared_9 ?_
      refine xr_if_eq A (tgt := 24) dX1_shared_12 (by decide) (fun c12 => ?_) (fun c12 => ?_)
      · replace hf := ab_ip c12 hf
        refine xr_iconst A (v := (-1)) dX1_shared_24 (by decide) ?_
        exact xr_ireturn A rfl hf dX1_shared_25
      · replace hf := ab_in c12 hf
        refine xr_aload_n A dX1_shared_15 0 rfl rfl ?_
        revert hf; refine ab_bdI (fun v5 mv5 hf => ?_)
        refine xr_get A xc_X1 in_X1 15 (Nat.le_of_ble_eq_true rfl) q278 rfl (ab_gRE mv5) dX1_shared_16 ?_
        refine xr_iload_n A dX1_shared_19 1 rfl rfl ?_
        revert hf; refine ab_bdI (fun a6 e hf => ?_); subst e
        revert hf; refine ab_bdI (fun v7 mv7 hf => ?_)
        refine xr_iaload A mv7 dX1_shared_20 ?_
        refine xr_goto A (tgt := 25) dX1_shared_21 (by decide) ?_
        exact xr_ireturn A rfl hf dX1_shared_25
/-! X4_set -/
theorem bX4_set : MB yX4_set cX4_set 3 (some FieldType.int) 0 := ⟨q1146, q98, by decide, by decide +kernel⟩
noncomputable def fX4_set_l4 (x : Nat) : Nat → Int32 → Int32 → Hp → Option (Int32 × Hp)
  | 0, _, _, _ => none
  | n + 1, l1, l2, h =>
  ab_bd (ab_gI h x 3 2) fun v1 =>
  if v1 ≤ l2 then (
    some (l1, h))
  else (
    ab_bd (ab_gR h x 3 0) fun v2 =>
    ab_bd v2 fun a3 =>
    ab_bd (ab_aI h a3 0 l2) fun v4 =>
    fX4_set_l4 x n (l1 ||| ((1 : Int32) <<< (v4 &&& 31))) (l2 + (1 : Int32)) h)
theorem wX4_set_l4 {D : Dd} {C : Cx} {h0 h' : Hp} {r : Int32} (A : Act C D (h0, (.inl (some (vI r))), h') yX4_set cX4_set 3 (some FieldType.int) 1 20 []) {x : Nat} : ∀ (n : Nat) {l1 : Int32} {l2 : Int32} {h : Hp}, fX4_set_l4 x n l1 l2 h = some (r, h') → X C D (h0, (.inl (some (vI r))), h') 3 4 [(0, vR (some x)), (1, vI l1), (2, vI l2)] [] h := by
  intro n
  induction n with
  | zero => intro l1 l2 h hf; exact ab_no hf
  | succ n ih =>
    intro l1 l2 h hf
    unfold fX4_set_l4 at hf
    refine xr_iload_n A dX4_set_4 2 rfl rfl ?_
    refine xr_aload_n A dX4_set_5 0 rfl rfl ?_
    revert hf; refine ab_bdI (fun v1 mv1 hf => ?_)
    refine xr_get A xc_X4 in_X4 2 (Nat.le_of_ble_eq_true rfl) q249 rfl (ab_gIE mv1) dX4_set_6 ?_
    refine xr_icmp_ge A (tgt := 29) dX4_set_9 (by decide) (fun c9 => ?_) (fun c9 => ?_)
    · replace hf := ab_ip c9 hf
      refine xr_iload_n A dX4_set_29 1 rfl rfl ?_
      exact xr_ireturn A rfl hf dX4_set_30
    · replace hf := ab_in c9 hf
      refine xr_iload_n A dX4_set_12 1 rfl rfl ?_
      refine xr_iconst A (v := 1) dX4_set_13 (by decide) ?_
      refine xr_aload_n A dX4_set_14 0 rfl rfl ?_
      revert hf; refine ab_bdI (fun v2 mv2 hf => ?_)
      refine xr_get A xc_X4 in_X4 0 (Nat.le_of_ble_eq_true rfl) q245 rfl (ab_gRE mv2) dX4_set_15 ?_
      refine xr_iload_n A dX4_set_18 2 rfl rfl ?_
      revert hf; refine ab_bdI (fun a3 e hf => ?_); subst e
      revert hf; refine ab_bdI (fun v4 mv4 hf => ?_)
      refine xr_iaload A mv4 dX4_set_19 ?_
      refine xr_ishl A dX4_set_20 ?_
      refine xr_ior A dX4_set_21 ?_
      refine xr_istore_n A dX4_set_22 rfl (Nat.le_of_ble_eq_true rfl) (L' := [(1, vI (l1 ||| ((1 : Int32) <<< (v4 &&& 31)))), (0, vR (some x)), (2, vI l2)]) rfl ?_
      refine xr_iinc A dX4_set_23 2 rfl (v := (l2 + (1 : Int32))) rfl (Nat.le_of_ble_eq_true rfl) (L' := [(2, vI (l2 + (1 : Int32))), (1, vI (l1 ||| ((1 : Int32) <<< (v4 &&& 31)))), (0, vR (some x))]) rfl ?_
      refine xr_goto A (tgt := 4) dX4_set_26 (by decide) ?_
      refine X.sub [2, 1, 0] rfl ?_
      exact ih hf
noncomputable def fX4_set (x : Nat) (h : Hp) : Option (Int32 × Hp) :=
  ab_ck h x 3 <|
  fX4_set_l4 x (hfu h) (0 : Int32) (0 : Int32) h
theorem wX4_set (D : Dd) {x : Nat} {h : Hp} {r : Int32} {h' : Hp} (hf : fX4_set x h = some (r, h')) : ab_is h x 3 ∧ Ct D 1 20 yX4_set cX4_set 3 (some FieldType.int) [vR (some x)] h (.inl (some (vI r))) h' := by
    unfold fX4_set at hf
    replace hf := ab_ckE hf; obtain ⟨i0, hf⟩ := hf
    refine ⟨i0, ?_⟩
    refine Ct.of (by decide) (L := [(0, vR (some x))]) rfl (Nat.le_of_ble_eq_true rfl) (fun C A => ?_)
    refine xr_iconst A (v := 0) dX4_set_0 (by decide) ?_
    refine xr_istore_n A dX4_set_1 rfl (Nat.le_of_ble_eq_true rfl) (L' := [(1, vI (0 : Int32)), (0, vR (some x))]) rfl ?_
    refine xr_iconst A (v := 0) dX4_set_2 (by decide) ?_
    refine xr_istore_n A dX4_set_3 rfl (Nat.le_of_ble_eq_true rfl) (L' := [(2, vI (0 : Int32)), (1, vI (0 : Int32)), (0, vR (some x))]) rfl ?_
    refine X.sub [2, 1, 0] rfl ?_
    exact wX4_set_l4 A _ hf
/-! X1_odds -/
theorem bX1_odds : MB yX1_odds cX1_odds 10 (some FieldType.long) 1 := ⟨q1142, q92, by decide, by decide +kernel⟩
noncomputable def fX1_odds_l71 (x : Nat) (K34 : Int32 → Int32 → Int64 → Int32 → Hp → Option (Int64 × Hp)) : Nat → Int32 → Int32 → Int64 → Int32 → Int64 → Int32 → Hp → Option (Int64 × Hp)
  | 0, _, _, _, _, _, _, _ => none
  | n + 1, l1, l2, l3, l5, l6, l8, h =>
  ab_bd (ab_gR h x 0 3) fun v1 =>
  ab_bd v1 fun a2 =>
  ab_bd (ab_gI h a2 5 12) fun v3 =>
  if v3 ≤ l8 then (
    K34 l1 l2 (l3 + l6) (l5 + (1 : Int32)) h)
  else (
    ab_bd (ab_gR h x 0 3) fun v4 =>
    ab_bd v4 fun a5 =>
    ab_bd (ab_gR h a5 5 3) fun v6 =>
    ab_bd v6 fun a7 =>
    ab_bd (ab_aR h a7 9 l8) fun v8 =>
    ab_bd v8 fun a9 =>
    ab_bd (ab_gI h a9 9 5) fun v10 =>
    ab_b2 (fX1_lies l2 l8 h) fun v13 h12 =>
    if v13 = 0 then (
      fX1_odds_l71 x K34 n l1 l2 l3 l5 (l6 * (1 : Int64)) (l8 + (1 : Int32)) h12)
    else (
      ab_b2 (fX1_lies l5 l8 h12) fun v16 h15 =>
      if v16 = 0 then (
        fX1_odds_l71 x K34 n l1 l2 l3 l5 (l6 * ((100 : Int32) - v10).toInt64) (l8 + (1 : Int32)) h15)
      else (
        fX1_odds_l71 x K34 n l1 l2 l3 l5 (l6 * v10.toInt64) (l8 + (1 : Int32)) h15)))
theorem wX1_odds_l71 {D : Dd} {C : Cx} {h0 h' : Hp} {r : Int64} (A : Act C D (h0, (.inl (some (vL r))), h') yX1_odds cX1_odds 10 (some FieldType.long) 5 112 []) {x : Nat} {K34 : Int32 → Int32 → Int64 → Int32 → Hp → Option (Int64 × Hp)} (hK34 : ∀ {l1 : Int32} {l2 : Int32} {l3 : Int64} {l5 : Int32} {h : Hp}, K34 l1 l2 l3 l5 h = some (r, h') → X C D (h0, (.inl (some (vL r))), h') 10 34 [(0, vR (some x)), (1, vI l1), (2, vI l2), (3, vL l3), (5, vI l5)] [] h) : ∀ (n : Nat) {l1 : Int32} {l2 : Int32} {l3 : Int64} {l5 : Int32} {l6 : Int64} {l8 : Int32} {h : Hp}, fX1_odds_l71 x K34 n l1 l2 l3 l5 l6 l8 h = some (r, h') → X C D (h0, (.inl (some (vL r))), h') 10 71 [(0, vR (some x)), (1, vI l1), (2, vI l2), (3, vL l3), (5, vI l5), (6, vL l6), (8, vI l8)] [] h := by
  intro n
  induction n with
  | zero => intro l1 l2 l3 l5 l6 l8 h hf; exact ab_no hf
  | succ n ih =>
    intro l1 l2 l3 l5 l6 l8 h hf
    unfold fX1_odds_l71 at hf
    refine xr_iload A dX1_odds_71 6 rfl ?_
    refine xr_aload_n A dX1_odds_73 0 rfl rfl ?_
    revert hf; refine ab_bdI (fun v1 mv1 hf => ?_)
    refine xr_get A xc_X1 in_X1 3 (Nat.le_of_ble_eq_true rfl) q266 rfl (ab_gRE mv1) dX1_odds_74 ?_
    revert hf; refine ab_bdI (fun a2 e hf => ?_); subst e
    revert hf; refine ab_bdI (fun v3 mv3 hf => ?_)
    refine xr_get A xc_X6 in_X6 12 (Nat.le_of_ble_eq_true rfl) q470 rfl (ab_gIE mv3) dX1_odds_77 ?_
    refine xr_icmp_ge A (tgt := 144) dX1_odds_80 (by decide) (fun c80 => ?_) (fun c80 => ?_)
    · replace hf := ab_ip c80 hf
      refine xr_lload_n A dX1_odds_144 3 rfl rfl ?_
      refine xr_lload A dX1_odds_145 5 rfl ?_
      refine xr_ladd A dX1_odds_147 ?_
      refine xr_lstore_n A dX1_odds_148 rfl (Nat.le_of_ble_eq_true rfl) (L' := [(3, vL (l3 + l6)), (0, vR (some x)), (1, vI l1), (2, vI l2), (5, vI l5), (6, vL l6), (8, vI l8)]) rfl ?_
      refine xr_iinc A dX1_odds_149 4 rfl (v := (l5 + (1 : Int32))) rfl (Nat.le_of_ble_eq_true rfl) (L' := [(5, vI (l5 + (1 : Int32))), (3, vL (l3 + l6)), (0, vR (some x)), (1, vI l1), (2, vI l2), (6, vL l6), (8, vI l8)]) rfl ?_
      refine xr_goto A (tgt := 34) dX1_odds_152 (by decide) ?_
      refine X.sub [2, 3, 4, 1, 0] rfl ?_
      exact hK34 hf
    · replace hf := ab_in c80 hf
      refine xr_aload_n A dX1_odds_83 0 rfl rfl ?_
      revert hf; refine ab_bdI (fun v4 mv4 hf => ?_)
      refine xr_get A xc_X1 in_X1 3 (Nat.le_of_ble_eq_true rfl) q266 rfl (ab_gRE mv4) dX1_odds_84 ?_
      revert hf; refine ab_bdI (fun a5 e hf => ?_); subst e
      revert hf; refine ab_bdI (fun v6 mv6 hf => ?_)
      refine xr_get A xc_X6 in_X6 3 (Nat.le_of_ble_eq_true rfl) q446 rfl (ab_gRE mv6) dX1_odds_87 ?_
      refine xr_iload A dX1_odds_90 6 rfl ?_
      revert hf; refine ab_bdI (fun a7 e hf => ?_); subst e
      revert hf; refine ab_bdI (fun v8 mv8 hf => ?_)
      refine xr_aaload A (t := 9) rfl mv8 dX1_odds_92 ?_
      revert hf; refine ab_bdI (fun a9 e hf => ?_); subst e
      revert hf; refine ab_bdI (fun v10 mv10 hf => ?_)
      refine xr_get A xc_X11 in_X11 5 (Nat.le_of_ble_eq_true rfl) q871 rfl (ab_gIE mv10) dX1_odds_93 ?_
      refine xr_istore A dX1_odds_96 (Nat.le_of_ble_eq_true rfl) (L' := [(9, vI v10), (0, vR (some x)), (1, vI l1), (2, vI l2), (3, vL l3), (5, vI l5), (6, vL l6), (8, vI l8)]) rfl ?_
      refine xr_lload A dX1_odds_98 6 rfl ?_
      refine xr_iload_n A dX1_odds_100 3 rfl rfl ?_
      refine xr_iload A dX1_odds_101 7 rfl ?_
      revert hf; refine ab_b2I (fun v13 h12 m11 hf => ?_)
      refine xr_S A bX1_lies (wX1_lies D m11) q986 q1121 (av := [vI l2, vI l8]) (rest := [vL l6]) rfl dX1_odds_103 (Nat.le_of_ble_eq_true rfl) (Nat.le_of_ble_eq_true rfl) rfl (Nat.le_of_ble_eq_true rfl) ?_
      refine xr_if_ne A (tgt := 113) dX1_odds_106 (by decide) (fun c106 => ?_) (fun c106 => ?_)
      · replace hf := ab_in c106 hf
        refine xr_iload A dX1_odds_113 5 rfl ?_
        refine xr_iload A dX1_odds_115 7 rfl ?_
        revert hf; refine ab_b2I (fun v16 h15 m14 hf => ?_)
        refine xr_S A bX1_lies (wX1_lies D m14) q986 q1121 (av := [vI l5, vI l8]) (rest := [vL l6]) rfl dX1_odds_117 (Nat.le_of_ble_eq_true rfl) (Nat.le_of_ble_eq_true rfl) rfl (Nat.le_of_ble_eq_true rfl) ?_
        refine xr_if_eq A (tgt := 129) dX1_odds_120 (by decide) (fun c120 => ?_) (fun c120 => ?_)
        · replace hf := ab_ip c120 hf
          refine xr_bipush A (v := 100) dX1_odds_129 (by decide) ?_
          refine xr_iload A dX1_odds_131 0 rfl ?_
          refine xr_isub A dX1_odds_133 ?_
          refine xr_i2l A dX1_odds_134 ?_
          refine xr_lmul A dX1_odds_135 ?_
          refine xr_lstore A dX1_odds_136 (Nat.le_of_ble_eq_true rfl) (L' := [(6, vL (l6 * ((100 : Int32) - v10).toInt64)), (9, vI v10), (0, vR (some x)), (1, vI l1), (2, vI l2), (3, vL l3), (5, vI l5), (8, vI l8)]) rfl ?_
          refine xr_iinc A dX1_odds_138 7 rfl (v := (l8 + (1 : Int32))) rfl (Nat.le_of_ble_eq_true rfl) (L' := [(8, vI (l8 + (1 : Int32))), (6, vL (l6 * ((100 : Int32) - v10).toInt64)), (9, vI v10), (0, vR (some x)), (1, vI l1), (2, vI l2), (3, vL l3), (5, vI l5)]) rfl ?_
          refine xr_goto A (tgt := 71) dX1_odds_141 (by decide) ?_
          refine X.sub [3, 4, 5, 6, 7, 1, 0] rfl ?_
          exact ih hf
        · replace hf := ab_in c120 hf
          refine xr_iload A dX1_odds_123 0 rfl ?_
          refine xr_i2l A dX1_odds_125 ?_
          refine xr_goto A (tgt := 135) dX1_odds_126 (by decide) ?_
          refine xr_lmul A dX1_odds_135 ?_
          refine xr_lstore A dX1_odds_136 (Nat.le_of_ble_eq_true rfl) (L' := [(6, vL (l6 * v10.toInt64)), (9, vI v10), (0, vR (some x)), (1, vI l1), (2, vI l2), (3, vL l3), (5, vI l5), (8, vI l8)]) rfl ?_
          refine xr_iinc A dX1_odds_138 7 rfl (v := (l8 + (1 : Int32))) rfl (Nat.le_of_ble_eq_true rfl) (L' := [(8, vI (l8 + (1 : Int32))), (6, vL (l6 * v10.toInt64)), (9, vI v10), (0, vR (some x)), (1, vI l1), (2, vI l2), (3, vL l3), (5, vI l5)]) rfl ?_
          refine xr_goto A (tgt := 71) dX1_odds_141 (by decide) ?_
          refine X.sub [3, 4, 5, 6, 7, 1, 0] rfl ?_
          exact ih hf
      · replace hf := ab_ip c106 hf
        refine xr_lconst A (v := 1) dX1_odds_109 (by decide) ?_
        refine xr_goto A (tgt := 135) dX1_odds_110 (by decide) ?_
        refine xr_lmul A dX1_odds_135 ?_
        refine xr_lstore A dX1_odds_136 (Nat.le_of_ble_eq_true rfl) (L' := [(6, vL (l6 * (1 : Int64))), (9, vI v10), (0, vR (some x)), (1, vI l1), (2, vI l2), (3, vL l3), (5, vI l5), (8, vI l8)]) rfl ?_
        refine xr_iinc A dX1_odds_138 7 rfl (v := (l8 + (1 : Int32))) rfl (Nat.le_of_ble_eq_true rfl) (L' := [(8, vI (l8 + (1 : Int32))), (6, vL (l6 * (1 : Int64))), (9, vI v10), (0, vR (some x)), (1, vI l1), (2, vI l2), (3, vL l3), (5, vI l5)]) rfl ?_
        refine xr_goto A (tgt := 71) dX1_odds_141 (by decide) ?_
        refine X.sub [3, 4, 5, 6, 7, 1, 0] rfl ?_
        exact ih hf
noncomputable def fX1_odds_l34 (x : Nat) : Nat → Int32 → Int32 → Int64 → Int32 → Hp → Option (Int64 × Hp)
  | 0, _, _, _, _, _ => none
  | n + 1, l1, l2, l3, l5, h =>
  if l2 < l5 then (
    some (l3, h))
  else (
    if (l5 &&& (l2 ^^^ (-1 : Int32))) = 0 then (
      ab_b2 (fX1_walked x l1 l5 h) fun v3 h2 =>
      ab_bd v3 fun a4 =>
      ab_bd (ab_gI h2 a4 3 3) fun v5 =>
      if v5 = 0 then (
        fX1_odds_l71 x (fX1_odds_l34 x n) (hfu h2) l1 l2 l3 l5 (1 : Int64) (0 : Int32) h2)
      else (
        fX1_odds_l34 x n l1 l2 l3 (l5 + (1 : Int32)) h2))
    else (
      fX1_odds_l34 x n l1 l2 l3 (l5 + (1 : Int32)) h))
theorem wX1_odds_l34 {D : Dd} {C : Cx} {h0 h' : Hp} {r : Int64} (A : Act C D (h0, (.inl (some (vL r))), h') yX1_odds cX1_odds 10 (some FieldType.long) 5 112 []) {x : Nat} : ∀ (n : Nat) {l1 : Int32} {l2 : Int32} {l3 : Int64} {l5 : Int32} {h : Hp}, fX1_odds_l34 x n l1 l2 l3 l5 h = some (r, h') → X C D (h0, (.inl (some (vL r))), h') 10 34 [(0, vR (some x)), (1, vI l1), (2, vI l2), (3, vL l3), (5, vI l5)] [] h := by
  intro n
  induction n with
  | zero => intro l1 l2 l3 l5 h hf; exact ab_no hf
  | succ n ih =>
    intro l1 l2 l3 l5 h hf
    unfold fX1_odds_l34 at hf
    refine xr_iload A dX1_odds_34 4 rfl ?_
    refine xr_iload_n A dX1_odds_36 2 rfl rfl ?_
    refine xr_icmp_gt A (tgt := 155) dX1_odds_37 (by decide) (fun c37 => ?_) (fun c37 => ?_)
    · replace hf := ab_ip c37 hf
      refine xr_lload_n A dX1_odds_155 3 rfl rfl ?_
      exact xr_lreturn A hf dX1_odds_156
    · replace hf := ab_in c37 hf
      refine xr_iload A dX1_odds_40 4 rfl ?_
      refine xr_iload_n A dX1_odds_42 2 rfl rfl ?_
      refine xr_iconst A (v := (-1)) dX1_odds_43 (by decide) ?_
      refine xr_ixor A dX1_odds_44 ?_
      refine xr_iand A dX1_odds_45 ?_
      refine xr_if_ne A (tgt := 149) dX1_odds_46 (by decide) (fun c46 => ?_) (fun c46 => ?_)
      · replace hf := ab_in c46 hf
        refine xr_iinc A dX1_odds_149 4 rfl (v := (l5 + (1 : Int32))) rfl (Nat.le_of_ble_eq_true rfl) (L' := [(5, vI (l5 + (1 : Int32))), (0, vR (some x)), (1, vI l1), (2, vI l2), (3, vL l3)]) rfl ?_
        refine xr_goto A (tgt := 34) dX1_odds_152 (by decide) ?_
        refine X.sub [1, 2, 3, 4, 0] rfl ?_
        exact ih hf
      · replace hf := ab_ip c46 hf
        refine xr_aload_n A dX1_odds_49 0 rfl rfl ?_
        refine xr_iload_n A dX1_odds_50 1 rfl rfl ?_
        refine xr_iload A dX1_odds_51 4 rfl ?_
        revert hf; refine ab_b2I (fun v3 h2 m1 hf => ?_)
        refine xr_V A bX1_walked (wX1_walked D m1).2 xc_X1 (wX1_walked D m1).1 q1047 qs31 q1045 (av := [vI l1, vI l5]) (rest := []) rfl dX1_odds_53 (Nat.le_of_ble_eq_true rfl) (Nat.le_of_ble_eq_true rfl) rfl (Nat.le_of_ble_eq_true rfl) ?_
        revert hf; refine ab_bdI (fun a4 e hf => ?_); subst e
        revert hf; refine ab_bdI (fun v5 mv5 hf => ?_)
        refine xr_get A xc_X4 in_X4 3 (Nat.le_of_ble_eq_true rfl) q252 rfl (ab_gIE mv5) dX1_odds_56 ?_
        refine xr_if_eq A (tgt := 65) dX1_odds_59 (by decide) (fun c59 => ?_) (fun c59 => ?_)
        · replace hf := ab_ip c59 hf
          refine xr_lconst A (v := 1) dX1_odds_65 (by decide) ?_
          refine xr_lstore A dX1_odds_66 (Nat.le_of_ble_eq_true rfl) (L' := [(6, vL (1 : Int64)), (0, vR (some x)), (1, vI l1), (2, vI l2), (3, vL l3), (5, vI l5)]) rfl ?_
          refine xr_iconst A (v := 0) dX1_odds_68 (by decide) ?_
          refine xr_istore A dX1_odds_69 (Nat.le_of_ble_eq_true rfl) (L' := [(8, vI (0 : Int32)), (6, vL (1 : Int64)), (0, vR (some x)), (1, vI l1), (2, vI l2), (3, vL l3), (5, vI l5)]) rfl ?_
          refine X.sub [2, 3, 4, 5, 6, 1, 0] rfl ?_
          exact wX1_odds_l71 A (fun hf => ih hf) _ hf
        · replace hf := ab_in c59 hf
          refine xr_goto A (tgt := 149) dX1_odds_62 (by decide) ?_
          refine xr_iinc A dX1_odds_149 4 rfl (v := (l5 + (1 : Int32))) rfl (Nat.le_of_ble_eq_true rfl) (L' := [(5, vI (l5 + (1 : Int32))), (0, vR (some x)), (1, vI l1), (2, vI l2), (3, vL l3)]) rfl ?_
          refine xr_goto A (tgt := 34) dX1_odds_152 (by decide) ?_
          refine X.sub [1, 2, 3, 4, 0] rfl ?_
          exact ih hf
noncomputable def fX1_odds (x : Nat) (p1 : Int32) (h : Hp) : Option (Int64 × Hp) :=
  ab_ck h x 0 <|
  ab_bd (fX1_anew x h) fun h2 =>
  ab_b2 (fX1_isCar x p1 h2) fun v5 h4 =>
  if v5 = 0 then (
    ab_b2 (fX1_no x (1 : Int32) h4) fun v15 h14 =>
    some (v15.toInt64, h14))
  else (
    ab_bd (ab_gR h4 x 0 8) fun v6 =>
    ab_bd v6 fun a7 =>
    ab_bd (ab_aR h4 a7 5 p1) fun v8 =>
    ab_bd v8 fun a9 =>
    ab_b2 (fX4_set a9 h4) fun v12 h11 =>
    fX1_odds_l34 x (hfu h11) p1 v12 (0 : Int64) (0 : Int32) h11)
theorem wX1_odds (D : Dd) {x : Nat} {p1 : Int32} {h : Hp} {r : Int64} {h' : Hp} (hf : fX1_odds x p1 h = some (r, h')) : ab_is h x 0 ∧ Ct D 5 112 yX1_odds cX1_odds 10 (some FieldType.long) [vR (some x), vI p1] h (.inl (some (vL r))) h' := by
    unfold fX1_odds at hf
    replace hf := ab_ckE hf; obtain ⟨i0, hf⟩ := hf
    refine ⟨i0, ?_⟩
    refine Ct.of (by decide) (L := [(0, vR (some x)), (1, vI p1)]) rfl (Nat.le_of_ble_eq_true rfl) (fun C A => ?_)
    refine xr_aload_n A dX1_odds_0 0 rfl rfl ?_
    revert hf; refine ab_bdI (fun h2 m1 hf => ?_)
    refine xr_V0 A bX1_anew (wX1_anew D m1).2 xc_X1 (wX1_anew D m1).1 q402 qs2 q400 (av := []) (rest := []) rfl dX1_odds_1 (Nat.le_of_ble_eq_true rfl) (Nat.le_of_ble_eq_true rfl) rfl (Nat.le_of_ble_eq_true rfl) ?_
    refine xr_aload_n A dX1_odds_4 0 rfl rfl ?_
    refine xr_iload_n A dX1_odds_5 1 rfl rfl ?_
    revert hf; refine ab_b2I (fun v5 h4 m3 hf => ?_)
    refine xr_V A bX1_isCar (wX1_isCar D m3).2 xc_X1 (wX1_isCar D m3).1 q1003 qs24 q1001 (av := [vI p1]) (rest := []) rfl dX1_odds_6 (Nat.le_of_ble_eq_true rfl) (Nat.le_of_ble_eq_true rfl) rfl (Nat.le_of_ble_eq_true rfl) ?_
    refine xr_if_ne A (tgt := 19) dX1_odds_9 (by decide) (fun c9 => ?_) (fun c9 => ?_)
    · replace hf := ab_in c9 hf
      refine xr_aload_n A dX1_odds_19 0 rfl rfl ?_
      revert hf; refine ab_bdI (fun v6 mv6 hf => ?_)
      refine xr_get A xc_X1 in_X1 8 (Nat.le_of_ble_eq_true rfl) q271 rfl (ab_gRE mv6) dX1_odds_20 ?_
      refine xr_iload_n A dX1_odds_23 1 rfl rfl ?_
      revert hf; refine ab_bdI (fun a7 e hf => ?_); subst e
      revert hf; refine ab_bdI (fun v8 mv8 hf => ?_)
      refine xr_aaload A (t := 5) rfl mv8 dX1_odds_24 ?_
      revert hf; refine ab_bdI (fun a9 e hf => ?_); subst e
      revert hf; refine ab_b2I (fun v12 h11 m10 hf => ?_)
      refine xr_V A bX4_set (wX4_set D m10).2 xc_X4 (wX4_set D m10).1 q1144 q1145 q1143 (av := []) (rest := []) rfl dX1_odds_25 (Nat.le_of_ble_eq_true rfl) (Nat.le_of_ble_eq_true rfl) rfl (Nat.le_of_ble_eq_true rfl) ?_
      refine xr_istore_n A dX1_odds_28 rfl (Nat.le_of_ble_eq_true rfl) (L' := [(2, vI v12), (0, vR (some x)), (1, vI p1)]) rfl ?_
      refine xr_lconst A (v := 0) dX1_odds_29 (by decide) ?_
      refine xr_lstore_n A dX1_odds_30 rfl (Nat.le_of_ble_eq_true rfl) (L' := [(3, vL (0 : Int64)), (2, vI v12), (0, vR (some x)), (1, vI p1)]) rfl ?_
      refine xr_iconst A (v := 0) dX1_odds_31 (by decide) ?_
      refine xr_istore A dX1_odds_32 (Nat.le_of_ble_eq_true rfl) (L' := [(5, vI (0 : Int32)), (3, vL (0 : Int64)), (2, vI v12), (0, vR (some x)), (1, vI p1)]) rfl ?_
      refine X.sub [3, 4, 2, 1, 0] rfl ?_
      exact wX1_odds_l34 A _ hf
    · replace hf := ab_ip c9 hf
      refine xr_aload_n A dX1_odds_12 0 rfl rfl ?_
      refine xr_iconst A (v := 1) dX1_odds_13 (by decide) ?_
      revert hf; refine ab_b2I (fun v15 h14 m13 hf => ?_)
      refine xr_V A bX1_no (wX1_no D m13).2 xc_X1 (wX1_no D m13).1 q409 qs3 q407 (av := [vI (1 : Int32)]) (rest := []) rfl dX1_odds_14 (Nat.le_of_ble_eq_true rfl) (Nat.le_of_ble_eq_true rfl) rfl (Nat.le_of_ble_eq_true rfl) ?_
      refine xr_i2l A dX1_odds_17 ?_
      exact xr_lreturn A hf dX1_odds_18
/-! X1_costs -/
theorem bX1_costs : MB yX1_costs cX1_costs 4 (some FieldType.int) 1 := ⟨q1150, q92, by decide, by decide +kernel⟩
noncomputable def fX1_costs (x : Nat) (p1 : Int32) (h : Hp) : Option (Int32 × Hp) :=
  ab_ck h x 0 <|
  ab_bd (fX1_anew x h) fun h2 =>
  ab_b2 (fX1_drivenWhy x p1 h2) fun v5 h4 =>
  ab_bd (ab_pI h4 x 0 4 v5) fun h6 =>
  ab_bd (ab_gI h6 x 0 4) fun v7 =>
  if v7 = 0 then (
    ab_b2 (fX1_carOf x p1 h6) fun v10 h9 =>
    ab_b2 (fX1_walked x v10 ((1 : Int32) <<< (p1 &&& 31)) h9) fun v13 h12 =>
    ab_bd v13 fun a14 =>
    ab_bd (ab_gI h12 a14 3 3) fun v15 =>
    ab_b2 (fX1_ones v15 h12) fun v18 h17 =>
    ab_b2 (fX1_walked x v10 (0 : Int32) h17) fun v21 h20 =>
    ab_bd v21 fun a22 =>
    ab_bd (ab_gI h20 a22 3 3) fun v23 =>
    ab_b2 (fX1_ones v23 h20) fun v26 h25 =>
    some ((v18 - v26), h25))
  else (
    some ((-1000 : Int32), h6))
theorem wX1_costs (D : Dd) {x : Nat} {p1 : Int32} {h : Hp} {r : Int32} {h' : Hp} (hf : fX1_costs x p1 h = some (r, h')) : ab_is h x 0 ∧ Ct D 5 112 yX1_costs cX1_costs 4 (some FieldType.int) [vR (some x), vI p1] h (.inl (some (vI r))) h' := by
    unfold fX1_costs at hf
    replace hf := ab_ckE hf; obtain ⟨i0, hf⟩ := hf
    refine ⟨i0, ?_⟩
    refine Ct.of (by decide) (L := [(0, vR (some x)), (1, vI p1)]) rfl (Nat.le_of_ble_eq_true rfl) (fun C A => ?_)
    refine xr_aload_n A dX1_costs_0 0 rfl rfl ?_
    revert hf; refine ab_bdI (fun h2 m1 hf => ?_)
    refine xr_V0 A bX1_anew (wX1_anew D m1).2 xc_X1 (wX1_anew D m1).1 q402 qs2 q400 (av := []) (rest := []) rfl dX1_costs_1 (Nat.le_of_ble_eq_true rfl) (Nat.le_of_ble_eq_true rfl) rfl (Nat.le_of_ble_eq_true rfl) ?_
    refine xr_aload_n A dX1_costs_4 0 rfl rfl ?_
    refine xr_aload_n A dX1_costs_5 0 rfl rfl ?_
    refine xr_iload_n A dX1_costs_6 1 rfl rfl ?_
    revert hf; refine ab_b2I (fun v5 h4 m3 hf => ?_)
    refine xr_V A bX1_drivenWhy (wX1_drivenWhy D m3).2 xc_X1 (wX1_drivenWhy D m3).1 q1039 qs29 q1037 (av := [vI p1]) (rest := [vR (some x)]) rfl dX1_costs_7 (Nat.le_of_ble_eq_true rfl) (Nat.le_of_ble_eq_true rfl) rfl (Nat.le_of_ble_eq_true rfl) ?_
    revert hf; refine ab_bdI (fun h6 mh6 hf => ?_)
    refine xr_put A xc_X1 in_X1 tyX1_ok nmX1 4 (Nat.le_of_ble_eq_true rfl) q267 rfl rfl (v := vI v5) rfl rfl mh6 dX1_costs_10 ?_
    refine xr_aload_n A dX1_costs_13 0 rfl rfl ?_
    revert hf; refine ab_bdI (fun v7 mv7 hf => ?_)
    refine xr_get A xc_X1 in_X1 4 (Nat.le_of_ble_eq_true rfl) q267 rfl (ab_gIE mv7) dX1_costs_14 ?_
    refine xr_if_eq A (tgt := 24) dX1_costs_17 (by decide) (fun c17 => ?_) (fun c17 => ?_)
    · replace hf := ab_ip c17 hf
      refine xr_aload_n A dX1_costs_24 0 rfl rfl ?_
      refine xr_iload_n A dX1_costs_25 1 rfl rfl ?_
      revert hf; refine ab_b2I (fun v10 h9 m8 hf => ?_)
      refine xr_V A bX1_carOf (wX1_carOf D m8).2 xc_X1 (wX1_carOf D m8).1 q1011 qs26 q1009 (av := [vI p1]) (rest := []) rfl dX1_costs_26 (Nat.le_of_ble_eq_true rfl) (Nat.le_of_ble_eq_true rfl) rfl (Nat.le_of_ble_eq_true rfl) ?_
      refine xr_istore_n A dX1_costs_29 rfl (Nat.le_of_ble_eq_true rfl) (L' := [(2, vI v10), (0, vR (some x)), (1, vI p1)]) rfl ?_
      refine xr_aload_n A dX1_costs_30 1 rfl rfl ?_
      refine xr_iload_n A dX1_costs_31 0 rfl rfl ?_
      refine xr_iconst A (v := 1) dX1_costs_32 (by decide) ?_
      refine xr_iload_n A dX1_costs_33 2 rfl rfl ?_
      refine xr_ishl A dX1_costs_34 ?_
      revert hf; refine ab_b2I (fun v13 h12 m11 hf => ?_)
      refine xr_V A bX1_walked (wX1_walked D m11).2 xc_X1 (wX1_walked D m11).1 q1047 qs31 q1045 (av := [vI v10, vI ((1 : Int32) <<< (p1 &&& 31))]) (rest := []) rfl dX1_costs_35 (Nat.le_of_ble_eq_true rfl) (Nat.le_of_ble_eq_true rfl) rfl (Nat.le_of_ble_eq_true rfl) ?_
      revert hf; refine ab_bdI (fun a14 e hf => ?_); subst e
      revert hf; refine ab_bdI (fun v15 mv15 hf => ?_)
      refine xr_get A xc_X4 in_X4 3 (Nat.le_of_ble_eq_true rfl) q252 rfl (ab_gIE mv15) dX1_costs_38 ?_
      revert hf; refine ab_b2I (fun v18 h17 m16 hf => ?_)
      refine xr_S A bX1_ones (wX1_ones D m16) q1095 q1094 (av := [vI v15]) (rest := []) rfl dX1_costs_41 (Nat.le_of_ble_eq_true rfl) (Nat.le_of_ble_eq_true rfl) rfl (Nat.le_of_ble_eq_true rfl) ?_
      refine xr_istore_n A dX1_costs_44 rfl (Nat.le_of_ble_eq_true rfl) (L' := [(3, vI v18), (2, vI v10), (0, vR (some x)), (1, vI p1)]) rfl ?_
      refine xr_iload_n A dX1_costs_45 0 rfl rfl ?_
      refine xr_aload_n A dX1_costs_46 2 rfl rfl ?_
      refine xr_iload_n A dX1_costs_47 1 rfl rfl ?_
      refine xr_iconst A (v := 0) dX1_costs_48 (by decide) ?_
      revert hf; refine ab_b2I (fun v21 h20 m19 hf => ?_)
      refine xr_V A bX1_walked (wX1_walked D m19).2 xc_X1 (wX1_walked D m19).1 q1047 qs31 q1045 (av := [vI v10, vI (0 : Int32)]) (rest := [vI v18]) rfl dX1_costs_49 (Nat.le_of_ble_eq_true rfl) (Nat.le_of_ble_eq_true rfl) rfl (Nat.le_of_ble_eq_true rfl) ?_
      revert hf; refine ab_bdI (fun a22 e hf => ?_); subst e
      revert hf; refine ab_bdI (fun v23 mv23 hf => ?_)
      refine xr_get A xc_X4 in_X4 3 (Nat.le_of_ble_eq_true rfl) q252 rfl (ab_gIE mv23) dX1_costs_52 ?_
      revert hf; refine ab_b2I (fun v26 h25 m24 hf => ?_)
      refine xr_S A bX1_ones (wX1_ones D m24) q1095 q1094 (av := [vI v23]) (rest := [vI v18]) rfl dX1_costs_55 (Nat.le_of_ble_eq_true rfl) (Nat.le_of_ble_eq_true rfl) rfl (Nat.le_of_ble_eq_true rfl) ?_
      refine xr_isub A dX1_costs_58 ?_
      exact xr_ireturn A rfl hf dX1_costs_59
    · replace hf := ab_in c17 hf
      refine xr_sipush A (v := (-1000)) dX1_costs_20 (by decide) ?_
      exact xr_ireturn A rfl hf dX1_costs_23
/-! X1_isDish -/
theorem bX1_isDish : MB yX1_isDish cX1_isDish 2 (some FieldType.boolean) 1 := ⟨q1158, q92, by decide, by decide +kernel⟩
noncomputable def fX1_isDish (x : Nat) (p1 : Int32) (h : Hp) : Option (Int32 × Hp) :=
  ab_ck h x 0 <|
  ab_bd (ab_gR h x 0 3) fun v1 =>
  ab_on v1 (
    some ((0 : Int32), h)) fun a2 => (
    ab_bd (ab_gR h x 0 3) fun v3 =>
    ab_bd v3 fun a4 =>
    ab_bd (ab_gI h a4 5 10) fun v5 =>
    ab_b2 (fX1_in p1 (0 : Int32) (v5 - (1 : Int32)) h) fun v8 h7 =>
    if v8 = 0 then (
      some ((0 : Int32), h7))
    else (
      some ((1 : Int32), h7)))
theorem wX1_isDish (D : Dd) {x : Nat} {p1 : Int32} {h : Hp} {r : Int32} {h' : Hp} (hf : fX1_isDish x p1 h = some (r, h')) : ab_is h x 0 ∧ Ct D 2 42 yX1_isDish cX1_isDish 2 (some FieldType.boolean) [vR (some x), vI p1] h (.inl (some (vI r))) h' := by
    unfold fX1_isDish at hf
    replace hf := ab_ckE hf; obtain ⟨i0, hf⟩ := hf
    refine ⟨i0, ?_⟩
    refine Ct.of (by decide) (L := [(0, vR (some x)), (1, vI p1)]) rfl (Nat.le_of_ble_eq_true rfl) (fun C A => ?_)
    refine xr_aload_n A dX1_isDish_0 0 rfl rfl ?_
    revert hf; refine ab_bdI (fun v1 mv1 hf => ?_)
    refine xr_get A xc_X1 in_X1 3 (Nat.le_of_ble_eq_true rfl) q266 rfl (ab_gRE mv1) dX1_isDish_1 ?_
    revert hf; refine ab_onI (fun e hf => ?_) (fun a2 e hf => ?_) <;> subst e
    · refine xr_ifnull A (tgt := 28) dX1_isDish_4 (by decide) (fun _ => ?_) (fun _ e => by cases e)
      refine xr_iconst A (v := 0) dX1_isDish_28 (by decide) ?_
      exact xr_ireturn A rfl hf dX1_isDish_29
    · refine xr_ifnull A (tgt := 28) dX1_isDish_4 (by decide) (fun e => by cases e) (fun _ _ => ?_)
      refine xr_iload_n A dX1_isDish_7 1 rfl rfl ?_
      refine xr_iconst A (v := 0) dX1_isDish_8 (by decide) ?_
      refine xr_aload_n A dX1_isDish_9 0 rfl rfl ?_
      revert hf; refine ab_bdI (fun v3 mv3 hf => ?_)
      refine xr_get A xc_X1 in_X1 3 (Nat.le_of_ble_eq_true rfl) q266 rfl (ab_gRE mv3) dX1_isDish_10 ?_
      revert hf; refine ab_bdI (fun a4 e hf => ?_); subst e
      revert hf; refine ab_bdI (fun v5 mv5 hf => ?_)
      refine xr_get A xc_X6 in_X6 10 (Nat.le_of_ble_eq_true rfl) q465 rfl (ab_gIE mv5) dX1_isDish_13 ?_
      refine xr_iconst A (v := 1) dX1_isDish_16 (by decide) ?_
      refine xr_isub A dX1_isDish_17 ?_
      revert hf; refine ab_b2I (fun v8 h7 m6 hf => ?_)
      refine xr_S A bX1_in (wX1_in D m6) q405 q404 (av := [vI p1, vI (0 : Int32), vI (v5 - (1 : Int32))]) (rest := []) rfl dX1_isDish_18 (Nat.le_of_ble_eq_true rfl) (Nat.le_of_ble_eq_true rfl) rfl (Nat.le_of_ble_eq_true rfl) ?_
      refine xr_if_eq A (tgt := 28) dX1_isDish_21 (by decide) (fun c21 => ?_) (fun c21 => ?_)
      · replace hf := ab_ip c21 hf
        refine xr_iconst A (v := 0) dX1_isDish_28 (by decide) ?_
        exact xr_ireturn A rfl hf dX1_isDish_29
      · replace hf := ab_in c21 hf
        refine xr_iconst A (v := 1) dX1_isDish_24 (by decide) ?_
        refine xr_goto A (tgt := 29) dX1_isDish_25 (by decide) ?_
        exact xr_ireturn A rfl hf dX1_isDish_29
/-! X1_barred -/
theorem bX1_barred : MB yX1_barred cX1_barred 3 (some FieldType.int) 2 := ⟨q1162, q92, by decide, by decide +kernel⟩
noncomputable def fX1_barred (x : Nat) (p1 : Option Nat) (p2 : Int32) (h : Hp) : Option (Int32 × Hp) :=
  ab_ck h x 0 <|
  ab_bd p1 fun a1 =>
  ab_bd (ab_gI h a1 8 2) fun v2 =>
  ab_bd (ab_gR h x 0 3) fun v3 =>
  ab_bd v3 fun a4 =>
  ab_bd (ab_gR h a4 5 1) fun v5 =>
  ab_bd v5 fun a6 =>
  ab_bd (ab_aR h a6 7 p2) fun v7 =>
  ab_bd v7 fun a8 =>
  ab_bd (ab_gI h a8 7 2) fun v9 =>
  some ((v2 &&& v9), h)
theorem wX1_barred (D : Dd) {x : Nat} {p1 : Option Nat} {p2 : Int32} {h : Hp} {r : Int32} {h' : Hp} (hf : fX1_barred x p1 p2 h = some (r, h')) : ab_is h x 0 ∧ Ct D 1 20 yX1_barred cX1_barred 3 (some FieldType.int) [vR (some x), vR p1, vI p2] h (.inl (some (vI r))) h' := by
    unfold fX1_barred at hf
    replace hf := ab_ckE hf; obtain ⟨i0, hf⟩ := hf
    refine ⟨i0, ?_⟩
    refine Ct.of (by decide) (L := [(0, vR (some x)), (1, vR p1), (2, vI p2)]) rfl (Nat.le_of_ble_eq_true rfl) (fun C A => ?_)
    refine xr_aload_n A dX1_barred_0 1 rfl rfl ?_
    revert hf; refine ab_bdI (fun a1 e hf => ?_); subst e
    revert hf; refine ab_bdI (fun v2 mv2 hf => ?_)
    refine xr_get A xc_X10 in_X10 2 (Nat.le_of_ble_eq_true rfl) q847 rfl (ab_gIE mv2) dX1_barred_1 ?_
    refine xr_aload_n A dX1_barred_4 0 rfl rfl ?_
    revert hf; refine ab_bdI (fun v3 mv3 hf => ?_)
    refine xr_get A xc_X1 in_X1 3 (Nat.le_of_ble_eq_true rfl) q266 rfl (ab_gRE mv3) dX1_barred_5 ?_
    revert hf; refine ab_bdI (fun a4 e hf => ?_); subst e
    revert hf; refine ab_bdI (fun v5 mv5 hf => ?_)
    refine xr_get A xc_X6 in_X6 1 (Nat.le_of_ble_eq_true rfl) q439 rfl (ab_gRE mv5) dX1_barred_8 ?_
    refine xr_iload_n A dX1_barred_11 2 rfl rfl ?_
    revert hf; refine ab_bdI (fun a6 e hf => ?_); subst e
    revert hf; refine ab_bdI (fun v7 mv7 hf => ?_)
    refine xr_aaload A (t := 7) rfl mv7 dX1_barred_12 ?_
    revert hf; refine ab_bdI (fun a8 e hf => ?_); subst e
    revert hf; refine ab_bdI (fun v9 mv9 hf => ?_)
    refine xr_get A xc_X9 in_X9 2 (Nat.le_of_ble_eq_true rfl) q792 rfl (ab_gIE mv9) dX1_barred_13 ?_
    refine xr_iand A dX1_barred_16 ?_
    exact xr_ireturn A rfl hf dX1_barred_17
/-! X1_fits -/
theorem bX1_fits : MB yX1_fits cX1_fits 3 (some FieldType.int) 2 := ⟨q1154, q92, by decide, by decide +kernel⟩
noncomputable def fX1_fits (x : Nat) (p1 : Int32) (p2 : Int32) (h : Hp) : Option (Int32 × Hp) :=
  ab_ck h x 0 <|
  ab_bd (fX1_anew x h) fun h2 =>
  ab_b2 (fX1_isHouse x p1 h2) fun v5 h4 =>
  if v5 = 0 then (
    ab_b2 (fX1_no x (1 : Int32) h4) fun v8 h7 =>
    some (v8, h7))
  else (
    ab_b2 (fX1_isDish x p2 h4) fun v11 h10 =>
    if v11 = 0 then (
      ab_b2 (fX1_no x (1 : Int32) h10) fun v14 h13 =>
      some (v14, h13))
    else (
      ab_bd (ab_gR h10 x 0 3) fun v15 =>
      ab_bd v15 fun a16 =>
      ab_bd (ab_gR h10 a16 5 3) fun v17 =>
      ab_bd v17 fun a18 =>
      ab_bd (ab_aR h10 a18 9 p1) fun v19 =>
      ab_bd v19 fun a20 =>
      ab_bd (ab_gR h10 a20 9 7) fun v21 =>
      ab_b2 (fX1_barred x v21 p2 h10) fun v24 h23 =>
      if v24 = 0 then (
        some ((1 : Int32), h23))
      else (
        some ((0 : Int32), h23))))
theorem wX1_fits (D : Dd) {x : Nat} {p1 : Int32} {p2 : Int32} {h : Hp} {r : Int32} {h' : Hp} (hf : fX1_fits x p1 p2 h = some (r, h')) : ab_is h x 0 ∧ Ct D 3 63 yX1_fits cX1_fits 3 (some FieldType.int) [vR (some x), vI p1, vI p2] h (.inl (some (vI r))) h' := by
    unfold fX1_fits at hf
    replace hf := ab_ckE hf; obtain ⟨i0, hf⟩ := hf
    refine ⟨i0, ?_⟩
    refine Ct.of (by decide) (L := [(0, vR (some x)), (1, vI p1), (2, vI p2)]) rfl (Nat.le_of_ble_eq_true rfl) (fun C A => ?_)
    refine xr_aload_n A dX1_fits_0 0 rfl rfl ?_
    revert hf; refine ab_bdI (fun h2 m1 hf => ?_)
    refine xr_V0 A bX1_anew (wX1_anew D m1).2 xc_X1 (wX1_anew D m1).1 q402 qs2 q400 (av := []) (rest := []) rfl dX1_fits_1 (Nat.le_of_ble_eq_true rfl) (Nat.le_of_ble_eq_true rfl) rfl (Nat.le_of_ble_eq_true rfl) ?_
    refine xr_aload_n A dX1_fits_4 0 rfl rfl ?_
    refine xr_iload_n A dX1_fits_5 1 rfl rfl ?_
    revert hf; refine ab_b2I (fun v5 h4 m3 hf => ?_)
    refine xr_V A bX1_isHouse (wX1_isHouse D m3).2 xc_X1 (wX1_isHouse D m3).1 q1007 qs25 q1005 (av := [vI p1]) (rest := []) rfl dX1_fits_6 (Nat.le_of_ble_eq_true rfl) (Nat.le_of_ble_eq_true rfl) rfl (Nat.le_of_ble_eq_true rfl) ?_
    refine xr_if_eq A (tgt := 48) dX1_fits_9 (by decide) (fun c9 => ?_) (fun c9 => ?_)
    · replace hf := ab_ip c9 hf
      refine xr_aload_n A dX1_fits_48 0 rfl rfl ?_
      refine xr_iconst A (v := 1) dX1_fits_49 (by decide) ?_
      revert hf; refine ab_b2I (fun v8 h7 m6 hf => ?_)
      refine xr_V A bX1_no (wX1_no D m6).2 xc_X1 (wX1_no D m6).1 q409 qs3 q407 (av := [vI (1 : Int32)]) (rest := []) rfl dX1_fits_50 (Nat.le_of_ble_eq_true rfl) (Nat.le_of_ble_eq_true rfl) rfl (Nat.le_of_ble_eq_true rfl) ?_
      exact xr_ireturn A rfl hf dX1_fits_53
    · replace hf := ab_in c9 hf
      refine xr_aload_n A dX1_fits_12 0 rfl rfl ?_
      refine xr_iload_n A dX1_fits_13 2 rfl rfl ?_
      revert hf; refine ab_b2I (fun v11 h10 m9 hf => ?_)
      refine xr_V A bX1_isDish (wX1_isDish D m9).2 xc_X1 (wX1_isDish D m9).1 q1157 qs36 q1155 (av := [vI p2]) (rest := []) rfl dX1_fits_14 (Nat.le_of_ble_eq_true rfl) (Nat.le_of_ble_eq_true rfl) rfl (Nat.le_of_ble_eq_true rfl) ?_
      refine xr_if_eq A (tgt := 48) dX1_fits_17 (by decide) (fun c17 => ?_) (fun c17 => ?_)
      · replace hf := ab_ip c17 hf
        refine xr_aload_n A dX1_fits_48 0 rfl rfl ?_
        refine xr_iconst A (v := 1) dX1_fits_49 (by decide) ?_
        revert hf; refine ab_b2I (fun v14 h13 m12 hf => ?_)
        refine xr_V A bX1_no (wX1_no D m12).2 xc_X1 (wX1_no D m12).1 q409 qs3 q407 (av := [vI (1 : Int32)]) (rest := []) rfl dX1_fits_50 (Nat.le_of_ble_eq_true rfl) (Nat.le_of_ble_eq_true rfl) rfl (Nat.le_of_ble_eq_true rfl) ?_
        exact xr_ireturn A rfl hf dX1_fits_53
      · replace hf := ab_in c17 hf
        refine xr_aload_n A dX1_fits_20 0 rfl rfl ?_
        refine xr_aload_n A dX1_fits_21 0 rfl rfl ?_
        revert hf; refine ab_bdI (fun v15 mv15 hf => ?_)
        refine xr_get A xc_X1 in_X1 3 (Nat.le_of_ble_eq_true rfl) q266 rfl (ab_gRE mv15) dX1_fits_22 ?_
        revert hf; refine ab_bdI (fun a16 e hf => ?_); subst e
        revert hf; refine ab_bdI (fun v17 mv17 hf => ?_)
        refine xr_get A xc_X6 in_X6 3 (Nat.le_of_ble_eq_true rfl) q446 rfl (ab_gRE mv17) dX1_fits_25 ?_
        refine xr_iload_n A dX1_fits_28 1 rfl rfl ?_
        revert hf; refine ab_bdI (fun a18 e hf => ?_); subst e
        revert hf; refine ab_bdI (fun v19 mv19 hf => ?_)
        refine xr_aaload A (t := 9) rfl mv19 dX1_fits_29 ?_
        revert hf; refine ab_bdI (fun a20 e hf => ?_); subst e
        revert hf; refine ab_bdI (fun v21 mv21 hf => ?_)
        refine xr_get A xc_X11 in_X11 7 (Nat.le_of_ble_eq_true rfl) q875 rfl (ab_gRE mv21) dX1_fits_30 ?_
        refine xr_iload_n A dX1_fits_33 2 rfl rfl ?_
        revert hf; refine ab_b2I (fun v24 h23 m22 hf => ?_)
        refine xr_V A bX1_barred (wX1_barred D m22).2 xc_X1 (wX1_barred D m22).1 q1161 qs37 q1159 (av := [vR v21, vI p2]) (rest := []) rfl dX1_fits_34 (Nat.le_of_ble_eq_true rfl) (Nat.le_of_ble_eq_true rfl) rfl (Nat.le_of_ble_eq_true rfl) ?_
        refine xr_if_ne A (tgt := 44) dX1_fits_37 (by decide) (fun c37 => ?_) (fun c37 => ?_)
        · replace hf := ab_in c37 hf
          refine xr_iconst A (v := 0) dX1_fits_44 (by decide) ?_
          refine xr_goto A (tgt := 53) dX1_fits_45 (by decide) ?_
          exact xr_ireturn A rfl hf dX1_fits_53
        · replace hf := ab_ip c37 hf
          refine xr_iconst A (v := 1) dX1_fits_40 (by decide) ?_
          refine xr_goto A (tgt := 53) dX1_fits_41 (by decide) ?_
          exact xr_ireturn A rfl hf dX1_fits_53
/-! X1_breach -/
theorem bX1_breach : MB yX1_breach cX1_breach 3 (some FieldType.int) 2 := ⟨q1166, q92, by decide, by decide +kernel⟩
noncomputable def fX1_breach (x : Nat) (p1 : Int32) (p2 : Int32) (h : Hp) : Option (Int32 × Hp) :=
  ab_ck h x 0 <|
  ab_bd (fX1_anew x h) fun h2 =>
  ab_b2 (fX1_isHouse x p1 h2) fun v5 h4 =>
  if v5 = 0 then (
    ab_b2 (fX1_no x (1 : Int32) h4) fun v8 h7 =>
    some (v8, h7))
  else (
    ab_b2 (fX1_isDish x p2 h4) fun v11 h10 =>
    if v11 = 0 then (
      ab_b2 (fX1_no x (1 : Int32) h10) fun v14 h13 =>
      some (v14, h13))
    else (
      ab_bd (ab_gR h10 x 0 3) fun v15 =>
      ab_bd v15 fun a16 =>
      ab_bd (ab_gR h10 a16 5 3) fun v17 =>
      ab_bd v17 fun a18 =>
      ab_bd (ab_aR h10 a18 9 p1) fun v19 =>
      ab_bd v19 fun a20 =>
      ab_bd (ab_gR h10 a20 9 7) fun v21 =>
      ab_b2 (fX1_barred x v21 p2 h10) fun v24 h23 =>
      some (v24, h23)))
theorem wX1_breach (D : Dd) {x : Nat} {p1 : Int32} {p2 : Int32} {h : Hp} {r : Int32} {h' : Hp} (hf : fX1_breach x p1 p2 h = some (r, h')) : ab_is h x 0 ∧ Ct D 3 63 yX1_breach cX1_breach 3 (some FieldType.int) [vR (some x), vI p1, vI p2] h (.inl (some (vI r))) h' := by
    unfold fX1_breach at hf
    replace hf := ab_ckE hf; obtain ⟨i0, hf⟩ := hf
    refine ⟨i0, ?_⟩
    refine Ct.of (by decide) (L := [(0, vR (some x)), (1, vI p1), (2, vI p2)]) rfl (Nat.le_of_ble_eq_true rfl) (fun C A => ?_)
    refine xr_aload_n A dX1_breach_0 0 rfl rfl ?_
    revert hf; refine ab_bdI (fun h2 m1 hf => ?_)
    refine xr_V0 A bX1_anew (wX1_anew D m1).2 xc_X1 (wX1_anew D m1).1 q402 qs2 q400 (av := []) (rest := []) rfl dX1_breach_1 (Nat.le_of_ble_eq_true rfl) (Nat.le_of_ble_eq_true rfl) rfl (Nat.le_of_ble_eq_true rfl) ?_
    refine xr_aload_n A dX1_breach_4 0 rfl rfl ?_
    refine xr_iload_n A dX1_breach_5 1 rfl rfl ?_
    revert hf; refine ab_b2I (fun v5 h4 m3 hf => ?_)
    refine xr_V A bX1_isHouse (wX1_isHouse D m3).2 xc_X1 (wX1_isHouse D m3).1 q1007 qs25 q1005 (av := [vI p1]) (rest := []) rfl dX1_breach_6 (Nat.le_of_ble_eq_true rfl) (Nat.le_of_ble_eq_true rfl) rfl (Nat.le_of_ble_eq_true rfl) ?_
    refine xr_if_eq A (tgt := 40) dX1_breach_9 (by decide) (fun c9 => ?_) (fun c9 => ?_)
    · replace hf := ab_ip c9 hf
      refine xr_aload_n A dX1_breach_40 0 rfl rfl ?_
      refine xr_iconst A (v := 1) dX1_breach_41 (by decide) ?_
      revert hf; refine ab_b2I (fun v8 h7 m6 hf => ?_)
      refine xr_V A bX1_no (wX1_no D m6).2 xc_X1 (wX1_no D m6).1 q409 qs3 q407 (av := [vI (1 : Int32)]) (rest := []) rfl dX1_breach_42 (Nat.le_of_ble_eq_true rfl) (Nat.le_of_ble_eq_true rfl) rfl (Nat.le_of_ble_eq_true rfl) ?_
      exact xr_ireturn A rfl hf dX1_breach_45
    · replace hf := ab_in c9 hf
      refine xr_aload_n A dX1_breach_12 0 rfl rfl ?_
      refine xr_iload_n A dX1_breach_13 2 rfl rfl ?_
      revert hf; refine ab_b2I (fun v11 h10 m9 hf => ?_)
      refine xr_V A bX1_isDish (wX1_isDish D m9).2 xc_X1 (wX1_isDish D m9).1 q1157 qs36 q1155 (av := [vI p2]) (rest := []) rfl dX1_breach_14 (Nat.le_of_ble_eq_true rfl) (Nat.le_of_ble_eq_true rfl) rfl (Nat.le_of_ble_eq_true rfl) ?_
      refine xr_if_eq A (tgt := 40) dX1_breach_17 (by decide) (fun c17 => ?_) (fun c17 => ?_)
      · replace hf := ab_ip c17 hf
        refine xr_aload_n A dX1_breach_40 0 rfl rfl ?_
        refine xr_iconst A (v := 1) dX1_breach_41 (by decide) ?_
        revert hf; refine ab_b2I (fun v14 h13 m12 hf => ?_)
        refine xr_V A bX1_no (wX1_no D m12).2 xc_X1 (wX1_no D m12).1 q409 qs3 q407 (av := [vI (1 : Int32)]) (rest := []) rfl dX1_breach_42 (Nat.le_of_ble_eq_true rfl) (Nat.le_of_ble_eq_true rfl) rfl (Nat.le_of_ble_eq_true rfl) ?_
        exact xr_ireturn A rfl hf dX1_breach_45
      · replace hf := ab_in c17 hf
        refine xr_aload_n A dX1_breach_20 0 rfl rfl ?_
        refine xr_aload_n A dX1_breach_21 0 rfl rfl ?_
        revert hf; refine ab_bdI (fun v15 mv15 hf => ?_)
        refine xr_get A xc_X1 in_X1 3 (Nat.le_of_ble_eq_true rfl) q266 rfl (ab_gRE mv15) dX1_breach_22 ?_
        revert hf; refine ab_bdI (fun a16 e hf => ?_); subst e
        revert hf; refine ab_bdI (fun v17 mv17 hf => ?_)
        refine xr_get A xc_X6 in_X6 3 (Nat.le_of_ble_eq_true rfl) q446 rfl (ab_gRE mv17) dX1_breach_25 ?_
        refine xr_iload_n A dX1_breach_28 1 rfl rfl ?_
        revert hf; refine ab_bdI (fun a18 e hf => ?_); subst e
        revert hf; refine ab_bdI (fun v19 mv19 hf => ?_)
        refine xr_aaload A (t := 9) rfl mv19 dX1_breach_29 ?_
        revert hf; refine ab_bdI (fun a20 e hf => ?_); subst e
        revert hf; refine ab_bdI (fun v21 mv21 hf => ?_)
        refine xr_get A xc_X11 in_X11 7 (Nat.le_of_ble_eq_true rfl) q875 rfl (ab_gRE mv21) dX1_breach_30 ?_
        refine xr_iload_n A dX1_breach_33 2 rfl rfl ?_
        revert hf; refine ab_b2I (fun v24 h23 m22 hf => ?_)
        refine xr_V A bX1_barred (wX1_barred D m22).2 xc_X1 (wX1_barred D m22).1 q1161 qs37 q1159 (av := [vR v21, vI p2]) (rest := []) rfl dX1_breach_34 (Nat.le_of_ble_eq_true rfl) (Nat.le_of_ble_eq_true rfl) rfl (Nat.le_of_ble_eq_true rfl) ?_
        refine xr_goto A (tgt := 45) dX1_breach_37 (by decide) ?_
        exact xr_ireturn A rfl hf dX1_breach_45
/-! X1_forAll -/
theorem bX1_forAll : MB yX1_forAll cX1_forAll 5 (some FieldType.int) 0 := ⟨q1170, q92, by decide, by decide +kernel⟩
noncomputable def fX1_forAll_l37 (x : Nat) (K21 : Int32 → Int32 → Hp → Option (Int32 × Hp)) : Nat → Int32 → Int32 → Int32 → Int32 → Hp → Option (Int32 × Hp)
  | 0, _, _, _, _, _ => none
  | n + 1, l1, l2, l3, l4, h =>
  ab_bd (ab_gR h x 0 3) fun v1 =>
  ab_bd v1 fun a2 =>
  ab_bd (ab_gI h a2 5 12) fun v3 =>
  if v3 ≤ l4 then (
    if l3 = 0 then (
      K21 (l1 ||| (0 : Int32)) (l2 + (1 : Int32)) h)
    else (
      K21 (l1 ||| ((1 : Int32) <<< (l2 &&& 31))) (l2 + (1 : Int32)) h))
  else (
    if l3 = 0 then (
      fX1_forAll_l37 x K21 n l1 l2 (0 : Int32) (l4 + (1 : Int32)) h)
    else (
      ab_bd (ab_gR h x 0 3) fun v4 =>
      ab_bd v4 fun a5 =>
      ab_bd (ab_gR h a5 5 3) fun v6 =>
      ab_bd v6 fun a7 =>
      ab_bd (ab_aR h a7 9 l4) fun v8 =>
      ab_bd v8 fun a9 =>
      ab_bd (ab_gR h a9 9 7) fun v10 =>
      ab_b2 (fX1_barred x v10 l2 h) fun v13 h12 =>
      if v13 = 0 then (
        fX1_forAll_l37 x K21 n l1 l2 (1 : Int32) (l4 + (1 : Int32)) h12)
      else (
        fX1_forAll_l37 x K21 n l1 l2 (0 : Int32) (l4 + (1 : Int32)) h12)))
theorem wX1_forAll_l37 {D : Dd} {C : Cx} {h0 h' : Hp} {r : Int32} (A : Act C D (h0, (.inl (some (vI r))), h') yX1_forAll cX1_forAll 5 (some FieldType.int) 2 42 []) {x : Nat} {K21 : Int32 → Int32 → Hp → Option (Int32 × Hp)} (hK21 : ∀ {l1 : Int32} {l2 : Int32} {h : Hp}, K21 l1 l2 h = some (r, h') → X C D (h0, (.inl (some (vI r))), h') 5 21 [(0, vR (some x)), (1, vI l1), (2, vI l2)] [] h) : ∀ (n : Nat) {l1 : Int32} {l2 : Int32} {l3 : Int32} {l4 : Int32} {h : Hp}, fX1_forAll_l37 x K21 n l1 l2 l3 l4 h = some (r, h') → X C D (h0, (.inl (some (vI r))), h') 5 37 [(0, vR (some x)), (1, vI l1), (2, vI l2), (3, vI l3), (4, vI l4)] [] h := by
  intro n
  induction n with
  | zero => intro l1 l2 l3 l4 h hf; exact ab_no hf
  | succ n ih =>
    intro l1 l2 l3 l4 h hf
    unfold fX1_forAll_l37 at hf
    refine xr_iload A dX1_forAll_37 4 rfl ?_
    refine xr_aload_n A dX1_forAll_39 0 rfl rfl ?_
    revert hf; refine ab_bdI (fun v1 mv1 hf => ?_)
    refine xr_get A xc_X1 in_X1 3 (Nat.le_of_ble_eq_true rfl) q266 rfl (ab_gRE mv1) dX1_forAll_40 ?_
    revert hf; refine ab_bdI (fun a2 e hf => ?_); subst e
    revert hf; refine ab_bdI (fun v3 mv3 hf => ?_)
    refine xr_get A xc_X6 in_X6 12 (Nat.le_of_ble_eq_true rfl) q470 rfl (ab_gIE mv3) dX1_forAll_43 ?_
    refine xr_icmp_ge A (tgt := 86) dX1_forAll_46 (by decide) (fun c46 => ?_) (fun c46 => ?_)
    · replace hf := ab_ip c46 hf
      refine xr_iload_n A dX1_forAll_86 1 rfl rfl ?_
      refine xr_iload_n A dX1_forAll_87 3 rfl rfl ?_
      refine xr_if_eq A (tgt := 97) dX1_forAll_88 (by decide) (fun c88 => ?_) (fun c88 => ?_)
      · replace hf := ab_ip c88 hf
        refine xr_iconst A (v := 0) dX1_forAll_97 (by decide) ?_
        refine xr_ior A dX1_forAll_98 ?_
        refine xr_istore_n A dX1_forAll_99 rfl (Nat.le_of_ble_eq_true rfl) (L' := [(1, vI (l1 ||| (0 : Int32))), (0, vR (some x)), (2, vI l2), (3, vI l3), (4, vI l4)]) rfl ?_
        refine xr_iinc A dX1_forAll_100 2 rfl (v := (l2 + (1 : Int32))) rfl (Nat.le_of_ble_eq_true rfl) (L' := [(2, vI (l2 + (1 : Int32))), (1, vI (l1 ||| (0 : Int32))), (0, vR (some x)), (3, vI l3), (4, vI l4)]) rfl ?_
        refine xr_goto A (tgt := 21) dX1_forAll_103 (by decide) ?_
        refine X.sub [2, 1, 0] rfl ?_
        exact hK21 hf
      · replace hf := ab_in c88 hf
        refine xr_iconst A (v := 1) dX1_forAll_91 (by decide) ?_
        refine xr_iload_n A dX1_forAll_92 2 rfl rfl ?_
        refine xr_ishl A dX1_forAll_93 ?_
        refine xr_goto A (tgt := 98) dX1_forAll_94 (by decide) ?_
        refine xr_ior A dX1_forAll_98 ?_
        refine xr_istore_n A dX1_forAll_99 rfl (Nat.le_of_ble_eq_true rfl) (L' := [(1, vI (l1 ||| ((1 : Int32) <<< (l2 &&& 31)))), (0, vR (some x)), (2, vI l2), (3, vI l3), (4, vI l4)]) rfl ?_
        refine xr_iinc A dX1_forAll_100 2 rfl (v := (l2 + (1 : Int32))) rfl (Nat.le_of_ble_eq_true rfl) (L' := [(2, vI (l2 + (1 : Int32))), (1, vI (l1 ||| ((1 : Int32) <<< (l2 &&& 31)))), (0, vR (some x)), (3, vI l3), (4, vI l4)]) rfl ?_
        refine xr_goto A (tgt := 21) dX1_forAll_103 (by decide) ?_
        refine X.sub [2, 1, 0] rfl ?_
        exact hK21 hf
    · replace hf := ab_in c46 hf
      refine xr_iload_n A dX1_forAll_49 3 rfl rfl ?_
      refine xr_if_eq A (tgt := 78) dX1_forAll_50 (by decide) (fun c50 => ?_) (fun c50 => ?_)
      · replace hf := ab_ip c50 hf
        refine xr_iconst A (v := 0) dX1_forAll_78 (by decide) ?_
        refine xr_istore_n A dX1_forAll_79 rfl (Nat.le_of_ble_eq_true rfl) (L' := [(3, vI (0 : Int32)), (0, vR (some x)), (1, vI l1), (2, vI l2), (4, vI l4)]) rfl ?_
        refine xr_iinc A dX1_forAll_80 4 rfl (v := (l4 + (1 : Int32))) rfl (Nat.le_of_ble_eq_true rfl) (L' := [(4, vI (l4 + (1 : Int32))), (3, vI (0 : Int32)), (0, vR (some x)), (1, vI l1), (2, vI l2)]) rfl ?_
        refine xr_goto A (tgt := 37) dX1_forAll_83 (by decide) ?_
        refine X.sub [2, 3, 4, 1, 0] rfl ?_
        exact ih hf
      · replace hf := ab_in c50 hf
        refine xr_aload_n A dX1_forAll_53 0 rfl rfl ?_
        refine xr_aload_n A dX1_forAll_54 0 rfl rfl ?_
        revert hf; refine ab_bdI (fun v4 mv4 hf => ?_)
        refine xr_get A xc_X1 in_X1 3 (Nat.le_of_ble_eq_true rfl) q266 rfl (ab_gRE mv4) dX1_forAll_55 ?_
        revert hf; refine ab_bdI (fun a5 e hf => ?_); subst e
        revert hf; refine ab_bdI (fun v6 mv6 hf => ?_)
        refine xr_get A xc_X6 in_X6 3 (Nat.le_of_ble_eq_true rfl) q446 rfl (ab_gRE mv6) dX1_forAll_58 ?_
        refine xr_iload A dX1_forAll_61 4 rfl ?_
        revert hf; refine ab_bdI (fun a7 e hf => ?_); subst e
        revert hf; refine ab_bdI (fun v8 mv8 hf => ?_)
        refine xr_aaload A (t := 9) rfl mv8 dX1_forAll_63 ?_
        revert hf; refine ab_bdI (fun a9 e hf => ?_); subst e
        revert hf; refine ab_bdI (fun v10 mv10 hf => ?_)
        refine xr_get A xc_X11 in_X11 7 (Nat.le_of_ble_eq_true rfl) q875 rfl (ab_gRE mv10) dX1_forAll_64 ?_
        refine xr_iload_n A dX1_forAll_67 2 rfl rfl ?_
        revert hf; refine ab_b2I (fun v13 h12 m11 hf => ?_)
        refine xr_V A bX1_barred (wX1_barred D m11).2 xc_X1 (wX1_barred D m11).1 q1161 qs37 q1159 (av := [vR v10, vI l2]) (rest := []) rfl dX1_forAll_68 (Nat.le_of_ble_eq_true rfl) (Nat.le_of_ble_eq_true rfl) rfl (Nat.le_of_ble_eq_true rfl) ?_
        refine xr_if_ne A (tgt := 78) dX1_forAll_71 (by decide) (fun c71 => ?_) (fun c71 => ?_)
        · replace hf := ab_in c71 hf
          refine xr_iconst A (v := 0) dX1_forAll_78 (by decide) ?_
          refine xr_istore_n A dX1_forAll_79 rfl (Nat.le_of_ble_eq_true rfl) (L' := [(3, vI (0 : Int32)), (0, vR (some x)), (1, vI l1), (2, vI l2), (4, vI l4)]) rfl ?_
          refine xr_iinc A dX1_forAll_80 4 rfl (v := (l4 + (1 : Int32))) rfl (Nat.le_of_ble_eq_true rfl) (L' := [(4, vI (l4 + (1 : Int32))), (3, vI (0 : Int32)), (0, vR (some x)), (1, vI l1), (2, vI l2)]) rfl ?_
          refine xr_goto A (tgt := 37) dX1_forAll_83 (by decide) ?_
          refine X.sub [2, 3, 4, 1, 0] rfl ?_
          exact ih hf
        · replace hf := ab_ip c71 hf
          refine xr_iconst A (v := 1) dX1_forAll_74 (by decide) ?_
          refine xr_goto A (tgt := 79) dX1_forAll_75 (by decide) ?_
          refine xr_istore_n A dX1_forAll_79 rfl (Nat.le_of_ble_eq_true rfl) (L' := [(3, vI (1 : Int32)), (0, vR (some x)), (1, vI l1), (2, vI l2), (4, vI l4)]) rfl ?_
          refine xr_iinc A dX1_forAll_80 4 rfl (v := (l4 + (1 : Int32))) rfl (Nat.le_of_ble_eq_true rfl) (L' := [(4, vI (l4 + (1 : Int32))), (3, vI (1 : Int32)), (0, vR (some x)), (1, vI l1), (2, vI l2)]) rfl ?_
          refine xr_goto A (tgt := 37) dX1_forAll_83 (by decide) ?_
          refine X.sub [2, 3, 4, 1, 0] rfl ?_
          exact ih hf
noncomputable def fX1_forAll_l21 (x : Nat) : Nat → Int32 → Int32 → Hp → Option (Int32 × Hp)
  | 0, _, _, _ => none
  | n + 1, l1, l2, h =>
  ab_bd (ab_gR h x 0 3) fun v1 =>
  ab_bd v1 fun a2 =>
  ab_bd (ab_gI h a2 5 10) fun v3 =>
  if v3 ≤ l2 then (
    some (l1, h))
  else (
    fX1_forAll_l37 x (fX1_forAll_l21 x n) (hfu h) l1 l2 (1 : Int32) (0 : Int32) h)
theorem wX1_forAll_l21 {D : Dd} {C : Cx} {h0 h' : Hp} {r : Int32} (A : Act C D (h0, (.inl (some (vI r))), h') yX1_forAll cX1_forAll 5 (some FieldType.int) 2 42 []) {x : Nat} : ∀ (n : Nat) {l1 : Int32} {l2 : Int32} {h : Hp}, fX1_forAll_l21 x n l1 l2 h = some (r, h') → X C D (h0, (.inl (some (vI r))), h') 5 21 [(0, vR (some x)), (1, vI l1), (2, vI l2)] [] h := by
  intro n
  induction n with
  | zero => intro l1 l2 h hf; exact ab_no hf
  | succ n ih =>
    intro l1 l2 h hf
    unfold fX1_forAll_l21 at hf
    refine xr_iload_n A dX1_forAll_21 2 rfl rfl ?_
    refine xr_aload_n A dX1_forAll_22 0 rfl rfl ?_
    revert hf; refine ab_bdI (fun v1 mv1 hf => ?_)
    refine xr_get A xc_X1 in_X1 3 (Nat.le_of_ble_eq_true rfl) q266 rfl (ab_gRE mv1) dX1_forAll_23 ?_
    revert hf; refine ab_bdI (fun a2 e hf => ?_); subst e
    revert hf; refine ab_bdI (fun v3 mv3 hf => ?_)
    refine xr_get A xc_X6 in_X6 10 (Nat.le_of_ble_eq_true rfl) q465 rfl (ab_gIE mv3) dX1_forAll_26 ?_
    refine xr_icmp_ge A (tgt := 106) dX1_forAll_29 (by decide) (fun c29 => ?_) (fun c29 => ?_)
    · replace hf := ab_ip c29 hf
      refine xr_iload_n A dX1_forAll_106 1 rfl rfl ?_
      exact xr_ireturn A rfl hf dX1_forAll_107
    · replace hf := ab_in c29 hf
      refine xr_iconst A (v := 1) dX1_forAll_32 (by decide) ?_
      refine xr_istore_n A dX1_forAll_33 rfl (Nat.le_of_ble_eq_true rfl) (L' := [(3, vI (1 : Int32)), (0, vR (some x)), (1, vI l1), (2, vI l2)]) rfl ?_
      refine xr_iconst A (v := 0) dX1_forAll_34 (by decide) ?_
      refine xr_istore A dX1_forAll_35 (Nat.le_of_ble_eq_true rfl) (L' := [(4, vI (0 : Int32)), (3, vI (1 : Int32)), (0, vR (some x)), (1, vI l1), (2, vI l2)]) rfl ?_
      refine X.sub [2, 3, 4, 1, 0] rfl ?_
      exact wX1_forAll_l37 A (fun hf => ih hf) _ hf
noncomputable def fX1_forAll (x : Nat) (h : Hp) : Option (Int32 × Hp) :=
  ab_ck h x 0 <|
  ab_bd (fX1_anew x h) fun h2 =>
  ab_bd (ab_gR h2 x 0 3) fun v3 =>
  ab_on v3 (
    ab_b2 (fX1_no x (1 : Int32) h2) fun v7 h6 =>
    some (v7, h6)) fun a4 => (
    fX1_forAll_l21 x (hfu h2) (0 : Int32) (0 : Int32) h2)
theorem wX1_forAll (D : Dd) {x : Nat} {h : Hp} {r : Int32} {h' : Hp} (hf : fX1_forAll x h = some (r, h')) : ab_is h x 0 ∧ Ct D 2 42 yX1_forAll cX1_forAll 5 (some FieldType.int) [vR (some x)] h (.inl (some (vI r))) h' := by
    unfold fX1_forAll at hf
    replace hf := ab_ckE hf; obtain ⟨i0, hf⟩ := hf
    refine ⟨i0, ?_⟩
    refine Ct.of (by decide) (L := [(0, vR (some x))]) rfl (Nat.le_of_ble_eq_true rfl) (fun C A => ?_)
    refine xr_aload_n A dX1_forAll_0 0 rfl rfl ?_
    revert hf; refine ab_bdI (fun h2 m1 hf => ?_)
    refine xr_V0 A bX1_anew (wX1_anew D m1).2 xc_X1 (wX1_anew D m1).1 q402 qs2 q400 (av := []) (rest := []) rfl dX1_forAll_1 (Nat.le_of_ble_eq_true rfl) (Nat.le_of_ble_eq_true rfl) rfl (Nat.le_of_ble_eq_true rfl) ?_
    refine xr_aload_n A dX1_forAll_4 0 rfl rfl ?_
    revert hf; refine ab_bdI (fun v3 mv3 hf => ?_)
    refine xr_get A xc_X1 in_X1 3 (Nat.le_of_ble_eq_true rfl) q266 rfl (ab_gRE mv3) dX1_forAll_5 ?_
    revert hf; refine ab_onI (fun e hf => ?_) (fun a4 e hf => ?_) <;> subst e
    · refine xr_ifnonnull A (tgt := 17) dX1_forAll_8 (by decide) (fun _ e => by cases e) (fun _ => ?_)
      refine xr_aload_n A dX1_forAll_11 0 rfl rfl ?_
      refine xr_iconst A (v := 1) dX1_forAll_12 (by decide) ?_
      revert hf; refine ab_b2I (fun v7 h6 m5 hf => ?_)
      refine xr_V A bX1_no (wX1_no D m5).2 xc_X1 (wX1_no D m5).1 q409 qs3 q407 (av := [vI (1 : Int32)]) (rest := []) rfl dX1_forAll_13 (Nat.le_of_ble_eq_true rfl) (Nat.le_of_ble_eq_true rfl) rfl (Nat.le_of_ble_eq_true rfl) ?_
      exact xr_ireturn A rfl hf dX1_forAll_16
    · refine xr_ifnonnull A (tgt := 17) dX1_forAll_8 (by decide) (fun _ _ => ?_) (fun e => by cases e)
      refine xr_iconst A (v := 0) dX1_forAll_17 (by decide) ?_
      refine xr_istore_n A dX1_forAll_18 rfl (Nat.le_of_ble_eq_true rfl) (L' := [(1, vI (0 : Int32)), (0, vR (some x))]) rfl ?_
      refine xr_iconst A (v := 0) dX1_forAll_19 (by decide) ?_
      refine xr_istore_n A dX1_forAll_20 rfl (Nat.le_of_ble_eq_true rfl) (L' := [(2, vI (0 : Int32)), (1, vI (0 : Int32)), (0, vR (some x))]) rfl ?_
      refine X.sub [2, 1, 0] rfl ?_
      exact wX1_forAll_l21 A _ hf
/-! X1_cheapest -/
theorem bX1_cheapest : MB yX1_cheapest cX1_cheapest 6 (some FieldType.int) 2 := ⟨q1182, q92, by decide, by decide +kernel⟩
noncomputable def fX1_cheapest_l5 (x : Nat) : Nat → Int32 → Int32 → Int32 → Int32 → Hp → Option (Int32 × Hp)
  | 0, _, _, _, _, _ => none
  | n + 1, l1, l2, l3, l4, h =>
  ab_bd (ab_gR h x 0 3) fun v1 =>
  ab_bd v1 fun a2 =>
  ab_bd (ab_gI h a2 5 10) fun v3 =>
  if v3 ≤ l4 then (
    some (l3, h))
  else (
    ab_bd (ab_gR h x 0 19) fun v4 =>
    ab_bd v4 fun a5 =>
    ab_bd (ab_aI h a5 0 (((6 : Int32) * l1) + l4)) fun v6 =>
    if l4 = l2 then (
      fX1_cheapest_l5 x n l1 l2 l3 (l4 + (1 : Int32)) h)
    else (
      if v6 = (-1 : Int32) then (
        fX1_cheapest_l5 x n l1 l2 l3 (l4 + (1 : Int32)) h)
      else (
        if l3 = (-1 : Int32) then (
          fX1_cheapest_l5 x n l1 l2 l4 (l4 + (1 : Int32)) h)
        else (
          ab_bd (ab_gR h x 0 19) fun v7 =>
          ab_bd v7 fun a8 =>
          ab_bd (ab_aI h a8 0 (((6 : Int32) * l1) + l3)) fun v9 =>
          if v9 ≤ v6 then (
            fX1_cheapest_l5 x n l1 l2 l3 (l4 + (1 : Int32)) h)
          else (
            fX1_cheapest_l5 x n l1 l2 l4 (l4 + (1 : Int32)) h)))))
theorem wX1_cheapest_l5 {D : Dd} {C : Cx} {h0 h' : Hp} {r : Int32} (A : Act C D (h0, (.inl (some (vI r))), h') yX1_cheapest cX1_cheapest 6 (some FieldType.int) 1 20 []) {x : Nat} : ∀ (n : Nat) {l1 : Int32} {l2 : Int32} {l3 : Int32} {l4 : Int32} {h : Hp}, fX1_cheapest_l5 x n l1 l2 l3 l4 h = some (r, h') → X C D (h0, (.inl (some (vI r))), h') 6 5 [(0, vR (some x)), (1, vI l1), (2, vI l2), (3, vI l3), (4, vI l4)] [] h := by
  intro n
  induction n with
  | zero => intro l1 l2 l3 l4 h hf; exact ab_no hf
  | succ n ih =>
    intro l1 l2 l3 l4 h hf
    unfold fX1_cheapest_l5 at hf
    refine xr_iload A dX1_cheapest_5 4 rfl ?_
    refine xr_aload_n A dX1_cheapest_7 0 rfl rfl ?_
    revert hf; refine ab_bdI (fun v1 mv1 hf => ?_)
    refine xr_get A xc_X1 in_X1 3 (Nat.le_of_ble_eq_true rfl) q266 rfl (ab_gRE mv1) dX1_cheapest_8 ?_
    revert hf; refine ab_bdI (fun a2 e hf => ?_); subst e
    revert hf; refine ab_bdI (fun v3 mv3 hf => ?_)
    refine xr_get A xc_X6 in_X6 10 (Nat.le_of_ble_eq_true rfl) q465 rfl (ab_gIE mv3) dX1_cheapest_11 ?_
    refine xr_icmp_ge A (tgt := 73) dX1_cheapest_14 (by decide) (fun c14 => ?_) (fun c14 => ?_)
    · replace hf := ab_ip c14 hf
      refine xr_iload_n A dX1_cheapest_73 3 rfl rfl ?_
      exact xr_ireturn A rfl hf dX1_cheapest_74
    · replace hf := ab_in c14 hf
      refine xr_aload_n A dX1_cheapest_17 0 rfl rfl ?_
      revert hf; refine ab_bdI (fun v4 mv4 hf => ?_)
      refine xr_get A xc_X1 in_X1 19 (Nat.le_of_ble_eq_true rfl) q282 rfl (ab_gRE mv4) dX1_cheapest_18 ?_
      refine xr_bipush A (v := 6) dX1_cheapest_21 (by decide) ?_
      refine xr_iload_n A dX1_cheapest_23 1 rfl rfl ?_
      refine xr_imul A dX1_cheapest_24 ?_
      refine xr_iload A dX1_cheapest_25 4 rfl ?_
      refine xr_iadd A dX1_cheapest_27 ?_
      revert hf; refine ab_bdI (fun a5 e hf => ?_); subst e
      revert hf; refine ab_bdI (fun v6 mv6 hf => ?_)
      refine xr_iaload A mv6 dX1_cheapest_28 ?_
      refine xr_istore A dX1_cheapest_29 (Nat.le_of_ble_eq_true rfl) (L' := [(5, vI v6), (0, vR (some x)), (1, vI l1), (2, vI l2), (3, vI l3), (4, vI l4)]) rfl ?_
      refine xr_iload A dX1_cheapest_31 5 rfl ?_
      refine xr_iload_n A dX1_cheapest_33 3 rfl rfl ?_
      refine xr_icmp_eq A (tgt := 67) dX1_cheapest_34 (by decide) (fun c34 => ?_) (fun c34 => ?_)
      · replace hf := ab_ip c34 hf
        refine xr_iinc A dX1_cheapest_67 5 rfl (v := (l4 + (1 : Int32))) rfl (Nat.le_of_ble_eq_true rfl) (L' := [(4, vI (l4 + (1 : Int32))), (5, vI v6), (0, vR (some x)), (1, vI l1), (2, vI l2), (3, vI l3)]) rfl ?_
        refine xr_goto A (tgt := 5) dX1_cheapest_70 (by decide) ?_
        refine X.sub [2, 3, 4, 5, 0] rfl ?_
        exact ih hf
      · replace hf := ab_in c34 hf
        refine xr_iload A dX1_cheapest_37 0 rfl ?_
        refine xr_iconst A (v := (-1)) dX1_cheapest_39 (by decide) ?_
        refine xr_icmp_eq A (tgt := 67) dX1_cheapest_40 (by decide) (fun c40 => ?_) (fun c40 => ?_)
        · replace hf := ab_ip c40 hf
          refine xr_iinc A dX1_cheapest_67 5 rfl (v := (l4 + (1 : Int32))) rfl (Nat.le_of_ble_eq_true rfl) (L' := [(4, vI (l4 + (1 : Int32))), (5, vI v6), (0, vR (some x)), (1, vI l1), (2, vI l2), (3, vI l3)]) rfl ?_
          refine xr_goto A (tgt := 5) dX1_cheapest_70 (by decide) ?_
          refine X.sub [2, 3, 4, 5, 0] rfl ?_
          exact ih hf
        · replace hf := ab_in c40 hf
          refine xr_iload_n A dX1_cheapest_43 4 rfl rfl ?_
          refine xr_iconst A (v := (-1)) dX1_cheapest_44 (by decide) ?_
          refine xr_icmp_eq A (tgt := 64) dX1_cheapest_45 (by decide) (fun c45 => ?_) (fun c45 => ?_)
          · replace hf := ab_ip c45 hf
            refine xr_iload A dX1_cheapest_64 5 rfl ?_
            refine xr_istore_n A dX1_cheapest_66 rfl (Nat.le_of_ble_eq_true rfl) (L' := [(3, vI l4), (5, vI v6), (0, vR (some x)), (1, vI l1), (2, vI l2), (4, vI l4)]) rfl ?_
            refine xr_iinc A dX1_cheapest_67 5 rfl (v := (l4 + (1 : Int32))) rfl (Nat.le_of_ble_eq_true rfl) (L' := [(4, vI (l4 + (1 : Int32))), (3, vI l4), (5, vI v6), (0, vR (some x)), (1, vI l1), (2, vI l2)]) rfl ?_
            refine xr_goto A (tgt := 5) dX1_cheapest_70 (by decide) ?_
            refine X.sub [3, 4, 5, 1, 0] rfl ?_
            exact ih hf
          · replace hf := ab_in c45 hf
            refine xr_iload A dX1_cheapest_48 0 rfl ?_
            refine xr_aload_n A dX1_cheapest_50 1 rfl rfl ?_
            revert hf; refine ab_bdI (fun v7 mv7 hf => ?_)
            refine xr_get A xc_X1 in_X1 19 (Nat.le_of_ble_eq_true rfl) q282 rfl (ab_gRE mv7) dX1_cheapest_51 ?_
            refine xr_bipush A (v := 6) dX1_cheapest_54 (by decide) ?_
            refine xr_iload_n A dX1_cheapest_56 2 rfl rfl ?_
            refine xr_imul A dX1_cheapest_57 ?_
            refine xr_iload_n A dX1_cheapest_58 4 rfl rfl ?_
            refine xr_iadd A dX1_cheapest_59 ?_
            revert hf; refine ab_bdI (fun a8 e hf => ?_); subst e
            revert hf; refine ab_bdI (fun v9 mv9 hf => ?_)
            refine xr_iaload A mv9 dX1_cheapest_60 ?_
            refine xr_icmp_ge A (tgt := 67) dX1_cheapest_61 (by decide) (fun c61 => ?_) (fun c61 => ?_)
            · replace hf := ab_ip c61 hf
              refine xr_iinc A dX1_cheapest_67 5 rfl (v := (l4 + (1 : Int32))) rfl (Nat.le_of_ble_eq_true rfl) (L' := [(4, vI (l4 + (1 : Int32))), (5, vI v6), (0, vR (some x)), (1, vI l1), (2, vI l2), (3, vI l3)]) rfl ?_
              refine xr_goto A (tgt := 5) dX1_cheapest_70 (by decide) ?_
              refine X.sub [2, 3, 4, 5, 0] rfl ?_
              exact ih hf
            · replace hf := ab_in c61 hf
              refine xr_iload A dX1_cheapest_64 5 rfl ?_
              refine xr_istore_n A dX1_cheapest_66 rfl (Nat.le_of_ble_eq_true rfl) (L' := [(3, vI l4), (5, vI v6), (0, vR (some x)), (1, vI l1), (2, vI l2), (4, vI l4)]) rfl ?_
              refine xr_iinc A dX1_cheapest_67 5 rfl (v := (l4 + (1 : Int32))) rfl (Nat.le_of_ble_eq_true rfl) (L' := [(4, vI (l4 + (1 : Int32))), (3, vI l4), (5, vI v6), (0, vR (some x)), (1, vI l1), (2, vI l2)]) rfl ?_
              refine xr_goto A (tgt := 5) dX1_cheapest_70 (by decide) ?_
              refine X.sub [3, 4, 5, 1, 0] rfl ?_
              exact ih hf
noncomputable def fX1_cheapest (x : Nat) (p1 : Int32) (p2 : Int32) (h : Hp) : Option (Int32 × Hp) :=
  ab_ck h x 0 <|
  fX1_cheapest_l5 x (hfu h) p1 p2 (-1 : Int32) (0 : Int32) h
theorem wX1_cheapest (D : Dd) {x : Nat} {p1 : Int32} {p2 : Int32} {h : Hp} {r : Int32} {h' : Hp} (hf : fX1_cheapest x p1 p2 h = some (r, h')) : ab_is h x 0 ∧ Ct D 1 20 yX1_cheapest cX1_cheapest 6 (some FieldType.int) [vR (some x), vI p1, vI p2] h (.inl (some (vI r))) h' := by
    unfold fX1_cheapest at hf
    replace hf := ab_ckE hf; obtain ⟨i0, hf⟩ := hf
    refine ⟨i0, ?_⟩
    refine Ct.of (by decide) (L := [(0, vR (some x)), (1, vI p1), (2, vI p2)]) rfl (Nat.le_of_ble_eq_true rfl) (fun C A => ?_)
    refine xr_iconst A (v := (-1)) dX1_cheapest_0 (by decide) ?_
    refine xr_istore_n A dX1_cheapest_1 rfl (Nat.le_of_ble_eq_true rfl) (L' := [(3, vI (-1 : Int32)), (0, vR (some x)), (1, vI p1), (2, vI p2)]) rfl ?_
    refine xr_iconst A (v := 0) dX1_cheapest_2 (by decide) ?_
    refine xr_istore A dX1_cheapest_3 (Nat.le_of_ble_eq_true rfl) (L' := [(4, vI (0 : Int32)), (3, vI (-1 : Int32)), (0, vR (some x)), (1, vI p1), (2, vI p2)]) rfl ?_
    refine X.sub [2, 3, 4, 1, 0] rfl ?_
    exact wX1_cheapest_l5 A _ hf
/-! X1_lays -/
theorem bX1_lays : MB yX1_lays cX1_lays 7 (some FieldType.int) 2 := ⟨q1178, q92, by decide, by decide +kernel⟩
noncomputable def fX1_lays_b73 (x : Nat) (K4 : Option Nat → Int32 → Int32 → Hp → Option (Int32 × Hp)) (K11 : Option Nat → Int32 → Int32 → Int32 → Hp → Option (Int32 × Hp)) (l1 : Option Nat) (l2 : Int32) (l3 : Int32) (l4 : Int32) (l5 : Int32) (s0 : Int32) (h : Hp) : Option (Int32 × Hp) :=
  ab_bd (ab_gR h x 0 19) fun v1 =>
  if s0 = 0 then (
    ab_bd v1 fun a16 =>
    ab_bd (ab_sI h a16 (((6 : Int32) * l3) + l4) (-1 : Int32)) fun h17 =>
    K11 l1 l2 l3 (l4 + (1 : Int32)) h17)
  else (
    ab_bd (ab_gR h x 0 3) fun v2 =>
    ab_bd v2 fun a3 =>
    ab_bd (ab_gR h a3 5 1) fun v4 =>
    ab_bd v4 fun a5 =>
    ab_bd (ab_aR h a5 7 l4) fun v6 =>
    ab_bd v6 fun a7 =>
    ab_bd (ab_gI h a7 7 3) fun v8 =>
    if l5 = (-1 : Int32) then (
      ab_bd v1 fun a14 =>
      ab_bd (ab_sI h a14 (((6 : Int32) * l3) + l4) (v8 + (0 : Int32))) fun h15 =>
      K11 l1 l2 l3 (l4 + (1 : Int32)) h15)
    else (
      ab_bd (ab_gR h x 0 19) fun v9 =>
      ab_bd v9 fun a10 =>
      ab_bd (ab_aI h a10 0 (((6 : Int32) * (l3 + (1 : Int32))) + l5)) fun v11 =>
      ab_bd v1 fun a12 =>
      ab_bd (ab_sI h a12 (((6 : Int32) * l3) + l4) (v8 + v11)) fun h13 =>
      K11 l1 l2 l3 (l4 + (1 : Int32)) h13))
theorem wX1_lays_b73 {D : Dd} {C : Cx} {h0 h' : Hp} {r : Int32} (A : Act C D (h0, (.inl (some (vI r))), h') yX1_lays cX1_lays 7 (some FieldType.int) 2 45 []) {x : Nat} {K4 : Option Nat → Int32 → Int32 → Hp → Option (Int32 × Hp)} (hK4 : ∀ {l1 : Option Nat} {l2 : Int32} {l3 : Int32} {h : Hp}, K4 l1 l2 l3 h = some (r, h') → X C D (h0, (.inl (some (vI r))), h') 7 4 [(0, vR (some x)), (1, vR l1), (2, vI l2), (3, vI l3)] [] h) {K11 : Option Nat → Int32 → Int32 → Int32 → Hp → Option (Int32 × Hp)} (hK11 : ∀ {l1 : Option Nat} {l2 : Int32} {l3 : Int32} {l4 : Int32} {h : Hp}, K11 l1 l2 l3 l4 h = some (r, h') → X C D (h0, (.inl (some (vI r))), h') 7 11 [(0, vR (some x)), (1, vR l1), (2, vI l2), (3, vI l3), (4, vI l4)] [] h) {l1 : Option Nat} {l2 : Int32} {l3 : Int32} {l4 : Int32} {l5 : Int32} {s0 : Int32} {h : Hp} (hf : fX1_lays_b73 x K4 K11 l1 l2 l3 l4 l5 s0 h = some (r, h')) : X C D (h0, (.inl (some (vI r))), h') 7 73 [(0, vR (some x)), (1, vR l1), (2, vI l2), (3, vI l3), (4, vI l4), (5, vI l5)] [vI s0] h := by
  unfold fX1_lays_b73 at hf
  refine xr_istore A dX1_lays_73 (Nat.le_of_ble_eq_true rfl) (L' := [(6, vI s0), (0, vR (some x)), (1, vR l1), (2, vI l2), (3, vI l3), (4, vI l4), (5, vI l5)]) rfl ?_
  refine xr_aload_n A dX1_lays_75 1 rfl rfl ?_
  revert hf; refine ab_bdI (fun v1 mv1 hf => ?_)
  refine xr_get A xc_X1 in_X1 19 (Nat.le_of_ble_eq_true rfl) q282 rfl (ab_gRE mv1) dX1_lays_76 ?_
  refine xr_bipush A (v := 6) dX1_lays_79 (by decide) ?_
  refine xr_iload_n A dX1_lays_81 4 rfl rfl ?_
  refine xr_imul A dX1_lays_82 ?_
  refine xr_iload A dX1_lays_83 5 rfl ?_
  refine xr_iadd A dX1_lays_85 ?_
  refine xr_iload A dX1_lays_86 0 rfl ?_
  refine xr_if_ne A (tgt := 95) dX1_lays_88 (by decide) (fun c88 => ?_) (fun c88 => ?_)
  · replace hf := ab_in c88 hf
    refine xr_aload_n A dX1_lays_95 1 rfl rfl ?_
    revert hf; refine ab_bdI (fun v2 mv2 hf => ?_)
    refine xr_get A xc_X1 in_X1 3 (Nat.le_of_ble_eq_true rfl) q266 rfl (ab_gRE mv2) dX1_lays_96 ?_
    revert hf; refine ab_bdI (fun a3 e hf => ?_); subst e
    revert hf; refine ab_bdI (fun v4 mv4 hf => ?_)
    refine xr_get A xc_X6 in_X6 1 (Nat.le_of_ble_eq_true rfl) q439 rfl (ab_gRE mv4) dX1_lays_99 ?_
    refine xr_iload A dX1_lays_102 5 rfl ?_
    revert hf; refine ab_bdI (fun a5 e hf => ?_); subst e
    revert hf; refine ab_bdI (fun v6 mv6 hf => ?_)
    refine xr_aaload A (t := 7) rfl mv6 dX1_lays_104 ?_
    revert hf; refine ab_bdI (fun a7 e hf => ?_); subst e
    revert hf; refine ab_bdI (fun v8 mv8 hf => ?_)
    refine xr_get A xc_X9 in_X9 3 (Nat.le_of_ble_eq_true rfl) q794 rfl (ab_gIE mv8) dX1_lays_105 ?_
    refine xr_iload A dX1_lays_108 6 rfl ?_
    refine xr_iconst A (v := (-1)) dX1_lays_110 (by decide) ?_
    refine xr_icmp_ne A (tgt := 118) dX1_lays_111 (by decide) (fun c111 => ?_) (fun c111 => ?_)
    · replace hf := ab_in c111 hf
      refine xr_aload_n A dX1_lays_118 1 rfl rfl ?_
      revert hf; refine ab_bdI (fun v9 mv9 hf => ?_)
      refine xr_get A xc_X1 in_X1 19 (Nat.le_of_ble_eq_true rfl) q282 rfl (ab_gRE mv9) dX1_lays_119 ?_
      refine xr_bipush A (v := 6) dX1_lays_122 (by decide) ?_
      refine xr_iload_n A dX1_lays_124 4 rfl rfl ?_
      refine xr_iconst A (v := 1) dX1_lays_125 (by decide) ?_
      refine xr_iadd A dX1_lays_126 ?_
      refine xr_imul A dX1_lays_127 ?_
      refine xr_iload A dX1_lays_128 6 rfl ?_
      refine xr_iadd A dX1_lays_130 ?_
      revert hf; refine ab_bdI (fun a10 e hf => ?_); subst e
      revert hf; refine ab_bdI (fun v11 mv11 hf => ?_)
      refine xr_iaload A mv11 dX1_lays_131 ?_
      refine xr_iadd A dX1_lays_132 ?_
      revert hf; refine ab_bdI (fun a12 e hf => ?_); subst e
      revert hf; refine ab_bdI (fun h13 mh13 hf => ?_)
      refine xr_iastore A mh13 dX1_lays_133 ?_
      refine xr_iinc A dX1_lays_134 5 rfl (v := (l4 + (1 : Int32))) rfl (Nat.le_of_ble_eq_true rfl) (L' := [(4, vI (l4 + (1 : Int32))), (6, vI s0), (0, vR (some x)), (1, vR l1), (2, vI l2), (3, vI l3), (5, vI l5)]) rfl ?_
      refine xr_goto A (tgt := 11) dX1_lays_137 (by decide) ?_
      refine X.sub [2, 3, 4, 5, 0] rfl ?_
      exact hK11 hf
    · replace hf := ab_ip c111 hf
      refine xr_iconst A (v := 0) dX1_lays_114 (by decide) ?_
      refine xr_goto A (tgt := 132) dX1_lays_115 (by decide) ?_
      refine xr_iadd A dX1_lays_132 ?_
      revert hf; refine ab_bdI (fun a14 e hf => ?_); subst e
      revert hf; refine ab_bdI (fun h15 mh15 hf => ?_)
      refine xr_iastore A mh15 dX1_lays_133 ?_
      refine xr_iinc A dX1_lays_134 5 rfl (v := (l4 + (1 : Int32))) rfl (Nat.le_of_ble_eq_true rfl) (L' := [(4, vI (l4 + (1 : Int32))), (6, vI s0), (0, vR (some x)), (1, vR l1), (2, vI l2), (3, vI l3), (5, vI l5)]) rfl ?_
      refine xr_goto A (tgt := 11) dX1_lays_137 (by decide) ?_
      refine X.sub [2, 3, 4, 5, 0] rfl ?_
      exact hK11 hf
  · replace hf := ab_ip c88 hf
    refine xr_iconst A (v := (-1)) dX1_lays_91 (by decide) ?_
    refine xr_goto A (tgt := 133) dX1_lays_92 (by decide) ?_
    revert hf; refine ab_bdI (fun a16 e hf => ?_); subst e
    revert hf; refine ab_bdI (fun h17 mh17 hf => ?_)
    refine xr_iastore A mh17 dX1_lays_133 ?_
    refine xr_iinc A dX1_lays_134 5 rfl (v := (l4 + (1 : Int32))) rfl (Nat.le_of_ble_eq_true rfl) (L' := [(4, vI (l4 + (1 : Int32))), (6, vI s0), (0, vR (some x)), (1, vR l1), (2, vI l2), (3, vI l3), (5, vI l5)]) rfl ?_
    refine xr_goto A (tgt := 11) dX1_lays_137 (by decide) ?_
    refine X.sub [2, 3, 4, 5, 0] rfl ?_
    exact hK11 hf
noncomputable def fX1_lays_b43 (x : Nat) (K4 : Option Nat → Int32 → Int32 → Hp → Option (Int32 × Hp)) (K11 : Option Nat → Int32 → Int32 → Int32 → Hp → Option (Int32 × Hp)) (l1 : Option Nat) (l2 : Int32) (l3 : Int32) (l4 : Int32) (s0 : Int32) (h : Hp) : Option (Int32 × Hp) :=
  ab_b2 (fX1_barred x l1 l4 h) fun v3 h2 =>
  if v3 = 0 then (
    if l3 = (l2 - (1 : Int32)) then (
      fX1_lays_b73 x K4 K11 l1 l2 l3 l4 s0 (1 : Int32) h2)
    else (
      if s0 = (-1 : Int32) then (
        fX1_lays_b73 x K4 K11 l1 l2 l3 l4 s0 (0 : Int32) h2)
      else (
        fX1_lays_b73 x K4 K11 l1 l2 l3 l4 s0 (1 : Int32) h2)))
  else (
    fX1_lays_b73 x K4 K11 l1 l2 l3 l4 s0 (0 : Int32) h2)
theorem wX1_lays_b43 {D : Dd} {C : Cx} {h0 h' : Hp} {r : Int32} (A : Act C D (h0, (.inl (some (vI r))), h') yX1_lays cX1_lays 7 (some FieldType.int) 2 45 []) {x : Nat} {K4 : Option Nat → Int32 → Int32 → Hp → Option (Int32 × Hp)} (hK4 : ∀ {l1 : Option Nat} {l2 : Int32} {l3 : Int32} {h : Hp}, K4 l1 l2 l3 h = some (r, h') → X C D (h0, (.inl (some (vI r))), h') 7 4 [(0, vR (some x)), (1, vR l1), (2, vI l2), (3, vI l3)] [] h) {K11 : Option Nat → Int32 → Int32 → Int32 → Hp → Option (Int32 × Hp)} (hK11 : ∀ {l1 : Option Nat} {l2 : Int32} {l3 : Int32} {l4 : Int32} {h : Hp}, K11 l1 l2 l3 l4 h = some (r, h') → X C D (h0, (.inl (some (vI r))), h') 7 11 [(0, vR (some x)), (1, vR l1), (2, vI l2), (3, vI l3), (4, vI l4)] [] h) {l1 : Option Nat} {l2 : Int32} {l3 : Int32} {l4 : Int32} {s0 : Int32} {h : Hp} (hf : fX1_lays_b43 x K4 K11 l1 l2 l3 l4 s0 h = some (r, h')) : X C D (h0, (.inl (some (vI r))), h') 7 43 [(0, vR (some x)), (1, vR l1), (2, vI l2), (3, vI l3), (4, vI l4)] [vI s0] h := by
  unfold fX1_lays_b43 at hf
  refine xr_istore A dX1_lays_43 (Nat.le_of_ble_eq_true rfl) (L' := [(5, vI s0), (0, vR (some x)), (1, vR l1), (2, vI l2), (3, vI l3), (4, vI l4)]) rfl ?_
  refine xr_aload_n A dX1_lays_45 1 rfl rfl ?_
  refine xr_aload_n A dX1_lays_46 2 rfl rfl ?_
  refine xr_iload A dX1_lays_47 5 rfl ?_
  revert hf; refine ab_b2I (fun v3 h2 m1 hf => ?_)
  refine xr_V A bX1_barred (wX1_barred D m1).2 xc_X1 (wX1_barred D m1).1 q1161 qs37 q1159 (av := [vR l1, vI l4]) (rest := []) rfl dX1_lays_49 (Nat.le_of_ble_eq_true rfl) (Nat.le_of_ble_eq_true rfl) rfl (Nat.le_of_ble_eq_true rfl) ?_
  refine xr_if_ne A (tgt := 72) dX1_lays_52 (by decide) (fun c52 => ?_) (fun c52 => ?_)
  · replace hf := ab_in c52 hf
    refine xr_iconst A (v := 0) dX1_lays_72 (by decide) ?_
    refine X.sub [1, 2, 3, 4, 5, 0] rfl ?_
    exact wX1_lays_b73 A @hK4 @hK11 hf
  · replace hf := ab_ip c52 hf
    refine xr_iload_n A dX1_lays_55 4 rfl rfl ?_
    refine xr_iload_n A dX1_lays_56 3 rfl rfl ?_
    refine xr_iconst A (v := 1) dX1_lays_57 (by decide) ?_
    refine xr_isub A dX1_lays_58 ?_
    refine xr_icmp_eq A (tgt := 68) dX1_lays_59 (by decide) (fun c59 => ?_) (fun c59 => ?_)
    · replace hf := ab_ip c59 hf
      refine xr_iconst A (v := 1) dX1_lays_68 (by decide) ?_
      refine xr_goto A (tgt := 73) dX1_lays_69 (by decide) ?_
      refine X.sub [1, 2, 3, 4, 5, 0] rfl ?_
      exact wX1_lays_b73 A @hK4 @hK11 hf
    · replace hf := ab_in c59 hf
      refine xr_iload A dX1_lays_62 0 rfl ?_
      refine xr_iconst A (v := (-1)) dX1_lays_64 (by decide) ?_
      refine xr_icmp_eq A (tgt := 72) dX1_lays_65 (by decide) (fun c65 => ?_) (fun c65 => ?_)
      · replace hf := ab_ip c65 hf
        refine xr_iconst A (v := 0) dX1_lays_72 (by decide) ?_
        refine X.sub [1, 2, 3, 4, 5, 0] rfl ?_
        exact wX1_lays_b73 A @hK4 @hK11 hf
      · replace hf := ab_in c65 hf
        refine xr_iconst A (v := 1) dX1_lays_68 (by decide) ?_
        refine xr_goto A (tgt := 73) dX1_lays_69 (by decide) ?_
        refine X.sub [1, 2, 3, 4, 5, 0] rfl ?_
        exact wX1_lays_b73 A @hK4 @hK11 hf
noncomputable def fX1_lays_l11 (x : Nat) (K4 : Option Nat → Int32 → Int32 → Hp → Option (Int32 × Hp)) : Nat → Option Nat → Int32 → Int32 → Int32 → Hp → Option (Int32 × Hp)
  | 0, _, _, _, _, _ => none
  | n + 1, l1, l2, l3, l4, h =>
  ab_bd (ab_gR h x 0 3) fun v1 =>
  ab_bd v1 fun a2 =>
  ab_bd (ab_gI h a2 5 10) fun v3 =>
  if v3 ≤ l4 then (
    K4 l1 l2 (l3 + (-1 : Int32)) h)
  else (
    if l3 = (l2 - (1 : Int32)) then (
      fX1_lays_b43 x K4 (fX1_lays_l11 x K4 n) l1 l2 l3 l4 (-1 : Int32) h)
    else (
      ab_b2 (fX1_cheapest x (l3 + (1 : Int32)) l4 h) fun v6 h5 =>
      fX1_lays_b43 x K4 (fX1_lays_l11 x K4 n) l1 l2 l3 l4 v6 h5))
theorem wX1_lays_l11 {D : Dd} {C : Cx} {h0 h' : Hp} {r : Int32} (A : Act C D (h0, (.inl (some (vI r))), h') yX1_lays cX1_lays 7 (some FieldType.int) 2 45 []) {x : Nat} {K4 : Option Nat → Int32 → Int32 → Hp → Option (Int32 × Hp)} (hK4 : ∀ {l1 : Option Nat} {l2 : Int32} {l3 : Int32} {h : Hp}, K4 l1 l2 l3 h = some (r, h') → X C D (h0, (.inl (some (vI r))), h') 7 4 [(0, vR (some x)), (1, vR l1), (2, vI l2), (3, vI l3)] [] h) : ∀ (n : Nat) {l1 : Option Nat} {l2 : Int32} {l3 : Int32} {l4 : Int32} {h : Hp}, fX1_lays_l11 x K4 n l1 l2 l3 l4 h = some (r, h') → X C D (h0, (.inl (some (vI r))), h') 7 11 [(0, vR (some x)), (1, vR l1), (2, vI l2), (3, vI l3), (4, vI l4)] [] h := by
  intro n
  induction n with
  | zero => intro l1 l2 l3 l4 h hf; exact ab_no hf
  | succ n ih =>
    intro l1 l2 l3 l4 h hf
    unfold fX1_lays_l11 at hf
    refine xr_iload A dX1_lays_11 4 rfl ?_
    refine xr_aload_n A dX1_lays_13 0 rfl rfl ?_
    revert hf; refine ab_bdI (fun v1 mv1 hf => ?_)
    refine xr_get A xc_X1 in_X1 3 (Nat.le_of_ble_eq_true rfl) q266 rfl (ab_gRE mv1) dX1_lays_14 ?_
    revert hf; refine ab_bdI (fun a2 e hf => ?_); subst e
    revert hf; refine ab_bdI (fun v3 mv3 hf => ?_)
    refine xr_get A xc_X6 in_X6 10 (Nat.le_of_ble_eq_true rfl) q465 rfl (ab_gIE mv3) dX1_lays_17 ?_
    refine xr_icmp_ge A (tgt := 140) dX1_lays_20 (by decide) (fun c20 => ?_) (fun c20 => ?_)
    · replace hf := ab_ip c20 hf
      refine xr_iinc A dX1_lays_140 3 rfl (v := (l3 + (-1 : Int32))) rfl (Nat.le_of_ble_eq_true rfl) (L' := [(3, vI (l3 + (-1 : Int32))), (0, vR (some x)), (1, vR l1), (2, vI l2), (4, vI l4)]) rfl ?_
      refine xr_goto A (tgt := 4) dX1_lays_143 (by decide) ?_
      refine X.sub [1, 2, 3, 0] rfl ?_
      exact hK4 hf
    · replace hf := ab_in c20 hf
      refine xr_iload_n A dX1_lays_23 3 rfl rfl ?_
      refine xr_iload_n A dX1_lays_24 2 rfl rfl ?_
      refine xr_iconst A (v := 1) dX1_lays_25 (by decide) ?_
      refine xr_isub A dX1_lays_26 ?_
      refine xr_icmp_ne A (tgt := 34) dX1_lays_27 (by decide) (fun c27 => ?_) (fun c27 => ?_)
      · replace hf := ab_in c27 hf
        refine xr_aload_n A dX1_lays_34 0 rfl rfl ?_
        refine xr_iload_n A dX1_lays_35 3 rfl rfl ?_
        refine xr_iconst A (v := 1) dX1_lays_36 (by decide) ?_
        refine xr_iadd A dX1_lays_37 ?_
        refine xr_iload A dX1_lays_38 4 rfl ?_
        revert hf; refine ab_b2I (fun v6 h5 m4 hf => ?_)
        refine xr_V A bX1_cheapest (wX1_cheapest D m4).2 xc_X1 (wX1_cheapest D m4).1 q1181 qs39 q1179 (av := [vI (l3 + (1 : Int32)), vI l4]) (rest := []) rfl dX1_lays_40 (Nat.le_of_ble_eq_true rfl) (Nat.le_of_ble_eq_true rfl) rfl (Nat.le_of_ble_eq_true rfl) ?_
        exact wX1_lays_b43 A @hK4 (fun hf => ih hf) hf
      · replace hf := ab_ip c27 hf
        refine xr_iconst A (v := (-1)) dX1_lays_30 (by decide) ?_
        refine xr_goto A (tgt := 43) dX1_lays_31 (by decide) ?_
        exact wX1_lays_b43 A @hK4 (fun hf => ih hf) hf
noncomputable def fX1_lays_l4 (x : Nat) : Nat → Option Nat → Int32 → Int32 → Hp → Option (Int32 × Hp)
  | 0, _, _, _, _ => none
  | n + 1, l1, l2, l3, h =>
  if l3 < 0 then (
    ab_b2 (fX1_cheapest x (0 : Int32) (-1 : Int32) h) fun v3 h2 =>
    if v3 = (-1 : Int32) then (
      some ((-1 : Int32), h2))
    else (
      ab_bd (ab_gR h2 x 0 19) fun v4 =>
      ab_bd v4 fun a5 =>
      ab_bd (ab_aI h2 a5 0 v3) fun v6 =>
      some (v6, h2)))
  else (
    fX1_lays_l11 x (fX1_lays_l4 x n) (hfu h) l1 l2 l3 (0 : Int32) h)
theorem wX1_lays_l4 {D : Dd} {C : Cx} {h0 h' : Hp} {r : Int32} (A : Act C D (h0, (.inl (some (vI r))), h') yX1_lays cX1_lays 7 (some FieldType.int) 2 45 []) {x : Nat} : ∀ (n : Nat) {l1 : Option Nat} {l2 : Int32} {l3 : Int32} {h : Hp}, fX1_lays_l4 x n l1 l2 l3 h = some (r, h') → X C D (h0, (.inl (some (vI r))), h') 7 4 [(0, vR (some x)), (1, vR l1), (2, vI l2), (3, vI l3)] [] h := by
  intro n
  induction n with
  | zero => intro l1 l2 l3 h hf; exact ab_no hf
  | succ n ih =>
    intro l1 l2 l3 h hf
    unfold fX1_lays_l4 at hf
    refine xr_iload_n A dX1_lays_4 3 rfl rfl ?_
    refine xr_if_lt A (tgt := 146) dX1_lays_5 (by decide) (fun c5 => ?_) (fun c5 => ?_)
    · replace hf := ab_ip c5 hf
      refine xr_aload_n A dX1_lays_146 0 rfl rfl ?_
      refine xr_iconst A (v := 0) dX1_lays_147 (by decide) ?_
      refine xr_iconst A (v := (-1)) dX1_lays_148 (by decide) ?_
      revert hf; refine ab_b2I (fun v3 h2 m1 hf => ?_)
      refine xr_V A bX1_cheapest (wX1_cheapest D m1).2 xc_X1 (wX1_cheapest D m1).1 q1181 qs39 q1179 (av := [vI (0 : Int32), vI (-1 : Int32)]) (rest := []) rfl dX1_lays_149 (Nat.le_of_ble_eq_true rfl) (Nat.le_of_ble_eq_true rfl) rfl (Nat.le_of_ble_eq_true rfl) ?_
      refine xr_istore_n A dX1_lays_152 rfl (Nat.le_of_ble_eq_true rfl) (L' := [(3, vI v3), (0, vR (some x)), (1, vR l1), (2, vI l2)]) rfl ?_
      refine xr_iload_n A dX1_lays_153 0 rfl rfl ?_
      refine xr_iconst A (v := (-1)) dX1_lays_154 (by decide) ?_
      refine xr_icmp_ne A (tgt := 162) dX1_lays_155 (by decide) (fun c155 => ?_) (fun c155 => ?_)
      · replace hf := ab_in c155 hf
        refine xr_aload_n A dX1_lays_162 1 rfl rfl ?_
        revert hf; refine ab_bdI (fun v4 mv4 hf => ?_)
        refine xr_get A xc_X1 in_X1 19 (Nat.le_of_ble_eq_true rfl) q282 rfl (ab_gRE mv4) dX1_lays_163 ?_
        refine xr_iload_n A dX1_lays_166 0 rfl rfl ?_
        revert hf; refine ab_bdI (fun a5 e hf => ?_); subst e
        revert hf; refine ab_bdI (fun v6 mv6 hf => ?_)
        refine xr_iaload A mv6 dX1_lays_167 ?_
        exact xr_ireturn A rfl hf dX1_lays_168
      · replace hf := ab_ip c155 hf
        refine xr_iconst A (v := (-1)) dX1_lays_158 (by decide) ?_
        refine xr_goto A (tgt := 168) dX1_lays_159 (by decide) ?_
        exact xr_ireturn A rfl hf dX1_lays_168
    · replace hf := ab_in c5 hf
      refine xr_iconst A (v := 0) dX1_lays_8 (by decide) ?_
      refine xr_istore A dX1_lays_9 (Nat.le_of_ble_eq_true rfl) (L' := [(4, vI (0 : Int32)), (0, vR (some x)), (1, vR l1), (2, vI l2), (3, vI l3)]) rfl ?_
      refine X.sub [1, 2, 3, 4, 0] rfl ?_
      exact wX1_lays_l11 A (fun hf => ih hf) _ hf
noncomputable def fX1_lays (x : Nat) (p1 : Option Nat) (p2 : Int32) (h : Hp) : Option (Int32 × Hp) :=
  ab_ck h x 0 <|
  fX1_lays_l4 x (hfu h) p1 p2 (p2 - (1 : Int32)) h
theorem wX1_lays (D : Dd) {x : Nat} {p1 : Option Nat} {p2 : Int32} {h : Hp} {r : Int32} {h' : Hp} (hf : fX1_lays x p1 p2 h = some (r, h')) : ab_is h x 0 ∧ Ct D 2 45 yX1_lays cX1_lays 7 (some FieldType.int) [vR (some x), vR p1, vI p2] h (.inl (some (vI r))) h' := by
    unfold fX1_lays at hf
    replace hf := ab_ckE hf; obtain ⟨i0, hf⟩ := hf
    refine ⟨i0, ?_⟩
    refine Ct.of (by decide) (L := [(0, vR (some x)), (1, vR p1), (2, vI p2)]) rfl (Nat.le_of_ble_eq_true rfl) (fun C A => ?_)
    refine xr_iload_n A dX1_lays_0 2 rfl rfl ?_
    refine xr_iconst A (v := 1) dX1_lays_1 (by decide) ?_
    refine xr_isub A dX1_lays_2 ?_
    refine xr_istore_n A dX1_lays_3 rfl (Nat.le_of_ble_eq_true rfl) (L' := [(3, vI (p2 - (1 : Int32))), (0, vR (some x)), (1, vR p1), (2, vI p2)]) rfl ?_
    refine X.sub [1, 2, 3, 0] rfl ?_
    exact wX1_lays_l4 A _ hf
/-! X1_menu -/
theorem bX1_menu : MB yX1_menu cX1_menu 5 (some FieldType.int) 2 := ⟨q1174, q92, by decide, by decide +kernel⟩
noncomputable def fX1_menu_l85 (x : Nat) : Nat → Int32 → Int32 → Int32 → Hp → Option (Int32 × Hp)
  | 0, _, _, _, _ => none
  | n + 1, l2, l3, l4, h =>
  if l2 ≤ l4 then (
    some (l3, h))
  else (
    ab_bd (ab_gR h x 0 20) fun v1 =>
    if l4 = 0 then (
      ab_b2 (fX1_cheapest x l4 (-1 : Int32) h) fun v12 h11 =>
      ab_bd v1 fun a13 =>
      ab_bd (ab_sI h11 a13 l4 v12) fun h14 =>
      fX1_menu_l85 x n l2 l3 (l4 + (1 : Int32)) h14)
    else (
      ab_bd (ab_gR h x 0 20) fun v2 =>
      ab_bd v2 fun a3 =>
      ab_bd (ab_aI h a3 0 (l4 - (1 : Int32))) fun v4 =>
      ab_b2 (fX1_cheapest x l4 v4 h) fun v7 h6 =>
      ab_bd v1 fun a8 =>
      ab_bd (ab_sI h6 a8 l4 v7) fun h9 =>
      fX1_menu_l85 x n l2 l3 (l4 + (1 : Int32)) h9))
theorem wX1_menu_l85 {D : Dd} {C : Cx} {h0 h' : Hp} {r : Int32} (A : Act C D (h0, (.inl (some (vI r))), h') yX1_menu cX1_menu 5 (some FieldType.int) 3 71 []) {x : Nat} : ∀ (n : Nat) {l2 : Int32} {l3 : Int32} {l4 : Int32} {h : Hp}, fX1_menu_l85 x n l2 l3 l4 h = some (r, h') → X C D (h0, (.inl (some (vI r))), h') 5 85 [(0, vR (some x)), (2, vI l2), (3, vI l3), (4, vI l4)] [] h := by
  intro n
  induction n with
  | zero => intro l2 l3 l4 h hf; exact ab_no hf
  | succ n ih =>
    intro l2 l3 l4 h hf
    unfold fX1_menu_l85 at hf
    refine xr_iload A dX1_menu_85 3 rfl ?_
    refine xr_iload_n A dX1_menu_87 1 rfl rfl ?_
    refine xr_icmp_ge A (tgt := 128) dX1_menu_88 (by decide) (fun c88 => ?_) (fun c88 => ?_)
    · replace hf := ab_ip c88 hf
      refine xr_iload_n A dX1_menu_128 2 rfl rfl ?_
      exact xr_ireturn A rfl hf dX1_menu_129
    · replace hf := ab_in c88 hf
      refine xr_aload_n A dX1_menu_91 0 rfl rfl ?_
      revert hf; refine ab_bdI (fun v1 mv1 hf => ?_)
      refine xr_get A xc_X1 in_X1 20 (Nat.le_of_ble_eq_true rfl) q283 rfl (ab_gRE mv1) dX1_menu_92 ?_
      refine xr_iload A dX1_menu_95 3 rfl ?_
      refine xr_aload_n A dX1_menu_97 0 rfl rfl ?_
      refine xr_iload A dX1_menu_98 3 rfl ?_
      refine xr_iload A dX1_menu_100 3 rfl ?_
      refine xr_if_ne A (tgt := 109) dX1_menu_102 (by decide) (fun c102 => ?_) (fun c102 => ?_)
      · replace hf := ab_in c102 hf
        refine xr_aload_n A dX1_menu_109 0 rfl rfl ?_
        revert hf; refine ab_bdI (fun v2 mv2 hf => ?_)
        refine xr_get A xc_X1 in_X1 20 (Nat.le_of_ble_eq_true rfl) q283 rfl (ab_gRE mv2) dX1_menu_110 ?_
        refine xr_iload A dX1_menu_113 3 rfl ?_
        refine xr_iconst A (v := 1) dX1_menu_115 (by decide) ?_
        refine xr_isub A dX1_menu_116 ?_
        revert hf; refine ab_bdI (fun a3 e hf => ?_); subst e
        revert hf; refine ab_bdI (fun v4 mv4 hf => ?_)
        refine xr_iaload A mv4 dX1_menu_117 ?_
        revert hf; refine ab_b2I (fun v7 h6 m5 hf => ?_)
        refine xr_V A bX1_cheapest (wX1_cheapest D m5).2 xc_X1 (wX1_cheapest D m5).1 q1181 qs39 q1179 (av := [vI l4, vI v4]) (rest := [vI l4, vR v1]) rfl dX1_menu_118 (Nat.le_of_ble_eq_true rfl) (Nat.le_of_ble_eq_true rfl) rfl (Nat.le_of_ble_eq_true rfl) ?_
        revert hf; refine ab_bdI (fun a8 e hf => ?_); subst e
        revert hf; refine ab_bdI (fun h9 mh9 hf => ?_)
        refine xr_iastore A mh9 dX1_menu_121 ?_
        refine xr_iinc A dX1_menu_122 3 rfl (v := (l4 + (1 : Int32))) rfl (Nat.le_of_ble_eq_true rfl) (L' := [(4, vI (l4 + (1 : Int32))), (0, vR (some x)), (2, vI l2), (3, vI l3)]) rfl ?_
        refine xr_goto A (tgt := 85) dX1_menu_125 (by decide) ?_
        refine X.sub [1, 2, 3, 0] rfl ?_
        exact ih hf
      · replace hf := ab_ip c102 hf
        refine xr_iconst A (v := (-1)) dX1_menu_105 (by decide) ?_
        refine xr_goto A (tgt := 118) dX1_menu_106 (by decide) ?_
        revert hf; refine ab_b2I (fun v12 h11 m10 hf => ?_)
        refine xr_V A bX1_cheapest (wX1_cheapest D m10).2 xc_X1 (wX1_cheapest D m10).1 q1181 qs39 q1179 (av := [vI l4, vI (-1 : Int32)]) (rest := [vI l4, vR v1]) rfl dX1_menu_118 (Nat.le_of_ble_eq_true rfl) (Nat.le_of_ble_eq_true rfl) rfl (Nat.le_of_ble_eq_true rfl) ?_
        revert hf; refine ab_bdI (fun a13 e hf => ?_); subst e
        revert hf; refine ab_bdI (fun h14 mh14 hf => ?_)
        refine xr_iastore A mh14 dX1_menu_121 ?_
        refine xr_iinc A dX1_menu_122 3 rfl (v := (l4 + (1 : Int32))) rfl (Nat.le_of_ble_eq_true rfl) (L' := [(4, vI (l4 + (1 : Int32))), (0, vR (some x)), (2, vI l2), (3, vI l3)]) rfl ?_
        refine xr_goto A (tgt := 85) dX1_menu_125 (by decide) ?_
        refine X.sub [1, 2, 3, 0] rfl ?_
        exact ih hf
noncomputable def fX1_menu (x : Nat) (p1 : Int32) (p2 : Int32) (h : Hp) : Option (Int32 × Hp) :=
  ab_ck h x 0 <|
  ab_bd (fX1_anew x h) fun h2 =>
  ab_bd (ab_gR h2 x 0 3) fun v3 =>
  ab_on v3 (
    ab_b2 (fX1_no x (1 : Int32) h2) fun v7 h6 =>
    some (v7, h6)) fun a4 => (
    ab_bd (ab_gR h2 x 0 3) fun v8 =>
    ab_bd v8 fun a9 =>
    ab_bd (ab_gI h2 a9 5 11) fun v10 =>
    ab_b2 (fX1_in p1 (0 : Int32) (v10 - (1 : Int32)) h2) fun v13 h12 =>
    if v13 = 0 then (
      ab_b2 (fX1_no x (1 : Int32) h12) fun v34 h33 =>
      some (v34, h33))
    else (
      ab_b2 (fX1_in p2 (1 : Int32) (14 : Int32) h12) fun v16 h15 =>
      if v16 = 0 then (
        ab_b2 (fX1_no x (2 : Int32) h15) fun v31 h30 =>
        some (v31, h30))
      else (
        ab_bd (ab_gR h15 x 0 3) fun v17 =>
        ab_bd v17 fun a18 =>
        ab_bd (ab_gR h15 a18 5 2) fun v19 =>
        ab_bd v19 fun a20 =>
        ab_bd (ab_aR h15 a20 8 p1) fun v21 =>
        ab_b2 (fX1_lays x v21 p2 h15) fun v24 h23 =>
        if v24 = (-1 : Int32) then (
          ab_b2 (fX1_no x (6 : Int32) h23) fun v28 h27 =>
          some (v28, h27))
        else (
          ab_bd (ab_pI h23 x 0 21 p2) fun h25 =>
          fX1_menu_l85 x (hfu h25) p2 v24 (0 : Int32) h25))))
theorem wX1_menu (D : Dd) {x : Nat} {p1 : Int32} {p2 : Int32} {h : Hp} {r : Int32} {h' : Hp} (hf : fX1_menu x p1 p2 h = some (r, h')) : ab_is h x 0 ∧ Ct D 3 71 yX1_menu cX1_menu 5 (some FieldType.int) [vR (some x), vI p1, vI p2] h (.inl (some (vI r))) h' := by
    unfold fX1_menu at hf
    replace hf := ab_ckE hf; obtain ⟨i0, hf⟩ := hf
    refine ⟨i0, ?_⟩
    refine Ct.of (by decide) (L := [(0, vR (some x)), (1, vI p1), (2, vI p2)]) rfl (Nat.le_of_ble_eq_true rfl) (fun C A => ?_)
    refine xr_aload_n A dX1_menu_0 0 rfl rfl ?_
    revert hf; refine ab_bdI (fun h2 m1 hf => ?_)
    refine xr_V0 A bX1_anew (wX1_anew D m1).2 xc_X1 (wX1_anew D m1).1 q402 qs2 q400 (av := []) (rest := []) rfl dX1_menu_1 (Nat.le_of_ble_eq_true rfl) (Nat.le_of_ble_eq_true rfl) rfl (Nat.le_of_ble_eq_true rfl) ?_
    refine xr_aload_n A dX1_menu_4 0 rfl rfl ?_
    revert hf; refine ab_bdI (fun v3 mv3 hf => ?_)
    refine xr_get A xc_X1 in_X1 3 (Nat.le_of_ble_eq_true rfl) q266 rfl (ab_gRE mv3) dX1_menu_5 ?_
    revert hf; refine ab_onI (fun e hf => ?_) (fun a4 e hf => ?_) <;> subst e
    · refine xr_ifnull A (tgt := 28) dX1_menu_8 (by decide) (fun _ => ?_) (fun _ e => by cases e)
      refine xr_aload_n A dX1_menu_28 0 rfl rfl ?_
      refine xr_iconst A (v := 1) dX1_menu_29 (by decide) ?_
      revert hf; refine ab_b2I (fun v7 h6 m5 hf => ?_)
      refine xr_V A bX1_no (wX1_no D m5).2 xc_X1 (wX1_no D m5).1 q409 qs3 q407 (av := [vI (1 : Int32)]) (rest := []) rfl dX1_menu_30 (Nat.le_of_ble_eq_true rfl) (Nat.le_of_ble_eq_true rfl) rfl (Nat.le_of_ble_eq_true rfl) ?_
      exact xr_ireturn A rfl hf dX1_menu_33
    · refine xr_ifnull A (tgt := 28) dX1_menu_8 (by decide) (fun e => by cases e) (fun _ _ => ?_)
      refine xr_iload_n A dX1_menu_11 1 rfl rfl ?_
      refine xr_iconst A (v := 0) dX1_menu_12 (by decide) ?_
      refine xr_aload_n A dX1_menu_13 0 rfl rfl ?_
      revert hf; refine ab_bdI (fun v8 mv8 hf => ?_)
      refine xr_get A xc_X1 in_X1 3 (Nat.le_of_ble_eq_true rfl) q266 rfl (ab_gRE mv8) dX1_menu_14 ?_
      revert hf; refine ab_bdI (fun a9 e hf => ?_); subst e
      revert hf; refine ab_bdI (fun v10 mv10 hf => ?_)
      refine xr_get A xc_X6 in_X6 11 (Nat.le_of_ble_eq_true rfl) q468 rfl (ab_gIE mv10) dX1_menu_17 ?_
      refine xr_iconst A (v := 1) dX1_menu_20 (by decide) ?_
      refine xr_isub A dX1_menu_21 ?_
      revert hf; refine ab_b2I (fun v13 h12 m11 hf => ?_)
      refine xr_S A bX1_in (wX1_in D m11) q405 q404 (av := [vI p1, vI (0 : Int32), vI (v10 - (1 : Int32))]) (rest := []) rfl dX1_menu_22 (Nat.le_of_ble_eq_true rfl) (Nat.le_of_ble_eq_true rfl) rfl (Nat.le_of_ble_eq_true rfl) ?_
      refine xr_if_ne A (tgt := 34) dX1_menu_25 (by decide) (fun c25 => ?_) (fun c25 => ?_)
      · replace hf := ab_in c25 hf
        refine xr_iload_n A dX1_menu_34 2 rfl rfl ?_
        refine xr_iconst A (v := 1) dX1_menu_35 (by decide) ?_
        refine xr_bipush A (v := 14) dX1_menu_36 (by decide) ?_
        revert hf; refine ab_b2I (fun v16 h15 m14 hf => ?_)
        refine xr_S A bX1_in (wX1_in D m14) q405 q404 (av := [vI p2, vI (1 : Int32), vI (14 : Int32)]) (rest := []) rfl dX1_menu_38 (Nat.le_of_ble_eq_true rfl) (Nat.le_of_ble_eq_true rfl) rfl (Nat.le_of_ble_eq_true rfl) ?_
        refine xr_if_ne A (tgt := 50) dX1_menu_41 (by decide) (fun c41 => ?_) (fun c41 => ?_)
        · replace hf := ab_in c41 hf
          refine xr_aload_n A dX1_menu_50 0 rfl rfl ?_
          refine xr_aload_n A dX1_menu_51 0 rfl rfl ?_
          revert hf; refine ab_bdI (fun v17 mv17 hf => ?_)
          refine xr_get A xc_X1 in_X1 3 (Nat.le_of_ble_eq_true rfl) q266 rfl (ab_gRE mv17) dX1_menu_52 ?_
          revert hf; refine ab_bdI (fun a18 e hf => ?_); subst e
          revert hf; refine ab_bdI (fun v19 mv19 hf => ?_)
          refine xr_get A xc_X6 in_X6 2 (Nat.le_of_ble_eq_true rfl) q442 rfl (ab_gRE mv19) dX1_menu_55 ?_
          refine xr_iload_n A dX1_menu_58 1 rfl rfl ?_
          revert hf; refine ab_bdI (fun a20 e hf => ?_); subst e
          revert hf; refine ab_bdI (fun v21 mv21 hf => ?_)
          refine xr_aaload A (t := 8) rfl mv21 dX1_menu_59 ?_
          refine xr_iload_n A dX1_menu_60 2 rfl rfl ?_
          revert hf; refine ab_b2I (fun v24 h23 m22 hf => ?_)
          refine xr_V A bX1_lays (wX1_lays D m22).2 xc_X1 (wX1_lays D m22).1 q1177 qs38 q1175 (av := [vR v21, vI p2]) (rest := []) rfl dX1_menu_61 (Nat.le_of_ble_eq_true rfl) (Nat.le_of_ble_eq_true rfl) rfl (Nat.le_of_ble_eq_true rfl) ?_
          refine xr_istore_n A dX1_menu_64 rfl (Nat.le_of_ble_eq_true rfl) (L' := [(3, vI v24), (0, vR (some x)), (1, vI p1), (2, vI p2)]) rfl ?_
          refine xr_iload_n A dX1_menu_65 0 rfl rfl ?_
          refine xr_iconst A (v := (-1)) dX1_menu_66 (by decide) ?_
          refine xr_icmp_ne A (tgt := 77) dX1_menu_67 (by decide) (fun c67 => ?_) (fun c67 => ?_)
          · replace hf := ab_in c67 hf
            refine xr_aload_n A dX1_menu_77 1 rfl rfl ?_
            refine xr_iload_n A dX1_menu_78 3 rfl rfl ?_
            revert hf; refine ab_bdI (fun h25 mh25 hf => ?_)
            refine xr_put A xc_X1 in_X1 tyX1_ok nmX1 21 (Nat.le_of_ble_eq_true rfl) q284 rfl rfl (v := vI p2) rfl rfl mh25 dX1_menu_79 ?_
            refine xr_iconst A (v := 0) dX1_menu_82 (by decide) ?_
            refine xr_istore A dX1_menu_83 (Nat.le_of_ble_eq_true rfl) (L' := [(4, vI (0 : Int32)), (3, vI v24), (0, vR (some x)), (1, vI p1), (2, vI p2)]) rfl ?_
            refine X.sub [2, 4, 1, 0] rfl ?_
            exact wX1_menu_l85 A _ hf
          · replace hf := ab_ip c67 hf
            refine xr_aload_n A dX1_menu_70 1 rfl rfl ?_
            refine xr_bipush A (v := 6) dX1_menu_71 (by decide) ?_
            revert hf; refine ab_b2I (fun v28 h27 m26 hf => ?_)
            refine xr_V A bX1_no (wX1_no D m26).2 xc_X1 (wX1_no D m26).1 q409 qs3 q407 (av := [vI (6 : Int32)]) (rest := []) rfl dX1_menu_73 (Nat.le_of_ble_eq_true rfl) (Nat.le_of_ble_eq_true rfl) rfl (Nat.le_of_ble_eq_true rfl) ?_
            exact xr_ireturn A rfl hf dX1_menu_76
        · replace hf := ab_ip c41 hf
          refine xr_aload_n A dX1_menu_44 0 rfl rfl ?_
          refine xr_iconst A (v := 2) dX1_menu_45 (by decide) ?_
          revert hf; refine ab_b2I (fun v31 h30 m29 hf => ?_)
          refine xr_V A bX1_no (wX1_no D m29).2 xc_X1 (wX1_no D m29).1 q409 qs3 q407 (av := [vI (2 : Int32)]) (rest := []) rfl dX1_menu_46 (Nat.le_of_ble_eq_true rfl) (Nat.le_of_ble_eq_true rfl) rfl (Nat.le_of_ble_eq_true rfl) ?_
          exact xr_ireturn A rfl hf dX1_menu_49
      · replace hf := ab_ip c25 hf
        refine xr_aload_n A dX1_menu_28 0 rfl rfl ?_
        refine xr_iconst A (v := 1) dX1_menu_29 (by decide) ?_
        revert hf; refine ab_b2I (fun v34 h33 m32 hf => ?_)
        refine xr_V A bX1_no (wX1_no D m32).2 xc_X1 (wX1_no D m32).1 q409 qs3 q407 (av := [vI (1 : Int32)]) (rest := []) rfl dX1_menu_30 (Nat.le_of_ble_eq_true rfl) (Nat.le_of_ble_eq_true rfl) rfl (Nat.le_of_ble_eq_true rfl) ?_
        exact xr_ireturn A rfl hf dX1_menu_33
/-! X1_menuAt -/
theorem bX1_menuAt : MB yX1_menuAt cX1_menuAt 2 (some FieldType.int) 1 := ⟨q1186, q92, by decide, by decide +kernel⟩
noncomputable def fX1_menuAt (x : Nat) (p1 : Int32) (h : Hp) : Option (Int32 × Hp) :=
  ab_ck h x 0 <|
  ab_bd (ab_gI h x 0 21) fun v1 =>
  ab_b2 (fX1_in p1 (0 : Int32) (v1 - (1 : Int32)) h) fun v4 h3 =>
  if v4 = 0 then (
    some ((-1 : Int32), h3))
  else (
    ab_bd (ab_gR h3 x 0 20) fun v5 =>
    ab_bd v5 fun a6 =>
    ab_bd (ab_aI h3 a6 0 p1) fun v7 =>
    some (v7, h3))
theorem wX1_menuAt (D : Dd) {x : Nat} {p1 : Int32} {h : Hp} {r : Int32} {h' : Hp} (hf : fX1_menuAt x p1 h = some (r, h')) : ab_is h x 0 ∧ Ct D 2 42 yX1_menuAt cX1_menuAt 2 (some FieldType.int) [vR (some x), vI p1] h (.inl (some (vI r))) h' := by
    unfold fX1_menuAt at hf
    replace hf := ab_ckE hf; obtain ⟨i0, hf⟩ := hf
    refine ⟨i0, ?_⟩
    refine Ct.of (by decide) (L := [(0, vR (some x)), (1, vI p1)]) rfl (Nat.le_of_ble_eq_true rfl) (fun C A => ?_)
    refine xr_iload_n A dX1_menuAt_0 1 rfl rfl ?_
    refine xr_iconst A (v := 0) dX1_menuAt_1 (by decide) ?_
    refine xr_aload_n A dX1_menuAt_2 0 rfl rfl ?_
    revert hf; refine ab_bdI (fun v1 mv1 hf => ?_)
    refine xr_get A xc_X1 in_X1 21 (Nat.le_of_ble_eq_true rfl) q284 rfl (ab_gIE mv1) dX1_menuAt_3 ?_
    refine xr_iconst A (v := 1) dX1_menuAt_6 (by decide) ?_
    refine xr_isub A dX1_menuAt_7 ?_
    revert hf; refine ab_b2I (fun v4 h3 m2 hf => ?_)
    refine xr_S A bX1_in (wX1_in D m2) q405 q404 (av := [vI p1, vI (0 : Int32), vI (v1 - (1 : Int32))]) (rest := []) rfl dX1_menuAt_8 (Nat.le_of_ble_eq_true rfl) (Nat.le_of_ble_eq_true rfl) rfl (Nat.le_of_ble_eq_true rfl) ?_
    refine xr_if_eq A (tgt := 23) dX1_menuAt_11 (by decide) (fun c11 => ?_) (fun c11 => ?_)
    · replace hf := ab_ip c11 hf
      refine xr_iconst A (v := (-1)) dX1_menuAt_23 (by decide) ?_
      exact xr_ireturn A rfl hf dX1_menuAt_24
    · replace hf := ab_in c11 hf
      refine xr_aload_n A dX1_menuAt_14 0 rfl rfl ?_
      revert hf; refine ab_bdI (fun v5 mv5 hf => ?_)
      refine xr_get A xc_X1 in_X1 20 (Nat.le_of_ble_eq_true rfl) q283 rfl (ab_gRE mv5) dX1_menuAt_15 ?_
      refine xr_iload_n A dX1_menuAt_18 1 rfl rfl ?_
      revert hf; refine ab_bdI (fun a6 e hf => ?_); subst e
      revert hf; refine ab_bdI (fun v7 mv7 hf => ?_)
      refine xr_iaload A mv7 dX1_menuAt_19 ?_
      refine xr_goto A (tgt := 24) dX1_menuAt_20 (by decide) ?_
      exact xr_ireturn A rfl hf dX1_menuAt_24
/-! X1_dropped -/
theorem bX1_dropped : MB yX1_dropped cX1_dropped 7 (some FieldType.int) 2 := ⟨q1190, q92, by decide, by decide +kernel⟩
noncomputable def fX1_dropped_l134 (x : Nat) (K123 : Int32 → Int32 → Int32 → Hp → Option (Int32 × Hp)) : Nat → Int32 → Int32 → Int32 → Int32 → Int32 → Hp → Option (Int32 × Hp)
  | 0, _, _, _, _, _, _ => none
  | n + 1, l1, l3, l4, l5, l6, h =>
  ab_bd (ab_gR h x 0 3) fun v1 =>
  ab_bd v1 fun a2 =>
  ab_bd (ab_gI h a2 5 12) fun v3 =>
  if v3 ≤ l6 then (
    ab_bd (ab_gR h x 0 22) fun v4 =>
    ab_bd v4 fun a5 =>
    ab_bd (ab_aI h a5 0 l5) fun v6 =>
    K123 l1 (l3 - v6) (l4 ||| ((1 : Int32) <<< (l5 &&& 31))) h)
  else (
    ab_b2 (fX1_lies l4 l6 h) fun v9 h8 =>
    if v9 = 0 then (
      if l5 = (-1 : Int32) then (
        fX1_dropped_l134 x K123 n l1 l3 l4 l6 (l6 + (1 : Int32)) h8)
      else (
        ab_bd (ab_gR h8 x 0 3) fun v10 =>
        ab_bd v10 fun a11 =>
        ab_bd (ab_gR h8 a11 5 3) fun v12 =>
        ab_bd v12 fun a13 =>
        ab_bd (ab_aR h8 a13 9 l6) fun v14 =>
        ab_bd v14 fun a15 =>
        ab_bd (ab_gI h8 a15 9 6) fun v16 =>
        ab_bd (ab_gR h8 x 0 3) fun v17 =>
        ab_bd v17 fun a18 =>
        ab_bd (ab_gR h8 a18 5 3) fun v19 =>
        ab_bd v19 fun a20 =>
        ab_bd (ab_aR h8 a20 9 l5) fun v21 =>
        ab_bd v21 fun a22 =>
        ab_bd (ab_gI h8 a22 9 6) fun v23 =>
        if v23 < v16 then (
          fX1_dropped_l134 x K123 n l1 l3 l4 l5 (l6 + (1 : Int32)) h8)
        else (
          fX1_dropped_l134 x K123 n l1 l3 l4 l6 (l6 + (1 : Int32)) h8)))
    else (
      fX1_dropped_l134 x K123 n l1 l3 l4 l5 (l6 + (1 : Int32)) h8))
theorem wX1_dropped_l134 {D : Dd} {C : Cx} {h0 h' : Hp} {r : Int32} (A : Act C D (h0, (.inl (some (vI r))), h') yX1_dropped cX1_dropped 7 (some FieldType.int) 3 71 []) {x : Nat} {K123 : Int32 → Int32 → Int32 → Hp → Option (Int32 × Hp)} (hK123 : ∀ {l1 : Int32} {l3 : Int32} {l4 : Int32} {h : Hp}, K123 l1 l3 l4 h = some (r, h') → X C D (h0, (.inl (some (vI r))), h') 7 123 [(0, vR (some x)), (1, vI l1), (3, vI l3), (4, vI l4)] [] h) : ∀ (n : Nat) {l1 : Int32} {l3 : Int32} {l4 : Int32} {l5 : Int32} {l6 : Int32} {h : Hp}, fX1_dropped_l134 x K123 n l1 l3 l4 l5 l6 h = some (r, h') → X C D (h0, (.inl (some (vI r))), h') 7 134 [(0, vR (some x)), (1, vI l1), (3, vI l3), (4, vI l4), (5, vI l5), (6, vI l6)] [] h := by
  intro n
  induction n with
  | zero => intro l1 l3 l4 l5 l6 h hf; exact ab_no hf
  | succ n ih =>
    intro l1 l3 l4 l5 l6 h hf
    unfold fX1_dropped_l134 at hf
    refine xr_iload A dX1_dropped_134 5 rfl ?_
    refine xr_aload_n A dX1_dropped_136 0 rfl rfl ?_
    revert hf; refine ab_bdI (fun v1 mv1 hf => ?_)
    refine xr_get A xc_X1 in_X1 3 (Nat.le_of_ble_eq_true rfl) q266 rfl (ab_gRE mv1) dX1_dropped_137 ?_
    revert hf; refine ab_bdI (fun a2 e hf => ?_); subst e
    revert hf; refine ab_bdI (fun v3 mv3 hf => ?_)
    refine xr_get A xc_X6 in_X6 12 (Nat.le_of_ble_eq_true rfl) q470 rfl (ab_gIE mv3) dX1_dropped_140 ?_
    refine xr_icmp_ge A (tgt := 201) dX1_dropped_143 (by decide) (fun c143 => ?_) (fun c143 => ?_)
    · replace hf := ab_ip c143 hf
      refine xr_iload A dX1_dropped_201 3 rfl ?_
      refine xr_iconst A (v := 1) dX1_dropped_203 (by decide) ?_
      refine xr_iload A dX1_dropped_204 4 rfl ?_
      refine xr_ishl A dX1_dropped_206 ?_
      refine xr_ior A dX1_dropped_207 ?_
      refine xr_istore A dX1_dropped_208 (Nat.le_of_ble_eq_true rfl) (L' := [(4, vI (l4 ||| ((1 : Int32) <<< (l5 &&& 31)))), (0, vR (some x)), (1, vI l1), (3, vI l3), (5, vI l5), (6, vI l6)]) rfl ?_
      refine xr_iload_n A dX1_dropped_210 3 rfl rfl ?_
      refine xr_aload_n A dX1_dropped_211 1 rfl rfl ?_
      revert hf; refine ab_bdI (fun v4 mv4 hf => ?_)
      refine xr_get A xc_X1 in_X1 22 (Nat.le_of_ble_eq_true rfl) q285 rfl (ab_gRE mv4) dX1_dropped_212 ?_
      refine xr_iload A dX1_dropped_215 4 rfl ?_
      revert hf; refine ab_bdI (fun a5 e hf => ?_); subst e
      revert hf; refine ab_bdI (fun v6 mv6 hf => ?_)
      refine xr_iaload A mv6 dX1_dropped_217 ?_
      refine xr_isub A dX1_dropped_218 ?_
      refine xr_istore_n A dX1_dropped_219 rfl (Nat.le_of_ble_eq_true rfl) (L' := [(3, vI (l3 - v6)), (4, vI (l4 ||| ((1 : Int32) <<< (l5 &&& 31)))), (0, vR (some x)), (1, vI l1), (5, vI l5), (6, vI l6)]) rfl ?_
      refine xr_goto A (tgt := 123) dX1_dropped_220 (by decide) ?_
      refine X.sub [2, 3, 0, 1] rfl ?_
      exact hK123 hf
    · replace hf := ab_in c143 hf
      refine xr_iload A dX1_dropped_146 3 rfl ?_
      refine xr_iload A dX1_dropped_148 5 rfl ?_
      revert hf; refine ab_b2I (fun v9 h8 m7 hf => ?_)
      refine xr_S A bX1_lies (wX1_lies D m7) q986 q1121 (av := [vI l4, vI l6]) (rest := []) rfl dX1_dropped_150 (Nat.le_of_ble_eq_true rfl) (Nat.le_of_ble_eq_true rfl) rfl (Nat.le_of_ble_eq_true rfl) ?_
      refine xr_if_ne A (tgt := 195) dX1_dropped_153 (by decide) (fun c153 => ?_) (fun c153 => ?_)
      · replace hf := ab_in c153 hf
        refine xr_iinc A dX1_dropped_195 5 rfl (v := (l6 + (1 : Int32))) rfl (Nat.le_of_ble_eq_true rfl) (L' := [(6, vI (l6 + (1 : Int32))), (0, vR (some x)), (1, vI l1), (3, vI l3), (4, vI l4), (5, vI l5)]) rfl ?_
        refine xr_goto A (tgt := 134) dX1_dropped_198 (by decide) ?_
        refine X.sub [1, 2, 3, 4, 5, 0] rfl ?_
        exact ih hf
      · replace hf := ab_ip c153 hf
        refine xr_iload A dX1_dropped_156 4 rfl ?_
        refine xr_iconst A (v := (-1)) dX1_dropped_158 (by decide) ?_
        refine xr_icmp_eq A (tgt := 191) dX1_dropped_159 (by decide) (fun c159 => ?_) (fun c159 => ?_)
        · replace hf := ab_ip c159 hf
          refine xr_iload A dX1_dropped_191 5 rfl ?_
          refine xr_istore A dX1_dropped_193 (Nat.le_of_ble_eq_true rfl) (L' := [(5, vI l6), (0, vR (some x)), (1, vI l1), (3, vI l3), (4, vI l4), (6, vI l6)]) rfl ?_
          refine xr_iinc A dX1_dropped_195 5 rfl (v := (l6 + (1 : Int32))) rfl (Nat.le_of_ble_eq_true rfl) (L' := [(6, vI (l6 + (1 : Int32))), (5, vI l6), (0, vR (some x)), (1, vI l1), (3, vI l3), (4, vI l4)]) rfl ?_
          refine xr_goto A (tgt := 134) dX1_dropped_198 (by decide) ?_
          refine X.sub [2, 3, 4, 5, 1, 0] rfl ?_
          exact ih hf
        · replace hf := ab_in c159 hf
          refine xr_aload_n A dX1_dropped_162 0 rfl rfl ?_
          revert hf; refine ab_bdI (fun v10 mv10 hf => ?_)
          refine xr_get A xc_X1 in_X1 3 (Nat.le_of_ble_eq_true rfl) q266 rfl (ab_gRE mv10) dX1_dropped_163 ?_
          revert hf; refine ab_bdI (fun a11 e hf => ?_); subst e
          revert hf; refine ab_bdI (fun v12 mv12 hf => ?_)
          refine xr_get A xc_X6 in_X6 3 (Nat.le_of_ble_eq_true rfl) q446 rfl (ab_gRE mv12) dX1_dropped_166 ?_
          refine xr_iload A dX1_dropped_169 5 rfl ?_
          revert hf; refine ab_bdI (fun a13 e hf => ?_); subst e
          revert hf; refine ab_bdI (fun v14 mv14 hf => ?_)
          refine xr_aaload A (t := 9) rfl mv14 dX1_dropped_171 ?_
          revert hf; refine ab_bdI (fun a15 e hf => ?_); subst e
          revert hf; refine ab_bdI (fun v16 mv16 hf => ?_)
          refine xr_get A xc_X11 in_X11 6 (Nat.le_of_ble_eq_true rfl) q873 rfl (ab_gIE mv16) dX1_dropped_172 ?_
          refine xr_aload_n A dX1_dropped_175 0 rfl rfl ?_
          revert hf; refine ab_bdI (fun v17 mv17 hf => ?_)
          refine xr_get A xc_X1 in_X1 3 (Nat.le_of_ble_eq_true rfl) q266 rfl (ab_gRE mv17) dX1_dropped_176 ?_
          revert hf; refine ab_bdI (fun a18 e hf => ?_); subst e
          revert hf; refine ab_bdI (fun v19 mv19 hf => ?_)
          refine xr_get A xc_X6 in_X6 3 (Nat.le_of_ble_eq_true rfl) q446 rfl (ab_gRE mv19) dX1_dropped_179 ?_
          refine xr_iload A dX1_dropped_182 4 rfl ?_
          revert hf; refine ab_bdI (fun a20 e hf => ?_); subst e
          revert hf; refine ab_bdI (fun v21 mv21 hf => ?_)
          refine xr_aaload A (t := 9) rfl mv21 dX1_dropped_184 ?_
          revert hf; refine ab_bdI (fun a22 e hf => ?_); subst e
          revert hf; refine ab_bdI (fun v23 mv23 hf => ?_)
          refine xr_get A xc_X11 in_X11 6 (Nat.le_of_ble_eq_true rfl) q873 rfl (ab_gIE mv23) dX1_dropped_185 ?_
          refine xr_icmp_gt A (tgt := 195) dX1_dropped_188 (by decide) (fun c188 => ?_) (fun c188 => ?_)
          · replace hf := ab_ip c188 hf
            refine xr_iinc A dX1_dropped_195 5 rfl (v := (l6 + (1 : Int32))) rfl (Nat.le_of_ble_eq_true rfl) (L' := [(6, vI (l6 + (1 : Int32))), (0, vR (some x)), (1, vI l1), (3, vI l3), (4, vI l4), (5, vI l5)]) rfl ?_
            refine xr_goto A (tgt := 134) dX1_dropped_198 (by decide) ?_
            refine X.sub [1, 2, 3, 4, 5, 0] rfl ?_
            exact ih hf
          · replace hf := ab_in c188 hf
            refine xr_iload A dX1_dropped_191 5 rfl ?_
            refine xr_istore A dX1_dropped_193 (Nat.le_of_ble_eq_true rfl) (L' := [(5, vI l6), (0, vR (some x)), (1, vI l1), (3, vI l3), (4, vI l4), (6, vI l6)]) rfl ?_
            refine xr_iinc A dX1_dropped_195 5 rfl (v := (l6 + (1 : Int32))) rfl (Nat.le_of_ble_eq_true rfl) (L' := [(6, vI (l6 + (1 : Int32))), (5, vI l6), (0, vR (some x)), (1, vI l1), (3, vI l3), (4, vI l4)]) rfl ?_
            refine xr_goto A (tgt := 134) dX1_dropped_198 (by decide) ?_
            refine X.sub [2, 3, 4, 5, 1, 0] rfl ?_
            exact ih hf
noncomputable def fX1_dropped_l123 (x : Nat) : Nat → Int32 → Int32 → Int32 → Hp → Option (Int32 × Hp)
  | 0, _, _, _, _ => none
  | n + 1, l1, l3, l4, h =>
  if l3 ≤ l1 then (
    some (l4, h))
  else (
    fX1_dropped_l134 x (fX1_dropped_l123 x n) (hfu h) l1 l3 l4 (-1 : Int32) (0 : Int32) h)
theorem wX1_dropped_l123 {D : Dd} {C : Cx} {h0 h' : Hp} {r : Int32} (A : Act C D (h0, (.inl (some (vI r))), h') yX1_dropped cX1_dropped 7 (some FieldType.int) 3 71 []) {x : Nat} : ∀ (n : Nat) {l1 : Int32} {l3 : Int32} {l4 : Int32} {h : Hp}, fX1_dropped_l123 x n l1 l3 l4 h = some (r, h') → X C D (h0, (.inl (some (vI r))), h') 7 123 [(0, vR (some x)), (1, vI l1), (3, vI l3), (4, vI l4)] [] h := by
  intro n
  induction n with
  | zero => intro l1 l3 l4 h hf; exact ab_no hf
  | succ n ih =>
    intro l1 l3 l4 h hf
    unfold fX1_dropped_l123 at hf
    refine xr_iload_n A dX1_dropped_123 2 rfl rfl ?_
    refine xr_iload_n A dX1_dropped_124 1 rfl rfl ?_
    refine xr_icmp_le A (tgt := 223) dX1_dropped_125 (by decide) (fun c125 => ?_) (fun c125 => ?_)
    · replace hf := ab_ip c125 hf
      refine xr_iload A dX1_dropped_223 3 rfl ?_
      exact xr_ireturn A rfl hf dX1_dropped_225
    · replace hf := ab_in c125 hf
      refine xr_iconst A (v := (-1)) dX1_dropped_128 (by decide) ?_
      refine xr_istore A dX1_dropped_129 (Nat.le_of_ble_eq_true rfl) (L' := [(5, vI (-1 : Int32)), (0, vR (some x)), (1, vI l1), (3, vI l3), (4, vI l4)]) rfl ?_
      refine xr_iconst A (v := 0) dX1_dropped_131 (by decide) ?_
      refine xr_istore A dX1_dropped_132 (Nat.le_of_ble_eq_true rfl) (L' := [(6, vI (0 : Int32)), (5, vI (-1 : Int32)), (0, vR (some x)), (1, vI l1), (3, vI l3), (4, vI l4)]) rfl ?_
      refine X.sub [2, 3, 4, 5, 1, 0] rfl ?_
      exact wX1_dropped_l134 A (fun hf => ih hf) _ hf
noncomputable def fX1_dropped_l49 (x : Nat) : Nat → Int32 → Int32 → Int32 → Int32 → Hp → Option (Int32 × Hp)
  | 0, _, _, _, _, _ => none
  | n + 1, l1, l2, l3, l4, h =>
  ab_bd (ab_gR h x 0 3) fun v1 =>
  ab_bd v1 fun a2 =>
  ab_bd (ab_gI h a2 5 12) fun v3 =>
  if v3 ≤ l4 then (
    fX1_dropped_l123 x (hfu h) l1 l3 (0 : Int32) h)
  else (
    ab_bd (ab_gR h x 0 22) fun v4 =>
    ab_bd (ab_gR h x 0 3) fun v5 =>
    ab_bd v5 fun a6 =>
    ab_bd (ab_gR h a6 5 3) fun v7 =>
    ab_bd v7 fun a8 =>
    ab_bd (ab_aR h a8 9 l4) fun v9 =>
    ab_bd v9 fun a10 =>
    ab_bd (ab_gR h a10 9 7) fun v11 =>
    ab_b2 (fX1_lays x v11 l2 h) fun v14 h13 =>
    ab_bd v4 fun a15 =>
    ab_bd (ab_sI h13 a15 l4 v14) fun h16 =>
    ab_bd (ab_gR h16 x 0 22) fun v17 =>
    ab_bd v17 fun a18 =>
    ab_bd (ab_aI h16 a18 0 l4) fun v19 =>
    if v19 = (-1 : Int32) then (
      ab_b2 (fX1_no x (6 : Int32) h16) fun v25 h24 =>
      some (v25, h24))
    else (
      ab_bd (ab_gR h16 x 0 22) fun v20 =>
      ab_bd v20 fun a21 =>
      ab_bd (ab_aI h16 a21 0 l4) fun v22 =>
      fX1_dropped_l49 x n l1 l2 (l3 + v22) (l4 + (1 : Int32)) h16))
theorem wX1_dropped_l49 {D : Dd} {C : Cx} {h0 h' : Hp} {r : Int32} (A : Act C D (h0, (.inl (some (vI r))), h') yX1_dropped cX1_dropped 7 (some FieldType.int) 3 71 []) {x : Nat} : ∀ (n : Nat) {l1 : Int32} {l2 : Int32} {l3 : Int32} {l4 : Int32} {h : Hp}, fX1_dropped_l49 x n l1 l2 l3 l4 h = some (r, h') → X C D (h0, (.inl (some (vI r))), h') 7 49 [(0, vR (some x)), (1, vI l1), (2, vI l2), (3, vI l3), (4, vI l4)] [] h := by
  intro n
  induction n with
  | zero => intro l1 l2 l3 l4 h hf; exact ab_no hf
  | succ n ih =>
    intro l1 l2 l3 l4 h hf
    unfold fX1_dropped_l49 at hf
    refine xr_iload A dX1_dropped_49 4 rfl ?_
    refine xr_aload_n A dX1_dropped_51 0 rfl rfl ?_
    revert hf; refine ab_bdI (fun v1 mv1 hf => ?_)
    refine xr_get A xc_X1 in_X1 3 (Nat.le_of_ble_eq_true rfl) q266 rfl (ab_gRE mv1) dX1_dropped_52 ?_
    revert hf; refine ab_bdI (fun a2 e hf => ?_); subst e
    revert hf; refine ab_bdI (fun v3 mv3 hf => ?_)
    refine xr_get A xc_X6 in_X6 12 (Nat.le_of_ble_eq_true rfl) q470 rfl (ab_gIE mv3) dX1_dropped_55 ?_
    refine xr_icmp_ge A (tgt := 120) dX1_dropped_58 (by decide) (fun c58 => ?_) (fun c58 => ?_)
    · replace hf := ab_ip c58 hf
      refine xr_iconst A (v := 0) dX1_dropped_120 (by decide) ?_
      refine xr_istore A dX1_dropped_121 (Nat.le_of_ble_eq_true rfl) (L' := [(4, vI (0 : Int32)), (0, vR (some x)), (1, vI l1), (2, vI l2), (3, vI l3)]) rfl ?_
      refine X.sub [1, 2, 4, 0] rfl ?_
      exact wX1_dropped_l123 A _ hf
    · replace hf := ab_in c58 hf
      refine xr_aload_n A dX1_dropped_61 0 rfl rfl ?_
      revert hf; refine ab_bdI (fun v4 mv4 hf => ?_)
      refine xr_get A xc_X1 in_X1 22 (Nat.le_of_ble_eq_true rfl) q285 rfl (ab_gRE mv4) dX1_dropped_62 ?_
      refine xr_iload A dX1_dropped_65 4 rfl ?_
      refine xr_aload_n A dX1_dropped_67 0 rfl rfl ?_
      refine xr_aload_n A dX1_dropped_68 0 rfl rfl ?_
      revert hf; refine ab_bdI (fun v5 mv5 hf => ?_)
      refine xr_get A xc_X1 in_X1 3 (Nat.le_of_ble_eq_true rfl) q266 rfl (ab_gRE mv5) dX1_dropped_69 ?_
      revert hf; refine ab_bdI (fun a6 e hf => ?_); subst e
      revert hf; refine ab_bdI (fun v7 mv7 hf => ?_)
      refine xr_get A xc_X6 in_X6 3 (Nat.le_of_ble_eq_true rfl) q446 rfl (ab_gRE mv7) dX1_dropped_72 ?_
      refine xr_iload A dX1_dropped_75 4 rfl ?_
      revert hf; refine ab_bdI (fun a8 e hf => ?_); subst e
      revert hf; refine ab_bdI (fun v9 mv9 hf => ?_)
      refine xr_aaload A (t := 9) rfl mv9 dX1_dropped_77 ?_
      revert hf; refine ab_bdI (fun a10 e hf => ?_); subst e
      revert hf; refine ab_bdI (fun v11 mv11 hf => ?_)
      refine xr_get A xc_X11 in_X11 7 (Nat.le_of_ble_eq_true rfl) q875 rfl (ab_gRE mv11) dX1_dropped_78 ?_
      refine xr_iload_n A dX1_dropped_81 2 rfl rfl ?_
      revert hf; refine ab_b2I (fun v14 h13 m12 hf => ?_)
      refine xr_V A bX1_lays (wX1_lays D m12).2 xc_X1 (wX1_lays D m12).1 q1177 qs38 q1175 (av := [vR v11, vI l2]) (rest := [vI l4, vR v4]) rfl dX1_dropped_82 (Nat.le_of_ble_eq_true rfl) (Nat.le_of_ble_eq_true rfl) rfl (Nat.le_of_ble_eq_true rfl) ?_
      revert hf; refine ab_bdI (fun a15 e hf => ?_); subst e
      revert hf; refine ab_bdI (fun h16 mh16 hf => ?_)
      refine xr_iastore A mh16 dX1_dropped_85 ?_
      refine xr_aload_n A dX1_dropped_86 0 rfl rfl ?_
      revert hf; refine ab_bdI (fun v17 mv17 hf => ?_)
      refine xr_get A xc_X1 in_X1 22 (Nat.le_of_ble_eq_true rfl) q285 rfl (ab_gRE mv17) dX1_dropped_87 ?_
      refine xr_iload A dX1_dropped_90 4 rfl ?_
      revert hf; refine ab_bdI (fun a18 e hf => ?_); subst e
      revert hf; refine ab_bdI (fun v19 mv19 hf => ?_)
      refine xr_iaload A mv19 dX1_dropped_92 ?_
      refine xr_iconst A (v := (-1)) dX1_dropped_93 (by decide) ?_
      refine xr_icmp_ne A (tgt := 104) dX1_dropped_94 (by decide) (fun c94 => ?_) (fun c94 => ?_)
      · replace hf := ab_in c94 hf
        refine xr_iload_n A dX1_dropped_104 3 rfl rfl ?_
        refine xr_aload_n A dX1_dropped_105 0 rfl rfl ?_
        revert hf; refine ab_bdI (fun v20 mv20 hf => ?_)
        refine xr_get A xc_X1 in_X1 22 (Nat.le_of_ble_eq_true rfl) q285 rfl (ab_gRE mv20) dX1_dropped_106 ?_
        refine xr_iload A dX1_dropped_109 4 rfl ?_
        revert hf; refine ab_bdI (fun a21 e hf => ?_); subst e
        revert hf; refine ab_bdI (fun v22 mv22 hf => ?_)
        refine xr_iaload A mv22 dX1_dropped_111 ?_
        refine xr_iadd A dX1_dropped_112 ?_
        refine xr_istore_n A dX1_dropped_113 rfl (Nat.le_of_ble_eq_true rfl) (L' := [(3, vI (l3 + v22)), (0, vR (some x)), (1, vI l1), (2, vI l2), (4, vI l4)]) rfl ?_
        refine xr_iinc A dX1_dropped_114 4 rfl (v := (l4 + (1 : Int32))) rfl (Nat.le_of_ble_eq_true rfl) (L' := [(4, vI (l4 + (1 : Int32))), (3, vI (l3 + v22)), (0, vR (some x)), (1, vI l1), (2, vI l2)]) rfl ?_
        refine xr_goto A (tgt := 49) dX1_dropped_117 (by decide) ?_
        refine X.sub [2, 3, 4, 1, 0] rfl ?_
        exact ih hf
      · replace hf := ab_ip c94 hf
        refine xr_aload_n A dX1_dropped_97 0 rfl rfl ?_
        refine xr_bipush A (v := 6) dX1_dropped_98 (by decide) ?_
        revert hf; refine ab_b2I (fun v25 h24 m23 hf => ?_)
        refine xr_V A bX1_no (wX1_no D m23).2 xc_X1 (wX1_no D m23).1 q409 qs3 q407 (av := [vI (6 : Int32)]) (rest := []) rfl dX1_dropped_100 (Nat.le_of_ble_eq_true rfl) (Nat.le_of_ble_eq_true rfl) rfl (Nat.le_of_ble_eq_true rfl) ?_
        exact xr_ireturn A rfl hf dX1_dropped_103
noncomputable def fX1_dropped (x : Nat) (p1 : Int32) (p2 : Int32) (h : Hp) : Option (Int32 × Hp) :=
  ab_ck h x 0 <|
  ab_bd (fX1_anew x h) fun h2 =>
  ab_bd (ab_gR h2 x 0 3) fun v3 =>
  ab_on v3 (
    ab_b2 (fX1_no x (1 : Int32) h2) fun v7 h6 =>
    some (v7, h6)) fun a4 => (
    ab_b2 (fX1_in p2 (1 : Int32) (14 : Int32) h2) fun v10 h9 =>
    if v10 = 0 then (
      ab_b2 (fX1_no x (2 : Int32) h9) fun v13 h12 =>
      some (v13, h12))
    else (
      ab_b2 (fX1_in p1 (0 : Int32) (99999 : Int32) h9) fun v16 h15 =>
      if v16 = 0 then (
        ab_b2 (fX1_no x (2 : Int32) h15) fun v19 h18 =>
        some (v19, h18))
      else (
        fX1_dropped_l49 x (hfu h15) p1 p2 (0 : Int32) (0 : Int32) h15)))
theorem wX1_dropped (D : Dd) {x : Nat} {p1 : Int32} {p2 : Int32} {h : Hp} {r : Int32} {h' : Hp} (hf : fX1_dropped x p1 p2 h = some (r, h')) : ab_is h x 0 ∧ Ct D 3 71 yX1_dropped cX1_dropped 7 (some FieldType.int) [vR (some x), vI p1, vI p2] h (.inl (some (vI r))) h' := by
    unfold fX1_dropped at hf
    replace hf := ab_ckE hf; obtain ⟨i0, hf⟩ := hf
    refine ⟨i0, ?_⟩
    refine Ct.of (by decide) (L := [(0, vR (some x)), (1, vI p1), (2, vI p2)]) rfl (Nat.le_of_ble_eq_true rfl) (fun C A => ?_)
    refine xr_aload_n A dX1_dropped_0 0 rfl rfl ?_
    revert hf; refine ab_bdI (fun h2 m1 hf => ?_)
    refine xr_V0 A bX1_anew (wX1_anew D m1).2 xc_X1 (wX1_anew D m1).1 q402 qs2 q400 (av := []) (rest := []) rfl dX1_dropped_1 (Nat.le_of_ble_eq_true rfl) (Nat.le_of_ble_eq_true rfl) rfl (Nat.le_of_ble_eq_true rfl) ?_
    refine xr_aload_n A dX1_dropped_4 0 rfl rfl ?_
    revert hf; refine ab_bdI (fun v3 mv3 hf => ?_)
    refine xr_get A xc_X1 in_X1 3 (Nat.le_of_ble_eq_true rfl) q266 rfl (ab_gRE mv3) dX1_dropped_5 ?_
    revert hf; refine ab_onI (fun e hf => ?_) (fun a4 e hf => ?_) <;> subst e
    · refine xr_ifnonnull A (tgt := 17) dX1_dropped_8 (by decide) (fun _ e => by cases e) (fun _ => ?_)
      refine xr_aload_n A dX1_dropped_11 0 rfl rfl ?_
      refine xr_iconst A (v := 1) dX1_dropped_12 (by decide) ?_
      revert hf; refine ab_b2I (fun v7 h6 m5 hf => ?_)
      refine xr_V A bX1_no (wX1_no D m5).2 xc_X1 (wX1_no D m5).1 q409 qs3 q407 (av := [vI (1 : Int32)]) (rest := []) rfl dX1_dropped_13 (Nat.le_of_ble_eq_true rfl) (Nat.le_of_ble_eq_true rfl) rfl (Nat.le_of_ble_eq_true rfl) ?_
      exact xr_ireturn A rfl hf dX1_dropped_16
    · refine xr_ifnonnull A (tgt := 17) dX1_dropped_8 (by decide) (fun _ _ => ?_) (fun e => by cases e)
      refine xr_iload_n A dX1_dropped_17 2 rfl rfl ?_
      refine xr_iconst A (v := 1) dX1_dropped_18 (by decide) ?_
      refine xr_bipush A (v := 14) dX1_dropped_19 (by decide) ?_
      revert hf; refine ab_b2I (fun v10 h9 m8 hf => ?_)
      refine xr_S A bX1_in (wX1_in D m8) q405 q404 (av := [vI p2, vI (1 : Int32), vI (14 : Int32)]) (rest := []) rfl dX1_dropped_21 (Nat.le_of_ble_eq_true rfl) (Nat.le_of_ble_eq_true rfl) rfl (Nat.le_of_ble_eq_true rfl) ?_
      refine xr_if_eq A (tgt := 38) dX1_dropped_24 (by decide) (fun c24 => ?_) (fun c24 => ?_)
      · replace hf := ab_ip c24 hf
        refine xr_aload_n A dX1_dropped_38 0 rfl rfl ?_
        refine xr_iconst A (v := 2) dX1_dropped_39 (by decide) ?_
        revert hf; refine ab_b2I (fun v13 h12 m11 hf => ?_)
        refine xr_V A bX1_no (wX1_no D m11).2 xc_X1 (wX1_no D m11).1 q409 qs3 q407 (av := [vI (2 : Int32)]) (rest := []) rfl dX1_dropped_40 (Nat.le_of_ble_eq_true rfl) (Nat.le_of_ble_eq_true rfl) rfl (Nat.le_of_ble_eq_true rfl) ?_
        exact xr_ireturn A rfl hf dX1_dropped_43
      · replace hf := ab_in c24 hf
        refine xr_iload_n A dX1_dropped_27 1 rfl rfl ?_
        refine xr_iconst A (v := 0) dX1_dropped_28 (by decide) ?_
        refine xr_ldcw A q1191 dX1_dropped_29 ?_
        revert hf; refine ab_b2I (fun v16 h15 m14 hf => ?_)
        refine xr_S A bX1_in (wX1_in D m14) q405 q404 (av := [vI p1, vI (0 : Int32), vI (99999 : Int32)]) (rest := []) rfl dX1_dropped_32 (Nat.le_of_ble_eq_true rfl) (Nat.le_of_ble_eq_true rfl) rfl (Nat.le_of_ble_eq_true rfl) ?_
        refine xr_if_ne A (tgt := 44) dX1_dropped_35 (by decide) (fun c35 => ?_) (fun c35 => ?_)
        · replace hf := ab_in c35 hf
          refine xr_iconst A (v := 0) dX1_dropped_44 (by decide) ?_
          refine xr_istore_n A dX1_dropped_45 rfl (Nat.le_of_ble_eq_true rfl) (L' := [(3, vI (0 : Int32)), (0, vR (some x)), (1, vI p1), (2, vI p2)]) rfl ?_
          refine xr_iconst A (v := 0) dX1_dropped_46 (by decide) ?_
          refine xr_istore A dX1_dropped_47 (Nat.le_of_ble_eq_true rfl) (L' := [(4, vI (0 : Int32)), (3, vI (0 : Int32)), (0, vR (some x)), (1, vI p1), (2, vI p2)]) rfl ?_
          refine X.sub [2, 3, 4, 1, 0] rfl ?_
          exact wX1_dropped_l49 A _ hf
        · replace hf := ab_ip c35 hf
          refine xr_aload_n A dX1_dropped_38 0 rfl rfl ?_
          refine xr_iconst A (v := 2) dX1_dropped_39 (by decide) ?_
          revert hf; refine ab_b2I (fun v19 h18 m17 hf => ?_)
          refine xr_V A bX1_no (wX1_no D m17).2 xc_X1 (wX1_no D m17).1 q409 qs3 q407 (av := [vI (2 : Int32)]) (rest := []) rfl dX1_dropped_40 (Nat.le_of_ble_eq_true rfl) (Nat.le_of_ble_eq_true rfl) rfl (Nat.le_of_ble_eq_true rfl) ?_
          exact xr_ireturn A rfl hf dX1_dropped_43
/-! X1_knockWhy -/
theorem bX1_knockWhy : MB yX1_knockWhy cX1_knockWhy 1 (some FieldType.int) 0 := ⟨q1199, q92, by decide, by decide +kernel⟩
noncomputable def fX1_knockWhy (x : Nat) (h : Hp) : Option (Int32 × Hp) :=
  ab_ck h x 0 <|
  ab_bd (ab_gR h x 0 3) fun v1 =>
  ab_on v1 (
    some ((1 : Int32), h)) fun a2 => (
    ab_bd (ab_gR h x 0 3) fun v3 =>
    ab_bd v3 fun a4 =>
    ab_bd (ab_gI h a4 5 14) fun v5 =>
    if v5 = 0 then (
      some ((6 : Int32), h))
    else (
      some ((0 : Int32), h)))
theorem wX1_knockWhy (D : Dd) {x : Nat} {h : Hp} {r : Int32} {h' : Hp} (hf : fX1_knockWhy x h = some (r, h')) : ab_is h x 0 ∧ Ct D 1 20 yX1_knockWhy cX1_knockWhy 1 (some FieldType.int) [vR (some x)] h (.inl (some (vI r))) h' := by
    unfold fX1_knockWhy at hf
    replace hf := ab_ckE hf; obtain ⟨i0, hf⟩ := hf
    refine ⟨i0, ?_⟩
    refine Ct.of (by decide) (L := [(0, vR (some x))]) rfl (Nat.le_of_ble_eq_true rfl) (fun C A => ?_)
    refine xr_aload_n A dX1_knockWhy_0 0 rfl rfl ?_
    revert hf; refine ab_bdI (fun v1 mv1 hf => ?_)
    refine xr_get A xc_X1 in_X1 3 (Nat.le_of_ble_eq_true rfl) q266 rfl (ab_gRE mv1) dX1_knockWhy_1 ?_
    revert hf; refine ab_onI (fun e hf => ?_) (fun a2 e hf => ?_) <;> subst e
    · refine xr_ifnonnull A (tgt := 11) dX1_knockWhy_4 (by decide) (fun _ e => by cases e) (fun _ => ?_)
      refine xr_iconst A (v := 1) dX1_knockWhy_7 (by decide) ?_
      refine xr_goto A (tgt := 27) dX1_knockWhy_8 (by decide) ?_
      exact xr_ireturn A rfl hf dX1_knockWhy_27
    · refine xr_ifnonnull A (tgt := 11) dX1_knockWhy_4 (by decide) (fun _ _ => ?_) (fun e => by cases e)
      refine xr_aload_n A dX1_knockWhy_11 0 rfl rfl ?_
      revert hf; refine ab_bdI (fun v3 mv3 hf => ?_)
      refine xr_get A xc_X1 in_X1 3 (Nat.le_of_ble_eq_true rfl) q266 rfl (ab_gRE mv3) dX1_knockWhy_12 ?_
      revert hf; refine ab_bdI (fun a4 e hf => ?_); subst e
      revert hf; refine ab_bdI (fun v5 mv5 hf => ?_)
      refine xr_get A xc_X6 in_X6 14 (Nat.le_of_ble_eq_true rfl) q477 rfl (ab_gIE mv5) dX1_knockWhy_15 ?_
      refine xr_if_ne A (tgt := 26) dX1_knockWhy_18 (by decide) (fun c18 => ?_) (fun c18 => ?_)
      · replace hf := ab_in c18 hf
        refine xr_iconst A (v := 0) dX1_knockWhy_26 (by decide) ?_
        exact xr_ireturn A rfl hf dX1_knockWhy_27
      · replace hf := ab_ip c18 hf
        refine xr_bipush A (v := 6) dX1_knockWhy_21 (by decide) ?_
        refine xr_goto A (tgt := 27) dX1_knockWhy_23 (by decide) ?_
        exact xr_ireturn A rfl hf dX1_knockWhy_27
/-! X1_expected -/
theorem bX1_expected : MB yX1_expected cX1_expected 10 (some FieldType.long) 1 := ⟨q1208, q92, by decide, by decide +kernel⟩
noncomputable def fX1_expected_l40 (x : Nat) : Nat → Option Nat → Int64 → Int64 → Int64 → Int32 → Hp → Option (Int64 × Hp)
  | 0, _, _, _, _, _, _ => none
  | n + 1, l1, l2, l4, l6, l8, h =>
  ab_bd (ab_gR h x 0 3) fun v1 =>
  ab_bd v1 fun a2 =>
  ab_bd (ab_gI h a2 5 14) fun v3 =>
  if v3 ≤ l8 then (
    some (l2, h))
  else (
    ab_bd (ab_gR h x 0 3) fun v4 =>
    ab_bd v4 fun a5 =>
    ab_bd (ab_gR h a5 5 5) fun v6 =>
    ab_bd l1 fun a7 =>
    ab_bd (ab_aI h a7 0 l8) fun v8 =>
    ab_bd v6 fun a9 =>
    ab_bd (ab_aR h a9 11 v8) fun v10 =>
    ab_bd v10 fun a11 =>
    ab_bd (ab_gI h a11 11 2) fun v12 =>
    ab_bd (ab_gI h a11 11 3) fun v13 =>
    fX1_expected_l40 x n (some a7) (l2 + ((v12.toInt64 * l4) * l6)) (l4 * ((100 : Int32) - v13).toInt64) (l6 / (100 : Int64)) (l8 + (1 : Int32)) h)
theorem wX1_expected_l40 {D : Dd} {C : Cx} {h0 h' : Hp} {r : Int64} (A : Act C D (h0, (.inl (some (vL r))), h') yX1_expected cX1_expected 10 (some FieldType.long) 1 20 []) {x : Nat} : ∀ (n : Nat) {l1 : Option Nat} {l2 : Int64} {l4 : Int64} {l6 : Int64} {l8 : Int32} {h : Hp}, fX1_expected_l40 x n l1 l2 l4 l6 l8 h = some (r, h') → X C D (h0, (.inl (some (vL r))), h') 10 40 [(0, vR (some x)), (1, vR l1), (2, vL l2), (4, vL l4), (6, vL l6), (8, vI l8)] [] h := by
  intro n
  induction n with
  | zero => intro l1 l2 l4 l6 l8 h hf; exact ab_no hf
  | succ n ih =>
    intro l1 l2 l4 l6 l8 h hf
    unfold fX1_expected_l40 at hf
    refine xr_iload A dX1_expected_40 5 rfl ?_
    refine xr_aload_n A dX1_expected_42 0 rfl rfl ?_
    revert hf; refine ab_bdI (fun v1 mv1 hf => ?_)
    refine xr_get A xc_X1 in_X1 3 (Nat.le_of_ble_eq_true rfl) q266 rfl (ab_gRE mv1) dX1_expected_43 ?_
    revert hf; refine ab_bdI (fun a2 e hf => ?_); subst e
    revert hf; refine ab_bdI (fun v3 mv3 hf => ?_)
    refine xr_get A xc_X6 in_X6 14 (Nat.le_of_ble_eq_true rfl) q477 rfl (ab_gIE mv3) dX1_expected_46 ?_
    refine xr_icmp_ge A (tgt := 109) dX1_expected_49 (by decide) (fun c49 => ?_) (fun c49 => ?_)
    · replace hf := ab_ip c49 hf
      refine xr_lload_n A dX1_expected_109 2 rfl rfl ?_
      exact xr_lreturn A hf dX1_expected_110
    · replace hf := ab_in c49 hf
      refine xr_aload_n A dX1_expected_52 0 rfl rfl ?_
      revert hf; refine ab_bdI (fun v4 mv4 hf => ?_)
      refine xr_get A xc_X1 in_X1 3 (Nat.le_of_ble_eq_true rfl) q266 rfl (ab_gRE mv4) dX1_expected_53 ?_
      revert hf; refine ab_bdI (fun a5 e hf => ?_); subst e
      revert hf; refine ab_bdI (fun v6 mv6 hf => ?_)
      refine xr_get A xc_X6 in_X6 5 (Nat.le_of_ble_eq_true rfl) q452 rfl (ab_gRE mv6) dX1_expected_56 ?_
      refine xr_aload_n A dX1_expected_59 1 rfl rfl ?_
      refine xr_iload A dX1_expected_60 5 rfl ?_
      revert hf; refine ab_bdI (fun a7 e hf => ?_); subst e
      revert hf; refine ab_bdI (fun v8 mv8 hf => ?_)
      refine xr_iaload A mv8 dX1_expected_62 ?_
      revert hf; refine ab_bdI (fun a9 e hf => ?_); subst e
      revert hf; refine ab_bdI (fun v10 mv10 hf => ?_)
      refine xr_aaload A (t := 11) rfl mv10 dX1_expected_63 ?_
      refine xr_astore A dX1_expected_64 (Nat.le_of_ble_eq_true rfl) (L' := [(9, vR v10), (0, vR (some x)), (1, vR (some a7)), (2, vL l2), (4, vL l4), (6, vL l6), (8, vI l8)]) rfl ?_
      refine xr_lload_n A dX1_expected_66 3 rfl rfl ?_
      refine xr_aload A dX1_expected_67 0 rfl ?_
      revert hf; refine ab_bdI (fun a11 e hf => ?_); subst e
      revert hf; refine ab_bdI (fun v12 mv12 hf => ?_)
      refine xr_get A xc_X13 in_X13 2 (Nat.le_of_ble_eq_true rfl) q952 rfl (ab_gIE mv12) dX1_expected_69 ?_
      refine xr_i2l A dX1_expected_72 ?_
      refine xr_lload A dX1_expected_73 4 rfl ?_
      refine xr_lmul A dX1_expected_75 ?_
      refine xr_lload A dX1_expected_76 5 rfl ?_
      refine xr_lmul A dX1_expected_78 ?_
      refine xr_ladd A dX1_expected_79 ?_
      refine xr_lstore_n A dX1_expected_80 rfl (Nat.le_of_ble_eq_true rfl) (L' := [(2, vL (l2 + ((v12.toInt64 * l4) * l6))), (9, vR (some a11)), (0, vR (some x)), (1, vR (some a7)), (4, vL l4), (6, vL l6), (8, vI l8)]) rfl ?_
      refine xr_lload A dX1_expected_81 4 rfl ?_
      refine xr_bipush A (v := 100) dX1_expected_83 (by decide) ?_
      refine xr_aload A dX1_expected_85 1 rfl ?_
      revert hf; refine ab_bdI (fun v13 mv13 hf => ?_)
      refine xr_get A xc_X13 in_X13 3 (Nat.le_of_ble_eq_true rfl) q954 rfl (ab_gIE mv13) dX1_expected_87 ?_
      refine xr_isub A dX1_expected_90 ?_
      refine xr_i2l A dX1_expected_91 ?_
      refine xr_lmul A dX1_expected_92 ?_
      refine xr_lstore A dX1_expected_93 (Nat.le_of_ble_eq_true rfl) (L' := [(4, vL (l4 * ((100 : Int32) - v13).toInt64)), (2, vL (l2 + ((v12.toInt64 * l4) * l6))), (9, vR (some a11)), (0, vR (some x)), (1, vR (some a7)), (6, vL l6), (8, vI l8)]) rfl ?_
      refine xr_lload A dX1_expected_95 5 rfl ?_
      refine xr_ldc2 A q1209 dX1_expected_97 ?_
      refine xr_ldiv A dX1_expected_100 (by decide) ?_
      refine xr_lstore A dX1_expected_101 (Nat.le_of_ble_eq_true rfl) (L' := [(6, vL (l6 / (100 : Int64))), (4, vL (l4 * ((100 : Int32) - v13).toInt64)), (2, vL (l2 + ((v12.toInt64 * l4) * l6))), (9, vR (some a11)), (0, vR (some x)), (1, vR (some a7)), (8, vI l8)]) rfl ?_
      refine xr_iinc A dX1_expected_103 6 rfl (v := (l8 + (1 : Int32))) rfl (Nat.le_of_ble_eq_true rfl) (L' := [(8, vI (l8 + (1 : Int32))), (6, vL (l6 / (100 : Int64))), (4, vL (l4 * ((100 : Int32) - v13).toInt64)), (2, vL (l2 + ((v12.toInt64 * l4) * l6))), (9, vR (some a11)), (0, vR (some x)), (1, vR (some a7))]) rfl ?_
      refine xr_goto A (tgt := 40) dX1_expected_106 (by decide) ?_
      refine X.sub [5, 6, 3, 2, 1, 0] rfl ?_
      exact ih hf
noncomputable def fX1_expected_l11 (x : Nat) : Nat → Option Nat → Int64 → Int64 → Int64 → Int32 → Hp → Option (Int64 × Hp)
  | 0, _, _, _, _, _, _ => none
  | n + 1, l1, l2, l4, l6, l8, h =>
  ab_bd (ab_gR h x 0 3) fun v1 =>
  ab_bd v1 fun a2 =>
  ab_bd (ab_gI h a2 5 14) fun v3 =>
  if v3 ≤ l8 then (
    fX1_expected_l40 x (hfu h) l1 l2 l4 l6 (0 : Int32) h)
  else (
    fX1_expected_l11 x n l1 l2 l4 (l6 * (100 : Int64)) (l8 + (1 : Int32)) h)
theorem wX1_expected_l11 {D : Dd} {C : Cx} {h0 h' : Hp} {r : Int64} (A : Act C D (h0, (.inl (some (vL r))), h') yX1_expected cX1_expected 10 (some FieldType.long) 1 20 []) {x : Nat} : ∀ (n : Nat) {l1 : Option Nat} {l2 : Int64} {l4 : Int64} {l6 : Int64} {l8 : Int32} {h : Hp}, fX1_expected_l11 x n l1 l2 l4 l6 l8 h = some (r, h') → X C D (h0, (.inl (some (vL r))), h') 10 11 [(0, vR (some x)), (1, vR l1), (2, vL l2), (4, vL l4), (6, vL l6), (8, vI l8)] [] h := by
  intro n
  induction n with
  | zero => intro l1 l2 l4 l6 l8 h hf; exact ab_no hf
  | succ n ih =>
    intro l1 l2 l4 l6 l8 h hf
    unfold fX1_expected_l11 at hf
    refine xr_iload A dX1_expected_11 5 rfl ?_
    refine xr_aload_n A dX1_expected_13 0 rfl rfl ?_
    revert hf; refine ab_bdI (fun v1 mv1 hf => ?_)
    refine xr_get A xc_X1 in_X1 3 (Nat.le_of_ble_eq_true rfl) q266 rfl (ab_gRE mv1) dX1_expected_14 ?_
    revert hf; refine ab_bdI (fun a2 e hf => ?_); subst e
    revert hf; refine ab_bdI (fun v3 mv3 hf => ?_)
    refine xr_get A xc_X6 in_X6 14 (Nat.le_of_ble_eq_true rfl) q477 rfl (ab_gIE mv3) dX1_expected_17 ?_
    refine xr_icmp_ge A (tgt := 37) dX1_expected_20 (by decide) (fun c20 => ?_) (fun c20 => ?_)
    · replace hf := ab_ip c20 hf
      refine xr_iconst A (v := 0) dX1_expected_37 (by decide) ?_
      refine xr_istore A dX1_expected_38 (Nat.le_of_ble_eq_true rfl) (L' := [(8, vI (0 : Int32)), (0, vR (some x)), (1, vR l1), (2, vL l2), (4, vL l4), (6, vL l6)]) rfl ?_
      refine X.sub [1, 2, 3, 4, 5, 0] rfl ?_
      exact wX1_expected_l40 A _ hf
    · replace hf := ab_in c20 hf
      refine xr_lload A dX1_expected_23 4 rfl ?_
      refine xr_ldc2 A q1209 dX1_expected_25 ?_
      refine xr_lmul A dX1_expected_28 ?_
      refine xr_lstore A dX1_expected_29 (Nat.le_of_ble_eq_true rfl) (L' := [(6, vL (l6 * (100 : Int64))), (0, vR (some x)), (1, vR l1), (2, vL l2), (4, vL l4), (8, vI l8)]) rfl ?_
      refine xr_iinc A dX1_expected_31 5 rfl (v := (l8 + (1 : Int32))) rfl (Nat.le_of_ble_eq_true rfl) (L' := [(8, vI (l8 + (1 : Int32))), (6, vL (l6 * (100 : Int64))), (0, vR (some x)), (1, vR l1), (2, vL l2), (4, vL l4)]) rfl ?_
      refine xr_goto A (tgt := 11) dX1_expected_34 (by decide) ?_
      refine X.sub [2, 3, 4, 5, 1, 0] rfl ?_
      exact ih hf
noncomputable def fX1_expected (x : Nat) (p1 : Option Nat) (h : Hp) : Option (Int64 × Hp) :=
  ab_ck h x 0 <|
  fX1_expected_l11 x (hfu h) p1 (0 : Int64) (1 : Int64) (1 : Int64) (0 : Int32) h
theorem wX1_expected (D : Dd) {x : Nat} {p1 : Option Nat} {h : Hp} {r : Int64} {h' : Hp} (hf : fX1_expected x p1 h = some (r, h')) : ab_is h x 0 ∧ Ct D 1 20 yX1_expected cX1_expected 10 (some FieldType.long) [vR (some x), vR p1] h (.inl (some (vL r))) h' := by
    unfold fX1_expected at hf
    replace hf := ab_ckE hf; obtain ⟨i0, hf⟩ := hf
    refine ⟨i0, ?_⟩
    refine Ct.of (by decide) (L := [(0, vR (some x)), (1, vR p1)]) rfl (Nat.le_of_ble_eq_true rfl) (fun C A => ?_)
    refine xr_lconst A (v := 0) dX1_expected_0 (by decide) ?_
    refine xr_lstore_n A dX1_expected_1 rfl (Nat.le_of_ble_eq_true rfl) (L' := [(2, vL (0 : Int64)), (0, vR (some x)), (1, vR p1)]) rfl ?_
    refine xr_lconst A (v := 1) dX1_expected_2 (by decide) ?_
    refine xr_lstore A dX1_expected_3 (Nat.le_of_ble_eq_true rfl) (L' := [(4, vL (1 : Int64)), (2, vL (0 : Int64)), (0, vR (some x)), (1, vR p1)]) rfl ?_
    refine xr_lconst A (v := 1) dX1_expected_5 (by decide) ?_
    refine xr_lstore A dX1_expected_6 (Nat.le_of_ble_eq_true rfl) (L' := [(6, vL (1 : Int64)), (4, vL (1 : Int64)), (2, vL (0 : Int64)), (0, vR (some x)), (1, vR p1)]) rfl ?_
    refine xr_iconst A (v := 0) dX1_expected_8 (by decide) ?_
    refine xr_istore A dX1_expected_9 (Nat.le_of_ble_eq_true rfl) (L' := [(8, vI (0 : Int32)), (6, vL (1 : Int64)), (4, vL (1 : Int64)), (2, vL (0 : Int64)), (0, vR (some x)), (1, vR p1)]) rfl ?_
    refine X.sub [4, 5, 3, 2, 1, 0] rfl ?_
    exact wX1_expected_l11 A _ hf
