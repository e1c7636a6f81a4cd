set_option maxRecDepth 100000
/-! X1_knocks -/
theorem bX1_knocks : MB yX1_knocks cX1_knocks 5 (none : Option FieldType) 2 := ⟨q1204, q92, by decide, by decide +kernel⟩
noncomputable def fX1_knocks_l54 (x : Nat) (rec : Int32 → Int32 → Hp → Option Hp) : Nat → Int32 → Int32 → Int32 → Hp → Option Hp
  | 0, _, _, _, _ => none
  | n + 1, l1, l2, l3, h =>
  ab_bd (ab_gR h x 0 3) fun v1 =>
  ab_bd v1 fun a2 =>
  ab_bd (ab_gI h a2 5 14) fun v3 =>
  if v3 ≤ l3 then (
    some h)
  else (
    ab_b2 (fX1_lies l2 l3 h) fun v6 h5 =>
    if v6 = 0 then (
      fX1_knocks_l54 x rec n l1 l2 (l3 + (1 : Int32)) h5)
    else (
      ab_bd (ab_gR h5 x 0 23) fun v7 =>
      ab_bd v7 fun a8 =>
      ab_bd (ab_sI h5 a8 l1 l3) fun h9 =>
      ab_bd (rec (l1 + (1 : Int32)) (l2 &&& (((1 : Int32) <<< (l3 &&& 31)) ^^^ (-1 : Int32))) h9) fun h11 =>
      fX1_knocks_l54 x rec n l1 l2 (l3 + (1 : Int32)) h11))
theorem wX1_knocks_l54 {D : Dd} {C : Cx} {h0 h' : Hp} {k : Nat} (A : Act C D (h0, (.inl none), h') yX1_knocks cX1_knocks 5 (none : Option FieldType) (2 + (k + 1)) (49 + (k + 1) * 24) []) {x : Nat} {rec : Int32 → Int32 → Hp → Option Hp} (hrec : ∀ {p1 : Int32} {p2 : Int32} {h0 : Hp} {h' : Hp}, rec p1 p2 h0 = some h' → ab_is h0 x 0 ∧ Ct D (2 + k) (49 + k * 24) yX1_knocks cX1_knocks 5 (none : Option FieldType) [vR (some x), vI p1, vI p2] h0 (.inl none) h') : ∀ (n : Nat) {l1 : Int32} {l2 : Int32} {l3 : Int32} {h : Hp}, fX1_knocks_l54 x rec n l1 l2 l3 h = some h' → X C D (h0, (.inl none), h') 5 54 [(0, vR (some x)), (1, vI l1), (2, vI l2), (3, vI l3)] [] h := by
  intro n
  induction n with
  | zero => intro l1 l2 l3 h hf; exact ab_no hf
  | succ n ih =>
    intro l1 l2 l3 h hf
    unfold fX1_knocks_l54 at hf
    refine xr_iload_n A dX1_knocks_54 3 rfl rfl ?_
    refine xr_aload_n A dX1_knocks_55 0 rfl rfl ?_
    revert hf; refine ab_bdI (fun v1 mv1 hf => ?_)
    refine xr_get A xc_X1 in_X1 3 (Nat.le_of_ble_eq_true rfl) q266 rfl (ab_gRE mv1) dX1_knocks_56 ?_
    revert hf; refine ab_bdI (fun a2 e hf => ?_); subst e
    revert hf; refine ab_bdI (fun v3 mv3 hf => ?_)
    refine xr_get A xc_X6 in_X6 14 (Nat.le_of_ble_eq_true rfl) q477 rfl (ab_gIE mv3) dX1_knocks_59 ?_
    refine xr_icmp_ge A (tgt := 103) dX1_knocks_62 (by decide) (fun c62 => ?_) (fun c62 => ?_)
    · replace hf := ab_ip c62 hf
      exact xr_return A hf dX1_knocks_103
    · replace hf := ab_in c62 hf
      refine xr_iload_n A dX1_knocks_65 2 rfl rfl ?_
      refine xr_iload_n A dX1_knocks_66 3 rfl rfl ?_
      revert hf; refine ab_b2I (fun v6 h5 m4 hf => ?_)
      refine xr_S A bX1_lies (wX1_lies D m4) q986 q1121 (av := [vI l2, vI l3]) (rest := []) rfl dX1_knocks_67 (by omega) (by omega) rfl (Nat.le_of_ble_eq_true rfl) ?_
      refine xr_if_ne A (tgt := 76) dX1_knocks_70 (by decide) (fun c70 => ?_) (fun c70 => ?_)
      · replace hf := ab_in c70 hf
        refine xr_aload_n A dX1_knocks_76 0 rfl rfl ?_
        revert hf; refine ab_bdI (fun v7 mv7 hf => ?_)
        refine xr_get A xc_X1 in_X1 23 (Nat.le_of_ble_eq_true rfl) q286 rfl (ab_gRE mv7) dX1_knocks_77 ?_
        refine xr_iload_n A dX1_knocks_80 1 rfl rfl ?_
        refine xr_iload_n A dX1_knocks_81 3 rfl rfl ?_
        revert hf; refine ab_bdI (fun a8 e hf => ?_); subst e
        revert hf; refine ab_bdI (fun h9 mh9 hf => ?_)
        refine xr_iastore A mh9 dX1_knocks_82 ?_
        refine xr_aload_n A dX1_knocks_83 0 rfl rfl ?_
        refine xr_iload_n A dX1_knocks_84 1 rfl rfl ?_
        refine xr_iconst A (v := 1) dX1_knocks_85 (by decide) ?_
        refine xr_iadd A dX1_knocks_86 ?_
        refine xr_iload_n A dX1_knocks_87 2 rfl rfl ?_
        refine xr_iconst A (v := 1) dX1_knocks_88 (by decide) ?_
        refine xr_iload_n A dX1_knocks_89 3 rfl rfl ?_
        refine xr_ishl A dX1_knocks_90 ?_
        refine xr_iconst A (v := (-1)) dX1_knocks_91 (by decide) ?_
        refine xr_ixor A dX1_knocks_92 ?_
        refine xr_iand A dX1_knocks_93 ?_
        revert hf; refine ab_bdI (fun h11 m10 hf => ?_)
        refine xr_V0 A bX1_knocks (hrec m10).2 xc_X1 (hrec m10).1 q1203 qs41 q1201 (av := [vI (l1 + (1 : Int32)), vI (l2 &&& (((1 : Int32) <<< (l3 &&& 31)) ^^^ (-1 : Int32)))]) (rest := []) rfl dX1_knocks_94 (by omega) (by omega) rfl (Nat.le_of_ble_eq_true rfl) ?_
        refine xr_iinc A dX1_knocks_97 3 rfl (v := (l3 + (1 : Int32))) rfl (Nat.le_of_ble_eq_true rfl) (L' := [(3, vI (l3 + (1 : Int32))), (0, vR (some x)), (1, vI l1), (2, vI l2)]) rfl ?_
        refine xr_goto A (tgt := 54) dX1_knocks_100 (by decide) ?_
        refine X.sub [1, 2, 3, 0] rfl ?_
        exact ih hf
      · replace hf := ab_ip c70 hf
        refine xr_goto A (tgt := 97) dX1_knocks_73 (by decide) ?_
        refine xr_iinc A dX1_knocks_97 3 rfl (v := (l3 + (1 : Int32))) rfl (Nat.le_of_ble_eq_true rfl) (L' := [(3, vI (l3 + (1 : Int32))), (0, vR (some x)), (1, vI l1), (2, vI l2)]) rfl ?_
        refine xr_goto A (tgt := 54) dX1_knocks_100 (by decide) ?_
        refine X.sub [1, 2, 3, 0] rfl ?_
        exact ih hf
noncomputable def fX1_knocks_b32 (x : Nat) (rec : Int32 → Int32 → Hp → Option Hp) (l1 : Int32) (l3 : Int64) (h : Hp) : Option Hp :=
  ab_bd (ab_pJ h x 0 27 l3) fun h1 =>
  ab_bd (ab_gR h1 x 0 23) fun v2 =>
  ab_bd (ab_gR h1 x 0 24) fun v3 =>
  ab_bd v2 fun a4 =>
  ab_bd v3 fun a5 =>
  ab_bd (ab_cpy h1 a4 (0 : Int32) a5 (0 : Int32) l1) fun h6 =>
  some h6
theorem wX1_knocks_b32 {D : Dd} {C : Cx} {h0 h' : Hp} {k : Nat} (A : Act C D (h0, (.inl none), h') yX1_knocks cX1_knocks 5 (none : Option FieldType) (2 + (k + 1)) (49 + (k + 1) * 24) []) {x : Nat} {rec : Int32 → Int32 → Hp → Option Hp} (hrec : ∀ {p1 : Int32} {p2 : Int32} {h0 : Hp} {h' : Hp}, rec p1 p2 h0 = some h' → ab_is h0 x 0 ∧ Ct D (2 + k) (49 + k * 24) yX1_knocks cX1_knocks 5 (none : Option FieldType) [vR (some x), vI p1, vI p2] h0 (.inl none) h') {l1 : Int32} {l3 : Int64} {h : Hp} (hf : fX1_knocks_b32 x rec l1 l3 h = some h') : X C D (h0, (.inl none), h') 5 32 [(0, vR (some x)), (1, vI l1), (3, vL l3)] [] h := by
  unfold fX1_knocks_b32 at hf
  refine xr_aload_n A dX1_knocks_32 0 rfl rfl ?_
  refine xr_lload_n A dX1_knocks_33 2 rfl rfl ?_
  revert hf; refine ab_bdI (fun h1 mh1 hf => ?_)
  refine xr_put A xc_X1 in_X1 tyX1_ok nmX1 27 (Nat.le_of_ble_eq_true rfl) q290 rfl rfl (v := vL l3) rfl rfl mh1 dX1_knocks_34 ?_
  refine xr_aload_n A dX1_knocks_37 0 rfl rfl ?_
  revert hf; refine ab_bdI (fun v2 mv2 hf => ?_)
  refine xr_get A xc_X1 in_X1 23 (Nat.le_of_ble_eq_true rfl) q286 rfl (ab_gRE mv2) dX1_knocks_38 ?_
  refine xr_iconst A (v := 0) dX1_knocks_41 (by decide) ?_
  refine xr_aload_n A dX1_knocks_42 0 rfl rfl ?_
  revert hf; refine ab_bdI (fun v3 mv3 hf => ?_)
  refine xr_get A xc_X1 in_X1 24 (Nat.le_of_ble_eq_true rfl) q287 rfl (ab_gRE mv3) dX1_knocks_43 ?_
  refine xr_iconst A (v := 0) dX1_knocks_46 (by decide) ?_
  refine xr_iload_n A dX1_knocks_47 1 rfl rfl ?_
  revert hf; refine ab_bdI (fun a4 e hf => ?_); subst e
  revert hf; refine ab_bdI (fun a5 e hf => ?_); subst e
  revert hf; refine ab_bdI (fun h6 mh6 hf => ?_)
  refine xr_cpy A q1134 q1120 q1119 q116 mh6 dX1_knocks_48 (by omega) (by have := x_nfw; omega) (Nat.le_of_ble_eq_true rfl) ?_
  exact xr_return A hf dX1_knocks_51
noncomputable def fX1_knocks : Nat → Nat → Int32 → Int32 → Hp → Option Hp
  | 0, _, _, _, _ => none
  | n + 1, x, p1, p2, h =>
  ab_ck h x 0 <|
  if p2 = 0 then (
    ab_bd (ab_gR h x 0 23) fun v1 =>
    ab_b2 (fX1_expected x v1 h) fun v4 h3 =>
    ab_bd (ab_gJ h3 x 0 27) fun v5 =>
    if (lg_cmp v5 (0 : Int64)) < 0 then (
      fX1_knocks_b32 x (fX1_knocks n x) p1 v4 h3)
    else (
      ab_bd (ab_gJ h3 x 0 27) fun v6 =>
      if (lg_cmp v4 v6) < 0 then (
        fX1_knocks_b32 x (fX1_knocks n x) p1 v4 h3)
      else (
        some h3)))
  else (
    fX1_knocks_l54 x (fX1_knocks n x) (hfu h) p1 p2 (0 : Int32) h)
theorem wX1_knocks (D : Dd) : ∀ (n : Nat) {x : Nat} {p1 : Int32} {p2 : Int32} {h : Hp} {h' : Hp}, fX1_knocks n x p1 p2 h = some h' → ab_is h x 0 ∧ Ct D (2 + n) (49 + n * 24) yX1_knocks cX1_knocks 5 (none : Option FieldType) [vR (some x), vI p1, vI p2] h (.inl none) h' := by
  intro n
  induction n with
  | zero => intros; rename_i hf; exact ab_no hf
  | succ n ih =>
    intro x p1 p2 h h' hf
    unfold fX1_knocks at hf
    replace hf := ab_ckE hf; obtain ⟨i0, hf⟩ := hf
    refine ⟨i0, ?_⟩
    refine Ct.of (by decide) (L := [(0, vR (some x)), (1, vI p1), (2, vI p2)]) rfl (Nat.le_of_ble_eq_true rfl) (fun C A => ?_)
    have hrec : ∀ {p1 : Int32} {p2 : Int32} {h0 : Hp} {h' : Hp}, fX1_knocks n x p1 p2 h0 = some h' → ab_is h0 x 0 ∧ Ct D (2 + n) (49 + n * 24) yX1_knocks cX1_knocks 5 (none : Option FieldType) [vR (some x), vI p1, vI p2] h0 (.inl none) h' := fun hf => ih hf
    refine xr_iload_n A dX1_knocks_0 2 rfl rfl ?_
    refine xr_if_ne A (tgt := 52) dX1_knocks_1 (by decide) (fun c1 => ?_) (fun c1 => ?_)
    · replace hf := ab_in c1 hf
      refine xr_iconst A (v := 0) dX1_knocks_52 (by decide) ?_
      refine xr_istore_n A dX1_knocks_53 rfl (Nat.le_of_ble_eq_true rfl) (L' := [(3, vI (0 : Int32)), (0, vR (some x)), (1, vI p1), (2, vI p2)]) rfl ?_
      refine X.sub [1, 2, 3, 0] rfl ?_
      exact wX1_knocks_l54 A @hrec _ hf
    · replace hf := ab_ip c1 hf
      refine xr_aload_n A dX1_knocks_4 0 rfl rfl ?_
      refine xr_aload_n A dX1_knocks_5 0 rfl rfl ?_
      revert hf; refine ab_bdI (fun v1 mv1 hf => ?_)
      refine xr_get A xc_X1 in_X1 23 (Nat.le_of_ble_eq_true rfl) q286 rfl (ab_gRE mv1) dX1_knocks_6 ?_
      revert hf; refine ab_b2I (fun v4 h3 m2 hf => ?_)
      refine xr_V A bX1_expected (wX1_expected D m2).2 xc_X1 (wX1_expected D m2).1 q1207 qs42 q1205 (av := [vR v1]) (rest := []) rfl dX1_knocks_9 (by omega) (by omega) rfl (Nat.le_of_ble_eq_true rfl) ?_
      refine xr_lstore_n A dX1_knocks_12 rfl (Nat.le_of_ble_eq_true rfl) (L' := [(3, vL v4), (0, vR (some x)), (1, vI p1), (2, vI p2)]) rfl ?_
      refine xr_aload_n A dX1_knocks_13 1 rfl rfl ?_
      revert hf; refine ab_bdI (fun v5 mv5 hf => ?_)
      refine xr_get A xc_X1 in_X1 27 (Nat.le_of_ble_eq_true rfl) q290 rfl (ab_gJE mv5) dX1_knocks_14 ?_
      refine xr_lconst A (v := 0) dX1_knocks_17 (by decide) ?_
      refine xr_lcmp A dX1_knocks_18 ?_
      refine xr_if_lt A (tgt := 32) dX1_knocks_19 (by decide) (fun c19 => ?_) (fun c19 => ?_)
      · replace hf := ab_ip c19 hf
        refine X.sub [1, 2, 0] rfl ?_
        exact wX1_knocks_b32 A @hrec hf
      · replace hf := ab_in c19 hf
        refine xr_lload_n A dX1_knocks_22 0 rfl rfl ?_
        refine xr_aload_n A dX1_knocks_23 1 rfl rfl ?_
        revert hf; refine ab_bdI (fun v6 mv6 hf => ?_)
        refine xr_get A xc_X1 in_X1 27 (Nat.le_of_ble_eq_true rfl) q290 rfl (ab_gJE mv6) dX1_knocks_24 ?_
        refine xr_lcmp A dX1_knocks_27 ?_
        refine xr_if_lt A (tgt := 32) dX1_knocks_28 (by decide) (fun c28 => ?_) (fun c28 => ?_)
        · replace hf := ab_ip c28 hf
          refine X.sub [1, 2, 0] rfl ?_
          exact wX1_knocks_b32 A @hrec hf
        · replace hf := ab_in c28 hf
          exact xr_return A hf dX1_knocks_31
/-! X1_knock -/
theorem bX1_knock : MB yX1_knock cX1_knock 2 (some FieldType.long) 0 := ⟨q1195, q92, by decide, by decide +kernel⟩
noncomputable def fX1_knock (x : Nat) (h : Hp) : Option (Int64 × Hp) :=
  ab_ck h x 0 <|
  ab_bd (fX1_anew x h) fun h2 =>
  ab_b2 (fX1_knockWhy x h2) fun v5 h4 =>
  if v5 = 0 then (
    ab_bd (ab_pJ h4 x 0 27 (-1 : Int64)) fun h6 =>
    ab_bd (ab_gR h6 x 0 3) fun v7 =>
    ab_bd v7 fun a8 =>
    ab_bd (ab_gI h6 a8 5 14) fun v9 =>
    ab_bd (fX1_knocks 10 x (0 : Int32) (((1 : Int32) <<< (v9 &&& 31)) - (1 : Int32)) h6) fun h11 =>
    ab_bd (ab_gR h11 x 0 3) fun v12 =>
    ab_bd v12 fun a13 =>
    ab_bd (ab_gI h11 a13 5 14) fun v14 =>
    ab_bd (ab_pI h11 x 0 26 v14) fun h15 =>
    ab_bd (ab_gR h15 x 0 24) fun v16 =>
    ab_bd (ab_gR h15 x 0 25) fun v17 =>
    ab_bd (ab_gI h15 x 0 26) fun v18 =>
    ab_bd v16 fun a19 =>
    ab_bd v17 fun a20 =>
    ab_bd (ab_cpy h15 a19 (0 : Int32) a20 (0 : Int32) v18) fun h21 =>
    ab_bd (ab_gJ h21 x 0 27) fun v22 =>
    some (v22, h21))
  else (
    ab_b2 (fX1_no x v5 h4) fun v25 h24 =>
    some (v25.toInt64, h24))
theorem wX1_knock (D : Dd) {x : Nat} {h : Hp} {r : Int64} {h' : Hp} (hf : fX1_knock x h = some (r, h')) : ab_is h x 0 ∧ Ct D 13 313 yX1_knock cX1_knock 2 (some FieldType.long) [vR (some x)] h (.inl (some (vL r))) h' := by
    unfold fX1_knock at hf
    replace hf := ab_ckE hf; obtain ⟨i0, hf⟩ := hf
    refine ⟨i0, ?_⟩
    refine Ct.of (by decide) (L := [(0, vR (some x))]) rfl (Nat.le_of_ble_eq_true rfl) (fun C A => ?_)
    refine xr_aload_n A dX1_knock_0 0 rfl rfl ?_
    revert hf; refine ab_bdI (fun h2 m1 hf => ?_)
    refine xr_V0 A bX1_anew (wX1_anew D m1).2 xc_X1 (wX1_anew D m1).1 q402 qs2 q400 (av := []) (rest := []) rfl dX1_knock_1 (Nat.le_of_ble_eq_true rfl) (Nat.le_of_ble_eq_true rfl) rfl (Nat.le_of_ble_eq_true rfl) ?_
    refine xr_aload_n A dX1_knock_4 0 rfl rfl ?_
    revert hf; refine ab_b2I (fun v5 h4 m3 hf => ?_)
    refine xr_V A bX1_knockWhy (wX1_knockWhy D m3).2 xc_X1 (wX1_knockWhy D m3).1 q1198 qs40 q1196 (av := []) (rest := []) rfl dX1_knock_5 (Nat.le_of_ble_eq_true rfl) (Nat.le_of_ble_eq_true rfl) rfl (Nat.le_of_ble_eq_true rfl) ?_
    refine xr_istore_n A dX1_knock_8 rfl (Nat.le_of_ble_eq_true rfl) (L' := [(1, vI v5), (0, vR (some x))]) rfl ?_
    refine xr_iload_n A dX1_knock_9 0 rfl rfl ?_
    refine xr_if_eq A (tgt := 20) dX1_knock_10 (by decide) (fun c10 => ?_) (fun c10 => ?_)
    · replace hf := ab_ip c10 hf
      refine xr_aload_n A dX1_knock_20 1 rfl rfl ?_
      refine xr_ldc2 A q1200 dX1_knock_21 ?_
      revert hf; refine ab_bdI (fun h6 mh6 hf => ?_)
      refine xr_put A xc_X1 in_X1 tyX1_ok nmX1 27 (Nat.le_of_ble_eq_true rfl) q290 rfl rfl (v := vL (-1 : Int64)) rfl rfl mh6 dX1_knock_24 ?_
      refine xr_aload_n A dX1_knock_27 1 rfl rfl ?_
      refine xr_iconst A (v := 0) dX1_knock_28 (by decide) ?_
      refine xr_iconst A (v := 1) dX1_knock_29 (by decide) ?_
      refine xr_aload_n A dX1_knock_30 1 rfl rfl ?_
      revert hf; refine ab_bdI (fun v7 mv7 hf => ?_)
      refine xr_get A xc_X1 in_X1 3 (Nat.le_of_ble_eq_true rfl) q266 rfl (ab_gRE mv7) dX1_knock_31 ?_
      revert hf; refine ab_bdI (fun a8 e hf => ?_); subst e
      revert hf; refine ab_bdI (fun v9 mv9 hf => ?_)
      refine xr_get A xc_X6 in_X6 14 (Nat.le_of_ble_eq_true rfl) q477 rfl (ab_gIE mv9) dX1_knock_34 ?_
      refine xr_ishl A dX1_knock_37 ?_
      refine xr_iconst A (v := 1) dX1_knock_38 (by decide) ?_
      refine xr_isub A dX1_knock_39 ?_
      revert hf; refine ab_bdI (fun h11 m10 hf => ?_)
      refine xr_V0 A bX1_knocks (wX1_knocks D 10 m10).2 xc_X1 (wX1_knocks D 10 m10).1 q1203 qs41 q1201 (av := [vI (0 : Int32), vI (((1 : Int32) <<< (v9 &&& 31)) - (1 : Int32))]) (rest := []) rfl dX1_knock_40 (Nat.le_of_ble_eq_true rfl) (Nat.le_of_ble_eq_true rfl) rfl (Nat.le_of_ble_eq_true rfl) ?_
      refine xr_aload_n A dX1_knock_43 1 rfl rfl ?_
      refine xr_aload_n A dX1_knock_44 1 rfl rfl ?_
      revert hf; refine ab_bdI (fun v12 mv12 hf => ?_)
      refine xr_get A xc_X1 in_X1 3 (Nat.le_of_ble_eq_true rfl) q266 rfl (ab_gRE mv12) dX1_knock_45 ?_
      revert hf; refine ab_bdI (fun a13 e hf => ?_); subst e
      revert hf; refine ab_bdI (fun v14 mv14 hf => ?_)
      refine xr_get A xc_X6 in_X6 14 (Nat.le_of_ble_eq_true rfl) q477 rfl (ab_gIE mv14) dX1_knock_48 ?_
      revert hf; refine ab_bdI (fun h15 mh15 hf => ?_)
      refine xr_put A xc_X1 in_X1 tyX1_ok nmX1 26 (Nat.le_of_ble_eq_true rfl) q289 rfl rfl (v := vI v14) rfl rfl mh15 dX1_knock_51 ?_
      refine xr_aload_n A dX1_knock_54 1 rfl rfl ?_
      revert hf; refine ab_bdI (fun v16 mv16 hf => ?_)
      refine xr_get A xc_X1 in_X1 24 (Nat.le_of_ble_eq_true rfl) q287 rfl (ab_gRE mv16) dX1_knock_55 ?_
      refine xr_iconst A (v := 0) dX1_knock_58 (by decide) ?_
      refine xr_aload_n A dX1_knock_59 1 rfl rfl ?_
      revert hf; refine ab_bdI (fun v17 mv17 hf => ?_)
      refine xr_get A xc_X1 in_X1 25 (Nat.le_of_ble_eq_true rfl) q288 rfl (ab_gRE mv17) dX1_knock_60 ?_
      refine xr_iconst A (v := 0) dX1_knock_63 (by decide) ?_
      refine xr_aload_n A dX1_knock_64 1 rfl rfl ?_
      revert hf; refine ab_bdI (fun v18 mv18 hf => ?_)
      refine xr_get A xc_X1 in_X1 26 (Nat.le_of_ble_eq_true rfl) q289 rfl (ab_gIE mv18) dX1_knock_65 ?_
      revert hf; refine ab_bdI (fun a19 e hf => ?_); subst e
      revert hf; refine ab_bdI (fun a20 e hf => ?_); subst e
      revert hf; refine ab_bdI (fun h21 mh21 hf => ?_)
      refine xr_cpy A q1134 q1120 q1119 q116 mh21 dX1_knock_68 (Nat.le_of_ble_eq_true rfl) (Nat.le_of_ble_eq_true rfl) (Nat.le_of_ble_eq_true rfl) ?_
      refine xr_aload_n A dX1_knock_71 1 rfl rfl ?_
      revert hf; refine ab_bdI (fun v22 mv22 hf => ?_)
      refine xr_get A xc_X1 in_X1 27 (Nat.le_of_ble_eq_true rfl) q290 rfl (ab_gJE mv22) dX1_knock_72 ?_
      exact xr_lreturn A hf dX1_knock_75
    · replace hf := ab_in c10 hf
      refine xr_aload_n A dX1_knock_13 1 rfl rfl ?_
      refine xr_iload_n A dX1_knock_14 0 rfl rfl ?_
      revert hf; refine ab_b2I (fun v25 h24 m23 hf => ?_)
      refine xr_V A bX1_no (wX1_no D m23).2 xc_X1 (wX1_no D m23).1 q409 qs3 q407 (av := [vI v5]) (rest := []) rfl dX1_knock_15 (Nat.le_of_ble_eq_true rfl) (Nat.le_of_ble_eq_true rfl) rfl (Nat.le_of_ble_eq_true rfl) ?_
      refine xr_i2l A dX1_knock_18 ?_
      exact xr_lreturn A hf dX1_knock_19
/-! X1_callAt -/
theorem bX1_callAt : MB yX1_callAt cX1_callAt 2 (some FieldType.int) 1 := ⟨q1213, q92, by decide, by decide +kernel⟩
noncomputable def fX1_callAt (x : Nat) (p1 : Int32) (h : Hp) : Option (Int32 × Hp) :=
  ab_ck h x 0 <|
  ab_bd (ab_gI h x 0 26) fun v1 =>
  ab_b2 (fX1_in p1 (0 : Int32) (v1 - (1 : Int32)) h) fun v4 h3 =>
  if v4 = 0 then (
    some ((-1 : Int32), h3))
  else (
    ab_bd (ab_gR h3 x 0 25) fun v5 =>
    ab_bd v5 fun a6 =>
    ab_bd (ab_aI h3 a6 0 p1) fun v7 =>
    some (v7, h3))
theorem wX1_callAt (D : Dd) {x : Nat} {p1 : Int32} {h : Hp} {r : Int32} {h' : Hp} (hf : fX1_callAt x p1 h = some (r, h')) : ab_is h x 0 ∧ Ct D 2 42 yX1_callAt cX1_callAt 2 (some FieldType.int) [vR (some x), vI p1] h (.inl (some (vI r))) h' := by
    unfold fX1_callAt at hf
    replace hf := ab_ckE hf; obtain ⟨i0, hf⟩ := hf
    refine ⟨i0, ?_⟩
    refine Ct.of (by decide) (L := [(0, vR (some x)), (1, vI p1)]) rfl (Nat.le_of_ble_eq_true rfl) (fun C A => ?_)
    refine xr_iload_n A dX1_callAt_0 1 rfl rfl ?_
    refine xr_iconst A (v := 0) dX1_callAt_1 (by decide) ?_
    refine xr_aload_n A dX1_callAt_2 0 rfl rfl ?_
    revert hf; refine ab_bdI (fun v1 mv1 hf => ?_)
    refine xr_get A xc_X1 in_X1 26 (Nat.le_of_ble_eq_true rfl) q289 rfl (ab_gIE mv1) dX1_callAt_3 ?_
    refine xr_iconst A (v := 1) dX1_callAt_6 (by decide) ?_
    refine xr_isub A dX1_callAt_7 ?_
    revert hf; refine ab_b2I (fun v4 h3 m2 hf => ?_)
    refine xr_S A bX1_in (wX1_in D m2) q405 q404 (av := [vI p1, vI (0 : Int32), vI (v1 - (1 : Int32))]) (rest := []) rfl dX1_callAt_8 (Nat.le_of_ble_eq_true rfl) (Nat.le_of_ble_eq_true rfl) rfl (Nat.le_of_ble_eq_true rfl) ?_
    refine xr_if_eq A (tgt := 23) dX1_callAt_11 (by decide) (fun c11 => ?_) (fun c11 => ?_)
    · replace hf := ab_ip c11 hf
      refine xr_iconst A (v := (-1)) dX1_callAt_23 (by decide) ?_
      exact xr_ireturn A rfl hf dX1_callAt_24
    · replace hf := ab_in c11 hf
      refine xr_aload_n A dX1_callAt_14 0 rfl rfl ?_
      revert hf; refine ab_bdI (fun v5 mv5 hf => ?_)
      refine xr_get A xc_X1 in_X1 25 (Nat.le_of_ble_eq_true rfl) q288 rfl (ab_gRE mv5) dX1_callAt_15 ?_
      refine xr_iload_n A dX1_callAt_18 1 rfl rfl ?_
      revert hf; refine ab_bdI (fun a6 e hf => ?_); subst e
      revert hf; refine ab_bdI (fun v7 mv7 hf => ?_)
      refine xr_iaload A mv7 dX1_callAt_19 ?_
      refine xr_goto A (tgt := 24) dX1_callAt_20 (by decide) ?_
      exact xr_ireturn A rfl hf dX1_callAt_24
/-! X1_asTold -/
theorem bX1_asTold : MB yX1_asTold cX1_asTold 3 (some FieldType.long) 0 := ⟨q1217, q92, by decide, by decide +kernel⟩
noncomputable def fX1_asTold_l22 (x : Nat) : Nat → Int32 → Hp → Option (Int64 × Hp)
  | 0, _, _ => none
  | n + 1, l2, h =>
  ab_bd (ab_gR h x 0 3) fun v1 =>
  ab_bd v1 fun a2 =>
  ab_bd (ab_gI h a2 5 14) fun v3 =>
  if v3 ≤ l2 then (
    ab_bd (ab_gR h x 0 23) fun v4 =>
    ab_b2 (fX1_expected x v4 h) fun v7 h6 =>
    some (v7, h6))
  else (
    ab_bd (ab_gR h x 0 23) fun v8 =>
    ab_bd v8 fun a9 =>
    ab_bd (ab_sI h a9 l2 l2) fun h10 =>
    fX1_asTold_l22 x n (l2 + (1 : Int32)) h10)
theorem wX1_asTold_l22 {D : Dd} {C : Cx} {h0 h' : Hp} {r : Int64} (A : Act C D (h0, (.inl (some (vL r))), h') yX1_asTold cX1_asTold 3 (some FieldType.long) 2 49 []) {x : Nat} : ∀ (n : Nat) {l2 : Int32} {h : Hp}, fX1_asTold_l22 x n l2 h = some (r, h') → X C D (h0, (.inl (some (vL r))), h') 3 22 [(0, vR (some x)), (2, vI l2)] [] h := by
  intro n
  induction n with
  | zero => intro l2 h hf; exact ab_no hf
  | succ n ih =>
    intro l2 h hf
    unfold fX1_asTold_l22 at hf
    refine xr_iload_n A dX1_asTold_22 1 rfl rfl ?_
    refine xr_aload_n A dX1_asTold_23 0 rfl rfl ?_
    revert hf; refine ab_bdI (fun v1 mv1 hf => ?_)
    refine xr_get A xc_X1 in_X1 3 (Nat.le_of_ble_eq_true rfl) q266 rfl (ab_gRE mv1) dX1_asTold_24 ?_
    revert hf; refine ab_bdI (fun a2 e hf => ?_); subst e
    revert hf; refine ab_bdI (fun v3 mv3 hf => ?_)
    refine xr_get A xc_X6 in_X6 14 (Nat.le_of_ble_eq_true rfl) q477 rfl (ab_gIE mv3) dX1_asTold_27 ?_
    refine xr_icmp_ge A (tgt := 46) dX1_asTold_30 (by decide) (fun c30 => ?_) (fun c30 => ?_)
    · replace hf := ab_ip c30 hf
      refine xr_aload_n A dX1_asTold_46 0 rfl rfl ?_
      refine xr_aload_n A dX1_asTold_47 0 rfl rfl ?_
      revert hf; refine ab_bdI (fun v4 mv4 hf => ?_)
      refine xr_get A xc_X1 in_X1 23 (Nat.le_of_ble_eq_true rfl) q286 rfl (ab_gRE mv4) dX1_asTold_48 ?_
      revert hf; refine ab_b2I (fun v7 h6 m5 hf => ?_)
      refine xr_V A bX1_expected (wX1_expected D m5).2 xc_X1 (wX1_expected D m5).1 q1207 qs42 q1205 (av := [vR v4]) (rest := []) rfl dX1_asTold_51 (Nat.le_of_ble_eq_true rfl) (Nat.le_of_ble_eq_true rfl) rfl (Nat.le_of_ble_eq_true rfl) ?_
      exact xr_lreturn A hf dX1_asTold_54
    · replace hf := ab_in c30 hf
      refine xr_aload_n A dX1_asTold_33 0 rfl rfl ?_
      revert hf; refine ab_bdI (fun v8 mv8 hf => ?_)
      refine xr_get A xc_X1 in_X1 23 (Nat.le_of_ble_eq_true rfl) q286 rfl (ab_gRE mv8) dX1_asTold_34 ?_
      refine xr_iload_n A dX1_asTold_37 1 rfl rfl ?_
      refine xr_iload_n A dX1_asTold_38 1 rfl rfl ?_
      revert hf; refine ab_bdI (fun a9 e hf => ?_); subst e
      revert hf; refine ab_bdI (fun h10 mh10 hf => ?_)
      refine xr_iastore A mh10 dX1_asTold_39 ?_
      refine xr_iinc A dX1_asTold_40 1 rfl (v := (l2 + (1 : Int32))) rfl (Nat.le_of_ble_eq_true rfl) (L' := [(2, vI (l2 + (1 : Int32))), (0, vR (some x))]) rfl ?_
      refine xr_goto A (tgt := 22) dX1_asTold_43 (by decide) ?_
      refine X.sub [1, 0] rfl ?_
      exact ih hf
noncomputable def fX1_asTold (x : Nat) (h : Hp) : Option (Int64 × Hp) :=
  ab_ck h x 0 <|
  ab_bd (fX1_anew x h) fun h2 =>
  ab_b2 (fX1_knockWhy x h2) fun v5 h4 =>
  if v5 = 0 then (
    fX1_asTold_l22 x (hfu h4) (0 : Int32) h4)
  else (
    ab_b2 (fX1_no x v5 h4) fun v8 h7 =>
    some (v8.toInt64, h7))
theorem wX1_asTold (D : Dd) {x : Nat} {h : Hp} {r : Int64} {h' : Hp} (hf : fX1_asTold x h = some (r, h')) : ab_is h x 0 ∧ Ct D 2 49 yX1_asTold cX1_asTold 3 (some FieldType.long) [vR (some x)] h (.inl (some (vL r))) h' := by
    unfold fX1_asTold at hf
    replace hf := ab_ckE hf; obtain ⟨i0, hf⟩ := hf
    refine ⟨i0, ?_⟩
    refine Ct.of (by decide) (L := [(0, vR (some x))]) rfl (Nat.le_of_ble_eq_true rfl) (fun C A => ?_)
    refine xr_aload_n A dX1_asTold_0 0 rfl rfl ?_
    revert hf; refine ab_bdI (fun h2 m1 hf => ?_)
    refine xr_V0 A bX1_anew (wX1_anew D m1).2 xc_X1 (wX1_anew D m1).1 q402 qs2 q400 (av := []) (rest := []) rfl dX1_asTold_1 (Nat.le_of_ble_eq_true rfl) (Nat.le_of_ble_eq_true rfl) rfl (Nat.le_of_ble_eq_true rfl) ?_
    refine xr_aload_n A dX1_asTold_4 0 rfl rfl ?_
    revert hf; refine ab_b2I (fun v5 h4 m3 hf => ?_)
    refine xr_V A bX1_knockWhy (wX1_knockWhy D m3).2 xc_X1 (wX1_knockWhy D m3).1 q1198 qs40 q1196 (av := []) (rest := []) rfl dX1_asTold_5 (Nat.le_of_ble_eq_true rfl) (Nat.le_of_ble_eq_true rfl) rfl (Nat.le_of_ble_eq_true rfl) ?_
    refine xr_istore_n A dX1_asTold_8 rfl (Nat.le_of_ble_eq_true rfl) (L' := [(1, vI v5), (0, vR (some x))]) rfl ?_
    refine xr_iload_n A dX1_asTold_9 0 rfl rfl ?_
    refine xr_if_eq A (tgt := 20) dX1_asTold_10 (by decide) (fun c10 => ?_) (fun c10 => ?_)
    · replace hf := ab_ip c10 hf
      refine xr_iconst A (v := 0) dX1_asTold_20 (by decide) ?_
      refine xr_istore_n A dX1_asTold_21 rfl (Nat.le_of_ble_eq_true rfl) (L' := [(2, vI (0 : Int32)), (1, vI v5), (0, vR (some x))]) rfl ?_
      refine X.sub [2, 0] rfl ?_
      exact wX1_asTold_l22 A _ hf
    · replace hf := ab_in c10 hf
      refine xr_aload_n A dX1_asTold_13 1 rfl rfl ?_
      refine xr_iload_n A dX1_asTold_14 0 rfl rfl ?_
      revert hf; refine ab_b2I (fun v8 h7 m6 hf => ?_)
      refine xr_V A bX1_no (wX1_no D m6).2 xc_X1 (wX1_no D m6).1 q409 qs3 q407 (av := [vI v5]) (rest := []) rfl dX1_asTold_15 (Nat.le_of_ble_eq_true rfl) (Nat.le_of_ble_eq_true rfl) rfl (Nat.le_of_ble_eq_true rfl) ?_
      refine xr_i2l A dX1_asTold_18 ?_
      exact xr_lreturn A hf dX1_asTold_19
/-! X1_fills -/
theorem bX1_fills : MB yX1_fills cX1_fills 5 (none : Option FieldType) 2 := ⟨q1225, q92, by decide, by decide +kernel⟩
noncomputable def fX1_fills_l94 (x : Nat) (rec : Int32 → Int32 → Hp → Option Hp) : Nat → Int32 → Int32 → Int32 → Hp → Option Hp
  | 0, _, _, _, _ => none
  | n + 1, l1, l2, l3, h =>
  ab_bd (ab_gR h x 0 3) fun v1 =>
  ab_bd v1 fun a2 =>
  ab_bd (ab_gI h a2 5 15) fun v3 =>
  if v3 ≤ l3 then (
    ab_bd (ab_gR h x 0 28) fun v4 =>
    ab_bd v4 fun a5 =>
    ab_bd (ab_sI h a5 l1 (-2 : Int32)) fun h6 =>
    ab_bd (rec (l1 + (1 : Int32)) l2 h6) fun h8 =>
    some h8)
  else (
    ab_bd (ab_gR h x 0 3) fun v9 =>
    ab_bd v9 fun a10 =>
    ab_bd (ab_gR h a10 5 6) fun v11 =>
    ab_bd v11 fun a12 =>
    ab_bd (ab_aR h a12 12 l3) fun v13 =>
    ab_bd v13 fun a14 =>
    ab_bd (ab_gI h a14 12 2) fun v15 =>
    ab_b2 (fX1_lies v15 l1 h) fun v18 h17 =>
    if v18 = 0 then (
      fX1_fills_l94 x rec n l1 l2 (l3 + (1 : Int32)) h17)
    else (
      ab_bd (ab_gR h17 x 0 31) fun v19 =>
      ab_bd v19 fun a20 =>
      ab_bd (ab_aI h17 a20 0 l3) fun v21 =>
      ab_bd (ab_gR h17 x 0 3) fun v22 =>
      ab_bd v22 fun a23 =>
      ab_bd (ab_gR h17 a23 5 6) fun v24 =>
      ab_bd v24 fun a25 =>
      ab_bd (ab_aR h17 a25 12 l3) fun v26 =>
      ab_bd v26 fun a27 =>
      ab_bd (ab_gI h17 a27 12 3) fun v28 =>
      if v21 = v28 then (
        fX1_fills_l94 x rec n l1 l2 (l3 + (1 : Int32)) h17)
      else (
        ab_bd (ab_gR h17 x 0 28) fun v29 =>
        ab_bd v29 fun a30 =>
        ab_bd (ab_sI h17 a30 l1 l3) fun h31 =>
        ab_bd (ab_gR h31 x 0 31) fun v32 =>
        ab_bd v32 fun a33 =>
        ab_bd (ab_aI h31 a33 0 l3) fun v34 =>
        ab_bd (ab_sI h31 a33 l3 (v34 + (1 : Int32))) fun h35 =>
        ab_bd (rec (l1 + (1 : Int32)) (l2 + (1 : Int32)) h35) fun h37 =>
        ab_bd (ab_gR h37 x 0 31) fun v38 =>
        ab_bd v38 fun a39 =>
        ab_bd (ab_aI h37 a39 0 l3) fun v40 =>
        ab_bd (ab_sI h37 a39 l3 (v40 - (1 : Int32))) fun h41 =>
        fX1_fills_l94 x rec n l1 l2 (l3 + (1 : Int32)) h41)))
theorem wX1_fills_l94 {D : Dd} {C : Cx} {h0 h' : Hp} {k : Nat} (A : Act C D (h0, (.inl none), h') yX1_fills cX1_fills 5 (none : Option FieldType) (2 + (k + 1)) (41 + (k + 1) * 24) []) {x : Nat} {rec : Int32 → Int32 → Hp → Option Hp} (hrec : ∀ {p1 : Int32} {p2 : Int32} {h0 : Hp} {h' : Hp}, rec p1 p2 h0 = some h' → ab_is h0 x 0 ∧ Ct D (2 + k) (41 + k * 24) yX1_fills cX1_fills 5 (none : Option FieldType) [vR (some x), vI p1, vI p2] h0 (.inl none) h') : ∀ (n : Nat) {l1 : Int32} {l2 : Int32} {l3 : Int32} {h : Hp}, fX1_fills_l94 x rec n l1 l2 l3 h = some h' → X C D (h0, (.inl none), h') 5 94 [(0, vR (some x)), (1, vI l1), (2, vI l2), (3, vI l3)] [] h := by
  intro n
  induction n with
  | zero => intro l1 l2 l3 h hf; exact ab_no hf
  | succ n ih =>
    intro l1 l2 l3 h hf
    unfold fX1_fills_l94 at hf
    refine xr_iload_n A dX1_fills_94 3 rfl rfl ?_
    refine xr_aload_n A dX1_fills_95 0 rfl rfl ?_
    revert hf; refine ab_bdI (fun v1 mv1 hf => ?_)
    refine xr_get A xc_X1 in_X1 3 (Nat.le_of_ble_eq_true rfl) q266 rfl (ab_gRE mv1) dX1_fills_96 ?_
    revert hf; refine ab_bdI (fun a2 e hf => ?_); subst e
    revert hf; refine ab_bdI (fun v3 mv3 hf => ?_)
    refine xr_get A xc_X6 in_X6 15 (Nat.le_of_ble_eq_true rfl) q480 rfl (ab_gIE mv3) dX1_fills_99 ?_
    refine xr_icmp_ge A (tgt := 191) dX1_fills_102 (by decide) (fun c102 => ?_) (fun c102 => ?_)
    · replace hf := ab_ip c102 hf
      refine xr_aload_n A dX1_fills_191 0 rfl rfl ?_
      revert hf; refine ab_bdI (fun v4 mv4 hf => ?_)
      refine xr_get A xc_X1 in_X1 28 (Nat.le_of_ble_eq_true rfl) q291 rfl (ab_gRE mv4) dX1_fills_192 ?_
      refine xr_iload_n A dX1_fills_195 1 rfl rfl ?_
      refine xr_bipush A (v := (-2)) dX1_fills_196 (by decide) ?_
      revert hf; refine ab_bdI (fun a5 e hf => ?_); subst e
      revert hf; refine ab_bdI (fun h6 mh6 hf => ?_)
      refine xr_iastore A mh6 dX1_fills_198 ?_
      refine xr_aload_n A dX1_fills_199 0 rfl rfl ?_
      refine xr_iload_n A dX1_fills_200 1 rfl rfl ?_
      refine xr_iconst A (v := 1) dX1_fills_201 (by decide) ?_
      refine xr_iadd A dX1_fills_202 ?_
      refine xr_iload_n A dX1_fills_203 2 rfl rfl ?_
      revert hf; refine ab_bdI (fun h8 m7 hf => ?_)
      refine xr_V0 A bX1_fills (hrec m7).2 xc_X1 (hrec m7).1 q1224 qs43 q1222 (av := [vI (l1 + (1 : Int32)), vI l2]) (rest := []) rfl dX1_fills_204 (by omega) (by omega) rfl (Nat.le_of_ble_eq_true rfl) ?_
      exact xr_return A hf dX1_fills_207
    · replace hf := ab_in c102 hf
      refine xr_aload_n A dX1_fills_105 0 rfl rfl ?_
      revert hf; refine ab_bdI (fun v9 mv9 hf => ?_)
      refine xr_get A xc_X1 in_X1 3 (Nat.le_of_ble_eq_true rfl) q266 rfl (ab_gRE mv9) dX1_fills_106 ?_
      revert hf; refine ab_bdI (fun a10 e hf => ?_); subst e
      revert hf; refine ab_bdI (fun v11 mv11 hf => ?_)
      refine xr_get A xc_X6 in_X6 6 (Nat.le_of_ble_eq_true rfl) q455 rfl (ab_gRE mv11) dX1_fills_109 ?_
      refine xr_iload_n A dX1_fills_112 3 rfl rfl ?_
      revert hf; refine ab_bdI (fun a12 e hf => ?_); subst e
      revert hf; refine ab_bdI (fun v13 mv13 hf => ?_)
      refine xr_aaload A (t := 12) rfl mv13 dX1_fills_113 ?_
      revert hf; refine ab_bdI (fun a14 e hf => ?_); subst e
      revert hf; refine ab_bdI (fun v15 mv15 hf => ?_)
      refine xr_get A xc_X14 in_X14 2 (Nat.le_of_ble_eq_true rfl) q974 rfl (ab_gIE mv15) dX1_fills_114 ?_
      refine xr_iload_n A dX1_fills_117 1 rfl rfl ?_
      revert hf; refine ab_b2I (fun v18 h17 m16 hf => ?_)
      refine xr_S A bX1_lies (wX1_lies D m16) q986 q1121 (av := [vI v15, vI l1]) (rest := []) rfl dX1_fills_118 (by omega) (by omega) rfl (Nat.le_of_ble_eq_true rfl) ?_
      refine xr_if_eq A (tgt := 185) dX1_fills_121 (by decide) (fun c121 => ?_) (fun c121 => ?_)
      · replace hf := ab_ip c121 hf
        refine xr_iinc A dX1_fills_185 3 rfl (v := (l3 + (1 : Int32))) rfl (Nat.le_of_ble_eq_true rfl) (L' := [(3, vI (l3 + (1 : Int32))), (0, vR (some x)), (1, vI l1), (2, vI l2)]) rfl ?_
        refine xr_goto A (tgt := 94) dX1_fills_188 (by decide) ?_
        refine X.sub [1, 2, 3, 0] rfl ?_
        exact ih hf
      · replace hf := ab_in c121 hf
        refine xr_aload_n A dX1_fills_124 0 rfl rfl ?_
        revert hf; refine ab_bdI (fun v19 mv19 hf => ?_)
        refine xr_get A xc_X1 in_X1 31 (Nat.le_of_ble_eq_true rfl) q294 rfl (ab_gRE mv19) dX1_fills_125 ?_
        refine xr_iload_n A dX1_fills_128 3 rfl rfl ?_
        revert hf; refine ab_bdI (fun a20 e hf => ?_); subst e
        revert hf; refine ab_bdI (fun v21 mv21 hf => ?_)
        refine xr_iaload A mv21 dX1_fills_129 ?_
        refine xr_aload_n A dX1_fills_130 0 rfl rfl ?_
        revert hf; refine ab_bdI (fun v22 mv22 hf => ?_)
        refine xr_get A xc_X1 in_X1 3 (Nat.le_of_ble_eq_true rfl) q266 rfl (ab_gRE mv22) dX1_fills_131 ?_
        revert hf; refine ab_bdI (fun a23 e hf => ?_); subst e
        revert hf; refine ab_bdI (fun v24 mv24 hf => ?_)
        refine xr_get A xc_X6 in_X6 6 (Nat.le_of_ble_eq_true rfl) q455 rfl (ab_gRE mv24) dX1_fills_134 ?_
        refine xr_iload_n A dX1_fills_137 3 rfl rfl ?_
        revert hf; refine ab_bdI (fun a25 e hf => ?_); subst e
        revert hf; refine ab_bdI (fun v26 mv26 hf => ?_)
        refine xr_aaload A (t := 12) rfl mv26 dX1_fills_138 ?_
        revert hf; refine ab_bdI (fun a27 e hf => ?_); subst e
        revert hf; refine ab_bdI (fun v28 mv28 hf => ?_)
        refine xr_get A xc_X14 in_X14 3 (Nat.le_of_ble_eq_true rfl) q976 rfl (ab_gIE mv28) dX1_fills_139 ?_
        refine xr_icmp_ne A (tgt := 148) dX1_fills_142 (by decide) (fun c142 => ?_) (fun c142 => ?_)
        · replace hf := ab_in c142 hf
          refine xr_aload_n A dX1_fills_148 0 rfl rfl ?_
          revert hf; refine ab_bdI (fun v29 mv29 hf => ?_)
          refine xr_get A xc_X1 in_X1 28 (Nat.le_of_ble_eq_true rfl) q291 rfl (ab_gRE mv29) dX1_fills_149 ?_
          refine xr_iload_n A dX1_fills_152 1 rfl rfl ?_
          refine xr_iload_n A dX1_fills_153 3 rfl rfl ?_
          revert hf; refine ab_bdI (fun a30 e hf => ?_); subst e
          revert hf; refine ab_bdI (fun h31 mh31 hf => ?_)
          refine xr_iastore A mh31 dX1_fills_154 ?_
          refine xr_aload_n A dX1_fills_155 0 rfl rfl ?_
          revert hf; refine ab_bdI (fun v32 mv32 hf => ?_)
          refine xr_get A xc_X1 in_X1 31 (Nat.le_of_ble_eq_true rfl) q294 rfl (ab_gRE mv32) dX1_fills_156 ?_
          refine xr_iload_n A dX1_fills_159 3 rfl rfl ?_
          refine xr_dup2 A dX1_fills_160 rfl rfl ?_
          revert hf; refine ab_bdI (fun a33 e hf => ?_); subst e
          revert hf; refine ab_bdI (fun v34 mv34 hf => ?_)
          refine xr_iaload A mv34 dX1_fills_161 ?_
          refine xr_iconst A (v := 1) dX1_fills_162 (by decide) ?_
          refine xr_iadd A dX1_fills_163 ?_
          revert hf; refine ab_bdI (fun h35 mh35 hf => ?_)
          refine xr_iastore A mh35 dX1_fills_164 ?_
          refine xr_aload_n A dX1_fills_165 0 rfl rfl ?_
          refine xr_iload_n A dX1_fills_166 1 rfl rfl ?_
          refine xr_iconst A (v := 1) dX1_fills_167 (by decide) ?_
          refine xr_iadd A dX1_fills_168 ?_
          refine xr_iload_n A dX1_fills_169 2 rfl rfl ?_
          refine xr_iconst A (v := 1) dX1_fills_170 (by decide) ?_
          refine xr_iadd A dX1_fills_171 ?_
          revert hf; refine ab_bdI (fun h37 m36 hf => ?_)
          refine xr_V0 A bX1_fills (hrec m36).2 xc_X1 (hrec m36).1 q1224 qs43 q1222 (av := [vI (l1 + (1 : Int32)), vI (l2 + (1 : Int32))]) (rest := []) rfl dX1_fills_172 (by omega) (by omega) rfl (Nat.le_of_ble_eq_true rfl) ?_
          refine xr_aload_n A dX1_fills_175 0 rfl rfl ?_
          revert hf; refine ab_bdI (fun v38 mv38 hf => ?_)
          refine xr_get A xc_X1 in_X1 31 (Nat.le_of_ble_eq_true rfl) q294 rfl (ab_gRE mv38) dX1_fills_176 ?_
          refine xr_iload_n A dX1_fills_179 3 rfl rfl ?_
          refine xr_dup2 A dX1_fills_180 rfl rfl ?_
          revert hf; refine ab_bdI (fun a39 e hf => ?_); subst e
          revert hf; refine ab_bdI (fun v40 mv40 hf => ?_)
          refine xr_iaload A mv40 dX1_fills_181 ?_
          refine xr_iconst A (v := 1) dX1_fills_182 (by decide) ?_
          refine xr_isub A dX1_fills_183 ?_
          revert hf; refine ab_bdI (fun h41 mh41 hf => ?_)
          refine xr_iastore A mh41 dX1_fills_184 ?_
          refine xr_iinc A dX1_fills_185 3 rfl (v := (l3 + (1 : Int32))) rfl (Nat.le_of_ble_eq_true rfl) (L' := [(3, vI (l3 + (1 : Int32))), (0, vR (some x)), (1, vI l1), (2, vI l2)]) rfl ?_
          refine xr_goto A (tgt := 94) dX1_fills_188 (by decide) ?_
          refine X.sub [1, 2, 3, 0] rfl ?_
          exact ih hf
        · replace hf := ab_ip c142 hf
          refine xr_goto A (tgt := 185) dX1_fills_145 (by decide) ?_
          refine xr_iinc A dX1_fills_185 3 rfl (v := (l3 + (1 : Int32))) rfl (Nat.le_of_ble_eq_true rfl) (L' := [(3, vI (l3 + (1 : Int32))), (0, vR (some x)), (1, vI l1), (2, vI l2)]) rfl ?_
          refine xr_goto A (tgt := 94) dX1_fills_188 (by decide) ?_
          refine X.sub [1, 2, 3, 0] rfl ?_
          exact ih hf
noncomputable def fX1_fills_b66 (x : Nat) (rec : Int32 → Int32 → Hp → Option Hp) (l2 : Int32) (l3 : Int32) (h : Hp) : Option Hp :=
  ab_bd (ab_pI h x 0 33 l2) fun h1 =>
  ab_bd (ab_pI h1 x 0 34 l3) fun h2 =>
  ab_bd (ab_gR h2 x 0 28) fun v3 =>
  ab_bd (ab_gR h2 x 0 29) fun v4 =>
  ab_bd v3 fun a5 =>
  ab_bd v4 fun a6 =>
  ab_bd (ab_cpy h2 a5 (0 : Int32) a6 (0 : Int32) (7 : Int32)) fun h7 =>
  some h7
theorem wX1_fills_b66 {D : Dd} {C : Cx} {h0 h' : Hp} {k : Nat} (A : Act C D (h0, (.inl none), h') yX1_fills cX1_fills 5 (none : Option FieldType) (2 + (k + 1)) (41 + (k + 1) * 24) []) {x : Nat} {rec : Int32 → Int32 → Hp → Option Hp} (hrec : ∀ {p1 : Int32} {p2 : Int32} {h0 : Hp} {h' : Hp}, rec p1 p2 h0 = some h' → ab_is h0 x 0 ∧ Ct D (2 + k) (41 + k * 24) yX1_fills cX1_fills 5 (none : Option FieldType) [vR (some x), vI p1, vI p2] h0 (.inl none) h') {l2 : Int32} {l3 : Int32} {h : Hp} (hf : fX1_fills_b66 x rec l2 l3 h = some h') : X C D (h0, (.inl none), h') 5 66 [(0, vR (some x)), (2, vI l2), (3, vI l3)] [] h := by
  unfold fX1_fills_b66 at hf
  refine xr_aload_n A dX1_fills_66 0 rfl rfl ?_
  refine xr_iload_n A dX1_fills_67 1 rfl rfl ?_
  revert hf; refine ab_bdI (fun h1 mh1 hf => ?_)
  refine xr_put A xc_X1 in_X1 tyX1_ok nmX1 33 (Nat.le_of_ble_eq_true rfl) q296 rfl rfl (v := vI l2) rfl rfl mh1 dX1_fills_68 ?_
  refine xr_aload_n A dX1_fills_71 0 rfl rfl ?_
  refine xr_iload_n A dX1_fills_72 2 rfl rfl ?_
  revert hf; refine ab_bdI (fun h2 mh2 hf => ?_)
  refine xr_put A xc_X1 in_X1 tyX1_ok nmX1 34 (Nat.le_of_ble_eq_true rfl) q297 rfl rfl (v := vI l3) rfl rfl mh2 dX1_fills_73 ?_
  refine xr_aload_n A dX1_fills_76 0 rfl rfl ?_
  revert hf; refine ab_bdI (fun v3 mv3 hf => ?_)
  refine xr_get A xc_X1 in_X1 28 (Nat.le_of_ble_eq_true rfl) q291 rfl (ab_gRE mv3) dX1_fills_77 ?_
  refine xr_iconst A (v := 0) dX1_fills_80 (by decide) ?_
  refine xr_aload_n A dX1_fills_81 0 rfl rfl ?_
  revert hf; refine ab_bdI (fun v4 mv4 hf => ?_)
  refine xr_get A xc_X1 in_X1 29 (Nat.le_of_ble_eq_true rfl) q292 rfl (ab_gRE mv4) dX1_fills_82 ?_
  refine xr_iconst A (v := 0) dX1_fills_85 (by decide) ?_
  refine xr_bipush A (v := 7) dX1_fills_86 (by decide) ?_
  revert hf; refine ab_bdI (fun a5 e hf => ?_); subst e
  revert hf; refine ab_bdI (fun a6 e hf => ?_); subst e
  revert hf; refine ab_bdI (fun h7 mh7 hf => ?_)
  refine xr_cpy A q1134 q1120 q1119 q116 mh7 dX1_fills_88 (by omega) (by have := x_nfw; omega) (Nat.le_of_ble_eq_true rfl) ?_
  exact xr_return A hf dX1_fills_91
noncomputable def fX1_fills_l11 (x : Nat) (rec : Int32 → Int32 → Hp → Option Hp) : Nat → Int32 → Int32 → Int32 → Hp → Option Hp
  | 0, _, _, _, _ => none
  | n + 1, l2, l3, l4, h =>
  ab_bd (ab_gR h x 0 3) fun v1 =>
  ab_bd v1 fun a2 =>
  ab_bd (ab_gI h a2 5 15) fun v3 =>
  if v3 ≤ l4 then (
    ab_bd (ab_gI h x 0 33) fun v4 =>
    if l2 < v4 then (
      some h)
    else (
      ab_bd (ab_gI h x 0 33) fun v5 =>
      if l2 = v5 then (
        ab_bd (ab_gI h x 0 34) fun v6 =>
        if l3 < v6 then (
          fX1_fills_b66 x rec l2 l3 h)
        else (
          some h))
      else (
        fX1_fills_b66 x rec l2 l3 h)))
  else (
    ab_bd (ab_gR h x 0 31) fun v7 =>
    ab_bd v7 fun a8 =>
    ab_bd (ab_aI h a8 0 l4) fun v9 =>
    fX1_fills_l11 x rec n l2 (ab_max l3 v9) (l4 + (1 : Int32)) h)
theorem wX1_fills_l11 {D : Dd} {C : Cx} {h0 h' : Hp} {k : Nat} (A : Act C D (h0, (.inl none), h') yX1_fills cX1_fills 5 (none : Option FieldType) (2 + (k + 1)) (41 + (k + 1) * 24) []) {x : Nat} {rec : Int32 → Int32 → Hp → Option Hp} (hrec : ∀ {p1 : Int32} {p2 : Int32} {h0 : Hp} {h' : Hp}, rec p1 p2 h0 = some h' → ab_is h0 x 0 ∧ Ct D (2 + k) (41 + k * 24) yX1_fills cX1_fills 5 (none : Option FieldType) [vR (some x), vI p1, vI p2] h0 (.inl none) h') : ∀ (n : Nat) {l2 : Int32} {l3 : Int32} {l4 : Int32} {h : Hp}, fX1_fills_l11 x rec n l2 l3 l4 h = some h' → X C D (h0, (.inl none), h') 5 11 [(0, vR (some x)), (2, vI l2), (3, vI l3), (4, vI l4)] [] h := by
  intro n
  induction n with
  | zero => intro l2 l3 l4 h hf; exact ab_no hf
  | succ n ih =>
    intro l2 l3 l4 h hf
    unfold fX1_fills_l11 at hf
    refine xr_iload A dX1_fills_11 3 rfl ?_
    refine xr_aload_n A dX1_fills_13 0 rfl rfl ?_
    revert hf; refine ab_bdI (fun v1 mv1 hf => ?_)
    refine xr_get A xc_X1 in_X1 3 (Nat.le_of_ble_eq_true rfl) q266 rfl (ab_gRE mv1) dX1_fills_14 ?_
    revert hf; refine ab_bdI (fun a2 e hf => ?_); subst e
    revert hf; refine ab_bdI (fun v3 mv3 hf => ?_)
    refine xr_get A xc_X6 in_X6 15 (Nat.le_of_ble_eq_true rfl) q480 rfl (ab_gIE mv3) dX1_fills_17 ?_
    refine xr_icmp_ge A (tgt := 41) dX1_fills_20 (by decide) (fun c20 => ?_) (fun c20 => ?_)
    · replace hf := ab_ip c20 hf
      refine xr_iload_n A dX1_fills_41 1 rfl rfl ?_
      refine xr_aload_n A dX1_fills_42 0 rfl rfl ?_
      revert hf; refine ab_bdI (fun v4 mv4 hf => ?_)
      refine xr_get A xc_X1 in_X1 33 (Nat.le_of_ble_eq_true rfl) q296 rfl (ab_gIE mv4) dX1_fills_43 ?_
      refine xr_icmp_lt A (tgt := 65) dX1_fills_46 (by decide) (fun c46 => ?_) (fun c46 => ?_)
      · replace hf := ab_ip c46 hf
        exact xr_return A hf dX1_fills_65
      · replace hf := ab_in c46 hf
        refine xr_iload_n A dX1_fills_49 1 rfl rfl ?_
        refine xr_aload_n A dX1_fills_50 0 rfl rfl ?_
        revert hf; refine ab_bdI (fun v5 mv5 hf => ?_)
        refine xr_get A xc_X1 in_X1 33 (Nat.le_of_ble_eq_true rfl) q296 rfl (ab_gIE mv5) dX1_fills_51 ?_
        refine xr_icmp_ne A (tgt := 66) dX1_fills_54 (by decide) (fun c54 => ?_) (fun c54 => ?_)
        · replace hf := ab_in c54 hf
          refine X.sub [0, 1, 2] rfl ?_
          exact wX1_fills_b66 A @hrec hf
        · replace hf := ab_ip c54 hf
          refine xr_iload_n A dX1_fills_57 2 rfl rfl ?_
          refine xr_aload_n A dX1_fills_58 0 rfl rfl ?_
          revert hf; refine ab_bdI (fun v6 mv6 hf => ?_)
          refine xr_get A xc_X1 in_X1 34 (Nat.le_of_ble_eq_true rfl) q297 rfl (ab_gIE mv6) dX1_fills_59 ?_
          refine xr_icmp_lt A (tgt := 66) dX1_fills_62 (by decide) (fun c62 => ?_) (fun c62 => ?_)
          · replace hf := ab_ip c62 hf
            refine X.sub [0, 1, 2] rfl ?_
            exact wX1_fills_b66 A @hrec hf
          · replace hf := ab_in c62 hf
            exact xr_return A hf dX1_fills_65
    · replace hf := ab_in c20 hf
      refine xr_iload_n A dX1_fills_23 2 rfl rfl ?_
      refine xr_aload_n A dX1_fills_24 0 rfl rfl ?_
      revert hf; refine ab_bdI (fun v7 mv7 hf => ?_)
      refine xr_get A xc_X1 in_X1 31 (Nat.le_of_ble_eq_true rfl) q294 rfl (ab_gRE mv7) dX1_fills_25 ?_
      refine xr_iload A dX1_fills_28 3 rfl ?_
      revert hf; refine ab_bdI (fun a8 e hf => ?_); subst e
      revert hf; refine ab_bdI (fun v9 mv9 hf => ?_)
      refine xr_iaload A mv9 dX1_fills_30 ?_
      refine xr_mmax A q1226 dX1_fills_31 (by omega) (by omega) (Nat.le_of_ble_eq_true rfl) ?_
      refine xr_istore_n A dX1_fills_34 rfl (Nat.le_of_ble_eq_true rfl) (L' := [(3, vI (ab_max l3 v9)), (0, vR (some x)), (2, vI l2), (4, vI l4)]) rfl ?_
      refine xr_iinc A dX1_fills_35 3 rfl (v := (l4 + (1 : Int32))) rfl (Nat.le_of_ble_eq_true rfl) (L' := [(4, vI (l4 + (1 : Int32))), (3, vI (ab_max l3 v9)), (0, vR (some x)), (2, vI l2)]) rfl ?_
      refine xr_goto A (tgt := 11) dX1_fills_38 (by decide) ?_
      refine X.sub [2, 3, 1, 0] rfl ?_
      exact ih hf
noncomputable def fX1_fills : Nat → Nat → Int32 → Int32 → Hp → Option Hp
  | 0, _, _, _, _ => none
  | n + 1, x, p1, p2, h =>
  ab_ck h x 0 <|
  if p1 = (7 : Int32) then (
    fX1_fills_l11 x (fX1_fills n x) (hfu h) p2 (0 : Int32) (0 : Int32) h)
  else (
    fX1_fills_l94 x (fX1_fills n x) (hfu h) p1 p2 (0 : Int32) h)
theorem wX1_fills (D : Dd) : ∀ (n : Nat) {x : Nat} {p1 : Int32} {p2 : Int32} {h : Hp} {h' : Hp}, fX1_fills n x p1 p2 h = some h' → ab_is h x 0 ∧ Ct D (2 + n) (41 + n * 24) yX1_fills cX1_fills 5 (none : Option FieldType) [vR (some x), vI p1, vI p2] h (.inl none) h' := by
  intro n
  induction n with
  | zero => intros; rename_i hf; exact ab_no hf
  | succ n ih =>
    intro x p1 p2 h h' hf
    unfold fX1_fills at hf
    replace hf := ab_ckE hf; obtain ⟨i0, hf⟩ := hf
    refine ⟨i0, ?_⟩
    refine Ct.of (by decide) (L := [(0, vR (some x)), (1, vI p1), (2, vI p2)]) rfl (Nat.le_of_ble_eq_true rfl) (fun C A => ?_)
    have hrec : ∀ {p1 : Int32} {p2 : Int32} {h0 : Hp} {h' : Hp}, fX1_fills n x p1 p2 h0 = some h' → ab_is h0 x 0 ∧ Ct D (2 + n) (41 + n * 24) yX1_fills cX1_fills 5 (none : Option FieldType) [vR (some x), vI p1, vI p2] h0 (.inl none) h' := fun hf => ih hf
    refine xr_iload_n A dX1_fills_0 1 rfl rfl ?_
    refine xr_bipush A (v := 7) dX1_fills_1 (by decide) ?_
    refine xr_icmp_ne A (tgt := 92) dX1_fills_3 (by decide) (fun c3 => ?_) (fun c3 => ?_)
    · replace hf := ab_in c3 hf
      refine xr_iconst A (v := 0) dX1_fills_92 (by decide) ?_
      refine xr_istore_n A dX1_fills_93 rfl (Nat.le_of_ble_eq_true rfl) (L' := [(3, vI (0 : Int32)), (0, vR (some x)), (1, vI p1), (2, vI p2)]) rfl ?_
      refine X.sub [1, 2, 3, 0] rfl ?_
      exact wX1_fills_l94 A @hrec _ hf
    · replace hf := ab_ip c3 hf
      refine xr_iconst A (v := 0) dX1_fills_6 (by decide) ?_
      refine xr_istore_n A dX1_fills_7 rfl (Nat.le_of_ble_eq_true rfl) (L' := [(3, vI (0 : Int32)), (0, vR (some x)), (1, vI p1), (2, vI p2)]) rfl ?_
      refine xr_iconst A (v := 0) dX1_fills_8 (by decide) ?_
      refine xr_istore A dX1_fills_9 (Nat.le_of_ble_eq_true rfl) (L' := [(4, vI (0 : Int32)), (3, vI (0 : Int32)), (0, vR (some x)), (1, vI p1), (2, vI p2)]) rfl ?_
      refine X.sub [2, 4, 1, 0] rfl ?_
      exact wX1_fills_l11 A @hrec _ hf
/-! X1_fill -/
theorem bX1_fill : MB yX1_fill cX1_fill 1 (some FieldType.int) 0 := ⟨q1221, q92, by decide, by decide +kernel⟩
noncomputable def fX1_fill (x : Nat) (h : Hp) : Option (Int32 × Hp) :=
  ab_ck h x 0 <|
  ab_bd (fX1_anew x h) fun h2 =>
  ab_bd (ab_gR h2 x 0 3) fun v3 =>
  ab_on v3 (
    ab_b2 (fX1_no x (1 : Int32) h2) fun v7 h6 =>
    some (v7, h6)) fun a4 => (
    ab_bd (ab_pI h2 x 0 33 (-1 : Int32)) fun h8 =>
    ab_bd (ab_pI h8 x 0 34 (0 : Int32)) fun h9 =>
    ab_bd (fX1_fills 10 x (0 : Int32) (0 : Int32) h9) fun h11 =>
    ab_bd (ab_pI h11 x 0 32 (1 : Int32)) fun h12 =>
    ab_bd (ab_gR h12 x 0 29) fun v13 =>
    ab_bd (ab_gR h12 x 0 30) fun v14 =>
    ab_bd v13 fun a15 =>
    ab_bd v14 fun a16 =>
    ab_bd (ab_cpy h12 a15 (0 : Int32) a16 (0 : Int32) (7 : Int32)) fun h17 =>
    ab_bd (ab_gI h17 x 0 33) fun v18 =>
    some (v18, h17))
theorem wX1_fill (D : Dd) {x : Nat} {h : Hp} {r : Int32} {h' : Hp} (hf : fX1_fill x h = some (r, h')) : ab_is h x 0 ∧ Ct D 13 305 yX1_fill cX1_fill 1 (some FieldType.int) [vR (some x)] h (.inl (some (vI r))) h' := by
    unfold fX1_fill at hf
    replace hf := ab_ckE hf; obtain ⟨i0, hf⟩ := hf
    refine ⟨i0, ?_⟩
    refine Ct.of (by decide) (L := [(0, vR (some x))]) rfl (Nat.le_of_ble_eq_true rfl) (fun C A => ?_)
    refine xr_aload_n A dX1_fill_0 0 rfl rfl ?_
    revert hf; refine ab_bdI (fun h2 m1 hf => ?_)
    refine xr_V0 A bX1_anew (wX1_anew D m1).2 xc_X1 (wX1_anew D m1).1 q402 qs2 q400 (av := []) (rest := []) rfl dX1_fill_1 (Nat.le_of_ble_eq_true rfl) (Nat.le_of_ble_eq_true rfl) rfl (Nat.le_of_ble_eq_true rfl) ?_
    refine xr_aload_n A dX1_fill_4 0 rfl rfl ?_
    revert hf; refine ab_bdI (fun v3 mv3 hf => ?_)
    refine xr_get A xc_X1 in_X1 3 (Nat.le_of_ble_eq_true rfl) q266 rfl (ab_gRE mv3) dX1_fill_5 ?_
    revert hf; refine ab_onI (fun e hf => ?_) (fun a4 e hf => ?_) <;> subst e
    · refine xr_ifnonnull A (tgt := 17) dX1_fill_8 (by decide) (fun _ e => by cases e) (fun _ => ?_)
      refine xr_aload_n A dX1_fill_11 0 rfl rfl ?_
      refine xr_iconst A (v := 1) dX1_fill_12 (by decide) ?_
      revert hf; refine ab_b2I (fun v7 h6 m5 hf => ?_)
      refine xr_V A bX1_no (wX1_no D m5).2 xc_X1 (wX1_no D m5).1 q409 qs3 q407 (av := [vI (1 : Int32)]) (rest := []) rfl dX1_fill_13 (Nat.le_of_ble_eq_true rfl) (Nat.le_of_ble_eq_true rfl) rfl (Nat.le_of_ble_eq_true rfl) ?_
      exact xr_ireturn A rfl hf dX1_fill_16
    · refine xr_ifnonnull A (tgt := 17) dX1_fill_8 (by decide) (fun _ _ => ?_) (fun e => by cases e)
      refine xr_aload_n A dX1_fill_17 0 rfl rfl ?_
      refine xr_iconst A (v := (-1)) dX1_fill_18 (by decide) ?_
      revert hf; refine ab_bdI (fun h8 mh8 hf => ?_)
      refine xr_put A xc_X1 in_X1 tyX1_ok nmX1 33 (Nat.le_of_ble_eq_true rfl) q296 rfl rfl (v := vI (-1 : Int32)) rfl rfl mh8 dX1_fill_19 ?_
      refine xr_aload_n A dX1_fill_22 0 rfl rfl ?_
      refine xr_iconst A (v := 0) dX1_fill_23 (by decide) ?_
      revert hf; refine ab_bdI (fun h9 mh9 hf => ?_)
      refine xr_put A xc_X1 in_X1 tyX1_ok nmX1 34 (Nat.le_of_ble_eq_true rfl) q297 rfl rfl (v := vI (0 : Int32)) rfl rfl mh9 dX1_fill_24 ?_
      refine xr_aload_n A dX1_fill_27 0 rfl rfl ?_
      refine xr_iconst A (v := 0) dX1_fill_28 (by decide) ?_
      refine xr_iconst A (v := 0) dX1_fill_29 (by decide) ?_
      revert hf; refine ab_bdI (fun h11 m10 hf => ?_)
      refine xr_V0 A bX1_fills (wX1_fills D 10 m10).2 xc_X1 (wX1_fills D 10 m10).1 q1224 qs43 q1222 (av := [vI (0 : Int32), vI (0 : Int32)]) (rest := []) rfl dX1_fill_30 (Nat.le_of_ble_eq_true rfl) (Nat.le_of_ble_eq_true rfl) rfl (Nat.le_of_ble_eq_true rfl) ?_
      refine xr_aload_n A dX1_fill_33 0 rfl rfl ?_
      refine xr_iconst A (v := 1) dX1_fill_34 (by decide) ?_
      revert hf; refine ab_bdI (fun h12 mh12 hf => ?_)
      refine xr_put A xc_X1 in_X1 tyX1_ok nmX1 32 (Nat.le_of_ble_eq_true rfl) q295 rfl rfl (v := vI (1 : Int32)) rfl rfl mh12 dX1_fill_35 ?_
      refine xr_aload_n A dX1_fill_38 0 rfl rfl ?_
      revert hf; refine ab_bdI (fun v13 mv13 hf => ?_)
      refine xr_get A xc_X1 in_X1 29 (Nat.le_of_ble_eq_true rfl) q292 rfl (ab_gRE mv13) dX1_fill_39 ?_
      refine xr_iconst A (v := 0) dX1_fill_42 (by decide) ?_
      refine xr_aload_n A dX1_fill_43 0 rfl rfl ?_
      revert hf; refine ab_bdI (fun v14 mv14 hf => ?_)
      refine xr_get A xc_X1 in_X1 30 (Nat.le_of_ble_eq_true rfl) q293 rfl (ab_gRE mv14) dX1_fill_44 ?_
      refine xr_iconst A (v := 0) dX1_fill_47 (by decide) ?_
      refine xr_bipush A (v := 7) dX1_fill_48 (by decide) ?_
      revert hf; refine ab_bdI (fun a15 e hf => ?_); subst e
      revert hf; refine ab_bdI (fun a16 e hf => ?_); subst e
      revert hf; refine ab_bdI (fun h17 mh17 hf => ?_)
      refine xr_cpy A q1134 q1120 q1119 q116 mh17 dX1_fill_50 (Nat.le_of_ble_eq_true rfl) (Nat.le_of_ble_eq_true rfl) (Nat.le_of_ble_eq_true rfl) ?_
      refine xr_aload_n A dX1_fill_53 0 rfl rfl ?_
      revert hf; refine ab_bdI (fun v18 mv18 hf => ?_)
      refine xr_get A xc_X1 in_X1 33 (Nat.le_of_ble_eq_true rfl) q296 rfl (ab_gIE mv18) dX1_fill_54 ?_
      exact xr_ireturn A rfl hf dX1_fill_57
/-! X1_helper -/
theorem bX1_helper : MB yX1_helper cX1_helper 2 (some FieldType.int) 1 := ⟨q1230, q92, by decide, by decide +kernel⟩
noncomputable def fX1_helper (x : Nat) (p1 : Int32) (h : Hp) : Option (Int32 × Hp) :=
  ab_ck h x 0 <|
  ab_bd (ab_gI h x 0 32) fun v1 =>
  if v1 = 0 then (
    some ((-1 : Int32), h))
  else (
    ab_b2 (fX1_in p1 (0 : Int32) (6 : Int32) h) fun v4 h3 =>
    if v4 = 0 then (
      some ((-1 : Int32), h3))
    else (
      ab_bd (ab_gR h3 x 0 30) fun v5 =>
      ab_bd v5 fun a6 =>
      ab_bd (ab_aI h3 a6 0 p1) fun v7 =>
      some (v7, h3)))
theorem wX1_helper (D : Dd) {x : Nat} {p1 : Int32} {h : Hp} {r : Int32} {h' : Hp} (hf : fX1_helper x p1 h = some (r, h')) : ab_is h x 0 ∧ Ct D 2 42 yX1_helper cX1_helper 2 (some FieldType.int) [vR (some x), vI p1] h (.inl (some (vI r))) h' := by
    unfold fX1_helper at hf
    replace hf := ab_ckE hf; obtain ⟨i0, hf⟩ := hf
    refine ⟨i0, ?_⟩
    refine Ct.of (by decide) (L := [(0, vR (some x)), (1, vI p1)]) rfl (Nat.le_of_ble_eq_true rfl) (fun C A => ?_)
    refine xr_aload_n A dX1_helper_0 0 rfl rfl ?_
    revert hf; refine ab_bdI (fun v1 mv1 hf => ?_)
    refine xr_get A xc_X1 in_X1 32 (Nat.le_of_ble_eq_true rfl) q295 rfl (ab_gIE mv1) dX1_helper_1 ?_
    refine xr_if_eq A (tgt := 26) dX1_helper_4 (by decide) (fun c4 => ?_) (fun c4 => ?_)
    · replace hf := ab_ip c4 hf
      refine xr_iconst A (v := (-1)) dX1_helper_26 (by decide) ?_
      exact xr_ireturn A rfl hf dX1_helper_27
    · replace hf := ab_in c4 hf
      refine xr_iload_n A dX1_helper_7 1 rfl rfl ?_
      refine xr_iconst A (v := 0) dX1_helper_8 (by decide) ?_
      refine xr_bipush A (v := 6) dX1_helper_9 (by decide) ?_
      revert hf; refine ab_b2I (fun v4 h3 m2 hf => ?_)
      refine xr_S A bX1_in (wX1_in D m2) q405 q404 (av := [vI p1, vI (0 : Int32), vI (6 : Int32)]) (rest := []) rfl dX1_helper_11 (Nat.le_of_ble_eq_true rfl) (Nat.le_of_ble_eq_true rfl) rfl (Nat.le_of_ble_eq_true rfl) ?_
      refine xr_if_eq A (tgt := 26) dX1_helper_14 (by decide) (fun c14 => ?_) (fun c14 => ?_)
      · replace hf := ab_ip c14 hf
        refine xr_iconst A (v := (-1)) dX1_helper_26 (by decide) ?_
        exact xr_ireturn A rfl hf dX1_helper_27
      · replace hf := ab_in c14 hf
        refine xr_aload_n A dX1_helper_17 0 rfl rfl ?_
        revert hf; refine ab_bdI (fun v5 mv5 hf => ?_)
        refine xr_get A xc_X1 in_X1 30 (Nat.le_of_ble_eq_true rfl) q293 rfl (ab_gRE mv5) dX1_helper_18 ?_
        refine xr_iload_n A dX1_helper_21 1 rfl rfl ?_
        revert hf; refine ab_bdI (fun a6 e hf => ?_); subst e
        revert hf; refine ab_bdI (fun v7 mv7 hf => ?_)
        refine xr_iaload A mv7 dX1_helper_22 ?_
        refine xr_goto A (tgt := 27) dX1_helper_23 (by decide) ?_
        exact xr_ireturn A rfl hf dX1_helper_27
/-! X1_sign -/
theorem bX1_sign : MB yX1_sign cX1_sign 3 (some FieldType.int) 2 := ⟨q1234, q92, by decide, by decide +kernel⟩
noncomputable def fX1_sign (x : Nat) (p1 : Int32) (p2 : Int32) (h : Hp) : Option (Int32 × Hp) :=
  ab_ck h x 0 <|
  ab_bd (fX1_anew x h) fun h2 =>
  ab_b2 (fX1_isHouse x p1 h2) fun v5 h4 =>
  if v5 = 0 then (
    ab_b2 (fX1_no x (1 : Int32) h4) fun v33 h32 =>
    some (v33, h32))
  else (
    ab_b2 (fX1_in p2 (0 : Int32) (99 : Int32) h4) fun v8 h7 =>
    if v8 = 0 then (
      ab_b2 (fX1_no x (2 : Int32) h7) fun v30 h29 =>
      some (v30, h29))
    else (
      ab_bd (ab_gR h7 x 0 36) fun v9 =>
      ab_bd v9 fun a10 =>
      ab_bd (ab_aI h7 a10 0 p1) fun v11 =>
      if v11 = (10 : Int32) then (
        ab_b2 (fX1_no x (3 : Int32) h7) fun v27 h26 =>
        some (v27, h26))
      else (
        ab_bd (ab_gR h7 x 0 35) fun v12 =>
        ab_bd (ab_gR h7 x 0 36) fun v13 =>
        ab_bd v13 fun a14 =>
        ab_bd (ab_aI h7 a14 0 p1) fun v15 =>
        ab_bd v12 fun a16 =>
        ab_bd (ab_sI h7 a16 (((10 : Int32) * p1) + v15) p2) fun h17 =>
        ab_bd (ab_gR h17 x 0 36) fun v18 =>
        ab_bd v18 fun a19 =>
        ab_bd (ab_aI h17 a19 0 p1) fun v20 =>
        ab_bd (ab_sI h17 a19 p1 (v20 + (1 : Int32))) fun h21 =>
        ab_bd (ab_gR h21 x 0 36) fun v22 =>
        ab_bd v22 fun a23 =>
        ab_bd (ab_aI h21 a23 0 p1) fun v24 =>
        some (v24, h21))))
theorem wX1_sign (D : Dd) {x : Nat} {p1 : Int32} {p2 : Int32} {h : Hp} {r : Int32} {h' : Hp} (hf : fX1_sign x p1 p2 h = some (r, h')) : ab_is h x 0 ∧ Ct D 3 63 yX1_sign cX1_sign 3 (some FieldType.int) [vR (some x), vI p1, vI p2] h (.inl (some (vI r))) h' := by
    unfold fX1_sign at hf
    replace hf := ab_ckE hf; obtain ⟨i0, hf⟩ := hf
    refine ⟨i0, ?_⟩
    refine Ct.of (by decide) (L := [(0, vR (some x)), (1, vI p1), (2, vI p2)]) rfl (Nat.le_of_ble_eq_true rfl) (fun C A => ?_)
    refine xr_aload_n A dX1_sign_0 0 rfl rfl ?_
    revert hf; refine ab_bdI (fun h2 m1 hf => ?_)
    refine xr_V0 A bX1_anew (wX1_anew D m1).2 xc_X1 (wX1_anew D m1).1 q402 qs2 q400 (av := []) (rest := []) rfl dX1_sign_1 (Nat.le_of_ble_eq_true rfl) (Nat.le_of_ble_eq_true rfl) rfl (Nat.le_of_ble_eq_true rfl) ?_
    refine xr_aload_n A dX1_sign_4 0 rfl rfl ?_
    refine xr_iload_n A dX1_sign_5 1 rfl rfl ?_
    revert hf; refine ab_b2I (fun v5 h4 m3 hf => ?_)
    refine xr_V A bX1_isHouse (wX1_isHouse D m3).2 xc_X1 (wX1_isHouse D m3).1 q1007 qs25 q1005 (av := [vI p1]) (rest := []) rfl dX1_sign_6 (Nat.le_of_ble_eq_true rfl) (Nat.le_of_ble_eq_true rfl) rfl (Nat.le_of_ble_eq_true rfl) ?_
    refine xr_if_ne A (tgt := 18) dX1_sign_9 (by decide) (fun c9 => ?_) (fun c9 => ?_)
    · replace hf := ab_in c9 hf
      refine xr_iload_n A dX1_sign_18 2 rfl rfl ?_
      refine xr_iconst A (v := 0) dX1_sign_19 (by decide) ?_
      refine xr_bipush A (v := 99) dX1_sign_20 (by decide) ?_
      revert hf; refine ab_b2I (fun v8 h7 m6 hf => ?_)
      refine xr_S A bX1_in (wX1_in D m6) q405 q404 (av := [vI p2, vI (0 : Int32), vI (99 : Int32)]) (rest := []) rfl dX1_sign_22 (Nat.le_of_ble_eq_true rfl) (Nat.le_of_ble_eq_true rfl) rfl (Nat.le_of_ble_eq_true rfl) ?_
      refine xr_if_ne A (tgt := 34) dX1_sign_25 (by decide) (fun c25 => ?_) (fun c25 => ?_)
      · replace hf := ab_in c25 hf
        refine xr_aload_n A dX1_sign_34 0 rfl rfl ?_
        revert hf; refine ab_bdI (fun v9 mv9 hf => ?_)
        refine xr_get A xc_X1 in_X1 36 (Nat.le_of_ble_eq_true rfl) q299 rfl (ab_gRE mv9) dX1_sign_35 ?_
        refine xr_iload_n A dX1_sign_38 1 rfl rfl ?_
        revert hf; refine ab_bdI (fun a10 e hf => ?_); subst e
        revert hf; refine ab_bdI (fun v11 mv11 hf => ?_)
        refine xr_iaload A mv11 dX1_sign_39 ?_
        refine xr_bipush A (v := 10) dX1_sign_40 (by decide) ?_
        refine xr_icmp_ne A (tgt := 51) dX1_sign_42 (by decide) (fun c42 => ?_) (fun c42 => ?_)
        · replace hf := ab_in c42 hf
          refine xr_aload_n A dX1_sign_51 0 rfl rfl ?_
          revert hf; refine ab_bdI (fun v12 mv12 hf => ?_)
          refine xr_get A xc_X1 in_X1 35 (Nat.le_of_ble_eq_true rfl) q298 rfl (ab_gRE mv12) dX1_sign_52 ?_
          refine xr_bipush A (v := 10) dX1_sign_55 (by decide) ?_
          refine xr_iload_n A dX1_sign_57 1 rfl rfl ?_
          refine xr_imul A dX1_sign_58 ?_
          refine xr_aload_n A dX1_sign_59 0 rfl rfl ?_
          revert hf; refine ab_bdI (fun v13 mv13 hf => ?_)
          refine xr_get A xc_X1 in_X1 36 (Nat.le_of_ble_eq_true rfl) q299 rfl (ab_gRE mv13) dX1_sign_60 ?_
          refine xr_iload_n A dX1_sign_63 1 rfl rfl ?_
          revert hf; refine ab_bdI (fun a14 e hf => ?_); subst e
          revert hf; refine ab_bdI (fun v15 mv15 hf => ?_)
          refine xr_iaload A mv15 dX1_sign_64 ?_
          refine xr_iadd A dX1_sign_65 ?_
          refine xr_iload_n A dX1_sign_66 2 rfl rfl ?_
          revert hf; refine ab_bdI (fun a16 e hf => ?_); subst e
          revert hf; refine ab_bdI (fun h17 mh17 hf => ?_)
          refine xr_iastore A mh17 dX1_sign_67 ?_
          refine xr_aload_n A dX1_sign_68 0 rfl rfl ?_
          revert hf; refine ab_bdI (fun v18 mv18 hf => ?_)
          refine xr_get A xc_X1 in_X1 36 (Nat.le_of_ble_eq_true rfl) q299 rfl (ab_gRE mv18) dX1_sign_69 ?_
          refine xr_iload_n A dX1_sign_72 1 rfl rfl ?_
          refine xr_dup2 A dX1_sign_73 rfl rfl ?_
          revert hf; refine ab_bdI (fun a19 e hf => ?_); subst e
          revert hf; refine ab_bdI (fun v20 mv20 hf => ?_)
          refine xr_iaload A mv20 dX1_sign_74 ?_
          refine xr_iconst A (v := 1) dX1_sign_75 (by decide) ?_
          refine xr_iadd A dX1_sign_76 ?_
          revert hf; refine ab_bdI (fun h21 mh21 hf => ?_)
          refine xr_iastore A mh21 dX1_sign_77 ?_
          refine xr_aload_n A dX1_sign_78 0 rfl rfl ?_
          revert hf; refine ab_bdI (fun v22 mv22 hf => ?_)
          refine xr_get A xc_X1 in_X1 36 (Nat.le_of_ble_eq_true rfl) q299 rfl (ab_gRE mv22) dX1_sign_79 ?_
          refine xr_iload_n A dX1_sign_82 1 rfl rfl ?_
          revert hf; refine ab_bdI (fun a23 e hf => ?_); subst e
          revert hf; refine ab_bdI (fun v24 mv24 hf => ?_)
          refine xr_iaload A mv24 dX1_sign_83 ?_
          exact xr_ireturn A rfl hf dX1_sign_84
        · replace hf := ab_ip c42 hf
          refine xr_aload_n A dX1_sign_45 0 rfl rfl ?_
          refine xr_iconst A (v := 3) dX1_sign_46 (by decide) ?_
          revert hf; refine ab_b2I (fun v27 h26 m25 hf => ?_)
          refine xr_V A bX1_no (wX1_no D m25).2 xc_X1 (wX1_no D m25).1 q409 qs3 q407 (av := [vI (3 : Int32)]) (rest := []) rfl dX1_sign_47 (Nat.le_of_ble_eq_true rfl) (Nat.le_of_ble_eq_true rfl) rfl (Nat.le_of_ble_eq_true rfl) ?_
          exact xr_ireturn A rfl hf dX1_sign_50
      · replace hf := ab_ip c25 hf
        refine xr_aload_n A dX1_sign_28 0 rfl rfl ?_
        refine xr_iconst A (v := 2) dX1_sign_29 (by decide) ?_
        revert hf; refine ab_b2I (fun v30 h29 m28 hf => ?_)
        refine xr_V A bX1_no (wX1_no D m28).2 xc_X1 (wX1_no D m28).1 q409 qs3 q407 (av := [vI (2 : Int32)]) (rest := []) rfl dX1_sign_30 (Nat.le_of_ble_eq_true rfl) (Nat.le_of_ble_eq_true rfl) rfl (Nat.le_of_ble_eq_true rfl) ?_
        exact xr_ireturn A rfl hf dX1_sign_33
    · replace hf := ab_ip c9 hf
      refine xr_aload_n A dX1_sign_12 0 rfl rfl ?_
      refine xr_iconst A (v := 1) dX1_sign_13 (by decide) ?_
      revert hf; refine ab_b2I (fun v33 h32 m31 hf => ?_)
      refine xr_V A bX1_no (wX1_no D m31).2 xc_X1 (wX1_no D m31).1 q409 qs3 q407 (av := [vI (1 : Int32)]) (rest := []) rfl dX1_sign_14 (Nat.le_of_ble_eq_true rfl) (Nat.le_of_ble_eq_true rfl) rfl (Nat.le_of_ble_eq_true rfl) ?_
      exact xr_ireturn A rfl hf dX1_sign_17
/-! X1_fading -/
theorem bX1_fading : MB yX1_fading cX1_fading 9 (some FieldType.int) 1 := ⟨q1238, q92, by decide, by decide +kernel⟩
noncomputable def fX1_fading_l105 (x : Nat) (K81 : Int32 → Int32 → Int32 → Int32 → Int32 → Hp → Option (Int32 × Hp)) (K93 : Int32 → Int32 → Int32 → Int32 → Int32 → Int32 → Hp → Option (Int32 × Hp)) : Nat → Int32 → Int32 → Int32 → Int32 → Int32 → Int32 → Int32 → Hp → Option (Int32 × Hp)
  | 0, _, _, _, _, _, _, _, _ => none
  | n + 1, l2, l3, l4, l5, l6, l7, l8, h =>
  if l2 ≤ l8 then (
    K93 l2 l3 l4 l5 l6 (l7 + (1 : Int32)) h)
  else (
    ab_bd (ab_gR h x 0 35) fun v1 =>
    ab_bd v1 fun a2 =>
    ab_bd (ab_aI h a2 0 (l3 + l6)) fun v3 =>
    ab_bd (ab_gR h x 0 35) fun v4 =>
    ab_bd v4 fun a5 =>
    ab_bd (ab_aI h a5 0 (l3 + l7)) fun v6 =>
    ab_bd (ab_gR h x 0 35) fun v7 =>
    ab_bd v7 fun a8 =>
    ab_bd (ab_aI h a8 0 (l3 + l8)) fun v9 =>
    if ((v3 + v6) + v9) < l4 then (
      fX1_fading_l105 x K81 K93 n l2 l3 l4 (l5 + (0 : Int32)) l6 l7 (l8 + (1 : Int32)) h)
    else (
      fX1_fading_l105 x K81 K93 n l2 l3 l4 (l5 + (1 : Int32)) l6 l7 (l8 + (1 : Int32)) h))
theorem wX1_fading_l105 {D : Dd} {C : Cx} {h0 h' : Hp} {r : Int32} (A : Act C D (h0, (.inl (some (vI r))), h') yX1_fading cX1_fading 9 (some FieldType.int) 3 63 []) {x : Nat} {K81 : Int32 → Int32 → Int32 → Int32 → Int32 → Hp → Option (Int32 × Hp)} (hK81 : ∀ {l2 : Int32} {l3 : Int32} {l4 : Int32} {l5 : Int32} {l6 : Int32} {h : Hp}, K81 l2 l3 l4 l5 l6 h = some (r, h') → X C D (h0, (.inl (some (vI r))), h') 9 81 [(0, vR (some x)), (2, vI l2), (3, vI l3), (4, vI l4), (5, vI l5), (6, vI l6)] [] h) {K93 : Int32 → Int32 → Int32 → Int32 → Int32 → Int32 → Hp → Option (Int32 × Hp)} (hK93 : ∀ {l2 : Int32} {l3 : Int32} {l4 : Int32} {l5 : Int32} {l6 : Int32} {l7 : Int32} {h : Hp}, K93 l2 l3 l4 l5 l6 l7 h = some (r, h') → X C D (h0, (.inl (some (vI r))), h') 9 93 [(0, vR (some x)), (2, vI l2), (3, vI l3), (4, vI l4), (5, vI l5), (6, vI l6), (7, vI l7)] [] h) : ∀ (n : Nat) {l2 : Int32} {l3 : Int32} {l4 : Int32} {l5 : Int32} {l6 : Int32} {l7 : Int32} {l8 : Int32} {h : Hp}, fX1_fading_l105 x K81 K93 n l2 l3 l4 l5 l6 l7 l8 h = some (r, h') → X C D (h0, (.inl (some (vI r))), h') 9 105 [(0, vR (some x)), (2, vI l2), (3, vI l3), (4, vI l4), (5, vI l5), (6, vI l6), (7, vI l7), (8, vI l8)] [] h := by
  intro n
  induction n with
  | zero => intro l2 l3 l4 l5 l6 l7 l8 h hf; exact ab_no hf
  | succ n ih =>
    intro l2 l3 l4 l5 l6 l7 l8 h hf
    unfold fX1_fading_l105 at hf
    refine xr_iload A dX1_fading_105 7 rfl ?_
    refine xr_iload_n A dX1_fading_107 1 rfl rfl ?_
    refine xr_icmp_ge A (tgt := 161) dX1_fading_108 (by decide) (fun c108 => ?_) (fun c108 => ?_)
    · replace hf := ab_ip c108 hf
      refine xr_iinc A dX1_fading_161 6 rfl (v := (l7 + (1 : Int32))) rfl (Nat.le_of_ble_eq_true rfl) (L' := [(7, vI (l7 + (1 : Int32))), (0, vR (some x)), (2, vI l2), (3, vI l3), (4, vI l4), (5, vI l5), (6, vI l6), (8, vI l8)]) rfl ?_
      refine xr_goto A (tgt := 93) dX1_fading_164 (by decide) ?_
      refine X.sub [1, 2, 3, 4, 5, 6, 0] rfl ?_
      exact hK93 hf
    · replace hf := ab_in c108 hf
      refine xr_iload A dX1_fading_111 4 rfl ?_
      refine xr_aload_n A dX1_fading_113 0 rfl rfl ?_
      revert hf; refine ab_bdI (fun v1 mv1 hf => ?_)
      refine xr_get A xc_X1 in_X1 35 (Nat.le_of_ble_eq_true rfl) q298 rfl (ab_gRE mv1) dX1_fading_114 ?_
      refine xr_iload_n A dX1_fading_117 2 rfl rfl ?_
      refine xr_iload A dX1_fading_118 5 rfl ?_
      refine xr_iadd A dX1_fading_120 ?_
      revert hf; refine ab_bdI (fun a2 e hf => ?_); subst e
      revert hf; refine ab_bdI (fun v3 mv3 hf => ?_)
      refine xr_iaload A mv3 dX1_fading_121 ?_
      refine xr_aload_n A dX1_fading_122 0 rfl rfl ?_
      revert hf; refine ab_bdI (fun v4 mv4 hf => ?_)
      refine xr_get A xc_X1 in_X1 35 (Nat.le_of_ble_eq_true rfl) q298 rfl (ab_gRE mv4) dX1_fading_123 ?_
      refine xr_iload_n A dX1_fading_126 2 rfl rfl ?_
      refine xr_iload A dX1_fading_127 6 rfl ?_
      refine xr_iadd A dX1_fading_129 ?_
      revert hf; refine ab_bdI (fun a5 e hf => ?_); subst e
      revert hf; refine ab_bdI (fun v6 mv6 hf => ?_)
      refine xr_iaload A mv6 dX1_fading_130 ?_
      refine xr_iadd A dX1_fading_131 ?_
      refine xr_aload_n A dX1_fading_132 0 rfl rfl ?_
      revert hf; refine ab_bdI (fun v7 mv7 hf => ?_)
      refine xr_get A xc_X1 in_X1 35 (Nat.le_of_ble_eq_true rfl) q298 rfl (ab_gRE mv7) dX1_fading_133 ?_
      refine xr_iload_n A dX1_fading_136 2 rfl rfl ?_
      refine xr_iload A dX1_fading_137 7 rfl ?_
      refine xr_iadd A dX1_fading_139 ?_
      revert hf; refine ab_bdI (fun a8 e hf => ?_); subst e
      revert hf; refine ab_bdI (fun v9 mv9 hf => ?_)
      refine xr_iaload A mv9 dX1_fading_140 ?_
      refine xr_iadd A dX1_fading_141 ?_
      refine xr_iload A dX1_fading_142 3 rfl ?_
      refine xr_icmp_lt A (tgt := 151) dX1_fading_144 (by decide) (fun c144 => ?_) (fun c144 => ?_)
      · replace hf := ab_ip c144 hf
        refine xr_iconst A (v := 0) dX1_fading_151 (by decide) ?_
        refine xr_iadd A dX1_fading_152 ?_
        refine xr_istore A dX1_fading_153 (Nat.le_of_ble_eq_true rfl) (L' := [(5, vI (l5 + (0 : Int32))), (0, vR (some x)), (2, vI l2), (3, vI l3), (4, vI l4), (6, vI l6), (7, vI l7), (8, vI l8)]) rfl ?_
        refine xr_iinc A dX1_fading_155 7 rfl (v := (l8 + (1 : Int32))) rfl (Nat.le_of_ble_eq_true rfl) (L' := [(8, vI (l8 + (1 : Int32))), (5, vI (l5 + (0 : Int32))), (0, vR (some x)), (2, vI l2), (3, vI l3), (4, vI l4), (6, vI l6), (7, vI l7)]) rfl ?_
        refine xr_goto A (tgt := 105) dX1_fading_158 (by decide) ?_
        refine X.sub [2, 3, 4, 5, 1, 6, 7, 0] rfl ?_
        exact ih hf
      · replace hf := ab_in c144 hf
        refine xr_iconst A (v := 1) dX1_fading_147 (by decide) ?_
        refine xr_goto A (tgt := 152) dX1_fading_148 (by decide) ?_
        refine xr_iadd A dX1_fading_152 ?_
        refine xr_istore A dX1_fading_153 (Nat.le_of_ble_eq_true rfl) (L' := [(5, vI (l5 + (1 : Int32))), (0, vR (some x)), (2, vI l2), (3, vI l3), (4, vI l4), (6, vI l6), (7, vI l7), (8, vI l8)]) rfl ?_
        refine xr_iinc A dX1_fading_155 7 rfl (v := (l8 + (1 : Int32))) rfl (Nat.le_of_ble_eq_true rfl) (L' := [(8, vI (l8 + (1 : Int32))), (5, vI (l5 + (1 : Int32))), (0, vR (some x)), (2, vI l2), (3, vI l3), (4, vI l4), (6, vI l6), (7, vI l7)]) rfl ?_
        refine xr_goto A (tgt := 105) dX1_fading_158 (by decide) ?_
        refine X.sub [2, 3, 4, 5, 1, 6, 7, 0] rfl ?_
        exact ih hf
noncomputable def fX1_fading_l93 (x : Nat) (K81 : Int32 → Int32 → Int32 → Int32 → Int32 → Hp → Option (Int32 × Hp)) : Nat → Int32 → Int32 → Int32 → Int32 → Int32 → Int32 → Hp → Option (Int32 × Hp)
  | 0, _, _, _, _, _, _, _ => none
  | n + 1, l2, l3, l4, l5, l6, l7, h =>
  if l2 ≤ l7 then (
    K81 l2 l3 l4 l5 (l6 + (1 : Int32)) h)
  else (
    fX1_fading_l105 x K81 (fX1_fading_l93 x K81 n) (hfu h) l2 l3 l4 l5 l6 l7 (l7 + (1 : Int32)) h)
theorem wX1_fading_l93 {D : Dd} {C : Cx} {h0 h' : Hp} {r : Int32} (A : Act C D (h0, (.inl (some (vI r))), h') yX1_fading cX1_fading 9 (some FieldType.int) 3 63 []) {x : Nat} {K81 : Int32 → Int32 → Int32 → Int32 → Int32 → Hp → Option (Int32 × Hp)} (hK81 : ∀ {l2 : Int32} {l3 : Int32} {l4 : Int32} {l5 : Int32} {l6 : Int32} {h : Hp}, K81 l2 l3 l4 l5 l6 h = some (r, h') → X C D (h0, (.inl (some (vI r))), h') 9 81 [(0, vR (some x)), (2, vI l2), (3, vI l3), (4, vI l4), (5, vI l5), (6, vI l6)] [] h) : ∀ (n : Nat) {l2 : Int32} {l3 : Int32} {l4 : Int32} {l5 : Int32} {l6 : Int32} {l7 : Int32} {h : Hp}, fX1_fading_l93 x K81 n l2 l3 l4 l5 l6 l7 h = some (r, h') → X C D (h0, (.inl (some (vI r))), h') 9 93 [(0, vR (some x)), (2, vI l2), (3, vI l3), (4, vI l4), (5, vI l5), (6, vI l6), (7, vI l7)] [] h := by
  intro n
  induction n with
  | zero => intro l2 l3 l4 l5 l6 l7 h hf; exact ab_no hf
  | succ n ih =>
    intro l2 l3 l4 l5 l6 l7 h hf
    unfold fX1_fading_l93 at hf
    refine xr_iload A dX1_fading_93 6 rfl ?_
    refine xr_iload_n A dX1_fading_95 1 rfl rfl ?_
    refine xr_icmp_ge A (tgt := 167) dX1_fading_96 (by decide) (fun c96 => ?_) (fun c96 => ?_)
    · replace hf := ab_ip c96 hf
      refine xr_iinc A dX1_fading_167 5 rfl (v := (l6 + (1 : Int32))) rfl (Nat.le_of_ble_eq_true rfl) (L' := [(6, vI (l6 + (1 : Int32))), (0, vR (some x)), (2, vI l2), (3, vI l3), (4, vI l4), (5, vI l5), (7, vI l7)]) rfl ?_
      refine xr_goto A (tgt := 81) dX1_fading_170 (by decide) ?_
      refine X.sub [1, 2, 3, 4, 5, 0] rfl ?_
      exact hK81 hf
    · replace hf := ab_in c96 hf
      refine xr_iload A dX1_fading_99 6 rfl ?_
      refine xr_iconst A (v := 1) dX1_fading_101 (by decide) ?_
      refine xr_iadd A dX1_fading_102 ?_
      refine xr_istore A dX1_fading_103 (Nat.le_of_ble_eq_true rfl) (L' := [(8, vI (l7 + (1 : Int32))), (0, vR (some x)), (2, vI l2), (3, vI l3), (4, vI l4), (5, vI l5), (6, vI l6), (7, vI l7)]) rfl ?_
      refine X.sub [1, 2, 3, 4, 5, 6, 7, 0] rfl ?_
      exact wX1_fading_l105 A @hK81 (fun hf => ih hf) _ hf
noncomputable def fX1_fading_l81 (x : Nat) : Nat → Int32 → Int32 → Int32 → Int32 → Int32 → Hp → Option (Int32 × Hp)
  | 0, _, _, _, _, _, _ => none
  | n + 1, l2, l3, l4, l5, l6, h =>
  if l2 ≤ l6 then (
    some (l5, h))
  else (
    fX1_fading_l93 x (fX1_fading_l81 x n) (hfu h) l2 l3 l4 l5 l6 (l6 + (1 : Int32)) h)
theorem wX1_fading_l81 {D : Dd} {C : Cx} {h0 h' : Hp} {r : Int32} (A : Act C D (h0, (.inl (some (vI r))), h') yX1_fading cX1_fading 9 (some FieldType.int) 3 63 []) {x : Nat} : ∀ (n : Nat) {l2 : Int32} {l3 : Int32} {l4 : Int32} {l5 : Int32} {l6 : Int32} {h : Hp}, fX1_fading_l81 x n l2 l3 l4 l5 l6 h = some (r, h') → X C D (h0, (.inl (some (vI r))), h') 9 81 [(0, vR (some x)), (2, vI l2), (3, vI l3), (4, vI l4), (5, vI l5), (6, vI l6)] [] h := by
  intro n
  induction n with
  | zero => intro l2 l3 l4 l5 l6 h hf; exact ab_no hf
  | succ n ih =>
    intro l2 l3 l4 l5 l6 h hf
    unfold fX1_fading_l81 at hf
    refine xr_iload A dX1_fading_81 5 rfl ?_
    refine xr_iload_n A dX1_fading_83 1 rfl rfl ?_
    refine xr_icmp_ge A (tgt := 173) dX1_fading_84 (by decide) (fun c84 => ?_) (fun c84 => ?_)
    · replace hf := ab_ip c84 hf
      refine xr_iload A dX1_fading_173 4 rfl ?_
      exact xr_ireturn A rfl hf dX1_fading_175
    · replace hf := ab_in c84 hf
      refine xr_iload A dX1_fading_87 5 rfl ?_
      refine xr_iconst A (v := 1) dX1_fading_89 (by decide) ?_
      refine xr_iadd A dX1_fading_90 ?_
      refine xr_istore A dX1_fading_91 (Nat.le_of_ble_eq_true rfl) (L' := [(7, vI (l6 + (1 : Int32))), (0, vR (some x)), (2, vI l2), (3, vI l3), (4, vI l4), (5, vI l5), (6, vI l6)]) rfl ?_
      refine X.sub [1, 2, 3, 4, 5, 6, 0] rfl ?_
      exact wX1_fading_l93 A (fun hf => ih hf) _ hf
noncomputable def fX1_fading (x : Nat) (p1 : Int32) (h : Hp) : Option (Int32 × Hp) :=
  ab_ck h x 0 <|
  ab_bd (fX1_anew x h) fun h2 =>
  ab_b2 (fX1_isHouse x p1 h2) fun v5 h4 =>
  if v5 = 0 then (
    ab_b2 (fX1_no x (1 : Int32) h4) fun v23 h22 =>
    some (v23, h22))
  else (
    ab_bd (ab_gR h4 x 0 36) fun v6 =>
    ab_bd v6 fun a7 =>
    ab_bd (ab_aI h4 a7 0 p1) fun v8 =>
    if (4 : Int32) ≤ v8 then (
      ab_bd (ab_gR h4 x 0 35) fun v9 =>
      ab_bd v9 fun a10 =>
      ab_bd (ab_aI h4 a10 0 ((((10 : Int32) * p1) + v8) - (1 : Int32))) fun v11 =>
      ab_bd (ab_gR h4 x 0 35) fun v12 =>
      ab_bd v12 fun a13 =>
      ab_bd (ab_aI h4 a13 0 ((((10 : Int32) * p1) + v8) - (2 : Int32))) fun v14 =>
      ab_bd (ab_gR h4 x 0 35) fun v15 =>
      ab_bd v15 fun a16 =>
      ab_bd (ab_aI h4 a16 0 ((((10 : Int32) * p1) + v8) - (3 : Int32))) fun v17 =>
      fX1_fading_l81 x (hfu h4) v8 ((10 : Int32) * p1) ((v11 + v14) + v17) (0 : Int32) (0 : Int32) h4)
    else (
      ab_b2 (fX1_no x (5 : Int32) h4) fun v20 h19 =>
      some (v20, h19)))
theorem wX1_fading (D : Dd) {x : Nat} {p1 : Int32} {h : Hp} {r : Int32} {h' : Hp} (hf : fX1_fading x p1 h = some (r, h')) : ab_is h x 0 ∧ Ct D 3 63 yX1_fading cX1_fading 9 (some FieldType.int) [vR (some x), vI p1] h (.inl (some (vI r))) h' := by
    unfold fX1_fading at hf
    replace hf := ab_ckE hf; obtain ⟨i0, hf⟩ := hf
    refine ⟨i0, ?_⟩
    refine Ct.of (by decide) (L := [(0, vR (some x)), (1, vI p1)]) rfl (Nat.le_of_ble_eq_true rfl) (fun C A => ?_)
    refine xr_aload_n A dX1_fading_0 0 rfl rfl ?_
    revert hf; refine ab_bdI (fun h2 m1 hf => ?_)
    refine xr_V0 A bX1_anew (wX1_anew D m1).2 xc_X1 (wX1_anew D m1).1 q402 qs2 q400 (av := []) (rest := []) rfl dX1_fading_1 (Nat.le_of_ble_eq_true rfl) (Nat.le_of_ble_eq_true rfl) rfl (Nat.le_of_ble_eq_true rfl) ?_
    refine xr_aload_n A dX1_fading_4 0 rfl rfl ?_
    refine xr_iload_n A dX1_fading_5 1 rfl rfl ?_
    revert hf; refine ab_b2I (fun v5 h4 m3 hf => ?_)
    refine xr_V A bX1_isHouse (wX1_isHouse D m3).2 xc_X1 (wX1_isHouse D m3).1 q1007 qs25 q1005 (av := [vI p1]) (rest := []) rfl dX1_fading_6 (Nat.le_of_ble_eq_true rfl) (Nat.le_of_ble_eq_true rfl) rfl (Nat.le_of_ble_eq_true rfl) ?_
    refine xr_if_ne A (tgt := 18) dX1_fading_9 (by decide) (fun c9 => ?_) (fun c9 => ?_)
    · replace hf := ab_in c9 hf
      refine xr_aload_n A dX1_fading_18 0 rfl rfl ?_
      revert hf; refine ab_bdI (fun v6 mv6 hf => ?_)
      refine xr_get A xc_X1 in_X1 36 (Nat.le_of_ble_eq_true rfl) q299 rfl (ab_gRE mv6) dX1_fading_19 ?_
      refine xr_iload_n A dX1_fading_22 1 rfl rfl ?_
      revert hf; refine ab_bdI (fun a7 e hf => ?_); subst e
      revert hf; refine ab_bdI (fun v8 mv8 hf => ?_)
      refine xr_iaload A mv8 dX1_fading_23 ?_
      refine xr_istore_n A dX1_fading_24 rfl (Nat.le_of_ble_eq_true rfl) (L' := [(2, vI v8), (0, vR (some x)), (1, vI p1)]) rfl ?_
      refine xr_iload_n A dX1_fading_25 0 rfl rfl ?_
      refine xr_iconst A (v := 4) dX1_fading_26 (by decide) ?_
      refine xr_icmp_ge A (tgt := 36) dX1_fading_27 (by decide) (fun c27 => ?_) (fun c27 => ?_)
      · replace hf := ab_ip c27 hf
        refine xr_bipush A (v := 10) dX1_fading_36 (by decide) ?_
        refine xr_iload_n A dX1_fading_38 2 rfl rfl ?_
        refine xr_imul A dX1_fading_39 ?_
        refine xr_istore_n A dX1_fading_40 rfl (Nat.le_of_ble_eq_true rfl) (L' := [(3, vI ((10 : Int32) * p1)), (2, vI v8), (0, vR (some x)), (1, vI p1)]) rfl ?_
        refine xr_aload_n A dX1_fading_41 2 rfl rfl ?_
        revert hf; refine ab_bdI (fun v9 mv9 hf => ?_)
        refine xr_get A xc_X1 in_X1 35 (Nat.le_of_ble_eq_true rfl) q298 rfl (ab_gRE mv9) dX1_fading_42 ?_
        refine xr_iload_n A dX1_fading_45 0 rfl rfl ?_
        refine xr_iload_n A dX1_fading_46 1 rfl rfl ?_
        refine xr_iadd A dX1_fading_47 ?_
        refine xr_iconst A (v := 1) dX1_fading_48 (by decide) ?_
        refine xr_isub A dX1_fading_49 ?_
        revert hf; refine ab_bdI (fun a10 e hf => ?_); subst e
        revert hf; refine ab_bdI (fun v11 mv11 hf => ?_)
        refine xr_iaload A mv11 dX1_fading_50 ?_
        refine xr_aload_n A dX1_fading_51 2 rfl rfl ?_
        revert hf; refine ab_bdI (fun v12 mv12 hf => ?_)
        refine xr_get A xc_X1 in_X1 35 (Nat.le_of_ble_eq_true rfl) q298 rfl (ab_gRE mv12) dX1_fading_52 ?_
        refine xr_iload_n A dX1_fading_55 0 rfl rfl ?_
        refine xr_iload_n A dX1_fading_56 1 rfl rfl ?_
        refine xr_iadd A dX1_fading_57 ?_
        refine xr_iconst A (v := 2) dX1_fading_58 (by decide) ?_
        refine xr_isub A dX1_fading_59 ?_
        revert hf; refine ab_bdI (fun a13 e hf => ?_); subst e
        revert hf; refine ab_bdI (fun v14 mv14 hf => ?_)
        refine xr_iaload A mv14 dX1_fading_60 ?_
        refine xr_iadd A dX1_fading_61 ?_
        refine xr_aload_n A dX1_fading_62 2 rfl rfl ?_
        revert hf; refine ab_bdI (fun v15 mv15 hf => ?_)
        refine xr_get A xc_X1 in_X1 35 (Nat.le_of_ble_eq_true rfl) q298 rfl (ab_gRE mv15) dX1_fading_63 ?_
        refine xr_iload_n A dX1_fading_66 0 rfl rfl ?_
        refine xr_iload_n A dX1_fading_67 1 rfl rfl ?_
        refine xr_iadd A dX1_fading_68 ?_
        refine xr_iconst A (v := 3) dX1_fading_69 (by decide) ?_
        refine xr_isub A dX1_fading_70 ?_
        revert hf; refine ab_bdI (fun a16 e hf => ?_); subst e
        revert hf; refine ab_bdI (fun v17 mv17 hf => ?_)
        refine xr_iaload A mv17 dX1_fading_71 ?_
        refine xr_iadd A dX1_fading_72 ?_
        refine xr_istore A dX1_fading_73 (Nat.le_of_ble_eq_true rfl) (L' := [(4, vI ((v11 + v14) + v17)), (3, vI ((10 : Int32) * p1)), (2, vI v8), (0, vR (some x)), (1, vI p1)]) rfl ?_
        refine xr_iconst A (v := 0) dX1_fading_75 (by decide) ?_
        refine xr_istore A dX1_fading_76 (Nat.le_of_ble_eq_true rfl) (L' := [(5, vI (0 : Int32)), (4, vI ((v11 + v14) + v17)), (3, vI ((10 : Int32) * p1)), (2, vI v8), (0, vR (some x)), (1, vI p1)]) rfl ?_
        refine xr_iconst A (v := 0) dX1_fading_78 (by decide) ?_
        refine xr_istore A dX1_fading_79 (Nat.le_of_ble_eq_true rfl) (L' := [(6, vI (0 : Int32)), (5, vI (0 : Int32)), (4, vI ((v11 + v14) + v17)), (3, vI ((10 : Int32) * p1)), (2, vI v8), (0, vR (some x)), (1, vI p1)]) rfl ?_
        refine X.sub [5, 4, 3, 2, 1, 0] rfl ?_
        exact wX1_fading_l81 A _ hf
      · replace hf := ab_in c27 hf
        refine xr_aload_n A dX1_fading_30 1 rfl rfl ?_
        refine xr_iconst A (v := 5) dX1_fading_31 (by decide) ?_
        revert hf; refine ab_b2I (fun v20 h19 m18 hf => ?_)
        refine xr_V A bX1_no (wX1_no D m18).2 xc_X1 (wX1_no D m18).1 q409 qs3 q407 (av := [vI (5 : Int32)]) (rest := []) rfl dX1_fading_32 (Nat.le_of_ble_eq_true rfl) (Nat.le_of_ble_eq_true rfl) rfl (Nat.le_of_ble_eq_true rfl) ?_
        exact xr_ireturn A rfl hf dX1_fading_35
    · replace hf := ab_ip c9 hf
      refine xr_aload_n A dX1_fading_12 0 rfl rfl ?_
      refine xr_iconst A (v := 1) dX1_fading_13 (by decide) ?_
      revert hf; refine ab_b2I (fun v23 h22 m21 hf => ?_)
      refine xr_V A bX1_no (wX1_no D m21).2 xc_X1 (wX1_no D m21).1 q409 qs3 q407 (av := [vI (1 : Int32)]) (rest := []) rfl dX1_fading_14 (Nat.le_of_ble_eq_true rfl) (Nat.le_of_ble_eq_true rfl) rfl (Nat.le_of_ble_eq_true rfl) ?_
      exact xr_ireturn A rfl hf dX1_fading_17
/-! X1_probe -/
theorem bX1_probe : MB yX1_probe cX1_probe 4 (some FieldType.int) 3 := ⟨q1242, q92, by decide, by decide +kernel⟩
noncomputable def fX1_probe (x : Nat) (p1 : Int32) (p2 : Int32) (p3 : Int32) (h : Hp) : Option (Int32 × Hp) :=
  ab_ck h x 0 <|
  ab_bd (fX1_anew x h) fun h2 =>
  ab_b2 (fX1_isCar x p1 h2) fun v5 h4 =>
  if v5 = 0 then (
    ab_b2 (fX1_no x (1 : Int32) h4) fun v46 h45 =>
    some (v46, h45))
  else (
    ab_bd (ab_gR h4 x 0 3) fun v6 =>
    ab_bd v6 fun a7 =>
    ab_bd (ab_gR h4 a7 5 4) fun v8 =>
    ab_bd v8 fun a9 =>
    ab_bd (ab_aR h4 a9 10 p1) fun v10 =>
    ab_bd v10 fun a11 =>
    ab_bd (ab_gI h4 a11 10 3) fun v12 =>
    ab_b2 (fX1_in p2 v12 (999 : Int32) h4) fun v15 h14 =>
    if v15 = 0 then (
      ab_b2 (fX1_no x (2 : Int32) h14) fun v18 h17 =>
      some (v18, h17))
    else (
      ab_b2 (fX1_in p3 (0 : Int32) (99 : Int32) h14) fun v21 h20 =>
      if v21 = 0 then (
        ab_b2 (fX1_no x (2 : Int32) h20) fun v43 h42 =>
        some (v43, h42))
      else (
        ab_bd (ab_gI h20 x 0 40) fun v22 =>
        if v22 = (16 : Int32) then (
          ab_b2 (fX1_no x (3 : Int32) h20) fun v40 h39 =>
          some (v40, h39))
        else (
          ab_bd (ab_gR h20 x 0 37) fun v23 =>
          ab_bd (ab_gI h20 x 0 40) fun v24 =>
          ab_bd v23 fun a25 =>
          ab_bd (ab_sI h20 a25 v24 p1) fun h26 =>
          ab_bd (ab_gR h26 x 0 38) fun v27 =>
          ab_bd (ab_gI h26 x 0 40) fun v28 =>
          ab_bd v27 fun a29 =>
          ab_bd (ab_sI h26 a29 v28 p2) fun h30 =>
          ab_bd (ab_gR h30 x 0 39) fun v31 =>
          ab_bd (ab_gI h30 x 0 40) fun v32 =>
          ab_bd v31 fun a33 =>
          ab_bd (ab_sI h30 a33 v32 p3) fun h34 =>
          ab_bd (ab_gI h34 x 0 40) fun v35 =>
          ab_bd (ab_pI h34 x 0 40 (v35 + (1 : Int32))) fun h36 =>
          ab_bd (ab_gI h36 x 0 40) fun v37 =>
          some (v37, h36)))))
theorem wX1_probe (D : Dd) {x : Nat} {p1 : Int32} {p2 : Int32} {p3 : Int32} {h : Hp} {r : Int32} {h' : Hp} (hf : fX1_probe x p1 p2 p3 h = some (r, h')) : ab_is h x 0 ∧ Ct D 3 63 yX1_probe cX1_probe 4 (some FieldType.int) [vR (some x), vI p1, vI p2, vI p3] h (.inl (some (vI r))) h' := by
    unfold fX1_probe at hf
    replace hf := ab_ckE hf; obtain ⟨i0, hf⟩ := hf
    refine ⟨i0, ?_⟩
    refine Ct.of (by decide) (L := [(0, vR (some x)), (1, vI p1), (2, vI p2), (3, vI p3)]) rfl (Nat.le_of_ble_eq_true rfl) (fun C A => ?_)
    refine xr_aload_n A dX1_probe_0 0 rfl rfl ?_
    revert hf; refine ab_bdI (fun h2 m1 hf => ?_)
    refine xr_V0 A bX1_anew (wX1_anew D m1).2 xc_X1 (wX1_anew D m1).1 q402 qs2 q400 (av := []) (rest := []) rfl dX1_probe_1 (Nat.le_of_ble_eq_true rfl) (Nat.le_of_ble_eq_true rfl) rfl (Nat.le_of_ble_eq_true rfl) ?_
    refine xr_aload_n A dX1_probe_4 0 rfl rfl ?_
    refine xr_iload_n A dX1_probe_5 1 rfl rfl ?_
    revert hf; refine ab_b2I (fun v5 h4 m3 hf => ?_)
    refine xr_V A bX1_isCar (wX1_isCar D m3).2 xc_X1 (wX1_isCar D m3).1 q1003 qs24 q1001 (av := [vI p1]) (rest := []) rfl dX1_probe_6 (Nat.le_of_ble_eq_true rfl) (Nat.le_of_ble_eq_true rfl) rfl (Nat.le_of_ble_eq_true rfl) ?_
    refine xr_if_ne A (tgt := 18) dX1_probe_9 (by decide) (fun c9 => ?_) (fun c9 => ?_)
    · replace hf := ab_in c9 hf
      refine xr_iload_n A dX1_probe_18 2 rfl rfl ?_
      refine xr_aload_n A dX1_probe_19 0 rfl rfl ?_
      revert hf; refine ab_bdI (fun v6 mv6 hf => ?_)
      refine xr_get A xc_X1 in_X1 3 (Nat.le_of_ble_eq_true rfl) q266 rfl (ab_gRE mv6) dX1_probe_20 ?_
      revert hf; refine ab_bdI (fun a7 e hf => ?_); subst e
      revert hf; refine ab_bdI (fun v8 mv8 hf => ?_)
      refine xr_get A xc_X6 in_X6 4 (Nat.le_of_ble_eq_true rfl) q448 rfl (ab_gRE mv8) dX1_probe_23 ?_
      refine xr_iload_n A dX1_probe_26 1 rfl rfl ?_
      revert hf; refine ab_bdI (fun a9 e hf => ?_); subst e
      revert hf; refine ab_bdI (fun v10 mv10 hf => ?_)
      refine xr_aaload A (t := 10) rfl mv10 dX1_probe_27 ?_
      revert hf; refine ab_bdI (fun a11 e hf => ?_); subst e
      revert hf; refine ab_bdI (fun v12 mv12 hf => ?_)
      refine xr_get A xc_X12 in_X12 3 (Nat.le_of_ble_eq_true rfl) q917 rfl (ab_gIE mv12) dX1_probe_28 ?_
      refine xr_sipush A (v := 999) dX1_probe_31 (by decide) ?_
      revert hf; refine ab_b2I (fun v15 h14 m13 hf => ?_)
      refine xr_S A bX1_in (wX1_in D m13) q405 q404 (av := [vI p2, vI v12, vI (999 : Int32)]) (rest := []) rfl dX1_probe_34 (Nat.le_of_ble_eq_true rfl) (Nat.le_of_ble_eq_true rfl) rfl (Nat.le_of_ble_eq_true rfl) ?_
      refine xr_if_eq A (tgt := 50) dX1_probe_37 (by decide) (fun c37 => ?_) (fun c37 => ?_)
      · replace hf := ab_ip c37 hf
        refine xr_aload_n A dX1_probe_50 0 rfl rfl ?_
        refine xr_iconst A (v := 2) dX1_probe_51 (by decide) ?_
        revert hf; refine ab_b2I (fun v18 h17 m16 hf => ?_)
        refine xr_V A bX1_no (wX1_no D m16).2 xc_X1 (wX1_no D m16).1 q409 qs3 q407 (av := [vI (2 : Int32)]) (rest := []) rfl dX1_probe_52 (Nat.le_of_ble_eq_true rfl) (Nat.le_of_ble_eq_true rfl) rfl (Nat.le_of_ble_eq_true rfl) ?_
        exact xr_ireturn A rfl hf dX1_probe_55
      · replace hf := ab_in c37 hf
        refine xr_iload_n A dX1_probe_40 3 rfl rfl ?_
        refine xr_iconst A (v := 0) dX1_probe_41 (by decide) ?_
        refine xr_bipush A (v := 99) dX1_probe_42 (by decide) ?_
        revert hf; refine ab_b2I (fun v21 h20 m19 hf => ?_)
        refine xr_S A bX1_in (wX1_in D m19) q405 q404 (av := [vI p3, vI (0 : Int32), vI (99 : Int32)]) (rest := []) rfl dX1_probe_44 (Nat.le_of_ble_eq_true rfl) (Nat.le_of_ble_eq_true rfl) rfl (Nat.le_of_ble_eq_true rfl) ?_
        refine xr_if_ne A (tgt := 56) dX1_probe_47 (by decide) (fun c47 => ?_) (fun c47 => ?_)
        · replace hf := ab_in c47 hf
          refine xr_aload_n A dX1_probe_56 0 rfl rfl ?_
          revert hf; refine ab_bdI (fun v22 mv22 hf => ?_)
          refine xr_get A xc_X1 in_X1 40 (Nat.le_of_ble_eq_true rfl) q303 rfl (ab_gIE mv22) dX1_probe_57 ?_
          refine xr_bipush A (v := 16) dX1_probe_60 (by decide) ?_
          refine xr_icmp_ne A (tgt := 71) dX1_probe_62 (by decide) (fun c62 => ?_) (fun c62 => ?_)
          · replace hf := ab_in c62 hf
            refine xr_aload_n A dX1_probe_71 0 rfl rfl ?_
            revert hf; refine ab_bdI (fun v23 mv23 hf => ?_)
            refine xr_get A xc_X1 in_X1 37 (Nat.le_of_ble_eq_true rfl) q300 rfl (ab_gRE mv23) dX1_probe_72 ?_
            refine xr_aload_n A dX1_probe_75 0 rfl rfl ?_
            revert hf; refine ab_bdI (fun v24 mv24 hf => ?_)
            refine xr_get A xc_X1 in_X1 40 (Nat.le_of_ble_eq_true rfl) q303 rfl (ab_gIE mv24) dX1_probe_76 ?_
            refine xr_iload_n A dX1_probe_79 1 rfl rfl ?_
            revert hf; refine ab_bdI (fun a25 e hf => ?_); subst e
            revert hf; refine ab_bdI (fun h26 mh26 hf => ?_)
            refine xr_iastore A mh26 dX1_probe_80 ?_
            refine xr_aload_n A dX1_probe_81 0 rfl rfl ?_
            revert hf; refine ab_bdI (fun v27 mv27 hf => ?_)
            refine xr_get A xc_X1 in_X1 38 (Nat.le_of_ble_eq_true rfl) q301 rfl (ab_gRE mv27) dX1_probe_82 ?_
            refine xr_aload_n A dX1_probe_85 0 rfl rfl ?_
            revert hf; refine ab_bdI (fun v28 mv28 hf => ?_)
            refine xr_get A xc_X1 in_X1 40 (Nat.le_of_ble_eq_true rfl) q303 rfl (ab_gIE mv28) dX1_probe_86 ?_
            refine xr_iload_n A dX1_probe_89 2 rfl rfl ?_
            revert hf; refine ab_bdI (fun a29 e hf => ?_); subst e
            revert hf; refine ab_bdI (fun h30 mh30 hf => ?_)
            refine xr_iastore A mh30 dX1_probe_90 ?_
            refine xr_aload_n A dX1_probe_91 0 rfl rfl ?_
            revert hf; refine ab_bdI (fun v31 mv31 hf => ?_)
            refine xr_get A xc_X1 in_X1 39 (Nat.le_of_ble_eq_true rfl) q302 rfl (ab_gRE mv31) dX1_probe_92 ?_
            refine xr_aload_n A dX1_probe_95 0 rfl rfl ?_
            revert hf; refine ab_bdI (fun v32 mv32 hf => ?_)
            refine xr_get A xc_X1 in_X1 40 (Nat.le_of_ble_eq_true rfl) q303 rfl (ab_gIE mv32) dX1_probe_96 ?_
            refine xr_iload_n A dX1_probe_99 3 rfl rfl ?_
            revert hf; refine ab_bdI (fun a33 e hf => ?_); subst e
            revert hf; refine ab_bdI (fun h34 mh34 hf => ?_)
            refine xr_iastore A mh34 dX1_probe_100 ?_
            refine xr_aload_n A dX1_probe_101 0 rfl rfl ?_
            refine xr_dup A dX1_probe_102 rfl ?_
            revert hf; refine ab_bdI (fun v35 mv35 hf => ?_)
            refine xr_get A xc_X1 in_X1 40 (Nat.le_of_ble_eq_true rfl) q303 rfl (ab_gIE mv35) dX1_probe_103 ?_
            refine xr_iconst A (v := 1) dX1_probe_106 (by decide) ?_
            refine xr_iadd A dX1_probe_107 ?_
            revert hf; refine ab_bdI (fun h36 mh36 hf => ?_)
            refine xr_put A xc_X1 in_X1 tyX1_ok nmX1 40 (Nat.le_of_ble_eq_true rfl) q303 rfl rfl (v := vI (v35 + (1 : Int32))) rfl rfl mh36 dX1_probe_108 ?_
            refine xr_aload_n A dX1_probe_111 0 rfl rfl ?_
            revert hf; refine ab_bdI (fun v37 mv37 hf => ?_)
            refine xr_get A xc_X1 in_X1 40 (Nat.le_of_ble_eq_true rfl) q303 rfl (ab_gIE mv37) dX1_probe_112 ?_
            exact xr_ireturn A rfl hf dX1_probe_115
          · replace hf := ab_ip c62 hf
            refine xr_aload_n A dX1_probe_65 0 rfl rfl ?_
            refine xr_iconst A (v := 3) dX1_probe_66 (by decide) ?_
            revert hf; refine ab_b2I (fun v40 h39 m38 hf => ?_)
            refine xr_V A bX1_no (wX1_no D m38).2 xc_X1 (wX1_no D m38).1 q409 qs3 q407 (av := [vI (3 : Int32)]) (rest := []) rfl dX1_probe_67 (Nat.le_of_ble_eq_true rfl) (Nat.le_of_ble_eq_true rfl) rfl (Nat.le_of_ble_eq_true rfl) ?_
            exact xr_ireturn A rfl hf dX1_probe_70
        · replace hf := ab_ip c47 hf
          refine xr_aload_n A dX1_probe_50 0 rfl rfl ?_
          refine xr_iconst A (v := 2) dX1_probe_51 (by decide) ?_
          revert hf; refine ab_b2I (fun v43 h42 m41 hf => ?_)
          refine xr_V A bX1_no (wX1_no D m41).2 xc_X1 (wX1_no D m41).1 q409 qs3 q407 (av := [vI (2 : Int32)]) (rest := []) rfl dX1_probe_52 (Nat.le_of_ble_eq_true rfl) (Nat.le_of_ble_eq_true rfl) rfl (Nat.le_of_ble_eq_true rfl) ?_
          exact xr_ireturn A rfl hf dX1_probe_55
    · replace hf := ab_ip c9 hf
      refine xr_aload_n A dX1_probe_12 0 rfl rfl ?_
      refine xr_iconst A (v := 1) dX1_probe_13 (by decide) ?_
      revert hf; refine ab_b2I (fun v46 h45 m44 hf => ?_)
      refine xr_V A bX1_no (wX1_no D m44).2 xc_X1 (wX1_no D m44).1 q409 qs3 q407 (av := [vI (1 : Int32)]) (rest := []) rfl dX1_probe_14 (Nat.le_of_ble_eq_true rfl) (Nat.le_of_ble_eq_true rfl) rfl (Nat.le_of_ble_eq_true rfl) ?_
      exact xr_ireturn A rfl hf dX1_probe_17
/-! X1_faulty -/
theorem bX1_faulty : MB yX1_faulty cX1_faulty 5 (some FieldType.int) 1 := ⟨q1246, q92, by decide, by decide +kernel⟩
noncomputable def fX1_faulty_b91 (x : Nat) (K37 : Int32 → Int32 → Int32 → Hp → Option (Int32 × Hp)) (l1 : Int32) (l3 : Int32) (s0 : Int32) (s1 : Int32) (h : Hp) : Option (Int32 × Hp) :=
  if s0 ≤ l1 then (
    K37 l1 (s1 ||| (0 : Int32)) (l3 + (1 : Int32)) h)
  else (
    K37 l1 (s1 ||| ((1 : Int32) <<< (l3 &&& 31))) (l3 + (1 : Int32)) h)
theorem wX1_faulty_b91 {D : Dd} {C : Cx} {h0 h' : Hp} {r : Int32} (A : Act C D (h0, (.inl (some (vI r))), h') yX1_faulty cX1_faulty 5 (some FieldType.int) 2 42 []) {x : Nat} {K37 : Int32 → Int32 → Int32 → Hp → Option (Int32 × Hp)} (hK37 : ∀ {l1 : Int32} {l2 : Int32} {l3 : Int32} {h : Hp}, K37 l1 l2 l3 h = some (r, h') → X C D (h0, (.inl (some (vI r))), h') 5 37 [(0, vR (some x)), (1, vI l1), (2, vI l2), (3, vI l3)] [] h) {l1 : Int32} {l3 : Int32} {s0 : Int32} {s1 : Int32} {h : Hp} (hf : fX1_faulty_b91 x K37 l1 l3 s0 s1 h = some (r, h')) : X C D (h0, (.inl (some (vI r))), h') 5 91 [(0, vR (some x)), (1, vI l1), (3, vI l3)] [vI s0, vI s1] h := by
  unfold fX1_faulty_b91 at hf
  refine xr_iload_n A dX1_faulty_91 1 rfl rfl ?_
  refine xr_icmp_le A (tgt := 101) dX1_faulty_92 (by decide) (fun c92 => ?_) (fun c92 => ?_)
  · replace hf := ab_ip c92 hf
    refine xr_iconst A (v := 0) dX1_faulty_101 (by decide) ?_
    refine xr_ior A dX1_faulty_102 ?_
    refine xr_istore_n A dX1_faulty_103 rfl (Nat.le_of_ble_eq_true rfl) (L' := [(2, vI (s1 ||| (0 : Int32))), (0, vR (some x)), (1, vI l1), (3, vI l3)]) rfl ?_
    refine xr_iinc A dX1_faulty_104 3 rfl (v := (l3 + (1 : Int32))) rfl (Nat.le_of_ble_eq_true rfl) (L' := [(3, vI (l3 + (1 : Int32))), (2, vI (s1 ||| (0 : Int32))), (0, vR (some x)), (1, vI l1)]) rfl ?_
    refine xr_goto A (tgt := 37) dX1_faulty_107 (by decide) ?_
    refine X.sub [2, 3, 1, 0] rfl ?_
    exact hK37 hf
  · replace hf := ab_in c92 hf
    refine xr_iconst A (v := 1) dX1_faulty_95 (by decide) ?_
    refine xr_iload_n A dX1_faulty_96 2 rfl rfl ?_
    refine xr_ishl A dX1_faulty_97 ?_
    refine xr_goto A (tgt := 102) dX1_faulty_98 (by decide) ?_
    refine xr_ior A dX1_faulty_102 ?_
    refine xr_istore_n A dX1_faulty_103 rfl (Nat.le_of_ble_eq_true rfl) (L' := [(2, vI (s1 ||| ((1 : Int32) <<< (l3 &&& 31)))), (0, vR (some x)), (1, vI l1), (3, vI l3)]) rfl ?_
    refine xr_iinc A dX1_faulty_104 3 rfl (v := (l3 + (1 : Int32))) rfl (Nat.le_of_ble_eq_true rfl) (L' := [(3, vI (l3 + (1 : Int32))), (2, vI (s1 ||| ((1 : Int32) <<< (l3 &&& 31)))), (0, vR (some x)), (1, vI l1)]) rfl ?_
    refine xr_goto A (tgt := 37) dX1_faulty_107 (by decide) ?_
    refine X.sub [2, 3, 1, 0] rfl ?_
    exact hK37 hf
noncomputable def fX1_faulty_l37 (x : Nat) : Nat → Int32 → Int32 → Int32 → Hp → Option (Int32 × Hp)
  | 0, _, _, _, _ => none
  | n + 1, l1, l2, l3, h =>
  ab_bd (ab_gI h x 0 40) fun v1 =>
  if v1 ≤ l3 then (
    some (l2, h))
  else (
    ab_bd (ab_gR h x 0 3) fun v2 =>
    ab_bd v2 fun a3 =>
    ab_bd (ab_gR h a3 5 4) fun v4 =>
    ab_bd (ab_gR h x 0 37) fun v5 =>
    ab_bd v5 fun a6 =>
    ab_bd (ab_aI h a6 0 l3) fun v7 =>
    ab_bd v4 fun a8 =>
    ab_bd (ab_aR h a8 10 v7) fun v9 =>
    ab_bd (ab_gR h x 0 38) fun v10 =>
    ab_bd v10 fun a11 =>
    ab_bd (ab_aI h a11 0 l3) fun v12 =>
    ab_bd v9 fun a13 =>
    ab_b2 (fX12_heat a13 v12 h) fun v16 h15 =>
    ab_bd (ab_gR h15 x 0 39) fun v17 =>
    ab_bd v17 fun a18 =>
    ab_bd (ab_aI h15 a18 0 l3) fun v19 =>
    if 0 ≤ (v16 - v19) then (
      fX1_faulty_b91 x (fX1_faulty_l37 x n) l1 l3 (v16 - v19) l2 h15)
    else (
      fX1_faulty_b91 x (fX1_faulty_l37 x n) l1 l3 (-(v16 - v19)) l2 h15))
theorem wX1_faulty_l37 {D : Dd} {C : Cx} {h0 h' : Hp} {r : Int32} (A : Act C D (h0, (.inl (some (vI r))), h') yX1_faulty cX1_faulty 5 (some FieldType.int) 2 42 []) {x : Nat} : ∀ (n : Nat) {l1 : Int32} {l2 : Int32} {l3 : Int32} {h : Hp}, fX1_faulty_l37 x n l1 l2 l3 h = some (r, h') → X C D (h0, (.inl (some (vI r))), h') 5 37 [(0, vR (some x)), (1, vI l1), (2, vI l2), (3, vI l3)] [] h := by
  intro n
  induction n with
  | zero => intro l1 l2 l3 h hf; exact ab_no hf
  | succ n ih =>
    intro l1 l2 l3 h hf
    unfold fX1_faulty_l37 at hf
    refine xr_iload_n A dX1_faulty_37 3 rfl rfl ?_
    refine xr_aload_n A dX1_faulty_38 0 rfl rfl ?_
    revert hf; refine ab_bdI (fun v1 mv1 hf => ?_)
    refine xr_get A xc_X1 in_X1 40 (Nat.le_of_ble_eq_true rfl) q303 rfl (ab_gIE mv1) dX1_faulty_39 ?_
    refine xr_icmp_ge A (tgt := 110) dX1_faulty_42 (by decide) (fun c42 => ?_) (fun c42 => ?_)
    · replace hf := ab_ip c42 hf
      refine xr_iload_n A dX1_faulty_110 2 rfl rfl ?_
      exact xr_ireturn A rfl hf dX1_faulty_111
    · replace hf := ab_in c42 hf
      refine xr_aload_n A dX1_faulty_45 0 rfl rfl ?_
      revert hf; refine ab_bdI (fun v2 mv2 hf => ?_)
      refine xr_get A xc_X1 in_X1 3 (Nat.le_of_ble_eq_true rfl) q266 rfl (ab_gRE mv2) dX1_faulty_46 ?_
      revert hf; refine ab_bdI (fun a3 e hf => ?_); subst e
      revert hf; refine ab_bdI (fun v4 mv4 hf => ?_)
      refine xr_get A xc_X6 in_X6 4 (Nat.le_of_ble_eq_true rfl) q448 rfl (ab_gRE mv4) dX1_faulty_49 ?_
      refine xr_aload_n A dX1_faulty_52 0 rfl rfl ?_
      revert hf; refine ab_bdI (fun v5 mv5 hf => ?_)
      refine xr_get A xc_X1 in_X1 37 (Nat.le_of_ble_eq_true rfl) q300 rfl (ab_gRE mv5) dX1_faulty_53 ?_
      refine xr_iload_n A dX1_faulty_56 3 rfl rfl ?_
      revert hf; refine ab_bdI (fun a6 e hf => ?_); subst e
      revert hf; refine ab_bdI (fun v7 mv7 hf => ?_)
      refine xr_iaload A mv7 dX1_faulty_57 ?_
      revert hf; refine ab_bdI (fun a8 e hf => ?_); subst e
      revert hf; refine ab_bdI (fun v9 mv9 hf => ?_)
      refine xr_aaload A (t := 10) rfl mv9 dX1_faulty_58 ?_
      refine xr_aload_n A dX1_faulty_59 0 rfl rfl ?_
      revert hf; refine ab_bdI (fun v10 mv10 hf => ?_)
      refine xr_get A xc_X1 in_X1 38 (Nat.le_of_ble_eq_true rfl) q301 rfl (ab_gRE mv10) dX1_faulty_60 ?_
      refine xr_iload_n A dX1_faulty_63 3 rfl rfl ?_
      revert hf; refine ab_bdI (fun a11 e hf => ?_); subst e
      revert hf; refine ab_bdI (fun v12 mv12 hf => ?_)
      refine xr_iaload A mv12 dX1_faulty_64 ?_
      revert hf; refine ab_bdI (fun a13 e hf => ?_); subst e
      revert hf; refine ab_b2I (fun v16 h15 m14 hf => ?_)
      refine xr_V A bX12_heat (wX12_heat D m14).2 xc_X12 (wX12_heat D m14).1 q1068 q1069 q1076 (av := [vI v12]) (rest := []) rfl dX1_faulty_65 (Nat.le_of_ble_eq_true rfl) (Nat.le_of_ble_eq_true rfl) rfl (Nat.le_of_ble_eq_true rfl) ?_
      refine xr_aload_n A dX1_faulty_68 0 rfl rfl ?_
      revert hf; refine ab_bdI (fun v17 mv17 hf => ?_)
      refine xr_get A xc_X1 in_X1 39 (Nat.le_of_ble_eq_true rfl) q302 rfl (ab_gRE mv17) dX1_faulty_69 ?_
      refine xr_iload_n A dX1_faulty_72 3 rfl rfl ?_
      revert hf; refine ab_bdI (fun a18 e hf => ?_); subst e
      revert hf; refine ab_bdI (fun v19 mv19 hf => ?_)
      refine xr_iaload A mv19 dX1_faulty_73 ?_
      refine xr_isub A dX1_faulty_74 ?_
      refine xr_istore A dX1_faulty_75 (Nat.le_of_ble_eq_true rfl) (L' := [(4, vI (v16 - v19)), (0, vR (some x)), (1, vI l1), (2, vI l2), (3, vI l3)]) rfl ?_
      refine xr_iload_n A dX1_faulty_77 3 rfl rfl ?_
      refine xr_iload A dX1_faulty_78 0 rfl ?_
      refine xr_if_ge A (tgt := 89) dX1_faulty_80 (by decide) (fun c80 => ?_) (fun c80 => ?_)
      · replace hf := ab_ip c80 hf
        refine xr_iload A dX1_faulty_89 0 rfl ?_
        refine X.sub [1, 2, 4] rfl ?_
        exact wX1_faulty_b91 A (fun hf => ih hf) hf
      · replace hf := ab_in c80 hf
        refine xr_iload A dX1_faulty_83 0 rfl ?_
        refine xr_ineg A dX1_faulty_85 ?_
        refine xr_goto A (tgt := 91) dX1_faulty_86 (by decide) ?_
        refine X.sub [1, 2, 4] rfl ?_
        exact wX1_faulty_b91 A (fun hf => ih hf) hf
noncomputable def fX1_faulty (x : Nat) (p1 : Int32) (h : Hp) : Option (Int32 × Hp) :=
  ab_ck h x 0 <|
  ab_bd (fX1_anew x h) fun h2 =>
  ab_bd (ab_gR h2 x 0 3) fun v3 =>
  ab_on v3 (
    ab_b2 (fX1_no x (1 : Int32) h2) fun v7 h6 =>
    some (v7, h6)) fun a4 => (
    ab_b2 (fX1_in p1 (0 : Int32) (99 : Int32) h2) fun v10 h9 =>
    if v10 = 0 then (
      ab_b2 (fX1_no x (2 : Int32) h9) fun v13 h12 =>
      some (v13, h12))
    else (
      fX1_faulty_l37 x (hfu h9) p1 (0 : Int32) (0 : Int32) h9))
theorem wX1_faulty (D : Dd) {x : Nat} {p1 : Int32} {h : Hp} {r : Int32} {h' : Hp} (hf : fX1_faulty x p1 h = some (r, h')) : ab_is h x 0 ∧ Ct D 2 42 yX1_faulty cX1_faulty 5 (some FieldType.int) [vR (some x), vI p1] h (.inl (some (vI r))) h' := by
    unfold fX1_faulty at hf
    replace hf := ab_ckE hf; obtain ⟨i0, hf⟩ := hf
    refine ⟨i0, ?_⟩
    refine Ct.of (by decide) (L := [(0, vR (some x)), (1, vI p1)]) rfl (Nat.le_of_ble_eq_true rfl) (fun C A => ?_)
    refine xr_aload_n A dX1_faulty_0 0 rfl rfl ?_
    revert hf; refine ab_bdI (fun h2 m1 hf => ?_)
    refine xr_V0 A bX1_anew (wX1_anew D m1).2 xc_X1 (wX1_anew D m1).1 q402 qs2 q400 (av := []) (rest := []) rfl dX1_faulty_1 (Nat.le_of_ble_eq_true rfl) (Nat.le_of_ble_eq_true rfl) rfl (Nat.le_of_ble_eq_true rfl) ?_
    refine xr_aload_n A dX1_faulty_4 0 rfl rfl ?_
    revert hf; refine ab_bdI (fun v3 mv3 hf => ?_)
    refine xr_get A xc_X1 in_X1 3 (Nat.le_of_ble_eq_true rfl) q266 rfl (ab_gRE mv3) dX1_faulty_5 ?_
    revert hf; refine ab_onI (fun e hf => ?_) (fun a4 e hf => ?_) <;> subst e
    · refine xr_ifnonnull A (tgt := 17) dX1_faulty_8 (by decide) (fun _ e => by cases e) (fun _ => ?_)
      refine xr_aload_n A dX1_faulty_11 0 rfl rfl ?_
      refine xr_iconst A (v := 1) dX1_faulty_12 (by decide) ?_
      revert hf; refine ab_b2I (fun v7 h6 m5 hf => ?_)
      refine xr_V A bX1_no (wX1_no D m5).2 xc_X1 (wX1_no D m5).1 q409 qs3 q407 (av := [vI (1 : Int32)]) (rest := []) rfl dX1_faulty_13 (Nat.le_of_ble_eq_true rfl) (Nat.le_of_ble_eq_true rfl) rfl (Nat.le_of_ble_eq_true rfl) ?_
      exact xr_ireturn A rfl hf dX1_faulty_16
    · refine xr_ifnonnull A (tgt := 17) dX1_faulty_8 (by decide) (fun _ _ => ?_) (fun e => by cases e)
      refine xr_iload_n A dX1_faulty_17 1 rfl rfl ?_
      refine xr_iconst A (v := 0) dX1_faulty_18 (by decide) ?_
      refine xr_bipush A (v := 99) dX1_faulty_19 (by decide) ?_
      revert hf; refine ab_b2I (fun v10 h9 m8 hf => ?_)
      refine xr_S A bX1_in (wX1_in D m8) q405 q404 (av := [vI p1, vI (0 : Int32), vI (99 : Int32)]) (rest := []) rfl dX1_faulty_21 (Nat.le_of_ble_eq_true rfl) (Nat.le_of_ble_eq_true rfl) rfl (Nat.le_of_ble_eq_true rfl) ?_
      refine xr_if_ne A (tgt := 33) dX1_faulty_24 (by decide) (fun c24 => ?_) (fun c24 => ?_)
      · replace hf := ab_in c24 hf
        refine xr_iconst A (v := 0) dX1_faulty_33 (by decide) ?_
        refine xr_istore_n A dX1_faulty_34 rfl (Nat.le_of_ble_eq_true rfl) (L' := [(2, vI (0 : Int32)), (0, vR (some x)), (1, vI p1)]) rfl ?_
        refine xr_iconst A (v := 0) dX1_faulty_35 (by decide) ?_
        refine xr_istore_n A dX1_faulty_36 rfl (Nat.le_of_ble_eq_true rfl) (L' := [(3, vI (0 : Int32)), (2, vI (0 : Int32)), (0, vR (some x)), (1, vI p1)]) rfl ?_
        refine X.sub [2, 3, 1, 0] rfl ?_
        exact wX1_faulty_l37 A _ hf
      · replace hf := ab_ip c24 hf
        refine xr_aload_n A dX1_faulty_27 0 rfl rfl ?_
        refine xr_iconst A (v := 2) dX1_faulty_28 (by decide) ?_
        revert hf; refine ab_b2I (fun v13 h12 m11 hf => ?_)
        refine xr_V A bX1_no (wX1_no D m11).2 xc_X1 (wX1_no D m11).1 q409 qs3 q407 (av := [vI (2 : Int32)]) (rest := []) rfl dX1_faulty_29 (Nat.le_of_ble_eq_true rfl) (Nat.le_of_ble_eq_true rfl) rfl (Nat.le_of_ble_eq_true rfl) ?_
        exact xr_ireturn A rfl hf dX1_faulty_32
/-! X1_firstCold -/
theorem bX1_firstCold : MB yX1_firstCold cX1_firstCold 3 (some FieldType.int) 0 := ⟨q1250, q92, by decide, by decide +kernel⟩
noncomputable def fX1_firstCold_l22 (x : Nat) : Nat → Int32 → Int32 → Hp → Option (Int32 × Hp)
  | 0, _, _, _ => none
  | n + 1, l1, l2, h =>
  ab_bd (ab_gI h x 0 40) fun v1 =>
  if v1 ≤ l2 then (
    some (l1, h))
  else (
    ab_bd (ab_gR h x 0 39) fun v2 =>
    ab_bd v2 fun a3 =>
    ab_bd (ab_aI h a3 0 l2) fun v4 =>
    ab_bd (ab_gR h x 0 3) fun v5 =>
    ab_bd v5 fun a6 =>
    ab_bd (ab_gI h a6 5 17) fun v7 =>
    if v7 ≤ v4 then (
      fX1_firstCold_l22 x n l1 (l2 + (1 : Int32)) h)
    else (
      if l1 = (-2 : Int32) then (
        fX1_firstCold_l22 x n l2 (l2 + (1 : Int32)) h)
      else (
        ab_bd (ab_gR h x 0 38) fun v8 =>
        ab_bd v8 fun a9 =>
        ab_bd (ab_aI h a9 0 l2) fun v10 =>
        ab_bd (ab_gR h x 0 38) fun v11 =>
        ab_bd v11 fun a12 =>
        ab_bd (ab_aI h a12 0 l1) fun v13 =>
        if v13 ≤ v10 then (
          fX1_firstCold_l22 x n l1 (l2 + (1 : Int32)) h)
        else (
          fX1_firstCold_l22 x n l2 (l2 + (1 : Int32)) h))))
theorem wX1_firstCold_l22 {D : Dd} {C : Cx} {h0 h' : Hp} {r : Int32} (A : Act C D (h0, (.inl (some (vI r))), h') yX1_firstCold cX1_firstCold 3 (some FieldType.int) 2 41 []) {x : Nat} : ∀ (n : Nat) {l1 : Int32} {l2 : Int32} {h : Hp}, fX1_firstCold_l22 x n l1 l2 h = some (r, h') → X C D (h0, (.inl (some (vI r))), h') 3 22 [(0, vR (some x)), (1, vI l1), (2, vI l2)] [] h := by
  intro n
  induction n with
  | zero => intro l1 l2 h hf; exact ab_no hf
  | succ n ih =>
    intro l1 l2 h hf
    unfold fX1_firstCold_l22 at hf
    refine xr_iload_n A dX1_firstCold_22 2 rfl rfl ?_
    refine xr_aload_n A dX1_firstCold_23 0 rfl rfl ?_
    revert hf; refine ab_bdI (fun v1 mv1 hf => ?_)
    refine xr_get A xc_X1 in_X1 40 (Nat.le_of_ble_eq_true rfl) q303 rfl (ab_gIE mv1) dX1_firstCold_24 ?_
    refine xr_icmp_ge A (tgt := 75) dX1_firstCold_27 (by decide) (fun c27 => ?_) (fun c27 => ?_)
    · replace hf := ab_ip c27 hf
      refine xr_iload_n A dX1_firstCold_75 1 rfl rfl ?_
      exact xr_ireturn A rfl hf dX1_firstCold_76
    · replace hf := ab_in c27 hf
      refine xr_aload_n A dX1_firstCold_30 0 rfl rfl ?_
      revert hf; refine ab_bdI (fun v2 mv2 hf => ?_)
      refine xr_get A xc_X1 in_X1 39 (Nat.le_of_ble_eq_true rfl) q302 rfl (ab_gRE mv2) dX1_firstCold_31 ?_
      refine xr_iload_n A dX1_firstCold_34 2 rfl rfl ?_
      revert hf; refine ab_bdI (fun a3 e hf => ?_); subst e
      revert hf; refine ab_bdI (fun v4 mv4 hf => ?_)
      refine xr_iaload A mv4 dX1_firstCold_35 ?_
      refine xr_aload_n A dX1_firstCold_36 0 rfl rfl ?_
      revert hf; refine ab_bdI (fun v5 mv5 hf => ?_)
      refine xr_get A xc_X1 in_X1 3 (Nat.le_of_ble_eq_true rfl) q266 rfl (ab_gRE mv5) dX1_firstCold_37 ?_
      revert hf; refine ab_bdI (fun a6 e hf => ?_); subst e
      revert hf; refine ab_bdI (fun v7 mv7 hf => ?_)
      refine xr_get A xc_X6 in_X6 17 (Nat.le_of_ble_eq_true rfl) q486 rfl (ab_gIE mv7) dX1_firstCold_40 ?_
      refine xr_icmp_ge A (tgt := 69) dX1_firstCold_43 (by decide) (fun c43 => ?_) (fun c43 => ?_)
      · replace hf := ab_ip c43 hf
        refine xr_iinc A dX1_firstCold_69 2 rfl (v := (l2 + (1 : Int32))) rfl (Nat.le_of_ble_eq_true rfl) (L' := [(2, vI (l2 + (1 : Int32))), (0, vR (some x)), (1, vI l1)]) rfl ?_
        refine xr_goto A (tgt := 22) dX1_firstCold_72 (by decide) ?_
        refine X.sub [1, 2, 0] rfl ?_
        exact ih hf
      · replace hf := ab_in c43 hf
        refine xr_iload_n A dX1_firstCold_46 1 rfl rfl ?_
        refine xr_bipush A (v := (-2)) dX1_firstCold_47 (by decide) ?_
        refine xr_icmp_eq A (tgt := 67) dX1_firstCold_49 (by decide) (fun c49 => ?_) (fun c49 => ?_)
        · replace hf := ab_ip c49 hf
          refine xr_iload_n A dX1_firstCold_67 2 rfl rfl ?_
          refine xr_istore_n A dX1_firstCold_68 rfl (Nat.le_of_ble_eq_true rfl) (L' := [(1, vI l2), (0, vR (some x)), (2, vI l2)]) rfl ?_
          refine xr_iinc A dX1_firstCold_69 2 rfl (v := (l2 + (1 : Int32))) rfl (Nat.le_of_ble_eq_true rfl) (L' := [(2, vI (l2 + (1 : Int32))), (1, vI l2), (0, vR (some x))]) rfl ?_
          refine xr_goto A (tgt := 22) dX1_firstCold_72 (by decide) ?_
          refine X.sub [2, 1, 0] rfl ?_
          exact ih hf
        · replace hf := ab_in c49 hf
          refine xr_aload_n A dX1_firstCold_52 0 rfl rfl ?_
          revert hf; refine ab_bdI (fun v8 mv8 hf => ?_)
          refine xr_get A xc_X1 in_X1 38 (Nat.le_of_ble_eq_true rfl) q301 rfl (ab_gRE mv8) dX1_firstCold_53 ?_
          refine xr_iload_n A dX1_firstCold_56 2 rfl rfl ?_
          revert hf; refine ab_bdI (fun a9 e hf => ?_); subst e
          revert hf; refine ab_bdI (fun v10 mv10 hf => ?_)
          refine xr_iaload A mv10 dX1_firstCold_57 ?_
          refine xr_aload_n A dX1_firstCold_58 0 rfl rfl ?_
          revert hf; refine ab_bdI (fun v11 mv11 hf => ?_)
          refine xr_get A xc_X1 in_X1 38 (Nat.le_of_ble_eq_true rfl) q301 rfl (ab_gRE mv11) dX1_firstCold_59 ?_
          refine xr_iload_n A dX1_firstCold_62 1 rfl rfl ?_
          revert hf; refine ab_bdI (fun a12 e hf => ?_); subst e
          revert hf; refine ab_bdI (fun v13 mv13 hf => ?_)
          refine xr_iaload A mv13 dX1_firstCold_63 ?_
          refine xr_icmp_ge A (tgt := 69) dX1_firstCold_64 (by decide) (fun c64 => ?_) (fun c64 => ?_)
          · replace hf := ab_ip c64 hf
            refine xr_iinc A dX1_firstCold_69 2 rfl (v := (l2 + (1 : Int32))) rfl (Nat.le_of_ble_eq_true rfl) (L' := [(2, vI (l2 + (1 : Int32))), (0, vR (some x)), (1, vI l1)]) rfl ?_
            refine xr_goto A (tgt := 22) dX1_firstCold_72 (by decide) ?_
            refine X.sub [1, 2, 0] rfl ?_
            exact ih hf
          · replace hf := ab_in c64 hf
            refine xr_iload_n A dX1_firstCold_67 2 rfl rfl ?_
            refine xr_istore_n A dX1_firstCold_68 rfl (Nat.le_of_ble_eq_true rfl) (L' := [(1, vI l2), (0, vR (some x)), (2, vI l2)]) rfl ?_
            refine xr_iinc A dX1_firstCold_69 2 rfl (v := (l2 + (1 : Int32))) rfl (Nat.le_of_ble_eq_true rfl) (L' := [(2, vI (l2 + (1 : Int32))), (1, vI l2), (0, vR (some x))]) rfl ?_
            refine xr_goto A (tgt := 22) dX1_firstCold_72 (by decide) ?_
            refine X.sub [2, 1, 0] rfl ?_
            exact ih hf
noncomputable def fX1_firstCold (x : Nat) (h : Hp) : Option (Int32 × Hp) :=
  ab_ck h x 0 <|
  ab_bd (fX1_anew x h) fun h2 =>
  ab_bd (ab_gR h2 x 0 3) fun v3 =>
  ab_on v3 (
    ab_b2 (fX1_no x (1 : Int32) h2) fun v7 h6 =>
    some (v7, h6)) fun a4 => (
    fX1_firstCold_l22 x (hfu h2) (-2 : Int32) (0 : Int32) h2)
theorem wX1_firstCold (D : Dd) {x : Nat} {h : Hp} {r : Int32} {h' : Hp} (hf : fX1_firstCold x h = some (r, h')) : ab_is h x 0 ∧ Ct D 2 41 yX1_firstCold cX1_firstCold 3 (some FieldType.int) [vR (some x)] h (.inl (some (vI r))) h' := by
    unfold fX1_firstCold at hf
    replace hf := ab_ckE hf; obtain ⟨i0, hf⟩ := hf
    refine ⟨i0, ?_⟩
    refine Ct.of (by decide) (L := [(0, vR (some x))]) rfl (Nat.le_of_ble_eq_true rfl) (fun C A => ?_)
    refine xr_aload_n A dX1_firstCold_0 0 rfl rfl ?_
    revert hf; refine ab_bdI (fun h2 m1 hf => ?_)
    refine xr_V0 A bX1_anew (wX1_anew D m1).2 xc_X1 (wX1_anew D m1).1 q402 qs2 q400 (av := []) (rest := []) rfl dX1_firstCold_1 (Nat.le_of_ble_eq_true rfl) (Nat.le_of_ble_eq_true rfl) rfl (Nat.le_of_ble_eq_true rfl) ?_
    refine xr_aload_n A dX1_firstCold_4 0 rfl rfl ?_
    revert hf; refine ab_bdI (fun v3 mv3 hf => ?_)
    refine xr_get A xc_X1 in_X1 3 (Nat.le_of_ble_eq_true rfl) q266 rfl (ab_gRE mv3) dX1_firstCold_5 ?_
    revert hf; refine ab_onI (fun e hf => ?_) (fun a4 e hf => ?_) <;> subst e
    · refine xr_ifnonnull A (tgt := 17) dX1_firstCold_8 (by decide) (fun _ e => by cases e) (fun _ => ?_)
      refine xr_aload_n A dX1_firstCold_11 0 rfl rfl ?_
      refine xr_iconst A (v := 1) dX1_firstCold_12 (by decide) ?_
      revert hf; refine ab_b2I (fun v7 h6 m5 hf => ?_)
      refine xr_V A bX1_no (wX1_no D m5).2 xc_X1 (wX1_no D m5).1 q409 qs3 q407 (av := [vI (1 : Int32)]) (rest := []) rfl dX1_firstCold_13 (Nat.le_of_ble_eq_true rfl) (Nat.le_of_ble_eq_true rfl) rfl (Nat.le_of_ble_eq_true rfl) ?_
      exact xr_ireturn A rfl hf dX1_firstCold_16
    · refine xr_ifnonnull A (tgt := 17) dX1_firstCold_8 (by decide) (fun _ _ => ?_) (fun e => by cases e)
      refine xr_bipush A (v := (-2)) dX1_firstCold_17 (by decide) ?_
      refine xr_istore_n A dX1_firstCold_19 rfl (Nat.le_of_ble_eq_true rfl) (L' := [(1, vI (-2 : Int32)), (0, vR (some x))]) rfl ?_
      refine xr_iconst A (v := 0) dX1_firstCold_20 (by decide) ?_
      refine xr_istore_n A dX1_firstCold_21 rfl (Nat.le_of_ble_eq_true rfl) (L' := [(2, vI (0 : Int32)), (1, vI (-2 : Int32)), (0, vR (some x))]) rfl ?_
      refine X.sub [2, 1, 0] rfl ?_
      exact wX1_firstCold_l22 A _ hf
/-! X1_recall -/
theorem bX1_recall : MB yX1_recall cX1_recall 4 (some FieldType.int) 1 := ⟨q1254, q92, by decide, by decide +kernel⟩
noncomputable def fX1_recall_l38 (x : Nat) : Nat → Int32 → Int32 → Int32 → Hp → Option (Int32 × Hp)
  | 0, _, _, _, _ => none
  | n + 1, l1, l2, l3, h =>
  ab_bd (ab_gR h x 0 3) fun v1 =>
  ab_bd v1 fun a2 =>
  ab_bd (ab_gI h a2 5 13) fun v3 =>
  if v3 ≤ l3 then (
    some (l2, h))
  else (
    ab_bd (ab_gR h x 0 3) fun v4 =>
    ab_bd v4 fun a5 =>
    ab_bd (ab_gR h a5 5 4) fun v6 =>
    ab_bd v6 fun a7 =>
    ab_bd (ab_aR h a7 10 l3) fun v8 =>
    ab_bd v8 fun a9 =>
    ab_bd (ab_gR h a9 10 2) fun v10 =>
    ab_bd v10 fun a11 =>
    ab_bd (ab_gI h a11 6 1) fun v12 =>
    if v12 = l1 then (
      ab_bd (ab_gR h x 0 8) fun v13 =>
      ab_bd v13 fun a14 =>
      ab_bd (ab_aR h a14 5 l3) fun v15 =>
      ab_bd v15 fun a16 =>
      ab_b2 (fX4_set a16 h) fun v19 h18 =>
      fX1_recall_l38 x n l1 (l2 ||| v19) (l3 + (1 : Int32)) h18)
    else (
      fX1_recall_l38 x n l1 (l2 ||| (0 : Int32)) (l3 + (1 : Int32)) h))
theorem wX1_recall_l38 {D : Dd} {C : Cx} {h0 h' : Hp} {r : Int32} (A : Act C D (h0, (.inl (some (vI r))), h') yX1_recall cX1_recall 4 (some FieldType.int) 2 42 []) {x : Nat} : ∀ (n : Nat) {l1 : Int32} {l2 : Int32} {l3 : Int32} {h : Hp}, fX1_recall_l38 x n l1 l2 l3 h = some (r, h') → X C D (h0, (.inl (some (vI r))), h') 4 38 [(0, vR (some x)), (1, vI l1), (2, vI l2), (3, vI l3)] [] h := by
  intro n
  induction n with
  | zero => intro l1 l2 l3 h hf; exact ab_no hf
  | succ n ih =>
    intro l1 l2 l3 h hf
    unfold fX1_recall_l38 at hf
    refine xr_iload_n A dX1_recall_38 3 rfl rfl ?_
    refine xr_aload_n A dX1_recall_39 0 rfl rfl ?_
    revert hf; refine ab_bdI (fun v1 mv1 hf => ?_)
    refine xr_get A xc_X1 in_X1 3 (Nat.le_of_ble_eq_true rfl) q266 rfl (ab_gRE mv1) dX1_recall_40 ?_
    revert hf; refine ab_bdI (fun a2 e hf => ?_); subst e
    revert hf; refine ab_bdI (fun v3 mv3 hf => ?_)
    refine xr_get A xc_X6 in_X6 13 (Nat.le_of_ble_eq_true rfl) q473 rfl (ab_gIE mv3) dX1_recall_43 ?_
    refine xr_icmp_ge A (tgt := 90) dX1_recall_46 (by decide) (fun c46 => ?_) (fun c46 => ?_)
    · replace hf := ab_ip c46 hf
      refine xr_iload_n A dX1_recall_90 2 rfl rfl ?_
      exact xr_ireturn A rfl hf dX1_recall_91
    · replace hf := ab_in c46 hf
      refine xr_iload_n A dX1_recall_49 2 rfl rfl ?_
      refine xr_aload_n A dX1_recall_50 0 rfl rfl ?_
      revert hf; refine ab_bdI (fun v4 mv4 hf => ?_)
      refine xr_get A xc_X1 in_X1 3 (Nat.le_of_ble_eq_true rfl) q266 rfl (ab_gRE mv4) dX1_recall_51 ?_
      revert hf; refine ab_bdI (fun a5 e hf => ?_); subst e
      revert hf; refine ab_bdI (fun v6 mv6 hf => ?_)
      refine xr_get A xc_X6 in_X6 4 (Nat.le_of_ble_eq_true rfl) q448 rfl (ab_gRE mv6) dX1_recall_54 ?_
      refine xr_iload_n A dX1_recall_57 3 rfl rfl ?_
      revert hf; refine ab_bdI (fun a7 e hf => ?_); subst e
      revert hf; refine ab_bdI (fun v8 mv8 hf => ?_)
      refine xr_aaload A (t := 10) rfl mv8 dX1_recall_58 ?_
      revert hf; refine ab_bdI (fun a9 e hf => ?_); subst e
      revert hf; refine ab_bdI (fun v10 mv10 hf => ?_)
      refine xr_get A xc_X12 in_X12 2 (Nat.le_of_ble_eq_true rfl) q913 rfl (ab_gRE mv10) dX1_recall_59 ?_
      revert hf; refine ab_bdI (fun a11 e hf => ?_); subst e
      revert hf; refine ab_bdI (fun v12 mv12 hf => ?_)
      refine xr_getS A xc_X8 in_X8 1 (Nat.le_of_ble_eq_true rfl) q768 q769 (ab_gIE mv12) dX1_recall_62 ?_
      refine xr_iload_n A dX1_recall_65 1 rfl rfl ?_
      refine xr_icmp_ne A (tgt := 81) dX1_recall_66 (by decide) (fun c66 => ?_) (fun c66 => ?_)
      · replace hf := ab_in c66 hf
        refine xr_iconst A (v := 0) dX1_recall_81 (by decide) ?_
        refine xr_ior A dX1_recall_82 ?_
        refine xr_istore_n A dX1_recall_83 rfl (Nat.le_of_ble_eq_true rfl) (L' := [(2, vI (l2 ||| (0 : Int32))), (0, vR (some x)), (1, vI l1), (3, vI l3)]) rfl ?_
        refine xr_iinc A dX1_recall_84 3 rfl (v := (l3 + (1 : Int32))) rfl (Nat.le_of_ble_eq_true rfl) (L' := [(3, vI (l3 + (1 : Int32))), (2, vI (l2 ||| (0 : Int32))), (0, vR (some x)), (1, vI l1)]) rfl ?_
        refine xr_goto A (tgt := 38) dX1_recall_87 (by decide) ?_
        refine X.sub [2, 3, 1, 0] rfl ?_
        exact ih hf
      · replace hf := ab_ip c66 hf
        refine xr_aload_n A dX1_recall_69 0 rfl rfl ?_
        revert hf; refine ab_bdI (fun v13 mv13 hf => ?_)
        refine xr_get A xc_X1 in_X1 8 (Nat.le_of_ble_eq_true rfl) q271 rfl (ab_gRE mv13) dX1_recall_70 ?_
        refine xr_iload_n A dX1_recall_73 3 rfl rfl ?_
        revert hf; refine ab_bdI (fun a14 e hf => ?_); subst e
        revert hf; refine ab_bdI (fun v15 mv15 hf => ?_)
        refine xr_aaload A (t := 5) rfl mv15 dX1_recall_74 ?_
        revert hf; refine ab_bdI (fun a16 e hf => ?_); subst e
        revert hf; refine ab_b2I (fun v19 h18 m17 hf => ?_)
        refine xr_V A bX4_set (wX4_set D m17).2 xc_X4 (wX4_set D m17).1 q1144 q1145 q1143 (av := []) (rest := [vI l2]) rfl dX1_recall_75 (Nat.le_of_ble_eq_true rfl) (Nat.le_of_ble_eq_true rfl) rfl (Nat.le_of_ble_eq_true rfl) ?_
        refine xr_goto A (tgt := 82) dX1_recall_78 (by decide) ?_
        refine xr_ior A dX1_recall_82 ?_
        refine xr_istore_n A dX1_recall_83 rfl (Nat.le_of_ble_eq_true rfl) (L' := [(2, vI (l2 ||| v19)), (0, vR (some x)), (1, vI l1), (3, vI l3)]) rfl ?_
        refine xr_iinc A dX1_recall_84 3 rfl (v := (l3 + (1 : Int32))) rfl (Nat.le_of_ble_eq_true rfl) (L' := [(3, vI (l3 + (1 : Int32))), (2, vI (l2 ||| v19)), (0, vR (some x)), (1, vI l1)]) rfl ?_
        refine xr_goto A (tgt := 38) dX1_recall_87 (by decide) ?_
        refine X.sub [2, 3, 1, 0] rfl ?_
        exact ih hf
noncomputable def fX1_recall (x : Nat) (p1 : Int32) (h : Hp) : Option (Int32 × Hp) :=
  ab_ck h x 0 <|
  ab_bd (fX1_anew x h) fun h2 =>
  ab_bd (ab_gR h2 x 0 3) fun v3 =>
  ab_on v3 (
    ab_b2 (fX1_no x (1 : Int32) h2) fun v7 h6 =>
    some (v7, h6)) fun a4 => (
    ab_bd (ab_gR h2 x 0 3) fun v8 =>
    ab_bd v8 fun a9 =>
    ab_bd (ab_gI h2 a9 5 9) fun v10 =>
    ab_b2 (fX1_in p1 (0 : Int32) (v10 - (1 : Int32)) h2) fun v13 h12 =>
    if v13 = 0 then (
      ab_b2 (fX1_no x (1 : Int32) h12) fun v16 h15 =>
      some (v16, h15))
    else (
      fX1_recall_l38 x (hfu h12) p1 (0 : Int32) (0 : Int32) h12))
theorem wX1_recall (D : Dd) {x : Nat} {p1 : Int32} {h : Hp} {r : Int32} {h' : Hp} (hf : fX1_recall x p1 h = some (r, h')) : ab_is h x 0 ∧ Ct D 2 42 yX1_recall cX1_recall 4 (some FieldType.int) [vR (some x), vI p1] h (.inl (some (vI r))) h' := by
    unfold fX1_recall at hf
    replace hf := ab_ckE hf; obtain ⟨i0, hf⟩ := hf
    refine ⟨i0, ?_⟩
    refine Ct.of (by decide) (L := [(0, vR (some x)), (1, vI p1)]) rfl (Nat.le_of_ble_eq_true rfl) (fun C A => ?_)
    refine xr_aload_n A dX1_recall_0 0 rfl rfl ?_
    revert hf; refine ab_bdI (fun h2 m1 hf => ?_)
    refine xr_V0 A bX1_anew (wX1_anew D m1).2 xc_X1 (wX1_anew D m1).1 q402 qs2 q400 (av := []) (rest := []) rfl dX1_recall_1 (Nat.le_of_ble_eq_true rfl) (Nat.le_of_ble_eq_true rfl) rfl (Nat.le_of_ble_eq_true rfl) ?_
    refine xr_aload_n A dX1_recall_4 0 rfl rfl ?_
    revert hf; refine ab_bdI (fun v3 mv3 hf => ?_)
    refine xr_get A xc_X1 in_X1 3 (Nat.le_of_ble_eq_true rfl) q266 rfl (ab_gRE mv3) dX1_recall_5 ?_
    revert hf; refine ab_onI (fun e hf => ?_) (fun a4 e hf => ?_) <;> subst e
    · refine xr_ifnull A (tgt := 28) dX1_recall_8 (by decide) (fun _ => ?_) (fun _ e => by cases e)
      refine xr_aload_n A dX1_recall_28 0 rfl rfl ?_
      refine xr_iconst A (v := 1) dX1_recall_29 (by decide) ?_
      revert hf; refine ab_b2I (fun v7 h6 m5 hf => ?_)
      refine xr_V A bX1_no (wX1_no D m5).2 xc_X1 (wX1_no D m5).1 q409 qs3 q407 (av := [vI (1 : Int32)]) (rest := []) rfl dX1_recall_30 (Nat.le_of_ble_eq_true rfl) (Nat.le_of_ble_eq_true rfl) rfl (Nat.le_of_ble_eq_true rfl) ?_
      exact xr_ireturn A rfl hf dX1_recall_33
    · refine xr_ifnull A (tgt := 28) dX1_recall_8 (by decide) (fun e => by cases e) (fun _ _ => ?_)
      refine xr_iload_n A dX1_recall_11 1 rfl rfl ?_
      refine xr_iconst A (v := 0) dX1_recall_12 (by decide) ?_
      refine xr_aload_n A dX1_recall_13 0 rfl rfl ?_
      revert hf; refine ab_bdI (fun v8 mv8 hf => ?_)
      refine xr_get A xc_X1 in_X1 3 (Nat.le_of_ble_eq_true rfl) q266 rfl (ab_gRE mv8) dX1_recall_14 ?_
      revert hf; refine ab_bdI (fun a9 e hf => ?_); subst e
      revert hf; refine ab_bdI (fun v10 mv10 hf => ?_)
      refine xr_get A xc_X6 in_X6 9 (Nat.le_of_ble_eq_true rfl) q462 rfl (ab_gIE mv10) dX1_recall_17 ?_
      refine xr_iconst A (v := 1) dX1_recall_20 (by decide) ?_
      refine xr_isub A dX1_recall_21 ?_
      revert hf; refine ab_b2I (fun v13 h12 m11 hf => ?_)
      refine xr_S A bX1_in (wX1_in D m11) q405 q404 (av := [vI p1, vI (0 : Int32), vI (v10 - (1 : Int32))]) (rest := []) rfl dX1_recall_22 (Nat.le_of_ble_eq_true rfl) (Nat.le_of_ble_eq_true rfl) rfl (Nat.le_of_ble_eq_true rfl) ?_
      refine xr_if_ne A (tgt := 34) dX1_recall_25 (by decide) (fun c25 => ?_) (fun c25 => ?_)
      · replace hf := ab_in c25 hf
        refine xr_iconst A (v := 0) dX1_recall_34 (by decide) ?_
        refine xr_istore_n A dX1_recall_35 rfl (Nat.le_of_ble_eq_true rfl) (L' := [(2, vI (0 : Int32)), (0, vR (some x)), (1, vI p1)]) rfl ?_
        refine xr_iconst A (v := 0) dX1_recall_36 (by decide) ?_
        refine xr_istore_n A dX1_recall_37 rfl (Nat.le_of_ble_eq_true rfl) (L' := [(3, vI (0 : Int32)), (2, vI (0 : Int32)), (0, vR (some x)), (1, vI p1)]) rfl ?_
        refine X.sub [2, 3, 1, 0] rfl ?_
        exact wX1_recall_l38 A _ hf
      · replace hf := ab_ip c25 hf
        refine xr_aload_n A dX1_recall_28 0 rfl rfl ?_
        refine xr_iconst A (v := 1) dX1_recall_29 (by decide) ?_
        revert hf; refine ab_b2I (fun v16 h15 m14 hf => ?_)
        refine xr_V A bX1_no (wX1_no D m14).2 xc_X1 (wX1_no D m14).1 q409 qs3 q407 (av := [vI (1 : Int32)]) (rest := []) rfl dX1_recall_30 (Nat.le_of_ble_eq_true rfl) (Nat.le_of_ble_eq_true rfl) rfl (Nat.le_of_ble_eq_true rfl) ?_
        exact xr_ireturn A rfl hf dX1_recall_33
/-! X1_size -/
theorem bX1_size : MB yX1_size cX1_size 2 (some FieldType.int) 1 := ⟨q1258, q92, by decide, by decide +kernel⟩
noncomputable def fX1_size (x : Nat) (p1 : Int32) (h : Hp) : Option (Int32 × Hp) :=
  ab_ck h x 0 <|
  if p1 = (10 : Int32) then (
    ab_bd (ab_gI h x 0 1) fun v32 =>
    some (v32, h))
  else (
    ab_bd (ab_gR h x 0 3) fun v1 =>
    ab_on v1 (
      ab_b2 (fX1_in p1 (0 : Int32) (9 : Int32) h) fun v5 h4 =>
      if v5 = 0 then (
        some ((-1 : Int32), h4))
      else (
        some ((0 : Int32), h4))) fun a2 => (
      if p1 = (0 : Int32) then (
        ab_bd (ab_gR h x 0 3) fun v6 =>
        ab_bd v6 fun a7 =>
        ab_bd (ab_gI h a7 5 9) fun v8 =>
        some (v8, h))
      else
      if p1 = (1 : Int32) then (
        ab_bd (ab_gR h x 0 3) fun v9 =>
        ab_bd v9 fun a10 =>
        ab_bd (ab_gI h a10 5 10) fun v11 =>
        some (v11, h))
      else
      if p1 = (2 : Int32) then (
        ab_bd (ab_gR h x 0 3) fun v12 =>
        ab_bd v12 fun a13 =>
        ab_bd (ab_gI h a13 5 11) fun v14 =>
        some (v14, h))
      else
      if p1 = (3 : Int32) then (
        ab_bd (ab_gR h x 0 3) fun v15 =>
        ab_bd v15 fun a16 =>
        ab_bd (ab_gI h a16 5 12) fun v17 =>
        some (v17, h))
      else
      if p1 = (4 : Int32) then (
        ab_bd (ab_gR h x 0 3) fun v18 =>
        ab_bd v18 fun a19 =>
        ab_bd (ab_gI h a19 5 13) fun v20 =>
        some (v20, h))
      else
      if p1 = (5 : Int32) then (
        ab_bd (ab_gR h x 0 3) fun v21 =>
        ab_bd v21 fun a22 =>
        ab_bd (ab_gI h a22 5 16) fun v23 =>
        some (v23, h))
      else
      if p1 = (6 : Int32) then (
        ab_bd (ab_gR h x 0 3) fun v24 =>
        ab_bd v24 fun a25 =>
        ab_bd (ab_gI h a25 5 14) fun v26 =>
        some (v26, h))
      else
      if p1 = (7 : Int32) then (
        ab_bd (ab_gR h x 0 3) fun v27 =>
        ab_bd v27 fun a28 =>
        ab_bd (ab_gI h a28 5 15) fun v29 =>
        some (v29, h))
      else
      if p1 = (8 : Int32) then (
        ab_bd (ab_gI h x 0 40) fun v30 =>
        some (v30, h))
      else
      if p1 = (9 : Int32) then (
        ab_bd (ab_gI h x 0 7) fun v31 =>
        some (v31, h))
      else
      some ((-1 : Int32), h)))
theorem wX1_size (D : Dd) {x : Nat} {p1 : Int32} {h : Hp} {r : Int32} {h' : Hp} (hf : fX1_size x p1 h = some (r, h')) : ab_is h x 0 ∧ Ct D 2 42 yX1_size cX1_size 2 (some FieldType.int) [vR (some x), vI p1] h (.inl (some (vI r))) h' := by
    unfold fX1_size at hf
    replace hf := ab_ckE hf; obtain ⟨i0, hf⟩ := hf
    refine ⟨i0, ?_⟩
    refine Ct.of (by decide) (L := [(0, vR (some x)), (1, vI p1)]) rfl (Nat.le_of_ble_eq_true rfl) (fun C A => ?_)
    refine xr_iload_n A dX1_size_0 1 rfl rfl ?_
    refine xr_bipush A (v := 10) dX1_size_1 (by decide) ?_
    refine xr_icmp_ne A (tgt := 11) dX1_size_3 (by decide) (fun c3 => ?_) (fun c3 => ?_)
    · replace hf := ab_in c3 hf
      refine xr_aload_n A dX1_size_11 0 rfl rfl ?_
      revert hf; refine ab_bdI (fun v1 mv1 hf => ?_)
      refine xr_get A xc_X1 in_X1 3 (Nat.le_of_ble_eq_true rfl) q266 rfl (ab_gRE mv1) dX1_size_12 ?_
      revert hf; refine ab_onI (fun e hf => ?_) (fun a2 e hf => ?_) <;> subst e
      · refine xr_ifnonnull A (tgt := 34) dX1_size_15 (by decide) (fun _ e => by cases e) (fun _ => ?_)
        refine xr_iload_n A dX1_size_18 1 rfl rfl ?_
        refine xr_iconst A (v := 0) dX1_size_19 (by decide) ?_
        refine xr_bipush A (v := 9) dX1_size_20 (by decide) ?_
        revert hf; refine ab_b2I (fun v5 h4 m3 hf => ?_)
        refine xr_S A bX1_in (wX1_in D m3) q405 q404 (av := [vI p1, vI (0 : Int32), vI (9 : Int32)]) (rest := []) rfl dX1_size_22 (Nat.le_of_ble_eq_true rfl) (Nat.le_of_ble_eq_true rfl) rfl (Nat.le_of_ble_eq_true rfl) ?_
        refine xr_if_eq A (tgt := 32) dX1_size_25 (by decide) (fun c25 => ?_) (fun c25 => ?_)
        · replace hf := ab_ip c25 hf
          refine xr_iconst A (v := (-1)) dX1_size_32 (by decide) ?_
          exact xr_ireturn A rfl hf dX1_size_33
        · replace hf := ab_in c25 hf
          refine xr_iconst A (v := 0) dX1_size_28 (by decide) ?_
          refine xr_goto A (tgt := 33) dX1_size_29 (by decide) ?_
          exact xr_ireturn A rfl hf dX1_size_33
      · refine xr_ifnonnull A (tgt := 34) dX1_size_15 (by decide) (fun _ _ => ?_) (fun e => by cases e)
        refine xr_iload_n A dX1_size_34 1 rfl rfl ?_
        by_cases c35_0 : p1 = (0 : Int32)
        · replace hf := ab_ip c35_0 hf
          refine xr_tabIn A (tgt := 88) dX1_size_35 (by rw [c35_0]; decide) (by rw [c35_0]; decide) (by rw [c35_0]; rfl) (by decide) ?_
          refine xr_aload_n A dX1_size_88 0 rfl rfl ?_
          revert hf; refine ab_bdI (fun v6 mv6 hf => ?_)
          refine xr_get A xc_X1 in_X1 3 (Nat.le_of_ble_eq_true rfl) q266 rfl (ab_gRE mv6) dX1_size_89 ?_
          revert hf; refine ab_bdI (fun a7 e hf => ?_); subst e
          revert hf; refine ab_bdI (fun v8 mv8 hf => ?_)
          refine xr_get A xc_X6 in_X6 9 (Nat.le_of_ble_eq_true rfl) q462 rfl (ab_gIE mv8) dX1_size_92 ?_
          exact xr_ireturn A rfl hf dX1_size_95
        replace hf := ab_in c35_0 hf
        by_cases c35_1 : p1 = (1 : Int32)
        · replace hf := ab_ip c35_1 hf
          refine xr_tabIn A (tgt := 96) dX1_size_35 (by rw [c35_1]; decide) (by rw [c35_1]; decide) (by rw [c35_1]; rfl) (by decide) ?_
          refine xr_aload_n A dX1_size_96 0 rfl rfl ?_
          revert hf; refine ab_bdI (fun v9 mv9 hf => ?_)
          refine xr_get A xc_X1 in_X1 3 (Nat.le_of_ble_eq_true rfl) q266 rfl (ab_gRE mv9) dX1_size_97 ?_
          revert hf; refine ab_bdI (fun a10 e hf => ?_); subst e
          revert hf; refine ab_bdI (fun v11 mv11 hf => ?_)
          refine xr_get A xc_X6 in_X6 10 (Nat.le_of_ble_eq_true rfl) q465 rfl (ab_gIE mv11) dX1_size_100 ?_
          exact xr_ireturn A rfl hf dX1_size_103
        replace hf := ab_in c35_1 hf
        by_cases c35_2 : p1 = (2 : Int32)
        · replace hf := ab_ip c35_2 hf
          refine xr_tabIn A (tgt := 104) dX1_size_35 (by rw [c35_2]; decide) (by rw [c35_2]; decide) (by rw [c35_2]; rfl) (by decide) ?_
          refine xr_aload_n A dX1_size_104 0 rfl rfl ?_
          revert hf; refine ab_bdI (fun v12 mv12 hf => ?_)
          refine xr_get A xc_X1 in_X1 3 (Nat.le_of_ble_eq_true rfl) q266 rfl (ab_gRE mv12) dX1_size_105 ?_
          revert hf; refine ab_bdI (fun a13 e hf => ?_); subst e
          revert hf; refine ab_bdI (fun v14 mv14 hf => ?_)
          refine xr_get A xc_X6 in_X6 11 (Nat.le_of_ble_eq_true rfl) q468 rfl (ab_gIE mv14) dX1_size_108 ?_
          exact xr_ireturn A rfl hf dX1_size_111
        replace hf := ab_in c35_2 hf
        by_cases c35_3 : p1 = (3 : Int32)
        · replace hf := ab_ip c35_3 hf
          refine xr_tabIn A (tgt := 112) dX1_size_35 (by rw [c35_3]; decide) (by rw [c35_3]; decide) (by rw [c35_3]; rfl) (by decide) ?_
          refine xr_aload_n A dX1_size_112 0 rfl rfl ?_
          revert hf; refine ab_bdI (fun v15 mv15 hf => ?_)
          refine xr_get A xc_X1 in_X1 3 (Nat.le_of_ble_eq_true rfl) q266 rfl (ab_gRE mv15) dX1_size_113 ?_
          revert hf; refine ab_bdI (fun a16 e hf => ?_); subst e
          revert hf; refine ab_bdI (fun v17 mv17 hf => ?_)
          refine xr_get A xc_X6 in_X6 12 (Nat.le_of_ble_eq_true rfl) q470 rfl (ab_gIE mv17) dX1_size_116 ?_
          exact xr_ireturn A rfl hf dX1_size_119
        replace hf := ab_in c35_3 hf
        by_cases c35_4 : p1 = (4 : Int32)
        · replace hf := ab_ip c35_4 hf
          refine xr_tabIn A (tgt := 120) dX1_size_35 (by rw [c35_4]; decide) (by rw [c35_4]; decide) (by rw [c35_4]; rfl) (by decide) ?_
          refine xr_aload_n A dX1_size_120 0 rfl rfl ?_
          revert hf; refine ab_bdI (fun v18 mv18 hf => ?_)
          refine xr_get A xc_X1 in_X1 3 (Nat.le_of_ble_eq_true rfl) q266 rfl (ab_gRE mv18) dX1_size_121 ?_
          revert hf; refine ab_bdI (fun a19 e hf => ?_); subst e
          revert hf; refine ab_bdI (fun v20 mv20 hf => ?_)
          refine xr_get A xc_X6 in_X6 13 (Nat.le_of_ble_eq_true rfl) q473 rfl (ab_gIE mv20) dX1_size_124 ?_
          exact xr_ireturn A rfl hf dX1_size_127
        replace hf := ab_in c35_4 hf
        by_cases c35_5 : p1 = (5 : Int32)
        · replace hf := ab_ip c35_5 hf
          refine xr_tabIn A (tgt := 128) dX1_size_35 (by rw [c35_5]; decide) (by rw [c35_5]; decide) (by rw [c35_5]; rfl) (by decide) ?_
          refine xr_aload_n A dX1_size_128 0 rfl rfl ?_
          revert hf; refine ab_bdI (fun v21 mv21 hf => ?_)
          refine xr_get A xc_X1 in_X1 3 (Nat.le_of_ble_eq_true rfl) q266 rfl (ab_gRE mv21) dX1_size_129 ?_
          revert hf; refine ab_bdI (fun a22 e hf => ?_); subst e
          revert hf; refine ab_bdI (fun v23 mv23 hf => ?_)
          refine xr_get A xc_X6 in_X6 16 (Nat.le_of_ble_eq_true rfl) q483 rfl (ab_gIE mv23) dX1_size_132 ?_
          exact xr_ireturn A rfl hf dX1_size_135
        replace hf := ab_in c35_5 hf
        by_cases c35_6 : p1 = (6 : Int32)
        · replace hf := ab_ip c35_6 hf
          refine xr_tabIn A (tgt := 136) dX1_size_35 (by rw [c35_6]; decide) (by rw [c35_6]; decide) (by rw [c35_6]; rfl) (by decide) ?_
          refine xr_aload_n A dX1_size_136 0 rfl rfl ?_
          revert hf; refine ab_bdI (fun v24 mv24 hf => ?_)
          refine xr_get A xc_X1 in_X1 3 (Nat.le_of_ble_eq_true rfl) q266 rfl (ab_gRE mv24) dX1_size_137 ?_
          revert hf; refine ab_bdI (fun a25 e hf => ?_); subst e
          revert hf; refine ab_bdI (fun v26 mv26 hf => ?_)
          refine xr_get A xc_X6 in_X6 14 (Nat.le_of_ble_eq_true rfl) q477 rfl (ab_gIE mv26) dX1_size_140 ?_
          exact xr_ireturn A rfl hf dX1_size_143
        replace hf := ab_in c35_6 hf
        by_cases c35_7 : p1 = (7 : Int32)
        · replace hf := ab_ip c35_7 hf
          refine xr_tabIn A (tgt := 144) dX1_size_35 (by rw [c35_7]; decide) (by rw [c35_7]; decide) (by rw [c35_7]; rfl) (by decide) ?_
          refine xr_aload_n A dX1_size_144 0 rfl rfl ?_
          revert hf; refine ab_bdI (fun v27 mv27 hf => ?_)
          refine xr_get A xc_X1 in_X1 3 (Nat.le_of_ble_eq_true rfl) q266 rfl (ab_gRE mv27) dX1_size_145 ?_
          revert hf; refine ab_bdI (fun a28 e hf => ?_); subst e
          revert hf; refine ab_bdI (fun v29 mv29 hf => ?_)
          refine xr_get A xc_X6 in_X6 15 (Nat.le_of_ble_eq_true rfl) q480 rfl (ab_gIE mv29) dX1_size_148 ?_
          exact xr_ireturn A rfl hf dX1_size_151
        replace hf := ab_in c35_7 hf
        by_cases c35_8 : p1 = (8 : Int32)
        · replace hf := ab_ip c35_8 hf
          refine xr_tabIn A (tgt := 152) dX1_size_35 (by rw [c35_8]; decide) (by rw [c35_8]; decide) (by rw [c35_8]; rfl) (by decide) ?_
          refine xr_aload_n A dX1_size_152 0 rfl rfl ?_
          revert hf; refine ab_bdI (fun v30 mv30 hf => ?_)
          refine xr_get A xc_X1 in_X1 40 (Nat.le_of_ble_eq_true rfl) q303 rfl (ab_gIE mv30) dX1_size_153 ?_
          exact xr_ireturn A rfl hf dX1_size_156
        replace hf := ab_in c35_8 hf
        by_cases c35_9 : p1 = (9 : Int32)
        · replace hf := ab_ip c35_9 hf
          refine xr_tabIn A (tgt := 157) dX1_size_35 (by rw [c35_9]; decide) (by rw [c35_9]; decide) (by rw [c35_9]; rfl) (by decide) ?_
          refine xr_aload_n A dX1_size_157 0 rfl rfl ?_
          revert hf; refine ab_bdI (fun v31 mv31 hf => ?_)
          refine xr_get A xc_X1 in_X1 7 (Nat.le_of_ble_eq_true rfl) q270 rfl (ab_gIE mv31) dX1_size_158 ?_
          exact xr_ireturn A rfl hf dX1_size_161
        replace hf := ab_in c35_9 hf
        refine xr_tabOut A (tgt := 162) dX1_size_35 (ab_tab 0 9 (by decide) [(0 : Int32), (1 : Int32), (2 : Int32), (3 : Int32), (4 : Int32), (5 : Int32), (6 : Int32), (7 : Int32), (8 : Int32), (9 : Int32)] rfl (by simp only [List.forall_mem_cons]; exact ⟨c35_0, c35_1, c35_2, c35_3, c35_4, c35_5, c35_6, c35_7, c35_8, c35_9, fun _ h => absurd h List.not_mem_nil⟩)) (by decide) ?_
        refine xr_iconst A (v := (-1)) dX1_size_162 (by decide) ?_
        exact xr_ireturn A rfl hf dX1_size_163
    · replace hf := ab_ip c3 hf
      refine xr_aload_n A dX1_size_6 0 rfl rfl ?_
      revert hf; refine ab_bdI (fun v32 mv32 hf => ?_)
      refine xr_get A xc_X1 in_X1 1 (Nat.le_of_ble_eq_true rfl) q264 rfl (ab_gIE mv32) dX1_size_7 ?_
      exact xr_ireturn A rfl hf dX1_size_10
/-! X1_trouble -/
theorem bX1_trouble : MB yX1_trouble cX1_trouble 1 (some FieldType.int) 0 := ⟨q1262, q92, by decide, by decide +kernel⟩
noncomputable def fX1_trouble (x : Nat) (h : Hp) : Option (Int32 × Hp) :=
  ab_ck h x 0 <|
  ab_bd (ab_gI h x 0 4) fun v1 =>
  some (v1, h)
theorem wX1_trouble (D : Dd) {x : Nat} {h : Hp} {r : Int32} {h' : Hp} (hf : fX1_trouble x h = some (r, h')) : ab_is h x 0 ∧ Ct D 1 20 yX1_trouble cX1_trouble 1 (some FieldType.int) [vR (some x)] h (.inl (some (vI r))) h' := by
    unfold fX1_trouble at hf
    replace hf := ab_ckE hf; obtain ⟨i0, hf⟩ := hf
    refine ⟨i0, ?_⟩
    refine Ct.of (by decide) (L := [(0, vR (some x))]) rfl (Nat.le_of_ble_eq_true rfl) (fun C A => ?_)
    refine xr_aload_n A dX1_trouble_0 0 rfl rfl ?_
    revert hf; refine ab_bdI (fun v1 mv1 hf => ?_)
    refine xr_get A xc_X1 in_X1 4 (Nat.le_of_ble_eq_true rfl) q267 rfl (ab_gIE mv1) dX1_trouble_1 ?_
    exact xr_ireturn A rfl hf dX1_trouble_4
/-! X5_init -/
theorem bX5_init : MB yX5_init cX5_init 1 (none : Option FieldType) 0 := ⟨q1296, q99, by decide, by decide +kernel⟩
noncomputable def fX5_init (x : Nat) (h : Hp) : Option Hp :=
  ab_bd (ab_pI h x 4 2 (-1 : Int32)) fun h1 =>
  ab_b2 (ab_nA h1 1 (900 : Int32) ab_zI) fun a2 h3 =>
  ab_bd (ab_pR h3 x 4 5 (some a2)) fun h4 =>
  ab_b2 (ab_nA h4 0 (3 : Int32) ab_zI) fun a5 h6 =>
  ab_bd (ab_pR h6 x 4 17 (some a5)) fun h7 =>
  ab_b2 (ab_nA h7 0 (18 : Int32) ab_zI) fun a8 h9 =>
  ab_bd (ab_pR h9 x 4 18 (some a8)) fun h10 =>
  ab_b2 (ab_nA h10 0 (6 : Int32) ab_zI) fun a11 h12 =>
  ab_bd (ab_pR h12 x 4 22 (some a11)) fun h13 =>
  ab_b2 (ab_nA h13 0 (6 : Int32) ab_zI) fun a14 h15 =>
  ab_bd (ab_pR h15 x 4 23 (some a14)) fun h16 =>
  ab_b2 (ab_nA h16 0 (6 : Int32) ab_zI) fun a17 h18 =>
  ab_bd (ab_pR h18 x 4 26 (some a17)) fun h19 =>
  ab_b2 (ab_nA h19 0 (6 : Int32) ab_zI) fun a20 h21 =>
  ab_bd (ab_pR h21 x 4 28 (some a20)) fun h22 =>
  ab_b2 (ab_nA h22 0 (192 : Int32) ab_zI) fun a23 h24 =>
  ab_bd (ab_pR h24 x 4 29 (some a23)) fun h25 =>
  ab_b2 (ab_nA h25 0 (192 : Int32) ab_zI) fun a26 h27 =>
  ab_bd (ab_pR h27 x 4 30 (some a26)) fun h28 =>
  ab_b2 (ab_nA h28 0 (84 : Int32) ab_zI) fun a29 h30 =>
  ab_bd (ab_pR h30 x 4 31 (some a29)) fun h31 =>
  ab_b2 (ab_nA h31 0 (14 : Int32) ab_zI) fun a32 h33 =>
  ab_bd (ab_pR h33 x 4 32 (some a32)) fun h34 =>
  ab_b2 (ab_nA h34 0 (5 : Int32) ab_zI) fun a35 h36 =>
  ab_bd (ab_pR h36 x 4 35 (some a35)) fun h37 =>
  ab_b2 (ab_nA h37 0 (5 : Int32) ab_zI) fun a38 h39 =>
  ab_bd (ab_pR h39 x 4 36 (some a38)) fun h40 =>
  ab_b2 (ab_nA h40 0 (7 : Int32) ab_zI) fun a41 h42 =>
  ab_bd (ab_pR h42 x 4 38 (some a41)) fun h43 =>
  ab_b2 (ab_nA h43 0 (6 : Int32) ab_zI) fun a44 h45 =>
  ab_bd (ab_pR h45 x 4 39 (some a44)) fun h46 =>
  ab_b2 (ab_nA h46 0 (6 : Int32) ab_zI) fun a47 h48 =>
  ab_bd (ab_pR h48 x 4 40 (some a47)) fun h49 =>
  ab_b2 (ab_nA h49 0 (60 : Int32) ab_zI) fun a50 h51 =>
  ab_bd (ab_pR h51 x 4 41 (some a50)) fun h52 =>
  ab_b2 (ab_nA h52 0 (16 : Int32) ab_zI) fun a53 h54 =>
  ab_bd (ab_pR h54 x 4 43 (some a53)) fun h55 =>
  ab_b2 (ab_nA h55 0 (16 : Int32) ab_zI) fun a56 h57 =>
  ab_bd (ab_pR h57 x 4 44 (some a56)) fun h58 =>
  ab_b2 (ab_nA h58 0 (16 : Int32) ab_zI) fun a59 h60 =>
  ab_bd (ab_pR h60 x 4 45 (some a59)) fun h61 =>
  some h61
theorem wX5_init (D : Dd) {x : Nat} {h : Hp} {h' : Hp} (hf : fX5_init x h = some h') : Ct D 1 20 yX5_init cX5_init 1 (none : Option FieldType) [vR (some x)] h (.inl none) h' := by
    unfold fX5_init at hf
    refine Ct.of (by decide) (L := [(0, vR (some x))]) rfl (Nat.le_of_ble_eq_true rfl) (fun C A => ?_)
    refine xr_aload_n A dX5_init_0 0 rfl rfl ?_
    refine xr_objInit A q1297 q_oi1 q_oi2 dX5_init_1 (by omega) (by omega) (Nat.le_of_ble_eq_true rfl) ?_
    refine xr_aload_n A dX5_init_4 0 rfl rfl ?_
    refine xr_iconst A (v := (-1)) dX5_init_5 (by decide) ?_
    revert hf; refine ab_bdI (fun h1 mh1 hf => ?_)
    refine xr_put A xc_X5 in_X5 tyX5_ok nmX5 2 (Nat.le_of_ble_eq_true rfl) q1300 rfl rfl (v := vI (-1 : Int32)) rfl rfl mh1 dX5_init_6 ?_
    refine xr_aload_n A dX5_init_9 0 rfl rfl ?_
    refine xr_sipush A (v := 900) dX5_init_10 (by decide) ?_
    revert hf; refine ab_b2I (fun a2 h3 mh3 hf => ?_)
    refine xr_newa_byte A mh3 dX5_init_13 ?_
    revert hf; refine ab_bdI (fun h4 mh4 hf => ?_)
    refine xr_putF A xc_X5 in_X5 tyX5_ok nmX5 5 (Nat.le_of_ble_eq_true rfl) q1303 rfl rfl rfl rfl (v := vR (some a2)) (ab_nR _ rfl) (ab_tR _ rfl) mh4 dX5_init_15 ?_
    refine xr_aload_n A dX5_init_18 0 rfl rfl ?_
    refine xr_iconst A (v := 3) dX5_init_19 (by decide) ?_
    revert hf; refine ab_b2I (fun a5 h6 mh6 hf => ?_)
    refine xr_newa_int A mh6 dX5_init_20 ?_
    revert hf; refine ab_bdI (fun h7 mh7 hf => ?_)
    refine xr_putF A xc_X5 in_X5 tyX5_ok nmX5 17 (Nat.le_of_ble_eq_true rfl) q1315 rfl rfl rfl rfl (v := vR (some a5)) (ab_nR _ rfl) (ab_tR _ rfl) mh7 dX5_init_22 ?_
    refine xr_aload_n A dX5_init_25 0 rfl rfl ?_
    refine xr_bipush A (v := 18) dX5_init_26 (by decide) ?_
    revert hf; refine ab_b2I (fun a8 h9 mh9 hf => ?_)
    refine xr_newa_int A mh9 dX5_init_28 ?_
    revert hf; refine ab_bdI (fun h10 mh10 hf => ?_)
    refine xr_putF A xc_X5 in_X5 tyX5_ok nmX5 18 (Nat.le_of_ble_eq_true rfl) q1316 rfl rfl rfl rfl (v := vR (some a8)) (ab_nR _ rfl) (ab_tR _ rfl) mh10 dX5_init_30 ?_
    refine xr_aload_n A dX5_init_33 0 rfl rfl ?_
    refine xr_bipush A (v := 6) dX5_init_34 (by decide) ?_
    revert hf; refine ab_b2I (fun a11 h12 mh12 hf => ?_)
    refine xr_newa_int A mh12 dX5_init_36 ?_
    revert hf; refine ab_bdI (fun h13 mh13 hf => ?_)
    refine xr_putF A xc_X5 in_X5 tyX5_ok nmX5 22 (Nat.le_of_ble_eq_true rfl) q1320 rfl rfl rfl rfl (v := vR (some a11)) (ab_nR _ rfl) (ab_tR _ rfl) mh13 dX5_init_38 ?_
    refine xr_aload_n A dX5_init_41 0 rfl rfl ?_
    refine xr_bipush A (v := 6) dX5_init_42 (by decide) ?_
    revert hf; refine ab_b2I (fun a14 h15 mh15 hf => ?_)
    refine xr_newa_int A mh15 dX5_init_44 ?_
    revert hf; refine ab_bdI (fun h16 mh16 hf => ?_)
    refine xr_putF A xc_X5 in_X5 tyX5_ok nmX5 23 (Nat.le_of_ble_eq_true rfl) q1321 rfl rfl rfl rfl (v := vR (some a14)) (ab_nR _ rfl) (ab_tR _ rfl) mh16 dX5_init_46 ?_
    refine xr_aload_n A dX5_init_49 0 rfl rfl ?_
    refine xr_bipush A (v := 6) dX5_init_50 (by decide) ?_
    revert hf; refine ab_b2I (fun a17 h18 mh18 hf => ?_)
    refine xr_newa_int A mh18 dX5_init_52 ?_
    revert hf; refine ab_bdI (fun h19 mh19 hf => ?_)
    refine xr_putF A xc_X5 in_X5 tyX5_ok nmX5 26 (Nat.le_of_ble_eq_true rfl) q1324 rfl rfl rfl rfl (v := vR (some a17)) (ab_nR _ rfl) (ab_tR _ rfl) mh19 dX5_init_54 ?_
    refine xr_aload_n A dX5_init_57 0 rfl rfl ?_
    refine xr_bipush A (v := 6) dX5_init_58 (by decide) ?_
    revert hf; refine ab_b2I (fun a20 h21 mh21 hf => ?_)
    refine xr_newa_int A mh21 dX5_init_60 ?_
    revert hf; refine ab_bdI (fun h22 mh22 hf => ?_)
    refine xr_putF A xc_X5 in_X5 tyX5_ok nmX5 28 (Nat.le_of_ble_eq_true rfl) q1326 rfl rfl rfl rfl (v := vR (some a20)) (ab_nR _ rfl) (ab_tR _ rfl) mh22 dX5_init_62 ?_
    refine xr_aload_n A dX5_init_65 0 rfl rfl ?_
    refine xr_sipush A (v := 192) dX5_init_66 (by decide) ?_
    revert hf; refine ab_b2I (fun a23 h24 mh24 hf => ?_)
    refine xr_newa_int A mh24 dX5_init_69 ?_
    revert hf; refine ab_bdI (fun h25 mh25 hf => ?_)
    refine xr_putF A xc_X5 in_X5 tyX5_ok nmX5 29 (Nat.le_of_ble_eq_true rfl) q1327 rfl rfl rfl rfl (v := vR (some a23)) (ab_nR _ rfl) (ab_tR _ rfl) mh25 dX5_init_71 ?_
    refine xr_aload_n A dX5_init_74 0 rfl rfl ?_
    refine xr_sipush A (v := 192) dX5_init_75 (by decide) ?_
    revert hf; refine ab_b2I (fun a26 h27 mh27 hf => ?_)
    refine xr_newa_int A mh27 dX5_init_78 ?_
    revert hf; refine ab_bdI (fun h28 mh28 hf => ?_)
    refine xr_putF A xc_X5 in_X5 tyX5_ok nmX5 30 (Nat.le_of_ble_eq_true rfl) q1328 rfl rfl rfl rfl (v := vR (some a26)) (ab_nR _ rfl) (ab_tR _ rfl) mh28 dX5_init_80 ?_
    refine xr_aload_n A dX5_init_83 0 rfl rfl ?_
    refine xr_bipush A (v := 84) dX5_init_84 (by decide) ?_
    revert hf; refine ab_b2I (fun a29 h30 mh30 hf => ?_)
    refine xr_newa_int A mh30 dX5_init_86 ?_
    revert hf; refine ab_bdI (fun h31 mh31 hf => ?_)
    refine xr_putF A xc_X5 in_X5 tyX5_ok nmX5 31 (Nat.le_of_ble_eq_true rfl) q1329 rfl rfl rfl rfl (v := vR (some a29)) (ab_nR _ rfl) (ab_tR _ rfl) mh31 dX5_init_88 ?_
    refine xr_aload_n A dX5_init_91 0 rfl rfl ?_
    refine xr_bipush A (v := 14) dX5_init_92 (by decide) ?_
    revert hf; refine ab_b2I (fun a32 h33 mh33 hf => ?_)
    refine xr_newa_int A mh33 dX5_init_94 ?_
    revert hf; refine ab_bdI (fun h34 mh34 hf => ?_)
    refine xr_putF A xc_X5 in_X5 tyX5_ok nmX5 32 (Nat.le_of_ble_eq_true rfl) q1330 rfl rfl rfl rfl (v := vR (some a32)) (ab_nR _ rfl) (ab_tR _ rfl) mh34 dX5_init_96 ?_
    refine xr_aload_n A dX5_init_99 0 rfl rfl ?_
    refine xr_iconst A (v := 5) dX5_init_100 (by decide) ?_
    revert hf; refine ab_b2I (fun a35 h36 mh36 hf => ?_)
    refine xr_newa_int A mh36 dX5_init_101 ?_
    revert hf; refine ab_bdI (fun h37 mh37 hf => ?_)
    refine xr_putF A xc_X5 in_X5 tyX5_ok nmX5 35 (Nat.le_of_ble_eq_true rfl) q1333 rfl rfl rfl rfl (v := vR (some a35)) (ab_nR _ rfl) (ab_tR _ rfl) mh37 dX5_init_103 ?_
    refine xr_aload_n A dX5_init_106 0 rfl rfl ?_
    refine xr_iconst A (v := 5) dX5_init_107 (by decide) ?_
    revert hf; refine ab_b2I (fun a38 h39 mh39 hf => ?_)
    refine xr_newa_int A mh39 dX5_init_108 ?_
    revert hf; refine ab_bdI (fun h40 mh40 hf => ?_)
    refine xr_putF A xc_X5 in_X5 tyX5_ok nmX5 36 (Nat.le_of_ble_eq_true rfl) q1334 rfl rfl rfl rfl (v := vR (some a38)) (ab_nR _ rfl) (ab_tR _ rfl) mh40 dX5_init_110 ?_
    refine xr_aload_n A dX5_init_113 0 rfl rfl ?_
    refine xr_bipush A (v := 7) dX5_init_114 (by decide) ?_
    revert hf; refine ab_b2I (fun a41 h42 mh42 hf => ?_)
    refine xr_newa_int A mh42 dX5_init_116 ?_
    revert hf; refine ab_bdI (fun h43 mh43 hf => ?_)
    refine xr_putF A xc_X5 in_X5 tyX5_ok nmX5 38 (Nat.le_of_ble_eq_true rfl) q1336 rfl rfl rfl rfl (v := vR (some a41)) (ab_nR _ rfl) (ab_tR _ rfl) mh43 dX5_init_118 ?_
    refine xr_aload_n A dX5_init_121 0 rfl rfl ?_
    refine xr_bipush A (v := 6) dX5_init_122 (by decide) ?_
    revert hf; refine ab_b2I (fun a44 h45 mh45 hf => ?_)
    refine xr_newa_int A mh45 dX5_init_124 ?_
    revert hf; refine ab_bdI (fun h46 mh46 hf => ?_)
    refine xr_putF A xc_X5 in_X5 tyX5_ok nmX5 39 (Nat.le_of_ble_eq_true rfl) q1337 rfl rfl rfl rfl (v := vR (some a44)) (ab_nR _ rfl) (ab_tR _ rfl) mh46 dX5_init_126 ?_
    refine xr_aload_n A dX5_init_129 0 rfl rfl ?_
    refine xr_bipush A (v := 6) dX5_init_130 (by decide) ?_
    revert hf; refine ab_b2I (fun a47 h48 mh48 hf => ?_)
    refine xr_newa_int A mh48 dX5_init_132 ?_
    revert hf; refine ab_bdI (fun h49 mh49 hf => ?_)
    refine xr_putF A xc_X5 in_X5 tyX5_ok nmX5 40 (Nat.le_of_ble_eq_true rfl) q1338 rfl rfl rfl rfl (v := vR (some a47)) (ab_nR _ rfl) (ab_tR _ rfl) mh49 dX5_init_134 ?_
    refine xr_aload_n A dX5_init_137 0 rfl rfl ?_
    refine xr_bipush A (v := 60) dX5_init_138 (by decide) ?_
    revert hf; refine ab_b2I (fun a50 h51 mh51 hf => ?_)
    refine xr_newa_int A mh51 dX5_init_140 ?_
    revert hf; refine ab_bdI (fun h52 mh52 hf => ?_)
    refine xr_putF A xc_X5 in_X5 tyX5_ok nmX5 41 (Nat.le_of_ble_eq_true rfl) q1339 rfl rfl rfl rfl (v := vR (some a50)) (ab_nR _ rfl) (ab_tR _ rfl) mh52 dX5_init_142 ?_
    refine xr_aload_n A dX5_init_145 0 rfl rfl ?_
    refine xr_bipush A (v := 16) dX5_init_146 (by decide) ?_
    revert hf; refine ab_b2I (fun a53 h54 mh54 hf => ?_)
    refine xr_newa_int A mh54 dX5_init_148 ?_
    revert hf; refine ab_bdI (fun h55 mh55 hf => ?_)
    refine xr_putF A xc_X5 in_X5 tyX5_ok nmX5 43 (Nat.le_of_ble_eq_true rfl) q1341 rfl rfl rfl rfl (v := vR (some a53)) (ab_nR _ rfl) (ab_tR _ rfl) mh55 dX5_init_150 ?_
    refine xr_aload_n A dX5_init_153 0 rfl rfl ?_
    refine xr_bipush A (v := 16) dX5_init_154 (by decide) ?_
    revert hf; refine ab_b2I (fun a56 h57 mh57 hf => ?_)
    refine xr_newa_int A mh57 dX5_init_156 ?_
    revert hf; refine ab_bdI (fun h58 mh58 hf => ?_)
    refine xr_putF A xc_X5 in_X5 tyX5_ok nmX5 44 (Nat.le_of_ble_eq_true rfl) q1342 rfl rfl rfl rfl (v := vR (some a56)) (ab_nR _ rfl) (ab_tR _ rfl) mh58 dX5_init_158 ?_
    refine xr_aload_n A dX5_init_161 0 rfl rfl ?_
    refine xr_bipush A (v := 16) dX5_init_162 (by decide) ?_
    revert hf; refine ab_b2I (fun a59 h60 mh60 hf => ?_)
    refine xr_newa_int A mh60 dX5_init_164 ?_
    revert hf; refine ab_bdI (fun h61 mh61 hf => ?_)
    refine xr_putF A xc_X5 in_X5 tyX5_ok nmX5 45 (Nat.le_of_ble_eq_true rfl) q1343 rfl rfl rfl rfl (v := vR (some a59)) (ab_nR _ rfl) (ab_tR _ rfl) mh61 dX5_init_166 ?_
    exact xr_return A hf dX5_init_169
/-! X5_thrown -/
theorem bX5_thrown : MB yX5_thrown cX5_thrown 1 (some FieldType.int) 0 := ⟨q1440, q99, by decide, by decide +kernel⟩
noncomputable def fX5_thrown (x : Nat) (h : Hp) : Option (Int32 × Hp) :=
  ab_ck h x 4 <|
  ab_bd (ab_gI h x 4 0) fun v1 =>
  some (v1, h)
theorem wX5_thrown (D : Dd) {x : Nat} {h : Hp} {r : Int32} {h' : Hp} (hf : fX5_thrown x h = some (r, h')) : ab_is h x 4 ∧ Ct D 1 20 yX5_thrown cX5_thrown 1 (some FieldType.int) [vR (some x)] h (.inl (some (vI r))) h' := by
    unfold fX5_thrown at hf
    replace hf := ab_ckE hf; obtain ⟨i0, hf⟩ := hf
    refine ⟨i0, ?_⟩
    refine Ct.of (by decide) (L := [(0, vR (some x))]) rfl (Nat.le_of_ble_eq_true rfl) (fun C A => ?_)
    refine xr_aload_n A dX5_thrown_0 0 rfl rfl ?_
    revert hf; refine ab_bdI (fun v1 mv1 hf => ?_)
    refine xr_get A xc_X5 in_X5 0 (Nat.le_of_ble_eq_true rfl) q1298 rfl (ab_gIE mv1) dX5_thrown_1 ?_
    exact xr_ireturn A rfl hf dX5_thrown_4
/-! X5_feed -/
theorem bX5_feed : MB yX5_feed cX5_feed 8 (some FieldType.int) 5 := ⟨q1444, q99, by decide, by decide +kernel⟩
noncomputable def fX5_feed_b76 (x : Nat) (K23 : Int32 → Int32 → Int32 → Int32 → Int32 → Int32 → Hp → Option (Int32 × Hp)) (l1 : Int32) (l2 : Int32) (l3 : Int32) (l4 : Int32) (l5 : Int32) (l6 : Int32) (s0 : Int32) (h : Hp) : Option (Int32 × Hp) :=
  ab_bd (ab_gR h x 4 5) fun v1 =>
  ab_bd (ab_gI h x 4 6) fun v2 =>
  ab_bd v1 fun a3 =>
  ab_bd (ab_sB h a3 v2 (s0 >>> (((24 : Int32) - ((8 : Int32) * (l6 - l6 / (4 : Int32) * (4 : Int32)))) &&& 31)).toInt8.toInt32) fun h4 =>
  ab_bd (ab_gI h4 x 4 6) fun v5 =>
  ab_bd (ab_pI h4 x 4 6 (v5 + (1 : Int32))) fun h6 =>
  K23 l1 l2 l3 l4 l5 (l6 + (1 : Int32)) h6
theorem wX5_feed_b76 {D : Dd} {C : Cx} {h0 h' : Hp} {r : Int32} (A : Act C D (h0, (.inl (some (vI r))), h') yX5_feed cX5_feed 8 (some FieldType.int) 1 20 []) {x : Nat} {K23 : Int32 → Int32 → Int32 → Int32 → Int32 → Int32 → Hp → Option (Int32 × Hp)} (hK23 : ∀ {l1 : Int32} {l2 : Int32} {l3 : Int32} {l4 : Int32} {l5 : Int32} {l6 : Int32} {h : Hp}, K23 l1 l2 l3 l4 l5 l6 h = some (r, h') → X C D (h0, (.inl (some (vI r))), h') 8 23 [(0, vR (some x)), (1, vI l1), (2, vI l2), (3, vI l3), (4, vI l4), (5, vI l5), (6, vI l6)] [] h) {l1 : Int32} {l2 : Int32} {l3 : Int32} {l4 : Int32} {l5 : Int32} {l6 : Int32} {s0 : Int32} {h : Hp} (hf : fX5_feed_b76 x K23 l1 l2 l3 l4 l5 l6 s0 h = some (r, h')) : X C D (h0, (.inl (some (vI r))), h') 8 76 [(0, vR (some x)), (1, vI l1), (2, vI l2), (3, vI l3), (4, vI l4), (5, vI l5), (6, vI l6)] [vI s0] h := by
  unfold fX5_feed_b76 at hf
  refine xr_istore A dX5_feed_76 (Nat.le_of_ble_eq_true rfl) (L' := [(7, vI s0), (0, vR (some x)), (1, vI l1), (2, vI l2), (3, vI l3), (4, vI l4), (5, vI l5), (6, vI l6)]) rfl ?_
  refine xr_aload_n A dX5_feed_78 1 rfl rfl ?_
  revert hf; refine ab_bdI (fun v1 mv1 hf => ?_)
  refine xr_get A xc_X5 in_X5 5 (Nat.le_of_ble_eq_true rfl) q1303 rfl (ab_gRE mv1) dX5_feed_79 ?_
  refine xr_aload_n A dX5_feed_82 1 rfl rfl ?_
  revert hf; refine ab_bdI (fun v2 mv2 hf => ?_)
  refine xr_get A xc_X5 in_X5 6 (Nat.le_of_ble_eq_true rfl) q1304 rfl (ab_gIE mv2) dX5_feed_83 ?_
  refine xr_iload A dX5_feed_86 0 rfl ?_
  refine xr_bipush A (v := 24) dX5_feed_88 (by decide) ?_
  refine xr_bipush A (v := 8) dX5_feed_90 (by decide) ?_
  refine xr_iload A dX5_feed_92 7 rfl ?_
  refine xr_iconst A (v := 4) dX5_feed_94 (by decide) ?_
  refine xr_irem A dX5_feed_95 (by decide) ?_
  refine xr_imul A dX5_feed_96 ?_
  refine xr_isub A dX5_feed_97 ?_
  refine xr_ishr A dX5_feed_98 ?_
  refine xr_i2b A dX5_feed_99 ?_
  revert hf; refine ab_bdI (fun a3 e hf => ?_); subst e
  revert hf; refine ab_bdI (fun h4 mh4 hf => ?_)
  refine xr_bastore A mh4 dX5_feed_100 ?_
  refine xr_aload_n A dX5_feed_101 1 rfl rfl ?_
  refine xr_dup A dX5_feed_102 rfl ?_
  revert hf; refine ab_bdI (fun v5 mv5 hf => ?_)
  refine xr_get A xc_X5 in_X5 6 (Nat.le_of_ble_eq_true rfl) q1304 rfl (ab_gIE mv5) dX5_feed_103 ?_
  refine xr_iconst A (v := 1) dX5_feed_106 (by decide) ?_
  refine xr_iadd A dX5_feed_107 ?_
  revert hf; refine ab_bdI (fun h6 mh6 hf => ?_)
  refine xr_put A xc_X5 in_X5 tyX5_ok nmX5 6 (Nat.le_of_ble_eq_true rfl) q1304 rfl rfl (v := vI (v5 + (1 : Int32))) rfl rfl mh6 dX5_feed_108 ?_
  refine xr_iinc A dX5_feed_111 7 rfl (v := (l6 + (1 : Int32))) rfl (Nat.le_of_ble_eq_true rfl) (L' := [(6, vI (l6 + (1 : Int32))), (7, vI s0), (0, vR (some x)), (1, vI l1), (2, vI l2), (3, vI l3), (4, vI l4), (5, vI l5)]) rfl ?_
  refine xr_goto A (tgt := 23) dX5_feed_114 (by decide) ?_
  refine X.sub [2, 3, 4, 5, 6, 7, 0] rfl ?_
  exact hK23 hf
noncomputable def fX5_feed_l23 (x : Nat) : Nat → Int32 → Int32 → Int32 → Int32 → Int32 → Int32 → Hp → Option (Int32 × Hp)
  | 0, _, _, _, _, _, _, _ => none
  | n + 1, l1, l2, l3, l4, l5, l6, h =>
  if (20 : Int32) ≤ l6 then (
    ab_bd (ab_gI h x 4 6) fun v1 =>
    some (v1, h))
  else (
    if (4 : Int32) ≤ l6 then (
      if (8 : Int32) ≤ l6 then (
        if (12 : Int32) ≤ l6 then (
          if (16 : Int32) ≤ l6 then (
            fX5_feed_b76 x (fX5_feed_l23 x n) l1 l2 l3 l4 l5 l6 l5 h)
          else (
            fX5_feed_b76 x (fX5_feed_l23 x n) l1 l2 l3 l4 l5 l6 l4 h))
        else (
          fX5_feed_b76 x (fX5_feed_l23 x n) l1 l2 l3 l4 l5 l6 l3 h))
      else (
        fX5_feed_b76 x (fX5_feed_l23 x n) l1 l2 l3 l4 l5 l6 l2 h))
    else (
      fX5_feed_b76 x (fX5_feed_l23 x n) l1 l2 l3 l4 l5 l6 l1 h))
theorem wX5_feed_l23 {D : Dd} {C : Cx} {h0 h' : Hp} {r : Int32} (A : Act C D (h0, (.inl (some (vI r))), h') yX5_feed cX5_feed 8 (some FieldType.int) 1 20 []) {x : Nat} : ∀ (n : Nat) {l1 : Int32} {l2 : Int32} {l3 : Int32} {l4 : Int32} {l5 : Int32} {l6 : Int32} {h : Hp}, fX5_feed_l23 x n l1 l2 l3 l4 l5 l6 h = some (r, h') → X C D (h0, (.inl (some (vI r))), h') 8 23 [(0, vR (some x)), (1, vI l1), (2, vI l2), (3, vI l3), (4, vI l4), (5, vI l5), (6, vI l6)] [] h := by
  intro n
  induction n with
  | zero => intro l1 l2 l3 l4 l5 l6 h hf; exact ab_no hf
  | succ n ih =>
    intro l1 l2 l3 l4 l5 l6 h hf
    unfold fX5_feed_l23 at hf
    refine xr_iload A dX5_feed_23 6 rfl ?_
    refine xr_bipush A (v := 20) dX5_feed_25 (by decide) ?_
    refine xr_icmp_ge A (tgt := 117) dX5_feed_27 (by decide) (fun c27 => ?_) (fun c27 => ?_)
    · replace hf := ab_ip c27 hf
      refine xr_aload_n A dX5_feed_117 0 rfl rfl ?_
      revert hf; refine ab_bdI (fun v1 mv1 hf => ?_)
      refine xr_get A xc_X5 in_X5 6 (Nat.le_of_ble_eq_true rfl) q1304 rfl (ab_gIE mv1) dX5_feed_118 ?_
      exact xr_ireturn A rfl hf dX5_feed_121
    · replace hf := ab_in c27 hf
      refine xr_iload A dX5_feed_30 6 rfl ?_
      refine xr_iconst A (v := 4) dX5_feed_32 (by decide) ?_
      refine xr_icmp_ge A (tgt := 40) dX5_feed_33 (by decide) (fun c33 => ?_) (fun c33 => ?_)
      · replace hf := ab_ip c33 hf
        refine xr_iload A dX5_feed_40 6 rfl ?_
        refine xr_bipush A (v := 8) dX5_feed_42 (by decide) ?_
        refine xr_icmp_ge A (tgt := 51) dX5_feed_44 (by decide) (fun c44 => ?_) (fun c44 => ?_)
        · replace hf := ab_ip c44 hf
          refine xr_iload A dX5_feed_51 6 rfl ?_
          refine xr_bipush A (v := 12) dX5_feed_53 (by decide) ?_
          refine xr_icmp_ge A (tgt := 62) dX5_feed_55 (by decide) (fun c55 => ?_) (fun c55 => ?_)
          · replace hf := ab_ip c55 hf
            refine xr_iload A dX5_feed_62 6 rfl ?_
            refine xr_bipush A (v := 16) dX5_feed_64 (by decide) ?_
            refine xr_icmp_ge A (tgt := 74) dX5_feed_66 (by decide) (fun c66 => ?_) (fun c66 => ?_)
            · replace hf := ab_ip c66 hf
              refine xr_iload A dX5_feed_74 5 rfl ?_
              exact wX5_feed_b76 A (fun hf => ih hf) hf
            · replace hf := ab_in c66 hf
              refine xr_iload A dX5_feed_69 4 rfl ?_
              refine xr_goto A (tgt := 76) dX5_feed_71 (by decide) ?_
              exact wX5_feed_b76 A (fun hf => ih hf) hf
          · replace hf := ab_in c55 hf
            refine xr_iload_n A dX5_feed_58 3 rfl rfl ?_
            refine xr_goto A (tgt := 76) dX5_feed_59 (by decide) ?_
            exact wX5_feed_b76 A (fun hf => ih hf) hf
        · replace hf := ab_in c44 hf
          refine xr_iload_n A dX5_feed_47 2 rfl rfl ?_
          refine xr_goto A (tgt := 76) dX5_feed_48 (by decide) ?_
          exact wX5_feed_b76 A (fun hf => ih hf) hf
      · replace hf := ab_in c33 hf
        refine xr_iload_n A dX5_feed_36 1 rfl rfl ?_
        refine xr_goto A (tgt := 76) dX5_feed_37 (by decide) ?_
        exact wX5_feed_b76 A (fun hf => ih hf) hf
noncomputable def fX5_feed (x : Nat) (p1 : Int32) (p2 : Int32) (p3 : Int32) (p4 : Int32) (p5 : Int32) (h : Hp) : Option (Int32 × Hp) :=
  ab_ck h x 4 <|
  ab_bd (ab_pI h x 4 0 (0 : Int32)) fun h1 =>
  ab_bd (ab_gI h1 x 4 6) fun v2 =>
  if (v2 + (20 : Int32)) ≤ (900 : Int32) then (
    fX5_feed_l23 x (hfu h1) p1 p2 p3 p4 p5 (0 : Int32) h1)
  else (
    some ((-1 : Int32), h1))
theorem wX5_feed (D : Dd) {x : Nat} {p1 : Int32} {p2 : Int32} {p3 : Int32} {p4 : Int32} {p5 : Int32} {h : Hp} {r : Int32} {h' : Hp} (hf : fX5_feed x p1 p2 p3 p4 p5 h = some (r, h')) : ab_is h x 4 ∧ Ct D 1 20 yX5_feed cX5_feed 8 (some FieldType.int) [vR (some x), vI p1, vI p2, vI p3, vI p4, vI p5] h (.inl (some (vI r))) h' := by
    unfold fX5_feed at hf
    replace hf := ab_ckE hf; obtain ⟨i0, hf⟩ := hf
    refine ⟨i0, ?_⟩
    refine Ct.of (by decide) (L := [(0, vR (some x)), (1, vI p1), (2, vI p2), (3, vI p3), (4, vI p4), (5, vI p5)]) rfl (Nat.le_of_ble_eq_true rfl) (fun C A => ?_)
    refine xr_aload_n A dX5_feed_0 0 rfl rfl ?_
    refine xr_iconst A (v := 0) dX5_feed_1 (by decide) ?_
    revert hf; refine ab_bdI (fun h1 mh1 hf => ?_)
    refine xr_put A xc_X5 in_X5 tyX5_ok nmX5 0 (Nat.le_of_ble_eq_true rfl) q1298 rfl rfl (v := vI (0 : Int32)) rfl rfl mh1 dX5_feed_2 ?_
    refine xr_aload_n A dX5_feed_5 0 rfl rfl ?_
    revert hf; refine ab_bdI (fun v2 mv2 hf => ?_)
    refine xr_get A xc_X5 in_X5 6 (Nat.le_of_ble_eq_true rfl) q1304 rfl (ab_gIE mv2) dX5_feed_6 ?_
    refine xr_bipush A (v := 20) dX5_feed_9 (by decide) ?_
    refine xr_iadd A dX5_feed_11 ?_
    refine xr_sipush A (v := 900) dX5_feed_12 (by decide) ?_
    refine xr_icmp_le A (tgt := 20) dX5_feed_15 (by decide) (fun c15 => ?_) (fun c15 => ?_)
    · replace hf := ab_ip c15 hf
      refine xr_iconst A (v := 0) dX5_feed_20 (by decide) ?_
      refine xr_istore A dX5_feed_21 (Nat.le_of_ble_eq_true rfl) (L' := [(6, vI (0 : Int32)), (0, vR (some x)), (1, vI p1), (2, vI p2), (3, vI p3), (4, vI p4), (5, vI p5)]) rfl ?_
      refine X.sub [1, 2, 3, 4, 5, 6, 0] rfl ?_
      exact wX5_feed_l23 A _ hf
    · replace hf := ab_in c15 hf
      refine xr_iconst A (v := (-1)) dX5_feed_18 (by decide) ?_
      exact xr_ireturn A rfl hf dX5_feed_19
/-! X5_refused -/
theorem bX5_refused : MB yX5_refused cX5_refused 2 (some FieldType.int) 1 := ⟨q1452, q99, by decide, by decide +kernel⟩
noncomputable def fX5_refused (x : Nat) (p1 : Int32) (h : Hp) : Option (Int32 × Hp) :=
  ab_ck h x 4 <|
  ab_bd (ab_pI h x 4 1 p1) fun h1 =>
  ab_bd (ab_pI h1 x 4 2 (-1 : Int32)) fun h2 =>
  some ((-1 : Int32), h2)
theorem wX5_refused (D : Dd) {x : Nat} {p1 : Int32} {h : Hp} {r : Int32} {h' : Hp} (hf : fX5_refused x p1 h = some (r, h')) : ab_is h x 4 ∧ Ct D 1 20 yX5_refused cX5_refused 2 (some FieldType.int) [vR (some x), vI p1] h (.inl (some (vI r))) h' := by
    unfold fX5_refused at hf
    replace hf := ab_ckE hf; obtain ⟨i0, hf⟩ := hf
    refine ⟨i0, ?_⟩
    refine Ct.of (by decide) (L := [(0, vR (some x)), (1, vI p1)]) rfl (Nat.le_of_ble_eq_true rfl) (fun C A => ?_)
    refine xr_aload_n A dX5_refused_0 0 rfl rfl ?_
    refine xr_iload_n A dX5_refused_1 1 rfl rfl ?_
    revert hf; refine ab_bdI (fun h1 mh1 hf => ?_)
    refine xr_put A xc_X5 in_X5 tyX5_ok nmX5 1 (Nat.le_of_ble_eq_true rfl) q1299 rfl rfl (v := vI p1) rfl rfl mh1 dX5_refused_2 ?_
    refine xr_aload_n A dX5_refused_5 0 rfl rfl ?_
    refine xr_iconst A (v := (-1)) dX5_refused_6 (by decide) ?_
    revert hf; refine ab_bdI (fun h2 mh2 hf => ?_)
    refine xr_put A xc_X5 in_X5 tyX5_ok nmX5 2 (Nat.le_of_ble_eq_true rfl) q1300 rfl rfl (v := vI (-1 : Int32)) rfl rfl mh2 dX5_refused_7 ?_
    refine xr_iconst A (v := (-1)) dX5_refused_10 (by decide) ?_
    exact xr_ireturn A rfl hf dX5_refused_11
/-! X15_init -/
theorem bX15_init : MB yX15_init cX15_init 1 (none : Option FieldType) 0 := ⟨q1457, q114, by decide, by decide +kernel⟩
noncomputable def fX15_init (x : Nat) (h : Hp) : Option Hp :=
  ab_bd (ab_pI h x 13 0 (-1 : Int32)) fun h1 =>
  ab_b2 (ab_nA h1 0 (3 : Int32) ab_zI) fun a2 h3 =>
  ab_bd (ab_pR h3 x 13 11 (some a2)) fun h4 =>
  ab_b2 (ab_nA h4 0 (3 : Int32) ab_zI) fun a5 h6 =>
  ab_bd (ab_pR h6 x 13 12 (some a5)) fun h7 =>
  ab_b2 (ab_nA h7 0 (6 : Int32) ab_zI) fun a8 h9 =>
  ab_bd (ab_pR h9 x 13 13 (some a8)) fun h10 =>
  ab_b2 (ab_nA h10 0 (6 : Int32) ab_zI) fun a11 h12 =>
  ab_bd (ab_pR h12 x 13 14 (some a11)) fun h13 =>
  ab_b2 (ab_nA h13 0 (4 : Int32) ab_zI) fun a14 h15 =>
  ab_bd (ab_pR h15 x 13 15 (some a14)) fun h16 =>
  ab_b2 (ab_nA h16 0 (3 : Int32) ab_zI) fun a17 h18 =>
  ab_bd (ab_pR h18 x 13 16 (some a17)) fun h19 =>
  ab_b2 (ab_nA h19 0 (3 : Int32) ab_zI) fun a20 h21 =>
  ab_bd (ab_pR h21 x 13 17 (some a20)) fun h22 =>
  ab_b2 (ab_nA h22 0 (6 : Int32) ab_zI) fun a23 h24 =>
  ab_bd (ab_pR h24 x 13 18 (some a23)) fun h25 =>
  ab_b2 (ab_nA h25 0 (6 : Int32) ab_zI) fun a26 h27 =>
  ab_bd (ab_pR h27 x 13 19 (some a26)) fun h28 =>
  ab_b2 (ab_nA h28 0 (6 : Int32) ab_zI) fun a29 h30 =>
  ab_bd (ab_pR h30 x 13 20 (some a29)) fun h31 =>
  ab_b2 (ab_nA h31 0 (6 : Int32) ab_zI) fun a32 h33 =>
  ab_bd (ab_pR h33 x 13 21 (some a32)) fun h34 =>
  ab_b2 (ab_nA h34 0 (6 : Int32) ab_zI) fun a35 h36 =>
  ab_bd (ab_pR h36 x 13 22 (some a35)) fun h37 =>
  ab_b2 (ab_nA h37 0 (6 : Int32) ab_zI) fun a38 h39 =>
  ab_bd (ab_pR h39 x 13 23 (some a38)) fun h40 =>
  ab_b2 (ab_nA h40 4 (6 : Int32) ab_zI) fun a41 h42 =>
  ab_bd (ab_pR h42 x 13 24 (some a41)) fun h43 =>
  ab_b2 (ab_nA h43 4 (3 : Int32) ab_zI) fun a44 h45 =>
  ab_bd (ab_pR h45 x 13 25 (some a44)) fun h46 =>
  ab_b2 (ab_nA h46 0 (3 : Int32) ab_zI) fun a47 h48 =>
  ab_bd (ab_pR h48 x 13 26 (some a47)) fun h49 =>
  ab_b2 (ab_nA h49 0 (3 : Int32) ab_zI) fun a50 h51 =>
  ab_bd (ab_pR h51 x 13 27 (some a50)) fun h52 =>
  ab_b2 (ab_nA h52 0 (3 : Int32) ab_zI) fun a53 h54 =>
  ab_bd (ab_pR h54 x 13 28 (some a53)) fun h55 =>
  ab_b2 (ab_nA h55 0 (3 : Int32) ab_zI) fun a56 h57 =>
  ab_bd (ab_pR h57 x 13 29 (some a56)) fun h58 =>
  ab_b2 (ab_nA h58 0 (5 : Int32) ab_zI) fun a59 h60 =>
  ab_bd (ab_pR h60 x 13 30 (some a59)) fun h61 =>
  ab_b2 (ab_nA h61 0 (5 : Int32) ab_zI) fun a62 h63 =>
  ab_bd (ab_pR h63 x 13 31 (some a62)) fun h64 =>
  ab_b2 (ab_nA h64 0 (5 : Int32) ab_zI) fun a65 h66 =>
  ab_bd (ab_pR h66 x 13 32 (some a65)) fun h67 =>
  ab_b2 (ab_nA h67 0 (5 : Int32) ab_zI) fun a68 h69 =>
  ab_bd (ab_pR h69 x 13 33 (some a68)) fun h70 =>
  ab_b2 (ab_nA h70 3 (32 : Int32) ab_zJ) fun a71 h72 =>
  ab_bd (ab_pR h72 x 13 34 (some a71)) fun h73 =>
  ab_b2 (ab_nA h73 0 (32 : Int32) ab_zI) fun a74 h75 =>
  ab_bd (ab_pR h75 x 13 35 (some a74)) fun h76 =>
  ab_b2 (ab_nA h76 0 (32 : Int32) ab_zI) fun a77 h78 =>
  ab_bd (ab_pR h78 x 13 36 (some a77)) fun h79 =>
  some h79
theorem wX15_init (D : Dd) {x : Nat} {h : Hp} {h' : Hp} (hf : fX15_init x h = some h') : Ct D 1 20 yX15_init cX15_init 1 (none : Option FieldType) [vR (some x)] h (.inl none) h' := by
    unfold fX15_init at hf
    refine Ct.of (by decide) (L := [(0, vR (some x))]) rfl (Nat.le_of_ble_eq_true rfl) (fun C A => ?_)
    refine xr_aload_n A dX15_init_0 0 rfl rfl ?_
    refine xr_objInit A q1458 q_oi1 q_oi2 dX15_init_1 (by omega) (by omega) (Nat.le_of_ble_eq_true rfl) ?_
    refine xr_aload_n A dX15_init_4 0 rfl rfl ?_
    refine xr_iconst A (v := (-1)) dX15_init_5 (by decide) ?_
    revert hf; refine ab_bdI (fun h1 mh1 hf => ?_)
    refine xr_put A xc_X15 in_X15 tyX15_ok nmX15 0 (Nat.le_of_ble_eq_true rfl) q1459 rfl rfl (v := vI (-1 : Int32)) rfl rfl mh1 dX15_init_6 ?_
    refine xr_aload_n A dX15_init_9 0 rfl rfl ?_
    refine xr_iconst A (v := 3) dX15_init_10 (by decide) ?_
    revert hf; refine ab_b2I (fun a2 h3 mh3 hf => ?_)
    refine xr_newa_int A mh3 dX15_init_11 ?_
    revert hf; refine ab_bdI (fun h4 mh4 hf => ?_)
    refine xr_putF A xc_X15 in_X15 tyX15_ok nmX15 11 (Nat.le_of_ble_eq_true rfl) q1473 rfl rfl rfl rfl (v := vR (some a2)) (ab_nR _ rfl) (ab_tR _ rfl) mh4 dX15_init_13 ?_
    refine xr_aload_n A dX15_init_16 0 rfl rfl ?_
    refine xr_iconst A (v := 3) dX15_init_17 (by decide) ?_
    revert hf; refine ab_b2I (fun a5 h6 mh6 hf => ?_)
    refine xr_newa_int A mh6 dX15_init_18 ?_
    revert hf; refine ab_bdI (fun h7 mh7 hf => ?_)
    refine xr_putF A xc_X15 in_X15 tyX15_ok nmX15 12 (Nat.le_of_ble_eq_true rfl) q1475 rfl rfl rfl rfl (v := vR (some a5)) (ab_nR _ rfl) (ab_tR _ rfl) mh7 dX15_init_20 ?_
    refine xr_aload_n A dX15_init_23 0 rfl rfl ?_
    refine xr_bipush A (v := 6) dX15_init_24 (by decide) ?_
    revert hf; refine ab_b2I (fun a8 h9 mh9 hf => ?_)
    refine xr_newa_int A mh9 dX15_init_26 ?_
    revert hf; refine ab_bdI (fun h10 mh10 hf => ?_)
    refine xr_putF A xc_X15 in_X15 tyX15_ok nmX15 13 (Nat.le_of_ble_eq_true rfl) q1477 rfl rfl rfl rfl (v := vR (some a8)) (ab_nR _ rfl) (ab_tR _ rfl) mh10 dX15_init_28 ?_
    refine xr_aload_n A dX15_init_31 0 rfl rfl ?_
    refine xr_bipush A (v := 6) dX15_init_32 (by decide) ?_
    revert hf; refine ab_b2I (fun a11 h12 mh12 hf => ?_)
    refine xr_newa_int A mh12 dX15_init_34 ?_
    revert hf; refine ab_bdI (fun h13 mh13 hf => ?_)
    refine xr_putF A xc_X15 in_X15 tyX15_ok nmX15 14 (Nat.le_of_ble_eq_true rfl) q1479 rfl rfl rfl rfl (v := vR (some a11)) (ab_nR _ rfl) (ab_tR _ rfl) mh13 dX15_init_36 ?_
    refine xr_aload_n A dX15_init_39 0 rfl rfl ?_
    refine xr_iconst A (v := 4) dX15_init_40 (by decide) ?_
    revert hf; refine ab_b2I (fun a14 h15 mh15 hf => ?_)
    refine xr_newa_int A mh15 dX15_init_41 ?_
    revert hf; refine ab_bdI (fun h16 mh16 hf => ?_)
    refine xr_putF A xc_X15 in_X15 tyX15_ok nmX15 15 (Nat.le_of_ble_eq_true rfl) q1481 rfl rfl rfl rfl (v := vR (some a14)) (ab_nR _ rfl) (ab_tR _ rfl) mh16 dX15_init_43 ?_
    refine xr_aload_n A dX15_init_46 0 rfl rfl ?_
    refine xr_iconst A (v := 3) dX15_init_47 (by decide) ?_
    revert hf; refine ab_b2I (fun a17 h18 mh18 hf => ?_)
    refine xr_newa_int A mh18 dX15_init_48 ?_
    revert hf; refine ab_bdI (fun h19 mh19 hf => ?_)
    refine xr_putF A xc_X15 in_X15 tyX15_ok nmX15 16 (Nat.le_of_ble_eq_true rfl) q1483 rfl rfl rfl rfl (v := vR (some a17)) (ab_nR _ rfl) (ab_tR _ rfl) mh19 dX15_init_50 ?_
    refine xr_aload_n A dX15_init_53 0 rfl rfl ?_
    refine xr_iconst A (v := 3) dX15_init_54 (by decide) ?_
    revert hf; refine ab_b2I (fun a20 h21 mh21 hf => ?_)
    refine xr_newa_int A mh21 dX15_init_55 ?_
    revert hf; refine ab_bdI (fun h22 mh22 hf => ?_)
    refine xr_putF A xc_X15 in_X15 tyX15_ok nmX15 17 (Nat.le_of_ble_eq_true rfl) q1485 rfl rfl rfl rfl (v := vR (some a20)) (ab_nR _ rfl) (ab_tR _ rfl) mh22 dX15_init_57 ?_
    refine xr_aload_n A dX15_init_60 0 rfl rfl ?_
    refine xr_bipush A (v := 6) dX15_init_61 (by decide) ?_
    revert hf; refine ab_b2I (fun a23 h24 mh24 hf => ?_)
    refine xr_newa_int A mh24 dX15_init_63 ?_
    revert hf; refine ab_bdI (fun h25 mh25 hf => ?_)
    refine xr_putF A xc_X15 in_X15 tyX15_ok nmX15 18 (Nat.le_of_ble_eq_true rfl) q1487 rfl rfl rfl rfl (v := vR (some a23)) (ab_nR _ rfl) (ab_tR _ rfl) mh25 dX15_init_65 ?_
    refine xr_aload_n A dX15_init_68 0 rfl rfl ?_
    refine xr_bipush A (v := 6) dX15_init_69 (by decide) ?_
    revert hf; refine ab_b2I (fun a26 h27 mh27 hf => ?_)
    refine xr_newa_int A mh27 dX15_init_71 ?_
    revert hf; refine ab_bdI (fun h28 mh28 hf => ?_)
    refine xr_putF A xc_X15 in_X15 tyX15_ok nmX15 19 (Nat.le_of_ble_eq_true rfl) q1489 rfl rfl rfl rfl (v := vR (some a26)) (ab_nR _ rfl) (ab_tR _ rfl) mh28 dX15_init_73 ?_
    refine xr_aload_n A dX15_init_76 0 rfl rfl ?_
    refine xr_bipush A (v := 6) dX15_init_77 (by decide) ?_
    revert hf; refine ab_b2I (fun a29 h30 mh30 hf => ?_)
    refine xr_newa_int A mh30 dX15_init_79 ?_
    revert hf; refine ab_bdI (fun h31 mh31 hf => ?_)
    refine xr_putF A xc_X15 in_X15 tyX15_ok nmX15 20 (Nat.le_of_ble_eq_true rfl) q1491 rfl rfl rfl rfl (v := vR (some a29)) (ab_nR _ rfl) (ab_tR _ rfl) mh31 dX15_init_81 ?_
    refine xr_aload_n A dX15_init_84 0 rfl rfl ?_
    refine xr_bipush A (v := 6) dX15_init_85 (by decide) ?_
    revert hf; refine ab_b2I (fun a32 h33 mh33 hf => ?_)
    refine xr_newa_int A mh33 dX15_init_87 ?_
    revert hf; refine ab_bdI (fun h34 mh34 hf => ?_)
    refine xr_putF A xc_X15 in_X15 tyX15_ok nmX15 21 (Nat.le_of_ble_eq_true rfl) q1493 rfl rfl rfl rfl (v := vR (some a32)) (ab_nR _ rfl) (ab_tR _ rfl) mh34 dX15_init_89 ?_
    refine xr_aload_n A dX15_init_92 0 rfl rfl ?_
    refine xr_bipush A (v := 6) dX15_init_93 (by decide) ?_
    revert hf; refine ab_b2I (fun a35 h36 mh36 hf => ?_)
    refine xr_newa_int A mh36 dX15_init_95 ?_
    revert hf; refine ab_bdI (fun h37 mh37 hf => ?_)
    refine xr_putF A xc_X15 in_X15 tyX15_ok nmX15 22 (Nat.le_of_ble_eq_true rfl) q1495 rfl rfl rfl rfl (v := vR (some a35)) (ab_nR _ rfl) (ab_tR _ rfl) mh37 dX15_init_97 ?_
    refine xr_aload_n A dX15_init_100 0 rfl rfl ?_
    refine xr_bipush A (v := 6) dX15_init_101 (by decide) ?_
    revert hf; refine ab_b2I (fun a38 h39 mh39 hf => ?_)
    refine xr_newa_int A mh39 dX15_init_103 ?_
    revert hf; refine ab_bdI (fun h40 mh40 hf => ?_)
    refine xr_putF A xc_X15 in_X15 tyX15_ok nmX15 23 (Nat.le_of_ble_eq_true rfl) q1497 rfl rfl rfl rfl (v := vR (some a38)) (ab_nR _ rfl) (ab_tR _ rfl) mh40 dX15_init_105 ?_
    refine xr_aload_n A dX15_init_108 0 rfl rfl ?_
    refine xr_bipush A (v := 6) dX15_init_109 (by decide) ?_
    revert hf; refine ab_b2I (fun a41 h42 mh42 hf => ?_)
    refine xr_newa_boolean A mh42 dX15_init_111 ?_
    revert hf; refine ab_bdI (fun h43 mh43 hf => ?_)
    refine xr_putF A xc_X15 in_X15 tyX15_ok nmX15 24 (Nat.le_of_ble_eq_true rfl) q1499 rfl rfl rfl rfl (v := vR (some a41)) (ab_nR _ rfl) (ab_tR _ rfl) mh43 dX15_init_113 ?_
    refine xr_aload_n A dX15_init_116 0 rfl rfl ?_
    refine xr_iconst A (v := 3) dX15_init_117 (by decide) ?_
    revert hf; refine ab_b2I (fun a44 h45 mh45 hf => ?_)
    refine xr_newa_boolean A mh45 dX15_init_118 ?_
    revert hf; refine ab_bdI (fun h46 mh46 hf => ?_)
    refine xr_putF A xc_X15 in_X15 tyX15_ok nmX15 25 (Nat.le_of_ble_eq_true rfl) q1501 rfl rfl rfl rfl (v := vR (some a44)) (ab_nR _ rfl) (ab_tR _ rfl) mh46 dX15_init_120 ?_
    refine xr_aload_n A dX15_init_123 0 rfl rfl ?_
    refine xr_iconst A (v := 3) dX15_init_124 (by decide) ?_
    revert hf; refine ab_b2I (fun a47 h48 mh48 hf => ?_)
    refine xr_newa_int A mh48 dX15_init_125 ?_
    revert hf; refine ab_bdI (fun h49 mh49 hf => ?_)
    refine xr_putF A xc_X15 in_X15 tyX15_ok nmX15 26 (Nat.le_of_ble_eq_true rfl) q1503 rfl rfl rfl rfl (v := vR (some a47)) (ab_nR _ rfl) (ab_tR _ rfl) mh49 dX15_init_127 ?_
    refine xr_aload_n A dX15_init_130 0 rfl rfl ?_
    refine xr_iconst A (v := 3) dX15_init_131 (by decide) ?_
    revert hf; refine ab_b2I (fun a50 h51 mh51 hf => ?_)
    refine xr_newa_int A mh51 dX15_init_132 ?_
    revert hf; refine ab_bdI (fun h52 mh52 hf => ?_)
    refine xr_putF A xc_X15 in_X15 tyX15_ok nmX15 27 (Nat.le_of_ble_eq_true rfl) q1505 rfl rfl rfl rfl (v := vR (some a50)) (ab_nR _ rfl) (ab_tR _ rfl) mh52 dX15_init_134 ?_
    refine xr_aload_n A dX15_init_137 0 rfl rfl ?_
    refine xr_iconst A (v := 3) dX15_init_138 (by decide) ?_
    revert hf; refine ab_b2I (fun a53 h54 mh54 hf => ?_)
    refine xr_newa_int A mh54 dX15_init_139 ?_
    revert hf; refine ab_bdI (fun h55 mh55 hf => ?_)
    refine xr_putF A xc_X15 in_X15 tyX15_ok nmX15 28 (Nat.le_of_ble_eq_true rfl) q1507 rfl rfl rfl rfl (v := vR (some a53)) (ab_nR _ rfl) (ab_tR _ rfl) mh55 dX15_init_141 ?_
    refine xr_aload_n A dX15_init_144 0 rfl rfl ?_
    refine xr_iconst A (v := 3) dX15_init_145 (by decide) ?_
    revert hf; refine ab_b2I (fun a56 h57 mh57 hf => ?_)
    refine xr_newa_int A mh57 dX15_init_146 ?_
    revert hf; refine ab_bdI (fun h58 mh58 hf => ?_)
    refine xr_putF A xc_X15 in_X15 tyX15_ok nmX15 29 (Nat.le_of_ble_eq_true rfl) q1509 rfl rfl rfl rfl (v := vR (some a56)) (ab_nR _ rfl) (ab_tR _ rfl) mh58 dX15_init_148 ?_
    refine xr_aload_n A dX15_init_151 0 rfl rfl ?_
    refine xr_iconst A (v := 5) dX15_init_152 (by decide) ?_
    revert hf; refine ab_b2I (fun a59 h60 mh60 hf => ?_)
    refine xr_newa_int A mh60 dX15_init_153 ?_
    revert hf; refine ab_bdI (fun h61 mh61 hf => ?_)
    refine xr_putF A xc_X15 in_X15 tyX15_ok nmX15 30 (Nat.le_of_ble_eq_true rfl) q1511 rfl rfl rfl rfl (v := vR (some a59)) (ab_nR _ rfl) (ab_tR _ rfl) mh61 dX15_init_155 ?_
    refine xr_aload_n A dX15_init_158 0 rfl rfl ?_
    refine xr_iconst A (v := 5) dX15_init_159 (by decide) ?_
    revert hf; refine ab_b2I (fun a62 h63 mh63 hf => ?_)
    refine xr_newa_int A mh63 dX15_init_160 ?_
    revert hf; refine ab_bdI (fun h64 mh64 hf => ?_)
    refine xr_putF A xc_X15 in_X15 tyX15_ok nmX15 31 (Nat.le_of_ble_eq_true rfl) q1513 rfl rfl rfl rfl (v := vR (some a62)) (ab_nR _ rfl) (ab_tR _ rfl) mh64 dX15_init_162 ?_
    refine xr_aload_n A dX15_init_165 0 rfl rfl ?_
    refine xr_iconst A (v := 5) dX15_init_166 (by decide) ?_
    revert hf; refine ab_b2I (fun a65 h66 mh66 hf => ?_)
    refine xr_newa_int A mh66 dX15_init_167 ?_
    revert hf; refine ab_bdI (fun h67 mh67 hf => ?_)
    refine xr_putF A xc_X15 in_X15 tyX15_ok nmX15 32 (Nat.le_of_ble_eq_true rfl) q1515 rfl rfl rfl rfl (v := vR (some a65)) (ab_nR _ rfl) (ab_tR _ rfl) mh67 dX15_init_169 ?_
    refine xr_aload_n A dX15_init_172 0 rfl rfl ?_
    refine xr_iconst A (v := 5) dX15_init_173 (by decide) ?_
    revert hf; refine ab_b2I (fun a68 h69 mh69 hf => ?_)
    refine xr_newa_int A mh69 dX15_init_174 ?_
    revert hf; refine ab_bdI (fun h70 mh70 hf => ?_)
    refine xr_putF A xc_X15 in_X15 tyX15_ok nmX15 33 (Nat.le_of_ble_eq_true rfl) q1517 rfl rfl rfl rfl (v := vR (some a68)) (ab_nR _ rfl) (ab_tR _ rfl) mh70 dX15_init_176 ?_
    refine xr_aload_n A dX15_init_179 0 rfl rfl ?_
    refine xr_bipush A (v := 32) dX15_init_180 (by decide) ?_
    revert hf; refine ab_b2I (fun a71 h72 mh72 hf => ?_)
    refine xr_newa_long A mh72 dX15_init_182 ?_
    revert hf; refine ab_bdI (fun h73 mh73 hf => ?_)
    refine xr_putF A xc_X15 in_X15 tyX15_ok nmX15 34 (Nat.le_of_ble_eq_true rfl) q1519 rfl rfl rfl rfl (v := vR (some a71)) (ab_nR _ rfl) (ab_tR _ rfl) mh73 dX15_init_184 ?_
    refine xr_aload_n A dX15_init_187 0 rfl rfl ?_
    refine xr_bipush A (v := 32) dX15_init_188 (by decide) ?_
    revert hf; refine ab_b2I (fun a74 h75 mh75 hf => ?_)
    refine xr_newa_int A mh75 dX15_init_190 ?_
    revert hf; refine ab_bdI (fun h76 mh76 hf => ?_)
    refine xr_putF A xc_X15 in_X15 tyX15_ok nmX15 35 (Nat.le_of_ble_eq_true rfl) q1521 rfl rfl rfl rfl (v := vR (some a74)) (ab_nR _ rfl) (ab_tR _ rfl) mh76 dX15_init_192 ?_
    refine xr_aload_n A dX15_init_195 0 rfl rfl ?_
    refine xr_bipush A (v := 32) dX15_init_196 (by decide) ?_
    revert hf; refine ab_b2I (fun a77 h78 mh78 hf => ?_)
    refine xr_newa_int A mh78 dX15_init_198 ?_
    revert hf; refine ab_bdI (fun h79 mh79 hf => ?_)
    refine xr_putF A xc_X15 in_X15 tyX15_ok nmX15 36 (Nat.le_of_ble_eq_true rfl) q1523 rfl rfl rfl rfl (v := vR (some a77)) (ab_nR _ rfl) (ab_tR _ rfl) mh79 dX15_init_200 ?_
    exact xr_return A hf dX15_init_203
/-! X5_byteAt -/
theorem bX5_byteAt : MB yX5_byteAt cX5_byteAt 2 (some FieldType.int) 1 := ⟨q1609, q99, by decide, by decide +kernel⟩
noncomputable def fX5_byteAt (x : Nat) (p1 : Int32) (h : Hp) : Option (Int32 × Hp) :=
  ab_ck h x 4 <|
  ab_bd (ab_gI h x 4 7) fun v1 =>
  if v1 ≤ p1 then (
    some ((-1 : Int32), h))
  else (
    ab_bd (ab_gR h x 4 5) fun v2 =>
    ab_bd v2 fun a3 =>
    ab_bd (ab_aI h a3 1 p1) fun v4 =>
    some ((v4 &&& (255 : Int32)), h))
theorem wX5_byteAt (D : Dd) {x : Nat} {p1 : Int32} {h : Hp} {r : Int32} {h' : Hp} (hf : fX5_byteAt x p1 h = some (r, h')) : ab_is h x 4 ∧ Ct D 1 20 yX5_byteAt cX5_byteAt 2 (some FieldType.int) [vR (some x), vI p1] h (.inl (some (vI r))) h' := by
    unfold fX5_byteAt at hf
    replace hf := ab_ckE hf; obtain ⟨i0, hf⟩ := hf
    refine ⟨i0, ?_⟩
    refine Ct.of (by decide) (L := [(0, vR (some x)), (1, vI p1)]) rfl (Nat.le_of_ble_eq_true rfl) (fun C A => ?_)
    refine xr_iload_n A dX5_byteAt_0 1 rfl rfl ?_
    refine xr_aload_n A dX5_byteAt_1 0 rfl rfl ?_
    revert hf; refine ab_bdI (fun v1 mv1 hf => ?_)
    refine xr_get A xc_X5 in_X5 7 (Nat.le_of_ble_eq_true rfl) q1305 rfl (ab_gIE mv1) dX5_byteAt_2 ?_
    refine xr_icmp_ge A (tgt := 21) dX5_byteAt_5 (by decide) (fun c5 => ?_) (fun c5 => ?_)
    · replace hf := ab_ip c5 hf
      refine xr_iconst A (v := (-1)) dX5_byteAt_21 (by decide) ?_
      exact xr_ireturn A rfl hf dX5_byteAt_22
    · replace hf := ab_in c5 hf
      refine xr_aload_n A dX5_byteAt_8 0 rfl rfl ?_
      revert hf; refine ab_bdI (fun v2 mv2 hf => ?_)
      refine xr_get A xc_X5 in_X5 5 (Nat.le_of_ble_eq_true rfl) q1303 rfl (ab_gRE mv2) dX5_byteAt_9 ?_
      refine xr_iload_n A dX5_byteAt_12 1 rfl rfl ?_
      revert hf; refine ab_bdI (fun a3 e hf => ?_); subst e
      revert hf; refine ab_bdI (fun v4 mv4 hf => ?_)
      refine xr_baload A mv4 dX5_byteAt_13 ?_
      refine xr_sipush A (v := 255) dX5_byteAt_14 (by decide) ?_
      refine xr_iand A dX5_byteAt_17 ?_
      refine xr_goto A (tgt := 22) dX5_byteAt_18 (by decide) ?_
      exact xr_ireturn A rfl hf dX5_byteAt_22
/-! X5_isLetter -/
theorem bX5_isLetter : MB yX5_isLetter cX5_isLetter 1 (some FieldType.boolean) 1 := ⟨q1612, q99, by decide, by decide +kernel⟩
noncomputable def fX5_isLetter (p0 : Int32) (h : Hp) : Option (Int32 × Hp) :=
  if p0 < (97 : Int32) then (
    some ((0 : Int32), h))
  else (
    if (122 : Int32) < p0 then (
      some ((0 : Int32), h))
    else (
      some ((1 : Int32), h)))
theorem wX5_isLetter (D : Dd) {p0 : Int32} {h : Hp} {r : Int32} {h' : Hp} (hf : fX5_isLetter p0 h = some (r, h')) : Ct D 1 20 yX5_isLetter cX5_isLetter 1 (some FieldType.boolean) [vI p0] h (.inl (some (vI r))) h' := by
    unfold fX5_isLetter at hf
    refine Ct.of (by decide) (L := [(0, vI p0)]) rfl (Nat.le_of_ble_eq_true rfl) (fun C A => ?_)
    refine xr_iload_n A dX5_isLetter_0 0 rfl rfl ?_
    refine xr_bipush A (v := 97) dX5_isLetter_1 (by decide) ?_
    refine xr_icmp_lt A (tgt := 16) dX5_isLetter_3 (by decide) (fun c3 => ?_) (fun c3 => ?_)
    · replace hf := ab_ip c3 hf
      refine xr_iconst A (v := 0) dX5_isLetter_16 (by decide) ?_
      exact xr_ireturn A rfl hf dX5_isLetter_17
    · replace hf := ab_in c3 hf
      refine xr_iload_n A dX5_isLetter_6 0 rfl rfl ?_
      refine xr_bipush A (v := 122) dX5_isLetter_7 (by decide) ?_
      refine xr_icmp_gt A (tgt := 16) dX5_isLetter_9 (by decide) (fun c9 => ?_) (fun c9 => ?_)
      · replace hf := ab_ip c9 hf
        refine xr_iconst A (v := 0) dX5_isLetter_16 (by decide) ?_
        exact xr_ireturn A rfl hf dX5_isLetter_17
      · replace hf := ab_in c9 hf
        refine xr_iconst A (v := 1) dX5_isLetter_12 (by decide) ?_
        refine xr_goto A (tgt := 17) dX5_isLetter_13 (by decide) ?_
        exact xr_ireturn A rfl hf dX5_isLetter_17
/-! X5_isDigit -/
theorem bX5_isDigit : MB yX5_isDigit cX5_isDigit 1 (some FieldType.boolean) 1 := ⟨q1616, q99, by decide, by decide +kernel⟩
noncomputable def fX5_isDigit (p0 : Int32) (h : Hp) : Option (Int32 × Hp) :=
  if p0 < (48 : Int32) then (
    some ((0 : Int32), h))
  else (
    if (57 : Int32) < p0 then (
      some ((0 : Int32), h))
    else (
      some ((1 : Int32), h)))
theorem wX5_isDigit (D : Dd) {p0 : Int32} {h : Hp} {r : Int32} {h' : Hp} (hf : fX5_isDigit p0 h = some (r, h')) : Ct D 1 20 yX5_isDigit cX5_isDigit 1 (some FieldType.boolean) [vI p0] h (.inl (some (vI r))) h' := by
    unfold fX5_isDigit at hf
    refine Ct.of (by decide) (L := [(0, vI p0)]) rfl (Nat.le_of_ble_eq_true rfl) (fun C A => ?_)
    refine xr_iload_n A dX5_isDigit_0 0 rfl rfl ?_
    refine xr_bipush A (v := 48) dX5_isDigit_1 (by decide) ?_
    refine xr_icmp_lt A (tgt := 16) dX5_isDigit_3 (by decide) (fun c3 => ?_) (fun c3 => ?_)
    · replace hf := ab_ip c3 hf
      refine xr_iconst A (v := 0) dX5_isDigit_16 (by decide) ?_
      exact xr_ireturn A rfl hf dX5_isDigit_17
    · replace hf := ab_in c3 hf
      refine xr_iload_n A dX5_isDigit_6 0 rfl rfl ?_
      refine xr_bipush A (v := 57) dX5_isDigit_7 (by decide) ?_
      refine xr_icmp_gt A (tgt := 16) dX5_isDigit_9 (by decide) (fun c9 => ?_) (fun c9 => ?_)
      · replace hf := ab_ip c9 hf
        refine xr_iconst A (v := 0) dX5_isDigit_16 (by decide) ?_
        exact xr_ireturn A rfl hf dX5_isDigit_17
      · replace hf := ab_in c9 hf
        refine xr_iconst A (v := 1) dX5_isDigit_12 (by decide) ?_
        refine xr_goto A (tgt := 17) dX5_isDigit_13 (by decide) ?_
        exact xr_ireturn A rfl hf dX5_isDigit_17
/-! X5_goesOn -/
theorem bX5_goesOn : MB yX5_goesOn cX5_goesOn 3 (none : Option FieldType) 0 := ⟨q1605, q99, by decide, by decide +kernel⟩
noncomputable def fX5_goesOn_b288 (x : Nat) (l1 : Int32) (h : Hp) : Option Hp :=
  ab_bd (ab_pI h x 4 9 (4 : Int32)) fun h1 =>
  ab_bd (ab_pI h1 x 4 11 l1) fun h2 =>
  ab_bd (ab_gI h2 x 4 8) fun v3 =>
  ab_bd (ab_pI h2 x 4 8 (v3 + (1 : Int32))) fun h4 =>
  some h4
theorem wX5_goesOn_b288 {D : Dd} {C : Cx} {h0 h' : Hp} (A : Act C D (h0, (.inl none), h') yX5_goesOn cX5_goesOn 3 (none : Option FieldType) 2 41 []) {x : Nat} {l1 : Int32} {h : Hp} (hf : fX5_goesOn_b288 x l1 h = some h') : X C D (h0, (.inl none), h') 3 288 [(0, vR (some x)), (1, vI l1)] [] h := by
  unfold fX5_goesOn_b288 at hf
  refine xr_aload_n A dX5_goesOn_288 0 rfl rfl ?_
  refine xr_iconst A (v := 4) dX5_goesOn_289 (by decide) ?_
  revert hf; refine ab_bdI (fun h1 mh1 hf => ?_)
  refine xr_put A xc_X5 in_X5 tyX5_ok nmX5 9 (Nat.le_of_ble_eq_true rfl) q1307 rfl rfl (v := vI (4 : Int32)) rfl rfl mh1 dX5_goesOn_290 ?_
  refine xr_aload_n A dX5_goesOn_293 0 rfl rfl ?_
  refine xr_iload_n A dX5_goesOn_294 1 rfl rfl ?_
  revert hf; refine ab_bdI (fun h2 mh2 hf => ?_)
  refine xr_put A xc_X5 in_X5 tyX5_ok nmX5 11 (Nat.le_of_ble_eq_true rfl) q1309 rfl rfl (v := vI l1) rfl rfl mh2 dX5_goesOn_295 ?_
  refine xr_aload_n A dX5_goesOn_298 0 rfl rfl ?_
  refine xr_dup A dX5_goesOn_299 rfl ?_
  revert hf; refine ab_bdI (fun v3 mv3 hf => ?_)
  refine xr_get A xc_X5 in_X5 8 (Nat.le_of_ble_eq_true rfl) q1306 rfl (ab_gIE mv3) dX5_goesOn_300 ?_
  refine xr_iconst A (v := 1) dX5_goesOn_303 (by decide) ?_
  refine xr_iadd A dX5_goesOn_304 ?_
  revert hf; refine ab_bdI (fun h4 mh4 hf => ?_)
  refine xr_put A xc_X5 in_X5 tyX5_ok nmX5 8 (Nat.le_of_ble_eq_true rfl) q1306 rfl rfl (v := vI (v3 + (1 : Int32))) rfl rfl mh4 dX5_goesOn_305 ?_
  exact xr_return A hf dX5_goesOn_308
noncomputable def fX5_goesOn_l205 (x : Nat) : Nat → Int32 → Hp → Option Hp
  | 0, _, _ => none
  | n + 1, l2, h =>
  ab_bd (ab_gI h x 4 8) fun v1 =>
  ab_b2 (fX5_byteAt x v1 h) fun v4 h3 =>
  ab_b2 (fX5_isDigit v4 h3) fun v7 h6 =>
  if v7 = 0 then (
    if (3 : Int32) < l2 then (
      some h6)
    else (
      ab_bd (ab_pI h6 x 4 9 (3 : Int32)) fun h8 =>
      some h8))
  else (
    if (3 : Int32) ≤ l2 then (
      ab_bd (ab_gI h6 x 4 8) fun v9 =>
      ab_bd (ab_pI h6 x 4 8 (v9 + (1 : Int32))) fun h10 =>
      fX5_goesOn_l205 x n (l2 + (1 : Int32)) h10)
    else (
      ab_bd (ab_gI h6 x 4 12) fun v11 =>
      ab_bd (ab_gI h6 x 4 8) fun v12 =>
      ab_b2 (fX5_byteAt x v12 h6) fun v15 h14 =>
      ab_bd (ab_pI h14 x 4 12 ((((10 : Int32) * v11) + v15) - (48 : Int32))) fun h16 =>
      ab_bd (ab_gI h16 x 4 8) fun v17 =>
      ab_bd (ab_pI h16 x 4 8 (v17 + (1 : Int32))) fun h18 =>
      fX5_goesOn_l205 x n (l2 + (1 : Int32)) h18))
theorem wX5_goesOn_l205 {D : Dd} {C : Cx} {h0 h' : Hp} (A : Act C D (h0, (.inl none), h') yX5_goesOn cX5_goesOn 3 (none : Option FieldType) 2 41 []) {x : Nat} : ∀ (n : Nat) {l2 : Int32} {h : Hp}, fX5_goesOn_l205 x n l2 h = some h' → X C D (h0, (.inl none), h') 3 205 [(0, vR (some x)), (2, vI l2)] [] h := by
  intro n
  induction n with
  | zero => intro l2 h hf; exact ab_no hf
  | succ n ih =>
    intro l2 h hf
    unfold fX5_goesOn_l205 at hf
    refine xr_aload_n A dX5_goesOn_205 0 rfl rfl ?_
    refine xr_aload_n A dX5_goesOn_206 0 rfl rfl ?_
    revert hf; refine ab_bdI (fun v1 mv1 hf => ?_)
    refine xr_get A xc_X5 in_X5 8 (Nat.le_of_ble_eq_true rfl) q1306 rfl (ab_gIE mv1) dX5_goesOn_207 ?_
    revert hf; refine ab_b2I (fun v4 h3 m2 hf => ?_)
    refine xr_V A bX5_byteAt (wX5_byteAt D m2).2 xc_X5 (wX5_byteAt D m2).1 q1608 qs46 q1606 (av := [vI v1]) (rest := []) rfl dX5_goesOn_210 (Nat.le_of_ble_eq_true rfl) (Nat.le_of_ble_eq_true rfl) rfl (Nat.le_of_ble_eq_true rfl) ?_
    revert hf; refine ab_b2I (fun v7 h6 m5 hf => ?_)
    refine xr_S A bX5_isDigit (wX5_isDigit D m5) q1615 q1614 (av := [vI v4]) (rest := []) rfl dX5_goesOn_213 (Nat.le_of_ble_eq_true rfl) (Nat.le_of_ble_eq_true rfl) rfl (Nat.le_of_ble_eq_true rfl) ?_
    refine xr_if_eq A (tgt := 263) dX5_goesOn_216 (by decide) (fun c216 => ?_) (fun c216 => ?_)
    · replace hf := ab_ip c216 hf
      refine xr_iload_n A dX5_goesOn_263 1 rfl rfl ?_
      refine xr_iconst A (v := 3) dX5_goesOn_264 (by decide) ?_
      refine xr_icmp_gt A (tgt := 308) dX5_goesOn_265 (by decide) (fun c265 => ?_) (fun c265 => ?_)
      · replace hf := ab_ip c265 hf
        exact xr_return A hf dX5_goesOn_308
      · replace hf := ab_in c265 hf
        refine xr_aload_n A dX5_goesOn_268 0 rfl rfl ?_
        refine xr_iconst A (v := 3) dX5_goesOn_269 (by decide) ?_
        revert hf; refine ab_bdI (fun h8 mh8 hf => ?_)
        refine xr_put A xc_X5 in_X5 tyX5_ok nmX5 9 (Nat.le_of_ble_eq_true rfl) q1307 rfl rfl (v := vI (3 : Int32)) rfl rfl mh8 dX5_goesOn_270 ?_
        refine xr_goto A (tgt := 308) dX5_goesOn_273 (by decide) ?_
        exact xr_return A hf dX5_goesOn_308
    · replace hf := ab_in c216 hf
      refine xr_iload_n A dX5_goesOn_219 1 rfl rfl ?_
      refine xr_iconst A (v := 3) dX5_goesOn_220 (by decide) ?_
      refine xr_icmp_ge A (tgt := 247) dX5_goesOn_221 (by decide) (fun c221 => ?_) (fun c221 => ?_)
      · replace hf := ab_ip c221 hf
        refine xr_iinc A dX5_goesOn_247 1 rfl (v := (l2 + (1 : Int32))) rfl (Nat.le_of_ble_eq_true rfl) (L' := [(2, vI (l2 + (1 : Int32))), (0, vR (some x))]) rfl ?_
        refine xr_aload_n A dX5_goesOn_250 1 rfl rfl ?_
        refine xr_dup A dX5_goesOn_251 rfl ?_
        revert hf; refine ab_bdI (fun v9 mv9 hf => ?_)
        refine xr_get A xc_X5 in_X5 8 (Nat.le_of_ble_eq_true rfl) q1306 rfl (ab_gIE mv9) dX5_goesOn_252 ?_
        refine xr_iconst A (v := 1) dX5_goesOn_255 (by decide) ?_
        refine xr_iadd A dX5_goesOn_256 ?_
        revert hf; refine ab_bdI (fun h10 mh10 hf => ?_)
        refine xr_put A xc_X5 in_X5 tyX5_ok nmX5 8 (Nat.le_of_ble_eq_true rfl) q1306 rfl rfl (v := vI (v9 + (1 : Int32))) rfl rfl mh10 dX5_goesOn_257 ?_
        refine xr_goto A (tgt := 205) dX5_goesOn_260 (by decide) ?_
        refine X.sub [1, 0] rfl ?_
        exact ih hf
      · replace hf := ab_in c221 hf
        refine xr_aload_n A dX5_goesOn_224 0 rfl rfl ?_
        refine xr_bipush A (v := 10) dX5_goesOn_225 (by decide) ?_
        refine xr_aload_n A dX5_goesOn_227 0 rfl rfl ?_
        revert hf; refine ab_bdI (fun v11 mv11 hf => ?_)
        refine xr_get A xc_X5 in_X5 12 (Nat.le_of_ble_eq_true rfl) q1310 rfl (ab_gIE mv11) dX5_goesOn_228 ?_
        refine xr_imul A dX5_goesOn_231 ?_
        refine xr_aload_n A dX5_goesOn_232 0 rfl rfl ?_
        refine xr_aload_n A dX5_goesOn_233 0 rfl rfl ?_
        revert hf; refine ab_bdI (fun v12 mv12 hf => ?_)
        refine xr_get A xc_X5 in_X5 8 (Nat.le_of_ble_eq_true rfl) q1306 rfl (ab_gIE mv12) dX5_goesOn_234 ?_
        revert hf; refine ab_b2I (fun v15 h14 m13 hf => ?_)
        refine xr_V A bX5_byteAt (wX5_byteAt D m13).2 xc_X5 (wX5_byteAt D m13).1 q1608 qs46 q1606 (av := [vI v12]) (rest := [vI ((10 : Int32) * v11), vR (some x)]) rfl dX5_goesOn_237 (Nat.le_of_ble_eq_true rfl) (Nat.le_of_ble_eq_true rfl) rfl (Nat.le_of_ble_eq_true rfl) ?_
        refine xr_iadd A dX5_goesOn_240 ?_
        refine xr_bipush A (v := 48) dX5_goesOn_241 (by decide) ?_
        refine xr_isub A dX5_goesOn_243 ?_
        revert hf; refine ab_bdI (fun h16 mh16 hf => ?_)
        refine xr_put A xc_X5 in_X5 tyX5_ok nmX5 12 (Nat.le_of_ble_eq_true rfl) q1310 rfl rfl (v := vI ((((10 : Int32) * v11) + v15) - (48 : Int32))) rfl rfl mh16 dX5_goesOn_244 ?_
        refine xr_iinc A dX5_goesOn_247 1 rfl (v := (l2 + (1 : Int32))) rfl (Nat.le_of_ble_eq_true rfl) (L' := [(2, vI (l2 + (1 : Int32))), (0, vR (some x))]) rfl ?_
        refine xr_aload_n A dX5_goesOn_250 1 rfl rfl ?_
        refine xr_dup A dX5_goesOn_251 rfl ?_
        revert hf; refine ab_bdI (fun v17 mv17 hf => ?_)
        refine xr_get A xc_X5 in_X5 8 (Nat.le_of_ble_eq_true rfl) q1306 rfl (ab_gIE mv17) dX5_goesOn_252 ?_
        refine xr_iconst A (v := 1) dX5_goesOn_255 (by decide) ?_
        refine xr_iadd A dX5_goesOn_256 ?_
        revert hf; refine ab_bdI (fun h18 mh18 hf => ?_)
        refine xr_put A xc_X5 in_X5 tyX5_ok nmX5 8 (Nat.le_of_ble_eq_true rfl) q1306 rfl rfl (v := vI (v17 + (1 : Int32))) rfl rfl mh18 dX5_goesOn_257 ?_
        refine xr_goto A (tgt := 205) dX5_goesOn_260 (by decide) ?_
        refine X.sub [1, 0] rfl ?_
        exact ih hf
noncomputable def fX5_goesOn_b141 (x : Nat) (K94 : Int32 → Hp → Option Hp) (l2 : Int32) (h : Hp) : Option Hp :=
  ab_bd (ab_gI h x 4 15) fun v1 =>
  ab_bd (ab_gI h x 4 8) fun v2 =>
  ab_b2 (fX5_byteAt x v2 h) fun v5 h4 =>
  ab_bd (ab_pI h4 x 4 15 (v1 ||| ((1 : Int32) <<< ((v5 - (97 : Int32)) &&& 31)))) fun h6 =>
  ab_bd (ab_gI h6 x 4 8) fun v7 =>
  ab_bd (ab_pI h6 x 4 8 (v7 + (1 : Int32))) fun h8 =>
  K94 (l2 + (1 : Int32)) h8
theorem wX5_goesOn_b141 {D : Dd} {C : Cx} {h0 h' : Hp} (A : Act C D (h0, (.inl none), h') yX5_goesOn cX5_goesOn 3 (none : Option FieldType) 2 41 []) {x : Nat} {K94 : Int32 → Hp → Option Hp} (hK94 : ∀ {l2 : Int32} {h : Hp}, K94 l2 h = some h' → X C D (h0, (.inl none), h') 3 94 [(0, vR (some x)), (2, vI l2)] [] h) {l2 : Int32} {h : Hp} (hf : fX5_goesOn_b141 x K94 l2 h = some h') : X C D (h0, (.inl none), h') 3 141 [(0, vR (some x)), (2, vI l2)] [] h := by
  unfold fX5_goesOn_b141 at hf
  refine xr_aload_n A dX5_goesOn_141 0 rfl rfl ?_
  refine xr_dup A dX5_goesOn_142 rfl ?_
  revert hf; refine ab_bdI (fun v1 mv1 hf => ?_)
  refine xr_get A xc_X5 in_X5 15 (Nat.le_of_ble_eq_true rfl) q1313 rfl (ab_gIE mv1) dX5_goesOn_143 ?_
  refine xr_iconst A (v := 1) dX5_goesOn_146 (by decide) ?_
  refine xr_aload_n A dX5_goesOn_147 0 rfl rfl ?_
  refine xr_aload_n A dX5_goesOn_148 0 rfl rfl ?_
  revert hf; refine ab_bdI (fun v2 mv2 hf => ?_)
  refine xr_get A xc_X5 in_X5 8 (Nat.le_of_ble_eq_true rfl) q1306 rfl (ab_gIE mv2) dX5_goesOn_149 ?_
  revert hf; refine ab_b2I (fun v5 h4 m3 hf => ?_)
  refine xr_V A bX5_byteAt (wX5_byteAt D m3).2 xc_X5 (wX5_byteAt D m3).1 q1608 qs46 q1606 (av := [vI v2]) (rest := [vI (1 : Int32), vI v1, vR (some x)]) rfl dX5_goesOn_152 (Nat.le_of_ble_eq_true rfl) (Nat.le_of_ble_eq_true rfl) rfl (Nat.le_of_ble_eq_true rfl) ?_
  refine xr_bipush A (v := 97) dX5_goesOn_155 (by decide) ?_
  refine xr_isub A dX5_goesOn_157 ?_
  refine xr_ishl A dX5_goesOn_158 ?_
  refine xr_ior A dX5_goesOn_159 ?_
  revert hf; refine ab_bdI (fun h6 mh6 hf => ?_)
  refine xr_put A xc_X5 in_X5 tyX5_ok nmX5 15 (Nat.le_of_ble_eq_true rfl) q1313 rfl rfl (v := vI (v1 ||| ((1 : Int32) <<< ((v5 - (97 : Int32)) &&& 31)))) rfl rfl mh6 dX5_goesOn_160 ?_
  refine xr_iinc A dX5_goesOn_163 1 rfl (v := (l2 + (1 : Int32))) rfl (Nat.le_of_ble_eq_true rfl) (L' := [(2, vI (l2 + (1 : Int32))), (0, vR (some x))]) rfl ?_
  refine xr_aload_n A dX5_goesOn_166 1 rfl rfl ?_
  refine xr_dup A dX5_goesOn_167 rfl ?_
  revert hf; refine ab_bdI (fun v7 mv7 hf => ?_)
  refine xr_get A xc_X5 in_X5 8 (Nat.le_of_ble_eq_true rfl) q1306 rfl (ab_gIE mv7) dX5_goesOn_168 ?_
  refine xr_iconst A (v := 1) dX5_goesOn_171 (by decide) ?_
  refine xr_iadd A dX5_goesOn_172 ?_
  revert hf; refine ab_bdI (fun h8 mh8 hf => ?_)
  refine xr_put A xc_X5 in_X5 tyX5_ok nmX5 8 (Nat.le_of_ble_eq_true rfl) q1306 rfl rfl (v := vI (v7 + (1 : Int32))) rfl rfl mh8 dX5_goesOn_173 ?_
  refine xr_goto A (tgt := 94) dX5_goesOn_176 (by decide) ?_
  refine X.sub [1, 0] rfl ?_
  exact hK94 hf
noncomputable def fX5_goesOn_l94 (x : Nat) : Nat → Int32 → Hp → Option Hp
  | 0, _, _ => none
  | n + 1, l2, h =>
  ab_bd (ab_gI h x 4 8) fun v1 =>
  ab_b2 (fX5_byteAt x v1 h) fun v4 h3 =>
  ab_b2 (fX5_isLetter v4 h3) fun v7 h6 =>
  if v7 = 0 then (
    if (8 : Int32) < l2 then (
      some h6)
    else (
      ab_bd (ab_pI h6 x 4 9 (2 : Int32)) fun h8 =>
      some h8))
  else (
    if (8 : Int32) ≤ l2 then (
      fX5_goesOn_b141 x (fX5_goesOn_l94 x n) l2 h6)
    else (
      ab_bd (ab_gJ h6 x 4 16) fun v9 =>
      ab_bd (ab_gI h6 x 4 8) fun v10 =>
      ab_b2 (fX5_byteAt x v10 h6) fun v13 h12 =>
      ab_bd (ab_pJ h12 x 4 16 (((32 : Int64) * v9) + ((v13 - (97 : Int32)) + (1 : Int32)).toInt64)) fun h14 =>
      fX5_goesOn_b141 x (fX5_goesOn_l94 x n) l2 h14))
theorem wX5_goesOn_l94 {D : Dd} {C : Cx} {h0 h' : Hp} (A : Act C D (h0, (.inl none), h') yX5_goesOn cX5_goesOn 3 (none : Option FieldType) 2 41 []) {x : Nat} : ∀ (n : Nat) {l2 : Int32} {h : Hp}, fX5_goesOn_l94 x n l2 h = some h' → X C D (h0, (.inl none), h') 3 94 [(0, vR (some x)), (2, vI l2)] [] h := by
  intro n
  induction n with
  | zero => intro l2 h hf; exact ab_no hf
  | succ n ih =>
    intro l2 h hf
    unfold fX5_goesOn_l94 at hf
    refine xr_aload_n A dX5_goesOn_94 0 rfl rfl ?_
    refine xr_aload_n A dX5_goesOn_95 0 rfl rfl ?_
    revert hf; refine ab_bdI (fun v1 mv1 hf => ?_)
    refine xr_get A xc_X5 in_X5 8 (Nat.le_of_ble_eq_true rfl) q1306 rfl (ab_gIE mv1) dX5_goesOn_96 ?_
    revert hf; refine ab_b2I (fun v4 h3 m2 hf => ?_)
    refine xr_V A bX5_byteAt (wX5_byteAt D m2).2 xc_X5 (wX5_byteAt D m2).1 q1608 qs46 q1606 (av := [vI v1]) (rest := []) rfl dX5_goesOn_99 (Nat.le_of_ble_eq_true rfl) (Nat.le_of_ble_eq_true rfl) rfl (Nat.le_of_ble_eq_true rfl) ?_
    revert hf; refine ab_b2I (fun v7 h6 m5 hf => ?_)
    refine xr_S A bX5_isLetter (wX5_isLetter D m5) q1611 q1610 (av := [vI v4]) (rest := []) rfl dX5_goesOn_102 (Nat.le_of_ble_eq_true rfl) (Nat.le_of_ble_eq_true rfl) rfl (Nat.le_of_ble_eq_true rfl) ?_
    refine xr_if_eq A (tgt := 179) dX5_goesOn_105 (by decide) (fun c105 => ?_) (fun c105 => ?_)
    · replace hf := ab_ip c105 hf
      refine xr_iload_n A dX5_goesOn_179 1 rfl rfl ?_
      refine xr_bipush A (v := 8) dX5_goesOn_180 (by decide) ?_
      refine xr_icmp_gt A (tgt := 308) dX5_goesOn_182 (by decide) (fun c182 => ?_) (fun c182 => ?_)
      · replace hf := ab_ip c182 hf
        exact xr_return A hf dX5_goesOn_308
      · replace hf := ab_in c182 hf
        refine xr_aload_n A dX5_goesOn_185 0 rfl rfl ?_
        refine xr_iconst A (v := 2) dX5_goesOn_186 (by decide) ?_
        revert hf; refine ab_bdI (fun h8 mh8 hf => ?_)
        refine xr_put A xc_X5 in_X5 tyX5_ok nmX5 9 (Nat.le_of_ble_eq_true rfl) q1307 rfl rfl (v := vI (2 : Int32)) rfl rfl mh8 dX5_goesOn_187 ?_
        refine xr_goto A (tgt := 308) dX5_goesOn_190 (by decide) ?_
        exact xr_return A hf dX5_goesOn_308
    · replace hf := ab_in c105 hf
      refine xr_iload_n A dX5_goesOn_108 1 rfl rfl ?_
      refine xr_bipush A (v := 8) dX5_goesOn_109 (by decide) ?_
      refine xr_icmp_ge A (tgt := 141) dX5_goesOn_111 (by decide) (fun c111 => ?_) (fun c111 => ?_)
      · replace hf := ab_ip c111 hf
        exact wX5_goesOn_b141 A (fun hf => ih hf) hf
      · replace hf := ab_in c111 hf
        refine xr_aload_n A dX5_goesOn_114 0 rfl rfl ?_
        refine xr_ldc2 A q1613 dX5_goesOn_115 ?_
        refine xr_aload_n A dX5_goesOn_118 0 rfl rfl ?_
        revert hf; refine ab_bdI (fun v9 mv9 hf => ?_)
        refine xr_get A xc_X5 in_X5 16 (Nat.le_of_ble_eq_true rfl) q1314 rfl (ab_gJE mv9) dX5_goesOn_119 ?_
        refine xr_lmul A dX5_goesOn_122 ?_
        refine xr_aload_n A dX5_goesOn_123 0 rfl rfl ?_
        refine xr_aload_n A dX5_goesOn_124 0 rfl rfl ?_
        revert hf; refine ab_bdI (fun v10 mv10 hf => ?_)
        refine xr_get A xc_X5 in_X5 8 (Nat.le_of_ble_eq_true rfl) q1306 rfl (ab_gIE mv10) dX5_goesOn_125 ?_
        revert hf; refine ab_b2I (fun v13 h12 m11 hf => ?_)
        refine xr_V A bX5_byteAt (wX5_byteAt D m11).2 xc_X5 (wX5_byteAt D m11).1 q1608 qs46 q1606 (av := [vI v10]) (rest := [vL ((32 : Int64) * v9), vR (some x)]) rfl dX5_goesOn_128 (Nat.le_of_ble_eq_true rfl) (Nat.le_of_ble_eq_true rfl) rfl (Nat.le_of_ble_eq_true rfl) ?_
        refine xr_bipush A (v := 97) dX5_goesOn_131 (by decide) ?_
        refine xr_isub A dX5_goesOn_133 ?_
        refine xr_iconst A (v := 1) dX5_goesOn_134 (by decide) ?_
        refine xr_iadd A dX5_goesOn_135 ?_
        refine xr_i2l A dX5_goesOn_136 ?_
        refine xr_ladd A dX5_goesOn_137 ?_
        revert hf; refine ab_bdI (fun h14 mh14 hf => ?_)
        refine xr_put A xc_X5 in_X5 tyX5_ok nmX5 16 (Nat.le_of_ble_eq_true rfl) q1314 rfl rfl (v := vL (((32 : Int64) * v9) + ((v13 - (97 : Int32)) + (1 : Int32)).toInt64)) rfl rfl mh14 dX5_goesOn_138 ?_
        exact wX5_goesOn_b141 A (fun hf => ih hf) hf
noncomputable def fX5_goesOn_l9 (x : Nat) : Nat → Hp → Option Hp
  | 0, _ => none
  | n + 1, h =>
  ab_bd (ab_gI h x 4 8) fun v1 =>
  ab_b2 (fX5_byteAt x v1 h) fun v4 h3 =>
  if v4 = (32 : Int32) then (
    ab_bd (ab_gI h3 x 4 8) fun v23 =>
    ab_bd (ab_pI h3 x 4 8 (v23 + (1 : Int32))) fun h24 =>
    fX5_goesOn_l9 x n  h24)
  else (
    ab_bd (ab_gI h3 x 4 8) fun v5 =>
    ab_bd (ab_pI h3 x 4 10 v5) fun h6 =>
    ab_bd (ab_pI h6 x 4 9 (0 : Int32)) fun h7 =>
    ab_bd (ab_pI h7 x 4 11 (0 : Int32)) fun h8 =>
    ab_bd (ab_gI h8 x 4 8) fun v9 =>
    ab_b2 (fX5_byteAt x v9 h8) fun v12 h11 =>
    if v12 = (-1 : Int32) then (
      ab_bd (ab_pI h11 x 4 9 (1 : Int32)) fun h22 =>
      some h22)
    else (
      ab_b2 (fX5_isLetter v12 h11) fun v15 h14 =>
      if v15 = 0 then (
        ab_b2 (fX5_isDigit v12 h14) fun v18 h17 =>
        if v18 = 0 then (
          if v12 = (59 : Int32) then (
            fX5_goesOn_b288 x v12 h17)
          else (
            if v12 = (44 : Int32) then (
              fX5_goesOn_b288 x v12 h17)
            else (
              some h17)))
        else (
          ab_bd (ab_pI h17 x 4 12 (0 : Int32)) fun h19 =>
          fX5_goesOn_l205 x (hfu h19) (0 : Int32) h19))
      else (
        ab_bd (ab_pJ h14 x 4 16 (0 : Int64)) fun h20 =>
        ab_bd (ab_pI h20 x 4 15 (0 : Int32)) fun h21 =>
        fX5_goesOn_l94 x (hfu h21) (0 : Int32) h21)))
theorem wX5_goesOn_l9 {D : Dd} {C : Cx} {h0 h' : Hp} (A : Act C D (h0, (.inl none), h') yX5_goesOn cX5_goesOn 3 (none : Option FieldType) 2 41 []) {x : Nat} : ∀ (n : Nat) {h : Hp}, fX5_goesOn_l9 x n h = some h' → X C D (h0, (.inl none), h') 3 9 [(0, vR (some x))] [] h := by
  intro n
  induction n with
  | zero => intro h hf; exact ab_no hf
  | succ n ih =>
    intro h hf
    unfold fX5_goesOn_l9 at hf
    refine xr_aload_n A dX5_goesOn_9 0 rfl rfl ?_
    refine xr_aload_n A dX5_goesOn_10 0 rfl rfl ?_
    revert hf; refine ab_bdI (fun v1 mv1 hf => ?_)
    refine xr_get A xc_X5 in_X5 8 (Nat.le_of_ble_eq_true rfl) q1306 rfl (ab_gIE mv1) dX5_goesOn_11 ?_
    revert hf; refine ab_b2I (fun v4 h3 m2 hf => ?_)
    refine xr_V A bX5_byteAt (wX5_byteAt D m2).2 xc_X5 (wX5_byteAt D m2).1 q1608 qs46 q1606 (av := [vI v1]) (rest := []) rfl dX5_goesOn_14 (Nat.le_of_ble_eq_true rfl) (Nat.le_of_ble_eq_true rfl) rfl (Nat.le_of_ble_eq_true rfl) ?_
    refine xr_bipush A (v := 32) dX5_goesOn_17 (by decide) ?_
    refine xr_icmp_ne A (tgt := 35) dX5_goesOn_19 (by decide) (fun c19 => ?_) (fun c19 => ?_)
    · replace hf := ab_in c19 hf
      refine xr_aload_n A dX5_goesOn_35 0 rfl rfl ?_
      refine xr_aload_n A dX5_goesOn_36 0 rfl rfl ?_
      revert hf; refine ab_bdI (fun v5 mv5 hf => ?_)
      refine xr_get A xc_X5 in_X5 8 (Nat.le_of_ble_eq_true rfl) q1306 rfl (ab_gIE mv5) dX5_goesOn_37 ?_
      revert hf; refine ab_bdI (fun h6 mh6 hf => ?_)
      refine xr_put A xc_X5 in_X5 tyX5_ok nmX5 10 (Nat.le_of_ble_eq_true rfl) q1308 rfl rfl (v := vI v5) rfl rfl mh6 dX5_goesOn_40 ?_
      refine xr_aload_n A dX5_goesOn_43 0 rfl rfl ?_
      refine xr_iconst A (v := 0) dX5_goesOn_44 (by decide) ?_
      revert hf; refine ab_bdI (fun h7 mh7 hf => ?_)
      refine xr_put A xc_X5 in_X5 tyX5_ok nmX5 9 (Nat.le_of_ble_eq_true rfl) q1307 rfl rfl (v := vI (0 : Int32)) rfl rfl mh7 dX5_goesOn_45 ?_
      refine xr_aload_n A dX5_goesOn_48 0 rfl rfl ?_
      refine xr_iconst A (v := 0) dX5_goesOn_49 (by decide) ?_
      revert hf; refine ab_bdI (fun h8 mh8 hf => ?_)
      refine xr_put A xc_X5 in_X5 tyX5_ok nmX5 11 (Nat.le_of_ble_eq_true rfl) q1309 rfl rfl (v := vI (0 : Int32)) rfl rfl mh8 dX5_goesOn_50 ?_
      refine xr_aload_n A dX5_goesOn_53 0 rfl rfl ?_
      refine xr_aload_n A dX5_goesOn_54 0 rfl rfl ?_
      revert hf; refine ab_bdI (fun v9 mv9 hf => ?_)
      refine xr_get A xc_X5 in_X5 8 (Nat.le_of_ble_eq_true rfl) q1306 rfl (ab_gIE mv9) dX5_goesOn_55 ?_
      revert hf; refine ab_b2I (fun v12 h11 m10 hf => ?_)
      refine xr_V A bX5_byteAt (wX5_byteAt D m10).2 xc_X5 (wX5_byteAt D m10).1 q1608 qs46 q1606 (av := [vI v9]) (rest := []) rfl dX5_goesOn_58 (Nat.le_of_ble_eq_true rfl) (Nat.le_of_ble_eq_true rfl) rfl (Nat.le_of_ble_eq_true rfl) ?_
      refine xr_istore_n A dX5_goesOn_61 rfl (Nat.le_of_ble_eq_true rfl) (L' := [(1, vI v12), (0, vR (some x))]) rfl ?_
      refine xr_iconst A (v := 0) dX5_goesOn_62 (by decide) ?_
      refine xr_istore_n A dX5_goesOn_63 rfl (Nat.le_of_ble_eq_true rfl) (L' := [(2, vI (0 : Int32)), (1, vI v12), (0, vR (some x))]) rfl ?_
      refine xr_iload_n A dX5_goesOn_64 1 rfl rfl ?_
      refine xr_iconst A (v := (-1)) dX5_goesOn_65 (by decide) ?_
      refine xr_icmp_ne A (tgt := 77) dX5_goesOn_66 (by decide) (fun c66 => ?_) (fun c66 => ?_)
      · replace hf := ab_in c66 hf
        refine xr_iload_n A dX5_goesOn_77 1 rfl rfl ?_
        revert hf; refine ab_b2I (fun v15 h14 m13 hf => ?_)
        refine xr_S A bX5_isLetter (wX5_isLetter D m13) q1611 q1610 (av := [vI v12]) (rest := []) rfl dX5_goesOn_78 (Nat.le_of_ble_eq_true rfl) (Nat.le_of_ble_eq_true rfl) rfl (Nat.le_of_ble_eq_true rfl) ?_
        refine xr_if_eq A (tgt := 193) dX5_goesOn_81 (by decide) (fun c81 => ?_) (fun c81 => ?_)
        · replace hf := ab_ip c81 hf
          refine xr_iload_n A dX5_goesOn_193 1 rfl rfl ?_
          revert hf; refine ab_b2I (fun v18 h17 m16 hf => ?_)
          refine xr_S A bX5_isDigit (wX5_isDigit D m16) q1615 q1614 (av := [vI v12]) (rest := []) rfl dX5_goesOn_194 (Nat.le_of_ble_eq_true rfl) (Nat.le_of_ble_eq_true rfl) rfl (Nat.le_of_ble_eq_true rfl) ?_
          refine xr_if_eq A (tgt := 276) dX5_goesOn_197 (by decide) (fun c197 => ?_) (fun c197 => ?_)
          · replace hf := ab_ip c197 hf
            refine xr_iload_n A dX5_goesOn_276 1 rfl rfl ?_
            refine xr_bipush A (v := 59) dX5_goesOn_277 (by decide) ?_
            refine xr_icmp_eq A (tgt := 288) dX5_goesOn_279 (by decide) (fun c279 => ?_) (fun c279 => ?_)
            · replace hf := ab_ip c279 hf
              refine X.sub [2, 1] rfl ?_
              exact wX5_goesOn_b288 A hf
            · replace hf := ab_in c279 hf
              refine xr_iload_n A dX5_goesOn_282 1 rfl rfl ?_
              refine xr_bipush A (v := 44) dX5_goesOn_283 (by decide) ?_
              refine xr_icmp_ne A (tgt := 308) dX5_goesOn_285 (by decide) (fun c285 => ?_) (fun c285 => ?_)
              · replace hf := ab_in c285 hf
                exact xr_return A hf dX5_goesOn_308
              · replace hf := ab_ip c285 hf
                refine X.sub [2, 1] rfl ?_
                exact wX5_goesOn_b288 A hf
          · replace hf := ab_in c197 hf
            refine xr_aload_n A dX5_goesOn_200 2 rfl rfl ?_
            refine xr_iconst A (v := 0) dX5_goesOn_201 (by decide) ?_
            revert hf; refine ab_bdI (fun h19 mh19 hf => ?_)
            refine xr_put A xc_X5 in_X5 tyX5_ok nmX5 12 (Nat.le_of_ble_eq_true rfl) q1310 rfl rfl (v := vI (0 : Int32)) rfl rfl mh19 dX5_goesOn_202 ?_
            refine X.sub [2, 0] rfl ?_
            exact wX5_goesOn_l205 A _ hf
        · replace hf := ab_in c81 hf
          refine xr_aload_n A dX5_goesOn_84 2 rfl rfl ?_
          refine xr_lconst A (v := 0) dX5_goesOn_85 (by decide) ?_
          revert hf; refine ab_bdI (fun h20 mh20 hf => ?_)
          refine xr_put A xc_X5 in_X5 tyX5_ok nmX5 16 (Nat.le_of_ble_eq_true rfl) q1314 rfl rfl (v := vL (0 : Int64)) rfl rfl mh20 dX5_goesOn_86 ?_
          refine xr_aload_n A dX5_goesOn_89 2 rfl rfl ?_
          refine xr_iconst A (v := 0) dX5_goesOn_90 (by decide) ?_
          revert hf; refine ab_bdI (fun h21 mh21 hf => ?_)
          refine xr_put A xc_X5 in_X5 tyX5_ok nmX5 15 (Nat.le_of_ble_eq_true rfl) q1313 rfl rfl (v := vI (0 : Int32)) rfl rfl mh21 dX5_goesOn_91 ?_
          refine X.sub [2, 0] rfl ?_
          exact wX5_goesOn_l94 A _ hf
      · replace hf := ab_ip c66 hf
        refine xr_aload_n A dX5_goesOn_69 2 rfl rfl ?_
        refine xr_iconst A (v := 1) dX5_goesOn_70 (by decide) ?_
        revert hf; refine ab_bdI (fun h22 mh22 hf => ?_)
        refine xr_put A xc_X5 in_X5 tyX5_ok nmX5 9 (Nat.le_of_ble_eq_true rfl) q1307 rfl rfl (v := vI (1 : Int32)) rfl rfl mh22 dX5_goesOn_71 ?_
        refine xr_goto A (tgt := 308) dX5_goesOn_74 (by decide) ?_
        exact xr_return A hf dX5_goesOn_308
    · replace hf := ab_ip c19 hf
      refine xr_aload_n A dX5_goesOn_22 0 rfl rfl ?_
      refine xr_dup A dX5_goesOn_23 rfl ?_
      revert hf; refine ab_bdI (fun v23 mv23 hf => ?_)
      refine xr_get A xc_X5 in_X5 8 (Nat.le_of_ble_eq_true rfl) q1306 rfl (ab_gIE mv23) dX5_goesOn_24 ?_
      refine xr_iconst A (v := 1) dX5_goesOn_27 (by decide) ?_
      refine xr_iadd A dX5_goesOn_28 ?_
      revert hf; refine ab_bdI (fun h24 mh24 hf => ?_)
      refine xr_put A xc_X5 in_X5 tyX5_ok nmX5 8 (Nat.le_of_ble_eq_true rfl) q1306 rfl rfl (v := vI (v23 + (1 : Int32))) rfl rfl mh24 dX5_goesOn_29 ?_
      refine xr_goto A (tgt := 9) dX5_goesOn_32 (by decide) ?_
      exact ih hf
noncomputable def fX5_goesOn (x : Nat) (h : Hp) : Option Hp :=
  ab_ck h x 4 <|
  ab_bd (ab_gI h x 4 9) fun v1 =>
  if v1 = (5 : Int32) then (
    some h)
  else (
    fX5_goesOn_l9 x (hfu h)  h)
theorem wX5_goesOn (D : Dd) {x : Nat} {h : Hp} {h' : Hp} (hf : fX5_goesOn x h = some h') : ab_is h x 4 ∧ Ct D 2 41 yX5_goesOn cX5_goesOn 3 (none : Option FieldType) [vR (some x)] h (.inl none) h' := by
    unfold fX5_goesOn at hf
    replace hf := ab_ckE hf; obtain ⟨i0, hf⟩ := hf
    refine ⟨i0, ?_⟩
    refine Ct.of (by decide) (L := [(0, vR (some x))]) rfl (Nat.le_of_ble_eq_true rfl) (fun C A => ?_)
    refine xr_aload_n A dX5_goesOn_0 0 rfl rfl ?_
    revert hf; refine ab_bdI (fun v1 mv1 hf => ?_)
    refine xr_get A xc_X5 in_X5 9 (Nat.le_of_ble_eq_true rfl) q1307 rfl (ab_gIE mv1) dX5_goesOn_1 ?_
    refine xr_iconst A (v := 5) dX5_goesOn_4 (by decide) ?_
    refine xr_icmp_ne A (tgt := 9) dX5_goesOn_5 (by decide) (fun c5 => ?_) (fun c5 => ?_)
    · replace hf := ab_in c5 hf
      exact wX5_goesOn_l9 A _ hf
    · replace hf := ab_ip c5 hf
      exact xr_return A hf dX5_goesOn_8
