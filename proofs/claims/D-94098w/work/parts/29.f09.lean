set_option maxRecDepth 100000
/-! X5_callAt -/
theorem bX5_callAt : MB yX5_callAt cX5_callAt 2 (some FieldType.int) 1 := ⟨q1934, q99, by decide, by decide +kernel⟩
noncomputable def fX5_callAt (x : Nat) (p1 : Int32) (h : Hp) : Option (Int32 × Hp) :=
  ab_ck h x 4 <|
  ab_bd (ab_pI h x 4 0 (0 : Int32)) fun h1 =>
  if p1 < 0 then (
    some ((-1 : Int32), h1))
  else (
    ab_bd (ab_gI h1 x 4 34) fun v2 =>
    if v2 ≤ p1 then (
      some ((-1 : Int32), h1))
    else (
      ab_bd (ab_gR h1 x 4 36) fun v3 =>
      ab_bd v3 fun a4 =>
      ab_bd (ab_aI h1 a4 0 p1) fun v5 =>
      some (v5, h1)))
theorem wX5_callAt (D : Dd) {x : Nat} {p1 : Int32} {h : Hp} {r : Int32} {h' : Hp} (hf : fX5_callAt x p1 h = some (r, h')) : ab_is h x 4 ∧ Ct D 1 20 yX5_callAt cX5_callAt 2 (some FieldType.int) [vR (some x), vI p1] h (.inl (some (vI r))) h' := by
    unfold fX5_callAt at hf
    replace hf := ab_ckE hf; obtain ⟨i0, hf⟩ := hf
    refine ⟨i0, ?_⟩
    refine Ct.of (by decide) (L := [(0, vR (some x)), (1, vI p1)]) rfl (Nat.le_of_ble_eq_true rfl) (fun C A => ?_)
    refine xr_aload_n A dX5_callAt_0 0 rfl rfl ?_
    refine xr_iconst A (v := 0) dX5_callAt_1 (by decide) ?_
    revert hf; refine ab_bdI (fun h1 mh1 hf => ?_)
    refine xr_put A xc_X5 in_X5 tyX5_ok nmX5 0 (Nat.le_of_ble_eq_true rfl) q1298 rfl rfl (v := vI (0 : Int32)) rfl rfl mh1 dX5_callAt_2 ?_
    refine xr_iload_n A dX5_callAt_5 1 rfl rfl ?_
    refine xr_if_lt A (tgt := 26) dX5_callAt_6 (by decide) (fun c6 => ?_) (fun c6 => ?_)
    · replace hf := ab_ip c6 hf
      refine xr_iconst A (v := (-1)) dX5_callAt_26 (by decide) ?_
      exact xr_ireturn A rfl hf dX5_callAt_27
    · replace hf := ab_in c6 hf
      refine xr_iload_n A dX5_callAt_9 1 rfl rfl ?_
      refine xr_aload_n A dX5_callAt_10 0 rfl rfl ?_
      revert hf; refine ab_bdI (fun v2 mv2 hf => ?_)
      refine xr_get A xc_X5 in_X5 34 (Nat.le_of_ble_eq_true rfl) q1332 rfl (ab_gIE mv2) dX5_callAt_11 ?_
      refine xr_icmp_ge A (tgt := 26) dX5_callAt_14 (by decide) (fun c14 => ?_) (fun c14 => ?_)
      · replace hf := ab_ip c14 hf
        refine xr_iconst A (v := (-1)) dX5_callAt_26 (by decide) ?_
        exact xr_ireturn A rfl hf dX5_callAt_27
      · replace hf := ab_in c14 hf
        refine xr_aload_n A dX5_callAt_17 0 rfl rfl ?_
        revert hf; refine ab_bdI (fun v3 mv3 hf => ?_)
        refine xr_get A xc_X5 in_X5 36 (Nat.le_of_ble_eq_true rfl) q1334 rfl (ab_gRE mv3) dX5_callAt_18 ?_
        refine xr_iload_n A dX5_callAt_21 1 rfl rfl ?_
        revert hf; refine ab_bdI (fun a4 e hf => ?_); subst e
        revert hf; refine ab_bdI (fun v5 mv5 hf => ?_)
        refine xr_iaload A mv5 dX5_callAt_22 ?_
        refine xr_goto A (tgt := 27) dX5_callAt_23 (by decide) ?_
        exact xr_ireturn A rfl hf dX5_callAt_27
/-! X5_asTold -/
theorem bX5_asTold : MB yX5_asTold cX5_asTold 2 (some FieldType.long) 0 := ⟨q1938, q99, by decide, by decide +kernel⟩
noncomputable def fX5_asTold_l39 (x : Nat) : Nat → Int32 → Hp → Option (Int64 × Hp)
  | 0, _, _ => none
  | n + 1, l1, h =>
  ab_bd (ab_gR h x 4 3) fun v1 =>
  ab_bd v1 fun a2 =>
  ab_bd (ab_gI h a2 13 8) fun v3 =>
  if v3 ≤ l1 then (
    ab_b2 (fX5_done x (0 : Int32) h) fun v6 h5 =>
    ab_bd (ab_gR h5 x 4 35) fun v7 =>
    ab_b2 (fX5_expected x v7 h5) fun v10 h9 =>
    some (v10, h9))
  else (
    ab_bd (ab_gR h x 4 35) fun v11 =>
    ab_bd v11 fun a12 =>
    ab_bd (ab_sI h a12 l1 l1) fun h13 =>
    fX5_asTold_l39 x n (l1 + (1 : Int32)) h13)
theorem wX5_asTold_l39 {D : Dd} {C : Cx} {h0 h' : Hp} {r : Int64} (A : Act C D (h0, (.inl (some (vL r))), h') yX5_asTold cX5_asTold 2 (some FieldType.long) 2 47 []) {x : Nat} : ∀ (n : Nat) {l1 : Int32} {h : Hp}, fX5_asTold_l39 x n l1 h = some (r, h') → X C D (h0, (.inl (some (vL r))), h') 2 39 [(0, vR (some x)), (1, vI l1)] [] h := by
  intro n
  induction n with
  | zero => intro l1 h hf; exact ab_no hf
  | succ n ih =>
    intro l1 h hf
    unfold fX5_asTold_l39 at hf
    refine xr_iload_n A dX5_asTold_39 1 rfl rfl ?_
    refine xr_aload_n A dX5_asTold_40 0 rfl rfl ?_
    revert hf; refine ab_bdI (fun v1 mv1 hf => ?_)
    refine xr_get A xc_X5 in_X5 3 (Nat.le_of_ble_eq_true rfl) q1301 rfl (ab_gRE mv1) dX5_asTold_41 ?_
    revert hf; refine ab_bdI (fun a2 e hf => ?_); subst e
    revert hf; refine ab_bdI (fun v3 mv3 hf => ?_)
    refine xr_getN A xc_X15 in_X15 8 (Nat.le_of_ble_eq_true rfl) n1469 rfl (ab_gIE mv3) dX5_asTold_44 ?_
    refine xr_icmp_ge A (tgt := 63) dX5_asTold_47 (by decide) (fun c47 => ?_) (fun c47 => ?_)
    · replace hf := ab_ip c47 hf
      refine xr_aload_n A dX5_asTold_63 0 rfl rfl ?_
      refine xr_iconst A (v := 0) dX5_asTold_64 (by decide) ?_
      revert hf; refine ab_b2I (fun v6 h5 m4 hf => ?_)
      refine xr_V A bX5_done (wX5_done D m4).2 xc_X5 (wX5_done D m4).1 q1749 qs69 q1747 (av := [vI (0 : Int32)]) (rest := []) rfl dX5_asTold_65 (Nat.le_of_ble_eq_true rfl) (Nat.le_of_ble_eq_true rfl) rfl (Nat.le_of_ble_eq_true rfl) ?_
      refine xr_pop A dX5_asTold_68 rfl ?_
      refine xr_aload_n A dX5_asTold_69 0 rfl rfl ?_
      refine xr_aload_n A dX5_asTold_70 0 rfl rfl ?_
      revert hf; refine ab_bdI (fun v7 mv7 hf => ?_)
      refine xr_get A xc_X5 in_X5 35 (Nat.le_of_ble_eq_true rfl) q1333 rfl (ab_gRE mv7) dX5_asTold_71 ?_
      revert hf; refine ab_b2I (fun v10 h9 m8 hf => ?_)
      refine xr_V A bX5_expected (wX5_expected D m8).2 xc_X5 (wX5_expected D m8).1 q1928 qs88 q1926 (av := [vR v7]) (rest := []) rfl dX5_asTold_74 (Nat.le_of_ble_eq_true rfl) (Nat.le_of_ble_eq_true rfl) rfl (Nat.le_of_ble_eq_true rfl) ?_
      exact xr_lreturn A hf dX5_asTold_77
    · replace hf := ab_in c47 hf
      refine xr_aload_n A dX5_asTold_50 0 rfl rfl ?_
      revert hf; refine ab_bdI (fun v11 mv11 hf => ?_)
      refine xr_get A xc_X5 in_X5 35 (Nat.le_of_ble_eq_true rfl) q1333 rfl (ab_gRE mv11) dX5_asTold_51 ?_
      refine xr_iload_n A dX5_asTold_54 1 rfl rfl ?_
      refine xr_iload_n A dX5_asTold_55 1 rfl rfl ?_
      revert hf; refine ab_bdI (fun a12 e hf => ?_); subst e
      revert hf; refine ab_bdI (fun h13 mh13 hf => ?_)
      refine xr_iastore A mh13 dX5_asTold_56 ?_
      refine xr_iinc A dX5_asTold_57 1 rfl (v := (l1 + (1 : Int32))) rfl (Nat.le_of_ble_eq_true rfl) (L' := [(1, vI (l1 + (1 : Int32))), (0, vR (some x))]) rfl ?_
      refine xr_goto A (tgt := 39) dX5_asTold_60 (by decide) ?_
      refine X.sub [1, 0] rfl ?_
      exact ih hf
noncomputable def fX5_asTold (x : Nat) (h : Hp) : Option (Int64 × Hp) :=
  ab_ck h x 4 <|
  ab_bd (ab_pI h x 4 0 (0 : Int32)) fun h1 =>
  ab_bd (ab_gR h1 x 4 3) fun v2 =>
  ab_on v2 (
    ab_b2 (fX5_refused x (1 : Int32) h1) fun v6 h5 =>
    some (v6.toInt64, h5)) fun a3 => (
    ab_bd (ab_gR h1 x 4 3) fun v7 =>
    ab_bd v7 fun a8 =>
    ab_bd (ab_gI h1 a8 13 8) fun v9 =>
    if v9 = 0 then (
      ab_b2 (fX5_refused x (6 : Int32) h1) fun v12 h11 =>
      some (v12.toInt64, h11))
    else (
      fX5_asTold_l39 x (hfu h1) (0 : Int32) h1))
theorem wX5_asTold (D : Dd) {x : Nat} {h : Hp} {r : Int64} {h' : Hp} (hf : fX5_asTold x h = some (r, h')) : ab_is h x 4 ∧ Ct D 2 47 yX5_asTold cX5_asTold 2 (some FieldType.long) [vR (some x)] h (.inl (some (vL r))) h' := by
    unfold fX5_asTold at hf
    replace hf := ab_ckE hf; obtain ⟨i0, hf⟩ := hf
    refine ⟨i0, ?_⟩
    refine Ct.of (by decide) (L := [(0, vR (some x))]) rfl (Nat.le_of_ble_eq_true rfl) (fun C A => ?_)
    refine xr_aload_n A dX5_asTold_0 0 rfl rfl ?_
    refine xr_iconst A (v := 0) dX5_asTold_1 (by decide) ?_
    revert hf; refine ab_bdI (fun h1 mh1 hf => ?_)
    refine xr_put A xc_X5 in_X5 tyX5_ok nmX5 0 (Nat.le_of_ble_eq_true rfl) q1298 rfl rfl (v := vI (0 : Int32)) rfl rfl mh1 dX5_asTold_2 ?_
    refine xr_aload_n A dX5_asTold_5 0 rfl rfl ?_
    revert hf; refine ab_bdI (fun v2 mv2 hf => ?_)
    refine xr_get A xc_X5 in_X5 3 (Nat.le_of_ble_eq_true rfl) q1301 rfl (ab_gRE mv2) dX5_asTold_6 ?_
    revert hf; refine ab_onI (fun e hf => ?_) (fun a3 e hf => ?_) <;> subst e
    · refine xr_ifnonnull A (tgt := 19) dX5_asTold_9 (by decide) (fun _ e => by cases e) (fun _ => ?_)
      refine xr_aload_n A dX5_asTold_12 0 rfl rfl ?_
      refine xr_iconst A (v := 1) dX5_asTold_13 (by decide) ?_
      revert hf; refine ab_b2I (fun v6 h5 m4 hf => ?_)
      refine xr_V A bX5_refused (wX5_refused D m4).2 xc_X5 (wX5_refused D m4).1 q1451 qs44 q1449 (av := [vI (1 : Int32)]) (rest := []) rfl dX5_asTold_14 (Nat.le_of_ble_eq_true rfl) (Nat.le_of_ble_eq_true rfl) rfl (Nat.le_of_ble_eq_true rfl) ?_
      refine xr_i2l A dX5_asTold_17 ?_
      exact xr_lreturn A hf dX5_asTold_18
    · refine xr_ifnonnull A (tgt := 19) dX5_asTold_9 (by decide) (fun _ _ => ?_) (fun e => by cases e)
      refine xr_aload_n A dX5_asTold_19 0 rfl rfl ?_
      revert hf; refine ab_bdI (fun v7 mv7 hf => ?_)
      refine xr_get A xc_X5 in_X5 3 (Nat.le_of_ble_eq_true rfl) q1301 rfl (ab_gRE mv7) dX5_asTold_20 ?_
      revert hf; refine ab_bdI (fun a8 e hf => ?_); subst e
      revert hf; refine ab_bdI (fun v9 mv9 hf => ?_)
      refine xr_getN A xc_X15 in_X15 8 (Nat.le_of_ble_eq_true rfl) n1469 rfl (ab_gIE mv9) dX5_asTold_23 ?_
      refine xr_if_ne A (tgt := 37) dX5_asTold_26 (by decide) (fun c26 => ?_) (fun c26 => ?_)
      · replace hf := ab_in c26 hf
        refine xr_iconst A (v := 0) dX5_asTold_37 (by decide) ?_
        refine xr_istore_n A dX5_asTold_38 rfl (Nat.le_of_ble_eq_true rfl) (L' := [(1, vI (0 : Int32)), (0, vR (some x))]) rfl ?_
        refine X.sub [1, 0] rfl ?_
        exact wX5_asTold_l39 A _ hf
      · replace hf := ab_ip c26 hf
        refine xr_aload_n A dX5_asTold_29 0 rfl rfl ?_
        refine xr_bipush A (v := 6) dX5_asTold_30 (by decide) ?_
        revert hf; refine ab_b2I (fun v12 h11 m10 hf => ?_)
        refine xr_V A bX5_refused (wX5_refused D m10).2 xc_X5 (wX5_refused D m10).1 q1451 qs44 q1449 (av := [vI (6 : Int32)]) (rest := []) rfl dX5_asTold_32 (Nat.le_of_ble_eq_true rfl) (Nat.le_of_ble_eq_true rfl) rfl (Nat.le_of_ble_eq_true rfl) ?_
        refine xr_i2l A dX5_asTold_35 ?_
        exact xr_lreturn A hf dX5_asTold_36
/-! X5_whoOf -/
theorem bX5_whoOf : MB yX5_whoOf cX5_whoOf 5 (some FieldType.int) 2 := ⟨q1950, q99, by decide, by decide +kernel⟩
noncomputable def fX5_whoOf_l6 (x : Nat) : Nat → Int32 → Int32 → Int32 → Hp → Option (Int32 × Hp)
  | 0, _, _, _, _ => none
  | n + 1, l2, l3, l4, h =>
  if l4 ≤ l2 then (
    ab_bd (ab_gR h x 4 3) fun v1 =>
    ab_bd v1 fun a2 =>
    ab_bd (ab_gI h a2 13 9) fun v3 =>
    ab_nz ((v3 + (1 : Int32)) = 0) <|
    some ((l3 - l3 / (v3 + (1 : Int32)) * (v3 + (1 : Int32))), h))
  else (
    ab_bd (ab_gR h x 4 3) fun v4 =>
    ab_bd v4 fun a5 =>
    ab_bd (ab_gI h a5 13 9) fun v6 =>
    ab_nz ((v6 + (1 : Int32)) = 0) <|
    fX5_whoOf_l6 x n l2 (l3 / (v6 + (1 : Int32))) (l4 + (-1 : Int32)) h)
theorem wX5_whoOf_l6 {D : Dd} {C : Cx} {h0 h' : Hp} {r : Int32} (A : Act C D (h0, (.inl (some (vI r))), h') yX5_whoOf cX5_whoOf 5 (some FieldType.int) 1 20 []) {x : Nat} : ∀ (n : Nat) {l2 : Int32} {l3 : Int32} {l4 : Int32} {h : Hp}, fX5_whoOf_l6 x n l2 l3 l4 h = some (r, h') → X C D (h0, (.inl (some (vI r))), h') 5 6 [(0, vR (some x)), (2, vI l2), (3, vI l3), (4, vI l4)] [] h := by
  intro n
  induction n with
  | zero => intro l2 l3 l4 h hf; exact ab_no hf
  | succ n ih =>
    intro l2 l3 l4 h hf
    unfold fX5_whoOf_l6 at hf
    refine xr_iload A dX5_whoOf_6 3 rfl ?_
    refine xr_iload_n A dX5_whoOf_8 1 rfl rfl ?_
    refine xr_icmp_le A (tgt := 30) dX5_whoOf_9 (by decide) (fun c9 => ?_) (fun c9 => ?_)
    · replace hf := ab_ip c9 hf
      refine xr_iload_n A dX5_whoOf_30 2 rfl rfl ?_
      refine xr_aload_n A dX5_whoOf_31 0 rfl rfl ?_
      revert hf; refine ab_bdI (fun v1 mv1 hf => ?_)
      refine xr_get A xc_X5 in_X5 3 (Nat.le_of_ble_eq_true rfl) q1301 rfl (ab_gRE mv1) dX5_whoOf_32 ?_
      revert hf; refine ab_bdI (fun a2 e hf => ?_); subst e
      revert hf; refine ab_bdI (fun v3 mv3 hf => ?_)
      refine xr_getN A xc_X15 in_X15 9 (Nat.le_of_ble_eq_true rfl) n1470 rfl (ab_gIE mv3) dX5_whoOf_35 ?_
      refine xr_iconst A (v := 1) dX5_whoOf_38 (by decide) ?_
      refine xr_iadd A dX5_whoOf_39 ?_
      replace hf := ab_nzE hf; obtain ⟨c40, hf⟩ := hf
      refine xr_irem A dX5_whoOf_40 c40 ?_
      exact xr_ireturn A rfl hf dX5_whoOf_41
    · replace hf := ab_in c9 hf
      refine xr_iload_n A dX5_whoOf_12 2 rfl rfl ?_
      refine xr_aload_n A dX5_whoOf_13 0 rfl rfl ?_
      revert hf; refine ab_bdI (fun v4 mv4 hf => ?_)
      refine xr_get A xc_X5 in_X5 3 (Nat.le_of_ble_eq_true rfl) q1301 rfl (ab_gRE mv4) dX5_whoOf_14 ?_
      revert hf; refine ab_bdI (fun a5 e hf => ?_); subst e
      revert hf; refine ab_bdI (fun v6 mv6 hf => ?_)
      refine xr_getN A xc_X15 in_X15 9 (Nat.le_of_ble_eq_true rfl) n1470 rfl (ab_gIE mv6) dX5_whoOf_17 ?_
      refine xr_iconst A (v := 1) dX5_whoOf_20 (by decide) ?_
      refine xr_iadd A dX5_whoOf_21 ?_
      replace hf := ab_nzE hf; obtain ⟨c22, hf⟩ := hf
      refine xr_idiv A dX5_whoOf_22 c22 ?_
      refine xr_istore_n A dX5_whoOf_23 rfl (Nat.le_of_ble_eq_true rfl) (L' := [(3, vI (l3 / (v6 + (1 : Int32)))), (0, vR (some x)), (2, vI l2), (4, vI l4)]) rfl ?_
      refine xr_iinc A dX5_whoOf_24 3 rfl (v := (l4 + (-1 : Int32))) rfl (Nat.le_of_ble_eq_true rfl) (L' := [(4, vI (l4 + (-1 : Int32))), (3, vI (l3 / (v6 + (1 : Int32)))), (0, vR (some x)), (2, vI l2)]) rfl ?_
      refine xr_goto A (tgt := 6) dX5_whoOf_27 (by decide) ?_
      refine X.sub [2, 3, 1, 0] rfl ?_
      exact ih hf
noncomputable def fX5_whoOf (x : Nat) (p1 : Int32) (p2 : Int32) (h : Hp) : Option (Int32 × Hp) :=
  ab_ck h x 4 <|
  fX5_whoOf_l6 x (hfu h) p2 p1 (6 : Int32) h
theorem wX5_whoOf (D : Dd) {x : Nat} {p1 : Int32} {p2 : Int32} {h : Hp} {r : Int32} {h' : Hp} (hf : fX5_whoOf x p1 p2 h = some (r, h')) : ab_is h x 4 ∧ Ct D 1 20 yX5_whoOf cX5_whoOf 5 (some FieldType.int) [vR (some x), vI p1, vI p2] h (.inl (some (vI r))) h' := by
    unfold fX5_whoOf at hf
    replace hf := ab_ckE hf; obtain ⟨i0, hf⟩ := hf
    refine ⟨i0, ?_⟩
    refine Ct.of (by decide) (L := [(0, vR (some x)), (1, vI p1), (2, vI p2)]) rfl (Nat.le_of_ble_eq_true rfl) (fun C A => ?_)
    refine xr_iload_n A dX5_whoOf_0 1 rfl rfl ?_
    refine xr_istore_n A dX5_whoOf_1 rfl (Nat.le_of_ble_eq_true rfl) (L' := [(3, vI p1), (0, vR (some x)), (1, vI p1), (2, vI p2)]) rfl ?_
    refine xr_bipush A (v := 6) dX5_whoOf_2 (by decide) ?_
    refine xr_istore A dX5_whoOf_4 (Nat.le_of_ble_eq_true rfl) (L' := [(4, vI (6 : Int32)), (3, vI p1), (0, vR (some x)), (1, vI p1), (2, vI p2)]) rfl ?_
    refine X.sub [2, 4, 1, 0] rfl ?_
    exact wX5_whoOf_l6 A _ hf
/-! X5_worthOf -/
theorem bX5_worthOf : MB yX5_worthOf cX5_worthOf 6 (some FieldType.int) 1 := ⟨q1946, q99, by decide, by decide +kernel⟩
noncomputable def fX5_worthOf_l36 (x : Nat) : Nat → Int32 → Int32 → Int32 → Int32 → Hp → Option (Int32 × Hp)
  | 0, _, _, _, _, _ => none
  | n + 1, l1, l2, l3, l4, h =>
  if (7 : Int32) ≤ l4 then (
    some (((((8 : Int32) * l2) + (7 : Int32)) - l3), h))
  else (
    ab_b2 (fX5_whoOf x l1 l4 h) fun v3 h2 =>
    ab_bd (ab_gR h2 x 4 3) fun v4 =>
    ab_bd v4 fun a5 =>
    ab_bd (ab_gI h2 a5 13 9) fun v6 =>
    if v3 = v6 then (
      fX5_worthOf_l36 x n l1 l2 l3 (l4 + (1 : Int32)) h2)
    else (
      ab_bd (ab_gR h2 x 4 39) fun v7 =>
      ab_bd v7 fun a8 =>
      ab_bd (ab_aI h2 a8 0 v3) fun v9 =>
      ab_bd (ab_sI h2 a8 v3 (v9 + (1 : Int32))) fun h10 =>
      ab_bd (ab_gR h10 x 4 3) fun v11 =>
      ab_bd v11 fun a12 =>
      ab_bd (ab_gR h10 a12 13 32) fun v13 =>
      ab_bd v13 fun a14 =>
      ab_bd (ab_aI h10 a14 0 v3) fun v15 =>
      ab_b2 (fX5_has v15 l4 h10) fun v18 h17 =>
      if v18 = 0 then (
        some ((-1 : Int32), h17))
      else (
        ab_bd (ab_gR h17 x 4 39) fun v19 =>
        ab_bd v19 fun a20 =>
        ab_bd (ab_aI h17 a20 0 v3) fun v21 =>
        ab_bd (ab_gR h17 x 4 3) fun v22 =>
        ab_bd v22 fun a23 =>
        ab_bd (ab_gR h17 a23 13 33) fun v24 =>
        ab_bd v24 fun a25 =>
        ab_bd (ab_aI h17 a25 0 v3) fun v26 =>
        if v21 ≤ v26 then (
          ab_bd (ab_gR h17 x 4 39) fun v27 =>
          ab_bd v27 fun a28 =>
          ab_bd (ab_aI h17 a28 0 v3) fun v29 =>
          if v29 ≤ l3 then (
            fX5_worthOf_l36 x n l1 (l2 + (1 : Int32)) l3 (l4 + (1 : Int32)) h17)
          else (
            ab_bd (ab_gR h17 x 4 39) fun v30 =>
            ab_bd v30 fun a31 =>
            ab_bd (ab_aI h17 a31 0 v3) fun v32 =>
            fX5_worthOf_l36 x n l1 (l2 + (1 : Int32)) v32 (l4 + (1 : Int32)) h17))
        else (
          some ((-1 : Int32), h17)))))
theorem wX5_worthOf_l36 {D : Dd} {C : Cx} {h0 h' : Hp} {r : Int32} (A : Act C D (h0, (.inl (some (vI r))), h') yX5_worthOf cX5_worthOf 6 (some FieldType.int) 2 44 []) {x : Nat} : ∀ (n : Nat) {l1 : Int32} {l2 : Int32} {l3 : Int32} {l4 : Int32} {h : Hp}, fX5_worthOf_l36 x n l1 l2 l3 l4 h = some (r, h') → X C D (h0, (.inl (some (vI r))), h') 6 36 [(0, vR (some x)), (1, vI l1), (2, vI l2), (3, vI l3), (4, vI l4)] [] h := by
  intro n
  induction n with
  | zero => intro l1 l2 l3 l4 h hf; exact ab_no hf
  | succ n ih =>
    intro l1 l2 l3 l4 h hf
    unfold fX5_worthOf_l36 at hf
    refine xr_iload A dX5_worthOf_36 4 rfl ?_
    refine xr_bipush A (v := 7) dX5_worthOf_38 (by decide) ?_
    refine xr_icmp_ge A (tgt := 150) dX5_worthOf_40 (by decide) (fun c40 => ?_) (fun c40 => ?_)
    · replace hf := ab_ip c40 hf
      refine xr_bipush A (v := 8) dX5_worthOf_150 (by decide) ?_
      refine xr_iload_n A dX5_worthOf_152 2 rfl rfl ?_
      refine xr_imul A dX5_worthOf_153 ?_
      refine xr_bipush A (v := 7) dX5_worthOf_154 (by decide) ?_
      refine xr_iadd A dX5_worthOf_156 ?_
      refine xr_iload_n A dX5_worthOf_157 3 rfl rfl ?_
      refine xr_isub A dX5_worthOf_158 ?_
      exact xr_ireturn A rfl hf dX5_worthOf_159
    · replace hf := ab_in c40 hf
      refine xr_aload_n A dX5_worthOf_43 0 rfl rfl ?_
      refine xr_iload_n A dX5_worthOf_44 1 rfl rfl ?_
      refine xr_iload A dX5_worthOf_45 4 rfl ?_
      revert hf; refine ab_b2I (fun v3 h2 m1 hf => ?_)
      refine xr_V A bX5_whoOf (wX5_whoOf D m1).2 xc_X5 (wX5_whoOf D m1).1 q1949 qs90 q1947 (av := [vI l1, vI l4]) (rest := []) rfl dX5_worthOf_47 (Nat.le_of_ble_eq_true rfl) (Nat.le_of_ble_eq_true rfl) rfl (Nat.le_of_ble_eq_true rfl) ?_
      refine xr_istore A dX5_worthOf_50 (Nat.le_of_ble_eq_true rfl) (L' := [(5, vI v3), (0, vR (some x)), (1, vI l1), (2, vI l2), (3, vI l3), (4, vI l4)]) rfl ?_
      refine xr_iload A dX5_worthOf_52 0 rfl ?_
      refine xr_aload_n A dX5_worthOf_54 1 rfl rfl ?_
      revert hf; refine ab_bdI (fun v4 mv4 hf => ?_)
      refine xr_get A xc_X5 in_X5 3 (Nat.le_of_ble_eq_true rfl) q1301 rfl (ab_gRE mv4) dX5_worthOf_55 ?_
      revert hf; refine ab_bdI (fun a5 e hf => ?_); subst e
      revert hf; refine ab_bdI (fun v6 mv6 hf => ?_)
      refine xr_getN A xc_X15 in_X15 9 (Nat.le_of_ble_eq_true rfl) n1470 rfl (ab_gIE mv6) dX5_worthOf_58 ?_
      refine xr_icmp_ne A (tgt := 67) dX5_worthOf_61 (by decide) (fun c61 => ?_) (fun c61 => ?_)
      · replace hf := ab_in c61 hf
        refine xr_aload_n A dX5_worthOf_67 1 rfl rfl ?_
        revert hf; refine ab_bdI (fun v7 mv7 hf => ?_)
        refine xr_get A xc_X5 in_X5 39 (Nat.le_of_ble_eq_true rfl) q1337 rfl (ab_gRE mv7) dX5_worthOf_68 ?_
        refine xr_iload A dX5_worthOf_71 0 rfl ?_
        refine xr_dup2 A dX5_worthOf_73 rfl rfl ?_
        revert hf; refine ab_bdI (fun a8 e hf => ?_); subst e
        revert hf; refine ab_bdI (fun v9 mv9 hf => ?_)
        refine xr_iaload A mv9 dX5_worthOf_74 ?_
        refine xr_iconst A (v := 1) dX5_worthOf_75 (by decide) ?_
        refine xr_iadd A dX5_worthOf_76 ?_
        revert hf; refine ab_bdI (fun h10 mh10 hf => ?_)
        refine xr_iastore A mh10 dX5_worthOf_77 ?_
        refine xr_aload_n A dX5_worthOf_78 1 rfl rfl ?_
        revert hf; refine ab_bdI (fun v11 mv11 hf => ?_)
        refine xr_get A xc_X5 in_X5 3 (Nat.le_of_ble_eq_true rfl) q1301 rfl (ab_gRE mv11) dX5_worthOf_79 ?_
        revert hf; refine ab_bdI (fun a12 e hf => ?_); subst e
        revert hf; refine ab_bdI (fun v13 mv13 hf => ?_)
        refine xr_getN A xc_X15 in_X15 32 (Nat.le_of_ble_eq_true rfl) n1516 rfl (ab_gRE mv13) dX5_worthOf_82 ?_
        refine xr_iload A dX5_worthOf_85 0 rfl ?_
        revert hf; refine ab_bdI (fun a14 e hf => ?_); subst e
        revert hf; refine ab_bdI (fun v15 mv15 hf => ?_)
        refine xr_iaload A mv15 dX5_worthOf_87 ?_
        refine xr_iload A dX5_worthOf_88 5 rfl ?_
        revert hf; refine ab_b2I (fun v18 h17 m16 hf => ?_)
        refine xr_S A bX5_has (wX5_has D m16) q1804 q1803 (av := [vI v15, vI l4]) (rest := []) rfl dX5_worthOf_90 (Nat.le_of_ble_eq_true rfl) (Nat.le_of_ble_eq_true rfl) rfl (Nat.le_of_ble_eq_true rfl) ?_
        refine xr_if_eq A (tgt := 116) dX5_worthOf_93 (by decide) (fun c93 => ?_) (fun c93 => ?_)
        · replace hf := ab_ip c93 hf
          refine xr_iconst A (v := (-1)) dX5_worthOf_116 (by decide) ?_
          exact xr_ireturn A rfl hf dX5_worthOf_117
        · replace hf := ab_in c93 hf
          refine xr_aload_n A dX5_worthOf_96 1 rfl rfl ?_
          revert hf; refine ab_bdI (fun v19 mv19 hf => ?_)
          refine xr_get A xc_X5 in_X5 39 (Nat.le_of_ble_eq_true rfl) q1337 rfl (ab_gRE mv19) dX5_worthOf_97 ?_
          refine xr_iload A dX5_worthOf_100 0 rfl ?_
          revert hf; refine ab_bdI (fun a20 e hf => ?_); subst e
          revert hf; refine ab_bdI (fun v21 mv21 hf => ?_)
          refine xr_iaload A mv21 dX5_worthOf_102 ?_
          refine xr_aload_n A dX5_worthOf_103 1 rfl rfl ?_
          revert hf; refine ab_bdI (fun v22 mv22 hf => ?_)
          refine xr_get A xc_X5 in_X5 3 (Nat.le_of_ble_eq_true rfl) q1301 rfl (ab_gRE mv22) dX5_worthOf_104 ?_
          revert hf; refine ab_bdI (fun a23 e hf => ?_); subst e
          revert hf; refine ab_bdI (fun v24 mv24 hf => ?_)
          refine xr_getN A xc_X15 in_X15 33 (Nat.le_of_ble_eq_true rfl) n1518 rfl (ab_gRE mv24) dX5_worthOf_107 ?_
          refine xr_iload A dX5_worthOf_110 0 rfl ?_
          revert hf; refine ab_bdI (fun a25 e hf => ?_); subst e
          revert hf; refine ab_bdI (fun v26 mv26 hf => ?_)
          refine xr_iaload A mv26 dX5_worthOf_112 ?_
          refine xr_icmp_le A (tgt := 118) dX5_worthOf_113 (by decide) (fun c113 => ?_) (fun c113 => ?_)
          · replace hf := ab_ip c113 hf
            refine xr_iinc A dX5_worthOf_118 3 rfl (v := (l2 + (1 : Int32))) rfl (Nat.le_of_ble_eq_true rfl) (L' := [(2, vI (l2 + (1 : Int32))), (5, vI v3), (0, vR (some x)), (1, vI l1), (3, vI l3), (4, vI l4)]) rfl ?_
            refine xr_aload_n A dX5_worthOf_121 2 rfl rfl ?_
            revert hf; refine ab_bdI (fun v27 mv27 hf => ?_)
            refine xr_get A xc_X5 in_X5 39 (Nat.le_of_ble_eq_true rfl) q1337 rfl (ab_gRE mv27) dX5_worthOf_122 ?_
            refine xr_iload A dX5_worthOf_125 1 rfl ?_
            revert hf; refine ab_bdI (fun a28 e hf => ?_); subst e
            revert hf; refine ab_bdI (fun v29 mv29 hf => ?_)
            refine xr_iaload A mv29 dX5_worthOf_127 ?_
            refine xr_iload_n A dX5_worthOf_128 4 rfl rfl ?_
            refine xr_icmp_le A (tgt := 142) dX5_worthOf_129 (by decide) (fun c129 => ?_) (fun c129 => ?_)
            · replace hf := ab_ip c129 hf
              refine xr_iload_n A dX5_worthOf_142 4 rfl rfl ?_
              refine xr_istore_n A dX5_worthOf_143 rfl (Nat.le_of_ble_eq_true rfl) (L' := [(3, vI l3), (2, vI (l2 + (1 : Int32))), (5, vI v3), (0, vR (some x)), (1, vI l1), (4, vI l4)]) rfl ?_
              refine xr_iinc A dX5_worthOf_144 5 rfl (v := (l4 + (1 : Int32))) rfl (Nat.le_of_ble_eq_true rfl) (L' := [(4, vI (l4 + (1 : Int32))), (3, vI l3), (2, vI (l2 + (1 : Int32))), (5, vI v3), (0, vR (some x)), (1, vI l1)]) rfl ?_
              refine xr_goto A (tgt := 36) dX5_worthOf_147 (by decide) ?_
              refine X.sub [4, 5, 2, 1, 0] rfl ?_
              exact ih hf
            · replace hf := ab_in c129 hf
              refine xr_aload_n A dX5_worthOf_132 2 rfl rfl ?_
              revert hf; refine ab_bdI (fun v30 mv30 hf => ?_)
              refine xr_get A xc_X5 in_X5 39 (Nat.le_of_ble_eq_true rfl) q1337 rfl (ab_gRE mv30) dX5_worthOf_133 ?_
              refine xr_iload A dX5_worthOf_136 1 rfl ?_
              revert hf; refine ab_bdI (fun a31 e hf => ?_); subst e
              revert hf; refine ab_bdI (fun v32 mv32 hf => ?_)
              refine xr_iaload A mv32 dX5_worthOf_138 ?_
              refine xr_goto A (tgt := 143) dX5_worthOf_139 (by decide) ?_
              refine xr_istore_n A dX5_worthOf_143 rfl (Nat.le_of_ble_eq_true rfl) (L' := [(3, vI v32), (2, vI (l2 + (1 : Int32))), (5, vI v3), (0, vR (some x)), (1, vI l1), (4, vI l4)]) rfl ?_
              refine xr_iinc A dX5_worthOf_144 5 rfl (v := (l4 + (1 : Int32))) rfl (Nat.le_of_ble_eq_true rfl) (L' := [(4, vI (l4 + (1 : Int32))), (3, vI v32), (2, vI (l2 + (1 : Int32))), (5, vI v3), (0, vR (some x)), (1, vI l1)]) rfl ?_
              refine xr_goto A (tgt := 36) dX5_worthOf_147 (by decide) ?_
              refine X.sub [4, 5, 2, 1, 0] rfl ?_
              exact ih hf
          · replace hf := ab_in c113 hf
            refine xr_iconst A (v := (-1)) dX5_worthOf_116 (by decide) ?_
            exact xr_ireturn A rfl hf dX5_worthOf_117
      · replace hf := ab_ip c61 hf
        refine xr_goto A (tgt := 144) dX5_worthOf_64 (by decide) ?_
        refine xr_iinc A dX5_worthOf_144 5 rfl (v := (l4 + (1 : Int32))) rfl (Nat.le_of_ble_eq_true rfl) (L' := [(4, vI (l4 + (1 : Int32))), (5, vI v3), (0, vR (some x)), (1, vI l1), (2, vI l2), (3, vI l3)]) rfl ?_
        refine xr_goto A (tgt := 36) dX5_worthOf_147 (by decide) ?_
        refine X.sub [2, 3, 4, 5, 0] rfl ?_
        exact ih hf
noncomputable def fX5_worthOf_l7 (x : Nat) : Nat → Int32 → Int32 → Int32 → Int32 → Hp → Option (Int32 × Hp)
  | 0, _, _, _, _, _ => none
  | n + 1, l1, l2, l3, l4, h =>
  ab_bd (ab_gR h x 4 3) fun v1 =>
  ab_bd v1 fun a2 =>
  ab_bd (ab_gI h a2 13 9) fun v3 =>
  if v3 < l4 then (
    fX5_worthOf_l36 x (hfu h) l1 l2 l3 (0 : Int32) h)
  else (
    ab_bd (ab_gR h x 4 39) fun v4 =>
    ab_bd v4 fun a5 =>
    ab_bd (ab_sI h a5 l4 (0 : Int32)) fun h6 =>
    fX5_worthOf_l7 x n l1 l2 l3 (l4 + (1 : Int32)) h6)
theorem wX5_worthOf_l7 {D : Dd} {C : Cx} {h0 h' : Hp} {r : Int32} (A : Act C D (h0, (.inl (some (vI r))), h') yX5_worthOf cX5_worthOf 6 (some FieldType.int) 2 44 []) {x : Nat} : ∀ (n : Nat) {l1 : Int32} {l2 : Int32} {l3 : Int32} {l4 : Int32} {h : Hp}, fX5_worthOf_l7 x n l1 l2 l3 l4 h = some (r, h') → X C D (h0, (.inl (some (vI r))), h') 6 7 [(0, vR (some x)), (1, vI l1), (2, vI l2), (3, vI l3), (4, vI l4)] [] h := by
  intro n
  induction n with
  | zero => intro l1 l2 l3 l4 h hf; exact ab_no hf
  | succ n ih =>
    intro l1 l2 l3 l4 h hf
    unfold fX5_worthOf_l7 at hf
    refine xr_iload A dX5_worthOf_7 4 rfl ?_
    refine xr_aload_n A dX5_worthOf_9 0 rfl rfl ?_
    revert hf; refine ab_bdI (fun v1 mv1 hf => ?_)
    refine xr_get A xc_X5 in_X5 3 (Nat.le_of_ble_eq_true rfl) q1301 rfl (ab_gRE mv1) dX5_worthOf_10 ?_
    revert hf; refine ab_bdI (fun a2 e hf => ?_); subst e
    revert hf; refine ab_bdI (fun v3 mv3 hf => ?_)
    refine xr_getN A xc_X15 in_X15 9 (Nat.le_of_ble_eq_true rfl) n1470 rfl (ab_gIE mv3) dX5_worthOf_13 ?_
    refine xr_icmp_gt A (tgt := 33) dX5_worthOf_16 (by decide) (fun c16 => ?_) (fun c16 => ?_)
    · replace hf := ab_ip c16 hf
      refine xr_iconst A (v := 0) dX5_worthOf_33 (by decide) ?_
      refine xr_istore A dX5_worthOf_34 (Nat.le_of_ble_eq_true rfl) (L' := [(4, vI (0 : Int32)), (0, vR (some x)), (1, vI l1), (2, vI l2), (3, vI l3)]) rfl ?_
      refine X.sub [1, 2, 3, 4, 0] rfl ?_
      exact wX5_worthOf_l36 A _ hf
    · replace hf := ab_in c16 hf
      refine xr_aload_n A dX5_worthOf_19 0 rfl rfl ?_
      revert hf; refine ab_bdI (fun v4 mv4 hf => ?_)
      refine xr_get A xc_X5 in_X5 39 (Nat.le_of_ble_eq_true rfl) q1337 rfl (ab_gRE mv4) dX5_worthOf_20 ?_
      refine xr_iload A dX5_worthOf_23 4 rfl ?_
      refine xr_iconst A (v := 0) dX5_worthOf_25 (by decide) ?_
      revert hf; refine ab_bdI (fun a5 e hf => ?_); subst e
      revert hf; refine ab_bdI (fun h6 mh6 hf => ?_)
      refine xr_iastore A mh6 dX5_worthOf_26 ?_
      refine xr_iinc A dX5_worthOf_27 4 rfl (v := (l4 + (1 : Int32))) rfl (Nat.le_of_ble_eq_true rfl) (L' := [(4, vI (l4 + (1 : Int32))), (0, vR (some x)), (1, vI l1), (2, vI l2), (3, vI l3)]) rfl ?_
      refine xr_goto A (tgt := 7) dX5_worthOf_30 (by decide) ?_
      refine X.sub [1, 2, 3, 4, 0] rfl ?_
      exact ih hf
noncomputable def fX5_worthOf (x : Nat) (p1 : Int32) (h : Hp) : Option (Int32 × Hp) :=
  ab_ck h x 4 <|
  fX5_worthOf_l7 x (hfu h) p1 (0 : Int32) (0 : Int32) (0 : Int32) h
theorem wX5_worthOf (D : Dd) {x : Nat} {p1 : Int32} {h : Hp} {r : Int32} {h' : Hp} (hf : fX5_worthOf x p1 h = some (r, h')) : ab_is h x 4 ∧ Ct D 2 44 yX5_worthOf cX5_worthOf 6 (some FieldType.int) [vR (some x), vI p1] h (.inl (some (vI r))) h' := by
    unfold fX5_worthOf at hf
    replace hf := ab_ckE hf; obtain ⟨i0, hf⟩ := hf
    refine ⟨i0, ?_⟩
    refine Ct.of (by decide) (L := [(0, vR (some x)), (1, vI p1)]) rfl (Nat.le_of_ble_eq_true rfl) (fun C A => ?_)
    refine xr_iconst A (v := 0) dX5_worthOf_0 (by decide) ?_
    refine xr_istore_n A dX5_worthOf_1 rfl (Nat.le_of_ble_eq_true rfl) (L' := [(2, vI (0 : Int32)), (0, vR (some x)), (1, vI p1)]) rfl ?_
    refine xr_iconst A (v := 0) dX5_worthOf_2 (by decide) ?_
    refine xr_istore_n A dX5_worthOf_3 rfl (Nat.le_of_ble_eq_true rfl) (L' := [(3, vI (0 : Int32)), (2, vI (0 : Int32)), (0, vR (some x)), (1, vI p1)]) rfl ?_
    refine xr_iconst A (v := 0) dX5_worthOf_4 (by decide) ?_
    refine xr_istore A dX5_worthOf_5 (Nat.le_of_ble_eq_true rfl) (L' := [(4, vI (0 : Int32)), (3, vI (0 : Int32)), (2, vI (0 : Int32)), (0, vR (some x)), (1, vI p1)]) rfl ?_
    refine X.sub [3, 4, 2, 1, 0] rfl ?_
    exact wX5_worthOf_l7 A _ hf
/-! X5_fill -/
theorem bX5_fill : MB yX5_fill cX5_fill 6 (some FieldType.int) 0 := ⟨q1942, q99, by decide, by decide +kernel⟩
noncomputable def fX5_fill_l96 (x : Nat) : Nat → Int32 → Int32 → Int32 → Hp → Option (Int32 × Hp)
  | 0, _, _, _, _ => none
  | n + 1, l2, l3, l4, h =>
  if (7 : Int32) ≤ l4 then (
    ab_b2 (fX5_done x (l2 / (8 : Int32)) h) fun v3 h2 =>
    some (v3, h2))
  else (
    ab_bd (ab_gR h x 4 38) fun v4 =>
    ab_b2 (fX5_whoOf x l3 l4 h) fun v7 h6 =>
    ab_bd (ab_gR h6 x 4 3) fun v8 =>
    ab_bd v8 fun a9 =>
    ab_bd (ab_gI h6 a9 13 9) fun v10 =>
    if v7 = v10 then (
      ab_bd v4 fun a16 =>
      ab_bd (ab_sI h6 a16 l4 (-2 : Int32)) fun h17 =>
      fX5_fill_l96 x n l2 l3 (l4 + (1 : Int32)) h17)
    else (
      ab_b2 (fX5_whoOf x l3 l4 h6) fun v13 h12 =>
      ab_bd v4 fun a14 =>
      ab_bd (ab_sI h12 a14 l4 v13) fun h15 =>
      fX5_fill_l96 x n l2 l3 (l4 + (1 : Int32)) h15))
theorem wX5_fill_l96 {D : Dd} {C : Cx} {h0 h' : Hp} {r : Int32} (A : Act C D (h0, (.inl (some (vI r))), h') yX5_fill cX5_fill 6 (some FieldType.int) 3 69 []) {x : Nat} : ∀ (n : Nat) {l2 : Int32} {l3 : Int32} {l4 : Int32} {h : Hp}, fX5_fill_l96 x n l2 l3 l4 h = some (r, h') → X C D (h0, (.inl (some (vI r))), h') 6 96 [(0, vR (some x)), (2, vI l2), (3, vI l3), (4, vI l4)] [] h := by
  intro n
  induction n with
  | zero => intro l2 l3 l4 h hf; exact ab_no hf
  | succ n ih =>
    intro l2 l3 l4 h hf
    unfold fX5_fill_l96 at hf
    refine xr_iload A dX5_fill_96 3 rfl ?_
    refine xr_bipush A (v := 7) dX5_fill_98 (by decide) ?_
    refine xr_icmp_ge A (tgt := 145) dX5_fill_100 (by decide) (fun c100 => ?_) (fun c100 => ?_)
    · replace hf := ab_ip c100 hf
      refine xr_aload_n A dX5_fill_145 0 rfl rfl ?_
      refine xr_iload_n A dX5_fill_146 1 rfl rfl ?_
      refine xr_bipush A (v := 8) dX5_fill_147 (by decide) ?_
      refine xr_idiv A dX5_fill_149 (by decide) ?_
      revert hf; refine ab_b2I (fun v3 h2 m1 hf => ?_)
      refine xr_V A bX5_done (wX5_done D m1).2 xc_X5 (wX5_done D m1).1 q1749 qs69 q1747 (av := [vI (l2 / (8 : Int32))]) (rest := []) rfl dX5_fill_150 (Nat.le_of_ble_eq_true rfl) (Nat.le_of_ble_eq_true rfl) rfl (Nat.le_of_ble_eq_true rfl) ?_
      exact xr_ireturn A rfl hf dX5_fill_153
    · replace hf := ab_in c100 hf
      refine xr_aload_n A dX5_fill_103 0 rfl rfl ?_
      revert hf; refine ab_bdI (fun v4 mv4 hf => ?_)
      refine xr_get A xc_X5 in_X5 38 (Nat.le_of_ble_eq_true rfl) q1336 rfl (ab_gRE mv4) dX5_fill_104 ?_
      refine xr_iload A dX5_fill_107 3 rfl ?_
      refine xr_aload_n A dX5_fill_109 0 rfl rfl ?_
      refine xr_iload_n A dX5_fill_110 2 rfl rfl ?_
      refine xr_iload A dX5_fill_111 3 rfl ?_
      revert hf; refine ab_b2I (fun v7 h6 m5 hf => ?_)
      refine xr_V A bX5_whoOf (wX5_whoOf D m5).2 xc_X5 (wX5_whoOf D m5).1 q1949 qs90 q1947 (av := [vI l3, vI l4]) (rest := [vI l4, vR v4]) rfl dX5_fill_113 (Nat.le_of_ble_eq_true rfl) (Nat.le_of_ble_eq_true rfl) rfl (Nat.le_of_ble_eq_true rfl) ?_
      refine xr_aload_n A dX5_fill_116 0 rfl rfl ?_
      revert hf; refine ab_bdI (fun v8 mv8 hf => ?_)
      refine xr_get A xc_X5 in_X5 3 (Nat.le_of_ble_eq_true rfl) q1301 rfl (ab_gRE mv8) dX5_fill_117 ?_
      revert hf; refine ab_bdI (fun a9 e hf => ?_); subst e
      revert hf; refine ab_bdI (fun v10 mv10 hf => ?_)
      refine xr_getN A xc_X15 in_X15 9 (Nat.le_of_ble_eq_true rfl) n1470 rfl (ab_gIE mv10) dX5_fill_120 ?_
      refine xr_icmp_ne A (tgt := 131) dX5_fill_123 (by decide) (fun c123 => ?_) (fun c123 => ?_)
      · replace hf := ab_in c123 hf
        refine xr_aload_n A dX5_fill_131 0 rfl rfl ?_
        refine xr_iload_n A dX5_fill_132 2 rfl rfl ?_
        refine xr_iload A dX5_fill_133 3 rfl ?_
        revert hf; refine ab_b2I (fun v13 h12 m11 hf => ?_)
        refine xr_V A bX5_whoOf (wX5_whoOf D m11).2 xc_X5 (wX5_whoOf D m11).1 q1949 qs90 q1947 (av := [vI l3, vI l4]) (rest := [vI l4, vR v4]) rfl dX5_fill_135 (Nat.le_of_ble_eq_true rfl) (Nat.le_of_ble_eq_true rfl) rfl (Nat.le_of_ble_eq_true rfl) ?_
        revert hf; refine ab_bdI (fun a14 e hf => ?_); subst e
        revert hf; refine ab_bdI (fun h15 mh15 hf => ?_)
        refine xr_iastore A mh15 dX5_fill_138 ?_
        refine xr_iinc A dX5_fill_139 3 rfl (v := (l4 + (1 : Int32))) rfl (Nat.le_of_ble_eq_true rfl) (L' := [(4, vI (l4 + (1 : Int32))), (0, vR (some x)), (2, vI l2), (3, vI l3)]) rfl ?_
        refine xr_goto A (tgt := 96) dX5_fill_142 (by decide) ?_
        refine X.sub [1, 2, 3, 0] rfl ?_
        exact ih hf
      · replace hf := ab_ip c123 hf
        refine xr_bipush A (v := (-2)) dX5_fill_126 (by decide) ?_
        refine xr_goto A (tgt := 138) dX5_fill_128 (by decide) ?_
        revert hf; refine ab_bdI (fun a16 e hf => ?_); subst e
        revert hf; refine ab_bdI (fun h17 mh17 hf => ?_)
        refine xr_iastore A mh17 dX5_fill_138 ?_
        refine xr_iinc A dX5_fill_139 3 rfl (v := (l4 + (1 : Int32))) rfl (Nat.le_of_ble_eq_true rfl) (L' := [(4, vI (l4 + (1 : Int32))), (0, vR (some x)), (2, vI l2), (3, vI l3)]) rfl ?_
        refine xr_goto A (tgt := 96) dX5_fill_142 (by decide) ?_
        refine X.sub [1, 2, 3, 0] rfl ?_
        exact ih hf
noncomputable def fX5_fill_l53 (x : Nat) : Nat → Int32 → Int32 → Int32 → Int32 → Hp → Option (Int32 × Hp)
  | 0, _, _, _, _, _ => none
  | n + 1, l1, l2, l3, l4, h =>
  if l1 ≤ l4 then (
    ab_bd (ab_pI h x 4 37 (1 : Int32)) fun h1 =>
    fX5_fill_l96 x (hfu h1) l2 l3 (0 : Int32) h1)
  else (
    ab_b2 (fX5_worthOf x l4 h) fun v4 h3 =>
    if l2 < v4 then (
      fX5_fill_l53 x n l1 v4 l4 (l4 + (1 : Int32)) h3)
    else (
      fX5_fill_l53 x n l1 l2 l3 (l4 + (1 : Int32)) h3))
theorem wX5_fill_l53 {D : Dd} {C : Cx} {h0 h' : Hp} {r : Int32} (A : Act C D (h0, (.inl (some (vI r))), h') yX5_fill cX5_fill 6 (some FieldType.int) 3 69 []) {x : Nat} : ∀ (n : Nat) {l1 : Int32} {l2 : Int32} {l3 : Int32} {l4 : Int32} {h : Hp}, fX5_fill_l53 x n l1 l2 l3 l4 h = some (r, h') → X C D (h0, (.inl (some (vI r))), h') 6 53 [(0, vR (some x)), (1, vI l1), (2, vI l2), (3, vI l3), (4, vI l4)] [] h := by
  intro n
  induction n with
  | zero => intro l1 l2 l3 l4 h hf; exact ab_no hf
  | succ n ih =>
    intro l1 l2 l3 l4 h hf
    unfold fX5_fill_l53 at hf
    refine xr_iload A dX5_fill_53 4 rfl ?_
    refine xr_iload_n A dX5_fill_55 1 rfl rfl ?_
    refine xr_icmp_ge A (tgt := 88) dX5_fill_56 (by decide) (fun c56 => ?_) (fun c56 => ?_)
    · replace hf := ab_ip c56 hf
      refine xr_aload_n A dX5_fill_88 0 rfl rfl ?_
      refine xr_iconst A (v := 1) dX5_fill_89 (by decide) ?_
      revert hf; refine ab_bdI (fun h1 mh1 hf => ?_)
      refine xr_put A xc_X5 in_X5 tyX5_ok nmX5 37 (Nat.le_of_ble_eq_true rfl) q1335 rfl rfl (v := vI (1 : Int32)) rfl rfl mh1 dX5_fill_90 ?_
      refine xr_iconst A (v := 0) dX5_fill_93 (by decide) ?_
      refine xr_istore A dX5_fill_94 (Nat.le_of_ble_eq_true rfl) (L' := [(4, vI (0 : Int32)), (0, vR (some x)), (1, vI l1), (2, vI l2), (3, vI l3)]) rfl ?_
      refine X.sub [1, 3, 4, 0] rfl ?_
      exact wX5_fill_l96 A _ hf
    · replace hf := ab_in c56 hf
      refine xr_aload_n A dX5_fill_59 0 rfl rfl ?_
      refine xr_iload A dX5_fill_60 4 rfl ?_
      revert hf; refine ab_b2I (fun v4 h3 m2 hf => ?_)
      refine xr_V A bX5_worthOf (wX5_worthOf D m2).2 xc_X5 (wX5_worthOf D m2).1 q1945 qs89 q1943 (av := [vI l4]) (rest := []) rfl dX5_fill_62 (Nat.le_of_ble_eq_true rfl) (Nat.le_of_ble_eq_true rfl) rfl (Nat.le_of_ble_eq_true rfl) ?_
      refine xr_istore A dX5_fill_65 (Nat.le_of_ble_eq_true rfl) (L' := [(5, vI v4), (0, vR (some x)), (1, vI l1), (2, vI l2), (3, vI l3), (4, vI l4)]) rfl ?_
      refine xr_iload A dX5_fill_67 0 rfl ?_
      refine xr_iload_n A dX5_fill_69 3 rfl rfl ?_
      refine xr_icmp_gt A (tgt := 76) dX5_fill_70 (by decide) (fun c70 => ?_) (fun c70 => ?_)
      · replace hf := ab_ip c70 hf
        refine xr_iload A dX5_fill_76 0 rfl ?_
        refine xr_istore_n A dX5_fill_78 rfl (Nat.le_of_ble_eq_true rfl) (L' := [(2, vI v4), (5, vI v4), (0, vR (some x)), (1, vI l1), (3, vI l3), (4, vI l4)]) rfl ?_
        refine xr_iload A dX5_fill_79 5 rfl ?_
        refine xr_istore_n A dX5_fill_81 rfl (Nat.le_of_ble_eq_true rfl) (L' := [(3, vI l4), (2, vI v4), (5, vI v4), (0, vR (some x)), (1, vI l1), (4, vI l4)]) rfl ?_
        refine xr_iinc A dX5_fill_82 5 rfl (v := (l4 + (1 : Int32))) rfl (Nat.le_of_ble_eq_true rfl) (L' := [(4, vI (l4 + (1 : Int32))), (3, vI l4), (2, vI v4), (5, vI v4), (0, vR (some x)), (1, vI l1)]) rfl ?_
        refine xr_goto A (tgt := 53) dX5_fill_85 (by decide) ?_
        refine X.sub [4, 5, 2, 1, 0] rfl ?_
        exact ih hf
      · replace hf := ab_in c70 hf
        refine xr_goto A (tgt := 82) dX5_fill_73 (by decide) ?_
        refine xr_iinc A dX5_fill_82 5 rfl (v := (l4 + (1 : Int32))) rfl (Nat.le_of_ble_eq_true rfl) (L' := [(4, vI (l4 + (1 : Int32))), (5, vI v4), (0, vR (some x)), (1, vI l1), (2, vI l2), (3, vI l3)]) rfl ?_
        refine xr_goto A (tgt := 53) dX5_fill_85 (by decide) ?_
        refine X.sub [2, 3, 4, 5, 0] rfl ?_
        exact ih hf
noncomputable def fX5_fill_l22 (x : Nat) : Nat → Int32 → Int32 → Hp → Option (Int32 × Hp)
  | 0, _, _, _ => none
  | n + 1, l1, l2, h =>
  if (7 : Int32) ≤ l2 then (
    fX5_fill_l53 x (hfu h) l1 (-1 : Int32) (0 : Int32) (0 : Int32) h)
  else (
    ab_bd (ab_gR h x 4 3) fun v1 =>
    ab_bd v1 fun a2 =>
    ab_bd (ab_gI h a2 13 9) fun v3 =>
    fX5_fill_l22 x n (l1 * (v3 + (1 : Int32))) (l2 + (1 : Int32)) h)
theorem wX5_fill_l22 {D : Dd} {C : Cx} {h0 h' : Hp} {r : Int32} (A : Act C D (h0, (.inl (some (vI r))), h') yX5_fill cX5_fill 6 (some FieldType.int) 3 69 []) {x : Nat} : ∀ (n : Nat) {l1 : Int32} {l2 : Int32} {h : Hp}, fX5_fill_l22 x n l1 l2 h = some (r, h') → X C D (h0, (.inl (some (vI r))), h') 6 22 [(0, vR (some x)), (1, vI l1), (2, vI l2)] [] h := by
  intro n
  induction n with
  | zero => intro l1 l2 h hf; exact ab_no hf
  | succ n ih =>
    intro l1 l2 h hf
    unfold fX5_fill_l22 at hf
    refine xr_iload_n A dX5_fill_22 2 rfl rfl ?_
    refine xr_bipush A (v := 7) dX5_fill_23 (by decide) ?_
    refine xr_icmp_ge A (tgt := 46) dX5_fill_25 (by decide) (fun c25 => ?_) (fun c25 => ?_)
    · replace hf := ab_ip c25 hf
      refine xr_iconst A (v := (-1)) dX5_fill_46 (by decide) ?_
      refine xr_istore_n A dX5_fill_47 rfl (Nat.le_of_ble_eq_true rfl) (L' := [(2, vI (-1 : Int32)), (0, vR (some x)), (1, vI l1)]) rfl ?_
      refine xr_iconst A (v := 0) dX5_fill_48 (by decide) ?_
      refine xr_istore_n A dX5_fill_49 rfl (Nat.le_of_ble_eq_true rfl) (L' := [(3, vI (0 : Int32)), (2, vI (-1 : Int32)), (0, vR (some x)), (1, vI l1)]) rfl ?_
      refine xr_iconst A (v := 0) dX5_fill_50 (by decide) ?_
      refine xr_istore A dX5_fill_51 (Nat.le_of_ble_eq_true rfl) (L' := [(4, vI (0 : Int32)), (3, vI (0 : Int32)), (2, vI (-1 : Int32)), (0, vR (some x)), (1, vI l1)]) rfl ?_
      refine X.sub [3, 4, 2, 1, 0] rfl ?_
      exact wX5_fill_l53 A _ hf
    · replace hf := ab_in c25 hf
      refine xr_iload_n A dX5_fill_28 1 rfl rfl ?_
      refine xr_aload_n A dX5_fill_29 0 rfl rfl ?_
      revert hf; refine ab_bdI (fun v1 mv1 hf => ?_)
      refine xr_get A xc_X5 in_X5 3 (Nat.le_of_ble_eq_true rfl) q1301 rfl (ab_gRE mv1) dX5_fill_30 ?_
      revert hf; refine ab_bdI (fun a2 e hf => ?_); subst e
      revert hf; refine ab_bdI (fun v3 mv3 hf => ?_)
      refine xr_getN A xc_X15 in_X15 9 (Nat.le_of_ble_eq_true rfl) n1470 rfl (ab_gIE mv3) dX5_fill_33 ?_
      refine xr_iconst A (v := 1) dX5_fill_36 (by decide) ?_
      refine xr_iadd A dX5_fill_37 ?_
      refine xr_imul A dX5_fill_38 ?_
      refine xr_istore_n A dX5_fill_39 rfl (Nat.le_of_ble_eq_true rfl) (L' := [(1, vI (l1 * (v3 + (1 : Int32)))), (0, vR (some x)), (2, vI l2)]) rfl ?_
      refine xr_iinc A dX5_fill_40 2 rfl (v := (l2 + (1 : Int32))) rfl (Nat.le_of_ble_eq_true rfl) (L' := [(2, vI (l2 + (1 : Int32))), (1, vI (l1 * (v3 + (1 : Int32)))), (0, vR (some x))]) rfl ?_
      refine xr_goto A (tgt := 22) dX5_fill_43 (by decide) ?_
      refine X.sub [2, 1, 0] rfl ?_
      exact ih hf
noncomputable def fX5_fill (x : Nat) (h : Hp) : Option (Int32 × Hp) :=
  ab_ck h x 4 <|
  ab_bd (ab_pI h x 4 0 (0 : Int32)) fun h1 =>
  ab_bd (ab_gR h1 x 4 3) fun v2 =>
  ab_on v2 (
    ab_b2 (fX5_refused x (1 : Int32) h1) fun v6 h5 =>
    some (v6, h5)) fun a3 => (
    fX5_fill_l22 x (hfu h1) (1 : Int32) (0 : Int32) h1)
theorem wX5_fill (D : Dd) {x : Nat} {h : Hp} {r : Int32} {h' : Hp} (hf : fX5_fill x h = some (r, h')) : ab_is h x 4 ∧ Ct D 3 69 yX5_fill cX5_fill 6 (some FieldType.int) [vR (some x)] h (.inl (some (vI r))) h' := by
    unfold fX5_fill at hf
    replace hf := ab_ckE hf; obtain ⟨i0, hf⟩ := hf
    refine ⟨i0, ?_⟩
    refine Ct.of (by decide) (L := [(0, vR (some x))]) rfl (Nat.le_of_ble_eq_true rfl) (fun C A => ?_)
    refine xr_aload_n A dX5_fill_0 0 rfl rfl ?_
    refine xr_iconst A (v := 0) dX5_fill_1 (by decide) ?_
    revert hf; refine ab_bdI (fun h1 mh1 hf => ?_)
    refine xr_put A xc_X5 in_X5 tyX5_ok nmX5 0 (Nat.le_of_ble_eq_true rfl) q1298 rfl rfl (v := vI (0 : Int32)) rfl rfl mh1 dX5_fill_2 ?_
    refine xr_aload_n A dX5_fill_5 0 rfl rfl ?_
    revert hf; refine ab_bdI (fun v2 mv2 hf => ?_)
    refine xr_get A xc_X5 in_X5 3 (Nat.le_of_ble_eq_true rfl) q1301 rfl (ab_gRE mv2) dX5_fill_6 ?_
    revert hf; refine ab_onI (fun e hf => ?_) (fun a3 e hf => ?_) <;> subst e
    · refine xr_ifnonnull A (tgt := 18) dX5_fill_9 (by decide) (fun _ e => by cases e) (fun _ => ?_)
      refine xr_aload_n A dX5_fill_12 0 rfl rfl ?_
      refine xr_iconst A (v := 1) dX5_fill_13 (by decide) ?_
      revert hf; refine ab_b2I (fun v6 h5 m4 hf => ?_)
      refine xr_V A bX5_refused (wX5_refused D m4).2 xc_X5 (wX5_refused D m4).1 q1451 qs44 q1449 (av := [vI (1 : Int32)]) (rest := []) rfl dX5_fill_14 (Nat.le_of_ble_eq_true rfl) (Nat.le_of_ble_eq_true rfl) rfl (Nat.le_of_ble_eq_true rfl) ?_
      exact xr_ireturn A rfl hf dX5_fill_17
    · refine xr_ifnonnull A (tgt := 18) dX5_fill_9 (by decide) (fun _ _ => ?_) (fun e => by cases e)
      refine xr_iconst A (v := 1) dX5_fill_18 (by decide) ?_
      refine xr_istore_n A dX5_fill_19 rfl (Nat.le_of_ble_eq_true rfl) (L' := [(1, vI (1 : Int32)), (0, vR (some x))]) rfl ?_
      refine xr_iconst A (v := 0) dX5_fill_20 (by decide) ?_
      refine xr_istore_n A dX5_fill_21 rfl (Nat.le_of_ble_eq_true rfl) (L' := [(2, vI (0 : Int32)), (1, vI (1 : Int32)), (0, vR (some x))]) rfl ?_
      refine X.sub [2, 1, 0] rfl ?_
      exact wX5_fill_l22 A _ hf
/-! X5_helper -/
theorem bX5_helper : MB yX5_helper cX5_helper 2 (some FieldType.int) 1 := ⟨q1954, q99, by decide, by decide +kernel⟩
noncomputable def fX5_helper (x : Nat) (p1 : Int32) (h : Hp) : Option (Int32 × Hp) :=
  ab_ck h x 4 <|
  ab_bd (ab_pI h x 4 0 (0 : Int32)) fun h1 =>
  ab_bd (ab_gI h1 x 4 37) fun v2 =>
  if v2 = 0 then (
    some ((-1 : Int32), h1))
  else (
    ab_b2 (fX5_in p1 (0 : Int32) (6 : Int32) h1) fun v5 h4 =>
    if v5 = 0 then (
      some ((-1 : Int32), h4))
    else (
      ab_bd (ab_gR h4 x 4 38) fun v6 =>
      ab_bd v6 fun a7 =>
      ab_bd (ab_aI h4 a7 0 p1) fun v8 =>
      some (v8, h4)))
theorem wX5_helper (D : Dd) {x : Nat} {p1 : Int32} {h : Hp} {r : Int32} {h' : Hp} (hf : fX5_helper x p1 h = some (r, h')) : ab_is h x 4 ∧ Ct D 2 42 yX5_helper cX5_helper 2 (some FieldType.int) [vR (some x), vI p1] h (.inl (some (vI r))) h' := by
    unfold fX5_helper at hf
    replace hf := ab_ckE hf; obtain ⟨i0, hf⟩ := hf
    refine ⟨i0, ?_⟩
    refine Ct.of (by decide) (L := [(0, vR (some x)), (1, vI p1)]) rfl (Nat.le_of_ble_eq_true rfl) (fun C A => ?_)
    refine xr_aload_n A dX5_helper_0 0 rfl rfl ?_
    refine xr_iconst A (v := 0) dX5_helper_1 (by decide) ?_
    revert hf; refine ab_bdI (fun h1 mh1 hf => ?_)
    refine xr_put A xc_X5 in_X5 tyX5_ok nmX5 0 (Nat.le_of_ble_eq_true rfl) q1298 rfl rfl (v := vI (0 : Int32)) rfl rfl mh1 dX5_helper_2 ?_
    refine xr_aload_n A dX5_helper_5 0 rfl rfl ?_
    revert hf; refine ab_bdI (fun v2 mv2 hf => ?_)
    refine xr_get A xc_X5 in_X5 37 (Nat.le_of_ble_eq_true rfl) q1335 rfl (ab_gIE mv2) dX5_helper_6 ?_
    refine xr_if_eq A (tgt := 31) dX5_helper_9 (by decide) (fun c9 => ?_) (fun c9 => ?_)
    · replace hf := ab_ip c9 hf
      refine xr_iconst A (v := (-1)) dX5_helper_31 (by decide) ?_
      exact xr_ireturn A rfl hf dX5_helper_32
    · replace hf := ab_in c9 hf
      refine xr_iload_n A dX5_helper_12 1 rfl rfl ?_
      refine xr_iconst A (v := 0) dX5_helper_13 (by decide) ?_
      refine xr_bipush A (v := 6) dX5_helper_14 (by decide) ?_
      revert hf; refine ab_b2I (fun v5 h4 m3 hf => ?_)
      refine xr_S A bX5_in (wX5_in D m3) q1657 q1656 (av := [vI p1, vI (0 : Int32), vI (6 : Int32)]) (rest := []) rfl dX5_helper_16 (Nat.le_of_ble_eq_true rfl) (Nat.le_of_ble_eq_true rfl) rfl (Nat.le_of_ble_eq_true rfl) ?_
      refine xr_if_eq A (tgt := 31) dX5_helper_19 (by decide) (fun c19 => ?_) (fun c19 => ?_)
      · replace hf := ab_ip c19 hf
        refine xr_iconst A (v := (-1)) dX5_helper_31 (by decide) ?_
        exact xr_ireturn A rfl hf dX5_helper_32
      · replace hf := ab_in c19 hf
        refine xr_aload_n A dX5_helper_22 0 rfl rfl ?_
        revert hf; refine ab_bdI (fun v6 mv6 hf => ?_)
        refine xr_get A xc_X5 in_X5 38 (Nat.le_of_ble_eq_true rfl) q1336 rfl (ab_gRE mv6) dX5_helper_23 ?_
        refine xr_iload_n A dX5_helper_26 1 rfl rfl ?_
        revert hf; refine ab_bdI (fun a7 e hf => ?_); subst e
        revert hf; refine ab_bdI (fun v8 mv8 hf => ?_)
        refine xr_iaload A mv8 dX5_helper_27 ?_
        refine xr_goto A (tgt := 32) dX5_helper_28 (by decide) ?_
        exact xr_ireturn A rfl hf dX5_helper_32
/-! X5_sign -/
theorem bX5_sign : MB yX5_sign cX5_sign 3 (some FieldType.int) 2 := ⟨q1958, q99, by decide, by decide +kernel⟩
noncomputable def fX5_sign (x : Nat) (p1 : Int32) (p2 : Int32) (h : Hp) : Option (Int32 × Hp) :=
  ab_ck h x 4 <|
  ab_bd (ab_pI h x 4 0 (0 : Int32)) fun h1 =>
  ab_b2 (fX5_isHouse x p1 h1) fun v4 h3 =>
  if v4 = 0 then (
    ab_b2 (fX5_refused x (1 : Int32) h3) fun v35 h34 =>
    some (v35, h34))
  else (
    ab_b2 (fX5_in p2 (0 : Int32) (99 : Int32) h3) fun v7 h6 =>
    if v7 = 0 then (
      ab_b2 (fX5_refused x (2 : Int32) h6) fun v32 h31 =>
      some (v32, h31))
    else (
      ab_bd (ab_gR h6 x 4 40) fun v8 =>
      ab_bd v8 fun a9 =>
      ab_bd (ab_aI h6 a9 0 p1) fun v10 =>
      if v10 = (10 : Int32) then (
        ab_b2 (fX5_refused x (3 : Int32) h6) fun v29 h28 =>
        some (v29, h28))
      else (
        ab_bd (ab_gR h6 x 4 41) fun v11 =>
        ab_bd (ab_gR h6 x 4 40) fun v12 =>
        ab_bd v12 fun a13 =>
        ab_bd (ab_aI h6 a13 0 p1) fun v14 =>
        ab_bd v11 fun a15 =>
        ab_bd (ab_sI h6 a15 (((10 : Int32) * p1) + v14) p2) fun h16 =>
        ab_bd (ab_gR h16 x 4 40) fun v17 =>
        ab_bd v17 fun a18 =>
        ab_bd (ab_aI h16 a18 0 p1) fun v19 =>
        ab_bd (ab_sI h16 a18 p1 (v19 + (1 : Int32))) fun h20 =>
        ab_bd (ab_gR h20 x 4 40) fun v21 =>
        ab_bd v21 fun a22 =>
        ab_bd (ab_aI h20 a22 0 p1) fun v23 =>
        ab_b2 (fX5_done x v23 h20) fun v26 h25 =>
        some (v26, h25))))
theorem wX5_sign (D : Dd) {x : Nat} {p1 : Int32} {p2 : Int32} {h : Hp} {r : Int32} {h' : Hp} (hf : fX5_sign x p1 p2 h = some (r, h')) : ab_is h x 4 ∧ Ct D 2 42 yX5_sign cX5_sign 3 (some FieldType.int) [vR (some x), vI p1, vI p2] h (.inl (some (vI r))) h' := by
    unfold fX5_sign at hf
    replace hf := ab_ckE hf; obtain ⟨i0, hf⟩ := hf
    refine ⟨i0, ?_⟩
    refine Ct.of (by decide) (L := [(0, vR (some x)), (1, vI p1), (2, vI p2)]) rfl (Nat.le_of_ble_eq_true rfl) (fun C A => ?_)
    refine xr_aload_n A dX5_sign_0 0 rfl rfl ?_
    refine xr_iconst A (v := 0) dX5_sign_1 (by decide) ?_
    revert hf; refine ab_bdI (fun h1 mh1 hf => ?_)
    refine xr_put A xc_X5 in_X5 tyX5_ok nmX5 0 (Nat.le_of_ble_eq_true rfl) q1298 rfl rfl (v := vI (0 : Int32)) rfl rfl mh1 dX5_sign_2 ?_
    refine xr_aload_n A dX5_sign_5 0 rfl rfl ?_
    refine xr_iload_n A dX5_sign_6 1 rfl rfl ?_
    revert hf; refine ab_b2I (fun v4 h3 m2 hf => ?_)
    refine xr_V A bX5_isHouse (wX5_isHouse D m2).2 xc_X5 (wX5_isHouse D m2).1 q1769 qs71 q1767 (av := [vI p1]) (rest := []) rfl dX5_sign_7 (Nat.le_of_ble_eq_true rfl) (Nat.le_of_ble_eq_true rfl) rfl (Nat.le_of_ble_eq_true rfl) ?_
    refine xr_if_ne A (tgt := 19) dX5_sign_10 (by decide) (fun c10 => ?_) (fun c10 => ?_)
    · replace hf := ab_in c10 hf
      refine xr_iload_n A dX5_sign_19 2 rfl rfl ?_
      refine xr_iconst A (v := 0) dX5_sign_20 (by decide) ?_
      refine xr_bipush A (v := 99) dX5_sign_21 (by decide) ?_
      revert hf; refine ab_b2I (fun v7 h6 m5 hf => ?_)
      refine xr_S A bX5_in (wX5_in D m5) q1657 q1656 (av := [vI p2, vI (0 : Int32), vI (99 : Int32)]) (rest := []) rfl dX5_sign_23 (Nat.le_of_ble_eq_true rfl) (Nat.le_of_ble_eq_true rfl) rfl (Nat.le_of_ble_eq_true rfl) ?_
      refine xr_if_ne A (tgt := 35) dX5_sign_26 (by decide) (fun c26 => ?_) (fun c26 => ?_)
      · replace hf := ab_in c26 hf
        refine xr_aload_n A dX5_sign_35 0 rfl rfl ?_
        revert hf; refine ab_bdI (fun v8 mv8 hf => ?_)
        refine xr_get A xc_X5 in_X5 40 (Nat.le_of_ble_eq_true rfl) q1338 rfl (ab_gRE mv8) dX5_sign_36 ?_
        refine xr_iload_n A dX5_sign_39 1 rfl rfl ?_
        revert hf; refine ab_bdI (fun a9 e hf => ?_); subst e
        revert hf; refine ab_bdI (fun v10 mv10 hf => ?_)
        refine xr_iaload A mv10 dX5_sign_40 ?_
        refine xr_bipush A (v := 10) dX5_sign_41 (by decide) ?_
        refine xr_icmp_ne A (tgt := 52) dX5_sign_43 (by decide) (fun c43 => ?_) (fun c43 => ?_)
        · replace hf := ab_in c43 hf
          refine xr_aload_n A dX5_sign_52 0 rfl rfl ?_
          revert hf; refine ab_bdI (fun v11 mv11 hf => ?_)
          refine xr_get A xc_X5 in_X5 41 (Nat.le_of_ble_eq_true rfl) q1339 rfl (ab_gRE mv11) dX5_sign_53 ?_
          refine xr_bipush A (v := 10) dX5_sign_56 (by decide) ?_
          refine xr_iload_n A dX5_sign_58 1 rfl rfl ?_
          refine xr_imul A dX5_sign_59 ?_
          refine xr_aload_n A dX5_sign_60 0 rfl rfl ?_
          revert hf; refine ab_bdI (fun v12 mv12 hf => ?_)
          refine xr_get A xc_X5 in_X5 40 (Nat.le_of_ble_eq_true rfl) q1338 rfl (ab_gRE mv12) dX5_sign_61 ?_
          refine xr_iload_n A dX5_sign_64 1 rfl rfl ?_
          revert hf; refine ab_bdI (fun a13 e hf => ?_); subst e
          revert hf; refine ab_bdI (fun v14 mv14 hf => ?_)
          refine xr_iaload A mv14 dX5_sign_65 ?_
          refine xr_iadd A dX5_sign_66 ?_
          refine xr_iload_n A dX5_sign_67 2 rfl rfl ?_
          revert hf; refine ab_bdI (fun a15 e hf => ?_); subst e
          revert hf; refine ab_bdI (fun h16 mh16 hf => ?_)
          refine xr_iastore A mh16 dX5_sign_68 ?_
          refine xr_aload_n A dX5_sign_69 0 rfl rfl ?_
          revert hf; refine ab_bdI (fun v17 mv17 hf => ?_)
          refine xr_get A xc_X5 in_X5 40 (Nat.le_of_ble_eq_true rfl) q1338 rfl (ab_gRE mv17) dX5_sign_70 ?_
          refine xr_iload_n A dX5_sign_73 1 rfl rfl ?_
          refine xr_dup2 A dX5_sign_74 rfl rfl ?_
          revert hf; refine ab_bdI (fun a18 e hf => ?_); subst e
          revert hf; refine ab_bdI (fun v19 mv19 hf => ?_)
          refine xr_iaload A mv19 dX5_sign_75 ?_
          refine xr_iconst A (v := 1) dX5_sign_76 (by decide) ?_
          refine xr_iadd A dX5_sign_77 ?_
          revert hf; refine ab_bdI (fun h20 mh20 hf => ?_)
          refine xr_iastore A mh20 dX5_sign_78 ?_
          refine xr_aload_n A dX5_sign_79 0 rfl rfl ?_
          refine xr_aload_n A dX5_sign_80 0 rfl rfl ?_
          revert hf; refine ab_bdI (fun v21 mv21 hf => ?_)
          refine xr_get A xc_X5 in_X5 40 (Nat.le_of_ble_eq_true rfl) q1338 rfl (ab_gRE mv21) dX5_sign_81 ?_
          refine xr_iload_n A dX5_sign_84 1 rfl rfl ?_
          revert hf; refine ab_bdI (fun a22 e hf => ?_); subst e
          revert hf; refine ab_bdI (fun v23 mv23 hf => ?_)
          refine xr_iaload A mv23 dX5_sign_85 ?_
          revert hf; refine ab_b2I (fun v26 h25 m24 hf => ?_)
          refine xr_V A bX5_done (wX5_done D m24).2 xc_X5 (wX5_done D m24).1 q1749 qs69 q1747 (av := [vI v23]) (rest := []) rfl dX5_sign_86 (Nat.le_of_ble_eq_true rfl) (Nat.le_of_ble_eq_true rfl) rfl (Nat.le_of_ble_eq_true rfl) ?_
          exact xr_ireturn A rfl hf dX5_sign_89
        · replace hf := ab_ip c43 hf
          refine xr_aload_n A dX5_sign_46 0 rfl rfl ?_
          refine xr_iconst A (v := 3) dX5_sign_47 (by decide) ?_
          revert hf; refine ab_b2I (fun v29 h28 m27 hf => ?_)
          refine xr_V A bX5_refused (wX5_refused D m27).2 xc_X5 (wX5_refused D m27).1 q1451 qs44 q1449 (av := [vI (3 : Int32)]) (rest := []) rfl dX5_sign_48 (Nat.le_of_ble_eq_true rfl) (Nat.le_of_ble_eq_true rfl) rfl (Nat.le_of_ble_eq_true rfl) ?_
          exact xr_ireturn A rfl hf dX5_sign_51
      · replace hf := ab_ip c26 hf
        refine xr_aload_n A dX5_sign_29 0 rfl rfl ?_
        refine xr_iconst A (v := 2) dX5_sign_30 (by decide) ?_
        revert hf; refine ab_b2I (fun v32 h31 m30 hf => ?_)
        refine xr_V A bX5_refused (wX5_refused D m30).2 xc_X5 (wX5_refused D m30).1 q1451 qs44 q1449 (av := [vI (2 : Int32)]) (rest := []) rfl dX5_sign_31 (Nat.le_of_ble_eq_true rfl) (Nat.le_of_ble_eq_true rfl) rfl (Nat.le_of_ble_eq_true rfl) ?_
        exact xr_ireturn A rfl hf dX5_sign_34
    · replace hf := ab_ip c10 hf
      refine xr_aload_n A dX5_sign_13 0 rfl rfl ?_
      refine xr_iconst A (v := 1) dX5_sign_14 (by decide) ?_
      revert hf; refine ab_b2I (fun v35 h34 m33 hf => ?_)
      refine xr_V A bX5_refused (wX5_refused D m33).2 xc_X5 (wX5_refused D m33).1 q1451 qs44 q1449 (av := [vI (1 : Int32)]) (rest := []) rfl dX5_sign_15 (Nat.le_of_ble_eq_true rfl) (Nat.le_of_ble_eq_true rfl) rfl (Nat.le_of_ble_eq_true rfl) ?_
      exact xr_ireturn A rfl hf dX5_sign_18
/-! X5_fading -/
theorem bX5_fading : MB yX5_fading cX5_fading 9 (some FieldType.int) 1 := ⟨q1962, q99, by decide, by decide +kernel⟩
noncomputable def fX5_fading_l106 (x : Nat) (K82 : Int32 → Int32 → Int32 → Int32 → Int32 → Hp → Option (Int32 × Hp)) (K94 : Int32 → Int32 → Int32 → Int32 → Int32 → Int32 → Hp → Option (Int32 × Hp)) : Nat → Int32 → Int32 → Int32 → Int32 → Int32 → Int32 → Int32 → Hp → Option (Int32 × Hp)
  | 0, _, _, _, _, _, _, _, _ => none
  | n + 1, l2, l3, l4, l5, l6, l7, l8, h =>
  if l2 ≤ l8 then (
    K94 l2 l3 l4 l5 l6 (l7 + (1 : Int32)) h)
  else (
    ab_bd (ab_gR h x 4 41) fun v1 =>
    ab_bd v1 fun a2 =>
    ab_bd (ab_aI h a2 0 (l3 + l6)) fun v3 =>
    ab_bd (ab_gR h x 4 41) fun v4 =>
    ab_bd v4 fun a5 =>
    ab_bd (ab_aI h a5 0 (l3 + l7)) fun v6 =>
    ab_bd (ab_gR h x 4 41) fun v7 =>
    ab_bd v7 fun a8 =>
    ab_bd (ab_aI h a8 0 (l3 + l8)) fun v9 =>
    if ((v3 + v6) + v9) < l4 then (
      fX5_fading_l106 x K82 K94 n l2 l3 l4 (l5 + (0 : Int32)) l6 l7 (l8 + (1 : Int32)) h)
    else (
      fX5_fading_l106 x K82 K94 n l2 l3 l4 (l5 + (1 : Int32)) l6 l7 (l8 + (1 : Int32)) h))
theorem wX5_fading_l106 {D : Dd} {C : Cx} {h0 h' : Hp} {r : Int32} (A : Act C D (h0, (.inl (some (vI r))), h') yX5_fading cX5_fading 9 (some FieldType.int) 2 41 []) {x : Nat} {K82 : Int32 → Int32 → Int32 → Int32 → Int32 → Hp → Option (Int32 × Hp)} (hK82 : ∀ {l2 : Int32} {l3 : Int32} {l4 : Int32} {l5 : Int32} {l6 : Int32} {h : Hp}, K82 l2 l3 l4 l5 l6 h = some (r, h') → X C D (h0, (.inl (some (vI r))), h') 9 82 [(0, vR (some x)), (2, vI l2), (3, vI l3), (4, vI l4), (5, vI l5), (6, vI l6)] [] h) {K94 : Int32 → Int32 → Int32 → Int32 → Int32 → Int32 → Hp → Option (Int32 × Hp)} (hK94 : ∀ {l2 : Int32} {l3 : Int32} {l4 : Int32} {l5 : Int32} {l6 : Int32} {l7 : Int32} {h : Hp}, K94 l2 l3 l4 l5 l6 l7 h = some (r, h') → X C D (h0, (.inl (some (vI r))), h') 9 94 [(0, vR (some x)), (2, vI l2), (3, vI l3), (4, vI l4), (5, vI l5), (6, vI l6), (7, vI l7)] [] h) : ∀ (n : Nat) {l2 : Int32} {l3 : Int32} {l4 : Int32} {l5 : Int32} {l6 : Int32} {l7 : Int32} {l8 : Int32} {h : Hp}, fX5_fading_l106 x K82 K94 n l2 l3 l4 l5 l6 l7 l8 h = some (r, h') → X C D (h0, (.inl (some (vI r))), h') 9 106 [(0, vR (some x)), (2, vI l2), (3, vI l3), (4, vI l4), (5, vI l5), (6, vI l6), (7, vI l7), (8, vI l8)] [] h := by
  intro n
  induction n with
  | zero => intro l2 l3 l4 l5 l6 l7 l8 h hf; exact ab_no hf
  | succ n ih =>
    intro l2 l3 l4 l5 l6 l7 l8 h hf
    unfold fX5_fading_l106 at hf
    refine xr_iload A dX5_fading_106 7 rfl ?_
    refine xr_iload_n A dX5_fading_108 1 rfl rfl ?_
    refine xr_icmp_ge A (tgt := 162) dX5_fading_109 (by decide) (fun c109 => ?_) (fun c109 => ?_)
    · replace hf := ab_ip c109 hf
      refine xr_iinc A dX5_fading_162 6 rfl (v := (l7 + (1 : Int32))) rfl (Nat.le_of_ble_eq_true rfl) (L' := [(7, vI (l7 + (1 : Int32))), (0, vR (some x)), (2, vI l2), (3, vI l3), (4, vI l4), (5, vI l5), (6, vI l6), (8, vI l8)]) rfl ?_
      refine xr_goto A (tgt := 94) dX5_fading_165 (by decide) ?_
      refine X.sub [1, 2, 3, 4, 5, 6, 0] rfl ?_
      exact hK94 hf
    · replace hf := ab_in c109 hf
      refine xr_iload A dX5_fading_112 4 rfl ?_
      refine xr_aload_n A dX5_fading_114 0 rfl rfl ?_
      revert hf; refine ab_bdI (fun v1 mv1 hf => ?_)
      refine xr_get A xc_X5 in_X5 41 (Nat.le_of_ble_eq_true rfl) q1339 rfl (ab_gRE mv1) dX5_fading_115 ?_
      refine xr_iload_n A dX5_fading_118 2 rfl rfl ?_
      refine xr_iload A dX5_fading_119 5 rfl ?_
      refine xr_iadd A dX5_fading_121 ?_
      revert hf; refine ab_bdI (fun a2 e hf => ?_); subst e
      revert hf; refine ab_bdI (fun v3 mv3 hf => ?_)
      refine xr_iaload A mv3 dX5_fading_122 ?_
      refine xr_aload_n A dX5_fading_123 0 rfl rfl ?_
      revert hf; refine ab_bdI (fun v4 mv4 hf => ?_)
      refine xr_get A xc_X5 in_X5 41 (Nat.le_of_ble_eq_true rfl) q1339 rfl (ab_gRE mv4) dX5_fading_124 ?_
      refine xr_iload_n A dX5_fading_127 2 rfl rfl ?_
      refine xr_iload A dX5_fading_128 6 rfl ?_
      refine xr_iadd A dX5_fading_130 ?_
      revert hf; refine ab_bdI (fun a5 e hf => ?_); subst e
      revert hf; refine ab_bdI (fun v6 mv6 hf => ?_)
      refine xr_iaload A mv6 dX5_fading_131 ?_
      refine xr_iadd A dX5_fading_132 ?_
      refine xr_aload_n A dX5_fading_133 0 rfl rfl ?_
      revert hf; refine ab_bdI (fun v7 mv7 hf => ?_)
      refine xr_get A xc_X5 in_X5 41 (Nat.le_of_ble_eq_true rfl) q1339 rfl (ab_gRE mv7) dX5_fading_134 ?_
      refine xr_iload_n A dX5_fading_137 2 rfl rfl ?_
      refine xr_iload A dX5_fading_138 7 rfl ?_
      refine xr_iadd A dX5_fading_140 ?_
      revert hf; refine ab_bdI (fun a8 e hf => ?_); subst e
      revert hf; refine ab_bdI (fun v9 mv9 hf => ?_)
      refine xr_iaload A mv9 dX5_fading_141 ?_
      refine xr_iadd A dX5_fading_142 ?_
      refine xr_iload A dX5_fading_143 3 rfl ?_
      refine xr_icmp_lt A (tgt := 152) dX5_fading_145 (by decide) (fun c145 => ?_) (fun c145 => ?_)
      · replace hf := ab_ip c145 hf
        refine xr_iconst A (v := 0) dX5_fading_152 (by decide) ?_
        refine xr_iadd A dX5_fading_153 ?_
        refine xr_istore A dX5_fading_154 (Nat.le_of_ble_eq_true rfl) (L' := [(5, vI (l5 + (0 : Int32))), (0, vR (some x)), (2, vI l2), (3, vI l3), (4, vI l4), (6, vI l6), (7, vI l7), (8, vI l8)]) rfl ?_
        refine xr_iinc A dX5_fading_156 7 rfl (v := (l8 + (1 : Int32))) rfl (Nat.le_of_ble_eq_true rfl) (L' := [(8, vI (l8 + (1 : Int32))), (5, vI (l5 + (0 : Int32))), (0, vR (some x)), (2, vI l2), (3, vI l3), (4, vI l4), (6, vI l6), (7, vI l7)]) rfl ?_
        refine xr_goto A (tgt := 106) dX5_fading_159 (by decide) ?_
        refine X.sub [2, 3, 4, 5, 1, 6, 7, 0] rfl ?_
        exact ih hf
      · replace hf := ab_in c145 hf
        refine xr_iconst A (v := 1) dX5_fading_148 (by decide) ?_
        refine xr_goto A (tgt := 153) dX5_fading_149 (by decide) ?_
        refine xr_iadd A dX5_fading_153 ?_
        refine xr_istore A dX5_fading_154 (Nat.le_of_ble_eq_true rfl) (L' := [(5, vI (l5 + (1 : Int32))), (0, vR (some x)), (2, vI l2), (3, vI l3), (4, vI l4), (6, vI l6), (7, vI l7), (8, vI l8)]) rfl ?_
        refine xr_iinc A dX5_fading_156 7 rfl (v := (l8 + (1 : Int32))) rfl (Nat.le_of_ble_eq_true rfl) (L' := [(8, vI (l8 + (1 : Int32))), (5, vI (l5 + (1 : Int32))), (0, vR (some x)), (2, vI l2), (3, vI l3), (4, vI l4), (6, vI l6), (7, vI l7)]) rfl ?_
        refine xr_goto A (tgt := 106) dX5_fading_159 (by decide) ?_
        refine X.sub [2, 3, 4, 5, 1, 6, 7, 0] rfl ?_
        exact ih hf
noncomputable def fX5_fading_l94 (x : Nat) (K82 : Int32 → Int32 → Int32 → Int32 → Int32 → Hp → Option (Int32 × Hp)) : Nat → Int32 → Int32 → Int32 → Int32 → Int32 → Int32 → Hp → Option (Int32 × Hp)
  | 0, _, _, _, _, _, _, _ => none
  | n + 1, l2, l3, l4, l5, l6, l7, h =>
  if l2 ≤ l7 then (
    K82 l2 l3 l4 l5 (l6 + (1 : Int32)) h)
  else (
    fX5_fading_l106 x K82 (fX5_fading_l94 x K82 n) (hfu h) l2 l3 l4 l5 l6 l7 (l7 + (1 : Int32)) h)
theorem wX5_fading_l94 {D : Dd} {C : Cx} {h0 h' : Hp} {r : Int32} (A : Act C D (h0, (.inl (some (vI r))), h') yX5_fading cX5_fading 9 (some FieldType.int) 2 41 []) {x : Nat} {K82 : Int32 → Int32 → Int32 → Int32 → Int32 → Hp → Option (Int32 × Hp)} (hK82 : ∀ {l2 : Int32} {l3 : Int32} {l4 : Int32} {l5 : Int32} {l6 : Int32} {h : Hp}, K82 l2 l3 l4 l5 l6 h = some (r, h') → X C D (h0, (.inl (some (vI r))), h') 9 82 [(0, vR (some x)), (2, vI l2), (3, vI l3), (4, vI l4), (5, vI l5), (6, vI l6)] [] h) : ∀ (n : Nat) {l2 : Int32} {l3 : Int32} {l4 : Int32} {l5 : Int32} {l6 : Int32} {l7 : Int32} {h : Hp}, fX5_fading_l94 x K82 n l2 l3 l4 l5 l6 l7 h = some (r, h') → X C D (h0, (.inl (some (vI r))), h') 9 94 [(0, vR (some x)), (2, vI l2), (3, vI l3), (4, vI l4), (5, vI l5), (6, vI l6), (7, vI l7)] [] h := by
  intro n
  induction n with
  | zero => intro l2 l3 l4 l5 l6 l7 h hf; exact ab_no hf
  | succ n ih =>
    intro l2 l3 l4 l5 l6 l7 h hf
    unfold fX5_fading_l94 at hf
    refine xr_iload A dX5_fading_94 6 rfl ?_
    refine xr_iload_n A dX5_fading_96 1 rfl rfl ?_
    refine xr_icmp_ge A (tgt := 168) dX5_fading_97 (by decide) (fun c97 => ?_) (fun c97 => ?_)
    · replace hf := ab_ip c97 hf
      refine xr_iinc A dX5_fading_168 5 rfl (v := (l6 + (1 : Int32))) rfl (Nat.le_of_ble_eq_true rfl) (L' := [(6, vI (l6 + (1 : Int32))), (0, vR (some x)), (2, vI l2), (3, vI l3), (4, vI l4), (5, vI l5), (7, vI l7)]) rfl ?_
      refine xr_goto A (tgt := 82) dX5_fading_171 (by decide) ?_
      refine X.sub [1, 2, 3, 4, 5, 0] rfl ?_
      exact hK82 hf
    · replace hf := ab_in c97 hf
      refine xr_iload A dX5_fading_100 6 rfl ?_
      refine xr_iconst A (v := 1) dX5_fading_102 (by decide) ?_
      refine xr_iadd A dX5_fading_103 ?_
      refine xr_istore A dX5_fading_104 (Nat.le_of_ble_eq_true rfl) (L' := [(8, vI (l7 + (1 : Int32))), (0, vR (some x)), (2, vI l2), (3, vI l3), (4, vI l4), (5, vI l5), (6, vI l6), (7, vI l7)]) rfl ?_
      refine X.sub [1, 2, 3, 4, 5, 6, 7, 0] rfl ?_
      exact wX5_fading_l106 A @hK82 (fun hf => ih hf) _ hf
noncomputable def fX5_fading_l82 (x : Nat) : Nat → Int32 → Int32 → Int32 → Int32 → Int32 → Hp → Option (Int32 × Hp)
  | 0, _, _, _, _, _, _ => none
  | n + 1, l2, l3, l4, l5, l6, h =>
  if l2 ≤ l6 then (
    ab_b2 (fX5_done x l5 h) fun v3 h2 =>
    some (v3, h2))
  else (
    fX5_fading_l94 x (fX5_fading_l82 x n) (hfu h) l2 l3 l4 l5 l6 (l6 + (1 : Int32)) h)
theorem wX5_fading_l82 {D : Dd} {C : Cx} {h0 h' : Hp} {r : Int32} (A : Act C D (h0, (.inl (some (vI r))), h') yX5_fading cX5_fading 9 (some FieldType.int) 2 41 []) {x : Nat} : ∀ (n : Nat) {l2 : Int32} {l3 : Int32} {l4 : Int32} {l5 : Int32} {l6 : Int32} {h : Hp}, fX5_fading_l82 x n l2 l3 l4 l5 l6 h = some (r, h') → X C D (h0, (.inl (some (vI r))), h') 9 82 [(0, vR (some x)), (2, vI l2), (3, vI l3), (4, vI l4), (5, vI l5), (6, vI l6)] [] h := by
  intro n
  induction n with
  | zero => intro l2 l3 l4 l5 l6 h hf; exact ab_no hf
  | succ n ih =>
    intro l2 l3 l4 l5 l6 h hf
    unfold fX5_fading_l82 at hf
    refine xr_iload A dX5_fading_82 5 rfl ?_
    refine xr_iload_n A dX5_fading_84 1 rfl rfl ?_
    refine xr_icmp_ge A (tgt := 174) dX5_fading_85 (by decide) (fun c85 => ?_) (fun c85 => ?_)
    · replace hf := ab_ip c85 hf
      refine xr_aload_n A dX5_fading_174 0 rfl rfl ?_
      refine xr_iload A dX5_fading_175 4 rfl ?_
      revert hf; refine ab_b2I (fun v3 h2 m1 hf => ?_)
      refine xr_V A bX5_done (wX5_done D m1).2 xc_X5 (wX5_done D m1).1 q1749 qs69 q1747 (av := [vI l5]) (rest := []) rfl dX5_fading_177 (Nat.le_of_ble_eq_true rfl) (Nat.le_of_ble_eq_true rfl) rfl (Nat.le_of_ble_eq_true rfl) ?_
      exact xr_ireturn A rfl hf dX5_fading_180
    · replace hf := ab_in c85 hf
      refine xr_iload A dX5_fading_88 5 rfl ?_
      refine xr_iconst A (v := 1) dX5_fading_90 (by decide) ?_
      refine xr_iadd A dX5_fading_91 ?_
      refine xr_istore A dX5_fading_92 (Nat.le_of_ble_eq_true rfl) (L' := [(7, vI (l6 + (1 : Int32))), (0, vR (some x)), (2, vI l2), (3, vI l3), (4, vI l4), (5, vI l5), (6, vI l6)]) rfl ?_
      refine X.sub [1, 2, 3, 4, 5, 6, 0] rfl ?_
      exact wX5_fading_l94 A (fun hf => ih hf) _ hf
noncomputable def fX5_fading (x : Nat) (p1 : Int32) (h : Hp) : Option (Int32 × Hp) :=
  ab_ck h x 4 <|
  ab_bd (ab_pI h x 4 0 (0 : Int32)) fun h1 =>
  ab_b2 (fX5_isHouse x p1 h1) fun v4 h3 =>
  if v4 = 0 then (
    ab_b2 (fX5_refused x (1 : Int32) h3) fun v22 h21 =>
    some (v22, h21))
  else (
    ab_bd (ab_gR h3 x 4 40) fun v5 =>
    ab_bd v5 fun a6 =>
    ab_bd (ab_aI h3 a6 0 p1) fun v7 =>
    if (4 : Int32) ≤ v7 then (
      ab_bd (ab_gR h3 x 4 41) fun v8 =>
      ab_bd v8 fun a9 =>
      ab_bd (ab_aI h3 a9 0 ((((10 : Int32) * p1) + v7) - (1 : Int32))) fun v10 =>
      ab_bd (ab_gR h3 x 4 41) fun v11 =>
      ab_bd v11 fun a12 =>
      ab_bd (ab_aI h3 a12 0 ((((10 : Int32) * p1) + v7) - (2 : Int32))) fun v13 =>
      ab_bd (ab_gR h3 x 4 41) fun v14 =>
      ab_bd v14 fun a15 =>
      ab_bd (ab_aI h3 a15 0 ((((10 : Int32) * p1) + v7) - (3 : Int32))) fun v16 =>
      fX5_fading_l82 x (hfu h3) v7 ((10 : Int32) * p1) ((v10 + v13) + v16) (0 : Int32) (0 : Int32) h3)
    else (
      ab_b2 (fX5_refused x (5 : Int32) h3) fun v19 h18 =>
      some (v19, h18)))
theorem wX5_fading (D : Dd) {x : Nat} {p1 : Int32} {h : Hp} {r : Int32} {h' : Hp} (hf : fX5_fading x p1 h = some (r, h')) : ab_is h x 4 ∧ Ct D 2 41 yX5_fading cX5_fading 9 (some FieldType.int) [vR (some x), vI p1] h (.inl (some (vI r))) h' := by
    unfold fX5_fading at hf
    replace hf := ab_ckE hf; obtain ⟨i0, hf⟩ := hf
    refine ⟨i0, ?_⟩
    refine Ct.of (by decide) (L := [(0, vR (some x)), (1, vI p1)]) rfl (Nat.le_of_ble_eq_true rfl) (fun C A => ?_)
    refine xr_aload_n A dX5_fading_0 0 rfl rfl ?_
    refine xr_iconst A (v := 0) dX5_fading_1 (by decide) ?_
    revert hf; refine ab_bdI (fun h1 mh1 hf => ?_)
    refine xr_put A xc_X5 in_X5 tyX5_ok nmX5 0 (Nat.le_of_ble_eq_true rfl) q1298 rfl rfl (v := vI (0 : Int32)) rfl rfl mh1 dX5_fading_2 ?_
    refine xr_aload_n A dX5_fading_5 0 rfl rfl ?_
    refine xr_iload_n A dX5_fading_6 1 rfl rfl ?_
    revert hf; refine ab_b2I (fun v4 h3 m2 hf => ?_)
    refine xr_V A bX5_isHouse (wX5_isHouse D m2).2 xc_X5 (wX5_isHouse D m2).1 q1769 qs71 q1767 (av := [vI p1]) (rest := []) rfl dX5_fading_7 (Nat.le_of_ble_eq_true rfl) (Nat.le_of_ble_eq_true rfl) rfl (Nat.le_of_ble_eq_true rfl) ?_
    refine xr_if_ne A (tgt := 19) dX5_fading_10 (by decide) (fun c10 => ?_) (fun c10 => ?_)
    · replace hf := ab_in c10 hf
      refine xr_aload_n A dX5_fading_19 0 rfl rfl ?_
      revert hf; refine ab_bdI (fun v5 mv5 hf => ?_)
      refine xr_get A xc_X5 in_X5 40 (Nat.le_of_ble_eq_true rfl) q1338 rfl (ab_gRE mv5) dX5_fading_20 ?_
      refine xr_iload_n A dX5_fading_23 1 rfl rfl ?_
      revert hf; refine ab_bdI (fun a6 e hf => ?_); subst e
      revert hf; refine ab_bdI (fun v7 mv7 hf => ?_)
      refine xr_iaload A mv7 dX5_fading_24 ?_
      refine xr_istore_n A dX5_fading_25 rfl (Nat.le_of_ble_eq_true rfl) (L' := [(2, vI v7), (0, vR (some x)), (1, vI p1)]) rfl ?_
      refine xr_iload_n A dX5_fading_26 0 rfl rfl ?_
      refine xr_iconst A (v := 4) dX5_fading_27 (by decide) ?_
      refine xr_icmp_ge A (tgt := 37) dX5_fading_28 (by decide) (fun c28 => ?_) (fun c28 => ?_)
      · replace hf := ab_ip c28 hf
        refine xr_bipush A (v := 10) dX5_fading_37 (by decide) ?_
        refine xr_iload_n A dX5_fading_39 2 rfl rfl ?_
        refine xr_imul A dX5_fading_40 ?_
        refine xr_istore_n A dX5_fading_41 rfl (Nat.le_of_ble_eq_true rfl) (L' := [(3, vI ((10 : Int32) * p1)), (2, vI v7), (0, vR (some x)), (1, vI p1)]) rfl ?_
        refine xr_aload_n A dX5_fading_42 2 rfl rfl ?_
        revert hf; refine ab_bdI (fun v8 mv8 hf => ?_)
        refine xr_get A xc_X5 in_X5 41 (Nat.le_of_ble_eq_true rfl) q1339 rfl (ab_gRE mv8) dX5_fading_43 ?_
        refine xr_iload_n A dX5_fading_46 0 rfl rfl ?_
        refine xr_iload_n A dX5_fading_47 1 rfl rfl ?_
        refine xr_iadd A dX5_fading_48 ?_
        refine xr_iconst A (v := 1) dX5_fading_49 (by decide) ?_
        refine xr_isub A dX5_fading_50 ?_
        revert hf; refine ab_bdI (fun a9 e hf => ?_); subst e
        revert hf; refine ab_bdI (fun v10 mv10 hf => ?_)
        refine xr_iaload A mv10 dX5_fading_51 ?_
        refine xr_aload_n A dX5_fading_52 2 rfl rfl ?_
        revert hf; refine ab_bdI (fun v11 mv11 hf => ?_)
        refine xr_get A xc_X5 in_X5 41 (Nat.le_of_ble_eq_true rfl) q1339 rfl (ab_gRE mv11) dX5_fading_53 ?_
        refine xr_iload_n A dX5_fading_56 0 rfl rfl ?_
        refine xr_iload_n A dX5_fading_57 1 rfl rfl ?_
        refine xr_iadd A dX5_fading_58 ?_
        refine xr_iconst A (v := 2) dX5_fading_59 (by decide) ?_
        refine xr_isub A dX5_fading_60 ?_
        revert hf; refine ab_bdI (fun a12 e hf => ?_); subst e
        revert hf; refine ab_bdI (fun v13 mv13 hf => ?_)
        refine xr_iaload A mv13 dX5_fading_61 ?_
        refine xr_iadd A dX5_fading_62 ?_
        refine xr_aload_n A dX5_fading_63 2 rfl rfl ?_
        revert hf; refine ab_bdI (fun v14 mv14 hf => ?_)
        refine xr_get A xc_X5 in_X5 41 (Nat.le_of_ble_eq_true rfl) q1339 rfl (ab_gRE mv14) dX5_fading_64 ?_
        refine xr_iload_n A dX5_fading_67 0 rfl rfl ?_
        refine xr_iload_n A dX5_fading_68 1 rfl rfl ?_
        refine xr_iadd A dX5_fading_69 ?_
        refine xr_iconst A (v := 3) dX5_fading_70 (by decide) ?_
        refine xr_isub A dX5_fading_71 ?_
        revert hf; refine ab_bdI (fun a15 e hf => ?_); subst e
        revert hf; refine ab_bdI (fun v16 mv16 hf => ?_)
        refine xr_iaload A mv16 dX5_fading_72 ?_
        refine xr_iadd A dX5_fading_73 ?_
        refine xr_istore A dX5_fading_74 (Nat.le_of_ble_eq_true rfl) (L' := [(4, vI ((v10 + v13) + v16)), (3, vI ((10 : Int32) * p1)), (2, vI v7), (0, vR (some x)), (1, vI p1)]) rfl ?_
        refine xr_iconst A (v := 0) dX5_fading_76 (by decide) ?_
        refine xr_istore A dX5_fading_77 (Nat.le_of_ble_eq_true rfl) (L' := [(5, vI (0 : Int32)), (4, vI ((v10 + v13) + v16)), (3, vI ((10 : Int32) * p1)), (2, vI v7), (0, vR (some x)), (1, vI p1)]) rfl ?_
        refine xr_iconst A (v := 0) dX5_fading_79 (by decide) ?_
        refine xr_istore A dX5_fading_80 (Nat.le_of_ble_eq_true rfl) (L' := [(6, vI (0 : Int32)), (5, vI (0 : Int32)), (4, vI ((v10 + v13) + v16)), (3, vI ((10 : Int32) * p1)), (2, vI v7), (0, vR (some x)), (1, vI p1)]) rfl ?_
        refine X.sub [5, 4, 3, 2, 1, 0] rfl ?_
        exact wX5_fading_l82 A _ hf
      · replace hf := ab_in c28 hf
        refine xr_aload_n A dX5_fading_31 1 rfl rfl ?_
        refine xr_iconst A (v := 5) dX5_fading_32 (by decide) ?_
        revert hf; refine ab_b2I (fun v19 h18 m17 hf => ?_)
        refine xr_V A bX5_refused (wX5_refused D m17).2 xc_X5 (wX5_refused D m17).1 q1451 qs44 q1449 (av := [vI (5 : Int32)]) (rest := []) rfl dX5_fading_33 (Nat.le_of_ble_eq_true rfl) (Nat.le_of_ble_eq_true rfl) rfl (Nat.le_of_ble_eq_true rfl) ?_
        exact xr_ireturn A rfl hf dX5_fading_36
    · replace hf := ab_ip c10 hf
      refine xr_aload_n A dX5_fading_13 0 rfl rfl ?_
      refine xr_iconst A (v := 1) dX5_fading_14 (by decide) ?_
      revert hf; refine ab_b2I (fun v22 h21 m20 hf => ?_)
      refine xr_V A bX5_refused (wX5_refused D m20).2 xc_X5 (wX5_refused D m20).1 q1451 qs44 q1449 (av := [vI (1 : Int32)]) (rest := []) rfl dX5_fading_15 (Nat.le_of_ble_eq_true rfl) (Nat.le_of_ble_eq_true rfl) rfl (Nat.le_of_ble_eq_true rfl) ?_
      exact xr_ireturn A rfl hf dX5_fading_18
/-! X5_probe -/
theorem bX5_probe : MB yX5_probe cX5_probe 4 (some FieldType.int) 3 := ⟨q1966, q99, by decide, by decide +kernel⟩
noncomputable def fX5_probe (x : Nat) (p1 : Int32) (p2 : Int32) (p3 : Int32) (h : Hp) : Option (Int32 × Hp) :=
  ab_ck h x 4 <|
  ab_bd (ab_pI h x 4 0 (0 : Int32)) fun h1 =>
  ab_b2 (fX5_isCar x p1 h1) fun v4 h3 =>
  if v4 = 0 then (
    ab_b2 (fX5_refused x (1 : Int32) h3) fun v46 h45 =>
    some (v46, h45))
  else (
    ab_bd (ab_gR h3 x 4 3) fun v5 =>
    ab_bd v5 fun a6 =>
    ab_bd (ab_gR h3 a6 13 27) fun v7 =>
    ab_bd v7 fun a8 =>
    ab_bd (ab_aI h3 a8 0 p1) fun v9 =>
    ab_b2 (fX5_in p2 v9 (999 : Int32) h3) fun v12 h11 =>
    if v12 = 0 then (
      ab_b2 (fX5_refused x (2 : Int32) h11) fun v15 h14 =>
      some (v15, h14))
    else (
      ab_b2 (fX5_in p3 (0 : Int32) (99 : Int32) h11) fun v18 h17 =>
      if v18 = 0 then (
        ab_b2 (fX5_refused x (2 : Int32) h17) fun v43 h42 =>
        some (v43, h42))
      else (
        ab_bd (ab_gI h17 x 4 42) fun v19 =>
        if v19 = (16 : Int32) then (
          ab_b2 (fX5_refused x (3 : Int32) h17) fun v40 h39 =>
          some (v40, h39))
        else (
          ab_bd (ab_gR h17 x 4 43) fun v20 =>
          ab_bd (ab_gI h17 x 4 42) fun v21 =>
          ab_bd v20 fun a22 =>
          ab_bd (ab_sI h17 a22 v21 p1) fun h23 =>
          ab_bd (ab_gR h23 x 4 44) fun v24 =>
          ab_bd (ab_gI h23 x 4 42) fun v25 =>
          ab_bd v24 fun a26 =>
          ab_bd (ab_sI h23 a26 v25 p2) fun h27 =>
          ab_bd (ab_gR h27 x 4 45) fun v28 =>
          ab_bd (ab_gI h27 x 4 42) fun v29 =>
          ab_bd v28 fun a30 =>
          ab_bd (ab_sI h27 a30 v29 p3) fun h31 =>
          ab_bd (ab_gI h31 x 4 42) fun v32 =>
          ab_bd (ab_pI h31 x 4 42 (v32 + (1 : Int32))) fun h33 =>
          ab_bd (ab_gI h33 x 4 42) fun v34 =>
          ab_b2 (fX5_done x v34 h33) fun v37 h36 =>
          some (v37, h36)))))
theorem wX5_probe (D : Dd) {x : Nat} {p1 : Int32} {p2 : Int32} {p3 : Int32} {h : Hp} {r : Int32} {h' : Hp} (hf : fX5_probe x p1 p2 p3 h = some (r, h')) : ab_is h x 4 ∧ Ct D 2 42 yX5_probe cX5_probe 4 (some FieldType.int) [vR (some x), vI p1, vI p2, vI p3] h (.inl (some (vI r))) h' := by
    unfold fX5_probe at hf
    replace hf := ab_ckE hf; obtain ⟨i0, hf⟩ := hf
    refine ⟨i0, ?_⟩
    refine Ct.of (by decide) (L := [(0, vR (some x)), (1, vI p1), (2, vI p2), (3, vI p3)]) rfl (Nat.le_of_ble_eq_true rfl) (fun C A => ?_)
    refine xr_aload_n A dX5_probe_0 0 rfl rfl ?_
    refine xr_iconst A (v := 0) dX5_probe_1 (by decide) ?_
    revert hf; refine ab_bdI (fun h1 mh1 hf => ?_)
    refine xr_put A xc_X5 in_X5 tyX5_ok nmX5 0 (Nat.le_of_ble_eq_true rfl) q1298 rfl rfl (v := vI (0 : Int32)) rfl rfl mh1 dX5_probe_2 ?_
    refine xr_aload_n A dX5_probe_5 0 rfl rfl ?_
    refine xr_iload_n A dX5_probe_6 1 rfl rfl ?_
    revert hf; refine ab_b2I (fun v4 h3 m2 hf => ?_)
    refine xr_V A bX5_isCar (wX5_isCar D m2).2 xc_X5 (wX5_isCar D m2).1 q1765 qs70 q1763 (av := [vI p1]) (rest := []) rfl dX5_probe_7 (Nat.le_of_ble_eq_true rfl) (Nat.le_of_ble_eq_true rfl) rfl (Nat.le_of_ble_eq_true rfl) ?_
    refine xr_if_ne A (tgt := 19) dX5_probe_10 (by decide) (fun c10 => ?_) (fun c10 => ?_)
    · replace hf := ab_in c10 hf
      refine xr_iload_n A dX5_probe_19 2 rfl rfl ?_
      refine xr_aload_n A dX5_probe_20 0 rfl rfl ?_
      revert hf; refine ab_bdI (fun v5 mv5 hf => ?_)
      refine xr_get A xc_X5 in_X5 3 (Nat.le_of_ble_eq_true rfl) q1301 rfl (ab_gRE mv5) dX5_probe_21 ?_
      revert hf; refine ab_bdI (fun a6 e hf => ?_); subst e
      revert hf; refine ab_bdI (fun v7 mv7 hf => ?_)
      refine xr_getN A xc_X15 in_X15 27 (Nat.le_of_ble_eq_true rfl) n1506 rfl (ab_gRE mv7) dX5_probe_24 ?_
      refine xr_iload_n A dX5_probe_27 1 rfl rfl ?_
      revert hf; refine ab_bdI (fun a8 e hf => ?_); subst e
      revert hf; refine ab_bdI (fun v9 mv9 hf => ?_)
      refine xr_iaload A mv9 dX5_probe_28 ?_
      refine xr_sipush A (v := 999) dX5_probe_29 (by decide) ?_
      revert hf; refine ab_b2I (fun v12 h11 m10 hf => ?_)
      refine xr_S A bX5_in (wX5_in D m10) q1657 q1656 (av := [vI p2, vI v9, vI (999 : Int32)]) (rest := []) rfl dX5_probe_32 (Nat.le_of_ble_eq_true rfl) (Nat.le_of_ble_eq_true rfl) rfl (Nat.le_of_ble_eq_true rfl) ?_
      refine xr_if_eq A (tgt := 48) dX5_probe_35 (by decide) (fun c35 => ?_) (fun c35 => ?_)
      · replace hf := ab_ip c35 hf
        refine xr_aload_n A dX5_probe_48 0 rfl rfl ?_
        refine xr_iconst A (v := 2) dX5_probe_49 (by decide) ?_
        revert hf; refine ab_b2I (fun v15 h14 m13 hf => ?_)
        refine xr_V A bX5_refused (wX5_refused D m13).2 xc_X5 (wX5_refused D m13).1 q1451 qs44 q1449 (av := [vI (2 : Int32)]) (rest := []) rfl dX5_probe_50 (Nat.le_of_ble_eq_true rfl) (Nat.le_of_ble_eq_true rfl) rfl (Nat.le_of_ble_eq_true rfl) ?_
        exact xr_ireturn A rfl hf dX5_probe_53
      · replace hf := ab_in c35 hf
        refine xr_iload_n A dX5_probe_38 3 rfl rfl ?_
        refine xr_iconst A (v := 0) dX5_probe_39 (by decide) ?_
        refine xr_bipush A (v := 99) dX5_probe_40 (by decide) ?_
        revert hf; refine ab_b2I (fun v18 h17 m16 hf => ?_)
        refine xr_S A bX5_in (wX5_in D m16) q1657 q1656 (av := [vI p3, vI (0 : Int32), vI (99 : Int32)]) (rest := []) rfl dX5_probe_42 (Nat.le_of_ble_eq_true rfl) (Nat.le_of_ble_eq_true rfl) rfl (Nat.le_of_ble_eq_true rfl) ?_
        refine xr_if_ne A (tgt := 54) dX5_probe_45 (by decide) (fun c45 => ?_) (fun c45 => ?_)
        · replace hf := ab_in c45 hf
          refine xr_aload_n A dX5_probe_54 0 rfl rfl ?_
          revert hf; refine ab_bdI (fun v19 mv19 hf => ?_)
          refine xr_get A xc_X5 in_X5 42 (Nat.le_of_ble_eq_true rfl) q1340 rfl (ab_gIE mv19) dX5_probe_55 ?_
          refine xr_bipush A (v := 16) dX5_probe_58 (by decide) ?_
          refine xr_icmp_ne A (tgt := 69) dX5_probe_60 (by decide) (fun c60 => ?_) (fun c60 => ?_)
          · replace hf := ab_in c60 hf
            refine xr_aload_n A dX5_probe_69 0 rfl rfl ?_
            revert hf; refine ab_bdI (fun v20 mv20 hf => ?_)
            refine xr_get A xc_X5 in_X5 43 (Nat.le_of_ble_eq_true rfl) q1341 rfl (ab_gRE mv20) dX5_probe_70 ?_
            refine xr_aload_n A dX5_probe_73 0 rfl rfl ?_
            revert hf; refine ab_bdI (fun v21 mv21 hf => ?_)
            refine xr_get A xc_X5 in_X5 42 (Nat.le_of_ble_eq_true rfl) q1340 rfl (ab_gIE mv21) dX5_probe_74 ?_
            refine xr_iload_n A dX5_probe_77 1 rfl rfl ?_
            revert hf; refine ab_bdI (fun a22 e hf => ?_); subst e
            revert hf; refine ab_bdI (fun h23 mh23 hf => ?_)
            refine xr_iastore A mh23 dX5_probe_78 ?_
            refine xr_aload_n A dX5_probe_79 0 rfl rfl ?_
            revert hf; refine ab_bdI (fun v24 mv24 hf => ?_)
            refine xr_get A xc_X5 in_X5 44 (Nat.le_of_ble_eq_true rfl) q1342 rfl (ab_gRE mv24) dX5_probe_80 ?_
            refine xr_aload_n A dX5_probe_83 0 rfl rfl ?_
            revert hf; refine ab_bdI (fun v25 mv25 hf => ?_)
            refine xr_get A xc_X5 in_X5 42 (Nat.le_of_ble_eq_true rfl) q1340 rfl (ab_gIE mv25) dX5_probe_84 ?_
            refine xr_iload_n A dX5_probe_87 2 rfl rfl ?_
            revert hf; refine ab_bdI (fun a26 e hf => ?_); subst e
            revert hf; refine ab_bdI (fun h27 mh27 hf => ?_)
            refine xr_iastore A mh27 dX5_probe_88 ?_
            refine xr_aload_n A dX5_probe_89 0 rfl rfl ?_
            revert hf; refine ab_bdI (fun v28 mv28 hf => ?_)
            refine xr_get A xc_X5 in_X5 45 (Nat.le_of_ble_eq_true rfl) q1343 rfl (ab_gRE mv28) dX5_probe_90 ?_
            refine xr_aload_n A dX5_probe_93 0 rfl rfl ?_
            revert hf; refine ab_bdI (fun v29 mv29 hf => ?_)
            refine xr_get A xc_X5 in_X5 42 (Nat.le_of_ble_eq_true rfl) q1340 rfl (ab_gIE mv29) dX5_probe_94 ?_
            refine xr_iload_n A dX5_probe_97 3 rfl rfl ?_
            revert hf; refine ab_bdI (fun a30 e hf => ?_); subst e
            revert hf; refine ab_bdI (fun h31 mh31 hf => ?_)
            refine xr_iastore A mh31 dX5_probe_98 ?_
            refine xr_aload_n A dX5_probe_99 0 rfl rfl ?_
            refine xr_dup A dX5_probe_100 rfl ?_
            revert hf; refine ab_bdI (fun v32 mv32 hf => ?_)
            refine xr_get A xc_X5 in_X5 42 (Nat.le_of_ble_eq_true rfl) q1340 rfl (ab_gIE mv32) dX5_probe_101 ?_
            refine xr_iconst A (v := 1) dX5_probe_104 (by decide) ?_
            refine xr_iadd A dX5_probe_105 ?_
            revert hf; refine ab_bdI (fun h33 mh33 hf => ?_)
            refine xr_put A xc_X5 in_X5 tyX5_ok nmX5 42 (Nat.le_of_ble_eq_true rfl) q1340 rfl rfl (v := vI (v32 + (1 : Int32))) rfl rfl mh33 dX5_probe_106 ?_
            refine xr_aload_n A dX5_probe_109 0 rfl rfl ?_
            refine xr_aload_n A dX5_probe_110 0 rfl rfl ?_
            revert hf; refine ab_bdI (fun v34 mv34 hf => ?_)
            refine xr_get A xc_X5 in_X5 42 (Nat.le_of_ble_eq_true rfl) q1340 rfl (ab_gIE mv34) dX5_probe_111 ?_
            revert hf; refine ab_b2I (fun v37 h36 m35 hf => ?_)
            refine xr_V A bX5_done (wX5_done D m35).2 xc_X5 (wX5_done D m35).1 q1749 qs69 q1747 (av := [vI v34]) (rest := []) rfl dX5_probe_114 (Nat.le_of_ble_eq_true rfl) (Nat.le_of_ble_eq_true rfl) rfl (Nat.le_of_ble_eq_true rfl) ?_
            exact xr_ireturn A rfl hf dX5_probe_117
          · replace hf := ab_ip c60 hf
            refine xr_aload_n A dX5_probe_63 0 rfl rfl ?_
            refine xr_iconst A (v := 3) dX5_probe_64 (by decide) ?_
            revert hf; refine ab_b2I (fun v40 h39 m38 hf => ?_)
            refine xr_V A bX5_refused (wX5_refused D m38).2 xc_X5 (wX5_refused D m38).1 q1451 qs44 q1449 (av := [vI (3 : Int32)]) (rest := []) rfl dX5_probe_65 (Nat.le_of_ble_eq_true rfl) (Nat.le_of_ble_eq_true rfl) rfl (Nat.le_of_ble_eq_true rfl) ?_
            exact xr_ireturn A rfl hf dX5_probe_68
        · replace hf := ab_ip c45 hf
          refine xr_aload_n A dX5_probe_48 0 rfl rfl ?_
          refine xr_iconst A (v := 2) dX5_probe_49 (by decide) ?_
          revert hf; refine ab_b2I (fun v43 h42 m41 hf => ?_)
          refine xr_V A bX5_refused (wX5_refused D m41).2 xc_X5 (wX5_refused D m41).1 q1451 qs44 q1449 (av := [vI (2 : Int32)]) (rest := []) rfl dX5_probe_50 (Nat.le_of_ble_eq_true rfl) (Nat.le_of_ble_eq_true rfl) rfl (Nat.le_of_ble_eq_true rfl) ?_
          exact xr_ireturn A rfl hf dX5_probe_53
    · replace hf := ab_ip c10 hf
      refine xr_aload_n A dX5_probe_13 0 rfl rfl ?_
      refine xr_iconst A (v := 1) dX5_probe_14 (by decide) ?_
      revert hf; refine ab_b2I (fun v46 h45 m44 hf => ?_)
      refine xr_V A bX5_refused (wX5_refused D m44).2 xc_X5 (wX5_refused D m44).1 q1451 qs44 q1449 (av := [vI (1 : Int32)]) (rest := []) rfl dX5_probe_15 (Nat.le_of_ble_eq_true rfl) (Nat.le_of_ble_eq_true rfl) rfl (Nat.le_of_ble_eq_true rfl) ?_
      exact xr_ireturn A rfl hf dX5_probe_18
/-! X5_faulty -/
theorem bX5_faulty : MB yX5_faulty cX5_faulty 5 (some FieldType.int) 1 := ⟨q1970, q99, by decide, by decide +kernel⟩
noncomputable def fX5_faulty_l38 (x : Nat) : Nat → Int32 → Int32 → Int32 → Hp → Option (Int32 × Hp)
  | 0, _, _, _, _ => none
  | n + 1, l1, l2, l3, h =>
  ab_bd (ab_gI h x 4 42) fun v1 =>
  if v1 ≤ l3 then (
    ab_b2 (fX5_done x l2 h) fun v4 h3 =>
    some (v4, h3))
  else (
    ab_bd (ab_gR h x 4 45) fun v5 =>
    ab_bd v5 fun a6 =>
    ab_bd (ab_aI h a6 0 l3) fun v7 =>
    ab_bd (ab_gR h x 4 43) fun v8 =>
    ab_bd v8 fun a9 =>
    ab_bd (ab_aI h a9 0 l3) fun v10 =>
    ab_bd (ab_gR h x 4 44) fun v11 =>
    ab_bd v11 fun a12 =>
    ab_bd (ab_aI h a12 0 l3) fun v13 =>
    ab_b2 (fX5_heatBy x v10 v13 h) fun v16 h15 =>
    if l1 < (v7 - v16) then (
      fX5_faulty_l38 x n l1 (l2 ||| ((1 : Int32) <<< (l3 &&& 31))) (l3 + (1 : Int32)) h15)
    else (
      if (-(v7 - v16)) ≤ l1 then (
        fX5_faulty_l38 x n l1 (l2 ||| (0 : Int32)) (l3 + (1 : Int32)) h15)
      else (
        fX5_faulty_l38 x n l1 (l2 ||| ((1 : Int32) <<< (l3 &&& 31))) (l3 + (1 : Int32)) h15)))
theorem wX5_faulty_l38 {D : Dd} {C : Cx} {h0 h' : Hp} {r : Int32} (A : Act C D (h0, (.inl (some (vI r))), h') yX5_faulty cX5_faulty 5 (some FieldType.int) 2 42 []) {x : Nat} : ∀ (n : Nat) {l1 : Int32} {l2 : Int32} {l3 : Int32} {h : Hp}, fX5_faulty_l38 x n l1 l2 l3 h = some (r, h') → X C D (h0, (.inl (some (vI r))), h') 5 38 [(0, vR (some x)), (1, vI l1), (2, vI l2), (3, vI l3)] [] h := by
  intro n
  induction n with
  | zero => intro l1 l2 l3 h hf; exact ab_no hf
  | succ n ih =>
    intro l1 l2 l3 h hf
    unfold fX5_faulty_l38 at hf
    refine xr_iload_n A dX5_faulty_38 3 rfl rfl ?_
    refine xr_aload_n A dX5_faulty_39 0 rfl rfl ?_
    revert hf; refine ab_bdI (fun v1 mv1 hf => ?_)
    refine xr_get A xc_X5 in_X5 42 (Nat.le_of_ble_eq_true rfl) q1340 rfl (ab_gIE mv1) dX5_faulty_40 ?_
    refine xr_icmp_ge A (tgt := 100) dX5_faulty_43 (by decide) (fun c43 => ?_) (fun c43 => ?_)
    · replace hf := ab_ip c43 hf
      refine xr_aload_n A dX5_faulty_100 0 rfl rfl ?_
      refine xr_iload_n A dX5_faulty_101 2 rfl rfl ?_
      revert hf; refine ab_b2I (fun v4 h3 m2 hf => ?_)
      refine xr_V A bX5_done (wX5_done D m2).2 xc_X5 (wX5_done D m2).1 q1749 qs69 q1747 (av := [vI l2]) (rest := []) rfl dX5_faulty_102 (Nat.le_of_ble_eq_true rfl) (Nat.le_of_ble_eq_true rfl) rfl (Nat.le_of_ble_eq_true rfl) ?_
      exact xr_ireturn A rfl hf dX5_faulty_105
    · replace hf := ab_in c43 hf
      refine xr_aload_n A dX5_faulty_46 0 rfl rfl ?_
      revert hf; refine ab_bdI (fun v5 mv5 hf => ?_)
      refine xr_get A xc_X5 in_X5 45 (Nat.le_of_ble_eq_true rfl) q1343 rfl (ab_gRE mv5) dX5_faulty_47 ?_
      refine xr_iload_n A dX5_faulty_50 3 rfl rfl ?_
      revert hf; refine ab_bdI (fun a6 e hf => ?_); subst e
      revert hf; refine ab_bdI (fun v7 mv7 hf => ?_)
      refine xr_iaload A mv7 dX5_faulty_51 ?_
      refine xr_aload_n A dX5_faulty_52 0 rfl rfl ?_
      refine xr_aload_n A dX5_faulty_53 0 rfl rfl ?_
      revert hf; refine ab_bdI (fun v8 mv8 hf => ?_)
      refine xr_get A xc_X5 in_X5 43 (Nat.le_of_ble_eq_true rfl) q1341 rfl (ab_gRE mv8) dX5_faulty_54 ?_
      refine xr_iload_n A dX5_faulty_57 3 rfl rfl ?_
      revert hf; refine ab_bdI (fun a9 e hf => ?_); subst e
      revert hf; refine ab_bdI (fun v10 mv10 hf => ?_)
      refine xr_iaload A mv10 dX5_faulty_58 ?_
      refine xr_aload_n A dX5_faulty_59 0 rfl rfl ?_
      revert hf; refine ab_bdI (fun v11 mv11 hf => ?_)
      refine xr_get A xc_X5 in_X5 44 (Nat.le_of_ble_eq_true rfl) q1342 rfl (ab_gRE mv11) dX5_faulty_60 ?_
      refine xr_iload_n A dX5_faulty_63 3 rfl rfl ?_
      revert hf; refine ab_bdI (fun a12 e hf => ?_); subst e
      revert hf; refine ab_bdI (fun v13 mv13 hf => ?_)
      refine xr_iaload A mv13 dX5_faulty_64 ?_
      revert hf; refine ab_b2I (fun v16 h15 m14 hf => ?_)
      refine xr_V A bX5_heatBy (wX5_heatBy D m14).2 xc_X5 (wX5_heatBy D m14).1 q1801 qs75 q1799 (av := [vI v10, vI v13]) (rest := [vI v7]) rfl dX5_faulty_65 (Nat.le_of_ble_eq_true rfl) (Nat.le_of_ble_eq_true rfl) rfl (Nat.le_of_ble_eq_true rfl) ?_
      refine xr_isub A dX5_faulty_68 ?_
      refine xr_istore A dX5_faulty_69 (Nat.le_of_ble_eq_true rfl) (L' := [(4, vI (v7 - v16)), (0, vR (some x)), (1, vI l1), (2, vI l2), (3, vI l3)]) rfl ?_
      refine xr_iload_n A dX5_faulty_71 3 rfl rfl ?_
      refine xr_iload A dX5_faulty_72 0 rfl ?_
      refine xr_iload_n A dX5_faulty_74 2 rfl rfl ?_
      refine xr_icmp_gt A (tgt := 85) dX5_faulty_75 (by decide) (fun c75 => ?_) (fun c75 => ?_)
      · replace hf := ab_ip c75 hf
        refine xr_iconst A (v := 1) dX5_faulty_85 (by decide) ?_
        refine xr_iload_n A dX5_faulty_86 4 rfl rfl ?_
        refine xr_ishl A dX5_faulty_87 ?_
        refine xr_goto A (tgt := 92) dX5_faulty_88 (by decide) ?_
        refine xr_ior A dX5_faulty_92 ?_
        refine xr_istore_n A dX5_faulty_93 rfl (Nat.le_of_ble_eq_true rfl) (L' := [(2, vI (l2 ||| ((1 : Int32) <<< (l3 &&& 31)))), (4, vI (v7 - v16)), (0, vR (some x)), (1, vI l1), (3, vI l3)]) rfl ?_
        refine xr_iinc A dX5_faulty_94 4 rfl (v := (l3 + (1 : Int32))) rfl (Nat.le_of_ble_eq_true rfl) (L' := [(3, vI (l3 + (1 : Int32))), (2, vI (l2 ||| ((1 : Int32) <<< (l3 &&& 31)))), (4, vI (v7 - v16)), (0, vR (some x)), (1, vI l1)]) rfl ?_
        refine xr_goto A (tgt := 38) dX5_faulty_97 (by decide) ?_
        refine X.sub [3, 4, 1, 0] rfl ?_
        exact ih hf
      · replace hf := ab_in c75 hf
        refine xr_iload A dX5_faulty_78 0 rfl ?_
        refine xr_ineg A dX5_faulty_80 ?_
        refine xr_iload_n A dX5_faulty_81 2 rfl rfl ?_
        refine xr_icmp_le A (tgt := 91) dX5_faulty_82 (by decide) (fun c82 => ?_) (fun c82 => ?_)
        · replace hf := ab_ip c82 hf
          refine xr_iconst A (v := 0) dX5_faulty_91 (by decide) ?_
          refine xr_ior A dX5_faulty_92 ?_
          refine xr_istore_n A dX5_faulty_93 rfl (Nat.le_of_ble_eq_true rfl) (L' := [(2, vI (l2 ||| (0 : Int32))), (4, vI (v7 - v16)), (0, vR (some x)), (1, vI l1), (3, vI l3)]) rfl ?_
          refine xr_iinc A dX5_faulty_94 4 rfl (v := (l3 + (1 : Int32))) rfl (Nat.le_of_ble_eq_true rfl) (L' := [(3, vI (l3 + (1 : Int32))), (2, vI (l2 ||| (0 : Int32))), (4, vI (v7 - v16)), (0, vR (some x)), (1, vI l1)]) rfl ?_
          refine xr_goto A (tgt := 38) dX5_faulty_97 (by decide) ?_
          refine X.sub [3, 4, 1, 0] rfl ?_
          exact ih hf
        · replace hf := ab_in c82 hf
          refine xr_iconst A (v := 1) dX5_faulty_85 (by decide) ?_
          refine xr_iload_n A dX5_faulty_86 4 rfl rfl ?_
          refine xr_ishl A dX5_faulty_87 ?_
          refine xr_goto A (tgt := 92) dX5_faulty_88 (by decide) ?_
          refine xr_ior A dX5_faulty_92 ?_
          refine xr_istore_n A dX5_faulty_93 rfl (Nat.le_of_ble_eq_true rfl) (L' := [(2, vI (l2 ||| ((1 : Int32) <<< (l3 &&& 31)))), (4, vI (v7 - v16)), (0, vR (some x)), (1, vI l1), (3, vI l3)]) rfl ?_
          refine xr_iinc A dX5_faulty_94 4 rfl (v := (l3 + (1 : Int32))) rfl (Nat.le_of_ble_eq_true rfl) (L' := [(3, vI (l3 + (1 : Int32))), (2, vI (l2 ||| ((1 : Int32) <<< (l3 &&& 31)))), (4, vI (v7 - v16)), (0, vR (some x)), (1, vI l1)]) rfl ?_
          refine xr_goto A (tgt := 38) dX5_faulty_97 (by decide) ?_
          refine X.sub [3, 4, 1, 0] rfl ?_
          exact ih hf
noncomputable def fX5_faulty (x : Nat) (p1 : Int32) (h : Hp) : Option (Int32 × Hp) :=
  ab_ck h x 4 <|
  ab_bd (ab_pI h x 4 0 (0 : Int32)) fun h1 =>
  ab_bd (ab_gR h1 x 4 3) fun v2 =>
  ab_on v2 (
    ab_b2 (fX5_refused x (1 : Int32) h1) fun v6 h5 =>
    some (v6, h5)) fun a3 => (
    ab_b2 (fX5_in p1 (0 : Int32) (99 : Int32) h1) fun v9 h8 =>
    if v9 = 0 then (
      ab_b2 (fX5_refused x (2 : Int32) h8) fun v12 h11 =>
      some (v12, h11))
    else (
      fX5_faulty_l38 x (hfu h8) p1 (0 : Int32) (0 : Int32) h8))
theorem wX5_faulty (D : Dd) {x : Nat} {p1 : Int32} {h : Hp} {r : Int32} {h' : Hp} (hf : fX5_faulty x p1 h = some (r, h')) : ab_is h x 4 ∧ Ct D 2 42 yX5_faulty cX5_faulty 5 (some FieldType.int) [vR (some x), vI p1] h (.inl (some (vI r))) h' := by
    unfold fX5_faulty at hf
    replace hf := ab_ckE hf; obtain ⟨i0, hf⟩ := hf
    refine ⟨i0, ?_⟩
    refine Ct.of (by decide) (L := [(0, vR (some x)), (1, vI p1)]) rfl (Nat.le_of_ble_eq_true rfl) (fun C A => ?_)
    refine xr_aload_n A dX5_faulty_0 0 rfl rfl ?_
    refine xr_iconst A (v := 0) dX5_faulty_1 (by decide) ?_
    revert hf; refine ab_bdI (fun h1 mh1 hf => ?_)
    refine xr_put A xc_X5 in_X5 tyX5_ok nmX5 0 (Nat.le_of_ble_eq_true rfl) q1298 rfl rfl (v := vI (0 : Int32)) rfl rfl mh1 dX5_faulty_2 ?_
    refine xr_aload_n A dX5_faulty_5 0 rfl rfl ?_
    revert hf; refine ab_bdI (fun v2 mv2 hf => ?_)
    refine xr_get A xc_X5 in_X5 3 (Nat.le_of_ble_eq_true rfl) q1301 rfl (ab_gRE mv2) dX5_faulty_6 ?_
    revert hf; refine ab_onI (fun e hf => ?_) (fun a3 e hf => ?_) <;> subst e
    · refine xr_ifnonnull A (tgt := 18) dX5_faulty_9 (by decide) (fun _ e => by cases e) (fun _ => ?_)
      refine xr_aload_n A dX5_faulty_12 0 rfl rfl ?_
      refine xr_iconst A (v := 1) dX5_faulty_13 (by decide) ?_
      revert hf; refine ab_b2I (fun v6 h5 m4 hf => ?_)
      refine xr_V A bX5_refused (wX5_refused D m4).2 xc_X5 (wX5_refused D m4).1 q1451 qs44 q1449 (av := [vI (1 : Int32)]) (rest := []) rfl dX5_faulty_14 (Nat.le_of_ble_eq_true rfl) (Nat.le_of_ble_eq_true rfl) rfl (Nat.le_of_ble_eq_true rfl) ?_
      exact xr_ireturn A rfl hf dX5_faulty_17
    · refine xr_ifnonnull A (tgt := 18) dX5_faulty_9 (by decide) (fun _ _ => ?_) (fun e => by cases e)
      refine xr_iload_n A dX5_faulty_18 1 rfl rfl ?_
      refine xr_iconst A (v := 0) dX5_faulty_19 (by decide) ?_
      refine xr_bipush A (v := 99) dX5_faulty_20 (by decide) ?_
      revert hf; refine ab_b2I (fun v9 h8 m7 hf => ?_)
      refine xr_S A bX5_in (wX5_in D m7) q1657 q1656 (av := [vI p1, vI (0 : Int32), vI (99 : Int32)]) (rest := []) rfl dX5_faulty_22 (Nat.le_of_ble_eq_true rfl) (Nat.le_of_ble_eq_true rfl) rfl (Nat.le_of_ble_eq_true rfl) ?_
      refine xr_if_ne A (tgt := 34) dX5_faulty_25 (by decide) (fun c25 => ?_) (fun c25 => ?_)
      · replace hf := ab_in c25 hf
        refine xr_iconst A (v := 0) dX5_faulty_34 (by decide) ?_
        refine xr_istore_n A dX5_faulty_35 rfl (Nat.le_of_ble_eq_true rfl) (L' := [(2, vI (0 : Int32)), (0, vR (some x)), (1, vI p1)]) rfl ?_
        refine xr_iconst A (v := 0) dX5_faulty_36 (by decide) ?_
        refine xr_istore_n A dX5_faulty_37 rfl (Nat.le_of_ble_eq_true rfl) (L' := [(3, vI (0 : Int32)), (2, vI (0 : Int32)), (0, vR (some x)), (1, vI p1)]) rfl ?_
        refine X.sub [2, 3, 1, 0] rfl ?_
        exact wX5_faulty_l38 A _ hf
      · replace hf := ab_ip c25 hf
        refine xr_aload_n A dX5_faulty_28 0 rfl rfl ?_
        refine xr_iconst A (v := 2) dX5_faulty_29 (by decide) ?_
        revert hf; refine ab_b2I (fun v12 h11 m10 hf => ?_)
        refine xr_V A bX5_refused (wX5_refused D m10).2 xc_X5 (wX5_refused D m10).1 q1451 qs44 q1449 (av := [vI (2 : Int32)]) (rest := []) rfl dX5_faulty_30 (Nat.le_of_ble_eq_true rfl) (Nat.le_of_ble_eq_true rfl) rfl (Nat.le_of_ble_eq_true rfl) ?_
        exact xr_ireturn A rfl hf dX5_faulty_33
/-! X5_firstCold -/
theorem bX5_firstCold : MB yX5_firstCold cX5_firstCold 3 (some FieldType.int) 0 := ⟨q1974, q99, by decide, by decide +kernel⟩
noncomputable def fX5_firstCold_l23 (x : Nat) : Nat → Int32 → Int32 → Hp → Option (Int32 × Hp)
  | 0, _, _, _ => none
  | n + 1, l1, l2, h =>
  ab_bd (ab_gI h x 4 42) fun v1 =>
  if v1 ≤ l2 then (
    ab_b2 (fX5_done x l1 h) fun v4 h3 =>
    some (v4, h3))
  else (
    ab_bd (ab_gR h x 4 45) fun v5 =>
    ab_bd v5 fun a6 =>
    ab_bd (ab_aI h a6 0 l2) fun v7 =>
    ab_bd (ab_gR h x 4 3) fun v8 =>
    ab_bd v8 fun a9 =>
    ab_bd (ab_gI h a9 13 0) fun v10 =>
    if v10 ≤ v7 then (
      fX5_firstCold_l23 x n l1 (l2 + (1 : Int32)) h)
    else (
      if l1 = (-2 : Int32) then (
        fX5_firstCold_l23 x n l2 (l2 + (1 : Int32)) h)
      else (
        ab_bd (ab_gR h x 4 44) fun v11 =>
        ab_bd v11 fun a12 =>
        ab_bd (ab_aI h a12 0 l2) fun v13 =>
        ab_bd (ab_gR h x 4 44) fun v14 =>
        ab_bd v14 fun a15 =>
        ab_bd (ab_aI h a15 0 l1) fun v16 =>
        if v16 ≤ v13 then (
          fX5_firstCold_l23 x n l1 (l2 + (1 : Int32)) h)
        else (
          fX5_firstCold_l23 x n l2 (l2 + (1 : Int32)) h))))
theorem wX5_firstCold_l23 {D : Dd} {C : Cx} {h0 h' : Hp} {r : Int32} (A : Act C D (h0, (.inl (some (vI r))), h') yX5_firstCold cX5_firstCold 3 (some FieldType.int) 2 41 []) {x : Nat} : ∀ (n : Nat) {l1 : Int32} {l2 : Int32} {h : Hp}, fX5_firstCold_l23 x n l1 l2 h = some (r, h') → X C D (h0, (.inl (some (vI r))), h') 3 23 [(0, vR (some x)), (1, vI l1), (2, vI l2)] [] h := by
  intro n
  induction n with
  | zero => intro l1 l2 h hf; exact ab_no hf
  | succ n ih =>
    intro l1 l2 h hf
    unfold fX5_firstCold_l23 at hf
    refine xr_iload_n A dX5_firstCold_23 2 rfl rfl ?_
    refine xr_aload_n A dX5_firstCold_24 0 rfl rfl ?_
    revert hf; refine ab_bdI (fun v1 mv1 hf => ?_)
    refine xr_get A xc_X5 in_X5 42 (Nat.le_of_ble_eq_true rfl) q1340 rfl (ab_gIE mv1) dX5_firstCold_25 ?_
    refine xr_icmp_ge A (tgt := 76) dX5_firstCold_28 (by decide) (fun c28 => ?_) (fun c28 => ?_)
    · replace hf := ab_ip c28 hf
      refine xr_aload_n A dX5_firstCold_76 0 rfl rfl ?_
      refine xr_iload_n A dX5_firstCold_77 1 rfl rfl ?_
      revert hf; refine ab_b2I (fun v4 h3 m2 hf => ?_)
      refine xr_V A bX5_done (wX5_done D m2).2 xc_X5 (wX5_done D m2).1 q1749 qs69 q1747 (av := [vI l1]) (rest := []) rfl dX5_firstCold_78 (Nat.le_of_ble_eq_true rfl) (Nat.le_of_ble_eq_true rfl) rfl (Nat.le_of_ble_eq_true rfl) ?_
      exact xr_ireturn A rfl hf dX5_firstCold_81
    · replace hf := ab_in c28 hf
      refine xr_aload_n A dX5_firstCold_31 0 rfl rfl ?_
      revert hf; refine ab_bdI (fun v5 mv5 hf => ?_)
      refine xr_get A xc_X5 in_X5 45 (Nat.le_of_ble_eq_true rfl) q1343 rfl (ab_gRE mv5) dX5_firstCold_32 ?_
      refine xr_iload_n A dX5_firstCold_35 2 rfl rfl ?_
      revert hf; refine ab_bdI (fun a6 e hf => ?_); subst e
      revert hf; refine ab_bdI (fun v7 mv7 hf => ?_)
      refine xr_iaload A mv7 dX5_firstCold_36 ?_
      refine xr_aload_n A dX5_firstCold_37 0 rfl rfl ?_
      revert hf; refine ab_bdI (fun v8 mv8 hf => ?_)
      refine xr_get A xc_X5 in_X5 3 (Nat.le_of_ble_eq_true rfl) q1301 rfl (ab_gRE mv8) dX5_firstCold_38 ?_
      revert hf; refine ab_bdI (fun a9 e hf => ?_); subst e
      revert hf; refine ab_bdI (fun v10 mv10 hf => ?_)
      refine xr_getN A xc_X15 in_X15 0 (Nat.le_of_ble_eq_true rfl) n1460 rfl (ab_gIE mv10) dX5_firstCold_41 ?_
      refine xr_icmp_ge A (tgt := 70) dX5_firstCold_44 (by decide) (fun c44 => ?_) (fun c44 => ?_)
      · replace hf := ab_ip c44 hf
        refine xr_iinc A dX5_firstCold_70 2 rfl (v := (l2 + (1 : Int32))) rfl (Nat.le_of_ble_eq_true rfl) (L' := [(2, vI (l2 + (1 : Int32))), (0, vR (some x)), (1, vI l1)]) rfl ?_
        refine xr_goto A (tgt := 23) dX5_firstCold_73 (by decide) ?_
        refine X.sub [1, 2, 0] rfl ?_
        exact ih hf
      · replace hf := ab_in c44 hf
        refine xr_iload_n A dX5_firstCold_47 1 rfl rfl ?_
        refine xr_bipush A (v := (-2)) dX5_firstCold_48 (by decide) ?_
        refine xr_icmp_eq A (tgt := 68) dX5_firstCold_50 (by decide) (fun c50 => ?_) (fun c50 => ?_)
        · replace hf := ab_ip c50 hf
          refine xr_iload_n A dX5_firstCold_68 2 rfl rfl ?_
          refine xr_istore_n A dX5_firstCold_69 rfl (Nat.le_of_ble_eq_true rfl) (L' := [(1, vI l2), (0, vR (some x)), (2, vI l2)]) rfl ?_
          refine xr_iinc A dX5_firstCold_70 2 rfl (v := (l2 + (1 : Int32))) rfl (Nat.le_of_ble_eq_true rfl) (L' := [(2, vI (l2 + (1 : Int32))), (1, vI l2), (0, vR (some x))]) rfl ?_
          refine xr_goto A (tgt := 23) dX5_firstCold_73 (by decide) ?_
          refine X.sub [2, 1, 0] rfl ?_
          exact ih hf
        · replace hf := ab_in c50 hf
          refine xr_aload_n A dX5_firstCold_53 0 rfl rfl ?_
          revert hf; refine ab_bdI (fun v11 mv11 hf => ?_)
          refine xr_get A xc_X5 in_X5 44 (Nat.le_of_ble_eq_true rfl) q1342 rfl (ab_gRE mv11) dX5_firstCold_54 ?_
          refine xr_iload_n A dX5_firstCold_57 2 rfl rfl ?_
          revert hf; refine ab_bdI (fun a12 e hf => ?_); subst e
          revert hf; refine ab_bdI (fun v13 mv13 hf => ?_)
          refine xr_iaload A mv13 dX5_firstCold_58 ?_
          refine xr_aload_n A dX5_firstCold_59 0 rfl rfl ?_
          revert hf; refine ab_bdI (fun v14 mv14 hf => ?_)
          refine xr_get A xc_X5 in_X5 44 (Nat.le_of_ble_eq_true rfl) q1342 rfl (ab_gRE mv14) dX5_firstCold_60 ?_
          refine xr_iload_n A dX5_firstCold_63 1 rfl rfl ?_
          revert hf; refine ab_bdI (fun a15 e hf => ?_); subst e
          revert hf; refine ab_bdI (fun v16 mv16 hf => ?_)
          refine xr_iaload A mv16 dX5_firstCold_64 ?_
          refine xr_icmp_ge A (tgt := 70) dX5_firstCold_65 (by decide) (fun c65 => ?_) (fun c65 => ?_)
          · replace hf := ab_ip c65 hf
            refine xr_iinc A dX5_firstCold_70 2 rfl (v := (l2 + (1 : Int32))) rfl (Nat.le_of_ble_eq_true rfl) (L' := [(2, vI (l2 + (1 : Int32))), (0, vR (some x)), (1, vI l1)]) rfl ?_
            refine xr_goto A (tgt := 23) dX5_firstCold_73 (by decide) ?_
            refine X.sub [1, 2, 0] rfl ?_
            exact ih hf
          · replace hf := ab_in c65 hf
            refine xr_iload_n A dX5_firstCold_68 2 rfl rfl ?_
            refine xr_istore_n A dX5_firstCold_69 rfl (Nat.le_of_ble_eq_true rfl) (L' := [(1, vI l2), (0, vR (some x)), (2, vI l2)]) rfl ?_
            refine xr_iinc A dX5_firstCold_70 2 rfl (v := (l2 + (1 : Int32))) rfl (Nat.le_of_ble_eq_true rfl) (L' := [(2, vI (l2 + (1 : Int32))), (1, vI l2), (0, vR (some x))]) rfl ?_
            refine xr_goto A (tgt := 23) dX5_firstCold_73 (by decide) ?_
            refine X.sub [2, 1, 0] rfl ?_
            exact ih hf
noncomputable def fX5_firstCold (x : Nat) (h : Hp) : Option (Int32 × Hp) :=
  ab_ck h x 4 <|
  ab_bd (ab_pI h x 4 0 (0 : Int32)) fun h1 =>
  ab_bd (ab_gR h1 x 4 3) fun v2 =>
  ab_on v2 (
    ab_b2 (fX5_refused x (1 : Int32) h1) fun v6 h5 =>
    some (v6, h5)) fun a3 => (
    fX5_firstCold_l23 x (hfu h1) (-2 : Int32) (0 : Int32) h1)
theorem wX5_firstCold (D : Dd) {x : Nat} {h : Hp} {r : Int32} {h' : Hp} (hf : fX5_firstCold x h = some (r, h')) : ab_is h x 4 ∧ Ct D 2 41 yX5_firstCold cX5_firstCold 3 (some FieldType.int) [vR (some x)] h (.inl (some (vI r))) h' := by
    unfold fX5_firstCold at hf
    replace hf := ab_ckE hf; obtain ⟨i0, hf⟩ := hf
    refine ⟨i0, ?_⟩
    refine Ct.of (by decide) (L := [(0, vR (some x))]) rfl (Nat.le_of_ble_eq_true rfl) (fun C A => ?_)
    refine xr_aload_n A dX5_firstCold_0 0 rfl rfl ?_
    refine xr_iconst A (v := 0) dX5_firstCold_1 (by decide) ?_
    revert hf; refine ab_bdI (fun h1 mh1 hf => ?_)
    refine xr_put A xc_X5 in_X5 tyX5_ok nmX5 0 (Nat.le_of_ble_eq_true rfl) q1298 rfl rfl (v := vI (0 : Int32)) rfl rfl mh1 dX5_firstCold_2 ?_
    refine xr_aload_n A dX5_firstCold_5 0 rfl rfl ?_
    revert hf; refine ab_bdI (fun v2 mv2 hf => ?_)
    refine xr_get A xc_X5 in_X5 3 (Nat.le_of_ble_eq_true rfl) q1301 rfl (ab_gRE mv2) dX5_firstCold_6 ?_
    revert hf; refine ab_onI (fun e hf => ?_) (fun a3 e hf => ?_) <;> subst e
    · refine xr_ifnonnull A (tgt := 18) dX5_firstCold_9 (by decide) (fun _ e => by cases e) (fun _ => ?_)
      refine xr_aload_n A dX5_firstCold_12 0 rfl rfl ?_
      refine xr_iconst A (v := 1) dX5_firstCold_13 (by decide) ?_
      revert hf; refine ab_b2I (fun v6 h5 m4 hf => ?_)
      refine xr_V A bX5_refused (wX5_refused D m4).2 xc_X5 (wX5_refused D m4).1 q1451 qs44 q1449 (av := [vI (1 : Int32)]) (rest := []) rfl dX5_firstCold_14 (Nat.le_of_ble_eq_true rfl) (Nat.le_of_ble_eq_true rfl) rfl (Nat.le_of_ble_eq_true rfl) ?_
      exact xr_ireturn A rfl hf dX5_firstCold_17
    · refine xr_ifnonnull A (tgt := 18) dX5_firstCold_9 (by decide) (fun _ _ => ?_) (fun e => by cases e)
      refine xr_bipush A (v := (-2)) dX5_firstCold_18 (by decide) ?_
      refine xr_istore_n A dX5_firstCold_20 rfl (Nat.le_of_ble_eq_true rfl) (L' := [(1, vI (-2 : Int32)), (0, vR (some x))]) rfl ?_
      refine xr_iconst A (v := 0) dX5_firstCold_21 (by decide) ?_
      refine xr_istore_n A dX5_firstCold_22 rfl (Nat.le_of_ble_eq_true rfl) (L' := [(2, vI (0 : Int32)), (1, vI (-2 : Int32)), (0, vR (some x))]) rfl ?_
      refine X.sub [2, 1, 0] rfl ?_
      exact wX5_firstCold_l23 A _ hf
/-! X5_recall -/
theorem bX5_recall : MB yX5_recall cX5_recall 5 (some FieldType.int) 1 := ⟨q1978, q99, by decide, by decide +kernel⟩
noncomputable def fX5_recall_b27 (x : Nat) (h : Hp) : Option (Int32 × Hp) :=
  ab_b2 (fX5_refused x (1 : Int32) h) fun v3 h2 =>
  some (v3, h2)
theorem wX5_recall_b27 {D : Dd} {C : Cx} {h0 h' : Hp} {r : Int32} (A : Act C D (h0, (.inl (some (vI r))), h') yX5_recall cX5_recall 5 (some FieldType.int) 2 41 []) {x : Nat} {h : Hp} (hf : fX5_recall_b27 x h = some (r, h')) : X C D (h0, (.inl (some (vI r))), h') 5 27 [(0, vR (some x))] [] h := by
  unfold fX5_recall_b27 at hf
  refine xr_aload_n A dX5_recall_27 0 rfl rfl ?_
  refine xr_iconst A (v := 1) dX5_recall_28 (by decide) ?_
  revert hf; refine ab_b2I (fun v3 h2 m1 hf => ?_)
  refine xr_V A bX5_refused (wX5_refused D m1).2 xc_X5 (wX5_refused D m1).1 q1451 qs44 q1449 (av := [vI (1 : Int32)]) (rest := []) rfl dX5_recall_29 (Nat.le_of_ble_eq_true rfl) (Nat.le_of_ble_eq_true rfl) rfl (Nat.le_of_ble_eq_true rfl) ?_
  exact xr_ireturn A rfl hf dX5_recall_32
noncomputable def fX5_recall_l51 (x : Nat) (K37 : Int32 → Int32 → Int32 → Hp → Option (Int32 × Hp)) : Nat → Int32 → Int32 → Int32 → Int32 → Hp → Option (Int32 × Hp)
  | 0, _, _, _, _, _ => none
  | n + 1, l1, l2, l3, l4, h =>
  ab_bd (ab_gR h x 4 17) fun v1 =>
  ab_bd v1 fun a2 =>
  ab_bd (ab_aI h a2 0 l3) fun v3 =>
  if v3 ≤ l4 then (
    K37 l1 l2 (l3 + (1 : Int32)) h)
  else (
    ab_bd (ab_gR h x 4 3) fun v4 =>
    ab_bd v4 fun a5 =>
    ab_bd (ab_gR h a5 13 26) fun v6 =>
    ab_bd v6 fun a7 =>
    ab_bd (ab_aI h a7 0 l3) fun v8 =>
    if v8 = l1 then (
      ab_bd (ab_gR h x 4 18) fun v9 =>
      ab_bd v9 fun a10 =>
      ab_bd (ab_aI h a10 0 (((6 : Int32) * l3) + l4)) fun v11 =>
      fX5_recall_l51 x K37 n l1 (l2 ||| ((1 : Int32) <<< (v11 &&& 31))) l3 (l4 + (1 : Int32)) h)
    else (
      fX5_recall_l51 x K37 n l1 (l2 ||| (0 : Int32)) l3 (l4 + (1 : Int32)) h))
theorem wX5_recall_l51 {D : Dd} {C : Cx} {h0 h' : Hp} {r : Int32} (A : Act C D (h0, (.inl (some (vI r))), h') yX5_recall cX5_recall 5 (some FieldType.int) 2 41 []) {x : Nat} {K37 : Int32 → Int32 → Int32 → Hp → Option (Int32 × Hp)} (hK37 : ∀ {l1 : Int32} {l2 : Int32} {l3 : Int32} {h : Hp}, K37 l1 l2 l3 h = some (r, h') → X C D (h0, (.inl (some (vI r))), h') 5 37 [(0, vR (some x)), (1, vI l1), (2, vI l2), (3, vI l3)] [] h) : ∀ (n : Nat) {l1 : Int32} {l2 : Int32} {l3 : Int32} {l4 : Int32} {h : Hp}, fX5_recall_l51 x K37 n l1 l2 l3 l4 h = some (r, h') → X C D (h0, (.inl (some (vI r))), h') 5 51 [(0, vR (some x)), (1, vI l1), (2, vI l2), (3, vI l3), (4, vI l4)] [] h := by
  intro n
  induction n with
  | zero => intro l1 l2 l3 l4 h hf; exact ab_no hf
  | succ n ih =>
    intro l1 l2 l3 l4 h hf
    unfold fX5_recall_l51 at hf
    refine xr_iload A dX5_recall_51 4 rfl ?_
    refine xr_aload_n A dX5_recall_53 0 rfl rfl ?_
    revert hf; refine ab_bdI (fun v1 mv1 hf => ?_)
    refine xr_get A xc_X5 in_X5 17 (Nat.le_of_ble_eq_true rfl) q1315 rfl (ab_gRE mv1) dX5_recall_54 ?_
    refine xr_iload_n A dX5_recall_57 3 rfl rfl ?_
    revert hf; refine ab_bdI (fun a2 e hf => ?_); subst e
    revert hf; refine ab_bdI (fun v3 mv3 hf => ?_)
    refine xr_iaload A mv3 dX5_recall_58 ?_
    refine xr_icmp_ge A (tgt := 102) dX5_recall_59 (by decide) (fun c59 => ?_) (fun c59 => ?_)
    · replace hf := ab_ip c59 hf
      refine xr_iinc A dX5_recall_102 3 rfl (v := (l3 + (1 : Int32))) rfl (Nat.le_of_ble_eq_true rfl) (L' := [(3, vI (l3 + (1 : Int32))), (0, vR (some x)), (1, vI l1), (2, vI l2), (4, vI l4)]) rfl ?_
      refine xr_goto A (tgt := 37) dX5_recall_105 (by decide) ?_
      refine X.sub [1, 2, 3, 0] rfl ?_
      exact hK37 hf
    · replace hf := ab_in c59 hf
      refine xr_iload_n A dX5_recall_62 2 rfl rfl ?_
      refine xr_aload_n A dX5_recall_63 0 rfl rfl ?_
      revert hf; refine ab_bdI (fun v4 mv4 hf => ?_)
      refine xr_get A xc_X5 in_X5 3 (Nat.le_of_ble_eq_true rfl) q1301 rfl (ab_gRE mv4) dX5_recall_64 ?_
      revert hf; refine ab_bdI (fun a5 e hf => ?_); subst e
      revert hf; refine ab_bdI (fun v6 mv6 hf => ?_)
      refine xr_getN A xc_X15 in_X15 26 (Nat.le_of_ble_eq_true rfl) n1504 rfl (ab_gRE mv6) dX5_recall_67 ?_
      refine xr_iload_n A dX5_recall_70 3 rfl rfl ?_
      revert hf; refine ab_bdI (fun a7 e hf => ?_); subst e
      revert hf; refine ab_bdI (fun v8 mv8 hf => ?_)
      refine xr_iaload A mv8 dX5_recall_71 ?_
      refine xr_iload_n A dX5_recall_72 1 rfl rfl ?_
      refine xr_icmp_ne A (tgt := 93) dX5_recall_73 (by decide) (fun c73 => ?_) (fun c73 => ?_)
      · replace hf := ab_in c73 hf
        refine xr_iconst A (v := 0) dX5_recall_93 (by decide) ?_
        refine xr_ior A dX5_recall_94 ?_
        refine xr_istore_n A dX5_recall_95 rfl (Nat.le_of_ble_eq_true rfl) (L' := [(2, vI (l2 ||| (0 : Int32))), (0, vR (some x)), (1, vI l1), (3, vI l3), (4, vI l4)]) rfl ?_
        refine xr_iinc A dX5_recall_96 4 rfl (v := (l4 + (1 : Int32))) rfl (Nat.le_of_ble_eq_true rfl) (L' := [(4, vI (l4 + (1 : Int32))), (2, vI (l2 ||| (0 : Int32))), (0, vR (some x)), (1, vI l1), (3, vI l3)]) rfl ?_
        refine xr_goto A (tgt := 51) dX5_recall_99 (by decide) ?_
        refine X.sub [2, 3, 1, 4, 0] rfl ?_
        exact ih hf
      · replace hf := ab_ip c73 hf
        refine xr_iconst A (v := 1) dX5_recall_76 (by decide) ?_
        refine xr_aload_n A dX5_recall_77 0 rfl rfl ?_
        revert hf; refine ab_bdI (fun v9 mv9 hf => ?_)
        refine xr_get A xc_X5 in_X5 18 (Nat.le_of_ble_eq_true rfl) q1316 rfl (ab_gRE mv9) dX5_recall_78 ?_
        refine xr_bipush A (v := 6) dX5_recall_81 (by decide) ?_
        refine xr_iload_n A dX5_recall_83 3 rfl rfl ?_
        refine xr_imul A dX5_recall_84 ?_
        refine xr_iload A dX5_recall_85 4 rfl ?_
        refine xr_iadd A dX5_recall_87 ?_
        revert hf; refine ab_bdI (fun a10 e hf => ?_); subst e
        revert hf; refine ab_bdI (fun v11 mv11 hf => ?_)
        refine xr_iaload A mv11 dX5_recall_88 ?_
        refine xr_ishl A dX5_recall_89 ?_
        refine xr_goto A (tgt := 94) dX5_recall_90 (by decide) ?_
        refine xr_ior A dX5_recall_94 ?_
        refine xr_istore_n A dX5_recall_95 rfl (Nat.le_of_ble_eq_true rfl) (L' := [(2, vI (l2 ||| ((1 : Int32) <<< (v11 &&& 31)))), (0, vR (some x)), (1, vI l1), (3, vI l3), (4, vI l4)]) rfl ?_
        refine xr_iinc A dX5_recall_96 4 rfl (v := (l4 + (1 : Int32))) rfl (Nat.le_of_ble_eq_true rfl) (L' := [(4, vI (l4 + (1 : Int32))), (2, vI (l2 ||| ((1 : Int32) <<< (v11 &&& 31)))), (0, vR (some x)), (1, vI l1), (3, vI l3)]) rfl ?_
        refine xr_goto A (tgt := 51) dX5_recall_99 (by decide) ?_
        refine X.sub [2, 3, 1, 4, 0] rfl ?_
        exact ih hf
noncomputable def fX5_recall_l37 (x : Nat) : Nat → Int32 → Int32 → Int32 → Hp → Option (Int32 × Hp)
  | 0, _, _, _, _ => none
  | n + 1, l1, l2, l3, h =>
  ab_bd (ab_gR h x 4 3) fun v1 =>
  ab_bd v1 fun a2 =>
  ab_bd (ab_gI h a2 13 6) fun v3 =>
  if v3 ≤ l3 then (
    ab_b2 (fX5_done x l2 h) fun v6 h5 =>
    some (v6, h5))
  else (
    fX5_recall_l51 x (fX5_recall_l37 x n) (hfu h) l1 l2 l3 (0 : Int32) h)
theorem wX5_recall_l37 {D : Dd} {C : Cx} {h0 h' : Hp} {r : Int32} (A : Act C D (h0, (.inl (some (vI r))), h') yX5_recall cX5_recall 5 (some FieldType.int) 2 41 []) {x : Nat} : ∀ (n : Nat) {l1 : Int32} {l2 : Int32} {l3 : Int32} {h : Hp}, fX5_recall_l37 x n l1 l2 l3 h = some (r, h') → X C D (h0, (.inl (some (vI r))), h') 5 37 [(0, vR (some x)), (1, vI l1), (2, vI l2), (3, vI l3)] [] h := by
  intro n
  induction n with
  | zero => intro l1 l2 l3 h hf; exact ab_no hf
  | succ n ih =>
    intro l1 l2 l3 h hf
    unfold fX5_recall_l37 at hf
    refine xr_iload_n A dX5_recall_37 3 rfl rfl ?_
    refine xr_aload_n A dX5_recall_38 0 rfl rfl ?_
    revert hf; refine ab_bdI (fun v1 mv1 hf => ?_)
    refine xr_get A xc_X5 in_X5 3 (Nat.le_of_ble_eq_true rfl) q1301 rfl (ab_gRE mv1) dX5_recall_39 ?_
    revert hf; refine ab_bdI (fun a2 e hf => ?_); subst e
    revert hf; refine ab_bdI (fun v3 mv3 hf => ?_)
    refine xr_getN A xc_X15 in_X15 6 (Nat.le_of_ble_eq_true rfl) n1466 rfl (ab_gIE mv3) dX5_recall_42 ?_
    refine xr_icmp_ge A (tgt := 108) dX5_recall_45 (by decide) (fun c45 => ?_) (fun c45 => ?_)
    · replace hf := ab_ip c45 hf
      refine xr_aload_n A dX5_recall_108 0 rfl rfl ?_
      refine xr_iload_n A dX5_recall_109 2 rfl rfl ?_
      revert hf; refine ab_b2I (fun v6 h5 m4 hf => ?_)
      refine xr_V A bX5_done (wX5_done D m4).2 xc_X5 (wX5_done D m4).1 q1749 qs69 q1747 (av := [vI l2]) (rest := []) rfl dX5_recall_110 (Nat.le_of_ble_eq_true rfl) (Nat.le_of_ble_eq_true rfl) rfl (Nat.le_of_ble_eq_true rfl) ?_
      exact xr_ireturn A rfl hf dX5_recall_113
    · replace hf := ab_in c45 hf
      refine xr_iconst A (v := 0) dX5_recall_48 (by decide) ?_
      refine xr_istore A dX5_recall_49 (Nat.le_of_ble_eq_true rfl) (L' := [(4, vI (0 : Int32)), (0, vR (some x)), (1, vI l1), (2, vI l2), (3, vI l3)]) rfl ?_
      refine X.sub [1, 2, 3, 4, 0] rfl ?_
      exact wX5_recall_l51 A (fun hf => ih hf) _ hf
noncomputable def fX5_recall (x : Nat) (p1 : Int32) (h : Hp) : Option (Int32 × Hp) :=
  ab_ck h x 4 <|
  ab_bd (ab_pI h x 4 0 (0 : Int32)) fun h1 =>
  ab_bd (ab_gR h1 x 4 3) fun v2 =>
  ab_on v2 (
    fX5_recall_b27 x  h1) fun a3 => (
    if p1 < 0 then (
      fX5_recall_b27 x  h1)
    else (
      ab_bd (ab_gR h1 x 4 3) fun v4 =>
      ab_bd v4 fun a5 =>
      ab_bd (ab_gI h1 a5 13 2) fun v6 =>
      if p1 < v6 then (
        fX5_recall_l37 x (hfu h1) p1 (0 : Int32) (0 : Int32) h1)
      else (
        fX5_recall_b27 x  h1)))
theorem wX5_recall (D : Dd) {x : Nat} {p1 : Int32} {h : Hp} {r : Int32} {h' : Hp} (hf : fX5_recall x p1 h = some (r, h')) : ab_is h x 4 ∧ Ct D 2 41 yX5_recall cX5_recall 5 (some FieldType.int) [vR (some x), vI p1] h (.inl (some (vI r))) h' := by
    unfold fX5_recall at hf
    replace hf := ab_ckE hf; obtain ⟨i0, hf⟩ := hf
    refine ⟨i0, ?_⟩
    refine Ct.of (by decide) (L := [(0, vR (some x)), (1, vI p1)]) rfl (Nat.le_of_ble_eq_true rfl) (fun C A => ?_)
    refine xr_aload_n A dX5_recall_0 0 rfl rfl ?_
    refine xr_iconst A (v := 0) dX5_recall_1 (by decide) ?_
    revert hf; refine ab_bdI (fun h1 mh1 hf => ?_)
    refine xr_put A xc_X5 in_X5 tyX5_ok nmX5 0 (Nat.le_of_ble_eq_true rfl) q1298 rfl rfl (v := vI (0 : Int32)) rfl rfl mh1 dX5_recall_2 ?_
    refine xr_aload_n A dX5_recall_5 0 rfl rfl ?_
    revert hf; refine ab_bdI (fun v2 mv2 hf => ?_)
    refine xr_get A xc_X5 in_X5 3 (Nat.le_of_ble_eq_true rfl) q1301 rfl (ab_gRE mv2) dX5_recall_6 ?_
    revert hf; refine ab_onI (fun e hf => ?_) (fun a3 e hf => ?_) <;> subst e
    · refine xr_ifnull A (tgt := 27) dX5_recall_9 (by decide) (fun _ => ?_) (fun _ e => by cases e)
      refine X.sub [0] rfl ?_
      exact wX5_recall_b27 A hf
    · refine xr_ifnull A (tgt := 27) dX5_recall_9 (by decide) (fun e => by cases e) (fun _ _ => ?_)
      refine xr_iload_n A dX5_recall_12 1 rfl rfl ?_
      refine xr_if_lt A (tgt := 27) dX5_recall_13 (by decide) (fun c13 => ?_) (fun c13 => ?_)
      · replace hf := ab_ip c13 hf
        refine X.sub [0] rfl ?_
        exact wX5_recall_b27 A hf
      · replace hf := ab_in c13 hf
        refine xr_iload_n A dX5_recall_16 1 rfl rfl ?_
        refine xr_aload_n A dX5_recall_17 0 rfl rfl ?_
        revert hf; refine ab_bdI (fun v4 mv4 hf => ?_)
        refine xr_get A xc_X5 in_X5 3 (Nat.le_of_ble_eq_true rfl) q1301 rfl (ab_gRE mv4) dX5_recall_18 ?_
        revert hf; refine ab_bdI (fun a5 e hf => ?_); subst e
        revert hf; refine ab_bdI (fun v6 mv6 hf => ?_)
        refine xr_getN A xc_X15 in_X15 2 (Nat.le_of_ble_eq_true rfl) n1462 rfl (ab_gIE mv6) dX5_recall_21 ?_
        refine xr_icmp_lt A (tgt := 33) dX5_recall_24 (by decide) (fun c24 => ?_) (fun c24 => ?_)
        · replace hf := ab_ip c24 hf
          refine xr_iconst A (v := 0) dX5_recall_33 (by decide) ?_
          refine xr_istore_n A dX5_recall_34 rfl (Nat.le_of_ble_eq_true rfl) (L' := [(2, vI (0 : Int32)), (0, vR (some x)), (1, vI p1)]) rfl ?_
          refine xr_iconst A (v := 0) dX5_recall_35 (by decide) ?_
          refine xr_istore_n A dX5_recall_36 rfl (Nat.le_of_ble_eq_true rfl) (L' := [(3, vI (0 : Int32)), (2, vI (0 : Int32)), (0, vR (some x)), (1, vI p1)]) rfl ?_
          refine X.sub [2, 3, 1, 0] rfl ?_
          exact wX5_recall_l37 A _ hf
        · replace hf := ab_in c24 hf
          refine X.sub [0] rfl ?_
          exact wX5_recall_b27 A hf
/-! X5_led -/
theorem bX5_led : MB yX5_led cX5_led 3 (some FieldType.int) 2 := ⟨q1982, q99, by decide, by decide +kernel⟩
noncomputable def fX5_led_b28 (x : Nat) (l1 : Int32) (l2 : Int32) (s0 : Int32) (s1 : Nat) (h : Hp) : Option (Int32 × Hp) :=
  ab_bd (ab_pI h s1 4 0 s0) fun h1 =>
  ab_bd (ab_gI h1 x 4 0) fun v2 =>
  if v2 ≤ 0 then (
    ab_bd (ab_gR h1 x 4 18) fun v3 =>
    ab_bd v3 fun a4 =>
    ab_bd (ab_aI h1 a4 0 (((6 : Int32) * l1) + l2)) fun v5 =>
    some (v5, h1))
  else (
    some ((0 : Int32), h1))
theorem wX5_led_b28 {D : Dd} {C : Cx} {h0 h' : Hp} {r : Int32} (A : Act C D (h0, (.inl (some (vI r))), h') yX5_led cX5_led 3 (some FieldType.int) 2 41 []) {x : Nat} {l1 : Int32} {l2 : Int32} {s0 : Int32} {s1 : Nat} {h : Hp} (hf : fX5_led_b28 x l1 l2 s0 s1 h = some (r, h')) : X C D (h0, (.inl (some (vI r))), h') 3 28 [(0, vR (some x)), (1, vI l1), (2, vI l2)] [vI s0, vR (some s1)] h := by
  unfold fX5_led_b28 at hf
  revert hf; refine ab_bdI (fun h1 mh1 hf => ?_)
  refine xr_put A xc_X5 in_X5 tyX5_ok nmX5 0 (Nat.le_of_ble_eq_true rfl) q1298 rfl rfl (v := vI s0) rfl rfl mh1 dX5_led_28 ?_
  refine xr_aload_n A dX5_led_31 0 rfl rfl ?_
  revert hf; refine ab_bdI (fun v2 mv2 hf => ?_)
  refine xr_get A xc_X5 in_X5 0 (Nat.le_of_ble_eq_true rfl) q1298 rfl (ab_gIE mv2) dX5_led_32 ?_
  refine xr_if_le A (tgt := 42) dX5_led_35 (by decide) (fun c35 => ?_) (fun c35 => ?_)
  · replace hf := ab_ip c35 hf
    refine xr_aload_n A dX5_led_42 0 rfl rfl ?_
    revert hf; refine ab_bdI (fun v3 mv3 hf => ?_)
    refine xr_get A xc_X5 in_X5 18 (Nat.le_of_ble_eq_true rfl) q1316 rfl (ab_gRE mv3) dX5_led_43 ?_
    refine xr_bipush A (v := 6) dX5_led_46 (by decide) ?_
    refine xr_iload_n A dX5_led_48 1 rfl rfl ?_
    refine xr_imul A dX5_led_49 ?_
    refine xr_iload_n A dX5_led_50 2 rfl rfl ?_
    refine xr_iadd A dX5_led_51 ?_
    revert hf; refine ab_bdI (fun a4 e hf => ?_); subst e
    revert hf; refine ab_bdI (fun v5 mv5 hf => ?_)
    refine xr_iaload A mv5 dX5_led_52 ?_
    exact xr_ireturn A rfl hf dX5_led_53
  · replace hf := ab_in c35 hf
    refine xr_iconst A (v := 0) dX5_led_38 (by decide) ?_
    refine xr_goto A (tgt := 53) dX5_led_39 (by decide) ?_
    exact xr_ireturn A rfl hf dX5_led_53
noncomputable def fX5_led (x : Nat) (p1 : Int32) (p2 : Int32) (h : Hp) : Option (Int32 × Hp) :=
  ab_ck h x 4 <|
  ab_b2 (fX5_isCar x p1 h) fun v3 h2 =>
  if v3 = 0 then (
    fX5_led_b28 x p1 p2 (1 : Int32) x h2)
  else (
    if p2 < 0 then (
      fX5_led_b28 x p1 p2 (1 : Int32) x h2)
    else (
      ab_bd (ab_gR h2 x 4 17) fun v4 =>
      ab_bd v4 fun a5 =>
      ab_bd (ab_aI h2 a5 0 p1) fun v6 =>
      if v6 ≤ p2 then (
        fX5_led_b28 x p1 p2 (1 : Int32) x h2)
      else (
        fX5_led_b28 x p1 p2 (0 : Int32) x h2)))
theorem wX5_led (D : Dd) {x : Nat} {p1 : Int32} {p2 : Int32} {h : Hp} {r : Int32} {h' : Hp} (hf : fX5_led x p1 p2 h = some (r, h')) : ab_is h x 4 ∧ Ct D 2 41 yX5_led cX5_led 3 (some FieldType.int) [vR (some x), vI p1, vI p2] h (.inl (some (vI r))) h' := by
    unfold fX5_led at hf
    replace hf := ab_ckE hf; obtain ⟨i0, hf⟩ := hf
    refine ⟨i0, ?_⟩
    refine Ct.of (by decide) (L := [(0, vR (some x)), (1, vI p1), (2, vI p2)]) rfl (Nat.le_of_ble_eq_true rfl) (fun C A => ?_)
    refine xr_aload_n A dX5_led_0 0 rfl rfl ?_
    refine xr_aload_n A dX5_led_1 0 rfl rfl ?_
    refine xr_iload_n A dX5_led_2 1 rfl rfl ?_
    revert hf; refine ab_b2I (fun v3 h2 m1 hf => ?_)
    refine xr_V A bX5_isCar (wX5_isCar D m1).2 xc_X5 (wX5_isCar D m1).1 q1765 qs70 q1763 (av := [vI p1]) (rest := [vR (some x)]) rfl dX5_led_3 (Nat.le_of_ble_eq_true rfl) (Nat.le_of_ble_eq_true rfl) rfl (Nat.le_of_ble_eq_true rfl) ?_
    refine xr_if_eq A (tgt := 27) dX5_led_6 (by decide) (fun c6 => ?_) (fun c6 => ?_)
    · replace hf := ab_ip c6 hf
      refine xr_iconst A (v := 1) dX5_led_27 (by decide) ?_
      exact wX5_led_b28 A hf
    · replace hf := ab_in c6 hf
      refine xr_iload_n A dX5_led_9 2 rfl rfl ?_
      refine xr_if_lt A (tgt := 27) dX5_led_10 (by decide) (fun c10 => ?_) (fun c10 => ?_)
      · replace hf := ab_ip c10 hf
        refine xr_iconst A (v := 1) dX5_led_27 (by decide) ?_
        exact wX5_led_b28 A hf
      · replace hf := ab_in c10 hf
        refine xr_iload_n A dX5_led_13 2 rfl rfl ?_
        refine xr_aload_n A dX5_led_14 0 rfl rfl ?_
        revert hf; refine ab_bdI (fun v4 mv4 hf => ?_)
        refine xr_get A xc_X5 in_X5 17 (Nat.le_of_ble_eq_true rfl) q1315 rfl (ab_gRE mv4) dX5_led_15 ?_
        refine xr_iload_n A dX5_led_18 1 rfl rfl ?_
        revert hf; refine ab_bdI (fun a5 e hf => ?_); subst e
        revert hf; refine ab_bdI (fun v6 mv6 hf => ?_)
        refine xr_iaload A mv6 dX5_led_19 ?_
        refine xr_icmp_ge A (tgt := 27) dX5_led_20 (by decide) (fun c20 => ?_) (fun c20 => ?_)
        · replace hf := ab_ip c20 hf
          refine xr_iconst A (v := 1) dX5_led_27 (by decide) ?_
          exact wX5_led_b28 A hf
        · replace hf := ab_in c20 hf
          refine xr_iconst A (v := 0) dX5_led_23 (by decide) ?_
          refine xr_goto A (tgt := 28) dX5_led_24 (by decide) ?_
          exact wX5_led_b28 A hf
/-! X5_size -/
theorem bX5_size : MB yX5_size cX5_size 2 (some FieldType.int) 1 := ⟨q1986, q99, by decide, by decide +kernel⟩
noncomputable def fX5_size (x : Nat) (p1 : Int32) (h : Hp) : Option (Int32 × Hp) :=
  ab_ck h x 4 <|
  ab_bd (ab_pI h x 4 0 (0 : Int32)) fun h1 =>
  if p1 = (10 : Int32) then (
    ab_bd (ab_gI h1 x 4 6) fun v33 =>
    some (v33, h1))
  else (
    ab_b2 (fX5_in p1 (0 : Int32) (9 : Int32) h1) fun v4 h3 =>
    if v4 = 0 then (
      some ((-1 : Int32), h3))
    else (
      ab_bd (ab_gR h3 x 4 3) fun v5 =>
      ab_on v5 (
        some ((0 : Int32), h3)) fun a6 => (
        if p1 = (0 : Int32) then (
          ab_bd (ab_gR h3 x 4 3) fun v7 =>
          ab_bd v7 fun a8 =>
          ab_bd (ab_gI h3 a8 13 2) fun v9 =>
          some (v9, h3))
        else
        if p1 = (1 : Int32) then (
          ab_bd (ab_gR h3 x 4 3) fun v10 =>
          ab_bd v10 fun a11 =>
          ab_bd (ab_gI h3 a11 13 3) fun v12 =>
          some (v12, h3))
        else
        if p1 = (2 : Int32) then (
          ab_bd (ab_gR h3 x 4 3) fun v13 =>
          ab_bd v13 fun a14 =>
          ab_bd (ab_gI h3 a14 13 4) fun v15 =>
          some (v15, h3))
        else
        if p1 = (3 : Int32) then (
          ab_bd (ab_gR h3 x 4 3) fun v16 =>
          ab_bd v16 fun a17 =>
          ab_bd (ab_gI h3 a17 13 5) fun v18 =>
          some (v18, h3))
        else
        if p1 = (4 : Int32) then (
          ab_bd (ab_gR h3 x 4 3) fun v19 =>
          ab_bd v19 fun a20 =>
          ab_bd (ab_gI h3 a20 13 6) fun v21 =>
          some (v21, h3))
        else
        if p1 = (5 : Int32) then (
          ab_bd (ab_gR h3 x 4 3) fun v22 =>
          ab_bd v22 fun a23 =>
          ab_bd (ab_gI h3 a23 13 7) fun v24 =>
          some (v24, h3))
        else
        if p1 = (6 : Int32) then (
          ab_bd (ab_gR h3 x 4 3) fun v25 =>
          ab_bd v25 fun a26 =>
          ab_bd (ab_gI h3 a26 13 8) fun v27 =>
          some (v27, h3))
        else
        if p1 = (7 : Int32) then (
          ab_bd (ab_gR h3 x 4 3) fun v28 =>
          ab_bd v28 fun a29 =>
          ab_bd (ab_gI h3 a29 13 9) fun v30 =>
          some (v30, h3))
        else
        if p1 = (8 : Int32) then (
          ab_bd (ab_gI h3 x 4 42) fun v31 =>
          some (v31, h3))
        else
        ab_bd (ab_gI h3 x 4 19) fun v32 =>
        some (v32, h3))))
theorem wX5_size (D : Dd) {x : Nat} {p1 : Int32} {h : Hp} {r : Int32} {h' : Hp} (hf : fX5_size x p1 h = some (r, h')) : ab_is h x 4 ∧ Ct D 2 42 yX5_size cX5_size 2 (some FieldType.int) [vR (some x), vI p1] h (.inl (some (vI r))) h' := by
    unfold fX5_size at hf
    replace hf := ab_ckE hf; obtain ⟨i0, hf⟩ := hf
    refine ⟨i0, ?_⟩
    refine Ct.of (by decide) (L := [(0, vR (some x)), (1, vI p1)]) rfl (Nat.le_of_ble_eq_true rfl) (fun C A => ?_)
    refine xr_aload_n A dX5_size_0 0 rfl rfl ?_
    refine xr_iconst A (v := 0) dX5_size_1 (by decide) ?_
    revert hf; refine ab_bdI (fun h1 mh1 hf => ?_)
    refine xr_put A xc_X5 in_X5 tyX5_ok nmX5 0 (Nat.le_of_ble_eq_true rfl) q1298 rfl rfl (v := vI (0 : Int32)) rfl rfl mh1 dX5_size_2 ?_
    refine xr_iload_n A dX5_size_5 1 rfl rfl ?_
    refine xr_bipush A (v := 10) dX5_size_6 (by decide) ?_
    refine xr_icmp_ne A (tgt := 16) dX5_size_8 (by decide) (fun c8 => ?_) (fun c8 => ?_)
    · replace hf := ab_in c8 hf
      refine xr_iload_n A dX5_size_16 1 rfl rfl ?_
      refine xr_iconst A (v := 0) dX5_size_17 (by decide) ?_
      refine xr_bipush A (v := 9) dX5_size_18 (by decide) ?_
      revert hf; refine ab_b2I (fun v4 h3 m2 hf => ?_)
      refine xr_S A bX5_in (wX5_in D m2) q1657 q1656 (av := [vI p1, vI (0 : Int32), vI (9 : Int32)]) (rest := []) rfl dX5_size_20 (Nat.le_of_ble_eq_true rfl) (Nat.le_of_ble_eq_true rfl) rfl (Nat.le_of_ble_eq_true rfl) ?_
      refine xr_if_ne A (tgt := 28) dX5_size_23 (by decide) (fun c23 => ?_) (fun c23 => ?_)
      · replace hf := ab_in c23 hf
        refine xr_aload_n A dX5_size_28 0 rfl rfl ?_
        revert hf; refine ab_bdI (fun v5 mv5 hf => ?_)
        refine xr_get A xc_X5 in_X5 3 (Nat.le_of_ble_eq_true rfl) q1301 rfl (ab_gRE mv5) dX5_size_29 ?_
        revert hf; refine ab_onI (fun e hf => ?_) (fun a6 e hf => ?_) <;> subst e
        · refine xr_ifnonnull A (tgt := 37) dX5_size_32 (by decide) (fun _ e => by cases e) (fun _ => ?_)
          refine xr_iconst A (v := 0) dX5_size_35 (by decide) ?_
          exact xr_ireturn A rfl hf dX5_size_36
        · refine xr_ifnonnull A (tgt := 37) dX5_size_32 (by decide) (fun _ _ => ?_) (fun e => by cases e)
          refine xr_iload_n A dX5_size_37 1 rfl rfl ?_
          by_cases c38_0 : p1 = (0 : Int32)
          · replace hf := ab_ip c38_0 hf
            refine xr_tabIn A (tgt := 88) dX5_size_38 (by rw [c38_0]; decide) (by rw [c38_0]; decide) (by rw [c38_0]; rfl) (by decide) ?_
            refine xr_aload_n A dX5_size_88 0 rfl rfl ?_
            revert hf; refine ab_bdI (fun v7 mv7 hf => ?_)
            refine xr_get A xc_X5 in_X5 3 (Nat.le_of_ble_eq_true rfl) q1301 rfl (ab_gRE mv7) dX5_size_89 ?_
            revert hf; refine ab_bdI (fun a8 e hf => ?_); subst e
            revert hf; refine ab_bdI (fun v9 mv9 hf => ?_)
            refine xr_getN A xc_X15 in_X15 2 (Nat.le_of_ble_eq_true rfl) n1462 rfl (ab_gIE mv9) dX5_size_92 ?_
            exact xr_ireturn A rfl hf dX5_size_95
          replace hf := ab_in c38_0 hf
          by_cases c38_1 : p1 = (1 : Int32)
          · replace hf := ab_ip c38_1 hf
            refine xr_tabIn A (tgt := 96) dX5_size_38 (by rw [c38_1]; decide) (by rw [c38_1]; decide) (by rw [c38_1]; rfl) (by decide) ?_
            refine xr_aload_n A dX5_size_96 0 rfl rfl ?_
            revert hf; refine ab_bdI (fun v10 mv10 hf => ?_)
            refine xr_get A xc_X5 in_X5 3 (Nat.le_of_ble_eq_true rfl) q1301 rfl (ab_gRE mv10) dX5_size_97 ?_
            revert hf; refine ab_bdI (fun a11 e hf => ?_); subst e
            revert hf; refine ab_bdI (fun v12 mv12 hf => ?_)
            refine xr_getN A xc_X15 in_X15 3 (Nat.le_of_ble_eq_true rfl) n1463 rfl (ab_gIE mv12) dX5_size_100 ?_
            exact xr_ireturn A rfl hf dX5_size_103
          replace hf := ab_in c38_1 hf
          by_cases c38_2 : p1 = (2 : Int32)
          · replace hf := ab_ip c38_2 hf
            refine xr_tabIn A (tgt := 104) dX5_size_38 (by rw [c38_2]; decide) (by rw [c38_2]; decide) (by rw [c38_2]; rfl) (by decide) ?_
            refine xr_aload_n A dX5_size_104 0 rfl rfl ?_
            revert hf; refine ab_bdI (fun v13 mv13 hf => ?_)
            refine xr_get A xc_X5 in_X5 3 (Nat.le_of_ble_eq_true rfl) q1301 rfl (ab_gRE mv13) dX5_size_105 ?_
            revert hf; refine ab_bdI (fun a14 e hf => ?_); subst e
            revert hf; refine ab_bdI (fun v15 mv15 hf => ?_)
            refine xr_getN A xc_X15 in_X15 4 (Nat.le_of_ble_eq_true rfl) n1464 rfl (ab_gIE mv15) dX5_size_108 ?_
            exact xr_ireturn A rfl hf dX5_size_111
          replace hf := ab_in c38_2 hf
          by_cases c38_3 : p1 = (3 : Int32)
          · replace hf := ab_ip c38_3 hf
            refine xr_tabIn A (tgt := 112) dX5_size_38 (by rw [c38_3]; decide) (by rw [c38_3]; decide) (by rw [c38_3]; rfl) (by decide) ?_
            refine xr_aload_n A dX5_size_112 0 rfl rfl ?_
            revert hf; refine ab_bdI (fun v16 mv16 hf => ?_)
            refine xr_get A xc_X5 in_X5 3 (Nat.le_of_ble_eq_true rfl) q1301 rfl (ab_gRE mv16) dX5_size_113 ?_
            revert hf; refine ab_bdI (fun a17 e hf => ?_); subst e
            revert hf; refine ab_bdI (fun v18 mv18 hf => ?_)
            refine xr_getN A xc_X15 in_X15 5 (Nat.le_of_ble_eq_true rfl) n1465 rfl (ab_gIE mv18) dX5_size_116 ?_
            exact xr_ireturn A rfl hf dX5_size_119
          replace hf := ab_in c38_3 hf
          by_cases c38_4 : p1 = (4 : Int32)
          · replace hf := ab_ip c38_4 hf
            refine xr_tabIn A (tgt := 120) dX5_size_38 (by rw [c38_4]; decide) (by rw [c38_4]; decide) (by rw [c38_4]; rfl) (by decide) ?_
            refine xr_aload_n A dX5_size_120 0 rfl rfl ?_
            revert hf; refine ab_bdI (fun v19 mv19 hf => ?_)
            refine xr_get A xc_X5 in_X5 3 (Nat.le_of_ble_eq_true rfl) q1301 rfl (ab_gRE mv19) dX5_size_121 ?_
            revert hf; refine ab_bdI (fun a20 e hf => ?_); subst e
            revert hf; refine ab_bdI (fun v21 mv21 hf => ?_)
            refine xr_getN A xc_X15 in_X15 6 (Nat.le_of_ble_eq_true rfl) n1466 rfl (ab_gIE mv21) dX5_size_124 ?_
            exact xr_ireturn A rfl hf dX5_size_127
          replace hf := ab_in c38_4 hf
          by_cases c38_5 : p1 = (5 : Int32)
          · replace hf := ab_ip c38_5 hf
            refine xr_tabIn A (tgt := 128) dX5_size_38 (by rw [c38_5]; decide) (by rw [c38_5]; decide) (by rw [c38_5]; rfl) (by decide) ?_
            refine xr_aload_n A dX5_size_128 0 rfl rfl ?_
            revert hf; refine ab_bdI (fun v22 mv22 hf => ?_)
            refine xr_get A xc_X5 in_X5 3 (Nat.le_of_ble_eq_true rfl) q1301 rfl (ab_gRE mv22) dX5_size_129 ?_
            revert hf; refine ab_bdI (fun a23 e hf => ?_); subst e
            revert hf; refine ab_bdI (fun v24 mv24 hf => ?_)
            refine xr_getN A xc_X15 in_X15 7 (Nat.le_of_ble_eq_true rfl) n1468 rfl (ab_gIE mv24) dX5_size_132 ?_
            exact xr_ireturn A rfl hf dX5_size_135
          replace hf := ab_in c38_5 hf
          by_cases c38_6 : p1 = (6 : Int32)
          · replace hf := ab_ip c38_6 hf
            refine xr_tabIn A (tgt := 136) dX5_size_38 (by rw [c38_6]; decide) (by rw [c38_6]; decide) (by rw [c38_6]; rfl) (by decide) ?_
            refine xr_aload_n A dX5_size_136 0 rfl rfl ?_
            revert hf; refine ab_bdI (fun v25 mv25 hf => ?_)
            refine xr_get A xc_X5 in_X5 3 (Nat.le_of_ble_eq_true rfl) q1301 rfl (ab_gRE mv25) dX5_size_137 ?_
            revert hf; refine ab_bdI (fun a26 e hf => ?_); subst e
            revert hf; refine ab_bdI (fun v27 mv27 hf => ?_)
            refine xr_getN A xc_X15 in_X15 8 (Nat.le_of_ble_eq_true rfl) n1469 rfl (ab_gIE mv27) dX5_size_140 ?_
            exact xr_ireturn A rfl hf dX5_size_143
          replace hf := ab_in c38_6 hf
          by_cases c38_7 : p1 = (7 : Int32)
          · replace hf := ab_ip c38_7 hf
            refine xr_tabIn A (tgt := 144) dX5_size_38 (by rw [c38_7]; decide) (by rw [c38_7]; decide) (by rw [c38_7]; rfl) (by decide) ?_
            refine xr_aload_n A dX5_size_144 0 rfl rfl ?_
            revert hf; refine ab_bdI (fun v28 mv28 hf => ?_)
            refine xr_get A xc_X5 in_X5 3 (Nat.le_of_ble_eq_true rfl) q1301 rfl (ab_gRE mv28) dX5_size_145 ?_
            revert hf; refine ab_bdI (fun a29 e hf => ?_); subst e
            revert hf; refine ab_bdI (fun v30 mv30 hf => ?_)
            refine xr_getN A xc_X15 in_X15 9 (Nat.le_of_ble_eq_true rfl) n1470 rfl (ab_gIE mv30) dX5_size_148 ?_
            exact xr_ireturn A rfl hf dX5_size_151
          replace hf := ab_in c38_7 hf
          by_cases c38_8 : p1 = (8 : Int32)
          · replace hf := ab_ip c38_8 hf
            refine xr_tabIn A (tgt := 152) dX5_size_38 (by rw [c38_8]; decide) (by rw [c38_8]; decide) (by rw [c38_8]; rfl) (by decide) ?_
            refine xr_aload_n A dX5_size_152 0 rfl rfl ?_
            revert hf; refine ab_bdI (fun v31 mv31 hf => ?_)
            refine xr_get A xc_X5 in_X5 42 (Nat.le_of_ble_eq_true rfl) q1340 rfl (ab_gIE mv31) dX5_size_153 ?_
            exact xr_ireturn A rfl hf dX5_size_156
          replace hf := ab_in c38_8 hf
          refine xr_tabOut A (tgt := 157) dX5_size_38 (ab_tab 0 8 (by decide) [(0 : Int32), (1 : Int32), (2 : Int32), (3 : Int32), (4 : Int32), (5 : Int32), (6 : Int32), (7 : Int32), (8 : Int32)] rfl (by simp only [List.forall_mem_cons]; exact ⟨c38_0, c38_1, c38_2, c38_3, c38_4, c38_5, c38_6, c38_7, c38_8, fun _ h => absurd h List.not_mem_nil⟩)) (by decide) ?_
          refine xr_aload_n A dX5_size_157 0 rfl rfl ?_
          revert hf; refine ab_bdI (fun v32 mv32 hf => ?_)
          refine xr_get A xc_X5 in_X5 19 (Nat.le_of_ble_eq_true rfl) q1317 rfl (ab_gIE mv32) dX5_size_158 ?_
          exact xr_ireturn A rfl hf dX5_size_161
      · replace hf := ab_ip c23 hf
        refine xr_iconst A (v := (-1)) dX5_size_26 (by decide) ?_
        exact xr_ireturn A rfl hf dX5_size_27
    · replace hf := ab_ip c8 hf
      refine xr_aload_n A dX5_size_11 0 rfl rfl ?_
      revert hf; refine ab_bdI (fun v33 mv33 hf => ?_)
      refine xr_get A xc_X5 in_X5 6 (Nat.le_of_ble_eq_true rfl) q1304 rfl (ab_gIE mv33) dX5_size_12 ?_
      exact xr_ireturn A rfl hf dX5_size_15
/-! X5_trouble -/
theorem bX5_trouble : MB yX5_trouble cX5_trouble 1 (some FieldType.int) 0 := ⟨q1990, q99, by decide, by decide +kernel⟩
noncomputable def fX5_trouble (x : Nat) (h : Hp) : Option (Int32 × Hp) :=
  ab_ck h x 4 <|
  ab_bd (ab_pI h x 4 0 (0 : Int32)) fun h1 =>
  ab_bd (ab_gI h1 x 4 1) fun v2 =>
  some (v2, h1)
theorem wX5_trouble (D : Dd) {x : Nat} {h : Hp} {r : Int32} {h' : Hp} (hf : fX5_trouble x h = some (r, h')) : ab_is h x 4 ∧ Ct D 1 20 yX5_trouble cX5_trouble 1 (some FieldType.int) [vR (some x)] h (.inl (some (vI r))) h' := by
    unfold fX5_trouble at hf
    replace hf := ab_ckE hf; obtain ⟨i0, hf⟩ := hf
    refine ⟨i0, ?_⟩
    refine Ct.of (by decide) (L := [(0, vR (some x))]) rfl (Nat.le_of_ble_eq_true rfl) (fun C A => ?_)
    refine xr_aload_n A dX5_trouble_0 0 rfl rfl ?_
    refine xr_iconst A (v := 0) dX5_trouble_1 (by decide) ?_
    revert hf; refine ab_bdI (fun h1 mh1 hf => ?_)
    refine xr_put A xc_X5 in_X5 tyX5_ok nmX5 0 (Nat.le_of_ble_eq_true rfl) q1298 rfl rfl (v := vI (0 : Int32)) rfl rfl mh1 dX5_trouble_2 ?_
    refine xr_aload_n A dX5_trouble_5 0 rfl rfl ?_
    revert hf; refine ab_bdI (fun v2 mv2 hf => ?_)
    refine xr_get A xc_X5 in_X5 1 (Nat.le_of_ble_eq_true rfl) q1299 rfl (ab_gIE mv2) dX5_trouble_6 ?_
    exact xr_ireturn A rfl hf dX5_trouble_9
/-! L_law -/
noncomputable def fL_law_l23 : Nat → Option Nat → Nat → Nat → Nat → Int32 → Hp → Option (Int32 × Hp)
  | 0, _, _, _, _, _, _ => none
  | n + 1, l0, l1, l2, l3, l4, h =>
  ab_bd l0 fun a1 =>
  ab_bd (ab_len h a1) fun v2 =>
  if (v2 - (6 : Int32)) < l4 then (
    some ((1 : Int32), h))
  else (
    ab_bd (ab_aI h a1 0 l4) fun v3 =>
    if (v3 &&& (63 : Int32)) = (0 : Int32) then (
      ab_bd (ab_aI h a1 0 (l4 + (1 : Int32))) fun v4 =>
      ab_bd (ab_aI h a1 0 (l4 + (2 : Int32))) fun v5 =>
      ab_bd (ab_aI h a1 0 (l4 + (3 : Int32))) fun v6 =>
      ab_bd (ab_aI h a1 0 (l4 + (4 : Int32))) fun v7 =>
      ab_bd (ab_aI h a1 0 (l4 + (5 : Int32))) fun v8 =>
      ab_b2 (fX1_feed l1 v4 v5 v6 v7 v8 h) fun v11 h10 =>
      ab_bd (ab_aI h10 a1 0 (l4 + (1 : Int32))) fun v12 =>
      ab_bd (ab_aI h10 a1 0 (l4 + (2 : Int32))) fun v13 =>
      ab_bd (ab_aI h10 a1 0 (l4 + (3 : Int32))) fun v14 =>
      ab_bd (ab_aI h10 a1 0 (l4 + (4 : Int32))) fun v15 =>
      ab_bd (ab_aI h10 a1 0 (l4 + (5 : Int32))) fun v16 =>
      ab_b2 (fX5_feed l2 v12 v13 v14 v15 v16 h10) fun v19 h18 =>
      if v11 = v19 then (
        fL_law_l23 n (some a1) l1 l2 l3 (l4 + (6 : Int32)) h18)
      else (
        some ((0 : Int32), h18)))
    else
    if (v3 &&& (63 : Int32)) = (1 : Int32) then (
      ab_bd (ab_aI h a1 0 (l4 + (1 : Int32))) fun v20 =>
      ab_b2 (fX1_day l1 v20 h) fun v23 h22 =>
      ab_bd (ab_aI h22 a1 0 (l4 + (1 : Int32))) fun v24 =>
      ab_b2 (fX5_day l2 v24 h22) fun v27 h26 =>
      if v23 = v27 then (
        fL_law_l23 n (some a1) l1 l2 l3 (l4 + (6 : Int32)) h26)
      else (
        some ((0 : Int32), h26)))
    else
    if (v3 &&& (63 : Int32)) = (2 : Int32) then (
      ab_b2 (fX1_fault l1 h) fun v30 h29 =>
      ab_b2 (fX5_fault l2 h29) fun v33 h32 =>
      if v30 = v33 then (
        fL_law_l23 n (some a1) l1 l2 l3 (l4 + (6 : Int32)) h32)
      else (
        some ((0 : Int32), h32)))
    else
    if (v3 &&& (63 : Int32)) = (3 : Int32) then (
      ab_b2 (fX1_where l1 h) fun v36 h35 =>
      ab_b2 (fX5_where l2 h35) fun v39 h38 =>
      if v36 = v39 then (
        fL_law_l23 n (some a1) l1 l2 l3 (l4 + (6 : Int32)) h38)
      else (
        some ((0 : Int32), h38)))
    else
    if (v3 &&& (63 : Int32)) = (4 : Int32) then (
      ab_bd (ab_aI h a1 0 (l4 + (1 : Int32))) fun v40 =>
      ab_bd (ab_aI h a1 0 (l4 + (2 : Int32))) fun v41 =>
      ab_b2 (fX1_drive l1 v40 v41 h) fun v44 h43 =>
      ab_bd (ab_aI h43 a1 0 (l4 + (1 : Int32))) fun v45 =>
      ab_bd (ab_aI h43 a1 0 (l4 + (2 : Int32))) fun v46 =>
      ab_b2 (fX5_drive l2 v45 v46 h43) fun v49 h48 =>
      if v44 = v49 then (
        fL_law_l23 n (some a1) l1 l2 l3 (l4 + (6 : Int32)) h48)
      else (
        some ((0 : Int32), h48)))
    else
    if (v3 &&& (63 : Int32)) = (5 : Int32) then (
      ab_bd (ab_aI h a1 0 (l4 + (1 : Int32))) fun v50 =>
      ab_b2 (fX1_unload l1 v50 h) fun v53 h52 =>
      ab_bd (ab_aI h52 a1 0 (l4 + (1 : Int32))) fun v54 =>
      ab_b2 (fX5_unload l2 v54 h52) fun v57 h56 =>
      if v53 = v57 then (
        fL_law_l23 n (some a1) l1 l2 l3 (l4 + (6 : Int32)) h56)
      else (
        some ((0 : Int32), h56)))
    else
    if (v3 &&& (63 : Int32)) = (6 : Int32) then (
      ab_bd (ab_aI h a1 0 (l4 + (1 : Int32))) fun v58 =>
      ab_b2 (fX1_tea l1 v58 h) fun v61 h60 =>
      ab_bd (ab_aI h60 a1 0 (l4 + (1 : Int32))) fun v62 =>
      ab_b2 (fX5_tea l2 v62 h60) fun v65 h64 =>
      if v61 = v65 then (
        fL_law_l23 n (some a1) l1 l2 l3 (l4 + (6 : Int32)) h64)
      else (
        some ((0 : Int32), h64)))
    else
    if (v3 &&& (63 : Int32)) = (7 : Int32) then (
      ab_bd (ab_aI h a1 0 (l4 + (1 : Int32))) fun v66 =>
      ab_b2 (fX1_comes l1 v66 h) fun v69 h68 =>
      ab_bd (ab_aI h68 a1 0 (l4 + (1 : Int32))) fun v70 =>
      ab_b2 (fX5_comes l2 v70 h68) fun v73 h72 =>
      if v69 = v73 then (
        fL_law_l23 n (some a1) l1 l2 l3 (l4 + (6 : Int32)) h72)
      else (
        some ((0 : Int32), h72)))
    else
    if (v3 &&& (63 : Int32)) = (8 : Int32) then (
      ab_bd (ab_aI h a1 0 (l4 + (1 : Int32))) fun v74 =>
      ab_b2 (fX1_heat l1 v74 h) fun v77 h76 =>
      ab_bd (ab_aI h76 a1 0 (l4 + (1 : Int32))) fun v78 =>
      ab_b2 (fX5_heat l2 v78 h76) fun v81 h80 =>
      if v77 = v81 then (
        fL_law_l23 n (some a1) l1 l2 l3 (l4 + (6 : Int32)) h80)
      else (
        some ((0 : Int32), h80)))
    else
    if (v3 &&& (63 : Int32)) = (9 : Int32) then (
      ab_bd (ab_aI h a1 0 (l4 + (1 : Int32))) fun v82 =>
      ab_b2 (fX1_bad l1 v82 h) fun v85 h84 =>
      ab_bd (ab_aI h84 a1 0 (l4 + (1 : Int32))) fun v86 =>
      ab_b2 (fX5_bad l2 v86 h84) fun v89 h88 =>
      if v85 = v89 then (
        fL_law_l23 n (some a1) l1 l2 l3 (l4 + (6 : Int32)) h88)
      else (
        some ((0 : Int32), h88)))
    else
    if (v3 &&& (63 : Int32)) = (10 : Int32) then (
      ab_bd (ab_aI h a1 0 (l4 + (1 : Int32))) fun v90 =>
      ab_bd (ab_aI h a1 0 (l4 + (2 : Int32))) fun v91 =>
      ab_b2 (fX1_way l1 v90 v91 h) fun v94 h93 =>
      ab_bd (ab_aI h93 a1 0 (l4 + (1 : Int32))) fun v95 =>
      ab_bd (ab_aI h93 a1 0 (l4 + (2 : Int32))) fun v96 =>
      ab_b2 (fX5_way l2 v95 v96 h93) fun v99 h98 =>
      if v94 = v99 then (
        fL_law_l23 n (some a1) l1 l2 l3 (l4 + (6 : Int32)) h98)
      else (
        some ((0 : Int32), h98)))
    else
    if (v3 &&& (63 : Int32)) = (11 : Int32) then (
      ab_bd (ab_aI h a1 0 (l4 + (1 : Int32))) fun v100 =>
      ab_bd (ab_aI h a1 0 (l4 + (2 : Int32))) fun v101 =>
      ab_b2 (fX1_best l1 v100 v101 h) fun v104 h103 =>
      ab_bd (ab_aI h103 a1 0 (l4 + (1 : Int32))) fun v105 =>
      ab_bd (ab_aI h103 a1 0 (l4 + (2 : Int32))) fun v106 =>
      ab_b2 (fX5_best l2 v105 v106 h103) fun v109 h108 =>
      if v104 = v109 then (
        fL_law_l23 n (some a1) l1 l2 l3 (l4 + (6 : Int32)) h108)
      else (
        some ((0 : Int32), h108)))
    else
    if (v3 &&& (63 : Int32)) = (12 : Int32) then (
      ab_bd (ab_aI h a1 0 (l4 + (1 : Int32))) fun v110 =>
      ab_bd (ab_aI h a1 0 (l4 + (2 : Int32))) fun v111 =>
      ab_bd (ab_aI h a1 0 (l4 + (3 : Int32))) fun v112 =>
      ab_b2 (fX1_bestAt l1 v110 v111 v112 h) fun v115 h114 =>
      ab_bd (ab_aI h114 a1 0 (l4 + (1 : Int32))) fun v116 =>
      ab_bd (ab_aI h114 a1 0 (l4 + (2 : Int32))) fun v117 =>
      ab_bd (ab_aI h114 a1 0 (l4 + (3 : Int32))) fun v118 =>
      ab_b2 (fX5_bestAt l2 v116 v117 v118 h114) fun v121 h120 =>
      if v115 = v121 then (
        fL_law_l23 n (some a1) l1 l2 l3 (l4 + (6 : Int32)) h120)
      else (
        some ((0 : Int32), h120)))
    else
    if (v3 &&& (63 : Int32)) = (13 : Int32) then (
      ab_b2 (fX1_share l1 h) fun v124 h123 =>
      ab_b2 (fX5_share l2 h123) fun v127 h126 =>
      if v124 = v127 then (
        fL_law_l23 n (some a1) l1 l2 l3 (l4 + (6 : Int32)) h126)
      else (
        some ((0 : Int32), h126)))
    else
    if (v3 &&& (63 : Int32)) = (14 : Int32) then (
      ab_bd (ab_aI h a1 0 (l4 + (1 : Int32))) fun v128 =>
      ab_b2 (fX1_shared l1 v128 h) fun v131 h130 =>
      ab_bd (ab_aI h130 a1 0 (l4 + (1 : Int32))) fun v132 =>
      ab_b2 (fX5_shared l2 v132 h130) fun v135 h134 =>
      if v131 = v135 then (
        fL_law_l23 n (some a1) l1 l2 l3 (l4 + (6 : Int32)) h134)
      else (
        some ((0 : Int32), h134)))
    else
    if (v3 &&& (63 : Int32)) = (15 : Int32) then (
      ab_bd (ab_aI h a1 0 (l4 + (1 : Int32))) fun v136 =>
      ab_b2 (fX1_odds l1 v136 h) fun v139 h138 =>
      ab_bd (ab_aI h138 a1 0 (l4 + (1 : Int32))) fun v140 =>
      ab_b2 (fX5_odds l2 v140 h138) fun v143 h142 =>
      if (lg_cmp v139 v143) = 0 then (
        fL_law_l23 n (some a1) l1 l2 l3 (l4 + (6 : Int32)) h142)
      else (
        some ((0 : Int32), h142)))
    else
    if (v3 &&& (63 : Int32)) = (16 : Int32) then (
      ab_bd (ab_aI h a1 0 (l4 + (1 : Int32))) fun v144 =>
      ab_b2 (fX1_costs l1 v144 h) fun v147 h146 =>
      ab_bd (ab_aI h146 a1 0 (l4 + (1 : Int32))) fun v148 =>
      ab_b2 (fX5_costs l2 v148 h146) fun v151 h150 =>
      if v147 = v151 then (
        fL_law_l23 n (some a1) l1 l2 l3 (l4 + (6 : Int32)) h150)
      else (
        some ((0 : Int32), h150)))
    else
    if (v3 &&& (63 : Int32)) = (17 : Int32) then (
      ab_bd (ab_aI h a1 0 (l4 + (1 : Int32))) fun v152 =>
      ab_bd (ab_aI h a1 0 (l4 + (2 : Int32))) fun v153 =>
      ab_b2 (fX1_fits l1 v152 v153 h) fun v156 h155 =>
      ab_bd (ab_aI h155 a1 0 (l4 + (1 : Int32))) fun v157 =>
      ab_bd (ab_aI h155 a1 0 (l4 + (2 : Int32))) fun v158 =>
      ab_b2 (fX5_fits l2 v157 v158 h155) fun v161 h160 =>
      if v156 = v161 then (
        fL_law_l23 n (some a1) l1 l2 l3 (l4 + (6 : Int32)) h160)
      else (
        some ((0 : Int32), h160)))
    else
    if (v3 &&& (63 : Int32)) = (18 : Int32) then (
      ab_bd (ab_aI h a1 0 (l4 + (1 : Int32))) fun v162 =>
      ab_bd (ab_aI h a1 0 (l4 + (2 : Int32))) fun v163 =>
      ab_b2 (fX1_breach l1 v162 v163 h) fun v166 h165 =>
      ab_bd (ab_aI h165 a1 0 (l4 + (1 : Int32))) fun v167 =>
      ab_bd (ab_aI h165 a1 0 (l4 + (2 : Int32))) fun v168 =>
      ab_b2 (fX5_breach l2 v167 v168 h165) fun v171 h170 =>
      if v166 = v171 then (
        fL_law_l23 n (some a1) l1 l2 l3 (l4 + (6 : Int32)) h170)
      else (
        some ((0 : Int32), h170)))
    else
    if (v3 &&& (63 : Int32)) = (19 : Int32) then (
      ab_b2 (fX1_forAll l1 h) fun v174 h173 =>
      ab_b2 (fX5_forAll l2 h173) fun v177 h176 =>
      if v174 = v177 then (
        fL_law_l23 n (some a1) l1 l2 l3 (l4 + (6 : Int32)) h176)
      else (
        some ((0 : Int32), h176)))
    else
    if (v3 &&& (63 : Int32)) = (20 : Int32) then (
      ab_bd (ab_aI h a1 0 (l4 + (1 : Int32))) fun v178 =>
      ab_bd (ab_aI h a1 0 (l4 + (2 : Int32))) fun v179 =>
      ab_b2 (fX1_menu l1 v178 v179 h) fun v182 h181 =>
      ab_bd (ab_aI h181 a1 0 (l4 + (1 : Int32))) fun v183 =>
      ab_bd (ab_aI h181 a1 0 (l4 + (2 : Int32))) fun v184 =>
      ab_b2 (fX5_menu l2 v183 v184 h181) fun v187 h186 =>
      if v182 = v187 then (
        fL_law_l23 n (some a1) l1 l2 l3 (l4 + (6 : Int32)) h186)
      else (
        some ((0 : Int32), h186)))
    else
    if (v3 &&& (63 : Int32)) = (21 : Int32) then (
      ab_bd (ab_aI h a1 0 (l4 + (1 : Int32))) fun v188 =>
      ab_b2 (fX1_menuAt l1 v188 h) fun v191 h190 =>
      ab_bd (ab_aI h190 a1 0 (l4 + (1 : Int32))) fun v192 =>
      ab_b2 (fX5_menuAt l2 v192 h190) fun v195 h194 =>
      if v191 = v195 then (
        fL_law_l23 n (some a1) l1 l2 l3 (l4 + (6 : Int32)) h194)
      else (
        some ((0 : Int32), h194)))
    else
    if (v3 &&& (63 : Int32)) = (22 : Int32) then (
      ab_bd (ab_aI h a1 0 (l4 + (1 : Int32))) fun v196 =>
      ab_bd (ab_aI h a1 0 (l4 + (2 : Int32))) fun v197 =>
      ab_b2 (fX1_dropped l1 v196 v197 h) fun v200 h199 =>
      ab_bd (ab_aI h199 a1 0 (l4 + (1 : Int32))) fun v201 =>
      ab_bd (ab_aI h199 a1 0 (l4 + (2 : Int32))) fun v202 =>
      ab_b2 (fX5_dropped l2 v201 v202 h199) fun v205 h204 =>
      if v200 = v205 then (
        fL_law_l23 n (some a1) l1 l2 l3 (l4 + (6 : Int32)) h204)
      else (
        some ((0 : Int32), h204)))
    else
    if (v3 &&& (63 : Int32)) = (23 : Int32) then (
      ab_b2 (fX1_knock l1 h) fun v208 h207 =>
      ab_b2 (fX5_knock l2 h207) fun v211 h210 =>
      if (lg_cmp v208 v211) = 0 then (
        fL_law_l23 n (some a1) l1 l2 l3 (l4 + (6 : Int32)) h210)
      else (
        some ((0 : Int32), h210)))
    else
    if (v3 &&& (63 : Int32)) = (24 : Int32) then (
      ab_bd (ab_aI h a1 0 (l4 + (1 : Int32))) fun v212 =>
      ab_b2 (fX1_callAt l1 v212 h) fun v215 h214 =>
      ab_bd (ab_aI h214 a1 0 (l4 + (1 : Int32))) fun v216 =>
      ab_b2 (fX5_callAt l2 v216 h214) fun v219 h218 =>
      if v215 = v219 then (
        fL_law_l23 n (some a1) l1 l2 l3 (l4 + (6 : Int32)) h218)
      else (
        some ((0 : Int32), h218)))
    else
    if (v3 &&& (63 : Int32)) = (25 : Int32) then (
      ab_b2 (fX1_asTold l1 h) fun v222 h221 =>
      ab_b2 (fX5_asTold l2 h221) fun v225 h224 =>
      if (lg_cmp v222 v225) = 0 then (
        fL_law_l23 n (some a1) l1 l2 l3 (l4 + (6 : Int32)) h224)
      else (
        some ((0 : Int32), h224)))
    else
    if (v3 &&& (63 : Int32)) = (26 : Int32) then (
      ab_b2 (fX1_fill l1 h) fun v228 h227 =>
      ab_b2 (fX5_fill l2 h227) fun v231 h230 =>
      if v228 = v231 then (
        fL_law_l23 n (some a1) l1 l2 l3 (l4 + (6 : Int32)) h230)
      else (
        some ((0 : Int32), h230)))
    else
    if (v3 &&& (63 : Int32)) = (27 : Int32) then (
      ab_bd (ab_aI h a1 0 (l4 + (1 : Int32))) fun v232 =>
      ab_b2 (fX1_helper l1 v232 h) fun v235 h234 =>
      ab_bd (ab_aI h234 a1 0 (l4 + (1 : Int32))) fun v236 =>
      ab_b2 (fX5_helper l2 v236 h234) fun v239 h238 =>
      if v235 = v239 then (
        fL_law_l23 n (some a1) l1 l2 l3 (l4 + (6 : Int32)) h238)
      else (
        some ((0 : Int32), h238)))
    else
    if (v3 &&& (63 : Int32)) = (28 : Int32) then (
      ab_bd (ab_aI h a1 0 (l4 + (1 : Int32))) fun v240 =>
      ab_bd (ab_aI h a1 0 (l4 + (2 : Int32))) fun v241 =>
      ab_b2 (fX1_sign l1 v240 v241 h) fun v244 h243 =>
      ab_bd (ab_aI h243 a1 0 (l4 + (1 : Int32))) fun v245 =>
      ab_bd (ab_aI h243 a1 0 (l4 + (2 : Int32))) fun v246 =>
      ab_b2 (fX5_sign l2 v245 v246 h243) fun v249 h248 =>
      if v244 = v249 then (
        fL_law_l23 n (some a1) l1 l2 l3 (l4 + (6 : Int32)) h248)
      else (
        some ((0 : Int32), h248)))
    else
    if (v3 &&& (63 : Int32)) = (29 : Int32) then (
      ab_bd (ab_aI h a1 0 (l4 + (1 : Int32))) fun v250 =>
      ab_b2 (fX1_fading l1 v250 h) fun v253 h252 =>
      ab_bd (ab_aI h252 a1 0 (l4 + (1 : Int32))) fun v254 =>
      ab_b2 (fX5_fading l2 v254 h252) fun v257 h256 =>
      if v253 = v257 then (
        fL_law_l23 n (some a1) l1 l2 l3 (l4 + (6 : Int32)) h256)
      else (
        some ((0 : Int32), h256)))
    else
    if (v3 &&& (63 : Int32)) = (30 : Int32) then (
      ab_bd (ab_aI h a1 0 (l4 + (1 : Int32))) fun v258 =>
      ab_bd (ab_aI h a1 0 (l4 + (2 : Int32))) fun v259 =>
      ab_bd (ab_aI h a1 0 (l4 + (3 : Int32))) fun v260 =>
      ab_b2 (fX1_probe l1 v258 v259 v260 h) fun v263 h262 =>
      ab_bd (ab_aI h262 a1 0 (l4 + (1 : Int32))) fun v264 =>
      ab_bd (ab_aI h262 a1 0 (l4 + (2 : Int32))) fun v265 =>
      ab_bd (ab_aI h262 a1 0 (l4 + (3 : Int32))) fun v266 =>
      ab_b2 (fX5_probe l2 v264 v265 v266 h262) fun v269 h268 =>
      if v263 = v269 then (
        fL_law_l23 n (some a1) l1 l2 l3 (l4 + (6 : Int32)) h268)
      else (
        some ((0 : Int32), h268)))
    else
    if (v3 &&& (63 : Int32)) = (31 : Int32) then (
      ab_bd (ab_aI h a1 0 (l4 + (1 : Int32))) fun v270 =>
      ab_b2 (fX1_faulty l1 v270 h) fun v273 h272 =>
      ab_bd (ab_aI h272 a1 0 (l4 + (1 : Int32))) fun v274 =>
      ab_b2 (fX5_faulty l2 v274 h272) fun v277 h276 =>
      if v273 = v277 then (
        fL_law_l23 n (some a1) l1 l2 l3 (l4 + (6 : Int32)) h276)
      else (
        some ((0 : Int32), h276)))
    else
    if (v3 &&& (63 : Int32)) = (32 : Int32) then (
      ab_b2 (fX1_firstCold l1 h) fun v280 h279 =>
      ab_b2 (fX5_firstCold l2 h279) fun v283 h282 =>
      if v280 = v283 then (
        fL_law_l23 n (some a1) l1 l2 l3 (l4 + (6 : Int32)) h282)
      else (
        some ((0 : Int32), h282)))
    else
    if (v3 &&& (63 : Int32)) = (33 : Int32) then (
      ab_bd (ab_aI h a1 0 (l4 + (1 : Int32))) fun v284 =>
      ab_b2 (fX1_recall l1 v284 h) fun v287 h286 =>
      ab_bd (ab_aI h286 a1 0 (l4 + (1 : Int32))) fun v288 =>
      ab_b2 (fX5_recall l2 v288 h286) fun v291 h290 =>
      if v287 = v291 then (
        fL_law_l23 n (some a1) l1 l2 l3 (l4 + (6 : Int32)) h290)
      else (
        some ((0 : Int32), h290)))
    else
    if (v3 &&& (63 : Int32)) = (34 : Int32) then (
      ab_bd (ab_aI h a1 0 (l4 + (1 : Int32))) fun v292 =>
      ab_bd (ab_aI h a1 0 (l4 + (2 : Int32))) fun v293 =>
      ab_b2 (fX0_led (some l1) v292 v293 (some l3) h) fun v296 h295 =>
      ab_bd (ab_aI h295 a1 0 (l4 + (1 : Int32))) fun v297 =>
      ab_bd (ab_aI h295 a1 0 (l4 + (2 : Int32))) fun v298 =>
      ab_b2 (fX5_led l2 v297 v298 h295) fun v301 h300 =>
      ab_b2 (fX5_thrown l2 h300) fun v304 h303 =>
      if v304 = v296 then (
        if v296 = 0 then (
          ab_bd (ab_aJ h303 l3 3 (0 : Int32)) fun v305 =>
          if (lg_cmp v305 v301.toInt64) = 0 then (
            fL_law_l23 n (some a1) l1 l2 l3 (l4 + (6 : Int32)) h303)
          else (
            some ((0 : Int32), h303)))
        else (
          fL_law_l23 n (some a1) l1 l2 l3 (l4 + (6 : Int32)) h303))
      else (
        some ((0 : Int32), h303)))
    else
    if (v3 &&& (63 : Int32)) = (35 : Int32) then (
      ab_bd (ab_aI h a1 0 (l4 + (1 : Int32))) fun v306 =>
      ab_b2 (fX1_size l1 v306 h) fun v309 h308 =>
      ab_bd (ab_aI h308 a1 0 (l4 + (1 : Int32))) fun v310 =>
      ab_b2 (fX5_size l2 v310 h308) fun v313 h312 =>
      if v309 = v313 then (
        fL_law_l23 n (some a1) l1 l2 l3 (l4 + (6 : Int32)) h312)
      else (
        some ((0 : Int32), h312)))
    else
    if (v3 &&& (63 : Int32)) = (36 : Int32) then (
      ab_b2 (fX1_trouble l1 h) fun v316 h315 =>
      ab_b2 (fX5_trouble l2 h315) fun v319 h318 =>
      if v316 = v319 then (
        fL_law_l23 n (some a1) l1 l2 l3 (l4 + (6 : Int32)) h318)
      else (
        some ((0 : Int32), h318)))
    else
    fL_law_l23 n (some a1) l1 l2 l3 (l4 + (6 : Int32)) h)
theorem wL_law_l23 {D : Dd} {C : Cx} {h0 h' : Hp} {r : Int32} (A : Act C D (h0, (.inl (some (vI r))), h') yL_law cL_law 7 (some FieldType.boolean) 8192 100000 []) : ∀ (n : Nat) {l0 : Option Nat} {l1 : Nat} {l2 : Nat} {l3 : Nat} {l4 : Int32} {h : Hp}, fL_law_l23 n l0 l1 l2 l3 l4 h = some (r, h') → X C D (h0, (.inl (some (vI r))), h') 7 23 [(0, vR l0), (1, vR (some l1)), (2, vR (some l2)), (3, vR (some l3)), (4, vI l4)] [] h := by
  intro n
  induction n with
  | zero => intro l0 l1 l2 l3 l4 h hf; exact ab_no hf
  | succ n ih =>
    intro l0 l1 l2 l3 l4 h hf
    unfold fL_law_l23 at hf
    refine xr_iload A dL_law_23 4 rfl ?_
    refine xr_aload_n A dL_law_25 0 rfl rfl ?_
    revert hf; refine ab_bdI (fun a1 e hf => ?_); subst e
    revert hf; refine ab_bdI (fun v2 mv2 hf => ?_)
    refine xr_alen A mv2 dL_law_26 ?_
    refine xr_bipush A (v := 6) dL_law_27 (by decide) ?_
    refine xr_isub A dL_law_29 ?_
    refine xr_icmp_gt A (tgt := 1265) dL_law_30 (by decide) (fun c30 => ?_) (fun c30 => ?_)
    · replace hf := ab_ip c30 hf
      refine xr_iconst A (v := 1) dL_law_1265 (by decide) ?_
      exact xr_ireturn A rfl hf dL_law_1266
    · replace hf := ab_in c30 hf
      refine xr_aload_n A dL_law_33 0 rfl rfl ?_
      refine xr_iload A dL_law_34 4 rfl ?_
      revert hf; refine ab_bdI (fun v3 mv3 hf => ?_)
      refine xr_iaload A mv3 dL_law_36 ?_
      refine xr_bipush A (v := 63) dL_law_37 (by decide) ?_
      refine xr_iand A dL_law_39 ?_
      by_cases c40_0 : (v3 &&& (63 : Int32)) = (0 : Int32)
      · replace hf := ab_ip c40_0 hf
        refine xr_tabIn A (tgt := 204) dL_law_40 (by rw [c40_0]; decide) (by rw [c40_0]; decide) (by rw [c40_0]; rfl) (by decide) ?_
        refine xr_aload_n A dL_law_204 1 rfl rfl ?_
        refine xr_aload_n A dL_law_205 0 rfl rfl ?_
        refine xr_iload A dL_law_206 4 rfl ?_
        refine xr_iconst A (v := 1) dL_law_208 (by decide) ?_
        refine xr_iadd A dL_law_209 ?_
        revert hf; refine ab_bdI (fun v4 mv4 hf => ?_)
        refine xr_iaload A mv4 dL_law_210 ?_
        refine xr_aload_n A dL_law_211 0 rfl rfl ?_
        refine xr_iload A dL_law_212 4 rfl ?_
        refine xr_iconst A (v := 2) dL_law_214 (by decide) ?_
        refine xr_iadd A dL_law_215 ?_
        revert hf; refine ab_bdI (fun v5 mv5 hf => ?_)
        refine xr_iaload A mv5 dL_law_216 ?_
        refine xr_aload_n A dL_law_217 0 rfl rfl ?_
        refine xr_iload A dL_law_218 4 rfl ?_
        refine xr_iconst A (v := 3) dL_law_220 (by decide) ?_
        refine xr_iadd A dL_law_221 ?_
        revert hf; refine ab_bdI (fun v6 mv6 hf => ?_)
        refine xr_iaload A mv6 dL_law_222 ?_
        refine xr_aload_n A dL_law_223 0 rfl rfl ?_
        refine xr_iload A dL_law_224 4 rfl ?_
        refine xr_iconst A (v := 4) dL_law_226 (by decide) ?_
        refine xr_iadd A dL_law_227 ?_
        revert hf; refine ab_bdI (fun v7 mv7 hf => ?_)
        refine xr_iaload A mv7 dL_law_228 ?_
        refine xr_aload_n A dL_law_229 0 rfl rfl ?_
        refine xr_iload A dL_law_230 4 rfl ?_
        refine xr_iconst A (v := 5) dL_law_232 (by decide) ?_
        refine xr_iadd A dL_law_233 ?_
        revert hf; refine ab_bdI (fun v8 mv8 hf => ?_)
        refine xr_iaload A mv8 dL_law_234 ?_
        revert hf; refine ab_b2I (fun v11 h10 m9 hf => ?_)
        refine xr_V A bX1_feed (wX1_feed D m9).2 xc_X1 (wX1_feed D m9).1 q388 q389 q387 (av := [vI v4, vI v5, vI v6, vI v7, vI v8]) (rest := []) rfl dL_law_235 (Nat.le_of_ble_eq_true rfl) (Nat.le_of_ble_eq_true rfl) rfl (Nat.le_of_ble_eq_true rfl) ?_
        refine xr_aload_n A dL_law_238 2 rfl rfl ?_
        refine xr_aload_n A dL_law_239 0 rfl rfl ?_
        refine xr_iload A dL_law_240 4 rfl ?_
        refine xr_iconst A (v := 1) dL_law_242 (by decide) ?_
        refine xr_iadd A dL_law_243 ?_
        revert hf; refine ab_bdI (fun v12 mv12 hf => ?_)
        refine xr_iaload A mv12 dL_law_244 ?_
        refine xr_aload_n A dL_law_245 0 rfl rfl ?_
        refine xr_iload A dL_law_246 4 rfl ?_
        refine xr_iconst A (v := 2) dL_law_248 (by decide) ?_
        refine xr_iadd A dL_law_249 ?_
        revert hf; refine ab_bdI (fun v13 mv13 hf => ?_)
        refine xr_iaload A mv13 dL_law_250 ?_
        refine xr_aload_n A dL_law_251 0 rfl rfl ?_
        refine xr_iload A dL_law_252 4 rfl ?_
        refine xr_iconst A (v := 3) dL_law_254 (by decide) ?_
        refine xr_iadd A dL_law_255 ?_
        revert hf; refine ab_bdI (fun v14 mv14 hf => ?_)
        refine xr_iaload A mv14 dL_law_256 ?_
        refine xr_aload_n A dL_law_257 0 rfl rfl ?_
        refine xr_iload A dL_law_258 4 rfl ?_
        refine xr_iconst A (v := 4) dL_law_260 (by decide) ?_
        refine xr_iadd A dL_law_261 ?_
        revert hf; refine ab_bdI (fun v15 mv15 hf => ?_)
        refine xr_iaload A mv15 dL_law_262 ?_
        refine xr_aload_n A dL_law_263 0 rfl rfl ?_
        refine xr_iload A dL_law_264 4 rfl ?_
        refine xr_iconst A (v := 5) dL_law_266 (by decide) ?_
        refine xr_iadd A dL_law_267 ?_
        revert hf; refine ab_bdI (fun v16 mv16 hf => ?_)
        refine xr_iaload A mv16 dL_law_268 ?_
        revert hf; refine ab_b2I (fun v19 h18 m17 hf => ?_)
        refine xr_V A bX5_feed (wX5_feed D m17).2 xc_X5 (wX5_feed D m17).1 q1442 q1443 q1441 (av := [vI v12, vI v13, vI v14, vI v15, vI v16]) (rest := [vI v11]) rfl dL_law_269 (Nat.le_of_ble_eq_true rfl) (Nat.le_of_ble_eq_true rfl) rfl (Nat.le_of_ble_eq_true rfl) ?_
        refine xr_icmp_eq A (tgt := 1259) dL_law_272 (by decide) (fun c272 => ?_) (fun c272 => ?_)
        · replace hf := ab_ip c272 hf
          refine xr_iinc A dL_law_1259 4 rfl (v := (l4 + (6 : Int32))) rfl (Nat.le_of_ble_eq_true rfl) (L' := [(4, vI (l4 + (6 : Int32))), (0, vR (some a1)), (1, vR (some l1)), (2, vR (some l2)), (3, vR (some l3))]) rfl ?_
          refine xr_goto A (tgt := 23) dL_law_1262 (by decide) ?_
          refine X.sub [1, 2, 3, 4, 0] rfl ?_
          exact ih hf
        · replace hf := ab_in c272 hf
          refine xr_iconst A (v := 0) dL_law_275 (by decide) ?_
          exact xr_ireturn A rfl hf dL_law_276
      replace hf := ab_in c40_0 hf
      by_cases c40_1 : (v3 &&& (63 : Int32)) = (1 : Int32)
      · replace hf := ab_ip c40_1 hf
        refine xr_tabIn A (tgt := 277) dL_law_40 (by rw [c40_1]; decide) (by rw [c40_1]; decide) (by rw [c40_1]; rfl) (by decide) ?_
        refine xr_aload_n A dL_law_277 1 rfl rfl ?_
        refine xr_aload_n A dL_law_278 0 rfl rfl ?_
        refine xr_iload A dL_law_279 4 rfl ?_
        refine xr_iconst A (v := 1) dL_law_281 (by decide) ?_
        refine xr_iadd A dL_law_282 ?_
        revert hf; refine ab_bdI (fun v20 mv20 hf => ?_)
        refine xr_iaload A mv20 dL_law_283 ?_
        revert hf; refine ab_b2I (fun v23 h22 m21 hf => ?_)
        refine xr_VW A bX1_day (wX1_day D m21).2 xc_X1 (wX1_day D m21).1 q396 q397 q395 (av := [vI v20]) (rest := []) rfl dL_law_284 (Nat.le_of_ble_eq_true rfl) (Nat.le_of_ble_eq_true rfl) rfl (Nat.le_of_ble_eq_true rfl) ?_
        refine xr_aload_n A dL_law_287 2 rfl rfl ?_
        refine xr_aload_n A dL_law_288 0 rfl rfl ?_
        refine xr_iload A dL_law_289 4 rfl ?_
        refine xr_iconst A (v := 1) dL_law_291 (by decide) ?_
        refine xr_iadd A dL_law_292 ?_
        revert hf; refine ab_bdI (fun v24 mv24 hf => ?_)
        refine xr_iaload A mv24 dL_law_293 ?_
        revert hf; refine ab_b2I (fun v27 h26 m25 hf => ?_)
        refine xr_V A bX5_day (wX5_day D m25).2 xc_X5 (wX5_day D m25).1 q1446 q1447 q1445 (av := [vI v24]) (rest := [vI v23]) rfl dL_law_294 (Nat.le_of_ble_eq_true rfl) (Nat.le_of_ble_eq_true rfl) rfl (Nat.le_of_ble_eq_true rfl) ?_
        refine xr_icmp_eq A (tgt := 1259) dL_law_297 (by decide) (fun c297 => ?_) (fun c297 => ?_)
        · replace hf := ab_ip c297 hf
          refine xr_iinc A dL_law_1259 4 rfl (v := (l4 + (6 : Int32))) rfl (Nat.le_of_ble_eq_true rfl) (L' := [(4, vI (l4 + (6 : Int32))), (0, vR (some a1)), (1, vR (some l1)), (2, vR (some l2)), (3, vR (some l3))]) rfl ?_
          refine xr_goto A (tgt := 23) dL_law_1262 (by decide) ?_
          refine X.sub [1, 2, 3, 4, 0] rfl ?_
          exact ih hf
        · replace hf := ab_in c297 hf
          refine xr_iconst A (v := 0) dL_law_300 (by decide) ?_
          exact xr_ireturn A rfl hf dL_law_301
      replace hf := ab_in c40_1 hf
      by_cases c40_2 : (v3 &&& (63 : Int32)) = (2 : Int32)
      · replace hf := ab_ip c40_2 hf
        refine xr_tabIn A (tgt := 302) dL_law_40 (by rw [c40_2]; decide) (by rw [c40_2]; decide) (by rw [c40_2]; rfl) (by decide) ?_
        refine xr_aload_n A dL_law_302 1 rfl rfl ?_
        revert hf; refine ab_b2I (fun v30 h29 m28 hf => ?_)
        refine xr_V A bX1_fault (wX1_fault D m28).2 xc_X1 (wX1_fault D m28).1 q990 q991 q989 (av := []) (rest := []) rfl dL_law_303 (Nat.le_of_ble_eq_true rfl) (Nat.le_of_ble_eq_true rfl) rfl (Nat.le_of_ble_eq_true rfl) ?_
        refine xr_aload_n A dL_law_306 2 rfl rfl ?_
        revert hf; refine ab_b2I (fun v33 h32 m31 hf => ?_)
        refine xr_V A bX5_fault (wX5_fault D m31).2 xc_X5 (wX5_fault D m31).1 q1752 q1753 q1751 (av := []) (rest := [vI v30]) rfl dL_law_307 (Nat.le_of_ble_eq_true rfl) (Nat.le_of_ble_eq_true rfl) rfl (Nat.le_of_ble_eq_true rfl) ?_
        refine xr_icmp_eq A (tgt := 1259) dL_law_310 (by decide) (fun c310 => ?_) (fun c310 => ?_)
        · replace hf := ab_ip c310 hf
          refine xr_iinc A dL_law_1259 4 rfl (v := (l4 + (6 : Int32))) rfl (Nat.le_of_ble_eq_true rfl) (L' := [(4, vI (l4 + (6 : Int32))), (0, vR (some a1)), (1, vR (some l1)), (2, vR (some l2)), (3, vR (some l3))]) rfl ?_
          refine xr_goto A (tgt := 23) dL_law_1262 (by decide) ?_
          refine X.sub [1, 2, 3, 4, 0] rfl ?_
          exact ih hf
        · replace hf := ab_in c310 hf
          refine xr_iconst A (v := 0) dL_law_313 (by decide) ?_
          exact xr_ireturn A rfl hf dL_law_314
      replace hf := ab_in c40_2 hf
      by_cases c40_3 : (v3 &&& (63 : Int32)) = (3 : Int32)
      · replace hf := ab_ip c40_3 hf
        refine xr_tabIn A (tgt := 315) dL_law_40 (by rw [c40_3]; decide) (by rw [c40_3]; decide) (by rw [c40_3]; rfl) (by decide) ?_
        refine xr_aload_n A dL_law_315 1 rfl rfl ?_
        revert hf; refine ab_b2I (fun v36 h35 m34 hf => ?_)
        refine xr_V A bX1_where (wX1_where D m34).2 xc_X1 (wX1_where D m34).1 q994 q995 q993 (av := []) (rest := []) rfl dL_law_316 (Nat.le_of_ble_eq_true rfl) (Nat.le_of_ble_eq_true rfl) rfl (Nat.le_of_ble_eq_true rfl) ?_
        refine xr_aload_n A dL_law_319 2 rfl rfl ?_
        revert hf; refine ab_b2I (fun v39 h38 m37 hf => ?_)
        refine xr_V A bX5_where (wX5_where D m37).2 xc_X5 (wX5_where D m37).1 q1756 q1757 q1755 (av := []) (rest := [vI v36]) rfl dL_law_320 (Nat.le_of_ble_eq_true rfl) (Nat.le_of_ble_eq_true rfl) rfl (Nat.le_of_ble_eq_true rfl) ?_
        refine xr_icmp_eq A (tgt := 1259) dL_law_323 (by decide) (fun c323 => ?_) (fun c323 => ?_)
        · replace hf := ab_ip c323 hf
          refine xr_iinc A dL_law_1259 4 rfl (v := (l4 + (6 : Int32))) rfl (Nat.le_of_ble_eq_true rfl) (L' := [(4, vI (l4 + (6 : Int32))), (0, vR (some a1)), (1, vR (some l1)), (2, vR (some l2)), (3, vR (some l3))]) rfl ?_
          refine xr_goto A (tgt := 23) dL_law_1262 (by decide) ?_
          refine X.sub [1, 2, 3, 4, 0] rfl ?_
          exact ih hf
        · replace hf := ab_in c323 hf
          refine xr_iconst A (v := 0) dL_law_326 (by decide) ?_
          exact xr_ireturn A rfl hf dL_law_327
      replace hf := ab_in c40_3 hf
      by_cases c40_4 : (v3 &&& (63 : Int32)) = (4 : Int32)
      · replace hf := ab_ip c40_4 hf
        refine xr_tabIn A (tgt := 328) dL_law_40 (by rw [c40_4]; decide) (by rw [c40_4]; decide) (by rw [c40_4]; rfl) (by decide) ?_
        refine xr_aload_n A dL_law_328 1 rfl rfl ?_
        refine xr_aload_n A dL_law_329 0 rfl rfl ?_
        refine xr_iload A dL_law_330 4 rfl ?_
        refine xr_iconst A (v := 1) dL_law_332 (by decide) ?_
        refine xr_iadd A dL_law_333 ?_
        revert hf; refine ab_bdI (fun v40 mv40 hf => ?_)
        refine xr_iaload A mv40 dL_law_334 ?_
        refine xr_aload_n A dL_law_335 0 rfl rfl ?_
        refine xr_iload A dL_law_336 4 rfl ?_
        refine xr_iconst A (v := 2) dL_law_338 (by decide) ?_
        refine xr_iadd A dL_law_339 ?_
        revert hf; refine ab_bdI (fun v41 mv41 hf => ?_)
        refine xr_iaload A mv41 dL_law_340 ?_
        revert hf; refine ab_b2I (fun v44 h43 m42 hf => ?_)
        refine xr_V A bX1_drive (wX1_drive D m42).2 xc_X1 (wX1_drive D m42).1 q998 q999 q997 (av := [vI v40, vI v41]) (rest := []) rfl dL_law_341 (Nat.le_of_ble_eq_true rfl) (Nat.le_of_ble_eq_true rfl) rfl (Nat.le_of_ble_eq_true rfl) ?_
        refine xr_aload_n A dL_law_344 2 rfl rfl ?_
        refine xr_aload_n A dL_law_345 0 rfl rfl ?_
        refine xr_iload A dL_law_346 4 rfl ?_
        refine xr_iconst A (v := 1) dL_law_348 (by decide) ?_
        refine xr_iadd A dL_law_349 ?_
        revert hf; refine ab_bdI (fun v45 mv45 hf => ?_)
        refine xr_iaload A mv45 dL_law_350 ?_
        refine xr_aload_n A dL_law_351 0 rfl rfl ?_
        refine xr_iload A dL_law_352 4 rfl ?_
        refine xr_iconst A (v := 2) dL_law_354 (by decide) ?_
        refine xr_iadd A dL_law_355 ?_
        revert hf; refine ab_bdI (fun v46 mv46 hf => ?_)
        refine xr_iaload A mv46 dL_law_356 ?_
        revert hf; refine ab_b2I (fun v49 h48 m47 hf => ?_)
        refine xr_V A bX5_drive (wX5_drive D m47).2 xc_X5 (wX5_drive D m47).1 q1760 q1761 q1759 (av := [vI v45, vI v46]) (rest := [vI v44]) rfl dL_law_357 (Nat.le_of_ble_eq_true rfl) (Nat.le_of_ble_eq_true rfl) rfl (Nat.le_of_ble_eq_true rfl) ?_
        refine xr_icmp_eq A (tgt := 1259) dL_law_360 (by decide) (fun c360 => ?_) (fun c360 => ?_)
        · replace hf := ab_ip c360 hf
          refine xr_iinc A dL_law_1259 4 rfl (v := (l4 + (6 : Int32))) rfl (Nat.le_of_ble_eq_true rfl) (L' := [(4, vI (l4 + (6 : Int32))), (0, vR (some a1)), (1, vR (some l1)), (2, vR (some l2)), (3, vR (some l3))]) rfl ?_
          refine xr_goto A (tgt := 23) dL_law_1262 (by decide) ?_
          refine X.sub [1, 2, 3, 4, 0] rfl ?_
          exact ih hf
        · replace hf := ab_in c360 hf
          refine xr_iconst A (v := 0) dL_law_363 (by decide) ?_
          exact xr_ireturn A rfl hf dL_law_364
      replace hf := ab_in c40_4 hf
      by_cases c40_5 : (v3 &&& (63 : Int32)) = (5 : Int32)
      · replace hf := ab_ip c40_5 hf
        refine xr_tabIn A (tgt := 365) dL_law_40 (by rw [c40_5]; decide) (by rw [c40_5]; decide) (by rw [c40_5]; rfl) (by decide) ?_
        refine xr_aload_n A dL_law_365 1 rfl rfl ?_
        refine xr_aload_n A dL_law_366 0 rfl rfl ?_
        refine xr_iload A dL_law_367 4 rfl ?_
        refine xr_iconst A (v := 1) dL_law_369 (by decide) ?_
        refine xr_iadd A dL_law_370 ?_
        revert hf; refine ab_bdI (fun v50 mv50 hf => ?_)
        refine xr_iaload A mv50 dL_law_371 ?_
        revert hf; refine ab_b2I (fun v53 h52 m51 hf => ?_)
        refine xr_V A bX1_unload (wX1_unload D m51).2 xc_X1 (wX1_unload D m51).1 q1018 q1019 q1017 (av := [vI v50]) (rest := []) rfl dL_law_372 (Nat.le_of_ble_eq_true rfl) (Nat.le_of_ble_eq_true rfl) rfl (Nat.le_of_ble_eq_true rfl) ?_
        refine xr_aload_n A dL_law_375 2 rfl rfl ?_
        refine xr_aload_n A dL_law_376 0 rfl rfl ?_
        refine xr_iload A dL_law_377 4 rfl ?_
        refine xr_iconst A (v := 1) dL_law_379 (by decide) ?_
        refine xr_iadd A dL_law_380 ?_
        revert hf; refine ab_bdI (fun v54 mv54 hf => ?_)
        refine xr_iaload A mv54 dL_law_381 ?_
        revert hf; refine ab_b2I (fun v57 h56 m55 hf => ?_)
        refine xr_V A bX5_unload (wX5_unload D m55).2 xc_X5 (wX5_unload D m55).1 q1776 q1777 q1775 (av := [vI v54]) (rest := [vI v53]) rfl dL_law_382 (Nat.le_of_ble_eq_true rfl) (Nat.le_of_ble_eq_true rfl) rfl (Nat.le_of_ble_eq_true rfl) ?_
        refine xr_icmp_eq A (tgt := 1259) dL_law_385 (by decide) (fun c385 => ?_) (fun c385 => ?_)
        · replace hf := ab_ip c385 hf
          refine xr_iinc A dL_law_1259 4 rfl (v := (l4 + (6 : Int32))) rfl (Nat.le_of_ble_eq_true rfl) (L' := [(4, vI (l4 + (6 : Int32))), (0, vR (some a1)), (1, vR (some l1)), (2, vR (some l2)), (3, vR (some l3))]) rfl ?_
          refine xr_goto A (tgt := 23) dL_law_1262 (by decide) ?_
          refine X.sub [1, 2, 3, 4, 0] rfl ?_
          exact ih hf
        · replace hf := ab_in c385 hf
          refine xr_iconst A (v := 0) dL_law_388 (by decide) ?_
          exact xr_ireturn A rfl hf dL_law_389
      replace hf := ab_in c40_5 hf
      by_cases c40_6 : (v3 &&& (63 : Int32)) = (6 : Int32)
      · replace hf := ab_ip c40_6 hf
        refine xr_tabIn A (tgt := 390) dL_law_40 (by rw [c40_6]; decide) (by rw [c40_6]; decide) (by rw [c40_6]; rfl) (by decide) ?_
        refine xr_aload_n A dL_law_390 1 rfl rfl ?_
        refine xr_aload_n A dL_law_391 0 rfl rfl ?_
        refine xr_iload A dL_law_392 4 rfl ?_
        refine xr_iconst A (v := 1) dL_law_394 (by decide) ?_
        refine xr_iadd A dL_law_395 ?_
        revert hf; refine ab_bdI (fun v58 mv58 hf => ?_)
        refine xr_iaload A mv58 dL_law_396 ?_
        revert hf; refine ab_b2I (fun v61 h60 m59 hf => ?_)
        refine xr_V A bX1_tea (wX1_tea D m59).2 xc_X1 (wX1_tea D m59).1 q1022 q1023 q1021 (av := [vI v58]) (rest := []) rfl dL_law_397 (Nat.le_of_ble_eq_true rfl) (Nat.le_of_ble_eq_true rfl) rfl (Nat.le_of_ble_eq_true rfl) ?_
        refine xr_aload_n A dL_law_400 2 rfl rfl ?_
        refine xr_aload_n A dL_law_401 0 rfl rfl ?_
        refine xr_iload A dL_law_402 4 rfl ?_
        refine xr_iconst A (v := 1) dL_law_404 (by decide) ?_
        refine xr_iadd A dL_law_405 ?_
        revert hf; refine ab_bdI (fun v62 mv62 hf => ?_)
        refine xr_iaload A mv62 dL_law_406 ?_
        revert hf; refine ab_b2I (fun v65 h64 m63 hf => ?_)
        refine xr_V A bX5_tea (wX5_tea D m63).2 xc_X5 (wX5_tea D m63).1 q1780 q1781 q1779 (av := [vI v62]) (rest := [vI v61]) rfl dL_law_407 (Nat.le_of_ble_eq_true rfl) (Nat.le_of_ble_eq_true rfl) rfl (Nat.le_of_ble_eq_true rfl) ?_
        refine xr_icmp_eq A (tgt := 1259) dL_law_410 (by decide) (fun c410 => ?_) (fun c410 => ?_)
        · replace hf := ab_ip c410 hf
          refine xr_iinc A dL_law_1259 4 rfl (v := (l4 + (6 : Int32))) rfl (Nat.le_of_ble_eq_true rfl) (L' := [(4, vI (l4 + (6 : Int32))), (0, vR (some a1)), (1, vR (some l1)), (2, vR (some l2)), (3, vR (some l3))]) rfl ?_
          refine xr_goto A (tgt := 23) dL_law_1262 (by decide) ?_
          refine X.sub [1, 2, 3, 4, 0] rfl ?_
          exact ih hf
        · replace hf := ab_in c410 hf
          refine xr_iconst A (v := 0) dL_law_413 (by decide) ?_
          exact xr_ireturn A rfl hf dL_law_414
      replace hf := ab_in c40_6 hf
      by_cases c40_7 : (v3 &&& (63 : Int32)) = (7 : Int32)
      · replace hf := ab_ip c40_7 hf
        refine xr_tabIn A (tgt := 415) dL_law_40 (by rw [c40_7]; decide) (by rw [c40_7]; decide) (by rw [c40_7]; rfl) (by decide) ?_
        refine xr_aload_n A dL_law_415 1 rfl rfl ?_
        refine xr_aload_n A dL_law_416 0 rfl rfl ?_
        refine xr_iload A dL_law_417 4 rfl ?_
        refine xr_iconst A (v := 1) dL_law_419 (by decide) ?_
        refine xr_iadd A dL_law_420 ?_
        revert hf; refine ab_bdI (fun v66 mv66 hf => ?_)
        refine xr_iaload A mv66 dL_law_421 ?_
        revert hf; refine ab_b2I (fun v69 h68 m67 hf => ?_)
        refine xr_V A bX1_comes (wX1_comes D m67).2 xc_X1 (wX1_comes D m67).1 q1034 q1035 q1033 (av := [vI v66]) (rest := []) rfl dL_law_422 (Nat.le_of_ble_eq_true rfl) (Nat.le_of_ble_eq_true rfl) rfl (Nat.le_of_ble_eq_true rfl) ?_
        refine xr_aload_n A dL_law_425 2 rfl rfl ?_
        refine xr_aload_n A dL_law_426 0 rfl rfl ?_
        refine xr_iload A dL_law_427 4 rfl ?_
        refine xr_iconst A (v := 1) dL_law_429 (by decide) ?_
        refine xr_iadd A dL_law_430 ?_
        revert hf; refine ab_bdI (fun v70 mv70 hf => ?_)
        refine xr_iaload A mv70 dL_law_431 ?_
        revert hf; refine ab_b2I (fun v73 h72 m71 hf => ?_)
        refine xr_V A bX5_comes (wX5_comes D m71).2 xc_X5 (wX5_comes D m71).1 q1784 q1785 q1783 (av := [vI v70]) (rest := [vI v69]) rfl dL_law_432 (Nat.le_of_ble_eq_true rfl) (Nat.le_of_ble_eq_true rfl) rfl (Nat.le_of_ble_eq_true rfl) ?_
        refine xr_icmp_eq A (tgt := 1259) dL_law_435 (by decide) (fun c435 => ?_) (fun c435 => ?_)
        · replace hf := ab_ip c435 hf
          refine xr_iinc A dL_law_1259 4 rfl (v := (l4 + (6 : Int32))) rfl (Nat.le_of_ble_eq_true rfl) (L' := [(4, vI (l4 + (6 : Int32))), (0, vR (some a1)), (1, vR (some l1)), (2, vR (some l2)), (3, vR (some l3))]) rfl ?_
          refine xr_goto A (tgt := 23) dL_law_1262 (by decide) ?_
          refine X.sub [1, 2, 3, 4, 0] rfl ?_
          exact ih hf
        · replace hf := ab_in c435 hf
          refine xr_iconst A (v := 0) dL_law_438 (by decide) ?_
          exact xr_ireturn A rfl hf dL_law_439
      replace hf := ab_in c40_7 hf
      by_cases c40_8 : (v3 &&& (63 : Int32)) = (8 : Int32)
      · replace hf := ab_ip c40_8 hf
        refine xr_tabIn A (tgt := 440) dL_law_40 (by rw [c40_8]; decide) (by rw [c40_8]; decide) (by rw [c40_8]; rfl) (by decide) ?_
        refine xr_aload_n A dL_law_440 1 rfl rfl ?_
        refine xr_aload_n A dL_law_441 0 rfl rfl ?_
        refine xr_iload A dL_law_442 4 rfl ?_
        refine xr_iconst A (v := 1) dL_law_444 (by decide) ?_
        refine xr_iadd A dL_law_445 ?_
        revert hf; refine ab_bdI (fun v74 mv74 hf => ?_)
        refine xr_iaload A mv74 dL_law_446 ?_
        revert hf; refine ab_b2I (fun v77 h76 m75 hf => ?_)
        refine xr_V A bX1_heat (wX1_heat D m75).2 xc_X1 (wX1_heat D m75).1 q1073 q1074 q1072 (av := [vI v74]) (rest := []) rfl dL_law_447 (Nat.le_of_ble_eq_true rfl) (Nat.le_of_ble_eq_true rfl) rfl (Nat.le_of_ble_eq_true rfl) ?_
        refine xr_aload_n A dL_law_450 2 rfl rfl ?_
        refine xr_aload_n A dL_law_451 0 rfl rfl ?_
        refine xr_iload A dL_law_452 4 rfl ?_
        refine xr_iconst A (v := 1) dL_law_454 (by decide) ?_
        refine xr_iadd A dL_law_455 ?_
        revert hf; refine ab_bdI (fun v78 mv78 hf => ?_)
        refine xr_iaload A mv78 dL_law_456 ?_
        revert hf; refine ab_b2I (fun v81 h80 m79 hf => ?_)
        refine xr_V A bX5_heat (wX5_heat D m79).2 xc_X5 (wX5_heat D m79).1 q1811 q1812 q1810 (av := [vI v78]) (rest := [vI v77]) rfl dL_law_457 (Nat.le_of_ble_eq_true rfl) (Nat.le_of_ble_eq_true rfl) rfl (Nat.le_of_ble_eq_true rfl) ?_
        refine xr_icmp_eq A (tgt := 1259) dL_law_460 (by decide) (fun c460 => ?_) (fun c460 => ?_)
        · replace hf := ab_ip c460 hf
          refine xr_iinc A dL_law_1259 4 rfl (v := (l4 + (6 : Int32))) rfl (Nat.le_of_ble_eq_true rfl) (L' := [(4, vI (l4 + (6 : Int32))), (0, vR (some a1)), (1, vR (some l1)), (2, vR (some l2)), (3, vR (some l3))]) rfl ?_
          refine xr_goto A (tgt := 23) dL_law_1262 (by decide) ?_
          refine X.sub [1, 2, 3, 4, 0] rfl ?_
          exact ih hf
        · replace hf := ab_in c460 hf
          refine xr_iconst A (v := 0) dL_law_463 (by decide) ?_
          exact xr_ireturn A rfl hf dL_law_464
      replace hf := ab_in c40_8 hf
      by_cases c40_9 : (v3 &&& (63 : Int32)) = (9 : Int32)
      · replace hf := ab_ip c40_9 hf
        refine xr_tabIn A (tgt := 465) dL_law_40 (by rw [c40_9]; decide) (by rw [c40_9]; decide) (by rw [c40_9]; rfl) (by decide) ?_
        refine xr_aload_n A dL_law_465 1 rfl rfl ?_
        refine xr_aload_n A dL_law_466 0 rfl rfl ?_
        refine xr_iload A dL_law_467 4 rfl ?_
        refine xr_iconst A (v := 1) dL_law_469 (by decide) ?_
        refine xr_iadd A dL_law_470 ?_
        revert hf; refine ab_bdI (fun v82 mv82 hf => ?_)
        refine xr_iaload A mv82 dL_law_471 ?_
        revert hf; refine ab_b2I (fun v85 h84 m83 hf => ?_)
        refine xr_V A bX1_bad (wX1_bad D m83).2 xc_X1 (wX1_bad D m83).1 q1078 q1079 q1077 (av := [vI v82]) (rest := []) rfl dL_law_472 (Nat.le_of_ble_eq_true rfl) (Nat.le_of_ble_eq_true rfl) rfl (Nat.le_of_ble_eq_true rfl) ?_
        refine xr_aload_n A dL_law_475 2 rfl rfl ?_
        refine xr_aload_n A dL_law_476 0 rfl rfl ?_
        refine xr_iload A dL_law_477 4 rfl ?_
        refine xr_iconst A (v := 1) dL_law_479 (by decide) ?_
        refine xr_iadd A dL_law_480 ?_
        revert hf; refine ab_bdI (fun v86 mv86 hf => ?_)
        refine xr_iaload A mv86 dL_law_481 ?_
        revert hf; refine ab_b2I (fun v89 h88 m87 hf => ?_)
        refine xr_V A bX5_bad (wX5_bad D m87).2 xc_X5 (wX5_bad D m87).1 q1819 q1820 q1818 (av := [vI v86]) (rest := [vI v85]) rfl dL_law_482 (Nat.le_of_ble_eq_true rfl) (Nat.le_of_ble_eq_true rfl) rfl (Nat.le_of_ble_eq_true rfl) ?_
        refine xr_icmp_eq A (tgt := 1259) dL_law_485 (by decide) (fun c485 => ?_) (fun c485 => ?_)
        · replace hf := ab_ip c485 hf
          refine xr_iinc A dL_law_1259 4 rfl (v := (l4 + (6 : Int32))) rfl (Nat.le_of_ble_eq_true rfl) (L' := [(4, vI (l4 + (6 : Int32))), (0, vR (some a1)), (1, vR (some l1)), (2, vR (some l2)), (3, vR (some l3))]) rfl ?_
          refine xr_goto A (tgt := 23) dL_law_1262 (by decide) ?_
          refine X.sub [1, 2, 3, 4, 0] rfl ?_
          exact ih hf
        · replace hf := ab_in c485 hf
          refine xr_iconst A (v := 0) dL_law_488 (by decide) ?_
          exact xr_ireturn A rfl hf dL_law_489
      replace hf := ab_in c40_9 hf
      by_cases c40_10 : (v3 &&& (63 : Int32)) = (10 : Int32)
      · replace hf := ab_ip c40_10 hf
        refine xr_tabIn A (tgt := 490) dL_law_40 (by rw [c40_10]; decide) (by rw [c40_10]; decide) (by rw [c40_10]; rfl) (by decide) ?_
        refine xr_aload_n A dL_law_490 1 rfl rfl ?_
        refine xr_aload_n A dL_law_491 0 rfl rfl ?_
        refine xr_iload A dL_law_492 4 rfl ?_
        refine xr_iconst A (v := 1) dL_law_494 (by decide) ?_
        refine xr_iadd A dL_law_495 ?_
        revert hf; refine ab_bdI (fun v90 mv90 hf => ?_)
        refine xr_iaload A mv90 dL_law_496 ?_
        refine xr_aload_n A dL_law_497 0 rfl rfl ?_
        refine xr_iload A dL_law_498 4 rfl ?_
        refine xr_iconst A (v := 2) dL_law_500 (by decide) ?_
        refine xr_iadd A dL_law_501 ?_
        revert hf; refine ab_bdI (fun v91 mv91 hf => ?_)
        refine xr_iaload A mv91 dL_law_502 ?_
        revert hf; refine ab_b2I (fun v94 h93 m92 hf => ?_)
        refine xr_V A bX1_way (wX1_way D m92).2 xc_X1 (wX1_way D m92).1 q1082 q1083 q1081 (av := [vI v90, vI v91]) (rest := []) rfl dL_law_503 (Nat.le_of_ble_eq_true rfl) (Nat.le_of_ble_eq_true rfl) rfl (Nat.le_of_ble_eq_true rfl) ?_
        refine xr_aload_n A dL_law_506 2 rfl rfl ?_
        refine xr_aload_n A dL_law_507 0 rfl rfl ?_
        refine xr_iload A dL_law_508 4 rfl ?_
        refine xr_iconst A (v := 1) dL_law_510 (by decide) ?_
        refine xr_iadd A dL_law_511 ?_
        revert hf; refine ab_bdI (fun v95 mv95 hf => ?_)
        refine xr_iaload A mv95 dL_law_512 ?_
        refine xr_aload_n A dL_law_513 0 rfl rfl ?_
        refine xr_iload A dL_law_514 4 rfl ?_
        refine xr_iconst A (v := 2) dL_law_516 (by decide) ?_
        refine xr_iadd A dL_law_517 ?_
        revert hf; refine ab_bdI (fun v96 mv96 hf => ?_)
        refine xr_iaload A mv96 dL_law_518 ?_
        revert hf; refine ab_b2I (fun v99 h98 m97 hf => ?_)
        refine xr_V A bX5_way (wX5_way D m97).2 xc_X5 (wX5_way D m97).1 q1823 q1824 q1822 (av := [vI v95, vI v96]) (rest := [vI v94]) rfl dL_law_519 (Nat.le_of_ble_eq_true rfl) (Nat.le_of_ble_eq_true rfl) rfl (Nat.le_of_ble_eq_true rfl) ?_
        refine xr_icmp_eq A (tgt := 1259) dL_law_522 (by decide) (fun c522 => ?_) (fun c522 => ?_)
        · replace hf := ab_ip c522 hf
          refine xr_iinc A dL_law_1259 4 rfl (v := (l4 + (6 : Int32))) rfl (Nat.le_of_ble_eq_true rfl) (L' := [(4, vI (l4 + (6 : Int32))), (0, vR (some a1)), (1, vR (some l1)), (2, vR (some l2)), (3, vR (some l3))]) rfl ?_
          refine xr_goto A (tgt := 23) dL_law_1262 (by decide) ?_
          refine X.sub [1, 2, 3, 4, 0] rfl ?_
          exact ih hf
        · replace hf := ab_in c522 hf
          refine xr_iconst A (v := 0) dL_law_525 (by decide) ?_
          exact xr_ireturn A rfl hf dL_law_526
      replace hf := ab_in c40_10 hf
      by_cases c40_11 : (v3 &&& (63 : Int32)) = (11 : Int32)
      · replace hf := ab_ip c40_11 hf
        refine xr_tabIn A (tgt := 527) dL_law_40 (by rw [c40_11]; decide) (by rw [c40_11]; decide) (by rw [c40_11]; rfl) (by decide) ?_
        refine xr_aload_n A dL_law_527 1 rfl rfl ?_
        refine xr_aload_n A dL_law_528 0 rfl rfl ?_
        refine xr_iload A dL_law_529 4 rfl ?_
        refine xr_iconst A (v := 1) dL_law_531 (by decide) ?_
        refine xr_iadd A dL_law_532 ?_
        revert hf; refine ab_bdI (fun v100 mv100 hf => ?_)
        refine xr_iaload A mv100 dL_law_533 ?_
        refine xr_aload_n A dL_law_534 0 rfl rfl ?_
        refine xr_iload A dL_law_535 4 rfl ?_
        refine xr_iconst A (v := 2) dL_law_537 (by decide) ?_
        refine xr_iadd A dL_law_538 ?_
        revert hf; refine ab_bdI (fun v101 mv101 hf => ?_)
        refine xr_iaload A mv101 dL_law_539 ?_
        revert hf; refine ab_b2I (fun v104 h103 m102 hf => ?_)
        refine xr_V A bX1_best (wX1_best D m102).2 xc_X1 (wX1_best D m102).1 q1087 q1088 q1086 (av := [vI v100, vI v101]) (rest := []) rfl dL_law_540 (Nat.le_of_ble_eq_true rfl) (Nat.le_of_ble_eq_true rfl) rfl (Nat.le_of_ble_eq_true rfl) ?_
        refine xr_aload_n A dL_law_543 2 rfl rfl ?_
        refine xr_aload_n A dL_law_544 0 rfl rfl ?_
        refine xr_iload A dL_law_545 4 rfl ?_
        refine xr_iconst A (v := 1) dL_law_547 (by decide) ?_
        refine xr_iadd A dL_law_548 ?_
        revert hf; refine ab_bdI (fun v105 mv105 hf => ?_)
        refine xr_iaload A mv105 dL_law_549 ?_
        refine xr_aload_n A dL_law_550 0 rfl rfl ?_
        refine xr_iload A dL_law_551 4 rfl ?_
        refine xr_iconst A (v := 2) dL_law_553 (by decide) ?_
        refine xr_iadd A dL_law_554 ?_
        revert hf; refine ab_bdI (fun v106 mv106 hf => ?_)
        refine xr_iaload A mv106 dL_law_555 ?_
        revert hf; refine ab_b2I (fun v109 h108 m107 hf => ?_)
        refine xr_V A bX5_best (wX5_best D m107).2 xc_X5 (wX5_best D m107).1 q1827 q1828 q1826 (av := [vI v105, vI v106]) (rest := [vI v104]) rfl dL_law_556 (Nat.le_of_ble_eq_true rfl) (Nat.le_of_ble_eq_true rfl) rfl (Nat.le_of_ble_eq_true rfl) ?_
        refine xr_icmp_eq A (tgt := 1259) dL_law_559 (by decide) (fun c559 => ?_) (fun c559 => ?_)
        · replace hf := ab_ip c559 hf
          refine xr_iinc A dL_law_1259 4 rfl (v := (l4 + (6 : Int32))) rfl (Nat.le_of_ble_eq_true rfl) (L' := [(4, vI (l4 + (6 : Int32))), (0, vR (some a1)), (1, vR (some l1)), (2, vR (some l2)), (3, vR (some l3))]) rfl ?_
          refine xr_goto A (tgt := 23) dL_law_1262 (by decide) ?_
          refine X.sub [1, 2, 3, 4, 0] rfl ?_
          exact ih hf
        · replace hf := ab_in c559 hf
          refine xr_iconst A (v := 0) dL_law_562 (by decide) ?_
          exact xr_ireturn A rfl hf dL_law_563
      replace hf := ab_in c40_11 hf
      by_cases c40_12 : (v3 &&& (63 : Int32)) = (12 : Int32)
      · replace hf := ab_ip c40_12 hf
        refine xr_tabIn A (tgt := 564) dL_law_40 (by rw [c40_12]; decide) (by rw [c40_12]; decide) (by rw [c40_12]; rfl) (by decide) ?_
        refine xr_aload_n A dL_law_564 1 rfl rfl ?_
        refine xr_aload_n A dL_law_565 0 rfl rfl ?_
        refine xr_iload A dL_law_566 4 rfl ?_
        refine xr_iconst A (v := 1) dL_law_568 (by decide) ?_
        refine xr_iadd A dL_law_569 ?_
        revert hf; refine ab_bdI (fun v110 mv110 hf => ?_)
        refine xr_iaload A mv110 dL_law_570 ?_
        refine xr_aload_n A dL_law_571 0 rfl rfl ?_
        refine xr_iload A dL_law_572 4 rfl ?_
        refine xr_iconst A (v := 2) dL_law_574 (by decide) ?_
        refine xr_iadd A dL_law_575 ?_
        revert hf; refine ab_bdI (fun v111 mv111 hf => ?_)
        refine xr_iaload A mv111 dL_law_576 ?_
        refine xr_aload_n A dL_law_577 0 rfl rfl ?_
        refine xr_iload A dL_law_578 4 rfl ?_
        refine xr_iconst A (v := 3) dL_law_580 (by decide) ?_
        refine xr_iadd A dL_law_581 ?_
        revert hf; refine ab_bdI (fun v112 mv112 hf => ?_)
        refine xr_iaload A mv112 dL_law_582 ?_
        revert hf; refine ab_b2I (fun v115 h114 m113 hf => ?_)
        refine xr_V A bX1_bestAt (wX1_bestAt D m113).2 xc_X1 (wX1_bestAt D m113).1 q1123 q1124 q1122 (av := [vI v110, vI v111, vI v112]) (rest := []) rfl dL_law_583 (Nat.le_of_ble_eq_true rfl) (Nat.le_of_ble_eq_true rfl) rfl (Nat.le_of_ble_eq_true rfl) ?_
        refine xr_aload_n A dL_law_586 2 rfl rfl ?_
        refine xr_aload_n A dL_law_587 0 rfl rfl ?_
        refine xr_iload A dL_law_588 4 rfl ?_
        refine xr_iconst A (v := 1) dL_law_590 (by decide) ?_
        refine xr_iadd A dL_law_591 ?_
        revert hf; refine ab_bdI (fun v116 mv116 hf => ?_)
        refine xr_iaload A mv116 dL_law_592 ?_
        refine xr_aload_n A dL_law_593 0 rfl rfl ?_
        refine xr_iload A dL_law_594 4 rfl ?_
        refine xr_iconst A (v := 2) dL_law_596 (by decide) ?_
        refine xr_iadd A dL_law_597 ?_
        revert hf; refine ab_bdI (fun v117 mv117 hf => ?_)
        refine xr_iaload A mv117 dL_law_598 ?_
        refine xr_aload_n A dL_law_599 0 rfl rfl ?_
        refine xr_iload A dL_law_600 4 rfl ?_
        refine xr_iconst A (v := 3) dL_law_602 (by decide) ?_
        refine xr_iadd A dL_law_603 ?_
        revert hf; refine ab_bdI (fun v118 mv118 hf => ?_)
        refine xr_iaload A mv118 dL_law_604 ?_
        revert hf; refine ab_b2I (fun v121 h120 m119 hf => ?_)
        refine xr_V A bX5_bestAt (wX5_bestAt D m119).2 xc_X5 (wX5_bestAt D m119).1 q1849 q1850 q1848 (av := [vI v116, vI v117, vI v118]) (rest := [vI v115]) rfl dL_law_605 (Nat.le_of_ble_eq_true rfl) (Nat.le_of_ble_eq_true rfl) rfl (Nat.le_of_ble_eq_true rfl) ?_
        refine xr_icmp_eq A (tgt := 1259) dL_law_608 (by decide) (fun c608 => ?_) (fun c608 => ?_)
        · replace hf := ab_ip c608 hf
          refine xr_iinc A dL_law_1259 4 rfl (v := (l4 + (6 : Int32))) rfl (Nat.le_of_ble_eq_true rfl) (L' := [(4, vI (l4 + (6 : Int32))), (0, vR (some a1)), (1, vR (some l1)), (2, vR (some l2)), (3, vR (some l3))]) rfl ?_
          refine xr_goto A (tgt := 23) dL_law_1262 (by decide) ?_
          refine X.sub [1, 2, 3, 4, 0] rfl ?_
          exact ih hf
        · replace hf := ab_in c608 hf
          refine xr_iconst A (v := 0) dL_law_611 (by decide) ?_
          exact xr_ireturn A rfl hf dL_law_612
      replace hf := ab_in c40_12 hf
      by_cases c40_13 : (v3 &&& (63 : Int32)) = (13 : Int32)
      · replace hf := ab_ip c40_13 hf
        refine xr_tabIn A (tgt := 613) dL_law_40 (by rw [c40_13]; decide) (by rw [c40_13]; decide) (by rw [c40_13]; rfl) (by decide) ?_
        refine xr_aload_n A dL_law_613 1 rfl rfl ?_
        revert hf; refine ab_b2I (fun v124 h123 m122 hf => ?_)
        refine xr_V A bX1_share (wX1_share D m122).2 xc_X1 (wX1_share D m122).1 q1127 q1128 q1126 (av := []) (rest := []) rfl dL_law_614 (Nat.le_of_ble_eq_true rfl) (Nat.le_of_ble_eq_true rfl) rfl (Nat.le_of_ble_eq_true rfl) ?_
        refine xr_aload_n A dL_law_617 2 rfl rfl ?_
        revert hf; refine ab_b2I (fun v127 h126 m125 hf => ?_)
        refine xr_V A bX5_share (wX5_share D m125).2 xc_X5 (wX5_share D m125).1 q1853 q1854 q1852 (av := []) (rest := [vI v124]) rfl dL_law_618 (Nat.le_of_ble_eq_true rfl) (Nat.le_of_ble_eq_true rfl) rfl (Nat.le_of_ble_eq_true rfl) ?_
        refine xr_icmp_eq A (tgt := 1259) dL_law_621 (by decide) (fun c621 => ?_) (fun c621 => ?_)
        · replace hf := ab_ip c621 hf
          refine xr_iinc A dL_law_1259 4 rfl (v := (l4 + (6 : Int32))) rfl (Nat.le_of_ble_eq_true rfl) (L' := [(4, vI (l4 + (6 : Int32))), (0, vR (some a1)), (1, vR (some l1)), (2, vR (some l2)), (3, vR (some l3))]) rfl ?_
          refine xr_goto A (tgt := 23) dL_law_1262 (by decide) ?_
          refine X.sub [1, 2, 3, 4, 0] rfl ?_
          exact ih hf
        · replace hf := ab_in c621 hf
          refine xr_iconst A (v := 0) dL_law_624 (by decide) ?_
          exact xr_ireturn A rfl hf dL_law_625
      replace hf := ab_in c40_13 hf
      by_cases c40_14 : (v3 &&& (63 : Int32)) = (14 : Int32)
      · replace hf := ab_ip c40_14 hf
        refine xr_tabIn A (tgt := 626) dL_law_40 (by rw [c40_14]; decide) (by rw [c40_14]; decide) (by rw [c40_14]; rfl) (by decide) ?_
        refine xr_aload_n A dL_law_626 1 rfl rfl ?_
        refine xr_aload_n A dL_law_627 0 rfl rfl ?_
        refine xr_iload A dL_law_628 4 rfl ?_
        refine xr_iconst A (v := 1) dL_law_630 (by decide) ?_
        refine xr_iadd A dL_law_631 ?_
        revert hf; refine ab_bdI (fun v128 mv128 hf => ?_)
        refine xr_iaload A mv128 dL_law_632 ?_
        revert hf; refine ab_b2I (fun v131 h130 m129 hf => ?_)
        refine xr_V A bX1_shared (wX1_shared D m129).2 xc_X1 (wX1_shared D m129).1 q1136 q1137 q1135 (av := [vI v128]) (rest := []) rfl dL_law_633 (Nat.le_of_ble_eq_true rfl) (Nat.le_of_ble_eq_true rfl) rfl (Nat.le_of_ble_eq_true rfl) ?_
        refine xr_aload_n A dL_law_636 2 rfl rfl ?_
        refine xr_aload_n A dL_law_637 0 rfl rfl ?_
        refine xr_iload A dL_law_638 4 rfl ?_
        refine xr_iconst A (v := 1) dL_law_640 (by decide) ?_
        refine xr_iadd A dL_law_641 ?_
        revert hf; refine ab_bdI (fun v132 mv132 hf => ?_)
        refine xr_iaload A mv132 dL_law_642 ?_
        revert hf; refine ab_b2I (fun v135 h134 m133 hf => ?_)
        refine xr_V A bX5_shared (wX5_shared D m133).2 xc_X5 (wX5_shared D m133).1 q1869 q1870 q1868 (av := [vI v132]) (rest := [vI v131]) rfl dL_law_643 (Nat.le_of_ble_eq_true rfl) (Nat.le_of_ble_eq_true rfl) rfl (Nat.le_of_ble_eq_true rfl) ?_
        refine xr_icmp_eq A (tgt := 1259) dL_law_646 (by decide) (fun c646 => ?_) (fun c646 => ?_)
        · replace hf := ab_ip c646 hf
          refine xr_iinc A dL_law_1259 4 rfl (v := (l4 + (6 : Int32))) rfl (Nat.le_of_ble_eq_true rfl) (L' := [(4, vI (l4 + (6 : Int32))), (0, vR (some a1)), (1, vR (some l1)), (2, vR (some l2)), (3, vR (some l3))]) rfl ?_
          refine xr_goto A (tgt := 23) dL_law_1262 (by decide) ?_
          refine X.sub [1, 2, 3, 4, 0] rfl ?_
          exact ih hf
        · replace hf := ab_in c646 hf
          refine xr_iconst A (v := 0) dL_law_649 (by decide) ?_
          exact xr_ireturn A rfl hf dL_law_650
      replace hf := ab_in c40_14 hf
      by_cases c40_15 : (v3 &&& (63 : Int32)) = (15 : Int32)
      · replace hf := ab_ip c40_15 hf
        refine xr_tabIn A (tgt := 651) dL_law_40 (by rw [c40_15]; decide) (by rw [c40_15]; decide) (by rw [c40_15]; rfl) (by decide) ?_
        refine xr_aload_n A dL_law_651 1 rfl rfl ?_
        refine xr_aload_n A dL_law_652 0 rfl rfl ?_
        refine xr_iload A dL_law_653 4 rfl ?_
        refine xr_iconst A (v := 1) dL_law_655 (by decide) ?_
        refine xr_iadd A dL_law_656 ?_
        revert hf; refine ab_bdI (fun v136 mv136 hf => ?_)
        refine xr_iaload A mv136 dL_law_657 ?_
        revert hf; refine ab_b2I (fun v139 h138 m137 hf => ?_)
        refine xr_V A bX1_odds (wX1_odds D m137).2 xc_X1 (wX1_odds D m137).1 q1140 q1141 q1139 (av := [vI v136]) (rest := []) rfl dL_law_658 (Nat.le_of_ble_eq_true rfl) (Nat.le_of_ble_eq_true rfl) rfl (Nat.le_of_ble_eq_true rfl) ?_
        refine xr_aload_n A dL_law_661 2 rfl rfl ?_
        refine xr_aload_n A dL_law_662 0 rfl rfl ?_
        refine xr_iload A dL_law_663 4 rfl ?_
        refine xr_iconst A (v := 1) dL_law_665 (by decide) ?_
        refine xr_iadd A dL_law_666 ?_
        revert hf; refine ab_bdI (fun v140 mv140 hf => ?_)
        refine xr_iaload A mv140 dL_law_667 ?_
        revert hf; refine ab_b2I (fun v143 h142 m141 hf => ?_)
        refine xr_V A bX5_odds (wX5_odds D m141).2 xc_X5 (wX5_odds D m141).1 q1873 q1874 q1872 (av := [vI v140]) (rest := [vL v139]) rfl dL_law_668 (Nat.le_of_ble_eq_true rfl) (Nat.le_of_ble_eq_true rfl) rfl (Nat.le_of_ble_eq_true rfl) ?_
        refine xr_lcmp A dL_law_671 ?_
        refine xr_if_eq A (tgt := 1259) dL_law_672 (by decide) (fun c672 => ?_) (fun c672 => ?_)
        · replace hf := ab_ip c672 hf
          refine xr_iinc A dL_law_1259 4 rfl (v := (l4 + (6 : Int32))) rfl (Nat.le_of_ble_eq_true rfl) (L' := [(4, vI (l4 + (6 : Int32))), (0, vR (some a1)), (1, vR (some l1)), (2, vR (some l2)), (3, vR (some l3))]) rfl ?_
          refine xr_goto A (tgt := 23) dL_law_1262 (by decide) ?_
          refine X.sub [1, 2, 3, 4, 0] rfl ?_
          exact ih hf
        · replace hf := ab_in c672 hf
          refine xr_iconst A (v := 0) dL_law_675 (by decide) ?_
          exact xr_ireturn A rfl hf dL_law_676
      replace hf := ab_in c40_15 hf
      by_cases c40_16 : (v3 &&& (63 : Int32)) = (16 : Int32)
      · replace hf := ab_ip c40_16 hf
        refine xr_tabIn A (tgt := 677) dL_law_40 (by rw [c40_16]; decide) (by rw [c40_16]; decide) (by rw [c40_16]; rfl) (by decide) ?_
        refine xr_aload_n A dL_law_677 1 rfl rfl ?_
        refine xr_aload_n A dL_law_678 0 rfl rfl ?_
        refine xr_iload A dL_law_679 4 rfl ?_
        refine xr_iconst A (v := 1) dL_law_681 (by decide) ?_
        refine xr_iadd A dL_law_682 ?_
        revert hf; refine ab_bdI (fun v144 mv144 hf => ?_)
        refine xr_iaload A mv144 dL_law_683 ?_
        revert hf; refine ab_b2I (fun v147 h146 m145 hf => ?_)
        refine xr_V A bX1_costs (wX1_costs D m145).2 xc_X1 (wX1_costs D m145).1 q1148 q1149 q1147 (av := [vI v144]) (rest := []) rfl dL_law_684 (Nat.le_of_ble_eq_true rfl) (Nat.le_of_ble_eq_true rfl) rfl (Nat.le_of_ble_eq_true rfl) ?_
        refine xr_aload_n A dL_law_687 2 rfl rfl ?_
        refine xr_aload_n A dL_law_688 0 rfl rfl ?_
        refine xr_iload A dL_law_689 4 rfl ?_
        refine xr_iconst A (v := 1) dL_law_691 (by decide) ?_
        refine xr_iadd A dL_law_692 ?_
        revert hf; refine ab_bdI (fun v148 mv148 hf => ?_)
        refine xr_iaload A mv148 dL_law_693 ?_
        revert hf; refine ab_b2I (fun v151 h150 m149 hf => ?_)
        refine xr_V A bX5_costs (wX5_costs D m149).2 xc_X5 (wX5_costs D m149).1 q1877 q1878 q1876 (av := [vI v148]) (rest := [vI v147]) rfl dL_law_694 (Nat.le_of_ble_eq_true rfl) (Nat.le_of_ble_eq_true rfl) rfl (Nat.le_of_ble_eq_true rfl) ?_
        refine xr_icmp_eq A (tgt := 1259) dL_law_697 (by decide) (fun c697 => ?_) (fun c697 => ?_)
        · replace hf := ab_ip c697 hf
          refine xr_iinc A dL_law_1259 4 rfl (v := (l4 + (6 : Int32))) rfl (Nat.le_of_ble_eq_true rfl) (L' := [(4, vI (l4 + (6 : Int32))), (0, vR (some a1)), (1, vR (some l1)), (2, vR (some l2)), (3, vR (some l3))]) rfl ?_
          refine xr_goto A (tgt := 23) dL_law_1262 (by decide) ?_
          refine X.sub [1, 2, 3, 4, 0] rfl ?_
          exact ih hf
        · replace hf := ab_in c697 hf
          refine xr_iconst A (v := 0) dL_law_700 (by decide) ?_
          exact xr_ireturn A rfl hf dL_law_701
      replace hf := ab_in c40_16 hf
      by_cases c40_17 : (v3 &&& (63 : Int32)) = (17 : Int32)
      · replace hf := ab_ip c40_17 hf
        refine xr_tabIn A (tgt := 702) dL_law_40 (by rw [c40_17]; decide) (by rw [c40_17]; decide) (by rw [c40_17]; rfl) (by decide) ?_
        refine xr_aload_n A dL_law_702 1 rfl rfl ?_
        refine xr_aload_n A dL_law_703 0 rfl rfl ?_
        refine xr_iload A dL_law_704 4 rfl ?_
        refine xr_iconst A (v := 1) dL_law_706 (by decide) ?_
        refine xr_iadd A dL_law_707 ?_
        revert hf; refine ab_bdI (fun v152 mv152 hf => ?_)
        refine xr_iaload A mv152 dL_law_708 ?_
        refine xr_aload_n A dL_law_709 0 rfl rfl ?_
        refine xr_iload A dL_law_710 4 rfl ?_
        refine xr_iconst A (v := 2) dL_law_712 (by decide) ?_
        refine xr_iadd A dL_law_713 ?_
        revert hf; refine ab_bdI (fun v153 mv153 hf => ?_)
        refine xr_iaload A mv153 dL_law_714 ?_
        revert hf; refine ab_b2I (fun v156 h155 m154 hf => ?_)
        refine xr_V A bX1_fits (wX1_fits D m154).2 xc_X1 (wX1_fits D m154).1 q1152 q1153 q1151 (av := [vI v152, vI v153]) (rest := []) rfl dL_law_715 (Nat.le_of_ble_eq_true rfl) (Nat.le_of_ble_eq_true rfl) rfl (Nat.le_of_ble_eq_true rfl) ?_
        refine xr_aload_n A dL_law_718 2 rfl rfl ?_
        refine xr_aload_n A dL_law_719 0 rfl rfl ?_
        refine xr_iload A dL_law_720 4 rfl ?_
        refine xr_iconst A (v := 1) dL_law_722 (by decide) ?_
        refine xr_iadd A dL_law_723 ?_
        revert hf; refine ab_bdI (fun v157 mv157 hf => ?_)
        refine xr_iaload A mv157 dL_law_724 ?_
        refine xr_aload_n A dL_law_725 0 rfl rfl ?_
        refine xr_iload A dL_law_726 4 rfl ?_
        refine xr_iconst A (v := 2) dL_law_728 (by decide) ?_
        refine xr_iadd A dL_law_729 ?_
        revert hf; refine ab_bdI (fun v158 mv158 hf => ?_)
        refine xr_iaload A mv158 dL_law_730 ?_
        revert hf; refine ab_b2I (fun v161 h160 m159 hf => ?_)
        refine xr_V A bX5_fits (wX5_fits D m159).2 xc_X5 (wX5_fits D m159).1 q1881 q1882 q1880 (av := [vI v157, vI v158]) (rest := [vI v156]) rfl dL_law_731 (Nat.le_of_ble_eq_true rfl) (Nat.le_of_ble_eq_true rfl) rfl (Nat.le_of_ble_eq_true rfl) ?_
        refine xr_icmp_eq A (tgt := 1259) dL_law_734 (by decide) (fun c734 => ?_) (fun c734 => ?_)
        · replace hf := ab_ip c734 hf
          refine xr_iinc A dL_law_1259 4 rfl (v := (l4 + (6 : Int32))) rfl (Nat.le_of_ble_eq_true rfl) (L' := [(4, vI (l4 + (6 : Int32))), (0, vR (some a1)), (1, vR (some l1)), (2, vR (some l2)), (3, vR (some l3))]) rfl ?_
          refine xr_goto A (tgt := 23) dL_law_1262 (by decide) ?_
          refine X.sub [1, 2, 3, 4, 0] rfl ?_
          exact ih hf
        · replace hf := ab_in c734 hf
          refine xr_iconst A (v := 0) dL_law_737 (by decide) ?_
          exact xr_ireturn A rfl hf dL_law_738
      replace hf := ab_in c40_17 hf
      by_cases c40_18 : (v3 &&& (63 : Int32)) = (18 : Int32)
      · replace hf := ab_ip c40_18 hf
        refine xr_tabIn A (tgt := 739) dL_law_40 (by rw [c40_18]; decide) (by rw [c40_18]; decide) (by rw [c40_18]; rfl) (by decide) ?_
        refine xr_aload_n A dL_law_739 1 rfl rfl ?_
        refine xr_aload_n A dL_law_740 0 rfl rfl ?_
        refine xr_iload A dL_law_741 4 rfl ?_
        refine xr_iconst A (v := 1) dL_law_743 (by decide) ?_
        refine xr_iadd A dL_law_744 ?_
        revert hf; refine ab_bdI (fun v162 mv162 hf => ?_)
        refine xr_iaload A mv162 dL_law_745 ?_
        refine xr_aload_n A dL_law_746 0 rfl rfl ?_
        refine xr_iload A dL_law_747 4 rfl ?_
        refine xr_iconst A (v := 2) dL_law_749 (by decide) ?_
        refine xr_iadd A dL_law_750 ?_
        revert hf; refine ab_bdI (fun v163 mv163 hf => ?_)
        refine xr_iaload A mv163 dL_law_751 ?_
        revert hf; refine ab_b2I (fun v166 h165 m164 hf => ?_)
        refine xr_V A bX1_breach (wX1_breach D m164).2 xc_X1 (wX1_breach D m164).1 q1164 q1165 q1163 (av := [vI v162, vI v163]) (rest := []) rfl dL_law_752 (Nat.le_of_ble_eq_true rfl) (Nat.le_of_ble_eq_true rfl) rfl (Nat.le_of_ble_eq_true rfl) ?_
        refine xr_aload_n A dL_law_755 2 rfl rfl ?_
        refine xr_aload_n A dL_law_756 0 rfl rfl ?_
        refine xr_iload A dL_law_757 4 rfl ?_
        refine xr_iconst A (v := 1) dL_law_759 (by decide) ?_
        refine xr_iadd A dL_law_760 ?_
        revert hf; refine ab_bdI (fun v167 mv167 hf => ?_)
        refine xr_iaload A mv167 dL_law_761 ?_
        refine xr_aload_n A dL_law_762 0 rfl rfl ?_
        refine xr_iload A dL_law_763 4 rfl ?_
        refine xr_iconst A (v := 2) dL_law_765 (by decide) ?_
        refine xr_iadd A dL_law_766 ?_
        revert hf; refine ab_bdI (fun v168 mv168 hf => ?_)
        refine xr_iaload A mv168 dL_law_767 ?_
        revert hf; refine ab_b2I (fun v171 h170 m169 hf => ?_)
        refine xr_V A bX5_breach (wX5_breach D m169).2 xc_X5 (wX5_breach D m169).1 q1893 q1894 q1892 (av := [vI v167, vI v168]) (rest := [vI v166]) rfl dL_law_768 (Nat.le_of_ble_eq_true rfl) (Nat.le_of_ble_eq_true rfl) rfl (Nat.le_of_ble_eq_true rfl) ?_
        refine xr_icmp_eq A (tgt := 1259) dL_law_771 (by decide) (fun c771 => ?_) (fun c771 => ?_)
        · replace hf := ab_ip c771 hf
          refine xr_iinc A dL_law_1259 4 rfl (v := (l4 + (6 : Int32))) rfl (Nat.le_of_ble_eq_true rfl) (L' := [(4, vI (l4 + (6 : Int32))), (0, vR (some a1)), (1, vR (some l1)), (2, vR (some l2)), (3, vR (some l3))]) rfl ?_
          refine xr_goto A (tgt := 23) dL_law_1262 (by decide) ?_
          refine X.sub [1, 2, 3, 4, 0] rfl ?_
          exact ih hf
        · replace hf := ab_in c771 hf
          refine xr_iconst A (v := 0) dL_law_774 (by decide) ?_
          exact xr_ireturn A rfl hf dL_law_775
      replace hf := ab_in c40_18 hf
      by_cases c40_19 : (v3 &&& (63 : Int32)) = (19 : Int32)
      · replace hf := ab_ip c40_19 hf
        refine xr_tabIn A (tgt := 776) dL_law_40 (by rw [c40_19]; decide) (by rw [c40_19]; decide) (by rw [c40_19]; rfl) (by decide) ?_
        refine xr_aload_n A dL_law_776 1 rfl rfl ?_
        revert hf; refine ab_b2I (fun v174 h173 m172 hf => ?_)
        refine xr_V A bX1_forAll (wX1_forAll D m172).2 xc_X1 (wX1_forAll D m172).1 q1168 q1169 q1167 (av := []) (rest := []) rfl dL_law_777 (Nat.le_of_ble_eq_true rfl) (Nat.le_of_ble_eq_true rfl) rfl (Nat.le_of_ble_eq_true rfl) ?_
        refine xr_aload_n A dL_law_780 2 rfl rfl ?_
        revert hf; refine ab_b2I (fun v177 h176 m175 hf => ?_)
        refine xr_V A bX5_forAll (wX5_forAll D m175).2 xc_X5 (wX5_forAll D m175).1 q1897 q1898 q1896 (av := []) (rest := [vI v174]) rfl dL_law_781 (Nat.le_of_ble_eq_true rfl) (Nat.le_of_ble_eq_true rfl) rfl (Nat.le_of_ble_eq_true rfl) ?_
        refine xr_icmp_eq A (tgt := 1259) dL_law_784 (by decide) (fun c784 => ?_) (fun c784 => ?_)
        · replace hf := ab_ip c784 hf
          refine xr_iinc A dL_law_1259 4 rfl (v := (l4 + (6 : Int32))) rfl (Nat.le_of_ble_eq_true rfl) (L' := [(4, vI (l4 + (6 : Int32))), (0, vR (some a1)), (1, vR (some l1)), (2, vR (some l2)), (3, vR (some l3))]) rfl ?_
          refine xr_goto A (tgt := 23) dL_law_1262 (by decide) ?_
          refine X.sub [1, 2, 3, 4, 0] rfl ?_
          exact ih hf
        · replace hf := ab_in c784 hf
          refine xr_iconst A (v := 0) dL_law_787 (by decide) ?_
          exact xr_ireturn A rfl hf dL_law_788
      replace hf := ab_in c40_19 hf
      by_cases c40_20 : (v3 &&& (63 : Int32)) = (20 : Int32)
      · replace hf := ab_ip c40_20 hf
        refine xr_tabIn A (tgt := 789) dL_law_40 (by rw [c40_20]; decide) (by rw [c40_20]; decide) (by rw [c40_20]; rfl) (by decide) ?_
        refine xr_aload_n A dL_law_789 1 rfl rfl ?_
        refine xr_aload_n A dL_law_790 0 rfl rfl ?_
        refine xr_iload A dL_law_791 4 rfl ?_
        refine xr_iconst A (v := 1) dL_law_793 (by decide) ?_
        refine xr_iadd A dL_law_794 ?_
        revert hf; refine ab_bdI (fun v178 mv178 hf => ?_)
        refine xr_iaload A mv178 dL_law_795 ?_
        refine xr_aload_n A dL_law_796 0 rfl rfl ?_
        refine xr_iload A dL_law_797 4 rfl ?_
        refine xr_iconst A (v := 2) dL_law_799 (by decide) ?_
        refine xr_iadd A dL_law_800 ?_
        revert hf; refine ab_bdI (fun v179 mv179 hf => ?_)
        refine xr_iaload A mv179 dL_law_801 ?_
        revert hf; refine ab_b2I (fun v182 h181 m180 hf => ?_)
        refine xr_V A bX1_menu (wX1_menu D m180).2 xc_X1 (wX1_menu D m180).1 q1172 q1173 q1171 (av := [vI v178, vI v179]) (rest := []) rfl dL_law_802 (Nat.le_of_ble_eq_true rfl) (Nat.le_of_ble_eq_true rfl) rfl (Nat.le_of_ble_eq_true rfl) ?_
        refine xr_aload_n A dL_law_805 2 rfl rfl ?_
        refine xr_aload_n A dL_law_806 0 rfl rfl ?_
        refine xr_iload A dL_law_807 4 rfl ?_
        refine xr_iconst A (v := 1) dL_law_809 (by decide) ?_
        refine xr_iadd A dL_law_810 ?_
        revert hf; refine ab_bdI (fun v183 mv183 hf => ?_)
        refine xr_iaload A mv183 dL_law_811 ?_
        refine xr_aload_n A dL_law_812 0 rfl rfl ?_
        refine xr_iload A dL_law_813 4 rfl ?_
        refine xr_iconst A (v := 2) dL_law_815 (by decide) ?_
        refine xr_iadd A dL_law_816 ?_
        revert hf; refine ab_bdI (fun v184 mv184 hf => ?_)
        refine xr_iaload A mv184 dL_law_817 ?_
        revert hf; refine ab_b2I (fun v187 h186 m185 hf => ?_)
        refine xr_V A bX5_menu (wX5_menu D m185).2 xc_X5 (wX5_menu D m185).1 q1901 q1902 q1900 (av := [vI v183, vI v184]) (rest := [vI v182]) rfl dL_law_818 (Nat.le_of_ble_eq_true rfl) (Nat.le_of_ble_eq_true rfl) rfl (Nat.le_of_ble_eq_true rfl) ?_
        refine xr_icmp_eq A (tgt := 1259) dL_law_821 (by decide) (fun c821 => ?_) (fun c821 => ?_)
        · replace hf := ab_ip c821 hf
          refine xr_iinc A dL_law_1259 4 rfl (v := (l4 + (6 : Int32))) rfl (Nat.le_of_ble_eq_true rfl) (L' := [(4, vI (l4 + (6 : Int32))), (0, vR (some a1)), (1, vR (some l1)), (2, vR (some l2)), (3, vR (some l3))]) rfl ?_
          refine xr_goto A (tgt := 23) dL_law_1262 (by decide) ?_
          refine X.sub [1, 2, 3, 4, 0] rfl ?_
          exact ih hf
        · replace hf := ab_in c821 hf
          refine xr_iconst A (v := 0) dL_law_824 (by decide) ?_
          exact xr_ireturn A rfl hf dL_law_825
      replace hf := ab_in c40_20 hf
      by_cases c40_21 : (v3 &&& (63 : Int32)) = (21 : Int32)
      · replace hf := ab_ip c40_21 hf
        refine xr_tabIn A (tgt := 826) dL_law_40 (by rw [c40_21]; decide) (by rw [c40_21]; decide) (by rw [c40_21]; rfl) (by decide) ?_
        refine xr_aload_n A dL_law_826 1 rfl rfl ?_
        refine xr_aload_n A dL_law_827 0 rfl rfl ?_
        refine xr_iload A dL_law_828 4 rfl ?_
        refine xr_iconst A (v := 1) dL_law_830 (by decide) ?_
        refine xr_iadd A dL_law_831 ?_
        revert hf; refine ab_bdI (fun v188 mv188 hf => ?_)
        refine xr_iaload A mv188 dL_law_832 ?_
        revert hf; refine ab_b2I (fun v191 h190 m189 hf => ?_)
        refine xr_V A bX1_menuAt (wX1_menuAt D m189).2 xc_X1 (wX1_menuAt D m189).1 q1184 q1185 q1183 (av := [vI v188]) (rest := []) rfl dL_law_833 (Nat.le_of_ble_eq_true rfl) (Nat.le_of_ble_eq_true rfl) rfl (Nat.le_of_ble_eq_true rfl) ?_
        refine xr_aload_n A dL_law_836 2 rfl rfl ?_
        refine xr_aload_n A dL_law_837 0 rfl rfl ?_
        refine xr_iload A dL_law_838 4 rfl ?_
        refine xr_iconst A (v := 1) dL_law_840 (by decide) ?_
        refine xr_iadd A dL_law_841 ?_
        revert hf; refine ab_bdI (fun v192 mv192 hf => ?_)
        refine xr_iaload A mv192 dL_law_842 ?_
        revert hf; refine ab_b2I (fun v195 h194 m193 hf => ?_)
        refine xr_V A bX5_menuAt (wX5_menuAt D m193).2 xc_X5 (wX5_menuAt D m193).1 q1913 q1914 q1912 (av := [vI v192]) (rest := [vI v191]) rfl dL_law_843 (Nat.le_of_ble_eq_true rfl) (Nat.le_of_ble_eq_true rfl) rfl (Nat.le_of_ble_eq_true rfl) ?_
        refine xr_icmp_eq A (tgt := 1259) dL_law_846 (by decide) (fun c846 => ?_) (fun c846 => ?_)
        · replace hf := ab_ip c846 hf
          refine xr_iinc A dL_law_1259 4 rfl (v := (l4 + (6 : Int32))) rfl (Nat.le_of_ble_eq_true rfl) (L' := [(4, vI (l4 + (6 : Int32))), (0, vR (some a1)), (1, vR (some l1)), (2, vR (some l2)), (3, vR (some l3))]) rfl ?_
          refine xr_goto A (tgt := 23) dL_law_1262 (by decide) ?_
          refine X.sub [1, 2, 3, 4, 0] rfl ?_
          exact ih hf
        · replace hf := ab_in c846 hf
          refine xr_iconst A (v := 0) dL_law_849 (by decide) ?_
          exact xr_ireturn A rfl hf dL_law_850
      replace hf := ab_in c40_21 hf
      by_cases c40_22 : (v3 &&& (63 : Int32)) = (22 : Int32)
      · replace hf := ab_ip c40_22 hf
        refine xr_tabIn A (tgt := 851) dL_law_40 (by rw [c40_22]; decide) (by rw [c40_22]; decide) (by rw [c40_22]; rfl) (by decide) ?_
        refine xr_aload_n A dL_law_851 1 rfl rfl ?_
        refine xr_aload_n A dL_law_852 0 rfl rfl ?_
        refine xr_iload A dL_law_853 4 rfl ?_
        refine xr_iconst A (v := 1) dL_law_855 (by decide) ?_
        refine xr_iadd A dL_law_856 ?_
        revert hf; refine ab_bdI (fun v196 mv196 hf => ?_)
        refine xr_iaload A mv196 dL_law_857 ?_
        refine xr_aload_n A dL_law_858 0 rfl rfl ?_
        refine xr_iload A dL_law_859 4 rfl ?_
        refine xr_iconst A (v := 2) dL_law_861 (by decide) ?_
        refine xr_iadd A dL_law_862 ?_
        revert hf; refine ab_bdI (fun v197 mv197 hf => ?_)
        refine xr_iaload A mv197 dL_law_863 ?_
        revert hf; refine ab_b2I (fun v200 h199 m198 hf => ?_)
        refine xr_V A bX1_dropped (wX1_dropped D m198).2 xc_X1 (wX1_dropped D m198).1 q1188 q1189 q1187 (av := [vI v196, vI v197]) (rest := []) rfl dL_law_864 (Nat.le_of_ble_eq_true rfl) (Nat.le_of_ble_eq_true rfl) rfl (Nat.le_of_ble_eq_true rfl) ?_
        refine xr_aload_n A dL_law_867 2 rfl rfl ?_
        refine xr_aload_n A dL_law_868 0 rfl rfl ?_
        refine xr_iload A dL_law_869 4 rfl ?_
        refine xr_iconst A (v := 1) dL_law_871 (by decide) ?_
        refine xr_iadd A dL_law_872 ?_
        revert hf; refine ab_bdI (fun v201 mv201 hf => ?_)
        refine xr_iaload A mv201 dL_law_873 ?_
        refine xr_aload_n A dL_law_874 0 rfl rfl ?_
        refine xr_iload A dL_law_875 4 rfl ?_
        refine xr_iconst A (v := 2) dL_law_877 (by decide) ?_
        refine xr_iadd A dL_law_878 ?_
        revert hf; refine ab_bdI (fun v202 mv202 hf => ?_)
        refine xr_iaload A mv202 dL_law_879 ?_
        revert hf; refine ab_b2I (fun v205 h204 m203 hf => ?_)
        refine xr_V A bX5_dropped (wX5_dropped D m203).2 xc_X5 (wX5_dropped D m203).1 q1917 q1918 q1916 (av := [vI v201, vI v202]) (rest := [vI v200]) rfl dL_law_880 (Nat.le_of_ble_eq_true rfl) (Nat.le_of_ble_eq_true rfl) rfl (Nat.le_of_ble_eq_true rfl) ?_
        refine xr_icmp_eq A (tgt := 1259) dL_law_883 (by decide) (fun c883 => ?_) (fun c883 => ?_)
        · replace hf := ab_ip c883 hf
          refine xr_iinc A dL_law_1259 4 rfl (v := (l4 + (6 : Int32))) rfl (Nat.le_of_ble_eq_true rfl) (L' := [(4, vI (l4 + (6 : Int32))), (0, vR (some a1)), (1, vR (some l1)), (2, vR (some l2)), (3, vR (some l3))]) rfl ?_
          refine xr_goto A (tgt := 23) dL_law_1262 (by decide) ?_
          refine X.sub [1, 2, 3, 4, 0] rfl ?_
          exact ih hf
        · replace hf := ab_in c883 hf
          refine xr_iconst A (v := 0) dL_law_886 (by decide) ?_
          exact xr_ireturn A rfl hf dL_law_887
      replace hf := ab_in c40_22 hf
      by_cases c40_23 : (v3 &&& (63 : Int32)) = (23 : Int32)
      · replace hf := ab_ip c40_23 hf
        refine xr_tabIn A (tgt := 888) dL_law_40 (by rw [c40_23]; decide) (by rw [c40_23]; decide) (by rw [c40_23]; rfl) (by decide) ?_
        refine xr_aload_n A dL_law_888 1 rfl rfl ?_
        revert hf; refine ab_b2I (fun v208 h207 m206 hf => ?_)
        refine xr_V A bX1_knock (wX1_knock D m206).2 xc_X1 (wX1_knock D m206).1 q1193 q1194 q1192 (av := []) (rest := []) rfl dL_law_889 (Nat.le_of_ble_eq_true rfl) (Nat.le_of_ble_eq_true rfl) rfl (Nat.le_of_ble_eq_true rfl) ?_
        refine xr_aload_n A dL_law_892 2 rfl rfl ?_
        revert hf; refine ab_b2I (fun v211 h210 m209 hf => ?_)
        refine xr_V A bX5_knock (wX5_knock D m209).2 xc_X5 (wX5_knock D m209).1 q1922 q1923 q1921 (av := []) (rest := [vL v208]) rfl dL_law_893 (Nat.le_of_ble_eq_true rfl) (Nat.le_of_ble_eq_true rfl) rfl (Nat.le_of_ble_eq_true rfl) ?_
        refine xr_lcmp A dL_law_896 ?_
        refine xr_if_eq A (tgt := 1259) dL_law_897 (by decide) (fun c897 => ?_) (fun c897 => ?_)
        · replace hf := ab_ip c897 hf
          refine xr_iinc A dL_law_1259 4 rfl (v := (l4 + (6 : Int32))) rfl (Nat.le_of_ble_eq_true rfl) (L' := [(4, vI (l4 + (6 : Int32))), (0, vR (some a1)), (1, vR (some l1)), (2, vR (some l2)), (3, vR (some l3))]) rfl ?_
          refine xr_goto A (tgt := 23) dL_law_1262 (by decide) ?_
          refine X.sub [1, 2, 3, 4, 0] rfl ?_
          exact ih hf
        · replace hf := ab_in c897 hf
          refine xr_iconst A (v := 0) dL_law_900 (by decide) ?_
          exact xr_ireturn A rfl hf dL_law_901
      replace hf := ab_in c40_23 hf
      by_cases c40_24 : (v3 &&& (63 : Int32)) = (24 : Int32)
      · replace hf := ab_ip c40_24 hf
        refine xr_tabIn A (tgt := 902) dL_law_40 (by rw [c40_24]; decide) (by rw [c40_24]; decide) (by rw [c40_24]; rfl) (by decide) ?_
        refine xr_aload_n A dL_law_902 1 rfl rfl ?_
        refine xr_aload_n A dL_law_903 0 rfl rfl ?_
        refine xr_iload A dL_law_904 4 rfl ?_
        refine xr_iconst A (v := 1) dL_law_906 (by decide) ?_
        refine xr_iadd A dL_law_907 ?_
        revert hf; refine ab_bdI (fun v212 mv212 hf => ?_)
        refine xr_iaload A mv212 dL_law_908 ?_
        revert hf; refine ab_b2I (fun v215 h214 m213 hf => ?_)
        refine xr_V A bX1_callAt (wX1_callAt D m213).2 xc_X1 (wX1_callAt D m213).1 q1211 q1212 q1210 (av := [vI v212]) (rest := []) rfl dL_law_909 (Nat.le_of_ble_eq_true rfl) (Nat.le_of_ble_eq_true rfl) rfl (Nat.le_of_ble_eq_true rfl) ?_
        refine xr_aload_n A dL_law_912 2 rfl rfl ?_
        refine xr_aload_n A dL_law_913 0 rfl rfl ?_
        refine xr_iload A dL_law_914 4 rfl ?_
        refine xr_iconst A (v := 1) dL_law_916 (by decide) ?_
        refine xr_iadd A dL_law_917 ?_
        revert hf; refine ab_bdI (fun v216 mv216 hf => ?_)
        refine xr_iaload A mv216 dL_law_918 ?_
        revert hf; refine ab_b2I (fun v219 h218 m217 hf => ?_)
        refine xr_V A bX5_callAt (wX5_callAt D m217).2 xc_X5 (wX5_callAt D m217).1 q1932 q1933 q1931 (av := [vI v216]) (rest := [vI v215]) rfl dL_law_919 (Nat.le_of_ble_eq_true rfl) (Nat.le_of_ble_eq_true rfl) rfl (Nat.le_of_ble_eq_true rfl) ?_
        refine xr_icmp_eq A (tgt := 1259) dL_law_922 (by decide) (fun c922 => ?_) (fun c922 => ?_)
        · replace hf := ab_ip c922 hf
          refine xr_iinc A dL_law_1259 4 rfl (v := (l4 + (6 : Int32))) rfl (Nat.le_of_ble_eq_true rfl) (L' := [(4, vI (l4 + (6 : Int32))), (0, vR (some a1)), (1, vR (some l1)), (2, vR (some l2)), (3, vR (some l3))]) rfl ?_
          refine xr_goto A (tgt := 23) dL_law_1262 (by decide) ?_
          refine X.sub [1, 2, 3, 4, 0] rfl ?_
          exact ih hf
        · replace hf := ab_in c922 hf
          refine xr_iconst A (v := 0) dL_law_925 (by decide) ?_
          exact xr_ireturn A rfl hf dL_law_926
      replace hf := ab_in c40_24 hf
      by_cases c40_25 : (v3 &&& (63 : Int32)) = (25 : Int32)
      · replace hf := ab_ip c40_25 hf
        refine xr_tabIn A (tgt := 927) dL_law_40 (by rw [c40_25]; decide) (by rw [c40_25]; decide) (by rw [c40_25]; rfl) (by decide) ?_
        refine xr_aload_n A dL_law_927 1 rfl rfl ?_
        revert hf; refine ab_b2I (fun v222 h221 m220 hf => ?_)
        refine xr_V A bX1_asTold (wX1_asTold D m220).2 xc_X1 (wX1_asTold D m220).1 q1215 q1216 q1214 (av := []) (rest := []) rfl dL_law_928 (Nat.le_of_ble_eq_true rfl) (Nat.le_of_ble_eq_true rfl) rfl (Nat.le_of_ble_eq_true rfl) ?_
        refine xr_aload_n A dL_law_931 2 rfl rfl ?_
        revert hf; refine ab_b2I (fun v225 h224 m223 hf => ?_)
        refine xr_V A bX5_asTold (wX5_asTold D m223).2 xc_X5 (wX5_asTold D m223).1 q1936 q1937 q1935 (av := []) (rest := [vL v222]) rfl dL_law_932 (Nat.le_of_ble_eq_true rfl) (Nat.le_of_ble_eq_true rfl) rfl (Nat.le_of_ble_eq_true rfl) ?_
        refine xr_lcmp A dL_law_935 ?_
        refine xr_if_eq A (tgt := 1259) dL_law_936 (by decide) (fun c936 => ?_) (fun c936 => ?_)
        · replace hf := ab_ip c936 hf
          refine xr_iinc A dL_law_1259 4 rfl (v := (l4 + (6 : Int32))) rfl (Nat.le_of_ble_eq_true rfl) (L' := [(4, vI (l4 + (6 : Int32))), (0, vR (some a1)), (1, vR (some l1)), (2, vR (some l2)), (3, vR (some l3))]) rfl ?_
          refine xr_goto A (tgt := 23) dL_law_1262 (by decide) ?_
          refine X.sub [1, 2, 3, 4, 0] rfl ?_
          exact ih hf
        · replace hf := ab_in c936 hf
          refine xr_iconst A (v := 0) dL_law_939 (by decide) ?_
          exact xr_ireturn A rfl hf dL_law_940
      replace hf := ab_in c40_25 hf
      by_cases c40_26 : (v3 &&& (63 : Int32)) = (26 : Int32)
      · replace hf := ab_ip c40_26 hf
        refine xr_tabIn A (tgt := 941) dL_law_40 (by rw [c40_26]; decide) (by rw [c40_26]; decide) (by rw [c40_26]; rfl) (by decide) ?_
        refine xr_aload_n A dL_law_941 1 rfl rfl ?_
        revert hf; refine ab_b2I (fun v228 h227 m226 hf => ?_)
        refine xr_V A bX1_fill (wX1_fill D m226).2 xc_X1 (wX1_fill D m226).1 q1219 q1220 q1218 (av := []) (rest := []) rfl dL_law_942 (Nat.le_of_ble_eq_true rfl) (Nat.le_of_ble_eq_true rfl) rfl (Nat.le_of_ble_eq_true rfl) ?_
        refine xr_aload_n A dL_law_945 2 rfl rfl ?_
        revert hf; refine ab_b2I (fun v231 h230 m229 hf => ?_)
        refine xr_V A bX5_fill (wX5_fill D m229).2 xc_X5 (wX5_fill D m229).1 q1940 q1941 q1939 (av := []) (rest := [vI v228]) rfl dL_law_946 (Nat.le_of_ble_eq_true rfl) (Nat.le_of_ble_eq_true rfl) rfl (Nat.le_of_ble_eq_true rfl) ?_
        refine xr_icmp_eq A (tgt := 1259) dL_law_949 (by decide) (fun c949 => ?_) (fun c949 => ?_)
        · replace hf := ab_ip c949 hf
          refine xr_iinc A dL_law_1259 4 rfl (v := (l4 + (6 : Int32))) rfl (Nat.le_of_ble_eq_true rfl) (L' := [(4, vI (l4 + (6 : Int32))), (0, vR (some a1)), (1, vR (some l1)), (2, vR (some l2)), (3, vR (some l3))]) rfl ?_
          refine xr_goto A (tgt := 23) dL_law_1262 (by decide) ?_
          refine X.sub [1, 2, 3, 4, 0] rfl ?_
          exact ih hf
        · replace hf := ab_in c949 hf
          refine xr_iconst A (v := 0) dL_law_952 (by decide) ?_
          exact xr_ireturn A rfl hf dL_law_953
      replace hf := ab_in c40_26 hf
      by_cases c40_27 : (v3 &&& (63 : Int32)) = (27 : Int32)
      · replace hf := ab_ip c40_27 hf
        refine xr_tabIn A (tgt := 954) dL_law_40 (by rw [c40_27]; decide) (by rw [c40_27]; decide) (by rw [c40_27]; rfl) (by decide) ?_
        refine xr_aload_n A dL_law_954 1 rfl rfl ?_
        refine xr_aload_n A dL_law_955 0 rfl rfl ?_
        refine xr_iload A dL_law_956 4 rfl ?_
        refine xr_iconst A (v := 1) dL_law_958 (by decide) ?_
        refine xr_iadd A dL_law_959 ?_
        revert hf; refine ab_bdI (fun v232 mv232 hf => ?_)
        refine xr_iaload A mv232 dL_law_960 ?_
        revert hf; refine ab_b2I (fun v235 h234 m233 hf => ?_)
        refine xr_V A bX1_helper (wX1_helper D m233).2 xc_X1 (wX1_helper D m233).1 q1228 q1229 q1227 (av := [vI v232]) (rest := []) rfl dL_law_961 (Nat.le_of_ble_eq_true rfl) (Nat.le_of_ble_eq_true rfl) rfl (Nat.le_of_ble_eq_true rfl) ?_
        refine xr_aload_n A dL_law_964 2 rfl rfl ?_
        refine xr_aload_n A dL_law_965 0 rfl rfl ?_
        refine xr_iload A dL_law_966 4 rfl ?_
        refine xr_iconst A (v := 1) dL_law_968 (by decide) ?_
        refine xr_iadd A dL_law_969 ?_
        revert hf; refine ab_bdI (fun v236 mv236 hf => ?_)
        refine xr_iaload A mv236 dL_law_970 ?_
        revert hf; refine ab_b2I (fun v239 h238 m237 hf => ?_)
        refine xr_V A bX5_helper (wX5_helper D m237).2 xc_X5 (wX5_helper D m237).1 q1952 q1953 q1951 (av := [vI v236]) (rest := [vI v235]) rfl dL_law_971 (Nat.le_of_ble_eq_true rfl) (Nat.le_of_ble_eq_true rfl) rfl (Nat.le_of_ble_eq_true rfl) ?_
        refine xr_icmp_eq A (tgt := 1259) dL_law_974 (by decide) (fun c974 => ?_) (fun c974 => ?_)
        · replace hf := ab_ip c974 hf
          refine xr_iinc A dL_law_1259 4 rfl (v := (l4 + (6 : Int32))) rfl (Nat.le_of_ble_eq_true rfl) (L' := [(4, vI (l4 + (6 : Int32))), (0, vR (some a1)), (1, vR (some l1)), (2, vR (some l2)), (3, vR (some l3))]) rfl ?_
          refine xr_goto A (tgt := 23) dL_law_1262 (by decide) ?_
          refine X.sub [1, 2, 3, 4, 0] rfl ?_
          exact ih hf
        · replace hf := ab_in c974 hf
          refine xr_iconst A (v := 0) dL_law_977 (by decide) ?_
          exact xr_ireturn A rfl hf dL_law_978
      replace hf := ab_in c40_27 hf
      by_cases c40_28 : (v3 &&& (63 : Int32)) = (28 : Int32)
      · replace hf := ab_ip c40_28 hf
        refine xr_tabIn A (tgt := 979) dL_law_40 (by rw [c40_28]; decide) (by rw [c40_28]; decide) (by rw [c40_28]; rfl) (by decide) ?_
        refine xr_aload_n A dL_law_979 1 rfl rfl ?_
        refine xr_aload_n A dL_law_980 0 rfl rfl ?_
        refine xr_iload A dL_law_981 4 rfl ?_
        refine xr_iconst A (v := 1) dL_law_983 (by decide) ?_
        refine xr_iadd A dL_law_984 ?_
        revert hf; refine ab_bdI (fun v240 mv240 hf => ?_)
        refine xr_iaload A mv240 dL_law_985 ?_
        refine xr_aload_n A dL_law_986 0 rfl rfl ?_
        refine xr_iload A dL_law_987 4 rfl ?_
        refine xr_iconst A (v := 2) dL_law_989 (by decide) ?_
        refine xr_iadd A dL_law_990 ?_
        revert hf; refine ab_bdI (fun v241 mv241 hf => ?_)
        refine xr_iaload A mv241 dL_law_991 ?_
        revert hf; refine ab_b2I (fun v244 h243 m242 hf => ?_)
        refine xr_V A bX1_sign (wX1_sign D m242).2 xc_X1 (wX1_sign D m242).1 q1232 q1233 q1231 (av := [vI v240, vI v241]) (rest := []) rfl dL_law_992 (Nat.le_of_ble_eq_true rfl) (Nat.le_of_ble_eq_true rfl) rfl (Nat.le_of_ble_eq_true rfl) ?_
        refine xr_aload_n A dL_law_995 2 rfl rfl ?_
        refine xr_aload_n A dL_law_996 0 rfl rfl ?_
        refine xr_iload A dL_law_997 4 rfl ?_
        refine xr_iconst A (v := 1) dL_law_999 (by decide) ?_
        refine xr_iadd A dL_law_1000 ?_
        revert hf; refine ab_bdI (fun v245 mv245 hf => ?_)
        refine xr_iaload A mv245 dL_law_1001 ?_
        refine xr_aload_n A dL_law_1002 0 rfl rfl ?_
        refine xr_iload A dL_law_1003 4 rfl ?_
        refine xr_iconst A (v := 2) dL_law_1005 (by decide) ?_
        refine xr_iadd A dL_law_1006 ?_
        revert hf; refine ab_bdI (fun v246 mv246 hf => ?_)
        refine xr_iaload A mv246 dL_law_1007 ?_
        revert hf; refine ab_b2I (fun v249 h248 m247 hf => ?_)
        refine xr_V A bX5_sign (wX5_sign D m247).2 xc_X5 (wX5_sign D m247).1 q1956 q1957 q1955 (av := [vI v245, vI v246]) (rest := [vI v244]) rfl dL_law_1008 (Nat.le_of_ble_eq_true rfl) (Nat.le_of_ble_eq_true rfl) rfl (Nat.le_of_ble_eq_true rfl) ?_
        refine xr_icmp_eq A (tgt := 1259) dL_law_1011 (by decide) (fun c1011 => ?_) (fun c1011 => ?_)
        · replace hf := ab_ip c1011 hf
          refine xr_iinc A dL_law_1259 4 rfl (v := (l4 + (6 : Int32))) rfl (Nat.le_of_ble_eq_true rfl) (L' := [(4, vI (l4 + (6 : Int32))), (0, vR (some a1)), (1, vR (some l1)), (2, vR (some l2)), (3, vR (some l3))]) rfl ?_
          refine xr_goto A (tgt := 23) dL_law_1262 (by decide) ?_
          refine X.sub [1, 2, 3, 4, 0] rfl ?_
          exact ih hf
        · replace hf := ab_in c1011 hf
          refine xr_iconst A (v := 0) dL_law_1014 (by decide) ?_
          exact xr_ireturn A rfl hf dL_law_1015
      replace hf := ab_in c40_28 hf
      by_cases c40_29 : (v3 &&& (63 : Int32)) = (29 : Int32)
      · replace hf := ab_ip c40_29 hf
        refine xr_tabIn A (tgt := 1016) dL_law_40 (by rw [c40_29]; decide) (by rw [c40_29]; decide) (by rw [c40_29]; rfl) (by decide) ?_
        refine xr_aload_n A dL_law_1016 1 rfl rfl ?_
        refine xr_aload_n A dL_law_1017 0 rfl rfl ?_
        refine xr_iload A dL_law_1018 4 rfl ?_
        refine xr_iconst A (v := 1) dL_law_1020 (by decide) ?_
        refine xr_iadd A dL_law_1021 ?_
        revert hf; refine ab_bdI (fun v250 mv250 hf => ?_)
        refine xr_iaload A mv250 dL_law_1022 ?_
        revert hf; refine ab_b2I (fun v253 h252 m251 hf => ?_)
        refine xr_V A bX1_fading (wX1_fading D m251).2 xc_X1 (wX1_fading D m251).1 q1236 q1237 q1235 (av := [vI v250]) (rest := []) rfl dL_law_1023 (Nat.le_of_ble_eq_true rfl) (Nat.le_of_ble_eq_true rfl) rfl (Nat.le_of_ble_eq_true rfl) ?_
        refine xr_aload_n A dL_law_1026 2 rfl rfl ?_
        refine xr_aload_n A dL_law_1027 0 rfl rfl ?_
        refine xr_iload A dL_law_1028 4 rfl ?_
        refine xr_iconst A (v := 1) dL_law_1030 (by decide) ?_
        refine xr_iadd A dL_law_1031 ?_
        revert hf; refine ab_bdI (fun v254 mv254 hf => ?_)
        refine xr_iaload A mv254 dL_law_1032 ?_
        revert hf; refine ab_b2I (fun v257 h256 m255 hf => ?_)
        refine xr_V A bX5_fading (wX5_fading D m255).2 xc_X5 (wX5_fading D m255).1 q1960 q1961 q1959 (av := [vI v254]) (rest := [vI v253]) rfl dL_law_1033 (Nat.le_of_ble_eq_true rfl) (Nat.le_of_ble_eq_true rfl) rfl (Nat.le_of_ble_eq_true rfl) ?_
        refine xr_icmp_eq A (tgt := 1259) dL_law_1036 (by decide) (fun c1036 => ?_) (fun c1036 => ?_)
        · replace hf := ab_ip c1036 hf
          refine xr_iinc A dL_law_1259 4 rfl (v := (l4 + (6 : Int32))) rfl (Nat.le_of_ble_eq_true rfl) (L' := [(4, vI (l4 + (6 : Int32))), (0, vR (some a1)), (1, vR (some l1)), (2, vR (some l2)), (3, vR (some l3))]) rfl ?_
          refine xr_goto A (tgt := 23) dL_law_1262 (by decide) ?_
          refine X.sub [1, 2, 3, 4, 0] rfl ?_
          exact ih hf
        · replace hf := ab_in c1036 hf
          refine xr_iconst A (v := 0) dL_law_1039 (by decide) ?_
          exact xr_ireturn A rfl hf dL_law_1040
      replace hf := ab_in c40_29 hf
      by_cases c40_30 : (v3 &&& (63 : Int32)) = (30 : Int32)
      · replace hf := ab_ip c40_30 hf
        refine xr_tabIn A (tgt := 1041) dL_law_40 (by rw [c40_30]; decide) (by rw [c40_30]; decide) (by rw [c40_30]; rfl) (by decide) ?_
        refine xr_aload_n A dL_law_1041 1 rfl rfl ?_
        refine xr_aload_n A dL_law_1042 0 rfl rfl ?_
        refine xr_iload A dL_law_1043 4 rfl ?_
        refine xr_iconst A (v := 1) dL_law_1045 (by decide) ?_
        refine xr_iadd A dL_law_1046 ?_
        revert hf; refine ab_bdI (fun v258 mv258 hf => ?_)
        refine xr_iaload A mv258 dL_law_1047 ?_
        refine xr_aload_n A dL_law_1048 0 rfl rfl ?_
        refine xr_iload A dL_law_1049 4 rfl ?_
        refine xr_iconst A (v := 2) dL_law_1051 (by decide) ?_
        refine xr_iadd A dL_law_1052 ?_
        revert hf; refine ab_bdI (fun v259 mv259 hf => ?_)
        refine xr_iaload A mv259 dL_law_1053 ?_
        refine xr_aload_n A dL_law_1054 0 rfl rfl ?_
        refine xr_iload A dL_law_1055 4 rfl ?_
        refine xr_iconst A (v := 3) dL_law_1057 (by decide) ?_
        refine xr_iadd A dL_law_1058 ?_
        revert hf; refine ab_bdI (fun v260 mv260 hf => ?_)
        refine xr_iaload A mv260 dL_law_1059 ?_
        revert hf; refine ab_b2I (fun v263 h262 m261 hf => ?_)
        refine xr_V A bX1_probe (wX1_probe D m261).2 xc_X1 (wX1_probe D m261).1 q1240 q1241 q1239 (av := [vI v258, vI v259, vI v260]) (rest := []) rfl dL_law_1060 (Nat.le_of_ble_eq_true rfl) (Nat.le_of_ble_eq_true rfl) rfl (Nat.le_of_ble_eq_true rfl) ?_
        refine xr_aload_n A dL_law_1063 2 rfl rfl ?_
        refine xr_aload_n A dL_law_1064 0 rfl rfl ?_
        refine xr_iload A dL_law_1065 4 rfl ?_
        refine xr_iconst A (v := 1) dL_law_1067 (by decide) ?_
        refine xr_iadd A dL_law_1068 ?_
        revert hf; refine ab_bdI (fun v264 mv264 hf => ?_)
        refine xr_iaload A mv264 dL_law_1069 ?_
        refine xr_aload_n A dL_law_1070 0 rfl rfl ?_
        refine xr_iload A dL_law_1071 4 rfl ?_
        refine xr_iconst A (v := 2) dL_law_1073 (by decide) ?_
        refine xr_iadd A dL_law_1074 ?_
        revert hf; refine ab_bdI (fun v265 mv265 hf => ?_)
        refine xr_iaload A mv265 dL_law_1075 ?_
        refine xr_aload_n A dL_law_1076 0 rfl rfl ?_
        refine xr_iload A dL_law_1077 4 rfl ?_
        refine xr_iconst A (v := 3) dL_law_1079 (by decide) ?_
        refine xr_iadd A dL_law_1080 ?_
        revert hf; refine ab_bdI (fun v266 mv266 hf => ?_)
        refine xr_iaload A mv266 dL_law_1081 ?_
        revert hf; refine ab_b2I (fun v269 h268 m267 hf => ?_)
        refine xr_V A bX5_probe (wX5_probe D m267).2 xc_X5 (wX5_probe D m267).1 q1964 q1965 q1963 (av := [vI v264, vI v265, vI v266]) (rest := [vI v263]) rfl dL_law_1082 (Nat.le_of_ble_eq_true rfl) (Nat.le_of_ble_eq_true rfl) rfl (Nat.le_of_ble_eq_true rfl) ?_
        refine xr_icmp_eq A (tgt := 1259) dL_law_1085 (by decide) (fun c1085 => ?_) (fun c1085 => ?_)
        · replace hf := ab_ip c1085 hf
          refine xr_iinc A dL_law_1259 4 rfl (v := (l4 + (6 : Int32))) rfl (Nat.le_of_ble_eq_true rfl) (L' := [(4, vI (l4 + (6 : Int32))), (0, vR (some a1)), (1, vR (some l1)), (2, vR (some l2)), (3, vR (some l3))]) rfl ?_
          refine xr_goto A (tgt := 23) dL_law_1262 (by decide) ?_
          refine X.sub [1, 2, 3, 4, 0] rfl ?_
          exact ih hf
        · replace hf := ab_in c1085 hf
          refine xr_iconst A (v := 0) dL_law_1088 (by decide) ?_
          exact xr_ireturn A rfl hf dL_law_1089
      replace hf := ab_in c40_30 hf
      by_cases c40_31 : (v3 &&& (63 : Int32)) = (31 : Int32)
      · replace hf := ab_ip c40_31 hf
        refine xr_tabIn A (tgt := 1090) dL_law_40 (by rw [c40_31]; decide) (by rw [c40_31]; decide) (by rw [c40_31]; rfl) (by decide) ?_
        refine xr_aload_n A dL_law_1090 1 rfl rfl ?_
        refine xr_aload_n A dL_law_1091 0 rfl rfl ?_
        refine xr_iload A dL_law_1092 4 rfl ?_
        refine xr_iconst A (v := 1) dL_law_1094 (by decide) ?_
        refine xr_iadd A dL_law_1095 ?_
        revert hf; refine ab_bdI (fun v270 mv270 hf => ?_)
        refine xr_iaload A mv270 dL_law_1096 ?_
        revert hf; refine ab_b2I (fun v273 h272 m271 hf => ?_)
        refine xr_V A bX1_faulty (wX1_faulty D m271).2 xc_X1 (wX1_faulty D m271).1 q1244 q1245 q1243 (av := [vI v270]) (rest := []) rfl dL_law_1097 (Nat.le_of_ble_eq_true rfl) (Nat.le_of_ble_eq_true rfl) rfl (Nat.le_of_ble_eq_true rfl) ?_
        refine xr_aload_n A dL_law_1100 2 rfl rfl ?_
        refine xr_aload_n A dL_law_1101 0 rfl rfl ?_
        refine xr_iload A dL_law_1102 4 rfl ?_
        refine xr_iconst A (v := 1) dL_law_1104 (by decide) ?_
        refine xr_iadd A dL_law_1105 ?_
        revert hf; refine ab_bdI (fun v274 mv274 hf => ?_)
        refine xr_iaload A mv274 dL_law_1106 ?_
        revert hf; refine ab_b2I (fun v277 h276 m275 hf => ?_)
        refine xr_V A bX5_faulty (wX5_faulty D m275).2 xc_X5 (wX5_faulty D m275).1 q1968 q1969 q1967 (av := [vI v274]) (rest := [vI v273]) rfl dL_law_1107 (Nat.le_of_ble_eq_true rfl) (Nat.le_of_ble_eq_true rfl) rfl (Nat.le_of_ble_eq_true rfl) ?_
        refine xr_icmp_eq A (tgt := 1259) dL_law_1110 (by decide) (fun c1110 => ?_) (fun c1110 => ?_)
        · replace hf := ab_ip c1110 hf
          refine xr_iinc A dL_law_1259 4 rfl (v := (l4 + (6 : Int32))) rfl (Nat.le_of_ble_eq_true rfl) (L' := [(4, vI (l4 + (6 : Int32))), (0, vR (some a1)), (1, vR (some l1)), (2, vR (some l2)), (3, vR (some l3))]) rfl ?_
          refine xr_goto A (tgt := 23) dL_law_1262 (by decide) ?_
          refine X.sub [1, 2, 3, 4, 0] rfl ?_
          exact ih hf
        · replace hf := ab_in c1110 hf
          refine xr_iconst A (v := 0) dL_law_1113 (by decide) ?_
          exact xr_ireturn A rfl hf dL_law_1114
      replace hf := ab_in c40_31 hf
      by_cases c40_32 : (v3 &&& (63 : Int32)) = (32 : Int32)
      · replace hf := ab_ip c40_32 hf
        refine xr_tabIn A (tgt := 1115) dL_law_40 (by rw [c40_32]; decide) (by rw [c40_32]; decide) (by rw [c40_32]; rfl) (by decide) ?_
        refine xr_aload_n A dL_law_1115 1 rfl rfl ?_
        revert hf; refine ab_b2I (fun v280 h279 m278 hf => ?_)
        refine xr_V A bX1_firstCold (wX1_firstCold D m278).2 xc_X1 (wX1_firstCold D m278).1 q1248 q1249 q1247 (av := []) (rest := []) rfl dL_law_1116 (Nat.le_of_ble_eq_true rfl) (Nat.le_of_ble_eq_true rfl) rfl (Nat.le_of_ble_eq_true rfl) ?_
        refine xr_aload_n A dL_law_1119 2 rfl rfl ?_
        revert hf; refine ab_b2I (fun v283 h282 m281 hf => ?_)
        refine xr_V A bX5_firstCold (wX5_firstCold D m281).2 xc_X5 (wX5_firstCold D m281).1 q1972 q1973 q1971 (av := []) (rest := [vI v280]) rfl dL_law_1120 (Nat.le_of_ble_eq_true rfl) (Nat.le_of_ble_eq_true rfl) rfl (Nat.le_of_ble_eq_true rfl) ?_
        refine xr_icmp_eq A (tgt := 1259) dL_law_1123 (by decide) (fun c1123 => ?_) (fun c1123 => ?_)
        · replace hf := ab_ip c1123 hf
          refine xr_iinc A dL_law_1259 4 rfl (v := (l4 + (6 : Int32))) rfl (Nat.le_of_ble_eq_true rfl) (L' := [(4, vI (l4 + (6 : Int32))), (0, vR (some a1)), (1, vR (some l1)), (2, vR (some l2)), (3, vR (some l3))]) rfl ?_
          refine xr_goto A (tgt := 23) dL_law_1262 (by decide) ?_
          refine X.sub [1, 2, 3, 4, 0] rfl ?_
          exact ih hf
        · replace hf := ab_in c1123 hf
          refine xr_iconst A (v := 0) dL_law_1126 (by decide) ?_
          exact xr_ireturn A rfl hf dL_law_1127
      replace hf := ab_in c40_32 hf
      by_cases c40_33 : (v3 &&& (63 : Int32)) = (33 : Int32)
      · replace hf := ab_ip c40_33 hf
        refine xr_tabIn A (tgt := 1128) dL_law_40 (by rw [c40_33]; decide) (by rw [c40_33]; decide) (by rw [c40_33]; rfl) (by decide) ?_
        refine xr_aload_n A dL_law_1128 1 rfl rfl ?_
        refine xr_aload_n A dL_law_1129 0 rfl rfl ?_
        refine xr_iload A dL_law_1130 4 rfl ?_
        refine xr_iconst A (v := 1) dL_law_1132 (by decide) ?_
        refine xr_iadd A dL_law_1133 ?_
        revert hf; refine ab_bdI (fun v284 mv284 hf => ?_)
        refine xr_iaload A mv284 dL_law_1134 ?_
        revert hf; refine ab_b2I (fun v287 h286 m285 hf => ?_)
        refine xr_V A bX1_recall (wX1_recall D m285).2 xc_X1 (wX1_recall D m285).1 q1252 q1253 q1251 (av := [vI v284]) (rest := []) rfl dL_law_1135 (Nat.le_of_ble_eq_true rfl) (Nat.le_of_ble_eq_true rfl) rfl (Nat.le_of_ble_eq_true rfl) ?_
        refine xr_aload_n A dL_law_1138 2 rfl rfl ?_
        refine xr_aload_n A dL_law_1139 0 rfl rfl ?_
        refine xr_iload A dL_law_1140 4 rfl ?_
        refine xr_iconst A (v := 1) dL_law_1142 (by decide) ?_
        refine xr_iadd A dL_law_1143 ?_
        revert hf; refine ab_bdI (fun v288 mv288 hf => ?_)
        refine xr_iaload A mv288 dL_law_1144 ?_
        revert hf; refine ab_b2I (fun v291 h290 m289 hf => ?_)
        refine xr_V A bX5_recall (wX5_recall D m289).2 xc_X5 (wX5_recall D m289).1 q1976 q1977 q1975 (av := [vI v288]) (rest := [vI v287]) rfl dL_law_1145 (Nat.le_of_ble_eq_true rfl) (Nat.le_of_ble_eq_true rfl) rfl (Nat.le_of_ble_eq_true rfl) ?_
        refine xr_icmp_eq A (tgt := 1259) dL_law_1148 (by decide) (fun c1148 => ?_) (fun c1148 => ?_)
        · replace hf := ab_ip c1148 hf
          refine xr_iinc A dL_law_1259 4 rfl (v := (l4 + (6 : Int32))) rfl (Nat.le_of_ble_eq_true rfl) (L' := [(4, vI (l4 + (6 : Int32))), (0, vR (some a1)), (1, vR (some l1)), (2, vR (some l2)), (3, vR (some l3))]) rfl ?_
          refine xr_goto A (tgt := 23) dL_law_1262 (by decide) ?_
          refine X.sub [1, 2, 3, 4, 0] rfl ?_
          exact ih hf
        · replace hf := ab_in c1148 hf
          refine xr_iconst A (v := 0) dL_law_1151 (by decide) ?_
          exact xr_ireturn A rfl hf dL_law_1152
      replace hf := ab_in c40_33 hf
      by_cases c40_34 : (v3 &&& (63 : Int32)) = (34 : Int32)
      · replace hf := ab_ip c40_34 hf
        refine xr_tabIn A (tgt := 1153) dL_law_40 (by rw [c40_34]; decide) (by rw [c40_34]; decide) (by rw [c40_34]; rfl) (by decide) ?_
        refine xr_aload_n A dL_law_1153 1 rfl rfl ?_
        refine xr_aload_n A dL_law_1154 0 rfl rfl ?_
        refine xr_iload A dL_law_1155 4 rfl ?_
        refine xr_iconst A (v := 1) dL_law_1157 (by decide) ?_
        refine xr_iadd A dL_law_1158 ?_
        revert hf; refine ab_bdI (fun v292 mv292 hf => ?_)
        refine xr_iaload A mv292 dL_law_1159 ?_
        refine xr_aload_n A dL_law_1160 0 rfl rfl ?_
        refine xr_iload A dL_law_1161 4 rfl ?_
        refine xr_iconst A (v := 2) dL_law_1163 (by decide) ?_
        refine xr_iadd A dL_law_1164 ?_
        revert hf; refine ab_bdI (fun v293 mv293 hf => ?_)
        refine xr_iaload A mv293 dL_law_1165 ?_
        refine xr_aload_n A dL_law_1166 3 rfl rfl ?_
        revert hf; refine ab_b2I (fun v296 h295 m294 hf => ?_)
        refine xr_SW A bX0_led (wX0_led D m294) q1264 q1263 (av := [vR (some l1), vI v292, vI v293, vR (some l3)]) (rest := []) rfl dL_law_1167 (Nat.le_of_ble_eq_true rfl) (Nat.le_of_ble_eq_true rfl) rfl (Nat.le_of_ble_eq_true rfl) ?_
        refine xr_istore A dL_law_1170 (Nat.le_of_ble_eq_true rfl) (L' := [(5, vI v296), (0, vR (some a1)), (1, vR (some l1)), (2, vR (some l2)), (3, vR (some l3)), (4, vI l4)]) rfl ?_
        refine xr_aload_n A dL_law_1172 3 rfl rfl ?_
        refine xr_aload_n A dL_law_1173 1 rfl rfl ?_
        refine xr_iload A dL_law_1174 5 rfl ?_
        refine xr_iconst A (v := 1) dL_law_1176 (by decide) ?_
        refine xr_iadd A dL_law_1177 ?_
        revert hf; refine ab_bdI (fun v297 mv297 hf => ?_)
        refine xr_iaload A mv297 dL_law_1178 ?_
        refine xr_aload_n A dL_law_1179 1 rfl rfl ?_
        refine xr_iload A dL_law_1180 5 rfl ?_
        refine xr_iconst A (v := 2) dL_law_1182 (by decide) ?_
        refine xr_iadd A dL_law_1183 ?_
        revert hf; refine ab_bdI (fun v298 mv298 hf => ?_)
        refine xr_iaload A mv298 dL_law_1184 ?_
        revert hf; refine ab_b2I (fun v301 h300 m299 hf => ?_)
        refine xr_V A bX5_led (wX5_led D m299).2 xc_X5 (wX5_led D m299).1 q1980 q1981 q1979 (av := [vI v297, vI v298]) (rest := []) rfl dL_law_1185 (Nat.le_of_ble_eq_true rfl) (Nat.le_of_ble_eq_true rfl) rfl (Nat.le_of_ble_eq_true rfl) ?_
        refine xr_istore A dL_law_1188 (Nat.le_of_ble_eq_true rfl) (L' := [(6, vI v301), (5, vI v296), (0, vR (some a1)), (1, vR (some l1)), (2, vR (some l2)), (3, vR (some l3)), (4, vI l4)]) rfl ?_
        refine xr_aload_n A dL_law_1190 4 rfl rfl ?_
        revert hf; refine ab_b2I (fun v304 h303 m302 hf => ?_)
        refine xr_V A bX5_thrown (wX5_thrown D m302).2 xc_X5 (wX5_thrown D m302).1 q1438 q1439 q1437 (av := []) (rest := []) rfl dL_law_1191 (Nat.le_of_ble_eq_true rfl) (Nat.le_of_ble_eq_true rfl) rfl (Nat.le_of_ble_eq_true rfl) ?_
        refine xr_iload A dL_law_1194 1 rfl ?_
        refine xr_icmp_eq A (tgt := 1201) dL_law_1196 (by decide) (fun c1196 => ?_) (fun c1196 => ?_)
        · replace hf := ab_ip c1196 hf
          refine xr_iload A dL_law_1201 1 rfl ?_
          refine xr_if_ne A (tgt := 1218) dL_law_1203 (by decide) (fun c1203 => ?_) (fun c1203 => ?_)
          · replace hf := ab_in c1203 hf
            refine xr_goto A (tgt := 1259) dL_law_1218 (by decide) ?_
            refine xr_iinc A dL_law_1259 6 rfl (v := (l4 + (6 : Int32))) rfl (Nat.le_of_ble_eq_true rfl) (L' := [(4, vI (l4 + (6 : Int32))), (6, vI v301), (5, vI v296), (0, vR (some a1)), (1, vR (some l1)), (2, vR (some l2)), (3, vR (some l3))]) rfl ?_
            refine xr_goto A (tgt := 23) dL_law_1262 (by decide) ?_
            refine X.sub [3, 4, 5, 6, 0] rfl ?_
            exact ih hf
          · replace hf := ab_ip c1203 hf
            refine xr_aload_n A dL_law_1206 5 rfl rfl ?_
            refine xr_iconst A (v := 0) dL_law_1207 (by decide) ?_
            revert hf; refine ab_bdI (fun v305 mv305 hf => ?_)
            refine xr_laload A mv305 dL_law_1208 ?_
            refine xr_iload A dL_law_1209 0 rfl ?_
            refine xr_i2l A dL_law_1211 ?_
            refine xr_lcmp A dL_law_1212 ?_
            refine xr_if_eq A (tgt := 1218) dL_law_1213 (by decide) (fun c1213 => ?_) (fun c1213 => ?_)
            · replace hf := ab_ip c1213 hf
              refine xr_goto A (tgt := 1259) dL_law_1218 (by decide) ?_
              refine xr_iinc A dL_law_1259 6 rfl (v := (l4 + (6 : Int32))) rfl (Nat.le_of_ble_eq_true rfl) (L' := [(4, vI (l4 + (6 : Int32))), (6, vI v301), (5, vI v296), (0, vR (some a1)), (1, vR (some l1)), (2, vR (some l2)), (3, vR (some l3))]) rfl ?_
              refine xr_goto A (tgt := 23) dL_law_1262 (by decide) ?_
              refine X.sub [3, 4, 5, 6, 0] rfl ?_
              exact ih hf
            · replace hf := ab_in c1213 hf
              refine xr_iconst A (v := 0) dL_law_1216 (by decide) ?_
              exact xr_ireturn A rfl hf dL_law_1217
        · replace hf := ab_in c1196 hf
          refine xr_iconst A (v := 0) dL_law_1199 (by decide) ?_
          exact xr_ireturn A rfl hf dL_law_1200
      replace hf := ab_in c40_34 hf
      by_cases c40_35 : (v3 &&& (63 : Int32)) = (35 : Int32)
      · replace hf := ab_ip c40_35 hf
        refine xr_tabIn A (tgt := 1221) dL_law_40 (by rw [c40_35]; decide) (by rw [c40_35]; decide) (by rw [c40_35]; rfl) (by decide) ?_
        refine xr_aload_n A dL_law_1221 1 rfl rfl ?_
        refine xr_aload_n A dL_law_1222 0 rfl rfl ?_
        refine xr_iload A dL_law_1223 4 rfl ?_
        refine xr_iconst A (v := 1) dL_law_1225 (by decide) ?_
        refine xr_iadd A dL_law_1226 ?_
        revert hf; refine ab_bdI (fun v306 mv306 hf => ?_)
        refine xr_iaload A mv306 dL_law_1227 ?_
        revert hf; refine ab_b2I (fun v309 h308 m307 hf => ?_)
        refine xr_V A bX1_size (wX1_size D m307).2 xc_X1 (wX1_size D m307).1 q1256 q1257 q1255 (av := [vI v306]) (rest := []) rfl dL_law_1228 (Nat.le_of_ble_eq_true rfl) (Nat.le_of_ble_eq_true rfl) rfl (Nat.le_of_ble_eq_true rfl) ?_
        refine xr_aload_n A dL_law_1231 2 rfl rfl ?_
        refine xr_aload_n A dL_law_1232 0 rfl rfl ?_
        refine xr_iload A dL_law_1233 4 rfl ?_
        refine xr_iconst A (v := 1) dL_law_1235 (by decide) ?_
        refine xr_iadd A dL_law_1236 ?_
        revert hf; refine ab_bdI (fun v310 mv310 hf => ?_)
        refine xr_iaload A mv310 dL_law_1237 ?_
        revert hf; refine ab_b2I (fun v313 h312 m311 hf => ?_)
        refine xr_V A bX5_size (wX5_size D m311).2 xc_X5 (wX5_size D m311).1 q1984 q1985 q1983 (av := [vI v310]) (rest := [vI v309]) rfl dL_law_1238 (Nat.le_of_ble_eq_true rfl) (Nat.le_of_ble_eq_true rfl) rfl (Nat.le_of_ble_eq_true rfl) ?_
        refine xr_icmp_eq A (tgt := 1259) dL_law_1241 (by decide) (fun c1241 => ?_) (fun c1241 => ?_)
        · replace hf := ab_ip c1241 hf
          refine xr_iinc A dL_law_1259 4 rfl (v := (l4 + (6 : Int32))) rfl (Nat.le_of_ble_eq_true rfl) (L' := [(4, vI (l4 + (6 : Int32))), (0, vR (some a1)), (1, vR (some l1)), (2, vR (some l2)), (3, vR (some l3))]) rfl ?_
          refine xr_goto A (tgt := 23) dL_law_1262 (by decide) ?_
          refine X.sub [1, 2, 3, 4, 0] rfl ?_
          exact ih hf
        · replace hf := ab_in c1241 hf
          refine xr_iconst A (v := 0) dL_law_1244 (by decide) ?_
          exact xr_ireturn A rfl hf dL_law_1245
      replace hf := ab_in c40_35 hf
      by_cases c40_36 : (v3 &&& (63 : Int32)) = (36 : Int32)
      · replace hf := ab_ip c40_36 hf
        refine xr_tabIn A (tgt := 1246) dL_law_40 (by rw [c40_36]; decide) (by rw [c40_36]; decide) (by rw [c40_36]; rfl) (by decide) ?_
        refine xr_aload_n A dL_law_1246 1 rfl rfl ?_
        revert hf; refine ab_b2I (fun v316 h315 m314 hf => ?_)
        refine xr_V A bX1_trouble (wX1_trouble D m314).2 xc_X1 (wX1_trouble D m314).1 q1260 q1261 q1259 (av := []) (rest := []) rfl dL_law_1247 (Nat.le_of_ble_eq_true rfl) (Nat.le_of_ble_eq_true rfl) rfl (Nat.le_of_ble_eq_true rfl) ?_
        refine xr_aload_n A dL_law_1250 2 rfl rfl ?_
        revert hf; refine ab_b2I (fun v319 h318 m317 hf => ?_)
        refine xr_V A bX5_trouble (wX5_trouble D m317).2 xc_X5 (wX5_trouble D m317).1 q1988 q1989 q1987 (av := []) (rest := [vI v316]) rfl dL_law_1251 (Nat.le_of_ble_eq_true rfl) (Nat.le_of_ble_eq_true rfl) rfl (Nat.le_of_ble_eq_true rfl) ?_
        refine xr_icmp_eq A (tgt := 1259) dL_law_1254 (by decide) (fun c1254 => ?_) (fun c1254 => ?_)
        · replace hf := ab_ip c1254 hf
          refine xr_iinc A dL_law_1259 4 rfl (v := (l4 + (6 : Int32))) rfl (Nat.le_of_ble_eq_true rfl) (L' := [(4, vI (l4 + (6 : Int32))), (0, vR (some a1)), (1, vR (some l1)), (2, vR (some l2)), (3, vR (some l3))]) rfl ?_
          refine xr_goto A (tgt := 23) dL_law_1262 (by decide) ?_
          refine X.sub [1, 2, 3, 4, 0] rfl ?_
          exact ih hf
        · replace hf := ab_in c1254 hf
          refine xr_iconst A (v := 0) dL_law_1257 (by decide) ?_
          exact xr_ireturn A rfl hf dL_law_1258
      replace hf := ab_in c40_36 hf
      refine xr_tabOut A (tgt := 1259) dL_law_40 (ab_tab 0 36 (by decide) [(0 : Int32), (1 : Int32), (2 : Int32), (3 : Int32), (4 : Int32), (5 : Int32), (6 : Int32), (7 : Int32), (8 : Int32), (9 : Int32), (10 : Int32), (11 : Int32), (12 : Int32), (13 : Int32), (14 : Int32), (15 : Int32), (16 : Int32), (17 : Int32), (18 : Int32), (19 : Int32), (20 : Int32), (21 : Int32), (22 : Int32), (23 : Int32), (24 : Int32), (25 : Int32), (26 : Int32), (27 : Int32), (28 : Int32), (29 : Int32), (30 : Int32), (31 : Int32), (32 : Int32), (33 : Int32), (34 : Int32), (35 : Int32), (36 : Int32)] rfl (by simp only [List.forall_mem_cons]; exact ⟨c40_0, c40_1, c40_2, c40_3, c40_4, c40_5, c40_6, c40_7, c40_8, c40_9, c40_10, c40_11, c40_12, c40_13, c40_14, c40_15, c40_16, c40_17, c40_18, c40_19, c40_20, c40_21, c40_22, c40_23, c40_24, c40_25, c40_26, c40_27, c40_28, c40_29, c40_30, c40_31, c40_32, c40_33, c40_34, c40_35, c40_36, fun _ h => absurd h List.not_mem_nil⟩)) (by decide) ?_
      refine xr_iinc A dL_law_1259 4 rfl (v := (l4 + (6 : Int32))) rfl (Nat.le_of_ble_eq_true rfl) (L' := [(4, vI (l4 + (6 : Int32))), (0, vR (some a1)), (1, vR (some l1)), (2, vR (some l2)), (3, vR (some l3))]) rfl ?_
      refine xr_goto A (tgt := 23) dL_law_1262 (by decide) ?_
      refine X.sub [1, 2, 3, 4, 0] rfl ?_
      exact ih hf
noncomputable def fL_law (p0 : Option Nat) (h : Hp) : Option (Int32 × Hp) :=
  ab_b2 (ab_new h 0 41 tyX1) fun a1 h2 =>
  ab_bd (fX1_init a1 h2) fun h4 =>
  ab_b2 (ab_new h4 4 46 tyX5) fun a5 h6 =>
  ab_bd (fX5_init a5 h6) fun h8 =>
  ab_b2 (ab_nA h8 3 (1 : Int32) ab_zJ) fun a9 h10 =>
  fL_law_l23 (hfu h10) p0 a1 a5 a9 (0 : Int32) h10
theorem wL_law {D : Dd} {C : Cx} {h h' : Hp} {r : Int32} (A : Act C D (h, (.inl (some (vI r))), h') yL_law cL_law 7 (some FieldType.boolean) 8192 100000 []) {p0 : Option Nat} (hf : fL_law p0 h = some (r, h')) : X C D (h, (.inl (some (vI r))), h') 7 0 [(0, vR p0)] [] h := by
    unfold fL_law at hf
    revert hf; refine ab_b2I (fun a1 h2 mh2 hf => ?_)
    refine xr_new A xc_X1 in_X1 tyX1_ok q118 q119 q92 mh2 dL_law_0 ?_
    refine xr_dup A dL_law_3 rfl ?_
    revert hf; refine ab_bdI (fun h4 m3 hf => ?_)
    refine xr_I0 A bX1_init (wX1_init D m3) rfl q121 q120 (av := []) (rest := [vR (some a1)]) rfl dL_law_4 (Nat.le_of_ble_eq_true rfl) (Nat.le_of_ble_eq_true rfl) rfl (Nat.le_of_ble_eq_true rfl) ?_
    refine xr_astore_n A dL_law_7 rfl (Nat.le_of_ble_eq_true rfl) (L' := [(1, vR (some a1)), (0, vR p0)]) rfl ?_
    revert hf; refine ab_b2I (fun a5 h6 mh6 hf => ?_)
    refine xr_new A xc_X5 in_X5 tyX5_ok q1292 q1293 q99 mh6 dL_law_8 ?_
    refine xr_dup A dL_law_11 rfl ?_
    revert hf; refine ab_bdI (fun h8 m7 hf => ?_)
    refine xr_I0 A bX5_init (wX5_init D m7) rfl q1295 q1294 (av := []) (rest := [vR (some a5)]) rfl dL_law_12 (Nat.le_of_ble_eq_true rfl) (Nat.le_of_ble_eq_true rfl) rfl (Nat.le_of_ble_eq_true rfl) ?_
    refine xr_astore_n A dL_law_15 rfl (Nat.le_of_ble_eq_true rfl) (L' := [(2, vR (some a5)), (1, vR (some a1)), (0, vR p0)]) rfl ?_
    refine xr_iconst A (v := 1) dL_law_16 (by decide) ?_
    revert hf; refine ab_b2I (fun a9 h10 mh10 hf => ?_)
    refine xr_newa_long A mh10 dL_law_17 ?_
    refine xr_astore_n A dL_law_19 rfl (Nat.le_of_ble_eq_true rfl) (L' := [(3, vR (some a9)), (2, vR (some a5)), (1, vR (some a1)), (0, vR p0)]) rfl ?_
    refine xr_iconst A (v := 0) dL_law_20 (by decide) ?_
    refine xr_istore A dL_law_21 (Nat.le_of_ble_eq_true rfl) (L' := [(4, vI (0 : Int32)), (3, vR (some a9)), (2, vR (some a5)), (1, vR (some a1)), (0, vR p0)]) rfl ?_
    refine X.sub [4, 3, 2, 1, 0] rfl ?_
    exact wL_law_l23 A _ hf
