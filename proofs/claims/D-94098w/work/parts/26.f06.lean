set_option maxRecDepth 100000
/-! X5_wordOf -/
theorem bX5_wordOf : MB yX5_wordOf cX5_wordOf 4 (some FieldType.long) 1 := ⟨q1632, q99, by decide, by decide +kernel⟩
noncomputable def fX5_wordOf_l4 : Nat → Option Nat → Int64 → Int32 → Hp → Option (Int64 × Hp)
  | 0, _, _, _, _ => none
  | n + 1, l0, l1, l3, h =>
  ab_bd l0 fun a1 =>
  ab_b2 (fJ3_length a1 h) fun v4 h3 =>
  if v4 ≤ l3 then (
    some (l1, h3))
  else (
    ab_b2 (fJ3_charAt a1 l3 h3) fun v7 h6 =>
    fX5_wordOf_l4 n (some a1) (((32 : Int64) * l1) + ((v7 - (97 : Int32)) + (1 : Int32)).toInt64) (l3 + (1 : Int32)) h6)
theorem wX5_wordOf_l4 {D : Dd} {C : Cx} {h0 h' : Hp} {r : Int64} (A : Act C D (h0, (.inl (some (vL r))), h') yX5_wordOf cX5_wordOf 4 (some FieldType.long) 5 105 []) : ∀ (n : Nat) {l0 : Option Nat} {l1 : Int64} {l3 : Int32} {h : Hp}, fX5_wordOf_l4 n l0 l1 l3 h = some (r, h') → X C D (h0, (.inl (some (vL r))), h') 4 4 [(0, vR l0), (1, vL l1), (3, vI l3)] [] h := by
  intro n
  induction n with
  | zero => intro l0 l1 l3 h hf; exact ab_no hf
  | succ n ih =>
    intro l0 l1 l3 h hf
    unfold fX5_wordOf_l4 at hf
    refine xr_iload_n A dX5_wordOf_4 2 rfl rfl ?_
    refine xr_aload_n A dX5_wordOf_5 0 rfl rfl ?_
    revert hf; refine ab_bdI (fun a1 e hf => ?_); subst e
    revert hf; refine ab_b2I (fun v4 h3 m2 hf => ?_)
    refine xr_V A bJ3_length (wJ3_length D m2).2 xc_J3 (wJ3_length D m2).1 q808 q809 q1633 (av := []) (rest := [vI l3]) rfl dX5_wordOf_6 (Nat.le_of_ble_eq_true rfl) (Nat.le_of_ble_eq_true rfl) rfl (Nat.le_of_ble_eq_true rfl) ?_
    refine xr_icmp_ge A (tgt := 36) dX5_wordOf_9 (by decide) (fun c9 => ?_) (fun c9 => ?_)
    · replace hf := ab_ip c9 hf
      refine xr_lload_n A dX5_wordOf_36 1 rfl rfl ?_
      exact xr_lreturn A hf dX5_wordOf_37
    · replace hf := ab_in c9 hf
      refine xr_ldc2 A q1613 dX5_wordOf_12 ?_
      refine xr_lload_n A dX5_wordOf_15 1 rfl rfl ?_
      refine xr_lmul A dX5_wordOf_16 ?_
      refine xr_aload_n A dX5_wordOf_17 0 rfl rfl ?_
      refine xr_iload_n A dX5_wordOf_18 2 rfl rfl ?_
      revert hf; refine ab_b2I (fun v7 h6 m5 hf => ?_)
      refine xr_V A bJ3_charAt (wJ3_charAt D m5).2 xc_J3 (wJ3_charAt D m5).1 q816 q817 q1634 (av := [vI l3]) (rest := [vL ((32 : Int64) * l1)]) rfl dX5_wordOf_19 (Nat.le_of_ble_eq_true rfl) (Nat.le_of_ble_eq_true rfl) rfl (Nat.le_of_ble_eq_true rfl) ?_
      refine xr_bipush A (v := 97) dX5_wordOf_22 (by decide) ?_
      refine xr_isub A dX5_wordOf_24 ?_
      refine xr_iconst A (v := 1) dX5_wordOf_25 (by decide) ?_
      refine xr_iadd A dX5_wordOf_26 ?_
      refine xr_i2l A dX5_wordOf_27 ?_
      refine xr_ladd A dX5_wordOf_28 ?_
      refine xr_lstore_n A dX5_wordOf_29 rfl (Nat.le_of_ble_eq_true rfl) (L' := [(1, vL (((32 : Int64) * l1) + ((v7 - (97 : Int32)) + (1 : Int32)).toInt64)), (0, vR (some a1)), (3, vI l3)]) rfl ?_
      refine xr_iinc A dX5_wordOf_30 2 rfl (v := (l3 + (1 : Int32))) rfl (Nat.le_of_ble_eq_true rfl) (L' := [(3, vI (l3 + (1 : Int32))), (1, vL (((32 : Int64) * l1) + ((v7 - (97 : Int32)) + (1 : Int32)).toInt64)), (0, vR (some a1))]) rfl ?_
      refine xr_goto A (tgt := 4) dX5_wordOf_33 (by decide) ?_
      refine X.sub [2, 1, 0] rfl ?_
      exact ih hf
noncomputable def fX5_wordOf (p0 : Option Nat) (h : Hp) : Option (Int64 × Hp) :=
  fX5_wordOf_l4 (hfu h) p0 (0 : Int64) (0 : Int32) h
theorem wX5_wordOf (D : Dd) {p0 : Option Nat} {h : Hp} {r : Int64} {h' : Hp} (hf : fX5_wordOf p0 h = some (r, h')) : Ct D 5 105 yX5_wordOf cX5_wordOf 4 (some FieldType.long) [vR p0] h (.inl (some (vL r))) h' := by
    unfold fX5_wordOf at hf
    refine Ct.of (by decide) (L := [(0, vR p0)]) rfl (Nat.le_of_ble_eq_true rfl) (fun C A => ?_)
    refine xr_lconst A (v := 0) dX5_wordOf_0 (by decide) ?_
    refine xr_lstore_n A dX5_wordOf_1 rfl (Nat.le_of_ble_eq_true rfl) (L' := [(1, vL (0 : Int64)), (0, vR p0)]) rfl ?_
    refine xr_iconst A (v := 0) dX5_wordOf_2 (by decide) ?_
    refine xr_istore_n A dX5_wordOf_3 rfl (Nat.le_of_ble_eq_true rfl) (L' := [(3, vI (0 : Int32)), (1, vL (0 : Int64)), (0, vR p0)]) rfl ?_
    refine X.sub [2, 1, 0] rfl ?_
    exact wX5_wordOf_l4 A _ hf
/-! X5_isWord -/
theorem bX5_isWord : MB yX5_isWord cX5_isWord 2 (some FieldType.boolean) 1 := ⟨q1629, q99, by decide, by decide +kernel⟩
noncomputable def fX5_isWord (x : Nat) (p1 : Option Nat) (h : Hp) : Option (Int32 × Hp) :=
  ab_ck h x 4 <|
  ab_bd (ab_gI h x 4 9) fun v1 =>
  if v1 = (2 : Int32) then (
    ab_bd (ab_gJ h x 4 16) fun v2 =>
    ab_b2 (fX5_wordOf p1 h) fun v5 h4 =>
    if (lg_cmp v2 v5) = 0 then (
      some ((1 : Int32), h4))
    else (
      some ((0 : Int32), h4)))
  else (
    some ((0 : Int32), h))
theorem wX5_isWord (D : Dd) {x : Nat} {p1 : Option Nat} {h : Hp} {r : Int32} {h' : Hp} (hf : fX5_isWord x p1 h = some (r, h')) : ab_is h x 4 ∧ Ct D 6 128 yX5_isWord cX5_isWord 2 (some FieldType.boolean) [vR (some x), vR p1] h (.inl (some (vI r))) h' := by
    unfold fX5_isWord at hf
    replace hf := ab_ckE hf; obtain ⟨i0, hf⟩ := hf
    refine ⟨i0, ?_⟩
    refine Ct.of (by decide) (L := [(0, vR (some x)), (1, vR p1)]) rfl (Nat.le_of_ble_eq_true rfl) (fun C A => ?_)
    refine xr_aload_n A dX5_isWord_0 0 rfl rfl ?_
    revert hf; refine ab_bdI (fun v1 mv1 hf => ?_)
    refine xr_get A xc_X5 in_X5 9 (Nat.le_of_ble_eq_true rfl) q1307 rfl (ab_gIE mv1) dX5_isWord_1 ?_
    refine xr_iconst A (v := 2) dX5_isWord_4 (by decide) ?_
    refine xr_icmp_ne A (tgt := 24) dX5_isWord_5 (by decide) (fun c5 => ?_) (fun c5 => ?_)
    · replace hf := ab_in c5 hf
      refine xr_iconst A (v := 0) dX5_isWord_24 (by decide) ?_
      exact xr_ireturn A rfl hf dX5_isWord_25
    · replace hf := ab_ip c5 hf
      refine xr_aload_n A dX5_isWord_8 0 rfl rfl ?_
      revert hf; refine ab_bdI (fun v2 mv2 hf => ?_)
      refine xr_get A xc_X5 in_X5 16 (Nat.le_of_ble_eq_true rfl) q1314 rfl (ab_gJE mv2) dX5_isWord_9 ?_
      refine xr_aload_n A dX5_isWord_12 1 rfl rfl ?_
      revert hf; refine ab_b2I (fun v5 h4 m3 hf => ?_)
      refine xr_S A bX5_wordOf (wX5_wordOf D m3) q1631 q1630 (av := [vR p1]) (rest := [vL v2]) rfl dX5_isWord_13 (Nat.le_of_ble_eq_true rfl) (Nat.le_of_ble_eq_true rfl) rfl (Nat.le_of_ble_eq_true rfl) ?_
      refine xr_lcmp A dX5_isWord_16 ?_
      refine xr_if_ne A (tgt := 24) dX5_isWord_17 (by decide) (fun c17 => ?_) (fun c17 => ?_)
      · replace hf := ab_in c17 hf
        refine xr_iconst A (v := 0) dX5_isWord_24 (by decide) ?_
        exact xr_ireturn A rfl hf dX5_isWord_25
      · replace hf := ab_ip c17 hf
        refine xr_iconst A (v := 1) dX5_isWord_20 (by decide) ?_
        refine xr_goto A (tgt := 25) dX5_isWord_21 (by decide) ?_
        exact xr_ireturn A rfl hf dX5_isWord_25
/-! X5_wrong -/
theorem bX5_wrong : MB yX5_wrong cX5_wrong 2 (none : Option FieldType) 1 := ⟨q1642, q99, by decide, by decide +kernel⟩
noncomputable def fX5_wrong (x : Nat) (p1 : Int32) (h : Hp) : Option Hp :=
  ab_ck h x 4 <|
  ab_bd (ab_gI h x 4 9) fun v1 =>
  if v1 = (5 : Int32) then (
    some h)
  else (
    ab_bd (ab_pI h x 4 13 p1) fun h2 =>
    ab_bd (ab_gI h2 x 4 10) fun v3 =>
    ab_bd (ab_pI h2 x 4 14 v3) fun h4 =>
    ab_bd (ab_pI h4 x 4 9 (5 : Int32)) fun h5 =>
    some h5)
theorem wX5_wrong (D : Dd) {x : Nat} {p1 : Int32} {h : Hp} {h' : Hp} (hf : fX5_wrong x p1 h = some h') : ab_is h x 4 ∧ Ct D 1 20 yX5_wrong cX5_wrong 2 (none : Option FieldType) [vR (some x), vI p1] h (.inl none) h' := by
    unfold fX5_wrong at hf
    replace hf := ab_ckE hf; obtain ⟨i0, hf⟩ := hf
    refine ⟨i0, ?_⟩
    refine Ct.of (by decide) (L := [(0, vR (some x)), (1, vI p1)]) rfl (Nat.le_of_ble_eq_true rfl) (fun C A => ?_)
    refine xr_aload_n A dX5_wrong_0 0 rfl rfl ?_
    revert hf; refine ab_bdI (fun v1 mv1 hf => ?_)
    refine xr_get A xc_X5 in_X5 9 (Nat.le_of_ble_eq_true rfl) q1307 rfl (ab_gIE mv1) dX5_wrong_1 ?_
    refine xr_iconst A (v := 5) dX5_wrong_4 (by decide) ?_
    refine xr_icmp_ne A (tgt := 9) dX5_wrong_5 (by decide) (fun c5 => ?_) (fun c5 => ?_)
    · replace hf := ab_in c5 hf
      refine xr_aload_n A dX5_wrong_9 0 rfl rfl ?_
      refine xr_iload_n A dX5_wrong_10 1 rfl rfl ?_
      revert hf; refine ab_bdI (fun h2 mh2 hf => ?_)
      refine xr_put A xc_X5 in_X5 tyX5_ok nmX5 13 (Nat.le_of_ble_eq_true rfl) q1311 rfl rfl (v := vI p1) rfl rfl mh2 dX5_wrong_11 ?_
      refine xr_aload_n A dX5_wrong_14 0 rfl rfl ?_
      refine xr_aload_n A dX5_wrong_15 0 rfl rfl ?_
      revert hf; refine ab_bdI (fun v3 mv3 hf => ?_)
      refine xr_get A xc_X5 in_X5 10 (Nat.le_of_ble_eq_true rfl) q1308 rfl (ab_gIE mv3) dX5_wrong_16 ?_
      revert hf; refine ab_bdI (fun h4 mh4 hf => ?_)
      refine xr_put A xc_X5 in_X5 tyX5_ok nmX5 14 (Nat.le_of_ble_eq_true rfl) q1312 rfl rfl (v := vI v3) rfl rfl mh4 dX5_wrong_19 ?_
      refine xr_aload_n A dX5_wrong_22 0 rfl rfl ?_
      refine xr_iconst A (v := 5) dX5_wrong_23 (by decide) ?_
      revert hf; refine ab_bdI (fun h5 mh5 hf => ?_)
      refine xr_put A xc_X5 in_X5 tyX5_ok nmX5 9 (Nat.le_of_ble_eq_true rfl) q1307 rfl rfl (v := vI (5 : Int32)) rfl rfl mh5 dX5_wrong_24 ?_
      exact xr_return A hf dX5_wrong_27
    · replace hf := ab_ip c5 hf
      exact xr_return A hf dX5_wrong_8
/-! X5_needs -/
theorem bX5_needs : MB yX5_needs cX5_needs 2 (none : Option FieldType) 1 := ⟨q1651, q99, by decide, by decide +kernel⟩
noncomputable def fX5_needs (x : Nat) (p1 : Option Nat) (h : Hp) : Option Hp :=
  ab_ck h x 4 <|
  ab_b2 (fX5_isWord x p1 h) fun v3 h2 =>
  if v3 = 0 then (
    ab_bd (fX5_wrong x (1 : Int32) h2) fun h7 =>
    ab_bd (fX5_goesOn x h7) fun h9 =>
    some h9)
  else (
    ab_bd (fX5_goesOn x h2) fun h5 =>
    some h5)
theorem wX5_needs (D : Dd) {x : Nat} {p1 : Option Nat} {h : Hp} {h' : Hp} (hf : fX5_needs x p1 h = some h') : ab_is h x 4 ∧ Ct D 7 149 yX5_needs cX5_needs 2 (none : Option FieldType) [vR (some x), vR p1] h (.inl none) h' := by
    unfold fX5_needs at hf
    replace hf := ab_ckE hf; obtain ⟨i0, hf⟩ := hf
    refine ⟨i0, ?_⟩
    refine Ct.of (by decide) (L := [(0, vR (some x)), (1, vR p1)]) rfl (Nat.le_of_ble_eq_true rfl) (fun C A => ?_)
    refine xr_aload_n A dX5_needs_0 0 rfl rfl ?_
    refine xr_aload_n A dX5_needs_1 1 rfl rfl ?_
    revert hf; refine ab_b2I (fun v3 h2 m1 hf => ?_)
    refine xr_V A bX5_isWord (wX5_isWord D m1).2 xc_X5 (wX5_isWord D m1).1 q1628 qs49 q1626 (av := [vR p1]) (rest := []) rfl dX5_needs_2 (Nat.le_of_ble_eq_true rfl) (Nat.le_of_ble_eq_true rfl) rfl (Nat.le_of_ble_eq_true rfl) ?_
    refine xr_if_ne A (tgt := 13) dX5_needs_5 (by decide) (fun c5 => ?_) (fun c5 => ?_)
    · replace hf := ab_in c5 hf
      refine xr_aload_n A dX5_needs_13 0 rfl rfl ?_
      revert hf; refine ab_bdI (fun h5 m4 hf => ?_)
      refine xr_V0 A bX5_goesOn (wX5_goesOn D m4).2 xc_X5 (wX5_goesOn D m4).1 q1604 qs45 q1602 (av := []) (rest := []) rfl dX5_needs_14 (Nat.le_of_ble_eq_true rfl) (Nat.le_of_ble_eq_true rfl) rfl (Nat.le_of_ble_eq_true rfl) ?_
      exact xr_return A hf dX5_needs_17
    · replace hf := ab_ip c5 hf
      refine xr_aload_n A dX5_needs_8 0 rfl rfl ?_
      refine xr_iconst A (v := 1) dX5_needs_9 (by decide) ?_
      revert hf; refine ab_bdI (fun h7 m6 hf => ?_)
      refine xr_V0 A bX5_wrong (wX5_wrong D m6).2 xc_X5 (wX5_wrong D m6).1 q1641 qs51 q1639 (av := [vI (1 : Int32)]) (rest := []) rfl dX5_needs_10 (Nat.le_of_ble_eq_true rfl) (Nat.le_of_ble_eq_true rfl) rfl (Nat.le_of_ble_eq_true rfl) ?_
      refine xr_aload_n A dX5_needs_13 0 rfl rfl ?_
      revert hf; refine ab_bdI (fun h9 m8 hf => ?_)
      refine xr_V0 A bX5_goesOn (wX5_goesOn D m8).2 xc_X5 (wX5_goesOn D m8).1 q1604 qs45 q1602 (av := []) (rest := []) rfl dX5_needs_14 (Nat.le_of_ble_eq_true rfl) (Nat.le_of_ble_eq_true rfl) rfl (Nat.le_of_ble_eq_true rfl) ?_
      exact xr_return A hf dX5_needs_17
/-! X5_in -/
theorem bX5_in : MB yX5_in cX5_in 3 (some FieldType.boolean) 3 := ⟨q1658, q99, by decide, by decide +kernel⟩
noncomputable def fX5_in (p0 : Int32) (p1 : Int32) (p2 : Int32) (h : Hp) : Option (Int32 × Hp) :=
  if p0 < p1 then (
    some ((0 : Int32), h))
  else (
    if p2 < p0 then (
      some ((0 : Int32), h))
    else (
      some ((1 : Int32), h)))
theorem wX5_in (D : Dd) {p0 : Int32} {p1 : Int32} {p2 : Int32} {h : Hp} {r : Int32} {h' : Hp} (hf : fX5_in p0 p1 p2 h = some (r, h')) : Ct D 1 20 yX5_in cX5_in 3 (some FieldType.boolean) [vI p0, vI p1, vI p2] h (.inl (some (vI r))) h' := by
    unfold fX5_in at hf
    refine Ct.of (by decide) (L := [(0, vI p0), (1, vI p1), (2, vI p2)]) rfl (Nat.le_of_ble_eq_true rfl) (fun C A => ?_)
    refine xr_iload_n A dX5_in_0 0 rfl rfl ?_
    refine xr_iload_n A dX5_in_1 1 rfl rfl ?_
    refine xr_icmp_lt A (tgt := 14) dX5_in_2 (by decide) (fun c2 => ?_) (fun c2 => ?_)
    · replace hf := ab_ip c2 hf
      refine xr_iconst A (v := 0) dX5_in_14 (by decide) ?_
      exact xr_ireturn A rfl hf dX5_in_15
    · replace hf := ab_in c2 hf
      refine xr_iload_n A dX5_in_5 0 rfl rfl ?_
      refine xr_iload_n A dX5_in_6 2 rfl rfl ?_
      refine xr_icmp_gt A (tgt := 14) dX5_in_7 (by decide) (fun c7 => ?_) (fun c7 => ?_)
      · replace hf := ab_ip c7 hf
        refine xr_iconst A (v := 0) dX5_in_14 (by decide) ?_
        exact xr_ireturn A rfl hf dX5_in_15
      · replace hf := ab_in c7 hf
        refine xr_iconst A (v := 1) dX5_in_10 (by decide) ?_
        refine xr_goto A (tgt := 15) dX5_in_11 (by decide) ?_
        exact xr_ireturn A rfl hf dX5_in_15
/-! X5_readWhole -/
theorem bX5_readWhole : MB yX5_readWhole cX5_readWhole 4 (some FieldType.int) 2 := ⟨q1655, q99, by decide, by decide +kernel⟩
noncomputable def fX5_readWhole_b33 (x : Nat) (h : Hp) : Option (Int32 × Hp) :=
  ab_bd (ab_gI h x 4 12) fun v1 =>
  ab_bd (fX5_goesOn x h) fun h3 =>
  some (v1, h3)
theorem wX5_readWhole_b33 {D : Dd} {C : Cx} {h0 h' : Hp} {r : Int32} (A : Act C D (h0, (.inl (some (vI r))), h') yX5_readWhole cX5_readWhole 4 (some FieldType.int) 3 63 []) {x : Nat} {h : Hp} (hf : fX5_readWhole_b33 x h = some (r, h')) : X C D (h0, (.inl (some (vI r))), h') 4 33 [(0, vR (some x))] [] h := by
  unfold fX5_readWhole_b33 at hf
  refine xr_aload_n A dX5_readWhole_33 0 rfl rfl ?_
  revert hf; refine ab_bdI (fun v1 mv1 hf => ?_)
  refine xr_get A xc_X5 in_X5 12 (Nat.le_of_ble_eq_true rfl) q1310 rfl (ab_gIE mv1) dX5_readWhole_34 ?_
  refine xr_istore_n A dX5_readWhole_37 rfl (Nat.le_of_ble_eq_true rfl) (L' := [(3, vI v1), (0, vR (some x))]) rfl ?_
  refine xr_aload_n A dX5_readWhole_38 1 rfl rfl ?_
  revert hf; refine ab_bdI (fun h3 m2 hf => ?_)
  refine xr_V0 A bX5_goesOn (wX5_goesOn D m2).2 xc_X5 (wX5_goesOn D m2).1 q1604 qs45 q1602 (av := []) (rest := []) rfl dX5_readWhole_39 (Nat.le_of_ble_eq_true rfl) (Nat.le_of_ble_eq_true rfl) rfl (Nat.le_of_ble_eq_true rfl) ?_
  refine xr_iload_n A dX5_readWhole_42 0 rfl rfl ?_
  exact xr_ireturn A rfl hf dX5_readWhole_43
noncomputable def fX5_readWhole (x : Nat) (p1 : Int32) (p2 : Int32) (h : Hp) : Option (Int32 × Hp) :=
  ab_ck h x 4 <|
  ab_bd (ab_gI h x 4 9) fun v1 =>
  if v1 = (3 : Int32) then (
    ab_bd (ab_gI h x 4 12) fun v2 =>
    ab_b2 (fX5_in v2 p1 p2 h) fun v5 h4 =>
    if v5 = 0 then (
      ab_bd (fX5_wrong x (4 : Int32) h4) fun h7 =>
      fX5_readWhole_b33 x  h7)
    else (
      fX5_readWhole_b33 x  h4))
  else (
    ab_bd (fX5_wrong x (1 : Int32) h) fun h9 =>
    fX5_readWhole_b33 x  h9)
theorem wX5_readWhole (D : Dd) {x : Nat} {p1 : Int32} {p2 : Int32} {h : Hp} {r : Int32} {h' : Hp} (hf : fX5_readWhole x p1 p2 h = some (r, h')) : ab_is h x 4 ∧ Ct D 3 63 yX5_readWhole cX5_readWhole 4 (some FieldType.int) [vR (some x), vI p1, vI p2] h (.inl (some (vI r))) h' := by
    unfold fX5_readWhole at hf
    replace hf := ab_ckE hf; obtain ⟨i0, hf⟩ := hf
    refine ⟨i0, ?_⟩
    refine Ct.of (by decide) (L := [(0, vR (some x)), (1, vI p1), (2, vI p2)]) rfl (Nat.le_of_ble_eq_true rfl) (fun C A => ?_)
    refine xr_aload_n A dX5_readWhole_0 0 rfl rfl ?_
    revert hf; refine ab_bdI (fun v1 mv1 hf => ?_)
    refine xr_get A xc_X5 in_X5 9 (Nat.le_of_ble_eq_true rfl) q1307 rfl (ab_gIE mv1) dX5_readWhole_1 ?_
    refine xr_iconst A (v := 3) dX5_readWhole_4 (by decide) ?_
    refine xr_icmp_eq A (tgt := 16) dX5_readWhole_5 (by decide) (fun c5 => ?_) (fun c5 => ?_)
    · replace hf := ab_ip c5 hf
      refine xr_aload_n A dX5_readWhole_16 0 rfl rfl ?_
      revert hf; refine ab_bdI (fun v2 mv2 hf => ?_)
      refine xr_get A xc_X5 in_X5 12 (Nat.le_of_ble_eq_true rfl) q1310 rfl (ab_gIE mv2) dX5_readWhole_17 ?_
      refine xr_iload_n A dX5_readWhole_20 1 rfl rfl ?_
      refine xr_iload_n A dX5_readWhole_21 2 rfl rfl ?_
      revert hf; refine ab_b2I (fun v5 h4 m3 hf => ?_)
      refine xr_S A bX5_in (wX5_in D m3) q1657 q1656 (av := [vI v2, vI p1, vI p2]) (rest := []) rfl dX5_readWhole_22 (Nat.le_of_ble_eq_true rfl) (Nat.le_of_ble_eq_true rfl) rfl (Nat.le_of_ble_eq_true rfl) ?_
      refine xr_if_ne A (tgt := 33) dX5_readWhole_25 (by decide) (fun c25 => ?_) (fun c25 => ?_)
      · replace hf := ab_in c25 hf
        refine X.sub [0] rfl ?_
        exact wX5_readWhole_b33 A hf
      · replace hf := ab_ip c25 hf
        refine xr_aload_n A dX5_readWhole_28 0 rfl rfl ?_
        refine xr_iconst A (v := 4) dX5_readWhole_29 (by decide) ?_
        revert hf; refine ab_bdI (fun h7 m6 hf => ?_)
        refine xr_V0 A bX5_wrong (wX5_wrong D m6).2 xc_X5 (wX5_wrong D m6).1 q1641 qs51 q1639 (av := [vI (4 : Int32)]) (rest := []) rfl dX5_readWhole_30 (Nat.le_of_ble_eq_true rfl) (Nat.le_of_ble_eq_true rfl) rfl (Nat.le_of_ble_eq_true rfl) ?_
        refine X.sub [0] rfl ?_
        exact wX5_readWhole_b33 A hf
    · replace hf := ab_in c5 hf
      refine xr_aload_n A dX5_readWhole_8 0 rfl rfl ?_
      refine xr_iconst A (v := 1) dX5_readWhole_9 (by decide) ?_
      revert hf; refine ab_bdI (fun h9 m8 hf => ?_)
      refine xr_V0 A bX5_wrong (wX5_wrong D m8).2 xc_X5 (wX5_wrong D m8).1 q1641 qs51 q1639 (av := [vI (1 : Int32)]) (rest := []) rfl dX5_readWhole_10 (Nat.le_of_ble_eq_true rfl) (Nat.le_of_ble_eq_true rfl) rfl (Nat.le_of_ble_eq_true rfl) ?_
      refine xr_goto A (tgt := 33) dX5_readWhole_13 (by decide) ?_
      refine X.sub [0] rfl ?_
      exact wX5_readWhole_b33 A hf
/-! X5_readPart -/
theorem bX5_readPart : MB yX5_readPart cX5_readPart 4 (some FieldType.int) 3 := ⟨q1647, q99, by decide, by decide +kernel⟩
noncomputable def fX5_readPart (x : Nat) (p1 : Option Nat) (p2 : Int32) (p3 : Int32) (h : Hp) : Option (Int32 × Hp) :=
  ab_ck h x 4 <|
  ab_bd (fX5_needs x p1 h) fun h2 =>
  ab_b2 (fX5_readWhole x p2 p3 h2) fun v5 h4 =>
  some (v5, h4)
theorem wX5_readPart (D : Dd) {x : Nat} {p1 : Option Nat} {p2 : Int32} {p3 : Int32} {h : Hp} {r : Int32} {h' : Hp} (hf : fX5_readPart x p1 p2 p3 h = some (r, h')) : ab_is h x 4 ∧ Ct D 8 170 yX5_readPart cX5_readPart 4 (some FieldType.int) [vR (some x), vR p1, vI p2, vI p3] h (.inl (some (vI r))) h' := by
    unfold fX5_readPart at hf
    replace hf := ab_ckE hf; obtain ⟨i0, hf⟩ := hf
    refine ⟨i0, ?_⟩
    refine Ct.of (by decide) (L := [(0, vR (some x)), (1, vR p1), (2, vI p2), (3, vI p3)]) rfl (Nat.le_of_ble_eq_true rfl) (fun C A => ?_)
    refine xr_aload_n A dX5_readPart_0 0 rfl rfl ?_
    refine xr_aload_n A dX5_readPart_1 1 rfl rfl ?_
    revert hf; refine ab_bdI (fun h2 m1 hf => ?_)
    refine xr_V0 A bX5_needs (wX5_needs D m1).2 xc_X5 (wX5_needs D m1).1 q1650 qs53 q1648 (av := [vR p1]) (rest := []) rfl dX5_readPart_2 (Nat.le_of_ble_eq_true rfl) (Nat.le_of_ble_eq_true rfl) rfl (Nat.le_of_ble_eq_true rfl) ?_
    refine xr_aload_n A dX5_readPart_5 0 rfl rfl ?_
    refine xr_iload_n A dX5_readPart_6 2 rfl rfl ?_
    refine xr_iload_n A dX5_readPart_7 3 rfl rfl ?_
    revert hf; refine ab_b2I (fun v5 h4 m3 hf => ?_)
    refine xr_V A bX5_readWhole (wX5_readWhole D m3).2 xc_X5 (wX5_readWhole D m3).1 q1654 qs54 q1652 (av := [vI p2, vI p3]) (rest := []) rfl dX5_readPart_8 (Nat.le_of_ble_eq_true rfl) (Nat.le_of_ble_eq_true rfl) rfl (Nat.le_of_ble_eq_true rfl) ?_
    exact xr_ireturn A rfl hf dX5_readPart_11
/-! X5_readLaw -/
theorem bX5_readLaw : MB yX5_readLaw cX5_readLaw 3 (none : Option FieldType) 0 := ⟨q1638, q99, by decide, by decide +kernel⟩
noncomputable def fX5_readLaw_b16 (x : Nat) (h : Hp) : Option Hp :=
  ab_bd (fX5_goesOn x h) fun h2 =>
  ab_b2 (fX5_readPart x (some (hstr h2 10)) (40 : Int32) (90 : Int32) h2) fun v5 h4 =>
  ab_b2 (fX5_readPart x (some (hstr h4 11)) (600 : Int32) (900 : Int32) h4) fun v8 h7 =>
  ab_bd (ab_gI h7 x 4 9) fun v9 =>
  if v9 = (5 : Int32) then (
    some h7)
  else (
    ab_bd (ab_gR h7 x 4 4) fun v10 =>
    ab_bd v10 fun a11 =>
    ab_bd (ab_pI h7 a11 13 0 v5) fun h12 =>
    ab_bd (ab_gR h12 x 4 4) fun v13 =>
    ab_bd v13 fun a14 =>
    ab_bd (ab_pI h12 a14 13 1 v8) fun h15 =>
    some h15)
theorem wX5_readLaw_b16 {D : Dd} {C : Cx} {h0 h' : Hp} (A : Act C D (h0, (.inl none), h') yX5_readLaw cX5_readLaw 3 (none : Option FieldType) 9 193 []) {x : Nat} {h : Hp} (hf : fX5_readLaw_b16 x h = some h') : X C D (h0, (.inl none), h') 3 16 [(0, vR (some x))] [] h := by
  unfold fX5_readLaw_b16 at hf
  refine xr_aload_n A dX5_readLaw_16 0 rfl rfl ?_
  revert hf; refine ab_bdI (fun h2 m1 hf => ?_)
  refine xr_V0 A bX5_goesOn (wX5_goesOn D m1).2 xc_X5 (wX5_goesOn D m1).1 q1604 qs45 q1602 (av := []) (rest := []) rfl dX5_readLaw_17 (Nat.le_of_ble_eq_true rfl) (Nat.le_of_ble_eq_true rfl) rfl (Nat.le_of_ble_eq_true rfl) ?_
  refine xr_aload_n A dX5_readLaw_20 0 rfl rfl ?_
  refine xr_ldcsw A t1643 dX5_readLaw_21 ?_
  refine xr_bipush A (v := 40) dX5_readLaw_24 (by decide) ?_
  refine xr_bipush A (v := 90) dX5_readLaw_26 (by decide) ?_
  revert hf; refine ab_b2I (fun v5 h4 m3 hf => ?_)
  refine xr_V A bX5_readPart (wX5_readPart D m3).2 xc_X5 (wX5_readPart D m3).1 q1646 qs52 q1644 (av := [vR (some (hstr h2 10)), vI (40 : Int32), vI (90 : Int32)]) (rest := []) rfl dX5_readLaw_28 (Nat.le_of_ble_eq_true rfl) (Nat.le_of_ble_eq_true rfl) rfl (Nat.le_of_ble_eq_true rfl) ?_
  refine xr_istore_n A dX5_readLaw_31 rfl (Nat.le_of_ble_eq_true rfl) (L' := [(1, vI v5), (0, vR (some x))]) rfl ?_
  refine xr_aload_n A dX5_readLaw_32 1 rfl rfl ?_
  refine xr_ldcsw A t1659 dX5_readLaw_33 ?_
  refine xr_sipush A (v := 600) dX5_readLaw_36 (by decide) ?_
  refine xr_sipush A (v := 900) dX5_readLaw_39 (by decide) ?_
  revert hf; refine ab_b2I (fun v8 h7 m6 hf => ?_)
  refine xr_V A bX5_readPart (wX5_readPart D m6).2 xc_X5 (wX5_readPart D m6).1 q1646 qs52 q1644 (av := [vR (some (hstr h4 11)), vI (600 : Int32), vI (900 : Int32)]) (rest := []) rfl dX5_readLaw_42 (Nat.le_of_ble_eq_true rfl) (Nat.le_of_ble_eq_true rfl) rfl (Nat.le_of_ble_eq_true rfl) ?_
  refine xr_istore_n A dX5_readLaw_45 rfl (Nat.le_of_ble_eq_true rfl) (L' := [(2, vI v8), (1, vI v5), (0, vR (some x))]) rfl ?_
  refine xr_aload_n A dX5_readLaw_46 2 rfl rfl ?_
  revert hf; refine ab_bdI (fun v9 mv9 hf => ?_)
  refine xr_get A xc_X5 in_X5 9 (Nat.le_of_ble_eq_true rfl) q1307 rfl (ab_gIE mv9) dX5_readLaw_47 ?_
  refine xr_iconst A (v := 5) dX5_readLaw_50 (by decide) ?_
  refine xr_icmp_ne A (tgt := 55) dX5_readLaw_51 (by decide) (fun c51 => ?_) (fun c51 => ?_)
  · replace hf := ab_in c51 hf
    refine xr_aload_n A dX5_readLaw_55 2 rfl rfl ?_
    revert hf; refine ab_bdI (fun v10 mv10 hf => ?_)
    refine xr_get A xc_X5 in_X5 4 (Nat.le_of_ble_eq_true rfl) q1302 rfl (ab_gRE mv10) dX5_readLaw_56 ?_
    refine xr_iload_n A dX5_readLaw_59 1 rfl rfl ?_
    revert hf; refine ab_bdI (fun a11 e hf => ?_); subst e
    revert hf; refine ab_bdI (fun h12 mh12 hf => ?_)
    refine xr_putN A xc_X15 in_X15 tyX15_ok nmX15 0 (Nat.le_of_ble_eq_true rfl) n1460 rfl rfl (v := vI v5) rfl rfl mh12 dX5_readLaw_60 ?_
    refine xr_aload_n A dX5_readLaw_63 2 rfl rfl ?_
    revert hf; refine ab_bdI (fun v13 mv13 hf => ?_)
    refine xr_get A xc_X5 in_X5 4 (Nat.le_of_ble_eq_true rfl) q1302 rfl (ab_gRE mv13) dX5_readLaw_64 ?_
    refine xr_iload_n A dX5_readLaw_67 0 rfl rfl ?_
    revert hf; refine ab_bdI (fun a14 e hf => ?_); subst e
    revert hf; refine ab_bdI (fun h15 mh15 hf => ?_)
    refine xr_putN A xc_X15 in_X15 tyX15_ok nmX15 1 (Nat.le_of_ble_eq_true rfl) n1461 rfl rfl (v := vI v8) rfl rfl mh15 dX5_readLaw_68 ?_
    exact xr_return A hf dX5_readLaw_71
  · replace hf := ab_ip c51 hf
    exact xr_return A hf dX5_readLaw_54
noncomputable def fX5_readLaw (x : Nat) (h : Hp) : Option Hp :=
  ab_ck h x 4 <|
  ab_bd (ab_gR h x 4 4) fun v1 =>
  ab_bd v1 fun a2 =>
  ab_bd (ab_gI h a2 13 0) fun v3 =>
  if v3 = (-1 : Int32) then (
    fX5_readLaw_b16 x  h)
  else (
    ab_bd (fX5_wrong x (3 : Int32) h) fun h5 =>
    fX5_readLaw_b16 x  h5)
theorem wX5_readLaw (D : Dd) {x : Nat} {h : Hp} {h' : Hp} (hf : fX5_readLaw x h = some h') : ab_is h x 4 ∧ Ct D 9 193 yX5_readLaw cX5_readLaw 3 (none : Option FieldType) [vR (some x)] h (.inl none) h' := by
    unfold fX5_readLaw at hf
    replace hf := ab_ckE hf; obtain ⟨i0, hf⟩ := hf
    refine ⟨i0, ?_⟩
    refine Ct.of (by decide) (L := [(0, vR (some x))]) rfl (Nat.le_of_ble_eq_true rfl) (fun C A => ?_)
    refine xr_aload_n A dX5_readLaw_0 0 rfl rfl ?_
    revert hf; refine ab_bdI (fun v1 mv1 hf => ?_)
    refine xr_get A xc_X5 in_X5 4 (Nat.le_of_ble_eq_true rfl) q1302 rfl (ab_gRE mv1) dX5_readLaw_1 ?_
    revert hf; refine ab_bdI (fun a2 e hf => ?_); subst e
    revert hf; refine ab_bdI (fun v3 mv3 hf => ?_)
    refine xr_getN A xc_X15 in_X15 0 (Nat.le_of_ble_eq_true rfl) n1460 rfl (ab_gIE mv3) dX5_readLaw_4 ?_
    refine xr_iconst A (v := (-1)) dX5_readLaw_7 (by decide) ?_
    refine xr_icmp_eq A (tgt := 16) dX5_readLaw_8 (by decide) (fun c8 => ?_) (fun c8 => ?_)
    · replace hf := ab_ip c8 hf
      exact wX5_readLaw_b16 A hf
    · replace hf := ab_in c8 hf
      refine xr_aload_n A dX5_readLaw_11 0 rfl rfl ?_
      refine xr_iconst A (v := 3) dX5_readLaw_12 (by decide) ?_
      revert hf; refine ab_bdI (fun h5 m4 hf => ?_)
      refine xr_V0 A bX5_wrong (wX5_wrong D m4).2 xc_X5 (wX5_wrong D m4).1 q1641 qs51 q1639 (av := [vI (3 : Int32)]) (rest := []) rfl dX5_readLaw_13 (Nat.le_of_ble_eq_true rfl) (Nat.le_of_ble_eq_true rfl) rfl (Nat.le_of_ble_eq_true rfl) ?_
      exact wX5_readLaw_b16 A hf
/-! X5_isName -/
theorem bX5_isName : MB yX5_isName cX5_isName 1 (some FieldType.boolean) 0 := ⟨q1672, q99, by decide, by decide +kernel⟩
noncomputable def fX5_isName (x : Nat) (h : Hp) : Option (Int32 × Hp) :=
  ab_ck h x 4 <|
  ab_bd (ab_gI h x 4 9) fun v1 =>
  if v1 = (2 : Int32) then (
    ab_b2 (fX5_isWord x (some (hstr h 1)) h) fun v4 h3 =>
    if v4 = 0 then (
      ab_b2 (fX5_isWord x (some (hstr h3 2)) h3) fun v7 h6 =>
      if v7 = 0 then (
        ab_b2 (fX5_isWord x (some (hstr h6 3)) h6) fun v10 h9 =>
        if v10 = 0 then (
          ab_b2 (fX5_isWord x (some (hstr h9 4)) h9) fun v13 h12 =>
          if v13 = 0 then (
            ab_b2 (fX5_isWord x (some (hstr h12 5)) h12) fun v16 h15 =>
            if v16 = 0 then (
              ab_b2 (fX5_isWord x (some (hstr h15 6)) h15) fun v19 h18 =>
              if v19 = 0 then (
                ab_b2 (fX5_isWord x (some (hstr h18 7)) h18) fun v22 h21 =>
                if v22 = 0 then (
                  ab_b2 (fX5_isWord x (some (hstr h21 8)) h21) fun v25 h24 =>
                  if v25 = 0 then (
                    ab_b2 (fX5_isWord x (some (hstr h24 9)) h24) fun v28 h27 =>
                    if v28 = 0 then (
                      ab_b2 (fX5_isWord x (some (hstr h27 12)) h27) fun v31 h30 =>
                      if v31 = 0 then (
                        ab_b2 (fX5_isWord x (some (hstr h30 13)) h30) fun v34 h33 =>
                        if v34 = 0 then (
                          some ((1 : Int32), h33))
                        else (
                          some ((0 : Int32), h33)))
                      else (
                        some ((0 : Int32), h30)))
                    else (
                      some ((0 : Int32), h27)))
                  else (
                    some ((0 : Int32), h24)))
                else (
                  some ((0 : Int32), h21)))
              else (
                some ((0 : Int32), h18)))
            else (
              some ((0 : Int32), h15)))
          else (
            some ((0 : Int32), h12)))
        else (
          some ((0 : Int32), h9)))
      else (
        some ((0 : Int32), h6)))
    else (
      some ((0 : Int32), h3)))
  else (
    some ((0 : Int32), h))
theorem wX5_isName (D : Dd) {x : Nat} {h : Hp} {r : Int32} {h' : Hp} (hf : fX5_isName x h = some (r, h')) : ab_is h x 4 ∧ Ct D 7 149 yX5_isName cX5_isName 1 (some FieldType.boolean) [vR (some x)] h (.inl (some (vI r))) h' := by
    unfold fX5_isName at hf
    replace hf := ab_ckE hf; obtain ⟨i0, hf⟩ := hf
    refine ⟨i0, ?_⟩
    refine Ct.of (by decide) (L := [(0, vR (some x))]) rfl (Nat.le_of_ble_eq_true rfl) (fun C A => ?_)
    refine xr_aload_n A dX5_isName_0 0 rfl rfl ?_
    revert hf; refine ab_bdI (fun v1 mv1 hf => ?_)
    refine xr_get A xc_X5 in_X5 9 (Nat.le_of_ble_eq_true rfl) q1307 rfl (ab_gIE mv1) dX5_isName_1 ?_
    refine xr_iconst A (v := 2) dX5_isName_4 (by decide) ?_
    refine xr_icmp_ne A (tgt := 62) dX5_isName_5 (by decide) (fun c5 => ?_) (fun c5 => ?_)
    · replace hf := ab_in c5 hf
      refine xr_iconst A (v := 0) dX5_isName_62 (by decide) ?_
      exact xr_ireturn A rfl hf dX5_isName_63
    · replace hf := ab_ip c5 hf
      refine xr_aload_n A dX5_isName_8 0 rfl rfl ?_
      refine xr_ldcs A t1625 dX5_isName_9 ?_
      revert hf; refine ab_b2I (fun v4 h3 m2 hf => ?_)
      refine xr_V A bX5_isWord (wX5_isWord D m2).2 xc_X5 (wX5_isWord D m2).1 q1628 qs49 q1626 (av := [vR (some (hstr h 1))]) (rest := []) rfl dX5_isName_11 (Nat.le_of_ble_eq_true rfl) (Nat.le_of_ble_eq_true rfl) rfl (Nat.le_of_ble_eq_true rfl) ?_
      refine xr_if_ne A (tgt := 62) dX5_isName_14 (by decide) (fun c14 => ?_) (fun c14 => ?_)
      · replace hf := ab_in c14 hf
        refine xr_iconst A (v := 0) dX5_isName_62 (by decide) ?_
        exact xr_ireturn A rfl hf dX5_isName_63
      · replace hf := ab_ip c14 hf
        refine xr_aload_n A dX5_isName_17 0 rfl rfl ?_
        refine xr_ldcs A t1660 dX5_isName_18 ?_
        revert hf; refine ab_b2I (fun v7 h6 m5 hf => ?_)
        refine xr_V A bX5_isWord (wX5_isWord D m5).2 xc_X5 (wX5_isWord D m5).1 q1628 qs49 q1626 (av := [vR (some (hstr h3 2))]) (rest := []) rfl dX5_isName_20 (Nat.le_of_ble_eq_true rfl) (Nat.le_of_ble_eq_true rfl) rfl (Nat.le_of_ble_eq_true rfl) ?_
        refine xr_if_ne A (tgt := 62) dX5_isName_23 (by decide) (fun c23 => ?_) (fun c23 => ?_)
        · replace hf := ab_in c23 hf
          refine xr_iconst A (v := 0) dX5_isName_62 (by decide) ?_
          exact xr_ireturn A rfl hf dX5_isName_63
        · replace hf := ab_ip c23 hf
          refine xr_aload_n A dX5_isName_26 0 rfl rfl ?_
          refine xr_ldcs A t1673 dX5_isName_27 ?_
          revert hf; refine ab_b2I (fun v10 h9 m8 hf => ?_)
          refine xr_V A bX5_isWord (wX5_isWord D m8).2 xc_X5 (wX5_isWord D m8).1 q1628 qs49 q1626 (av := [vR (some (hstr h6 3))]) (rest := []) rfl dX5_isName_29 (Nat.le_of_ble_eq_true rfl) (Nat.le_of_ble_eq_true rfl) rfl (Nat.le_of_ble_eq_true rfl) ?_
          refine xr_if_ne A (tgt := 62) dX5_isName_32 (by decide) (fun c32 => ?_) (fun c32 => ?_)
          · replace hf := ab_in c32 hf
            refine xr_iconst A (v := 0) dX5_isName_62 (by decide) ?_
            exact xr_ireturn A rfl hf dX5_isName_63
          · replace hf := ab_ip c32 hf
            refine xr_aload_n A dX5_isName_35 0 rfl rfl ?_
            refine xr_ldcs A t1674 dX5_isName_36 ?_
            revert hf; refine ab_b2I (fun v13 h12 m11 hf => ?_)
            refine xr_V A bX5_isWord (wX5_isWord D m11).2 xc_X5 (wX5_isWord D m11).1 q1628 qs49 q1626 (av := [vR (some (hstr h9 4))]) (rest := []) rfl dX5_isName_38 (Nat.le_of_ble_eq_true rfl) (Nat.le_of_ble_eq_true rfl) rfl (Nat.le_of_ble_eq_true rfl) ?_
            refine xr_if_ne A (tgt := 62) dX5_isName_41 (by decide) (fun c41 => ?_) (fun c41 => ?_)
            · replace hf := ab_in c41 hf
              refine xr_iconst A (v := 0) dX5_isName_62 (by decide) ?_
              exact xr_ireturn A rfl hf dX5_isName_63
            · replace hf := ab_ip c41 hf
              refine xr_aload_n A dX5_isName_44 0 rfl rfl ?_
              refine xr_ldcs A t1675 dX5_isName_45 ?_
              revert hf; refine ab_b2I (fun v16 h15 m14 hf => ?_)
              refine xr_V A bX5_isWord (wX5_isWord D m14).2 xc_X5 (wX5_isWord D m14).1 q1628 qs49 q1626 (av := [vR (some (hstr h12 5))]) (rest := []) rfl dX5_isName_47 (Nat.le_of_ble_eq_true rfl) (Nat.le_of_ble_eq_true rfl) rfl (Nat.le_of_ble_eq_true rfl) ?_
              refine xr_if_ne A (tgt := 62) dX5_isName_50 (by decide) (fun c50 => ?_) (fun c50 => ?_)
              · replace hf := ab_in c50 hf
                refine xr_iconst A (v := 0) dX5_isName_62 (by decide) ?_
                exact xr_ireturn A rfl hf dX5_isName_63
              · replace hf := ab_ip c50 hf
                refine xr_aload_n A dX5_isName_53 0 rfl rfl ?_
                refine xr_ldcs A t1676 dX5_isName_54 ?_
                revert hf; refine ab_b2I (fun v19 h18 m17 hf => ?_)
                refine xr_V A bX5_isWord (wX5_isWord D m17).2 xc_X5 (wX5_isWord D m17).1 q1628 qs49 q1626 (av := [vR (some (hstr h15 6))]) (rest := []) rfl dX5_isName_56 (Nat.le_of_ble_eq_true rfl) (Nat.le_of_ble_eq_true rfl) rfl (Nat.le_of_ble_eq_true rfl) ?_
                refine xr_if_eq A (tgt := 64) dX5_isName_59 (by decide) (fun c59 => ?_) (fun c59 => ?_)
                · replace hf := ab_ip c59 hf
                  refine xr_aload_n A dX5_isName_64 0 rfl rfl ?_
                  refine xr_ldcs A t1677 dX5_isName_65 ?_
                  revert hf; refine ab_b2I (fun v22 h21 m20 hf => ?_)
                  refine xr_V A bX5_isWord (wX5_isWord D m20).2 xc_X5 (wX5_isWord D m20).1 q1628 qs49 q1626 (av := [vR (some (hstr h18 7))]) (rest := []) rfl dX5_isName_67 (Nat.le_of_ble_eq_true rfl) (Nat.le_of_ble_eq_true rfl) rfl (Nat.le_of_ble_eq_true rfl) ?_
                  refine xr_if_ne A (tgt := 113) dX5_isName_70 (by decide) (fun c70 => ?_) (fun c70 => ?_)
                  · replace hf := ab_in c70 hf
                    refine xr_iconst A (v := 0) dX5_isName_113 (by decide) ?_
                    exact xr_ireturn A rfl hf dX5_isName_114
                  · replace hf := ab_ip c70 hf
                    refine xr_aload_n A dX5_isName_73 0 rfl rfl ?_
                    refine xr_ldcs A t1678 dX5_isName_74 ?_
                    revert hf; refine ab_b2I (fun v25 h24 m23 hf => ?_)
                    refine xr_V A bX5_isWord (wX5_isWord D m23).2 xc_X5 (wX5_isWord D m23).1 q1628 qs49 q1626 (av := [vR (some (hstr h21 8))]) (rest := []) rfl dX5_isName_76 (Nat.le_of_ble_eq_true rfl) (Nat.le_of_ble_eq_true rfl) rfl (Nat.le_of_ble_eq_true rfl) ?_
                    refine xr_if_ne A (tgt := 113) dX5_isName_79 (by decide) (fun c79 => ?_) (fun c79 => ?_)
                    · replace hf := ab_in c79 hf
                      refine xr_iconst A (v := 0) dX5_isName_113 (by decide) ?_
                      exact xr_ireturn A rfl hf dX5_isName_114
                    · replace hf := ab_ip c79 hf
                      refine xr_aload_n A dX5_isName_82 0 rfl rfl ?_
                      refine xr_ldcs A t1679 dX5_isName_83 ?_
                      revert hf; refine ab_b2I (fun v28 h27 m26 hf => ?_)
                      refine xr_V A bX5_isWord (wX5_isWord D m26).2 xc_X5 (wX5_isWord D m26).1 q1628 qs49 q1626 (av := [vR (some (hstr h24 9))]) (rest := []) rfl dX5_isName_85 (Nat.le_of_ble_eq_true rfl) (Nat.le_of_ble_eq_true rfl) rfl (Nat.le_of_ble_eq_true rfl) ?_
                      refine xr_if_ne A (tgt := 113) dX5_isName_88 (by decide) (fun c88 => ?_) (fun c88 => ?_)
                      · replace hf := ab_in c88 hf
                        refine xr_iconst A (v := 0) dX5_isName_113 (by decide) ?_
                        exact xr_ireturn A rfl hf dX5_isName_114
                      · replace hf := ab_ip c88 hf
                        refine xr_aload_n A dX5_isName_91 0 rfl rfl ?_
                        refine xr_ldcs A t1680 dX5_isName_92 ?_
                        revert hf; refine ab_b2I (fun v31 h30 m29 hf => ?_)
                        refine xr_V A bX5_isWord (wX5_isWord D m29).2 xc_X5 (wX5_isWord D m29).1 q1628 qs49 q1626 (av := [vR (some (hstr h27 12))]) (rest := []) rfl dX5_isName_94 (Nat.le_of_ble_eq_true rfl) (Nat.le_of_ble_eq_true rfl) rfl (Nat.le_of_ble_eq_true rfl) ?_
                        refine xr_if_ne A (tgt := 113) dX5_isName_97 (by decide) (fun c97 => ?_) (fun c97 => ?_)
                        · replace hf := ab_in c97 hf
                          refine xr_iconst A (v := 0) dX5_isName_113 (by decide) ?_
                          exact xr_ireturn A rfl hf dX5_isName_114
                        · replace hf := ab_ip c97 hf
                          refine xr_aload_n A dX5_isName_100 0 rfl rfl ?_
                          refine xr_ldcs A t1681 dX5_isName_101 ?_
                          revert hf; refine ab_b2I (fun v34 h33 m32 hf => ?_)
                          refine xr_V A bX5_isWord (wX5_isWord D m32).2 xc_X5 (wX5_isWord D m32).1 q1628 qs49 q1626 (av := [vR (some (hstr h30 13))]) (rest := []) rfl dX5_isName_103 (Nat.le_of_ble_eq_true rfl) (Nat.le_of_ble_eq_true rfl) rfl (Nat.le_of_ble_eq_true rfl) ?_
                          refine xr_if_ne A (tgt := 113) dX5_isName_106 (by decide) (fun c106 => ?_) (fun c106 => ?_)
                          · replace hf := ab_in c106 hf
                            refine xr_iconst A (v := 0) dX5_isName_113 (by decide) ?_
                            exact xr_ireturn A rfl hf dX5_isName_114
                          · replace hf := ab_ip c106 hf
                            refine xr_iconst A (v := 1) dX5_isName_109 (by decide) ?_
                            refine xr_goto A (tgt := 114) dX5_isName_110 (by decide) ?_
                            exact xr_ireturn A rfl hf dX5_isName_114
                · replace hf := ab_in c59 hf
                  refine xr_iconst A (v := 0) dX5_isName_62 (by decide) ?_
                  exact xr_ireturn A rfl hf dX5_isName_63
/-! X15_find -/
theorem bX15_find : MB yX15_find cX15_find 4 (some FieldType.int) 1 := ⟨q1685, q114, by decide, by decide +kernel⟩
noncomputable def fX15_find_l2 (x : Nat) : Nat → Int64 → Int32 → Hp → Option (Int32 × Hp)
  | 0, _, _, _ => none
  | n + 1, l1, l3, h =>
  ab_bd (ab_gI h x 13 10) fun v1 =>
  if v1 ≤ l3 then (
    some ((-1 : Int32), h))
  else (
    ab_bd (ab_gR h x 13 34) fun v2 =>
    ab_bd v2 fun a3 =>
    ab_bd (ab_aJ h a3 3 l3) fun v4 =>
    if (lg_cmp v4 l1) = 0 then (
      some (l3, h))
    else (
      fX15_find_l2 x n l1 (l3 + (1 : Int32)) h))
theorem wX15_find_l2 {D : Dd} {C : Cx} {h0 h' : Hp} {r : Int32} (A : Act C D (h0, (.inl (some (vI r))), h') yX15_find cX15_find 4 (some FieldType.int) 1 20 []) {x : Nat} : ∀ (n : Nat) {l1 : Int64} {l3 : Int32} {h : Hp}, fX15_find_l2 x n l1 l3 h = some (r, h') → X C D (h0, (.inl (some (vI r))), h') 4 2 [(0, vR (some x)), (1, vL l1), (3, vI l3)] [] h := by
  intro n
  induction n with
  | zero => intro l1 l3 h hf; exact ab_no hf
  | succ n ih =>
    intro l1 l3 h hf
    unfold fX15_find_l2 at hf
    refine xr_iload_n A dX15_find_2 2 rfl rfl ?_
    refine xr_aload_n A dX15_find_3 0 rfl rfl ?_
    revert hf; refine ab_bdI (fun v1 mv1 hf => ?_)
    refine xr_get A xc_X15 in_X15 10 (Nat.le_of_ble_eq_true rfl) q1471 rfl (ab_gIE mv1) dX15_find_4 ?_
    refine xr_icmp_ge A (tgt := 29) dX15_find_7 (by decide) (fun c7 => ?_) (fun c7 => ?_)
    · replace hf := ab_ip c7 hf
      refine xr_iconst A (v := (-1)) dX15_find_29 (by decide) ?_
      exact xr_ireturn A rfl hf dX15_find_30
    · replace hf := ab_in c7 hf
      refine xr_aload_n A dX15_find_10 0 rfl rfl ?_
      revert hf; refine ab_bdI (fun v2 mv2 hf => ?_)
      refine xr_get A xc_X15 in_X15 34 (Nat.le_of_ble_eq_true rfl) q1519 rfl (ab_gRE mv2) dX15_find_11 ?_
      refine xr_iload_n A dX15_find_14 2 rfl rfl ?_
      revert hf; refine ab_bdI (fun a3 e hf => ?_); subst e
      revert hf; refine ab_bdI (fun v4 mv4 hf => ?_)
      refine xr_laload A mv4 dX15_find_15 ?_
      refine xr_lload_n A dX15_find_16 1 rfl rfl ?_
      refine xr_lcmp A dX15_find_17 ?_
      refine xr_if_ne A (tgt := 23) dX15_find_18 (by decide) (fun c18 => ?_) (fun c18 => ?_)
      · replace hf := ab_in c18 hf
        refine xr_iinc A dX15_find_23 2 rfl (v := (l3 + (1 : Int32))) rfl (Nat.le_of_ble_eq_true rfl) (L' := [(3, vI (l3 + (1 : Int32))), (0, vR (some x)), (1, vL l1)]) rfl ?_
        refine xr_goto A (tgt := 2) dX15_find_26 (by decide) ?_
        refine X.sub [1, 2, 0] rfl ?_
        exact ih hf
      · replace hf := ab_ip c18 hf
        refine xr_iload_n A dX15_find_21 2 rfl rfl ?_
        exact xr_ireturn A rfl hf dX15_find_22
noncomputable def fX15_find (x : Nat) (p1 : Int64) (h : Hp) : Option (Int32 × Hp) :=
  ab_ck h x 13 <|
  fX15_find_l2 x (hfu h) p1 (0 : Int32) h
theorem wX15_find (D : Dd) {x : Nat} {p1 : Int64} {h : Hp} {r : Int32} {h' : Hp} (hf : fX15_find x p1 h = some (r, h')) : ab_is h x 13 ∧ Ct D 1 20 yX15_find cX15_find 4 (some FieldType.int) [vR (some x), vL p1] h (.inl (some (vI r))) h' := by
    unfold fX15_find at hf
    replace hf := ab_ckE hf; obtain ⟨i0, hf⟩ := hf
    refine ⟨i0, ?_⟩
    refine Ct.of (by decide) (L := [(0, vR (some x)), (1, vL p1)]) rfl (Nat.le_of_ble_eq_true rfl) (fun C A => ?_)
    refine xr_iconst A (v := 0) dX15_find_0 (by decide) ?_
    refine xr_istore_n A dX15_find_1 rfl (Nat.le_of_ble_eq_true rfl) (L' := [(3, vI (0 : Int32)), (0, vR (some x)), (1, vL p1)]) rfl ?_
    refine X.sub [1, 2, 0] rfl ?_
    exact wX15_find_l2 A _ hf
/-! X5_readNamed -/
theorem bX5_readNamed : MB yX5_readNamed cX5_readNamed 4 (none : Option FieldType) 3 := ⟨q1668, q99, by decide, by decide +kernel⟩
noncomputable def fX5_readNamed_b46 (x : Nat) (l1 : Int32) (l3 : Int32) (h : Hp) : Option Hp :=
  ab_bd (ab_gI h x 4 9) fun v1 =>
  if v1 = (5 : Int32) then (
    some h)
  else (
    ab_bd (ab_gR h x 4 4) fun v2 =>
    ab_bd v2 fun a3 =>
    ab_bd (ab_gR h a3 13 34) fun v4 =>
    ab_bd (ab_gR h x 4 4) fun v5 =>
    ab_bd v5 fun a6 =>
    ab_bd (ab_gI h a6 13 10) fun v7 =>
    ab_bd (ab_gJ h x 4 16) fun v8 =>
    ab_bd v4 fun a9 =>
    ab_bd (ab_sJ h a9 3 v7 v8) fun h10 =>
    ab_bd (ab_gR h10 x 4 4) fun v11 =>
    ab_bd v11 fun a12 =>
    ab_bd (ab_gR h10 a12 13 35) fun v13 =>
    ab_bd (ab_gR h10 x 4 4) fun v14 =>
    ab_bd v14 fun a15 =>
    ab_bd (ab_gI h10 a15 13 10) fun v16 =>
    ab_bd v13 fun a17 =>
    ab_bd (ab_sI h10 a17 v16 l3) fun h18 =>
    ab_bd (ab_gR h18 x 4 4) fun v19 =>
    ab_bd v19 fun a20 =>
    ab_bd (ab_gR h18 a20 13 36) fun v21 =>
    ab_bd (ab_gR h18 x 4 4) fun v22 =>
    ab_bd v22 fun a23 =>
    ab_bd (ab_gI h18 a23 13 10) fun v24 =>
    ab_bd v21 fun a25 =>
    ab_bd (ab_sI h18 a25 v24 l1) fun h26 =>
    ab_bd (ab_gR h26 x 4 4) fun v27 =>
    ab_bd v27 fun a28 =>
    ab_bd (ab_gI h26 a28 13 10) fun v29 =>
    ab_bd (ab_pI h26 a28 13 10 (v29 + (1 : Int32))) fun h30 =>
    ab_bd (fX5_goesOn x h30) fun h32 =>
    some h32)
theorem wX5_readNamed_b46 {D : Dd} {C : Cx} {h0 h' : Hp} (A : Act C D (h0, (.inl none), h') yX5_readNamed cX5_readNamed 4 (none : Option FieldType) 8 169 []) {x : Nat} {l1 : Int32} {l3 : Int32} {h : Hp} (hf : fX5_readNamed_b46 x l1 l3 h = some h') : X C D (h0, (.inl none), h') 4 46 [(0, vR (some x)), (1, vI l1), (3, vI l3)] [] h := by
  unfold fX5_readNamed_b46 at hf
  refine xr_aload_n A dX5_readNamed_46 0 rfl rfl ?_
  revert hf; refine ab_bdI (fun v1 mv1 hf => ?_)
  refine xr_get A xc_X5 in_X5 9 (Nat.le_of_ble_eq_true rfl) q1307 rfl (ab_gIE mv1) dX5_readNamed_47 ?_
  refine xr_iconst A (v := 5) dX5_readNamed_50 (by decide) ?_
  refine xr_icmp_ne A (tgt := 55) dX5_readNamed_51 (by decide) (fun c51 => ?_) (fun c51 => ?_)
  · replace hf := ab_in c51 hf
    refine xr_aload_n A dX5_readNamed_55 0 rfl rfl ?_
    revert hf; refine ab_bdI (fun v2 mv2 hf => ?_)
    refine xr_get A xc_X5 in_X5 4 (Nat.le_of_ble_eq_true rfl) q1302 rfl (ab_gRE mv2) dX5_readNamed_56 ?_
    revert hf; refine ab_bdI (fun a3 e hf => ?_); subst e
    revert hf; refine ab_bdI (fun v4 mv4 hf => ?_)
    refine xr_getN A xc_X15 in_X15 34 (Nat.le_of_ble_eq_true rfl) n1520 rfl (ab_gRE mv4) dX5_readNamed_59 ?_
    refine xr_aload_n A dX5_readNamed_62 0 rfl rfl ?_
    revert hf; refine ab_bdI (fun v5 mv5 hf => ?_)
    refine xr_get A xc_X5 in_X5 4 (Nat.le_of_ble_eq_true rfl) q1302 rfl (ab_gRE mv5) dX5_readNamed_63 ?_
    revert hf; refine ab_bdI (fun a6 e hf => ?_); subst e
    revert hf; refine ab_bdI (fun v7 mv7 hf => ?_)
    refine xr_getN A xc_X15 in_X15 10 (Nat.le_of_ble_eq_true rfl) n1472 rfl (ab_gIE mv7) dX5_readNamed_66 ?_
    refine xr_aload_n A dX5_readNamed_69 0 rfl rfl ?_
    revert hf; refine ab_bdI (fun v8 mv8 hf => ?_)
    refine xr_get A xc_X5 in_X5 16 (Nat.le_of_ble_eq_true rfl) q1314 rfl (ab_gJE mv8) dX5_readNamed_70 ?_
    revert hf; refine ab_bdI (fun a9 e hf => ?_); subst e
    revert hf; refine ab_bdI (fun h10 mh10 hf => ?_)
    refine xr_lastore A mh10 dX5_readNamed_73 ?_
    refine xr_aload_n A dX5_readNamed_74 0 rfl rfl ?_
    revert hf; refine ab_bdI (fun v11 mv11 hf => ?_)
    refine xr_get A xc_X5 in_X5 4 (Nat.le_of_ble_eq_true rfl) q1302 rfl (ab_gRE mv11) dX5_readNamed_75 ?_
    revert hf; refine ab_bdI (fun a12 e hf => ?_); subst e
    revert hf; refine ab_bdI (fun v13 mv13 hf => ?_)
    refine xr_getN A xc_X15 in_X15 35 (Nat.le_of_ble_eq_true rfl) n1522 rfl (ab_gRE mv13) dX5_readNamed_78 ?_
    refine xr_aload_n A dX5_readNamed_81 0 rfl rfl ?_
    revert hf; refine ab_bdI (fun v14 mv14 hf => ?_)
    refine xr_get A xc_X5 in_X5 4 (Nat.le_of_ble_eq_true rfl) q1302 rfl (ab_gRE mv14) dX5_readNamed_82 ?_
    revert hf; refine ab_bdI (fun a15 e hf => ?_); subst e
    revert hf; refine ab_bdI (fun v16 mv16 hf => ?_)
    refine xr_getN A xc_X15 in_X15 10 (Nat.le_of_ble_eq_true rfl) n1472 rfl (ab_gIE mv16) dX5_readNamed_85 ?_
    refine xr_iload_n A dX5_readNamed_88 2 rfl rfl ?_
    revert hf; refine ab_bdI (fun a17 e hf => ?_); subst e
    revert hf; refine ab_bdI (fun h18 mh18 hf => ?_)
    refine xr_iastore A mh18 dX5_readNamed_89 ?_
    refine xr_aload_n A dX5_readNamed_90 0 rfl rfl ?_
    revert hf; refine ab_bdI (fun v19 mv19 hf => ?_)
    refine xr_get A xc_X5 in_X5 4 (Nat.le_of_ble_eq_true rfl) q1302 rfl (ab_gRE mv19) dX5_readNamed_91 ?_
    revert hf; refine ab_bdI (fun a20 e hf => ?_); subst e
    revert hf; refine ab_bdI (fun v21 mv21 hf => ?_)
    refine xr_getN A xc_X15 in_X15 36 (Nat.le_of_ble_eq_true rfl) n1524 rfl (ab_gRE mv21) dX5_readNamed_94 ?_
    refine xr_aload_n A dX5_readNamed_97 0 rfl rfl ?_
    revert hf; refine ab_bdI (fun v22 mv22 hf => ?_)
    refine xr_get A xc_X5 in_X5 4 (Nat.le_of_ble_eq_true rfl) q1302 rfl (ab_gRE mv22) dX5_readNamed_98 ?_
    revert hf; refine ab_bdI (fun a23 e hf => ?_); subst e
    revert hf; refine ab_bdI (fun v24 mv24 hf => ?_)
    refine xr_getN A xc_X15 in_X15 10 (Nat.le_of_ble_eq_true rfl) n1472 rfl (ab_gIE mv24) dX5_readNamed_101 ?_
    refine xr_iload_n A dX5_readNamed_104 1 rfl rfl ?_
    revert hf; refine ab_bdI (fun a25 e hf => ?_); subst e
    revert hf; refine ab_bdI (fun h26 mh26 hf => ?_)
    refine xr_iastore A mh26 dX5_readNamed_105 ?_
    refine xr_aload_n A dX5_readNamed_106 0 rfl rfl ?_
    revert hf; refine ab_bdI (fun v27 mv27 hf => ?_)
    refine xr_get A xc_X5 in_X5 4 (Nat.le_of_ble_eq_true rfl) q1302 rfl (ab_gRE mv27) dX5_readNamed_107 ?_
    refine xr_dup A dX5_readNamed_110 rfl ?_
    revert hf; refine ab_bdI (fun a28 e hf => ?_); subst e
    revert hf; refine ab_bdI (fun v29 mv29 hf => ?_)
    refine xr_getN A xc_X15 in_X15 10 (Nat.le_of_ble_eq_true rfl) n1472 rfl (ab_gIE mv29) dX5_readNamed_111 ?_
    refine xr_iconst A (v := 1) dX5_readNamed_114 (by decide) ?_
    refine xr_iadd A dX5_readNamed_115 ?_
    revert hf; refine ab_bdI (fun h30 mh30 hf => ?_)
    refine xr_putN A xc_X15 in_X15 tyX15_ok nmX15 10 (Nat.le_of_ble_eq_true rfl) n1472 rfl rfl (v := vI (v29 + (1 : Int32))) rfl rfl mh30 dX5_readNamed_116 ?_
    refine xr_aload_n A dX5_readNamed_119 0 rfl rfl ?_
    revert hf; refine ab_bdI (fun h32 m31 hf => ?_)
    refine xr_V0 A bX5_goesOn (wX5_goesOn D m31).2 xc_X5 (wX5_goesOn D m31).1 q1604 qs45 q1602 (av := []) (rest := []) rfl dX5_readNamed_120 (Nat.le_of_ble_eq_true rfl) (Nat.le_of_ble_eq_true rfl) rfl (Nat.le_of_ble_eq_true rfl) ?_
    exact xr_return A hf dX5_readNamed_123
  · replace hf := ab_ip c51 hf
    exact xr_return A hf dX5_readNamed_54
noncomputable def fX5_readNamed_b26 (x : Nat) (l1 : Int32) (l3 : Int32) (h : Hp) : Option Hp :=
  ab_bd (ab_gR h x 4 4) fun v1 =>
  ab_bd (ab_gJ h x 4 16) fun v2 =>
  ab_bd v1 fun a3 =>
  ab_b2 (fX15_find a3 v2 h) fun v6 h5 =>
  if v6 = (-1 : Int32) then (
    fX5_readNamed_b46 x l1 l3 h5)
  else (
    ab_bd (fX5_wrong x (3 : Int32) h5) fun h8 =>
    fX5_readNamed_b46 x l1 l3 h8)
theorem wX5_readNamed_b26 {D : Dd} {C : Cx} {h0 h' : Hp} (A : Act C D (h0, (.inl none), h') yX5_readNamed cX5_readNamed 4 (none : Option FieldType) 8 169 []) {x : Nat} {l1 : Int32} {l3 : Int32} {h : Hp} (hf : fX5_readNamed_b26 x l1 l3 h = some h') : X C D (h0, (.inl none), h') 4 26 [(0, vR (some x)), (1, vI l1), (3, vI l3)] [] h := by
  unfold fX5_readNamed_b26 at hf
  refine xr_aload_n A dX5_readNamed_26 0 rfl rfl ?_
  revert hf; refine ab_bdI (fun v1 mv1 hf => ?_)
  refine xr_get A xc_X5 in_X5 4 (Nat.le_of_ble_eq_true rfl) q1302 rfl (ab_gRE mv1) dX5_readNamed_27 ?_
  refine xr_aload_n A dX5_readNamed_30 0 rfl rfl ?_
  revert hf; refine ab_bdI (fun v2 mv2 hf => ?_)
  refine xr_get A xc_X5 in_X5 16 (Nat.le_of_ble_eq_true rfl) q1314 rfl (ab_gJE mv2) dX5_readNamed_31 ?_
  revert hf; refine ab_bdI (fun a3 e hf => ?_); subst e
  revert hf; refine ab_b2I (fun v6 h5 m4 hf => ?_)
  refine xr_V A bX15_find (wX15_find D m4).2 xc_X15 (wX15_find D m4).1 q1683 q1684 q1682 (av := [vL v2]) (rest := []) rfl dX5_readNamed_34 (Nat.le_of_ble_eq_true rfl) (Nat.le_of_ble_eq_true rfl) rfl (Nat.le_of_ble_eq_true rfl) ?_
  refine xr_iconst A (v := (-1)) dX5_readNamed_37 (by decide) ?_
  refine xr_icmp_eq A (tgt := 46) dX5_readNamed_38 (by decide) (fun c38 => ?_) (fun c38 => ?_)
  · replace hf := ab_ip c38 hf
    exact wX5_readNamed_b46 A hf
  · replace hf := ab_in c38 hf
    refine xr_aload_n A dX5_readNamed_41 0 rfl rfl ?_
    refine xr_iconst A (v := 3) dX5_readNamed_42 (by decide) ?_
    revert hf; refine ab_bdI (fun h8 m7 hf => ?_)
    refine xr_V0 A bX5_wrong (wX5_wrong D m7).2 xc_X5 (wX5_wrong D m7).1 q1641 qs51 q1639 (av := [vI (3 : Int32)]) (rest := []) rfl dX5_readNamed_43 (Nat.le_of_ble_eq_true rfl) (Nat.le_of_ble_eq_true rfl) rfl (Nat.le_of_ble_eq_true rfl) ?_
    exact wX5_readNamed_b46 A hf
noncomputable def fX5_readNamed_b10 (x : Nat) (l1 : Int32) (l3 : Int32) (h : Hp) : Option Hp :=
  ab_bd (fX5_goesOn x h) fun h2 =>
  ab_b2 (fX5_isName x h2) fun v5 h4 =>
  if v5 = 0 then (
    ab_bd (fX5_wrong x (1 : Int32) h4) fun h7 =>
    fX5_readNamed_b26 x l1 l3 h7)
  else (
    fX5_readNamed_b26 x l1 l3 h4)
theorem wX5_readNamed_b10 {D : Dd} {C : Cx} {h0 h' : Hp} (A : Act C D (h0, (.inl none), h') yX5_readNamed cX5_readNamed 4 (none : Option FieldType) 8 169 []) {x : Nat} {l1 : Int32} {l3 : Int32} {h : Hp} (hf : fX5_readNamed_b10 x l1 l3 h = some h') : X C D (h0, (.inl none), h') 4 10 [(0, vR (some x)), (1, vI l1), (3, vI l3)] [] h := by
  unfold fX5_readNamed_b10 at hf
  refine xr_aload_n A dX5_readNamed_10 0 rfl rfl ?_
  revert hf; refine ab_bdI (fun h2 m1 hf => ?_)
  refine xr_V0 A bX5_goesOn (wX5_goesOn D m1).2 xc_X5 (wX5_goesOn D m1).1 q1604 qs45 q1602 (av := []) (rest := []) rfl dX5_readNamed_11 (Nat.le_of_ble_eq_true rfl) (Nat.le_of_ble_eq_true rfl) rfl (Nat.le_of_ble_eq_true rfl) ?_
  refine xr_aload_n A dX5_readNamed_14 0 rfl rfl ?_
  revert hf; refine ab_b2I (fun v5 h4 m3 hf => ?_)
  refine xr_V A bX5_isName (wX5_isName D m3).2 xc_X5 (wX5_isName D m3).1 q1671 qs57 q1669 (av := []) (rest := []) rfl dX5_readNamed_15 (Nat.le_of_ble_eq_true rfl) (Nat.le_of_ble_eq_true rfl) rfl (Nat.le_of_ble_eq_true rfl) ?_
  refine xr_if_ne A (tgt := 26) dX5_readNamed_18 (by decide) (fun c18 => ?_) (fun c18 => ?_)
  · replace hf := ab_in c18 hf
    exact wX5_readNamed_b26 A hf
  · replace hf := ab_ip c18 hf
    refine xr_aload_n A dX5_readNamed_21 0 rfl rfl ?_
    refine xr_iconst A (v := 1) dX5_readNamed_22 (by decide) ?_
    revert hf; refine ab_bdI (fun h7 m6 hf => ?_)
    refine xr_V0 A bX5_wrong (wX5_wrong D m6).2 xc_X5 (wX5_wrong D m6).1 q1641 qs51 q1639 (av := [vI (1 : Int32)]) (rest := []) rfl dX5_readNamed_23 (Nat.le_of_ble_eq_true rfl) (Nat.le_of_ble_eq_true rfl) rfl (Nat.le_of_ble_eq_true rfl) ?_
    exact wX5_readNamed_b26 A hf
noncomputable def fX5_readNamed (x : Nat) (p1 : Int32) (p2 : Int32) (p3 : Int32) (h : Hp) : Option Hp :=
  ab_ck h x 4 <|
  if p1 = p2 then (
    ab_bd (fX5_wrong x (5 : Int32) h) fun h2 =>
    fX5_readNamed_b10 x p1 p3 h2)
  else (
    fX5_readNamed_b10 x p1 p3 h)
theorem wX5_readNamed (D : Dd) {x : Nat} {p1 : Int32} {p2 : Int32} {p3 : Int32} {h : Hp} {h' : Hp} (hf : fX5_readNamed x p1 p2 p3 h = some h') : ab_is h x 4 ∧ Ct D 8 169 yX5_readNamed cX5_readNamed 4 (none : Option FieldType) [vR (some x), vI p1, vI p2, vI p3] h (.inl none) h' := by
    unfold fX5_readNamed at hf
    replace hf := ab_ckE hf; obtain ⟨i0, hf⟩ := hf
    refine ⟨i0, ?_⟩
    refine Ct.of (by decide) (L := [(0, vR (some x)), (1, vI p1), (2, vI p2), (3, vI p3)]) rfl (Nat.le_of_ble_eq_true rfl) (fun C A => ?_)
    refine xr_iload_n A dX5_readNamed_0 1 rfl rfl ?_
    refine xr_iload_n A dX5_readNamed_1 2 rfl rfl ?_
    refine xr_icmp_ne A (tgt := 10) dX5_readNamed_2 (by decide) (fun c2 => ?_) (fun c2 => ?_)
    · replace hf := ab_in c2 hf
      refine X.sub [0, 1, 3] rfl ?_
      exact wX5_readNamed_b10 A hf
    · replace hf := ab_ip c2 hf
      refine xr_aload_n A dX5_readNamed_5 0 rfl rfl ?_
      refine xr_iconst A (v := 5) dX5_readNamed_6 (by decide) ?_
      revert hf; refine ab_bdI (fun h2 m1 hf => ?_)
      refine xr_V0 A bX5_wrong (wX5_wrong D m1).2 xc_X5 (wX5_wrong D m1).1 q1641 qs51 q1639 (av := [vI (5 : Int32)]) (rest := []) rfl dX5_readNamed_7 (Nat.le_of_ble_eq_true rfl) (Nat.le_of_ble_eq_true rfl) rfl (Nat.le_of_ble_eq_true rfl) ?_
      refine X.sub [0, 1, 3] rfl ?_
      exact wX5_readNamed_b10 A hf
/-! X5_readKitchen -/
theorem bX5_readKitchen : MB yX5_readKitchen cX5_readKitchen 3 (none : Option FieldType) 0 := ⟨q1664, q99, by decide, by decide +kernel⟩
noncomputable def fX5_readKitchen (x : Nat) (h : Hp) : Option Hp :=
  ab_ck h x 4 <|
  ab_bd (ab_gR h x 4 4) fun v1 =>
  ab_bd v1 fun a2 =>
  ab_bd (ab_gI h a2 13 2) fun v3 =>
  ab_bd (fX5_readNamed x v3 (3 : Int32) (0 : Int32) h) fun h5 =>
  ab_b2 (fX5_readPart x (some (hstr h5 14)) (0 : Int32) (99 : Int32) h5) fun v8 h7 =>
  ab_b2 (fX5_readPart x (some (hstr h7 10)) (60 : Int32) (99 : Int32) h7) fun v11 h10 =>
  ab_bd (ab_gI h10 x 4 9) fun v12 =>
  if v12 = (5 : Int32) then (
    some h10)
  else (
    ab_bd (ab_gR h10 x 4 4) fun v13 =>
    ab_bd v13 fun a14 =>
    ab_bd (ab_gR h10 a14 13 11) fun v15 =>
    ab_bd (ab_gR h10 x 4 4) fun v16 =>
    ab_bd v16 fun a17 =>
    ab_bd (ab_gI h10 a17 13 2) fun v18 =>
    ab_bd v15 fun a19 =>
    ab_bd (ab_sI h10 a19 v18 v8) fun h20 =>
    ab_bd (ab_gR h20 x 4 4) fun v21 =>
    ab_bd v21 fun a22 =>
    ab_bd (ab_gR h20 a22 13 12) fun v23 =>
    ab_bd (ab_gR h20 x 4 4) fun v24 =>
    ab_bd v24 fun a25 =>
    ab_bd (ab_gI h20 a25 13 2) fun v26 =>
    ab_bd v23 fun a27 =>
    ab_bd (ab_sI h20 a27 v26 v11) fun h28 =>
    ab_bd (ab_gR h28 x 4 4) fun v29 =>
    ab_bd v29 fun a30 =>
    ab_bd (ab_gI h28 a30 13 2) fun v31 =>
    ab_bd (ab_pI h28 a30 13 2 (v31 + (1 : Int32))) fun h32 =>
    some h32)
theorem wX5_readKitchen (D : Dd) {x : Nat} {h : Hp} {h' : Hp} (hf : fX5_readKitchen x h = some h') : ab_is h x 4 ∧ Ct D 9 193 yX5_readKitchen cX5_readKitchen 3 (none : Option FieldType) [vR (some x)] h (.inl none) h' := by
    unfold fX5_readKitchen at hf
    replace hf := ab_ckE hf; obtain ⟨i0, hf⟩ := hf
    refine ⟨i0, ?_⟩
    refine Ct.of (by decide) (L := [(0, vR (some x))]) rfl (Nat.le_of_ble_eq_true rfl) (fun C A => ?_)
    refine xr_aload_n A dX5_readKitchen_0 0 rfl rfl ?_
    refine xr_aload_n A dX5_readKitchen_1 0 rfl rfl ?_
    revert hf; refine ab_bdI (fun v1 mv1 hf => ?_)
    refine xr_get A xc_X5 in_X5 4 (Nat.le_of_ble_eq_true rfl) q1302 rfl (ab_gRE mv1) dX5_readKitchen_2 ?_
    revert hf; refine ab_bdI (fun a2 e hf => ?_); subst e
    revert hf; refine ab_bdI (fun v3 mv3 hf => ?_)
    refine xr_getN A xc_X15 in_X15 2 (Nat.le_of_ble_eq_true rfl) n1462 rfl (ab_gIE mv3) dX5_readKitchen_5 ?_
    refine xr_iconst A (v := 3) dX5_readKitchen_8 (by decide) ?_
    refine xr_iconst A (v := 0) dX5_readKitchen_9 (by decide) ?_
    revert hf; refine ab_bdI (fun h5 m4 hf => ?_)
    refine xr_V0 A bX5_readNamed (wX5_readNamed D m4).2 xc_X5 (wX5_readNamed D m4).1 q1667 qs56 q1665 (av := [vI v3, vI (3 : Int32), vI (0 : Int32)]) (rest := []) rfl dX5_readKitchen_10 (Nat.le_of_ble_eq_true rfl) (Nat.le_of_ble_eq_true rfl) rfl (Nat.le_of_ble_eq_true rfl) ?_
    refine xr_aload_n A dX5_readKitchen_13 0 rfl rfl ?_
    refine xr_ldcsw A t1686 dX5_readKitchen_14 ?_
    refine xr_iconst A (v := 0) dX5_readKitchen_17 (by decide) ?_
    refine xr_bipush A (v := 99) dX5_readKitchen_18 (by decide) ?_
    revert hf; refine ab_b2I (fun v8 h7 m6 hf => ?_)
    refine xr_V A bX5_readPart (wX5_readPart D m6).2 xc_X5 (wX5_readPart D m6).1 q1646 qs52 q1644 (av := [vR (some (hstr h5 14)), vI (0 : Int32), vI (99 : Int32)]) (rest := []) rfl dX5_readKitchen_20 (Nat.le_of_ble_eq_true rfl) (Nat.le_of_ble_eq_true rfl) rfl (Nat.le_of_ble_eq_true rfl) ?_
    refine xr_istore_n A dX5_readKitchen_23 rfl (Nat.le_of_ble_eq_true rfl) (L' := [(1, vI v8), (0, vR (some x))]) rfl ?_
    refine xr_aload_n A dX5_readKitchen_24 1 rfl rfl ?_
    refine xr_ldcsw A t1643 dX5_readKitchen_25 ?_
    refine xr_bipush A (v := 60) dX5_readKitchen_28 (by decide) ?_
    refine xr_bipush A (v := 99) dX5_readKitchen_30 (by decide) ?_
    revert hf; refine ab_b2I (fun v11 h10 m9 hf => ?_)
    refine xr_V A bX5_readPart (wX5_readPart D m9).2 xc_X5 (wX5_readPart D m9).1 q1646 qs52 q1644 (av := [vR (some (hstr h7 10)), vI (60 : Int32), vI (99 : Int32)]) (rest := []) rfl dX5_readKitchen_32 (Nat.le_of_ble_eq_true rfl) (Nat.le_of_ble_eq_true rfl) rfl (Nat.le_of_ble_eq_true rfl) ?_
    refine xr_istore_n A dX5_readKitchen_35 rfl (Nat.le_of_ble_eq_true rfl) (L' := [(2, vI v11), (1, vI v8), (0, vR (some x))]) rfl ?_
    refine xr_aload_n A dX5_readKitchen_36 2 rfl rfl ?_
    revert hf; refine ab_bdI (fun v12 mv12 hf => ?_)
    refine xr_get A xc_X5 in_X5 9 (Nat.le_of_ble_eq_true rfl) q1307 rfl (ab_gIE mv12) dX5_readKitchen_37 ?_
    refine xr_iconst A (v := 5) dX5_readKitchen_40 (by decide) ?_
    refine xr_icmp_ne A (tgt := 45) dX5_readKitchen_41 (by decide) (fun c41 => ?_) (fun c41 => ?_)
    · replace hf := ab_in c41 hf
      refine xr_aload_n A dX5_readKitchen_45 2 rfl rfl ?_
      revert hf; refine ab_bdI (fun v13 mv13 hf => ?_)
      refine xr_get A xc_X5 in_X5 4 (Nat.le_of_ble_eq_true rfl) q1302 rfl (ab_gRE mv13) dX5_readKitchen_46 ?_
      revert hf; refine ab_bdI (fun a14 e hf => ?_); subst e
      revert hf; refine ab_bdI (fun v15 mv15 hf => ?_)
      refine xr_getN A xc_X15 in_X15 11 (Nat.le_of_ble_eq_true rfl) n1474 rfl (ab_gRE mv15) dX5_readKitchen_49 ?_
      refine xr_aload_n A dX5_readKitchen_52 2 rfl rfl ?_
      revert hf; refine ab_bdI (fun v16 mv16 hf => ?_)
      refine xr_get A xc_X5 in_X5 4 (Nat.le_of_ble_eq_true rfl) q1302 rfl (ab_gRE mv16) dX5_readKitchen_53 ?_
      revert hf; refine ab_bdI (fun a17 e hf => ?_); subst e
      revert hf; refine ab_bdI (fun v18 mv18 hf => ?_)
      refine xr_getN A xc_X15 in_X15 2 (Nat.le_of_ble_eq_true rfl) n1462 rfl (ab_gIE mv18) dX5_readKitchen_56 ?_
      refine xr_iload_n A dX5_readKitchen_59 1 rfl rfl ?_
      revert hf; refine ab_bdI (fun a19 e hf => ?_); subst e
      revert hf; refine ab_bdI (fun h20 mh20 hf => ?_)
      refine xr_iastore A mh20 dX5_readKitchen_60 ?_
      refine xr_aload_n A dX5_readKitchen_61 2 rfl rfl ?_
      revert hf; refine ab_bdI (fun v21 mv21 hf => ?_)
      refine xr_get A xc_X5 in_X5 4 (Nat.le_of_ble_eq_true rfl) q1302 rfl (ab_gRE mv21) dX5_readKitchen_62 ?_
      revert hf; refine ab_bdI (fun a22 e hf => ?_); subst e
      revert hf; refine ab_bdI (fun v23 mv23 hf => ?_)
      refine xr_getN A xc_X15 in_X15 12 (Nat.le_of_ble_eq_true rfl) n1476 rfl (ab_gRE mv23) dX5_readKitchen_65 ?_
      refine xr_aload_n A dX5_readKitchen_68 2 rfl rfl ?_
      revert hf; refine ab_bdI (fun v24 mv24 hf => ?_)
      refine xr_get A xc_X5 in_X5 4 (Nat.le_of_ble_eq_true rfl) q1302 rfl (ab_gRE mv24) dX5_readKitchen_69 ?_
      revert hf; refine ab_bdI (fun a25 e hf => ?_); subst e
      revert hf; refine ab_bdI (fun v26 mv26 hf => ?_)
      refine xr_getN A xc_X15 in_X15 2 (Nat.le_of_ble_eq_true rfl) n1462 rfl (ab_gIE mv26) dX5_readKitchen_72 ?_
      refine xr_iload_n A dX5_readKitchen_75 0 rfl rfl ?_
      revert hf; refine ab_bdI (fun a27 e hf => ?_); subst e
      revert hf; refine ab_bdI (fun h28 mh28 hf => ?_)
      refine xr_iastore A mh28 dX5_readKitchen_76 ?_
      refine xr_aload_n A dX5_readKitchen_77 2 rfl rfl ?_
      revert hf; refine ab_bdI (fun v29 mv29 hf => ?_)
      refine xr_get A xc_X5 in_X5 4 (Nat.le_of_ble_eq_true rfl) q1302 rfl (ab_gRE mv29) dX5_readKitchen_78 ?_
      refine xr_dup A dX5_readKitchen_81 rfl ?_
      revert hf; refine ab_bdI (fun a30 e hf => ?_); subst e
      revert hf; refine ab_bdI (fun v31 mv31 hf => ?_)
      refine xr_getN A xc_X15 in_X15 2 (Nat.le_of_ble_eq_true rfl) n1462 rfl (ab_gIE mv31) dX5_readKitchen_82 ?_
      refine xr_iconst A (v := 1) dX5_readKitchen_85 (by decide) ?_
      refine xr_iadd A dX5_readKitchen_86 ?_
      revert hf; refine ab_bdI (fun h32 mh32 hf => ?_)
      refine xr_putN A xc_X15 in_X15 tyX15_ok nmX15 2 (Nat.le_of_ble_eq_true rfl) n1462 rfl rfl (v := vI (v31 + (1 : Int32))) rfl rfl mh32 dX5_readKitchen_87 ?_
      exact xr_return A hf dX5_readKitchen_90
    · replace hf := ab_ip c41 hf
      exact xr_return A hf dX5_readKitchen_44
/-! X5_readFlood -/
theorem bX5_readFlood : MB yX5_readFlood cX5_readFlood 3 (none : Option FieldType) 0 := ⟨q1690, q99, by decide, by decide +kernel⟩
noncomputable def fX5_readFlood_b16 (x : Nat) (h : Hp) : Option Hp :=
  ab_bd (fX5_goesOn x h) fun h2 =>
  ab_b2 (fX5_readWhole x (0 : Int32) (98 : Int32) h2) fun v5 h4 =>
  ab_b2 (fX5_readPart x (some (hstr h4 15)) (1 : Int32) (60 : Int32) h4) fun v8 h7 =>
  ab_bd (ab_gI h7 x 4 9) fun v9 =>
  if v9 = (5 : Int32) then (
    some h7)
  else (
    ab_bd (ab_gR h7 x 4 4) fun v10 =>
    ab_bd v10 fun a11 =>
    ab_bd (ab_gR h7 a11 13 16) fun v12 =>
    ab_bd (ab_gR h7 x 4 4) fun v13 =>
    ab_bd v13 fun a14 =>
    ab_bd (ab_gI h7 a14 13 7) fun v15 =>
    ab_bd v12 fun a16 =>
    ab_bd (ab_sI h7 a16 v15 v5) fun h17 =>
    ab_bd (ab_gR h17 x 4 4) fun v18 =>
    ab_bd v18 fun a19 =>
    ab_bd (ab_gR h17 a19 13 17) fun v20 =>
    ab_bd (ab_gR h17 x 4 4) fun v21 =>
    ab_bd v21 fun a22 =>
    ab_bd (ab_gI h17 a22 13 7) fun v23 =>
    ab_bd v20 fun a24 =>
    ab_bd (ab_sI h17 a24 v23 v8) fun h25 =>
    ab_bd (ab_gR h25 x 4 4) fun v26 =>
    ab_bd v26 fun a27 =>
    ab_bd (ab_gI h25 a27 13 7) fun v28 =>
    ab_bd (ab_pI h25 a27 13 7 (v28 + (1 : Int32))) fun h29 =>
    some h29)
theorem wX5_readFlood_b16 {D : Dd} {C : Cx} {h0 h' : Hp} (A : Act C D (h0, (.inl none), h') yX5_readFlood cX5_readFlood 3 (none : Option FieldType) 9 193 []) {x : Nat} {h : Hp} (hf : fX5_readFlood_b16 x h = some h') : X C D (h0, (.inl none), h') 3 16 [(0, vR (some x))] [] h := by
  unfold fX5_readFlood_b16 at hf
  refine xr_aload_n A dX5_readFlood_16 0 rfl rfl ?_
  revert hf; refine ab_bdI (fun h2 m1 hf => ?_)
  refine xr_V0 A bX5_goesOn (wX5_goesOn D m1).2 xc_X5 (wX5_goesOn D m1).1 q1604 qs45 q1602 (av := []) (rest := []) rfl dX5_readFlood_17 (Nat.le_of_ble_eq_true rfl) (Nat.le_of_ble_eq_true rfl) rfl (Nat.le_of_ble_eq_true rfl) ?_
  refine xr_aload_n A dX5_readFlood_20 0 rfl rfl ?_
  refine xr_iconst A (v := 0) dX5_readFlood_21 (by decide) ?_
  refine xr_bipush A (v := 98) dX5_readFlood_22 (by decide) ?_
  revert hf; refine ab_b2I (fun v5 h4 m3 hf => ?_)
  refine xr_V A bX5_readWhole (wX5_readWhole D m3).2 xc_X5 (wX5_readWhole D m3).1 q1654 qs54 q1652 (av := [vI (0 : Int32), vI (98 : Int32)]) (rest := []) rfl dX5_readFlood_24 (Nat.le_of_ble_eq_true rfl) (Nat.le_of_ble_eq_true rfl) rfl (Nat.le_of_ble_eq_true rfl) ?_
  refine xr_istore_n A dX5_readFlood_27 rfl (Nat.le_of_ble_eq_true rfl) (L' := [(1, vI v5), (0, vR (some x))]) rfl ?_
  refine xr_aload_n A dX5_readFlood_28 1 rfl rfl ?_
  refine xr_ldcsw A t1691 dX5_readFlood_29 ?_
  refine xr_iconst A (v := 1) dX5_readFlood_32 (by decide) ?_
  refine xr_bipush A (v := 60) dX5_readFlood_33 (by decide) ?_
  revert hf; refine ab_b2I (fun v8 h7 m6 hf => ?_)
  refine xr_V A bX5_readPart (wX5_readPart D m6).2 xc_X5 (wX5_readPart D m6).1 q1646 qs52 q1644 (av := [vR (some (hstr h4 15)), vI (1 : Int32), vI (60 : Int32)]) (rest := []) rfl dX5_readFlood_35 (Nat.le_of_ble_eq_true rfl) (Nat.le_of_ble_eq_true rfl) rfl (Nat.le_of_ble_eq_true rfl) ?_
  refine xr_istore_n A dX5_readFlood_38 rfl (Nat.le_of_ble_eq_true rfl) (L' := [(2, vI v8), (1, vI v5), (0, vR (some x))]) rfl ?_
  refine xr_aload_n A dX5_readFlood_39 2 rfl rfl ?_
  revert hf; refine ab_bdI (fun v9 mv9 hf => ?_)
  refine xr_get A xc_X5 in_X5 9 (Nat.le_of_ble_eq_true rfl) q1307 rfl (ab_gIE mv9) dX5_readFlood_40 ?_
  refine xr_iconst A (v := 5) dX5_readFlood_43 (by decide) ?_
  refine xr_icmp_ne A (tgt := 48) dX5_readFlood_44 (by decide) (fun c44 => ?_) (fun c44 => ?_)
  · replace hf := ab_in c44 hf
    refine xr_aload_n A dX5_readFlood_48 2 rfl rfl ?_
    revert hf; refine ab_bdI (fun v10 mv10 hf => ?_)
    refine xr_get A xc_X5 in_X5 4 (Nat.le_of_ble_eq_true rfl) q1302 rfl (ab_gRE mv10) dX5_readFlood_49 ?_
    revert hf; refine ab_bdI (fun a11 e hf => ?_); subst e
    revert hf; refine ab_bdI (fun v12 mv12 hf => ?_)
    refine xr_getN A xc_X15 in_X15 16 (Nat.le_of_ble_eq_true rfl) n1484 rfl (ab_gRE mv12) dX5_readFlood_52 ?_
    refine xr_aload_n A dX5_readFlood_55 2 rfl rfl ?_
    revert hf; refine ab_bdI (fun v13 mv13 hf => ?_)
    refine xr_get A xc_X5 in_X5 4 (Nat.le_of_ble_eq_true rfl) q1302 rfl (ab_gRE mv13) dX5_readFlood_56 ?_
    revert hf; refine ab_bdI (fun a14 e hf => ?_); subst e
    revert hf; refine ab_bdI (fun v15 mv15 hf => ?_)
    refine xr_getN A xc_X15 in_X15 7 (Nat.le_of_ble_eq_true rfl) n1468 rfl (ab_gIE mv15) dX5_readFlood_59 ?_
    refine xr_iload_n A dX5_readFlood_62 1 rfl rfl ?_
    revert hf; refine ab_bdI (fun a16 e hf => ?_); subst e
    revert hf; refine ab_bdI (fun h17 mh17 hf => ?_)
    refine xr_iastore A mh17 dX5_readFlood_63 ?_
    refine xr_aload_n A dX5_readFlood_64 2 rfl rfl ?_
    revert hf; refine ab_bdI (fun v18 mv18 hf => ?_)
    refine xr_get A xc_X5 in_X5 4 (Nat.le_of_ble_eq_true rfl) q1302 rfl (ab_gRE mv18) dX5_readFlood_65 ?_
    revert hf; refine ab_bdI (fun a19 e hf => ?_); subst e
    revert hf; refine ab_bdI (fun v20 mv20 hf => ?_)
    refine xr_getN A xc_X15 in_X15 17 (Nat.le_of_ble_eq_true rfl) n1486 rfl (ab_gRE mv20) dX5_readFlood_68 ?_
    refine xr_aload_n A dX5_readFlood_71 2 rfl rfl ?_
    revert hf; refine ab_bdI (fun v21 mv21 hf => ?_)
    refine xr_get A xc_X5 in_X5 4 (Nat.le_of_ble_eq_true rfl) q1302 rfl (ab_gRE mv21) dX5_readFlood_72 ?_
    revert hf; refine ab_bdI (fun a22 e hf => ?_); subst e
    revert hf; refine ab_bdI (fun v23 mv23 hf => ?_)
    refine xr_getN A xc_X15 in_X15 7 (Nat.le_of_ble_eq_true rfl) n1468 rfl (ab_gIE mv23) dX5_readFlood_75 ?_
    refine xr_iload_n A dX5_readFlood_78 0 rfl rfl ?_
    revert hf; refine ab_bdI (fun a24 e hf => ?_); subst e
    revert hf; refine ab_bdI (fun h25 mh25 hf => ?_)
    refine xr_iastore A mh25 dX5_readFlood_79 ?_
    refine xr_aload_n A dX5_readFlood_80 2 rfl rfl ?_
    revert hf; refine ab_bdI (fun v26 mv26 hf => ?_)
    refine xr_get A xc_X5 in_X5 4 (Nat.le_of_ble_eq_true rfl) q1302 rfl (ab_gRE mv26) dX5_readFlood_81 ?_
    refine xr_dup A dX5_readFlood_84 rfl ?_
    revert hf; refine ab_bdI (fun a27 e hf => ?_); subst e
    revert hf; refine ab_bdI (fun v28 mv28 hf => ?_)
    refine xr_getN A xc_X15 in_X15 7 (Nat.le_of_ble_eq_true rfl) n1468 rfl (ab_gIE mv28) dX5_readFlood_85 ?_
    refine xr_iconst A (v := 1) dX5_readFlood_88 (by decide) ?_
    refine xr_iadd A dX5_readFlood_89 ?_
    revert hf; refine ab_bdI (fun h29 mh29 hf => ?_)
    refine xr_putN A xc_X15 in_X15 tyX15_ok nmX15 7 (Nat.le_of_ble_eq_true rfl) n1468 rfl rfl (v := vI (v28 + (1 : Int32))) rfl rfl mh29 dX5_readFlood_90 ?_
    exact xr_return A hf dX5_readFlood_93
  · replace hf := ab_ip c44 hf
    exact xr_return A hf dX5_readFlood_47
noncomputable def fX5_readFlood (x : Nat) (h : Hp) : Option Hp :=
  ab_ck h x 4 <|
  ab_bd (ab_gR h x 4 4) fun v1 =>
  ab_bd v1 fun a2 =>
  ab_bd (ab_gI h a2 13 7) fun v3 =>
  if v3 = (3 : Int32) then (
    ab_bd (fX5_wrong x (5 : Int32) h) fun h5 =>
    fX5_readFlood_b16 x  h5)
  else (
    fX5_readFlood_b16 x  h)
theorem wX5_readFlood (D : Dd) {x : Nat} {h : Hp} {h' : Hp} (hf : fX5_readFlood x h = some h') : ab_is h x 4 ∧ Ct D 9 193 yX5_readFlood cX5_readFlood 3 (none : Option FieldType) [vR (some x)] h (.inl none) h' := by
    unfold fX5_readFlood at hf
    replace hf := ab_ckE hf; obtain ⟨i0, hf⟩ := hf
    refine ⟨i0, ?_⟩
    refine Ct.of (by decide) (L := [(0, vR (some x))]) rfl (Nat.le_of_ble_eq_true rfl) (fun C A => ?_)
    refine xr_aload_n A dX5_readFlood_0 0 rfl rfl ?_
    revert hf; refine ab_bdI (fun v1 mv1 hf => ?_)
    refine xr_get A xc_X5 in_X5 4 (Nat.le_of_ble_eq_true rfl) q1302 rfl (ab_gRE mv1) dX5_readFlood_1 ?_
    revert hf; refine ab_bdI (fun a2 e hf => ?_); subst e
    revert hf; refine ab_bdI (fun v3 mv3 hf => ?_)
    refine xr_getN A xc_X15 in_X15 7 (Nat.le_of_ble_eq_true rfl) n1468 rfl (ab_gIE mv3) dX5_readFlood_4 ?_
    refine xr_iconst A (v := 3) dX5_readFlood_7 (by decide) ?_
    refine xr_icmp_ne A (tgt := 16) dX5_readFlood_8 (by decide) (fun c8 => ?_) (fun c8 => ?_)
    · replace hf := ab_in c8 hf
      exact wX5_readFlood_b16 A hf
    · replace hf := ab_ip c8 hf
      refine xr_aload_n A dX5_readFlood_11 0 rfl rfl ?_
      refine xr_iconst A (v := 5) dX5_readFlood_12 (by decide) ?_
      revert hf; refine ab_bdI (fun h5 m4 hf => ?_)
      refine xr_V0 A bX5_wrong (wX5_wrong D m4).2 xc_X5 (wX5_wrong D m4).1 q1641 qs51 q1639 (av := [vI (5 : Int32)]) (rest := []) rfl dX5_readFlood_13 (Nat.le_of_ble_eq_true rfl) (Nat.le_of_ble_eq_true rfl) rfl (Nat.le_of_ble_eq_true rfl) ?_
      exact wX5_readFlood_b16 A hf
/-! X5_readLetters -/
theorem bX5_readLetters : MB yX5_readLetters cX5_readLetters 2 (some FieldType.int) 0 := ⟨q1700, q99, by decide, by decide +kernel⟩
noncomputable def fX5_readLetters (x : Nat) (h : Hp) : Option (Int32 × Hp) :=
  ab_ck h x 4 <|
  ab_bd (ab_gI h x 4 9) fun v1 =>
  if v1 = (2 : Int32) then (
    ab_bd (ab_gI h x 4 15) fun v2 =>
    ab_bd (fX5_goesOn x h) fun h4 =>
    some (v2, h4))
  else (
    ab_bd (fX5_wrong x (1 : Int32) h) fun h6 =>
    ab_bd (ab_gI h6 x 4 15) fun v7 =>
    ab_bd (fX5_goesOn x h6) fun h9 =>
    some (v7, h9))
theorem wX5_readLetters (D : Dd) {x : Nat} {h : Hp} {r : Int32} {h' : Hp} (hf : fX5_readLetters x h = some (r, h')) : ab_is h x 4 ∧ Ct D 3 63 yX5_readLetters cX5_readLetters 2 (some FieldType.int) [vR (some x)] h (.inl (some (vI r))) h' := by
    unfold fX5_readLetters at hf
    replace hf := ab_ckE hf; obtain ⟨i0, hf⟩ := hf
    refine ⟨i0, ?_⟩
    refine Ct.of (by decide) (L := [(0, vR (some x))]) rfl (Nat.le_of_ble_eq_true rfl) (fun C A => ?_)
    refine xr_aload_n A dX5_readLetters_0 0 rfl rfl ?_
    revert hf; refine ab_bdI (fun v1 mv1 hf => ?_)
    refine xr_get A xc_X5 in_X5 9 (Nat.le_of_ble_eq_true rfl) q1307 rfl (ab_gIE mv1) dX5_readLetters_1 ?_
    refine xr_iconst A (v := 2) dX5_readLetters_4 (by decide) ?_
    refine xr_icmp_eq A (tgt := 13) dX5_readLetters_5 (by decide) (fun c5 => ?_) (fun c5 => ?_)
    · replace hf := ab_ip c5 hf
      refine xr_aload_n A dX5_readLetters_13 0 rfl rfl ?_
      revert hf; refine ab_bdI (fun v2 mv2 hf => ?_)
      refine xr_get A xc_X5 in_X5 15 (Nat.le_of_ble_eq_true rfl) q1313 rfl (ab_gIE mv2) dX5_readLetters_14 ?_
      refine xr_istore_n A dX5_readLetters_17 rfl (Nat.le_of_ble_eq_true rfl) (L' := [(1, vI v2), (0, vR (some x))]) rfl ?_
      refine xr_aload_n A dX5_readLetters_18 1 rfl rfl ?_
      revert hf; refine ab_bdI (fun h4 m3 hf => ?_)
      refine xr_V0 A bX5_goesOn (wX5_goesOn D m3).2 xc_X5 (wX5_goesOn D m3).1 q1604 qs45 q1602 (av := []) (rest := []) rfl dX5_readLetters_19 (Nat.le_of_ble_eq_true rfl) (Nat.le_of_ble_eq_true rfl) rfl (Nat.le_of_ble_eq_true rfl) ?_
      refine xr_iload_n A dX5_readLetters_22 0 rfl rfl ?_
      exact xr_ireturn A rfl hf dX5_readLetters_23
    · replace hf := ab_in c5 hf
      refine xr_aload_n A dX5_readLetters_8 0 rfl rfl ?_
      refine xr_iconst A (v := 1) dX5_readLetters_9 (by decide) ?_
      revert hf; refine ab_bdI (fun h6 m5 hf => ?_)
      refine xr_V0 A bX5_wrong (wX5_wrong D m5).2 xc_X5 (wX5_wrong D m5).1 q1641 qs51 q1639 (av := [vI (1 : Int32)]) (rest := []) rfl dX5_readLetters_10 (Nat.le_of_ble_eq_true rfl) (Nat.le_of_ble_eq_true rfl) rfl (Nat.le_of_ble_eq_true rfl) ?_
      refine xr_aload_n A dX5_readLetters_13 0 rfl rfl ?_
      revert hf; refine ab_bdI (fun v7 mv7 hf => ?_)
      refine xr_get A xc_X5 in_X5 15 (Nat.le_of_ble_eq_true rfl) q1313 rfl (ab_gIE mv7) dX5_readLetters_14 ?_
      refine xr_istore_n A dX5_readLetters_17 rfl (Nat.le_of_ble_eq_true rfl) (L' := [(1, vI v7), (0, vR (some x))]) rfl ?_
      refine xr_aload_n A dX5_readLetters_18 1 rfl rfl ?_
      revert hf; refine ab_bdI (fun h9 m8 hf => ?_)
      refine xr_V0 A bX5_goesOn (wX5_goesOn D m8).2 xc_X5 (wX5_goesOn D m8).1 q1604 qs45 q1602 (av := []) (rest := []) rfl dX5_readLetters_19 (Nat.le_of_ble_eq_true rfl) (Nat.le_of_ble_eq_true rfl) rfl (Nat.le_of_ble_eq_true rfl) ?_
      refine xr_iload_n A dX5_readLetters_22 0 rfl rfl ?_
      exact xr_ireturn A rfl hf dX5_readLetters_23
/-! X5_readDish -/
theorem bX5_readDish : MB yX5_readDish cX5_readDish 3 (none : Option FieldType) 0 := ⟨q1695, q99, by decide, by decide +kernel⟩
noncomputable def fX5_readDish (x : Nat) (h : Hp) : Option Hp :=
  ab_ck h x 4 <|
  ab_bd (ab_gR h x 4 4) fun v1 =>
  ab_bd v1 fun a2 =>
  ab_bd (ab_gI h a2 13 3) fun v3 =>
  ab_bd (fX5_readNamed x v3 (6 : Int32) (1 : Int32) h) fun h5 =>
  ab_bd (fX5_needs x (some (hstr h5 16)) h5) fun h7 =>
  ab_b2 (fX5_readLetters x h7) fun v10 h9 =>
  ab_b2 (fX5_readPart x (some (hstr h9 17)) (1 : Int32) (99 : Int32) h9) fun v13 h12 =>
  ab_bd (ab_gI h12 x 4 9) fun v14 =>
  if v14 = (5 : Int32) then (
    some h12)
  else (
    ab_bd (ab_gR h12 x 4 4) fun v15 =>
    ab_bd v15 fun a16 =>
    ab_bd (ab_gR h12 a16 13 13) fun v17 =>
    ab_bd (ab_gR h12 x 4 4) fun v18 =>
    ab_bd v18 fun a19 =>
    ab_bd (ab_gI h12 a19 13 3) fun v20 =>
    ab_bd v17 fun a21 =>
    ab_bd (ab_sI h12 a21 v20 v10) fun h22 =>
    ab_bd (ab_gR h22 x 4 4) fun v23 =>
    ab_bd v23 fun a24 =>
    ab_bd (ab_gR h22 a24 13 14) fun v25 =>
    ab_bd (ab_gR h22 x 4 4) fun v26 =>
    ab_bd v26 fun a27 =>
    ab_bd (ab_gI h22 a27 13 3) fun v28 =>
    ab_bd v25 fun a29 =>
    ab_bd (ab_sI h22 a29 v28 v13) fun h30 =>
    ab_bd (ab_gR h30 x 4 4) fun v31 =>
    ab_bd v31 fun a32 =>
    ab_bd (ab_gI h30 a32 13 3) fun v33 =>
    ab_bd (ab_pI h30 a32 13 3 (v33 + (1 : Int32))) fun h34 =>
    some h34)
theorem wX5_readDish (D : Dd) {x : Nat} {h : Hp} {h' : Hp} (hf : fX5_readDish x h = some h') : ab_is h x 4 ∧ Ct D 9 193 yX5_readDish cX5_readDish 3 (none : Option FieldType) [vR (some x)] h (.inl none) h' := by
    unfold fX5_readDish at hf
    replace hf := ab_ckE hf; obtain ⟨i0, hf⟩ := hf
    refine ⟨i0, ?_⟩
    refine Ct.of (by decide) (L := [(0, vR (some x))]) rfl (Nat.le_of_ble_eq_true rfl) (fun C A => ?_)
    refine xr_aload_n A dX5_readDish_0 0 rfl rfl ?_
    refine xr_aload_n A dX5_readDish_1 0 rfl rfl ?_
    revert hf; refine ab_bdI (fun v1 mv1 hf => ?_)
    refine xr_get A xc_X5 in_X5 4 (Nat.le_of_ble_eq_true rfl) q1302 rfl (ab_gRE mv1) dX5_readDish_2 ?_
    revert hf; refine ab_bdI (fun a2 e hf => ?_); subst e
    revert hf; refine ab_bdI (fun v3 mv3 hf => ?_)
    refine xr_getN A xc_X15 in_X15 3 (Nat.le_of_ble_eq_true rfl) n1463 rfl (ab_gIE mv3) dX5_readDish_5 ?_
    refine xr_bipush A (v := 6) dX5_readDish_8 (by decide) ?_
    refine xr_iconst A (v := 1) dX5_readDish_10 (by decide) ?_
    revert hf; refine ab_bdI (fun h5 m4 hf => ?_)
    refine xr_V0 A bX5_readNamed (wX5_readNamed D m4).2 xc_X5 (wX5_readNamed D m4).1 q1667 qs56 q1665 (av := [vI v3, vI (6 : Int32), vI (1 : Int32)]) (rest := []) rfl dX5_readDish_11 (Nat.le_of_ble_eq_true rfl) (Nat.le_of_ble_eq_true rfl) rfl (Nat.le_of_ble_eq_true rfl) ?_
    refine xr_aload_n A dX5_readDish_14 0 rfl rfl ?_
    refine xr_ldcsw A t1696 dX5_readDish_15 ?_
    revert hf; refine ab_bdI (fun h7 m6 hf => ?_)
    refine xr_V0 A bX5_needs (wX5_needs D m6).2 xc_X5 (wX5_needs D m6).1 q1650 qs53 q1648 (av := [vR (some (hstr h5 16))]) (rest := []) rfl dX5_readDish_18 (Nat.le_of_ble_eq_true rfl) (Nat.le_of_ble_eq_true rfl) rfl (Nat.le_of_ble_eq_true rfl) ?_
    refine xr_aload_n A dX5_readDish_21 0 rfl rfl ?_
    revert hf; refine ab_b2I (fun v10 h9 m8 hf => ?_)
    refine xr_V A bX5_readLetters (wX5_readLetters D m8).2 xc_X5 (wX5_readLetters D m8).1 q1699 qs60 q1697 (av := []) (rest := []) rfl dX5_readDish_22 (Nat.le_of_ble_eq_true rfl) (Nat.le_of_ble_eq_true rfl) rfl (Nat.le_of_ble_eq_true rfl) ?_
    refine xr_istore_n A dX5_readDish_25 rfl (Nat.le_of_ble_eq_true rfl) (L' := [(1, vI v10), (0, vR (some x))]) rfl ?_
    refine xr_aload_n A dX5_readDish_26 1 rfl rfl ?_
    refine xr_ldcsw A t1701 dX5_readDish_27 ?_
    refine xr_iconst A (v := 1) dX5_readDish_30 (by decide) ?_
    refine xr_bipush A (v := 99) dX5_readDish_31 (by decide) ?_
    revert hf; refine ab_b2I (fun v13 h12 m11 hf => ?_)
    refine xr_V A bX5_readPart (wX5_readPart D m11).2 xc_X5 (wX5_readPart D m11).1 q1646 qs52 q1644 (av := [vR (some (hstr h9 17)), vI (1 : Int32), vI (99 : Int32)]) (rest := []) rfl dX5_readDish_33 (Nat.le_of_ble_eq_true rfl) (Nat.le_of_ble_eq_true rfl) rfl (Nat.le_of_ble_eq_true rfl) ?_
    refine xr_istore_n A dX5_readDish_36 rfl (Nat.le_of_ble_eq_true rfl) (L' := [(2, vI v13), (1, vI v10), (0, vR (some x))]) rfl ?_
    refine xr_aload_n A dX5_readDish_37 2 rfl rfl ?_
    revert hf; refine ab_bdI (fun v14 mv14 hf => ?_)
    refine xr_get A xc_X5 in_X5 9 (Nat.le_of_ble_eq_true rfl) q1307 rfl (ab_gIE mv14) dX5_readDish_38 ?_
    refine xr_iconst A (v := 5) dX5_readDish_41 (by decide) ?_
    refine xr_icmp_ne A (tgt := 46) dX5_readDish_42 (by decide) (fun c42 => ?_) (fun c42 => ?_)
    · replace hf := ab_in c42 hf
      refine xr_aload_n A dX5_readDish_46 2 rfl rfl ?_
      revert hf; refine ab_bdI (fun v15 mv15 hf => ?_)
      refine xr_get A xc_X5 in_X5 4 (Nat.le_of_ble_eq_true rfl) q1302 rfl (ab_gRE mv15) dX5_readDish_47 ?_
      revert hf; refine ab_bdI (fun a16 e hf => ?_); subst e
      revert hf; refine ab_bdI (fun v17 mv17 hf => ?_)
      refine xr_getN A xc_X15 in_X15 13 (Nat.le_of_ble_eq_true rfl) n1478 rfl (ab_gRE mv17) dX5_readDish_50 ?_
      refine xr_aload_n A dX5_readDish_53 2 rfl rfl ?_
      revert hf; refine ab_bdI (fun v18 mv18 hf => ?_)
      refine xr_get A xc_X5 in_X5 4 (Nat.le_of_ble_eq_true rfl) q1302 rfl (ab_gRE mv18) dX5_readDish_54 ?_
      revert hf; refine ab_bdI (fun a19 e hf => ?_); subst e
      revert hf; refine ab_bdI (fun v20 mv20 hf => ?_)
      refine xr_getN A xc_X15 in_X15 3 (Nat.le_of_ble_eq_true rfl) n1463 rfl (ab_gIE mv20) dX5_readDish_57 ?_
      refine xr_iload_n A dX5_readDish_60 1 rfl rfl ?_
      revert hf; refine ab_bdI (fun a21 e hf => ?_); subst e
      revert hf; refine ab_bdI (fun h22 mh22 hf => ?_)
      refine xr_iastore A mh22 dX5_readDish_61 ?_
      refine xr_aload_n A dX5_readDish_62 2 rfl rfl ?_
      revert hf; refine ab_bdI (fun v23 mv23 hf => ?_)
      refine xr_get A xc_X5 in_X5 4 (Nat.le_of_ble_eq_true rfl) q1302 rfl (ab_gRE mv23) dX5_readDish_63 ?_
      revert hf; refine ab_bdI (fun a24 e hf => ?_); subst e
      revert hf; refine ab_bdI (fun v25 mv25 hf => ?_)
      refine xr_getN A xc_X15 in_X15 14 (Nat.le_of_ble_eq_true rfl) n1480 rfl (ab_gRE mv25) dX5_readDish_66 ?_
      refine xr_aload_n A dX5_readDish_69 2 rfl rfl ?_
      revert hf; refine ab_bdI (fun v26 mv26 hf => ?_)
      refine xr_get A xc_X5 in_X5 4 (Nat.le_of_ble_eq_true rfl) q1302 rfl (ab_gRE mv26) dX5_readDish_70 ?_
      revert hf; refine ab_bdI (fun a27 e hf => ?_); subst e
      revert hf; refine ab_bdI (fun v28 mv28 hf => ?_)
      refine xr_getN A xc_X15 in_X15 3 (Nat.le_of_ble_eq_true rfl) n1463 rfl (ab_gIE mv28) dX5_readDish_73 ?_
      refine xr_iload_n A dX5_readDish_76 0 rfl rfl ?_
      revert hf; refine ab_bdI (fun a29 e hf => ?_); subst e
      revert hf; refine ab_bdI (fun h30 mh30 hf => ?_)
      refine xr_iastore A mh30 dX5_readDish_77 ?_
      refine xr_aload_n A dX5_readDish_78 2 rfl rfl ?_
      revert hf; refine ab_bdI (fun v31 mv31 hf => ?_)
      refine xr_get A xc_X5 in_X5 4 (Nat.le_of_ble_eq_true rfl) q1302 rfl (ab_gRE mv31) dX5_readDish_79 ?_
      refine xr_dup A dX5_readDish_82 rfl ?_
      revert hf; refine ab_bdI (fun a32 e hf => ?_); subst e
      revert hf; refine ab_bdI (fun v33 mv33 hf => ?_)
      refine xr_getN A xc_X15 in_X15 3 (Nat.le_of_ble_eq_true rfl) n1463 rfl (ab_gIE mv33) dX5_readDish_83 ?_
      refine xr_iconst A (v := 1) dX5_readDish_86 (by decide) ?_
      refine xr_iadd A dX5_readDish_87 ?_
      revert hf; refine ab_bdI (fun h34 mh34 hf => ?_)
      refine xr_putN A xc_X15 in_X15 tyX15_ok nmX15 3 (Nat.le_of_ble_eq_true rfl) n1463 rfl rfl (v := vI (v33 + (1 : Int32))) rfl rfl mh34 dX5_readDish_88 ?_
      exact xr_return A hf dX5_readDish_91
    · replace hf := ab_ip c42 hf
      exact xr_return A hf dX5_readDish_45
/-! X5_readDiet -/
theorem bX5_readDiet : MB yX5_readDiet cX5_readDiet 2 (none : Option FieldType) 0 := ⟨q1705, q99, by decide, by decide +kernel⟩
noncomputable def fX5_readDiet (x : Nat) (h : Hp) : Option Hp :=
  ab_ck h x 4 <|
  ab_bd (ab_gR h x 4 4) fun v1 =>
  ab_bd v1 fun a2 =>
  ab_bd (ab_gI h a2 13 4) fun v3 =>
  ab_bd (fX5_readNamed x v3 (4 : Int32) (2 : Int32) h) fun h5 =>
  ab_bd (fX5_needs x (some (hstr h5 18)) h5) fun h7 =>
  ab_b2 (fX5_readLetters x h7) fun v10 h9 =>
  ab_bd (ab_gI h9 x 4 9) fun v11 =>
  if v11 = (5 : Int32) then (
    some h9)
  else (
    ab_bd (ab_gR h9 x 4 4) fun v12 =>
    ab_bd v12 fun a13 =>
    ab_bd (ab_gR h9 a13 13 15) fun v14 =>
    ab_bd (ab_gR h9 x 4 4) fun v15 =>
    ab_bd v15 fun a16 =>
    ab_bd (ab_gI h9 a16 13 4) fun v17 =>
    ab_bd v14 fun a18 =>
    ab_bd (ab_sI h9 a18 v17 v10) fun h19 =>
    ab_bd (ab_gR h19 x 4 4) fun v20 =>
    ab_bd v20 fun a21 =>
    ab_bd (ab_gI h19 a21 13 4) fun v22 =>
    ab_bd (ab_pI h19 a21 13 4 (v22 + (1 : Int32))) fun h23 =>
    some h23)
theorem wX5_readDiet (D : Dd) {x : Nat} {h : Hp} {h' : Hp} (hf : fX5_readDiet x h = some h') : ab_is h x 4 ∧ Ct D 9 192 yX5_readDiet cX5_readDiet 2 (none : Option FieldType) [vR (some x)] h (.inl none) h' := by
    unfold fX5_readDiet at hf
    replace hf := ab_ckE hf; obtain ⟨i0, hf⟩ := hf
    refine ⟨i0, ?_⟩
    refine Ct.of (by decide) (L := [(0, vR (some x))]) rfl (Nat.le_of_ble_eq_true rfl) (fun C A => ?_)
    refine xr_aload_n A dX5_readDiet_0 0 rfl rfl ?_
    refine xr_aload_n A dX5_readDiet_1 0 rfl rfl ?_
    revert hf; refine ab_bdI (fun v1 mv1 hf => ?_)
    refine xr_get A xc_X5 in_X5 4 (Nat.le_of_ble_eq_true rfl) q1302 rfl (ab_gRE mv1) dX5_readDiet_2 ?_
    revert hf; refine ab_bdI (fun a2 e hf => ?_); subst e
    revert hf; refine ab_bdI (fun v3 mv3 hf => ?_)
    refine xr_getN A xc_X15 in_X15 4 (Nat.le_of_ble_eq_true rfl) n1464 rfl (ab_gIE mv3) dX5_readDiet_5 ?_
    refine xr_iconst A (v := 4) dX5_readDiet_8 (by decide) ?_
    refine xr_iconst A (v := 2) dX5_readDiet_9 (by decide) ?_
    revert hf; refine ab_bdI (fun h5 m4 hf => ?_)
    refine xr_V0 A bX5_readNamed (wX5_readNamed D m4).2 xc_X5 (wX5_readNamed D m4).1 q1667 qs56 q1665 (av := [vI v3, vI (4 : Int32), vI (2 : Int32)]) (rest := []) rfl dX5_readDiet_10 (Nat.le_of_ble_eq_true rfl) (Nat.le_of_ble_eq_true rfl) rfl (Nat.le_of_ble_eq_true rfl) ?_
    refine xr_aload_n A dX5_readDiet_13 0 rfl rfl ?_
    refine xr_ldcsw A t1706 dX5_readDiet_14 ?_
    revert hf; refine ab_bdI (fun h7 m6 hf => ?_)
    refine xr_V0 A bX5_needs (wX5_needs D m6).2 xc_X5 (wX5_needs D m6).1 q1650 qs53 q1648 (av := [vR (some (hstr h5 18))]) (rest := []) rfl dX5_readDiet_17 (Nat.le_of_ble_eq_true rfl) (Nat.le_of_ble_eq_true rfl) rfl (Nat.le_of_ble_eq_true rfl) ?_
    refine xr_aload_n A dX5_readDiet_20 0 rfl rfl ?_
    revert hf; refine ab_b2I (fun v10 h9 m8 hf => ?_)
    refine xr_V A bX5_readLetters (wX5_readLetters D m8).2 xc_X5 (wX5_readLetters D m8).1 q1699 qs60 q1697 (av := []) (rest := []) rfl dX5_readDiet_21 (Nat.le_of_ble_eq_true rfl) (Nat.le_of_ble_eq_true rfl) rfl (Nat.le_of_ble_eq_true rfl) ?_
    refine xr_istore_n A dX5_readDiet_24 rfl (Nat.le_of_ble_eq_true rfl) (L' := [(1, vI v10), (0, vR (some x))]) rfl ?_
    refine xr_aload_n A dX5_readDiet_25 1 rfl rfl ?_
    revert hf; refine ab_bdI (fun v11 mv11 hf => ?_)
    refine xr_get A xc_X5 in_X5 9 (Nat.le_of_ble_eq_true rfl) q1307 rfl (ab_gIE mv11) dX5_readDiet_26 ?_
    refine xr_iconst A (v := 5) dX5_readDiet_29 (by decide) ?_
    refine xr_icmp_ne A (tgt := 34) dX5_readDiet_30 (by decide) (fun c30 => ?_) (fun c30 => ?_)
    · replace hf := ab_in c30 hf
      refine xr_aload_n A dX5_readDiet_34 1 rfl rfl ?_
      revert hf; refine ab_bdI (fun v12 mv12 hf => ?_)
      refine xr_get A xc_X5 in_X5 4 (Nat.le_of_ble_eq_true rfl) q1302 rfl (ab_gRE mv12) dX5_readDiet_35 ?_
      revert hf; refine ab_bdI (fun a13 e hf => ?_); subst e
      revert hf; refine ab_bdI (fun v14 mv14 hf => ?_)
      refine xr_getN A xc_X15 in_X15 15 (Nat.le_of_ble_eq_true rfl) n1482 rfl (ab_gRE mv14) dX5_readDiet_38 ?_
      refine xr_aload_n A dX5_readDiet_41 1 rfl rfl ?_
      revert hf; refine ab_bdI (fun v15 mv15 hf => ?_)
      refine xr_get A xc_X5 in_X5 4 (Nat.le_of_ble_eq_true rfl) q1302 rfl (ab_gRE mv15) dX5_readDiet_42 ?_
      revert hf; refine ab_bdI (fun a16 e hf => ?_); subst e
      revert hf; refine ab_bdI (fun v17 mv17 hf => ?_)
      refine xr_getN A xc_X15 in_X15 4 (Nat.le_of_ble_eq_true rfl) n1464 rfl (ab_gIE mv17) dX5_readDiet_45 ?_
      refine xr_iload_n A dX5_readDiet_48 0 rfl rfl ?_
      revert hf; refine ab_bdI (fun a18 e hf => ?_); subst e
      revert hf; refine ab_bdI (fun h19 mh19 hf => ?_)
      refine xr_iastore A mh19 dX5_readDiet_49 ?_
      refine xr_aload_n A dX5_readDiet_50 1 rfl rfl ?_
      revert hf; refine ab_bdI (fun v20 mv20 hf => ?_)
      refine xr_get A xc_X5 in_X5 4 (Nat.le_of_ble_eq_true rfl) q1302 rfl (ab_gRE mv20) dX5_readDiet_51 ?_
      refine xr_dup A dX5_readDiet_54 rfl ?_
      revert hf; refine ab_bdI (fun a21 e hf => ?_); subst e
      revert hf; refine ab_bdI (fun v22 mv22 hf => ?_)
      refine xr_getN A xc_X15 in_X15 4 (Nat.le_of_ble_eq_true rfl) n1464 rfl (ab_gIE mv22) dX5_readDiet_55 ?_
      refine xr_iconst A (v := 1) dX5_readDiet_58 (by decide) ?_
      refine xr_iadd A dX5_readDiet_59 ?_
      revert hf; refine ab_bdI (fun h23 mh23 hf => ?_)
      refine xr_putN A xc_X15 in_X15 tyX15_ok nmX15 4 (Nat.le_of_ble_eq_true rfl) n1464 rfl rfl (v := vI (v22 + (1 : Int32))) rfl rfl mh23 dX5_readDiet_60 ?_
      exact xr_return A hf dX5_readDiet_63
    · replace hf := ab_ip c30 hf
      exact xr_return A hf dX5_readDiet_33
/-! X5_readKnown -/
theorem bX5_readKnown : MB yX5_readKnown cX5_readKnown 4 (some FieldType.int) 1 := ⟨q1715, q99, by decide, by decide +kernel⟩
noncomputable def fX5_readKnown_b47 (x : Nat) (l2 : Int32) (h : Hp) : Option (Int32 × Hp) :=
  ab_bd (ab_gI h x 4 9) fun v1 =>
  if v1 = (5 : Int32) then (
    ab_bd (fX5_goesOn x h) fun h10 =>
    some ((0 : Int32), h10))
  else (
    ab_bd (ab_gR h x 4 4) fun v2 =>
    ab_bd v2 fun a3 =>
    ab_bd (ab_gR h a3 13 36) fun v4 =>
    ab_bd v4 fun a5 =>
    ab_bd (ab_aI h a5 0 l2) fun v6 =>
    ab_bd (fX5_goesOn x h) fun h8 =>
    some (v6, h8))
theorem wX5_readKnown_b47 {D : Dd} {C : Cx} {h0 h' : Hp} {r : Int32} (A : Act C D (h0, (.inl (some (vI r))), h') yX5_readKnown cX5_readKnown 4 (some FieldType.int) 8 169 []) {x : Nat} {l2 : Int32} {h : Hp} (hf : fX5_readKnown_b47 x l2 h = some (r, h')) : X C D (h0, (.inl (some (vI r))), h') 4 47 [(0, vR (some x)), (2, vI l2)] [] h := by
  unfold fX5_readKnown_b47 at hf
  refine xr_aload_n A dX5_readKnown_47 0 rfl rfl ?_
  revert hf; refine ab_bdI (fun v1 mv1 hf => ?_)
  refine xr_get A xc_X5 in_X5 9 (Nat.le_of_ble_eq_true rfl) q1307 rfl (ab_gIE mv1) dX5_readKnown_48 ?_
  refine xr_iconst A (v := 5) dX5_readKnown_51 (by decide) ?_
  refine xr_icmp_ne A (tgt := 59) dX5_readKnown_52 (by decide) (fun c52 => ?_) (fun c52 => ?_)
  · replace hf := ab_in c52 hf
    refine xr_aload_n A dX5_readKnown_59 0 rfl rfl ?_
    revert hf; refine ab_bdI (fun v2 mv2 hf => ?_)
    refine xr_get A xc_X5 in_X5 4 (Nat.le_of_ble_eq_true rfl) q1302 rfl (ab_gRE mv2) dX5_readKnown_60 ?_
    revert hf; refine ab_bdI (fun a3 e hf => ?_); subst e
    revert hf; refine ab_bdI (fun v4 mv4 hf => ?_)
    refine xr_getN A xc_X15 in_X15 36 (Nat.le_of_ble_eq_true rfl) n1524 rfl (ab_gRE mv4) dX5_readKnown_63 ?_
    refine xr_iload_n A dX5_readKnown_66 1 rfl rfl ?_
    revert hf; refine ab_bdI (fun a5 e hf => ?_); subst e
    revert hf; refine ab_bdI (fun v6 mv6 hf => ?_)
    refine xr_iaload A mv6 dX5_readKnown_67 ?_
    refine xr_istore_n A dX5_readKnown_68 rfl (Nat.le_of_ble_eq_true rfl) (L' := [(3, vI v6), (0, vR (some x)), (2, vI l2)]) rfl ?_
    refine xr_aload_n A dX5_readKnown_69 1 rfl rfl ?_
    revert hf; refine ab_bdI (fun h8 m7 hf => ?_)
    refine xr_V0 A bX5_goesOn (wX5_goesOn D m7).2 xc_X5 (wX5_goesOn D m7).1 q1604 qs45 q1602 (av := []) (rest := []) rfl dX5_readKnown_70 (Nat.le_of_ble_eq_true rfl) (Nat.le_of_ble_eq_true rfl) rfl (Nat.le_of_ble_eq_true rfl) ?_
    refine xr_iload_n A dX5_readKnown_73 0 rfl rfl ?_
    exact xr_ireturn A rfl hf dX5_readKnown_74
  · replace hf := ab_ip c52 hf
    refine xr_iconst A (v := 0) dX5_readKnown_55 (by decide) ?_
    refine xr_goto A (tgt := 68) dX5_readKnown_56 (by decide) ?_
    refine xr_istore_n A dX5_readKnown_68 rfl (Nat.le_of_ble_eq_true rfl) (L' := [(3, vI (0 : Int32)), (0, vR (some x)), (2, vI l2)]) rfl ?_
    refine xr_aload_n A dX5_readKnown_69 1 rfl rfl ?_
    revert hf; refine ab_bdI (fun h10 m9 hf => ?_)
    refine xr_V0 A bX5_goesOn (wX5_goesOn D m9).2 xc_X5 (wX5_goesOn D m9).1 q1604 qs45 q1602 (av := []) (rest := []) rfl dX5_readKnown_70 (Nat.le_of_ble_eq_true rfl) (Nat.le_of_ble_eq_true rfl) rfl (Nat.le_of_ble_eq_true rfl) ?_
    refine xr_iload_n A dX5_readKnown_73 0 rfl rfl ?_
    exact xr_ireturn A rfl hf dX5_readKnown_74
noncomputable def fX5_readKnown_b12 (x : Nat) (l1 : Int32) (h : Hp) : Option (Int32 × Hp) :=
  ab_bd (ab_gR h x 4 4) fun v1 =>
  ab_bd (ab_gJ h x 4 16) fun v2 =>
  ab_bd v1 fun a3 =>
  ab_b2 (fX15_find a3 v2 h) fun v6 h5 =>
  if v6 = (-1 : Int32) then (
    ab_bd (fX5_wrong x (2 : Int32) h5) fun h8 =>
    fX5_readKnown_b47 x v6 h8)
  else (
    ab_bd (ab_gR h5 x 4 4) fun v9 =>
    ab_bd v9 fun a10 =>
    ab_bd (ab_gR h5 a10 13 35) fun v11 =>
    ab_bd v11 fun a12 =>
    ab_bd (ab_aI h5 a12 0 v6) fun v13 =>
    if v13 = l1 then (
      fX5_readKnown_b47 x v6 h5)
    else (
      ab_bd (fX5_wrong x (2 : Int32) h5) fun h15 =>
      fX5_readKnown_b47 x v6 h15))
theorem wX5_readKnown_b12 {D : Dd} {C : Cx} {h0 h' : Hp} {r : Int32} (A : Act C D (h0, (.inl (some (vI r))), h') yX5_readKnown cX5_readKnown 4 (some FieldType.int) 8 169 []) {x : Nat} {l1 : Int32} {h : Hp} (hf : fX5_readKnown_b12 x l1 h = some (r, h')) : X C D (h0, (.inl (some (vI r))), h') 4 12 [(0, vR (some x)), (1, vI l1)] [] h := by
  unfold fX5_readKnown_b12 at hf
  refine xr_aload_n A dX5_readKnown_12 0 rfl rfl ?_
  revert hf; refine ab_bdI (fun v1 mv1 hf => ?_)
  refine xr_get A xc_X5 in_X5 4 (Nat.le_of_ble_eq_true rfl) q1302 rfl (ab_gRE mv1) dX5_readKnown_13 ?_
  refine xr_aload_n A dX5_readKnown_16 0 rfl rfl ?_
  revert hf; refine ab_bdI (fun v2 mv2 hf => ?_)
  refine xr_get A xc_X5 in_X5 16 (Nat.le_of_ble_eq_true rfl) q1314 rfl (ab_gJE mv2) dX5_readKnown_17 ?_
  revert hf; refine ab_bdI (fun a3 e hf => ?_); subst e
  revert hf; refine ab_b2I (fun v6 h5 m4 hf => ?_)
  refine xr_V A bX15_find (wX15_find D m4).2 xc_X15 (wX15_find D m4).1 q1683 q1684 q1682 (av := [vL v2]) (rest := []) rfl dX5_readKnown_20 (Nat.le_of_ble_eq_true rfl) (Nat.le_of_ble_eq_true rfl) rfl (Nat.le_of_ble_eq_true rfl) ?_
  refine xr_istore_n A dX5_readKnown_23 rfl (Nat.le_of_ble_eq_true rfl) (L' := [(2, vI v6), (0, vR (some x)), (1, vI l1)]) rfl ?_
  refine xr_iload_n A dX5_readKnown_24 0 rfl rfl ?_
  refine xr_iconst A (v := (-1)) dX5_readKnown_25 (by decide) ?_
  refine xr_icmp_eq A (tgt := 42) dX5_readKnown_26 (by decide) (fun c26 => ?_) (fun c26 => ?_)
  · replace hf := ab_ip c26 hf
    refine xr_aload_n A dX5_readKnown_42 1 rfl rfl ?_
    refine xr_iconst A (v := 2) dX5_readKnown_43 (by decide) ?_
    revert hf; refine ab_bdI (fun h8 m7 hf => ?_)
    refine xr_V0 A bX5_wrong (wX5_wrong D m7).2 xc_X5 (wX5_wrong D m7).1 q1641 qs51 q1639 (av := [vI (2 : Int32)]) (rest := []) rfl dX5_readKnown_44 (Nat.le_of_ble_eq_true rfl) (Nat.le_of_ble_eq_true rfl) rfl (Nat.le_of_ble_eq_true rfl) ?_
    refine X.sub [1, 0] rfl ?_
    exact wX5_readKnown_b47 A hf
  · replace hf := ab_in c26 hf
    refine xr_aload_n A dX5_readKnown_29 1 rfl rfl ?_
    revert hf; refine ab_bdI (fun v9 mv9 hf => ?_)
    refine xr_get A xc_X5 in_X5 4 (Nat.le_of_ble_eq_true rfl) q1302 rfl (ab_gRE mv9) dX5_readKnown_30 ?_
    revert hf; refine ab_bdI (fun a10 e hf => ?_); subst e
    revert hf; refine ab_bdI (fun v11 mv11 hf => ?_)
    refine xr_getN A xc_X15 in_X15 35 (Nat.le_of_ble_eq_true rfl) n1522 rfl (ab_gRE mv11) dX5_readKnown_33 ?_
    refine xr_iload_n A dX5_readKnown_36 0 rfl rfl ?_
    revert hf; refine ab_bdI (fun a12 e hf => ?_); subst e
    revert hf; refine ab_bdI (fun v13 mv13 hf => ?_)
    refine xr_iaload A mv13 dX5_readKnown_37 ?_
    refine xr_iload_n A dX5_readKnown_38 2 rfl rfl ?_
    refine xr_icmp_eq A (tgt := 47) dX5_readKnown_39 (by decide) (fun c39 => ?_) (fun c39 => ?_)
    · replace hf := ab_ip c39 hf
      refine X.sub [1, 0] rfl ?_
      exact wX5_readKnown_b47 A hf
    · replace hf := ab_in c39 hf
      refine xr_aload_n A dX5_readKnown_42 1 rfl rfl ?_
      refine xr_iconst A (v := 2) dX5_readKnown_43 (by decide) ?_
      revert hf; refine ab_bdI (fun h15 m14 hf => ?_)
      refine xr_V0 A bX5_wrong (wX5_wrong D m14).2 xc_X5 (wX5_wrong D m14).1 q1641 qs51 q1639 (av := [vI (2 : Int32)]) (rest := []) rfl dX5_readKnown_44 (Nat.le_of_ble_eq_true rfl) (Nat.le_of_ble_eq_true rfl) rfl (Nat.le_of_ble_eq_true rfl) ?_
      refine X.sub [1, 0] rfl ?_
      exact wX5_readKnown_b47 A hf
noncomputable def fX5_readKnown (x : Nat) (p1 : Int32) (h : Hp) : Option (Int32 × Hp) :=
  ab_ck h x 4 <|
  ab_b2 (fX5_isName x h) fun v3 h2 =>
  if v3 = 0 then (
    ab_bd (fX5_wrong x (1 : Int32) h2) fun h5 =>
    fX5_readKnown_b12 x p1 h5)
  else (
    fX5_readKnown_b12 x p1 h2)
theorem wX5_readKnown (D : Dd) {x : Nat} {p1 : Int32} {h : Hp} {r : Int32} {h' : Hp} (hf : fX5_readKnown x p1 h = some (r, h')) : ab_is h x 4 ∧ Ct D 8 169 yX5_readKnown cX5_readKnown 4 (some FieldType.int) [vR (some x), vI p1] h (.inl (some (vI r))) h' := by
    unfold fX5_readKnown at hf
    replace hf := ab_ckE hf; obtain ⟨i0, hf⟩ := hf
    refine ⟨i0, ?_⟩
    refine Ct.of (by decide) (L := [(0, vR (some x)), (1, vI p1)]) rfl (Nat.le_of_ble_eq_true rfl) (fun C A => ?_)
    refine xr_aload_n A dX5_readKnown_0 0 rfl rfl ?_
    revert hf; refine ab_b2I (fun v3 h2 m1 hf => ?_)
    refine xr_V A bX5_isName (wX5_isName D m1).2 xc_X5 (wX5_isName D m1).1 q1671 qs57 q1669 (av := []) (rest := []) rfl dX5_readKnown_1 (Nat.le_of_ble_eq_true rfl) (Nat.le_of_ble_eq_true rfl) rfl (Nat.le_of_ble_eq_true rfl) ?_
    refine xr_if_ne A (tgt := 12) dX5_readKnown_4 (by decide) (fun c4 => ?_) (fun c4 => ?_)
    · replace hf := ab_in c4 hf
      exact wX5_readKnown_b12 A hf
    · replace hf := ab_ip c4 hf
      refine xr_aload_n A dX5_readKnown_7 0 rfl rfl ?_
      refine xr_iconst A (v := 1) dX5_readKnown_8 (by decide) ?_
      revert hf; refine ab_bdI (fun h5 m4 hf => ?_)
      refine xr_V0 A bX5_wrong (wX5_wrong D m4).2 xc_X5 (wX5_wrong D m4).1 q1641 qs51 q1639 (av := [vI (1 : Int32)]) (rest := []) rfl dX5_readKnown_9 (Nat.le_of_ble_eq_true rfl) (Nat.le_of_ble_eq_true rfl) rfl (Nat.le_of_ble_eq_true rfl) ?_
      exact wX5_readKnown_b12 A hf
/-! X5_eatsWord -/
theorem bX5_eatsWord : MB yX5_eatsWord cX5_eatsWord 3 (some FieldType.boolean) 1 := ⟨q1723, q99, by decide, by decide +kernel⟩
noncomputable def fX5_eatsWord (x : Nat) (p1 : Option Nat) (h : Hp) : Option (Int32 × Hp) :=
  ab_ck h x 4 <|
  ab_b2 (fX5_isWord x p1 h) fun v3 h2 =>
  if v3 = 0 then (
    ab_rq (v3 = 0 ∨ v3 = 1) <|
    some (v3, h2))
  else (
    ab_bd (fX5_goesOn x h2) fun h5 =>
    ab_rq (v3 = 0 ∨ v3 = 1) <|
    some (v3, h5))
theorem wX5_eatsWord (D : Dd) {x : Nat} {p1 : Option Nat} {h : Hp} {r : Int32} {h' : Hp} (hf : fX5_eatsWord x p1 h = some (r, h')) : ab_is h x 4 ∧ Ct D 7 149 yX5_eatsWord cX5_eatsWord 3 (some FieldType.boolean) [vR (some x), vR p1] h (.inl (some (vI r))) h' := by
    unfold fX5_eatsWord at hf
    replace hf := ab_ckE hf; obtain ⟨i0, hf⟩ := hf
    refine ⟨i0, ?_⟩
    refine Ct.of (by decide) (L := [(0, vR (some x)), (1, vR p1)]) rfl (Nat.le_of_ble_eq_true rfl) (fun C A => ?_)
    refine xr_aload_n A dX5_eatsWord_0 0 rfl rfl ?_
    refine xr_aload_n A dX5_eatsWord_1 1 rfl rfl ?_
    revert hf; refine ab_b2I (fun v3 h2 m1 hf => ?_)
    refine xr_V A bX5_isWord (wX5_isWord D m1).2 xc_X5 (wX5_isWord D m1).1 q1628 qs49 q1626 (av := [vR p1]) (rest := []) rfl dX5_eatsWord_2 (Nat.le_of_ble_eq_true rfl) (Nat.le_of_ble_eq_true rfl) rfl (Nat.le_of_ble_eq_true rfl) ?_
    refine xr_istore_n A dX5_eatsWord_5 rfl (Nat.le_of_ble_eq_true rfl) (L' := [(2, vI v3), (0, vR (some x)), (1, vR p1)]) rfl ?_
    refine xr_iload_n A dX5_eatsWord_6 0 rfl rfl ?_
    refine xr_if_eq A (tgt := 14) dX5_eatsWord_7 (by decide) (fun c7 => ?_) (fun c7 => ?_)
    · replace hf := ab_ip c7 hf
      refine xr_iload_n A dX5_eatsWord_14 0 rfl rfl ?_
      replace hf := ab_rqE hf; obtain ⟨c15, hf⟩ := hf
      exact xr_ireturn A (ab_nZ c15) hf dX5_eatsWord_15
    · replace hf := ab_in c7 hf
      refine xr_aload_n A dX5_eatsWord_10 1 rfl rfl ?_
      revert hf; refine ab_bdI (fun h5 m4 hf => ?_)
      refine xr_V0 A bX5_goesOn (wX5_goesOn D m4).2 xc_X5 (wX5_goesOn D m4).1 q1604 qs45 q1602 (av := []) (rest := []) rfl dX5_eatsWord_11 (Nat.le_of_ble_eq_true rfl) (Nat.le_of_ble_eq_true rfl) rfl (Nat.le_of_ble_eq_true rfl) ?_
      refine xr_iload_n A dX5_eatsWord_14 0 rfl rfl ?_
      replace hf := ab_rqE hf; obtain ⟨c15, hf⟩ := hf
      exact xr_ireturn A (ab_nZ c15) hf dX5_eatsWord_15
/-! X5_readHouse -/
theorem bX5_readHouse : MB yX5_readHouse cX5_readHouse 9 (none : Option FieldType) 0 := ⟨q1710, q99, by decide, by decide +kernel⟩
noncomputable def fX5_readHouse (x : Nat) (h : Hp) : Option Hp :=
  ab_ck h x 4 <|
  ab_bd (ab_gR h x 4 4) fun v1 =>
  ab_bd v1 fun a2 =>
  ab_bd (ab_gI h a2 13 5) fun v3 =>
  ab_bd (fX5_readNamed x v3 (6 : Int32) (3 : Int32) h) fun h5 =>
  ab_b2 (fX5_readPart x (some (hstr h5 14)) (0 : Int32) (99 : Int32) h5) fun v8 h7 =>
  ab_bd (fX5_needs x (some (hstr h7 19)) h7) fun h10 =>
  ab_b2 (fX5_readKnown x (2 : Int32) h10) fun v13 h12 =>
  ab_b2 (fX5_readPart x (some (hstr h12 20)) (0 : Int32) (30 : Int32) h12) fun v16 h15 =>
  ab_b2 (fX5_readPart x (some (hstr h15 21)) (0 : Int32) (60 : Int32) h15) fun v19 h18 =>
  ab_b2 (fX5_readPart x (some (hstr h18 22)) (0 : Int32) (100 : Int32) h18) fun v22 h21 =>
  ab_b2 (fX5_readPart x (some (hstr h21 23)) (1 : Int32) (9 : Int32) h21) fun v25 h24 =>
  ab_b2 (fX5_eatsWord x (some (hstr h24 12)) h24) fun v28 h27 =>
  ab_bd (ab_gI h27 x 4 9) fun v29 =>
  if v29 = (5 : Int32) then (
    some h27)
  else (
    ab_bd (ab_gR h27 x 4 4) fun v30 =>
    ab_bd v30 fun a31 =>
    ab_bd (ab_gI h27 a31 13 5) fun v32 =>
    ab_bd (ab_gR h27 x 4 4) fun v33 =>
    ab_bd v33 fun a34 =>
    ab_bd (ab_gR h27 a34 13 18) fun v35 =>
    ab_bd v35 fun a36 =>
    ab_bd (ab_sI h27 a36 v32 v8) fun h37 =>
    ab_bd (ab_gR h37 x 4 4) fun v38 =>
    ab_bd v38 fun a39 =>
    ab_bd (ab_gR h37 a39 13 19) fun v40 =>
    ab_bd v40 fun a41 =>
    ab_bd (ab_sI h37 a41 v32 v13) fun h42 =>
    ab_bd (ab_gR h42 x 4 4) fun v43 =>
    ab_bd v43 fun a44 =>
    ab_bd (ab_gR h42 a44 13 20) fun v45 =>
    ab_bd v45 fun a46 =>
    ab_bd (ab_sI h42 a46 v32 v16) fun h47 =>
    ab_bd (ab_gR h47 x 4 4) fun v48 =>
    ab_bd v48 fun a49 =>
    ab_bd (ab_gR h47 a49 13 21) fun v50 =>
    ab_bd v50 fun a51 =>
    ab_bd (ab_sI h47 a51 v32 v19) fun h52 =>
    ab_bd (ab_gR h52 x 4 4) fun v53 =>
    ab_bd v53 fun a54 =>
    ab_bd (ab_gR h52 a54 13 22) fun v55 =>
    ab_bd v55 fun a56 =>
    ab_bd (ab_sI h52 a56 v32 v22) fun h57 =>
    ab_bd (ab_gR h57 x 4 4) fun v58 =>
    ab_bd v58 fun a59 =>
    ab_bd (ab_gR h57 a59 13 23) fun v60 =>
    ab_bd v60 fun a61 =>
    ab_bd (ab_sI h57 a61 v32 v25) fun h62 =>
    ab_bd (ab_gR h62 x 4 4) fun v63 =>
    ab_bd v63 fun a64 =>
    ab_bd (ab_gR h62 a64 13 24) fun v65 =>
    ab_bd v65 fun a66 =>
    ab_bd (ab_sZ h62 a66 v32 v28) fun h67 =>
    ab_bd (ab_gR h67 x 4 4) fun v68 =>
    ab_bd v68 fun a69 =>
    ab_bd (ab_gI h67 a69 13 5) fun v70 =>
    ab_bd (ab_pI h67 a69 13 5 (v70 + (1 : Int32))) fun h71 =>
    some h71)
theorem wX5_readHouse (D : Dd) {x : Nat} {h : Hp} {h' : Hp} (hf : fX5_readHouse x h = some h') : ab_is h x 4 ∧ Ct D 9 193 yX5_readHouse cX5_readHouse 9 (none : Option FieldType) [vR (some x)] h (.inl none) h' := by
    unfold fX5_readHouse at hf
    replace hf := ab_ckE hf; obtain ⟨i0, hf⟩ := hf
    refine ⟨i0, ?_⟩
    refine Ct.of (by decide) (L := [(0, vR (some x))]) rfl (Nat.le_of_ble_eq_true rfl) (fun C A => ?_)
    refine xr_aload_n A dX5_readHouse_0 0 rfl rfl ?_
    refine xr_aload_n A dX5_readHouse_1 0 rfl rfl ?_
    revert hf; refine ab_bdI (fun v1 mv1 hf => ?_)
    refine xr_get A xc_X5 in_X5 4 (Nat.le_of_ble_eq_true rfl) q1302 rfl (ab_gRE mv1) dX5_readHouse_2 ?_
    revert hf; refine ab_bdI (fun a2 e hf => ?_); subst e
    revert hf; refine ab_bdI (fun v3 mv3 hf => ?_)
    refine xr_getN A xc_X15 in_X15 5 (Nat.le_of_ble_eq_true rfl) n1465 rfl (ab_gIE mv3) dX5_readHouse_5 ?_
    refine xr_bipush A (v := 6) dX5_readHouse_8 (by decide) ?_
    refine xr_iconst A (v := 3) dX5_readHouse_10 (by decide) ?_
    revert hf; refine ab_bdI (fun h5 m4 hf => ?_)
    refine xr_V0 A bX5_readNamed (wX5_readNamed D m4).2 xc_X5 (wX5_readNamed D m4).1 q1667 qs56 q1665 (av := [vI v3, vI (6 : Int32), vI (3 : Int32)]) (rest := []) rfl dX5_readHouse_11 (Nat.le_of_ble_eq_true rfl) (Nat.le_of_ble_eq_true rfl) rfl (Nat.le_of_ble_eq_true rfl) ?_
    refine xr_aload_n A dX5_readHouse_14 0 rfl rfl ?_
    refine xr_ldcsw A t1686 dX5_readHouse_15 ?_
    refine xr_iconst A (v := 0) dX5_readHouse_18 (by decide) ?_
    refine xr_bipush A (v := 99) dX5_readHouse_19 (by decide) ?_
    revert hf; refine ab_b2I (fun v8 h7 m6 hf => ?_)
    refine xr_V A bX5_readPart (wX5_readPart D m6).2 xc_X5 (wX5_readPart D m6).1 q1646 qs52 q1644 (av := [vR (some (hstr h5 14)), vI (0 : Int32), vI (99 : Int32)]) (rest := []) rfl dX5_readHouse_21 (Nat.le_of_ble_eq_true rfl) (Nat.le_of_ble_eq_true rfl) rfl (Nat.le_of_ble_eq_true rfl) ?_
    refine xr_istore_n A dX5_readHouse_24 rfl (Nat.le_of_ble_eq_true rfl) (L' := [(1, vI v8), (0, vR (some x))]) rfl ?_
    refine xr_aload_n A dX5_readHouse_25 1 rfl rfl ?_
    refine xr_ldcsw A t1711 dX5_readHouse_26 ?_
    revert hf; refine ab_bdI (fun h10 m9 hf => ?_)
    refine xr_V0 A bX5_needs (wX5_needs D m9).2 xc_X5 (wX5_needs D m9).1 q1650 qs53 q1648 (av := [vR (some (hstr h7 19))]) (rest := []) rfl dX5_readHouse_29 (Nat.le_of_ble_eq_true rfl) (Nat.le_of_ble_eq_true rfl) rfl (Nat.le_of_ble_eq_true rfl) ?_
    refine xr_aload_n A dX5_readHouse_32 1 rfl rfl ?_
    refine xr_iconst A (v := 2) dX5_readHouse_33 (by decide) ?_
    revert hf; refine ab_b2I (fun v13 h12 m11 hf => ?_)
    refine xr_V A bX5_readKnown (wX5_readKnown D m11).2 xc_X5 (wX5_readKnown D m11).1 q1714 qs63 q1712 (av := [vI (2 : Int32)]) (rest := []) rfl dX5_readHouse_34 (Nat.le_of_ble_eq_true rfl) (Nat.le_of_ble_eq_true rfl) rfl (Nat.le_of_ble_eq_true rfl) ?_
    refine xr_istore_n A dX5_readHouse_37 rfl (Nat.le_of_ble_eq_true rfl) (L' := [(2, vI v13), (1, vI v8), (0, vR (some x))]) rfl ?_
    refine xr_aload_n A dX5_readHouse_38 2 rfl rfl ?_
    refine xr_ldcsw A t1716 dX5_readHouse_39 ?_
    refine xr_iconst A (v := 0) dX5_readHouse_42 (by decide) ?_
    refine xr_bipush A (v := 30) dX5_readHouse_43 (by decide) ?_
    revert hf; refine ab_b2I (fun v16 h15 m14 hf => ?_)
    refine xr_V A bX5_readPart (wX5_readPart D m14).2 xc_X5 (wX5_readPart D m14).1 q1646 qs52 q1644 (av := [vR (some (hstr h12 20)), vI (0 : Int32), vI (30 : Int32)]) (rest := []) rfl dX5_readHouse_45 (Nat.le_of_ble_eq_true rfl) (Nat.le_of_ble_eq_true rfl) rfl (Nat.le_of_ble_eq_true rfl) ?_
    refine xr_istore_n A dX5_readHouse_48 rfl (Nat.le_of_ble_eq_true rfl) (L' := [(3, vI v16), (2, vI v13), (1, vI v8), (0, vR (some x))]) rfl ?_
    refine xr_aload_n A dX5_readHouse_49 3 rfl rfl ?_
    refine xr_ldcsw A t1717 dX5_readHouse_50 ?_
    refine xr_iconst A (v := 0) dX5_readHouse_53 (by decide) ?_
    refine xr_bipush A (v := 60) dX5_readHouse_54 (by decide) ?_
    revert hf; refine ab_b2I (fun v19 h18 m17 hf => ?_)
    refine xr_V A bX5_readPart (wX5_readPart D m17).2 xc_X5 (wX5_readPart D m17).1 q1646 qs52 q1644 (av := [vR (some (hstr h15 21)), vI (0 : Int32), vI (60 : Int32)]) (rest := []) rfl dX5_readHouse_56 (Nat.le_of_ble_eq_true rfl) (Nat.le_of_ble_eq_true rfl) rfl (Nat.le_of_ble_eq_true rfl) ?_
    refine xr_istore A dX5_readHouse_59 (Nat.le_of_ble_eq_true rfl) (L' := [(4, vI v19), (3, vI v16), (2, vI v13), (1, vI v8), (0, vR (some x))]) rfl ?_
    refine xr_aload_n A dX5_readHouse_61 4 rfl rfl ?_
    refine xr_ldcsw A t1718 dX5_readHouse_62 ?_
    refine xr_iconst A (v := 0) dX5_readHouse_65 (by decide) ?_
    refine xr_bipush A (v := 100) dX5_readHouse_66 (by decide) ?_
    revert hf; refine ab_b2I (fun v22 h21 m20 hf => ?_)
    refine xr_V A bX5_readPart (wX5_readPart D m20).2 xc_X5 (wX5_readPart D m20).1 q1646 qs52 q1644 (av := [vR (some (hstr h18 22)), vI (0 : Int32), vI (100 : Int32)]) (rest := []) rfl dX5_readHouse_68 (Nat.le_of_ble_eq_true rfl) (Nat.le_of_ble_eq_true rfl) rfl (Nat.le_of_ble_eq_true rfl) ?_
    refine xr_istore A dX5_readHouse_71 (Nat.le_of_ble_eq_true rfl) (L' := [(5, vI v22), (4, vI v19), (3, vI v16), (2, vI v13), (1, vI v8), (0, vR (some x))]) rfl ?_
    refine xr_aload_n A dX5_readHouse_73 5 rfl rfl ?_
    refine xr_ldcsw A t1719 dX5_readHouse_74 ?_
    refine xr_iconst A (v := 1) dX5_readHouse_77 (by decide) ?_
    refine xr_bipush A (v := 9) dX5_readHouse_78 (by decide) ?_
    revert hf; refine ab_b2I (fun v25 h24 m23 hf => ?_)
    refine xr_V A bX5_readPart (wX5_readPart D m23).2 xc_X5 (wX5_readPart D m23).1 q1646 qs52 q1644 (av := [vR (some (hstr h21 23)), vI (1 : Int32), vI (9 : Int32)]) (rest := []) rfl dX5_readHouse_80 (Nat.le_of_ble_eq_true rfl) (Nat.le_of_ble_eq_true rfl) rfl (Nat.le_of_ble_eq_true rfl) ?_
    refine xr_istore A dX5_readHouse_83 (Nat.le_of_ble_eq_true rfl) (L' := [(6, vI v25), (5, vI v22), (4, vI v19), (3, vI v16), (2, vI v13), (1, vI v8), (0, vR (some x))]) rfl ?_
    refine xr_aload_n A dX5_readHouse_85 6 rfl rfl ?_
    refine xr_ldcs A t1680 dX5_readHouse_86 ?_
    revert hf; refine ab_b2I (fun v28 h27 m26 hf => ?_)
    refine xr_V A bX5_eatsWord (wX5_eatsWord D m26).2 xc_X5 (wX5_eatsWord D m26).1 q1722 qs64 q1720 (av := [vR (some (hstr h24 12))]) (rest := []) rfl dX5_readHouse_88 (Nat.le_of_ble_eq_true rfl) (Nat.le_of_ble_eq_true rfl) rfl (Nat.le_of_ble_eq_true rfl) ?_
    refine xr_istore A dX5_readHouse_91 (Nat.le_of_ble_eq_true rfl) (L' := [(7, vI v28), (6, vI v25), (5, vI v22), (4, vI v19), (3, vI v16), (2, vI v13), (1, vI v8), (0, vR (some x))]) rfl ?_
    refine xr_aload_n A dX5_readHouse_93 7 rfl rfl ?_
    revert hf; refine ab_bdI (fun v29 mv29 hf => ?_)
    refine xr_get A xc_X5 in_X5 9 (Nat.le_of_ble_eq_true rfl) q1307 rfl (ab_gIE mv29) dX5_readHouse_94 ?_
    refine xr_iconst A (v := 5) dX5_readHouse_97 (by decide) ?_
    refine xr_icmp_ne A (tgt := 102) dX5_readHouse_98 (by decide) (fun c98 => ?_) (fun c98 => ?_)
    · replace hf := ab_in c98 hf
      refine xr_aload_n A dX5_readHouse_102 7 rfl rfl ?_
      revert hf; refine ab_bdI (fun v30 mv30 hf => ?_)
      refine xr_get A xc_X5 in_X5 4 (Nat.le_of_ble_eq_true rfl) q1302 rfl (ab_gRE mv30) dX5_readHouse_103 ?_
      revert hf; refine ab_bdI (fun a31 e hf => ?_); subst e
      revert hf; refine ab_bdI (fun v32 mv32 hf => ?_)
      refine xr_getN A xc_X15 in_X15 5 (Nat.le_of_ble_eq_true rfl) n1465 rfl (ab_gIE mv32) dX5_readHouse_106 ?_
      refine xr_istore A dX5_readHouse_109 (Nat.le_of_ble_eq_true rfl) (L' := [(8, vI v32), (7, vI v28), (6, vI v25), (5, vI v22), (4, vI v19), (3, vI v16), (2, vI v13), (1, vI v8), (0, vR (some x))]) rfl ?_
      refine xr_aload_n A dX5_readHouse_111 8 rfl rfl ?_
      revert hf; refine ab_bdI (fun v33 mv33 hf => ?_)
      refine xr_get A xc_X5 in_X5 4 (Nat.le_of_ble_eq_true rfl) q1302 rfl (ab_gRE mv33) dX5_readHouse_112 ?_
      revert hf; refine ab_bdI (fun a34 e hf => ?_); subst e
      revert hf; refine ab_bdI (fun v35 mv35 hf => ?_)
      refine xr_getN A xc_X15 in_X15 18 (Nat.le_of_ble_eq_true rfl) n1488 rfl (ab_gRE mv35) dX5_readHouse_115 ?_
      refine xr_iload A dX5_readHouse_118 0 rfl ?_
      refine xr_iload_n A dX5_readHouse_120 7 rfl rfl ?_
      revert hf; refine ab_bdI (fun a36 e hf => ?_); subst e
      revert hf; refine ab_bdI (fun h37 mh37 hf => ?_)
      refine xr_iastore A mh37 dX5_readHouse_121 ?_
      refine xr_aload_n A dX5_readHouse_122 8 rfl rfl ?_
      revert hf; refine ab_bdI (fun v38 mv38 hf => ?_)
      refine xr_get A xc_X5 in_X5 4 (Nat.le_of_ble_eq_true rfl) q1302 rfl (ab_gRE mv38) dX5_readHouse_123 ?_
      revert hf; refine ab_bdI (fun a39 e hf => ?_); subst e
      revert hf; refine ab_bdI (fun v40 mv40 hf => ?_)
      refine xr_getN A xc_X15 in_X15 19 (Nat.le_of_ble_eq_true rfl) n1490 rfl (ab_gRE mv40) dX5_readHouse_126 ?_
      refine xr_iload A dX5_readHouse_129 0 rfl ?_
      refine xr_iload_n A dX5_readHouse_131 6 rfl rfl ?_
      revert hf; refine ab_bdI (fun a41 e hf => ?_); subst e
      revert hf; refine ab_bdI (fun h42 mh42 hf => ?_)
      refine xr_iastore A mh42 dX5_readHouse_132 ?_
      refine xr_aload_n A dX5_readHouse_133 8 rfl rfl ?_
      revert hf; refine ab_bdI (fun v43 mv43 hf => ?_)
      refine xr_get A xc_X5 in_X5 4 (Nat.le_of_ble_eq_true rfl) q1302 rfl (ab_gRE mv43) dX5_readHouse_134 ?_
      revert hf; refine ab_bdI (fun a44 e hf => ?_); subst e
      revert hf; refine ab_bdI (fun v45 mv45 hf => ?_)
      refine xr_getN A xc_X15 in_X15 20 (Nat.le_of_ble_eq_true rfl) n1492 rfl (ab_gRE mv45) dX5_readHouse_137 ?_
      refine xr_iload A dX5_readHouse_140 0 rfl ?_
      refine xr_iload_n A dX5_readHouse_142 5 rfl rfl ?_
      revert hf; refine ab_bdI (fun a46 e hf => ?_); subst e
      revert hf; refine ab_bdI (fun h47 mh47 hf => ?_)
      refine xr_iastore A mh47 dX5_readHouse_143 ?_
      refine xr_aload_n A dX5_readHouse_144 8 rfl rfl ?_
      revert hf; refine ab_bdI (fun v48 mv48 hf => ?_)
      refine xr_get A xc_X5 in_X5 4 (Nat.le_of_ble_eq_true rfl) q1302 rfl (ab_gRE mv48) dX5_readHouse_145 ?_
      revert hf; refine ab_bdI (fun a49 e hf => ?_); subst e
      revert hf; refine ab_bdI (fun v50 mv50 hf => ?_)
      refine xr_getN A xc_X15 in_X15 21 (Nat.le_of_ble_eq_true rfl) n1494 rfl (ab_gRE mv50) dX5_readHouse_148 ?_
      refine xr_iload A dX5_readHouse_151 0 rfl ?_
      refine xr_iload A dX5_readHouse_153 4 rfl ?_
      revert hf; refine ab_bdI (fun a51 e hf => ?_); subst e
      revert hf; refine ab_bdI (fun h52 mh52 hf => ?_)
      refine xr_iastore A mh52 dX5_readHouse_155 ?_
      refine xr_aload_n A dX5_readHouse_156 8 rfl rfl ?_
      revert hf; refine ab_bdI (fun v53 mv53 hf => ?_)
      refine xr_get A xc_X5 in_X5 4 (Nat.le_of_ble_eq_true rfl) q1302 rfl (ab_gRE mv53) dX5_readHouse_157 ?_
      revert hf; refine ab_bdI (fun a54 e hf => ?_); subst e
      revert hf; refine ab_bdI (fun v55 mv55 hf => ?_)
      refine xr_getN A xc_X15 in_X15 22 (Nat.le_of_ble_eq_true rfl) n1496 rfl (ab_gRE mv55) dX5_readHouse_160 ?_
      refine xr_iload A dX5_readHouse_163 0 rfl ?_
      refine xr_iload A dX5_readHouse_165 3 rfl ?_
      revert hf; refine ab_bdI (fun a56 e hf => ?_); subst e
      revert hf; refine ab_bdI (fun h57 mh57 hf => ?_)
      refine xr_iastore A mh57 dX5_readHouse_167 ?_
      refine xr_aload_n A dX5_readHouse_168 8 rfl rfl ?_
      revert hf; refine ab_bdI (fun v58 mv58 hf => ?_)
      refine xr_get A xc_X5 in_X5 4 (Nat.le_of_ble_eq_true rfl) q1302 rfl (ab_gRE mv58) dX5_readHouse_169 ?_
      revert hf; refine ab_bdI (fun a59 e hf => ?_); subst e
      revert hf; refine ab_bdI (fun v60 mv60 hf => ?_)
      refine xr_getN A xc_X15 in_X15 23 (Nat.le_of_ble_eq_true rfl) n1498 rfl (ab_gRE mv60) dX5_readHouse_172 ?_
      refine xr_iload A dX5_readHouse_175 0 rfl ?_
      refine xr_iload A dX5_readHouse_177 2 rfl ?_
      revert hf; refine ab_bdI (fun a61 e hf => ?_); subst e
      revert hf; refine ab_bdI (fun h62 mh62 hf => ?_)
      refine xr_iastore A mh62 dX5_readHouse_179 ?_
      refine xr_aload_n A dX5_readHouse_180 8 rfl rfl ?_
      revert hf; refine ab_bdI (fun v63 mv63 hf => ?_)
      refine xr_get A xc_X5 in_X5 4 (Nat.le_of_ble_eq_true rfl) q1302 rfl (ab_gRE mv63) dX5_readHouse_181 ?_
      revert hf; refine ab_bdI (fun a64 e hf => ?_); subst e
      revert hf; refine ab_bdI (fun v65 mv65 hf => ?_)
      refine xr_getN A xc_X15 in_X15 24 (Nat.le_of_ble_eq_true rfl) n1500 rfl (ab_gRE mv65) dX5_readHouse_184 ?_
      refine xr_iload A dX5_readHouse_187 0 rfl ?_
      refine xr_iload A dX5_readHouse_189 1 rfl ?_
      revert hf; refine ab_bdI (fun a66 e hf => ?_); subst e
      revert hf; refine ab_bdI (fun h67 mh67 hf => ?_)
      refine xr_zastore A mh67 dX5_readHouse_191 ?_
      refine xr_aload_n A dX5_readHouse_192 8 rfl rfl ?_
      revert hf; refine ab_bdI (fun v68 mv68 hf => ?_)
      refine xr_get A xc_X5 in_X5 4 (Nat.le_of_ble_eq_true rfl) q1302 rfl (ab_gRE mv68) dX5_readHouse_193 ?_
      refine xr_dup A dX5_readHouse_196 rfl ?_
      revert hf; refine ab_bdI (fun a69 e hf => ?_); subst e
      revert hf; refine ab_bdI (fun v70 mv70 hf => ?_)
      refine xr_getN A xc_X15 in_X15 5 (Nat.le_of_ble_eq_true rfl) n1465 rfl (ab_gIE mv70) dX5_readHouse_197 ?_
      refine xr_iconst A (v := 1) dX5_readHouse_200 (by decide) ?_
      refine xr_iadd A dX5_readHouse_201 ?_
      revert hf; refine ab_bdI (fun h71 mh71 hf => ?_)
      refine xr_putN A xc_X15 in_X15 tyX15_ok nmX15 5 (Nat.le_of_ble_eq_true rfl) n1465 rfl rfl (v := vI (v70 + (1 : Int32))) rfl rfl mh71 dX5_readHouse_202 ?_
      exact xr_return A hf dX5_readHouse_205
    · replace hf := ab_ip c98 hf
      exact xr_return A hf dX5_readHouse_101
/-! X5_readCar -/
theorem bX5_readCar : MB yX5_readCar cX5_readCar 7 (none : Option FieldType) 0 := ⟨q1727, q99, by decide, by decide +kernel⟩
noncomputable def fX5_readCar (x : Nat) (h : Hp) : Option Hp :=
  ab_ck h x 4 <|
  ab_bd (ab_gR h x 4 4) fun v1 =>
  ab_bd v1 fun a2 =>
  ab_bd (ab_gI h a2 13 6) fun v3 =>
  ab_bd (fX5_readNamed x v3 (3 : Int32) (3 : Int32) h) fun h5 =>
  ab_bd (fX5_needs x (some (hstr h5 24)) h5) fun h7 =>
  ab_b2 (fX5_readKnown x (0 : Int32) h7) fun v10 h9 =>
  ab_b2 (fX5_readPart x (some (hstr h9 25)) (500 : Int32) (800 : Int32) h9) fun v13 h12 =>
  ab_b2 (fX5_readPart x (some (hstr h12 26)) (1 : Int32) (6 : Int32) h12) fun v16 h15 =>
  ab_b2 (fX5_readPart x (some (hstr h15 27)) (0 : Int32) (50 : Int32) h15) fun v19 h18 =>
  ab_b2 (fX5_eatsWord x (some (hstr h18 13)) h18) fun v22 h21 =>
  ab_bd (ab_gI h21 x 4 9) fun v23 =>
  if v23 = (5 : Int32) then (
    some h21)
  else (
    ab_bd (ab_gR h21 x 4 4) fun v24 =>
    ab_bd v24 fun a25 =>
    ab_bd (ab_gI h21 a25 13 6) fun v26 =>
    ab_bd (ab_gR h21 x 4 4) fun v27 =>
    ab_bd v27 fun a28 =>
    ab_bd (ab_gR h21 a28 13 26) fun v29 =>
    ab_bd v29 fun a30 =>
    ab_bd (ab_sI h21 a30 v26 v10) fun h31 =>
    ab_bd (ab_gR h31 x 4 4) fun v32 =>
    ab_bd v32 fun a33 =>
    ab_bd (ab_gR h31 a33 13 27) fun v34 =>
    ab_bd v34 fun a35 =>
    ab_bd (ab_sI h31 a35 v26 v13) fun h36 =>
    ab_bd (ab_gR h36 x 4 4) fun v37 =>
    ab_bd v37 fun a38 =>
    ab_bd (ab_gR h36 a38 13 28) fun v39 =>
    ab_bd v39 fun a40 =>
    ab_bd (ab_sI h36 a40 v26 v16) fun h41 =>
    ab_bd (ab_gR h41 x 4 4) fun v42 =>
    ab_bd v42 fun a43 =>
    ab_bd (ab_gR h41 a43 13 29) fun v44 =>
    ab_bd v44 fun a45 =>
    ab_bd (ab_sI h41 a45 v26 v19) fun h46 =>
    ab_bd (ab_gR h46 x 4 4) fun v47 =>
    ab_bd v47 fun a48 =>
    ab_bd (ab_gR h46 a48 13 25) fun v49 =>
    ab_bd v49 fun a50 =>
    ab_bd (ab_sZ h46 a50 v26 v22) fun h51 =>
    ab_bd (ab_gR h51 x 4 4) fun v52 =>
    ab_bd v52 fun a53 =>
    ab_bd (ab_gI h51 a53 13 6) fun v54 =>
    ab_bd (ab_pI h51 a53 13 6 (v54 + (1 : Int32))) fun h55 =>
    some h55)
theorem wX5_readCar (D : Dd) {x : Nat} {h : Hp} {h' : Hp} (hf : fX5_readCar x h = some h') : ab_is h x 4 ∧ Ct D 9 193 yX5_readCar cX5_readCar 7 (none : Option FieldType) [vR (some x)] h (.inl none) h' := by
    unfold fX5_readCar at hf
    replace hf := ab_ckE hf; obtain ⟨i0, hf⟩ := hf
    refine ⟨i0, ?_⟩
    refine Ct.of (by decide) (L := [(0, vR (some x))]) rfl (Nat.le_of_ble_eq_true rfl) (fun C A => ?_)
    refine xr_aload_n A dX5_readCar_0 0 rfl rfl ?_
    refine xr_aload_n A dX5_readCar_1 0 rfl rfl ?_
    revert hf; refine ab_bdI (fun v1 mv1 hf => ?_)
    refine xr_get A xc_X5 in_X5 4 (Nat.le_of_ble_eq_true rfl) q1302 rfl (ab_gRE mv1) dX5_readCar_2 ?_
    revert hf; refine ab_bdI (fun a2 e hf => ?_); subst e
    revert hf; refine ab_bdI (fun v3 mv3 hf => ?_)
    refine xr_getN A xc_X15 in_X15 6 (Nat.le_of_ble_eq_true rfl) n1466 rfl (ab_gIE mv3) dX5_readCar_5 ?_
    refine xr_iconst A (v := 3) dX5_readCar_8 (by decide) ?_
    refine xr_iconst A (v := 3) dX5_readCar_9 (by decide) ?_
    revert hf; refine ab_bdI (fun h5 m4 hf => ?_)
    refine xr_V0 A bX5_readNamed (wX5_readNamed D m4).2 xc_X5 (wX5_readNamed D m4).1 q1667 qs56 q1665 (av := [vI v3, vI (3 : Int32), vI (3 : Int32)]) (rest := []) rfl dX5_readCar_10 (Nat.le_of_ble_eq_true rfl) (Nat.le_of_ble_eq_true rfl) rfl (Nat.le_of_ble_eq_true rfl) ?_
    refine xr_aload_n A dX5_readCar_13 0 rfl rfl ?_
    refine xr_ldcsw A t1728 dX5_readCar_14 ?_
    revert hf; refine ab_bdI (fun h7 m6 hf => ?_)
    refine xr_V0 A bX5_needs (wX5_needs D m6).2 xc_X5 (wX5_needs D m6).1 q1650 qs53 q1648 (av := [vR (some (hstr h5 24))]) (rest := []) rfl dX5_readCar_17 (Nat.le_of_ble_eq_true rfl) (Nat.le_of_ble_eq_true rfl) rfl (Nat.le_of_ble_eq_true rfl) ?_
    refine xr_aload_n A dX5_readCar_20 0 rfl rfl ?_
    refine xr_iconst A (v := 0) dX5_readCar_21 (by decide) ?_
    revert hf; refine ab_b2I (fun v10 h9 m8 hf => ?_)
    refine xr_V A bX5_readKnown (wX5_readKnown D m8).2 xc_X5 (wX5_readKnown D m8).1 q1714 qs63 q1712 (av := [vI (0 : Int32)]) (rest := []) rfl dX5_readCar_22 (Nat.le_of_ble_eq_true rfl) (Nat.le_of_ble_eq_true rfl) rfl (Nat.le_of_ble_eq_true rfl) ?_
    refine xr_istore_n A dX5_readCar_25 rfl (Nat.le_of_ble_eq_true rfl) (L' := [(1, vI v10), (0, vR (some x))]) rfl ?_
    refine xr_aload_n A dX5_readCar_26 1 rfl rfl ?_
    refine xr_ldcsw A t1729 dX5_readCar_27 ?_
    refine xr_sipush A (v := 500) dX5_readCar_30 (by decide) ?_
    refine xr_sipush A (v := 800) dX5_readCar_33 (by decide) ?_
    revert hf; refine ab_b2I (fun v13 h12 m11 hf => ?_)
    refine xr_V A bX5_readPart (wX5_readPart D m11).2 xc_X5 (wX5_readPart D m11).1 q1646 qs52 q1644 (av := [vR (some (hstr h9 25)), vI (500 : Int32), vI (800 : Int32)]) (rest := []) rfl dX5_readCar_36 (Nat.le_of_ble_eq_true rfl) (Nat.le_of_ble_eq_true rfl) rfl (Nat.le_of_ble_eq_true rfl) ?_
    refine xr_istore_n A dX5_readCar_39 rfl (Nat.le_of_ble_eq_true rfl) (L' := [(2, vI v13), (1, vI v10), (0, vR (some x))]) rfl ?_
    refine xr_aload_n A dX5_readCar_40 2 rfl rfl ?_
    refine xr_ldcsw A t1730 dX5_readCar_41 ?_
    refine xr_iconst A (v := 1) dX5_readCar_44 (by decide) ?_
    refine xr_bipush A (v := 6) dX5_readCar_45 (by decide) ?_
    revert hf; refine ab_b2I (fun v16 h15 m14 hf => ?_)
    refine xr_V A bX5_readPart (wX5_readPart D m14).2 xc_X5 (wX5_readPart D m14).1 q1646 qs52 q1644 (av := [vR (some (hstr h12 26)), vI (1 : Int32), vI (6 : Int32)]) (rest := []) rfl dX5_readCar_47 (Nat.le_of_ble_eq_true rfl) (Nat.le_of_ble_eq_true rfl) rfl (Nat.le_of_ble_eq_true rfl) ?_
    refine xr_istore_n A dX5_readCar_50 rfl (Nat.le_of_ble_eq_true rfl) (L' := [(3, vI v16), (2, vI v13), (1, vI v10), (0, vR (some x))]) rfl ?_
    refine xr_aload_n A dX5_readCar_51 3 rfl rfl ?_
    refine xr_ldcsw A t1731 dX5_readCar_52 ?_
    refine xr_iconst A (v := 0) dX5_readCar_55 (by decide) ?_
    refine xr_bipush A (v := 50) dX5_readCar_56 (by decide) ?_
    revert hf; refine ab_b2I (fun v19 h18 m17 hf => ?_)
    refine xr_V A bX5_readPart (wX5_readPart D m17).2 xc_X5 (wX5_readPart D m17).1 q1646 qs52 q1644 (av := [vR (some (hstr h15 27)), vI (0 : Int32), vI (50 : Int32)]) (rest := []) rfl dX5_readCar_58 (Nat.le_of_ble_eq_true rfl) (Nat.le_of_ble_eq_true rfl) rfl (Nat.le_of_ble_eq_true rfl) ?_
    refine xr_istore A dX5_readCar_61 (Nat.le_of_ble_eq_true rfl) (L' := [(4, vI v19), (3, vI v16), (2, vI v13), (1, vI v10), (0, vR (some x))]) rfl ?_
    refine xr_aload_n A dX5_readCar_63 4 rfl rfl ?_
    refine xr_ldcs A t1681 dX5_readCar_64 ?_
    revert hf; refine ab_b2I (fun v22 h21 m20 hf => ?_)
    refine xr_V A bX5_eatsWord (wX5_eatsWord D m20).2 xc_X5 (wX5_eatsWord D m20).1 q1722 qs64 q1720 (av := [vR (some (hstr h18 13))]) (rest := []) rfl dX5_readCar_66 (Nat.le_of_ble_eq_true rfl) (Nat.le_of_ble_eq_true rfl) rfl (Nat.le_of_ble_eq_true rfl) ?_
    refine xr_istore A dX5_readCar_69 (Nat.le_of_ble_eq_true rfl) (L' := [(5, vI v22), (4, vI v19), (3, vI v16), (2, vI v13), (1, vI v10), (0, vR (some x))]) rfl ?_
    refine xr_aload_n A dX5_readCar_71 5 rfl rfl ?_
    revert hf; refine ab_bdI (fun v23 mv23 hf => ?_)
    refine xr_get A xc_X5 in_X5 9 (Nat.le_of_ble_eq_true rfl) q1307 rfl (ab_gIE mv23) dX5_readCar_72 ?_
    refine xr_iconst A (v := 5) dX5_readCar_75 (by decide) ?_
    refine xr_icmp_ne A (tgt := 80) dX5_readCar_76 (by decide) (fun c76 => ?_) (fun c76 => ?_)
    · replace hf := ab_in c76 hf
      refine xr_aload_n A dX5_readCar_80 5 rfl rfl ?_
      revert hf; refine ab_bdI (fun v24 mv24 hf => ?_)
      refine xr_get A xc_X5 in_X5 4 (Nat.le_of_ble_eq_true rfl) q1302 rfl (ab_gRE mv24) dX5_readCar_81 ?_
      revert hf; refine ab_bdI (fun a25 e hf => ?_); subst e
      revert hf; refine ab_bdI (fun v26 mv26 hf => ?_)
      refine xr_getN A xc_X15 in_X15 6 (Nat.le_of_ble_eq_true rfl) n1466 rfl (ab_gIE mv26) dX5_readCar_84 ?_
      refine xr_istore A dX5_readCar_87 (Nat.le_of_ble_eq_true rfl) (L' := [(6, vI v26), (5, vI v22), (4, vI v19), (3, vI v16), (2, vI v13), (1, vI v10), (0, vR (some x))]) rfl ?_
      refine xr_aload_n A dX5_readCar_89 6 rfl rfl ?_
      revert hf; refine ab_bdI (fun v27 mv27 hf => ?_)
      refine xr_get A xc_X5 in_X5 4 (Nat.le_of_ble_eq_true rfl) q1302 rfl (ab_gRE mv27) dX5_readCar_90 ?_
      revert hf; refine ab_bdI (fun a28 e hf => ?_); subst e
      revert hf; refine ab_bdI (fun v29 mv29 hf => ?_)
      refine xr_getN A xc_X15 in_X15 26 (Nat.le_of_ble_eq_true rfl) n1504 rfl (ab_gRE mv29) dX5_readCar_93 ?_
      refine xr_iload A dX5_readCar_96 0 rfl ?_
      refine xr_iload_n A dX5_readCar_98 5 rfl rfl ?_
      revert hf; refine ab_bdI (fun a30 e hf => ?_); subst e
      revert hf; refine ab_bdI (fun h31 mh31 hf => ?_)
      refine xr_iastore A mh31 dX5_readCar_99 ?_
      refine xr_aload_n A dX5_readCar_100 6 rfl rfl ?_
      revert hf; refine ab_bdI (fun v32 mv32 hf => ?_)
      refine xr_get A xc_X5 in_X5 4 (Nat.le_of_ble_eq_true rfl) q1302 rfl (ab_gRE mv32) dX5_readCar_101 ?_
      revert hf; refine ab_bdI (fun a33 e hf => ?_); subst e
      revert hf; refine ab_bdI (fun v34 mv34 hf => ?_)
      refine xr_getN A xc_X15 in_X15 27 (Nat.le_of_ble_eq_true rfl) n1506 rfl (ab_gRE mv34) dX5_readCar_104 ?_
      refine xr_iload A dX5_readCar_107 0 rfl ?_
      refine xr_iload_n A dX5_readCar_109 4 rfl rfl ?_
      revert hf; refine ab_bdI (fun a35 e hf => ?_); subst e
      revert hf; refine ab_bdI (fun h36 mh36 hf => ?_)
      refine xr_iastore A mh36 dX5_readCar_110 ?_
      refine xr_aload_n A dX5_readCar_111 6 rfl rfl ?_
      revert hf; refine ab_bdI (fun v37 mv37 hf => ?_)
      refine xr_get A xc_X5 in_X5 4 (Nat.le_of_ble_eq_true rfl) q1302 rfl (ab_gRE mv37) dX5_readCar_112 ?_
      revert hf; refine ab_bdI (fun a38 e hf => ?_); subst e
      revert hf; refine ab_bdI (fun v39 mv39 hf => ?_)
      refine xr_getN A xc_X15 in_X15 28 (Nat.le_of_ble_eq_true rfl) n1508 rfl (ab_gRE mv39) dX5_readCar_115 ?_
      refine xr_iload A dX5_readCar_118 0 rfl ?_
      refine xr_iload_n A dX5_readCar_120 3 rfl rfl ?_
      revert hf; refine ab_bdI (fun a40 e hf => ?_); subst e
      revert hf; refine ab_bdI (fun h41 mh41 hf => ?_)
      refine xr_iastore A mh41 dX5_readCar_121 ?_
      refine xr_aload_n A dX5_readCar_122 6 rfl rfl ?_
      revert hf; refine ab_bdI (fun v42 mv42 hf => ?_)
      refine xr_get A xc_X5 in_X5 4 (Nat.le_of_ble_eq_true rfl) q1302 rfl (ab_gRE mv42) dX5_readCar_123 ?_
      revert hf; refine ab_bdI (fun a43 e hf => ?_); subst e
      revert hf; refine ab_bdI (fun v44 mv44 hf => ?_)
      refine xr_getN A xc_X15 in_X15 29 (Nat.le_of_ble_eq_true rfl) n1510 rfl (ab_gRE mv44) dX5_readCar_126 ?_
      refine xr_iload A dX5_readCar_129 0 rfl ?_
      refine xr_iload A dX5_readCar_131 2 rfl ?_
      revert hf; refine ab_bdI (fun a45 e hf => ?_); subst e
      revert hf; refine ab_bdI (fun h46 mh46 hf => ?_)
      refine xr_iastore A mh46 dX5_readCar_133 ?_
      refine xr_aload_n A dX5_readCar_134 6 rfl rfl ?_
      revert hf; refine ab_bdI (fun v47 mv47 hf => ?_)
      refine xr_get A xc_X5 in_X5 4 (Nat.le_of_ble_eq_true rfl) q1302 rfl (ab_gRE mv47) dX5_readCar_135 ?_
      revert hf; refine ab_bdI (fun a48 e hf => ?_); subst e
      revert hf; refine ab_bdI (fun v49 mv49 hf => ?_)
      refine xr_getN A xc_X15 in_X15 25 (Nat.le_of_ble_eq_true rfl) n1502 rfl (ab_gRE mv49) dX5_readCar_138 ?_
      refine xr_iload A dX5_readCar_141 0 rfl ?_
      refine xr_iload A dX5_readCar_143 1 rfl ?_
      revert hf; refine ab_bdI (fun a50 e hf => ?_); subst e
      revert hf; refine ab_bdI (fun h51 mh51 hf => ?_)
      refine xr_zastore A mh51 dX5_readCar_145 ?_
      refine xr_aload_n A dX5_readCar_146 6 rfl rfl ?_
      revert hf; refine ab_bdI (fun v52 mv52 hf => ?_)
      refine xr_get A xc_X5 in_X5 4 (Nat.le_of_ble_eq_true rfl) q1302 rfl (ab_gRE mv52) dX5_readCar_147 ?_
      refine xr_dup A dX5_readCar_150 rfl ?_
      revert hf; refine ab_bdI (fun a53 e hf => ?_); subst e
      revert hf; refine ab_bdI (fun v54 mv54 hf => ?_)
      refine xr_getN A xc_X15 in_X15 6 (Nat.le_of_ble_eq_true rfl) n1466 rfl (ab_gIE mv54) dX5_readCar_151 ?_
      refine xr_iconst A (v := 1) dX5_readCar_154 (by decide) ?_
      refine xr_iadd A dX5_readCar_155 ?_
      revert hf; refine ab_bdI (fun h55 mh55 hf => ?_)
      refine xr_putN A xc_X15 in_X15 tyX15_ok nmX15 6 (Nat.le_of_ble_eq_true rfl) n1466 rfl rfl (v := vI (v54 + (1 : Int32))) rfl rfl mh55 dX5_readCar_156 ?_
      exact xr_return A hf dX5_readCar_159
    · replace hf := ab_ip c76 hf
      exact xr_return A hf dX5_readCar_79
/-! X5_readCall -/
theorem bX5_readCall : MB yX5_readCall cX5_readCall 3 (none : Option FieldType) 0 := ⟨q1735, q99, by decide, by decide +kernel⟩
noncomputable def fX5_readCall (x : Nat) (h : Hp) : Option Hp :=
  ab_ck h x 4 <|
  ab_bd (ab_gR h x 4 4) fun v1 =>
  ab_bd v1 fun a2 =>
  ab_bd (ab_gI h a2 13 8) fun v3 =>
  ab_bd (fX5_readNamed x v3 (5 : Int32) (3 : Int32) h) fun h5 =>
  ab_b2 (fX5_readPart x (some (hstr h5 28)) (1 : Int32) (60 : Int32) h5) fun v8 h7 =>
  ab_b2 (fX5_readPart x (some (hstr h7 22)) (0 : Int32) (100 : Int32) h7) fun v11 h10 =>
  ab_bd (ab_gI h10 x 4 9) fun v12 =>
  if v12 = (5 : Int32) then (
    some h10)
  else (
    ab_bd (ab_gR h10 x 4 4) fun v13 =>
    ab_bd v13 fun a14 =>
    ab_bd (ab_gR h10 a14 13 30) fun v15 =>
    ab_bd (ab_gR h10 x 4 4) fun v16 =>
    ab_bd v16 fun a17 =>
    ab_bd (ab_gI h10 a17 13 8) fun v18 =>
    ab_bd v15 fun a19 =>
    ab_bd (ab_sI h10 a19 v18 v8) fun h20 =>
    ab_bd (ab_gR h20 x 4 4) fun v21 =>
    ab_bd v21 fun a22 =>
    ab_bd (ab_gR h20 a22 13 31) fun v23 =>
    ab_bd (ab_gR h20 x 4 4) fun v24 =>
    ab_bd v24 fun a25 =>
    ab_bd (ab_gI h20 a25 13 8) fun v26 =>
    ab_bd v23 fun a27 =>
    ab_bd (ab_sI h20 a27 v26 v11) fun h28 =>
    ab_bd (ab_gR h28 x 4 4) fun v29 =>
    ab_bd v29 fun a30 =>
    ab_bd (ab_gI h28 a30 13 8) fun v31 =>
    ab_bd (ab_pI h28 a30 13 8 (v31 + (1 : Int32))) fun h32 =>
    some h32)
theorem wX5_readCall (D : Dd) {x : Nat} {h : Hp} {h' : Hp} (hf : fX5_readCall x h = some h') : ab_is h x 4 ∧ Ct D 9 193 yX5_readCall cX5_readCall 3 (none : Option FieldType) [vR (some x)] h (.inl none) h' := by
    unfold fX5_readCall at hf
    replace hf := ab_ckE hf; obtain ⟨i0, hf⟩ := hf
    refine ⟨i0, ?_⟩
    refine Ct.of (by decide) (L := [(0, vR (some x))]) rfl (Nat.le_of_ble_eq_true rfl) (fun C A => ?_)
    refine xr_aload_n A dX5_readCall_0 0 rfl rfl ?_
    refine xr_aload_n A dX5_readCall_1 0 rfl rfl ?_
    revert hf; refine ab_bdI (fun v1 mv1 hf => ?_)
    refine xr_get A xc_X5 in_X5 4 (Nat.le_of_ble_eq_true rfl) q1302 rfl (ab_gRE mv1) dX5_readCall_2 ?_
    revert hf; refine ab_bdI (fun a2 e hf => ?_); subst e
    revert hf; refine ab_bdI (fun v3 mv3 hf => ?_)
    refine xr_getN A xc_X15 in_X15 8 (Nat.le_of_ble_eq_true rfl) n1469 rfl (ab_gIE mv3) dX5_readCall_5 ?_
    refine xr_iconst A (v := 5) dX5_readCall_8 (by decide) ?_
    refine xr_iconst A (v := 3) dX5_readCall_9 (by decide) ?_
    revert hf; refine ab_bdI (fun h5 m4 hf => ?_)
    refine xr_V0 A bX5_readNamed (wX5_readNamed D m4).2 xc_X5 (wX5_readNamed D m4).1 q1667 qs56 q1665 (av := [vI v3, vI (5 : Int32), vI (3 : Int32)]) (rest := []) rfl dX5_readCall_10 (Nat.le_of_ble_eq_true rfl) (Nat.le_of_ble_eq_true rfl) rfl (Nat.le_of_ble_eq_true rfl) ?_
    refine xr_aload_n A dX5_readCall_13 0 rfl rfl ?_
    refine xr_ldcsw A t1736 dX5_readCall_14 ?_
    refine xr_iconst A (v := 1) dX5_readCall_17 (by decide) ?_
    refine xr_bipush A (v := 60) dX5_readCall_18 (by decide) ?_
    revert hf; refine ab_b2I (fun v8 h7 m6 hf => ?_)
    refine xr_V A bX5_readPart (wX5_readPart D m6).2 xc_X5 (wX5_readPart D m6).1 q1646 qs52 q1644 (av := [vR (some (hstr h5 28)), vI (1 : Int32), vI (60 : Int32)]) (rest := []) rfl dX5_readCall_20 (Nat.le_of_ble_eq_true rfl) (Nat.le_of_ble_eq_true rfl) rfl (Nat.le_of_ble_eq_true rfl) ?_
    refine xr_istore_n A dX5_readCall_23 rfl (Nat.le_of_ble_eq_true rfl) (L' := [(1, vI v8), (0, vR (some x))]) rfl ?_
    refine xr_aload_n A dX5_readCall_24 1 rfl rfl ?_
    refine xr_ldcsw A t1718 dX5_readCall_25 ?_
    refine xr_iconst A (v := 0) dX5_readCall_28 (by decide) ?_
    refine xr_bipush A (v := 100) dX5_readCall_29 (by decide) ?_
    revert hf; refine ab_b2I (fun v11 h10 m9 hf => ?_)
    refine xr_V A bX5_readPart (wX5_readPart D m9).2 xc_X5 (wX5_readPart D m9).1 q1646 qs52 q1644 (av := [vR (some (hstr h7 22)), vI (0 : Int32), vI (100 : Int32)]) (rest := []) rfl dX5_readCall_31 (Nat.le_of_ble_eq_true rfl) (Nat.le_of_ble_eq_true rfl) rfl (Nat.le_of_ble_eq_true rfl) ?_
    refine xr_istore_n A dX5_readCall_34 rfl (Nat.le_of_ble_eq_true rfl) (L' := [(2, vI v11), (1, vI v8), (0, vR (some x))]) rfl ?_
    refine xr_aload_n A dX5_readCall_35 2 rfl rfl ?_
    revert hf; refine ab_bdI (fun v12 mv12 hf => ?_)
    refine xr_get A xc_X5 in_X5 9 (Nat.le_of_ble_eq_true rfl) q1307 rfl (ab_gIE mv12) dX5_readCall_36 ?_
    refine xr_iconst A (v := 5) dX5_readCall_39 (by decide) ?_
    refine xr_icmp_ne A (tgt := 44) dX5_readCall_40 (by decide) (fun c40 => ?_) (fun c40 => ?_)
    · replace hf := ab_in c40 hf
      refine xr_aload_n A dX5_readCall_44 2 rfl rfl ?_
      revert hf; refine ab_bdI (fun v13 mv13 hf => ?_)
      refine xr_get A xc_X5 in_X5 4 (Nat.le_of_ble_eq_true rfl) q1302 rfl (ab_gRE mv13) dX5_readCall_45 ?_
      revert hf; refine ab_bdI (fun a14 e hf => ?_); subst e
      revert hf; refine ab_bdI (fun v15 mv15 hf => ?_)
      refine xr_getN A xc_X15 in_X15 30 (Nat.le_of_ble_eq_true rfl) n1512 rfl (ab_gRE mv15) dX5_readCall_48 ?_
      refine xr_aload_n A dX5_readCall_51 2 rfl rfl ?_
      revert hf; refine ab_bdI (fun v16 mv16 hf => ?_)
      refine xr_get A xc_X5 in_X5 4 (Nat.le_of_ble_eq_true rfl) q1302 rfl (ab_gRE mv16) dX5_readCall_52 ?_
      revert hf; refine ab_bdI (fun a17 e hf => ?_); subst e
      revert hf; refine ab_bdI (fun v18 mv18 hf => ?_)
      refine xr_getN A xc_X15 in_X15 8 (Nat.le_of_ble_eq_true rfl) n1469 rfl (ab_gIE mv18) dX5_readCall_55 ?_
      refine xr_iload_n A dX5_readCall_58 1 rfl rfl ?_
      revert hf; refine ab_bdI (fun a19 e hf => ?_); subst e
      revert hf; refine ab_bdI (fun h20 mh20 hf => ?_)
      refine xr_iastore A mh20 dX5_readCall_59 ?_
      refine xr_aload_n A dX5_readCall_60 2 rfl rfl ?_
      revert hf; refine ab_bdI (fun v21 mv21 hf => ?_)
      refine xr_get A xc_X5 in_X5 4 (Nat.le_of_ble_eq_true rfl) q1302 rfl (ab_gRE mv21) dX5_readCall_61 ?_
      revert hf; refine ab_bdI (fun a22 e hf => ?_); subst e
      revert hf; refine ab_bdI (fun v23 mv23 hf => ?_)
      refine xr_getN A xc_X15 in_X15 31 (Nat.le_of_ble_eq_true rfl) n1514 rfl (ab_gRE mv23) dX5_readCall_64 ?_
      refine xr_aload_n A dX5_readCall_67 2 rfl rfl ?_
      revert hf; refine ab_bdI (fun v24 mv24 hf => ?_)
      refine xr_get A xc_X5 in_X5 4 (Nat.le_of_ble_eq_true rfl) q1302 rfl (ab_gRE mv24) dX5_readCall_68 ?_
      revert hf; refine ab_bdI (fun a25 e hf => ?_); subst e
      revert hf; refine ab_bdI (fun v26 mv26 hf => ?_)
      refine xr_getN A xc_X15 in_X15 8 (Nat.le_of_ble_eq_true rfl) n1469 rfl (ab_gIE mv26) dX5_readCall_71 ?_
      refine xr_iload_n A dX5_readCall_74 0 rfl rfl ?_
      revert hf; refine ab_bdI (fun a27 e hf => ?_); subst e
      revert hf; refine ab_bdI (fun h28 mh28 hf => ?_)
      refine xr_iastore A mh28 dX5_readCall_75 ?_
      refine xr_aload_n A dX5_readCall_76 2 rfl rfl ?_
      revert hf; refine ab_bdI (fun v29 mv29 hf => ?_)
      refine xr_get A xc_X5 in_X5 4 (Nat.le_of_ble_eq_true rfl) q1302 rfl (ab_gRE mv29) dX5_readCall_77 ?_
      refine xr_dup A dX5_readCall_80 rfl ?_
      revert hf; refine ab_bdI (fun a30 e hf => ?_); subst e
      revert hf; refine ab_bdI (fun v31 mv31 hf => ?_)
      refine xr_getN A xc_X15 in_X15 8 (Nat.le_of_ble_eq_true rfl) n1469 rfl (ab_gIE mv31) dX5_readCall_81 ?_
      refine xr_iconst A (v := 1) dX5_readCall_84 (by decide) ?_
      refine xr_iadd A dX5_readCall_85 ?_
      revert hf; refine ab_bdI (fun h32 mh32 hf => ?_)
      refine xr_putN A xc_X15 in_X15 tyX15_ok nmX15 8 (Nat.le_of_ble_eq_true rfl) n1469 rfl rfl (v := vI (v31 + (1 : Int32))) rfl rfl mh32 dX5_readCall_86 ?_
      exact xr_return A hf dX5_readCall_89
    · replace hf := ab_ip c40 hf
      exact xr_return A hf dX5_readCall_43
/-! X5_eatsSign -/
theorem bX5_eatsSign : MB yX5_eatsSign cX5_eatsSign 3 (some FieldType.boolean) 1 := ⟨q1745, q99, by decide, by decide +kernel⟩
noncomputable def fX5_eatsSign_b21 (x : Nat) (s0 : Int32) (h : Hp) : Option (Int32 × Hp) :=
  if s0 = 0 then (
    ab_rq (s0 = 0 ∨ s0 = 1) <|
    some (s0, h))
  else (
    ab_bd (fX5_goesOn x h) fun h2 =>
    ab_rq (s0 = 0 ∨ s0 = 1) <|
    some (s0, h2))
theorem wX5_eatsSign_b21 {D : Dd} {C : Cx} {h0 h' : Hp} {r : Int32} (A : Act C D (h0, (.inl (some (vI r))), h') yX5_eatsSign cX5_eatsSign 3 (some FieldType.boolean) 3 63 []) {x : Nat} {s0 : Int32} {h : Hp} (hf : fX5_eatsSign_b21 x s0 h = some (r, h')) : X C D (h0, (.inl (some (vI r))), h') 3 21 [(0, vR (some x))] [vI s0] h := by
  unfold fX5_eatsSign_b21 at hf
  refine xr_istore_n A dX5_eatsSign_21 rfl (Nat.le_of_ble_eq_true rfl) (L' := [(2, vI s0), (0, vR (some x))]) rfl ?_
  refine xr_iload_n A dX5_eatsSign_22 0 rfl rfl ?_
  refine xr_if_eq A (tgt := 30) dX5_eatsSign_23 (by decide) (fun c23 => ?_) (fun c23 => ?_)
  · replace hf := ab_ip c23 hf
    refine xr_iload_n A dX5_eatsSign_30 0 rfl rfl ?_
    replace hf := ab_rqE hf; obtain ⟨c31, hf⟩ := hf
    exact xr_ireturn A (ab_nZ c31) hf dX5_eatsSign_31
  · replace hf := ab_in c23 hf
    refine xr_aload_n A dX5_eatsSign_26 1 rfl rfl ?_
    revert hf; refine ab_bdI (fun h2 m1 hf => ?_)
    refine xr_V0 A bX5_goesOn (wX5_goesOn D m1).2 xc_X5 (wX5_goesOn D m1).1 q1604 qs45 q1602 (av := []) (rest := []) rfl dX5_eatsSign_27 (Nat.le_of_ble_eq_true rfl) (Nat.le_of_ble_eq_true rfl) rfl (Nat.le_of_ble_eq_true rfl) ?_
    refine xr_iload_n A dX5_eatsSign_30 0 rfl rfl ?_
    replace hf := ab_rqE hf; obtain ⟨c31, hf⟩ := hf
    exact xr_ireturn A (ab_nZ c31) hf dX5_eatsSign_31
noncomputable def fX5_eatsSign (x : Nat) (p1 : Int32) (h : Hp) : Option (Int32 × Hp) :=
  ab_ck h x 4 <|
  ab_bd (ab_gI h x 4 9) fun v1 =>
  if v1 = (4 : Int32) then (
    ab_bd (ab_gI h x 4 11) fun v2 =>
    if v2 = p1 then (
      fX5_eatsSign_b21 x (1 : Int32) h)
    else (
      fX5_eatsSign_b21 x (0 : Int32) h))
  else (
    fX5_eatsSign_b21 x (0 : Int32) h)
theorem wX5_eatsSign (D : Dd) {x : Nat} {p1 : Int32} {h : Hp} {r : Int32} {h' : Hp} (hf : fX5_eatsSign x p1 h = some (r, h')) : ab_is h x 4 ∧ Ct D 3 63 yX5_eatsSign cX5_eatsSign 3 (some FieldType.boolean) [vR (some x), vI p1] h (.inl (some (vI r))) h' := by
    unfold fX5_eatsSign at hf
    replace hf := ab_ckE hf; obtain ⟨i0, hf⟩ := hf
    refine ⟨i0, ?_⟩
    refine Ct.of (by decide) (L := [(0, vR (some x)), (1, vI p1)]) rfl (Nat.le_of_ble_eq_true rfl) (fun C A => ?_)
    refine xr_aload_n A dX5_eatsSign_0 0 rfl rfl ?_
    revert hf; refine ab_bdI (fun v1 mv1 hf => ?_)
    refine xr_get A xc_X5 in_X5 9 (Nat.le_of_ble_eq_true rfl) q1307 rfl (ab_gIE mv1) dX5_eatsSign_1 ?_
    refine xr_iconst A (v := 4) dX5_eatsSign_4 (by decide) ?_
    refine xr_icmp_ne A (tgt := 20) dX5_eatsSign_5 (by decide) (fun c5 => ?_) (fun c5 => ?_)
    · replace hf := ab_in c5 hf
      refine xr_iconst A (v := 0) dX5_eatsSign_20 (by decide) ?_
      refine X.sub [0] rfl ?_
      exact wX5_eatsSign_b21 A hf
    · replace hf := ab_ip c5 hf
      refine xr_aload_n A dX5_eatsSign_8 0 rfl rfl ?_
      revert hf; refine ab_bdI (fun v2 mv2 hf => ?_)
      refine xr_get A xc_X5 in_X5 11 (Nat.le_of_ble_eq_true rfl) q1309 rfl (ab_gIE mv2) dX5_eatsSign_9 ?_
      refine xr_iload_n A dX5_eatsSign_12 1 rfl rfl ?_
      refine xr_icmp_ne A (tgt := 20) dX5_eatsSign_13 (by decide) (fun c13 => ?_) (fun c13 => ?_)
      · replace hf := ab_in c13 hf
        refine xr_iconst A (v := 0) dX5_eatsSign_20 (by decide) ?_
        refine X.sub [0] rfl ?_
        exact wX5_eatsSign_b21 A hf
      · replace hf := ab_ip c13 hf
        refine xr_iconst A (v := 1) dX5_eatsSign_16 (by decide) ?_
        refine xr_goto A (tgt := 21) dX5_eatsSign_17 (by decide) ?_
        refine X.sub [0] rfl ?_
        exact wX5_eatsSign_b21 A hf
/-! X5_readHelper -/
theorem bX5_readHelper : MB yX5_readHelper cX5_readHelper 4 (none : Option FieldType) 0 := ⟨q1740, q99, by decide, by decide +kernel⟩
noncomputable def fX5_readHelper_b74 (x : Nat) (K36 : Int32 → Int32 → Hp → Option Hp) (l1 : Int32) (h : Hp) : Option Hp :=
  ab_b2 (fX5_readWhole x (0 : Int32) (6 : Int32) h) fun v3 h2 =>
  ab_bd (ab_gI h2 x 4 9) fun v4 =>
  if v4 = (5 : Int32) then (
    some h2)
  else (
    ab_b2 (fX5_eatsSign x (44 : Int32) h2) fun v7 h6 =>
    K36 (l1 ||| ((1 : Int32) <<< (v3 &&& 31))) v7 h6)
theorem wX5_readHelper_b74 {D : Dd} {C : Cx} {h0 h' : Hp} (A : Act C D (h0, (.inl none), h') yX5_readHelper cX5_readHelper 4 (none : Option FieldType) 9 193 []) {x : Nat} {K36 : Int32 → Int32 → Hp → Option Hp} (hK36 : ∀ {l1 : Int32} {l2 : Int32} {h : Hp}, K36 l1 l2 h = some h' → X C D (h0, (.inl none), h') 4 36 [(0, vR (some x)), (1, vI l1), (2, vI l2)] [] h) {l1 : Int32} {h : Hp} (hf : fX5_readHelper_b74 x K36 l1 h = some h') : X C D (h0, (.inl none), h') 4 74 [(0, vR (some x)), (1, vI l1)] [] h := by
  unfold fX5_readHelper_b74 at hf
  refine xr_aload_n A dX5_readHelper_74 0 rfl rfl ?_
  refine xr_iconst A (v := 0) dX5_readHelper_75 (by decide) ?_
  refine xr_bipush A (v := 6) dX5_readHelper_76 (by decide) ?_
  revert hf; refine ab_b2I (fun v3 h2 m1 hf => ?_)
  refine xr_V A bX5_readWhole (wX5_readWhole D m1).2 xc_X5 (wX5_readWhole D m1).1 q1654 qs54 q1652 (av := [vI (0 : Int32), vI (6 : Int32)]) (rest := []) rfl dX5_readHelper_78 (Nat.le_of_ble_eq_true rfl) (Nat.le_of_ble_eq_true rfl) rfl (Nat.le_of_ble_eq_true rfl) ?_
  refine xr_istore_n A dX5_readHelper_81 rfl (Nat.le_of_ble_eq_true rfl) (L' := [(3, vI v3), (0, vR (some x)), (1, vI l1)]) rfl ?_
  refine xr_aload_n A dX5_readHelper_82 1 rfl rfl ?_
  revert hf; refine ab_bdI (fun v4 mv4 hf => ?_)
  refine xr_get A xc_X5 in_X5 9 (Nat.le_of_ble_eq_true rfl) q1307 rfl (ab_gIE mv4) dX5_readHelper_83 ?_
  refine xr_iconst A (v := 5) dX5_readHelper_86 (by decide) ?_
  refine xr_icmp_ne A (tgt := 91) dX5_readHelper_87 (by decide) (fun c87 => ?_) (fun c87 => ?_)
  · replace hf := ab_in c87 hf
    refine xr_iload_n A dX5_readHelper_91 2 rfl rfl ?_
    refine xr_iconst A (v := 1) dX5_readHelper_92 (by decide) ?_
    refine xr_iload_n A dX5_readHelper_93 0 rfl rfl ?_
    refine xr_ishl A dX5_readHelper_94 ?_
    refine xr_ior A dX5_readHelper_95 ?_
    refine xr_istore_n A dX5_readHelper_96 rfl (Nat.le_of_ble_eq_true rfl) (L' := [(1, vI (l1 ||| ((1 : Int32) <<< (v3 &&& 31)))), (3, vI v3), (0, vR (some x))]) rfl ?_
    refine xr_aload_n A dX5_readHelper_97 2 rfl rfl ?_
    refine xr_bipush A (v := 44) dX5_readHelper_98 (by decide) ?_
    revert hf; refine ab_b2I (fun v7 h6 m5 hf => ?_)
    refine xr_V A bX5_eatsSign (wX5_eatsSign D m5).2 xc_X5 (wX5_eatsSign D m5).1 q1744 qs68 q1742 (av := [vI (44 : Int32)]) (rest := []) rfl dX5_readHelper_100 (Nat.le_of_ble_eq_true rfl) (Nat.le_of_ble_eq_true rfl) rfl (Nat.le_of_ble_eq_true rfl) ?_
    refine xr_istore_n A dX5_readHelper_103 rfl (Nat.le_of_ble_eq_true rfl) (L' := [(2, vI v7), (1, vI (l1 ||| ((1 : Int32) <<< (v3 &&& 31)))), (3, vI v3), (0, vR (some x))]) rfl ?_
    refine xr_goto A (tgt := 36) dX5_readHelper_104 (by decide) ?_
    refine X.sub [3, 1, 0] rfl ?_
    exact hK36 hf
  · replace hf := ab_ip c87 hf
    exact xr_return A hf dX5_readHelper_90
noncomputable def fX5_readHelper_l36 (x : Nat) : Nat → Int32 → Int32 → Hp → Option Hp
  | 0, _, _, _ => none
  | n + 1, l1, l2, h =>
  if l2 = 0 then (
    ab_b2 (fX5_readPart x (some (hstr h 30)) (1 : Int32) (7 : Int32) h) fun v3 h2 =>
    ab_bd (ab_gI h2 x 4 9) fun v4 =>
    if v4 = (5 : Int32) then (
      some h2)
    else (
      ab_bd (ab_gR h2 x 4 4) fun v5 =>
      ab_bd v5 fun a6 =>
      ab_bd (ab_gR h2 a6 13 32) fun v7 =>
      ab_bd (ab_gR h2 x 4 4) fun v8 =>
      ab_bd v8 fun a9 =>
      ab_bd (ab_gI h2 a9 13 9) fun v10 =>
      ab_bd v7 fun a11 =>
      ab_bd (ab_sI h2 a11 v10 l1) fun h12 =>
      ab_bd (ab_gR h12 x 4 4) fun v13 =>
      ab_bd v13 fun a14 =>
      ab_bd (ab_gR h12 a14 13 33) fun v15 =>
      ab_bd (ab_gR h12 x 4 4) fun v16 =>
      ab_bd v16 fun a17 =>
      ab_bd (ab_gI h12 a17 13 9) fun v18 =>
      ab_bd v15 fun a19 =>
      ab_bd (ab_sI h12 a19 v18 v3) fun h20 =>
      ab_bd (ab_gR h20 x 4 4) fun v21 =>
      ab_bd v21 fun a22 =>
      ab_bd (ab_gI h20 a22 13 9) fun v23 =>
      ab_bd (ab_pI h20 a22 13 9 (v23 + (1 : Int32))) fun h24 =>
      some h24))
  else (
    ab_bd (ab_gI h x 4 9) fun v25 =>
    if v25 = (3 : Int32) then (
      ab_bd (ab_gI h x 4 12) fun v26 =>
      if (7 : Int32) ≤ v26 then (
        fX5_readHelper_b74 x (fX5_readHelper_l36 x n) l1 h)
      else (
        ab_bd (ab_gI h x 4 12) fun v27 =>
        if ((l1 >>> (v27 &&& 31)) &&& (1 : Int32)) = (1 : Int32) then (
          ab_bd (fX5_wrong x (3 : Int32) h) fun h29 =>
          fX5_readHelper_b74 x (fX5_readHelper_l36 x n) l1 h29)
        else (
          fX5_readHelper_b74 x (fX5_readHelper_l36 x n) l1 h)))
    else (
      fX5_readHelper_b74 x (fX5_readHelper_l36 x n) l1 h))
theorem wX5_readHelper_l36 {D : Dd} {C : Cx} {h0 h' : Hp} (A : Act C D (h0, (.inl none), h') yX5_readHelper cX5_readHelper 4 (none : Option FieldType) 9 193 []) {x : Nat} : ∀ (n : Nat) {l1 : Int32} {l2 : Int32} {h : Hp}, fX5_readHelper_l36 x n l1 l2 h = some h' → X C D (h0, (.inl none), h') 4 36 [(0, vR (some x)), (1, vI l1), (2, vI l2)] [] h := by
  intro n
  induction n with
  | zero => intro l1 l2 h hf; exact ab_no hf
  | succ n ih =>
    intro l1 l2 h hf
    unfold fX5_readHelper_l36 at hf
    refine xr_iload_n A dX5_readHelper_36 2 rfl rfl ?_
    refine xr_if_eq A (tgt := 107) dX5_readHelper_37 (by decide) (fun c37 => ?_) (fun c37 => ?_)
    · replace hf := ab_ip c37 hf
      refine xr_aload_n A dX5_readHelper_107 0 rfl rfl ?_
      refine xr_ldcsw A t1746 dX5_readHelper_108 ?_
      refine xr_iconst A (v := 1) dX5_readHelper_111 (by decide) ?_
      refine xr_bipush A (v := 7) dX5_readHelper_112 (by decide) ?_
      revert hf; refine ab_b2I (fun v3 h2 m1 hf => ?_)
      refine xr_V A bX5_readPart (wX5_readPart D m1).2 xc_X5 (wX5_readPart D m1).1 q1646 qs52 q1644 (av := [vR (some (hstr h 30)), vI (1 : Int32), vI (7 : Int32)]) (rest := []) rfl dX5_readHelper_114 (Nat.le_of_ble_eq_true rfl) (Nat.le_of_ble_eq_true rfl) rfl (Nat.le_of_ble_eq_true rfl) ?_
      refine xr_istore_n A dX5_readHelper_117 rfl (Nat.le_of_ble_eq_true rfl) (L' := [(3, vI v3), (0, vR (some x)), (1, vI l1), (2, vI l2)]) rfl ?_
      refine xr_aload_n A dX5_readHelper_118 1 rfl rfl ?_
      revert hf; refine ab_bdI (fun v4 mv4 hf => ?_)
      refine xr_get A xc_X5 in_X5 9 (Nat.le_of_ble_eq_true rfl) q1307 rfl (ab_gIE mv4) dX5_readHelper_119 ?_
      refine xr_iconst A (v := 5) dX5_readHelper_122 (by decide) ?_
      refine xr_icmp_ne A (tgt := 127) dX5_readHelper_123 (by decide) (fun c123 => ?_) (fun c123 => ?_)
      · replace hf := ab_in c123 hf
        refine xr_aload_n A dX5_readHelper_127 1 rfl rfl ?_
        revert hf; refine ab_bdI (fun v5 mv5 hf => ?_)
        refine xr_get A xc_X5 in_X5 4 (Nat.le_of_ble_eq_true rfl) q1302 rfl (ab_gRE mv5) dX5_readHelper_128 ?_
        revert hf; refine ab_bdI (fun a6 e hf => ?_); subst e
        revert hf; refine ab_bdI (fun v7 mv7 hf => ?_)
        refine xr_getN A xc_X15 in_X15 32 (Nat.le_of_ble_eq_true rfl) n1516 rfl (ab_gRE mv7) dX5_readHelper_131 ?_
        refine xr_aload_n A dX5_readHelper_134 1 rfl rfl ?_
        revert hf; refine ab_bdI (fun v8 mv8 hf => ?_)
        refine xr_get A xc_X5 in_X5 4 (Nat.le_of_ble_eq_true rfl) q1302 rfl (ab_gRE mv8) dX5_readHelper_135 ?_
        revert hf; refine ab_bdI (fun a9 e hf => ?_); subst e
        revert hf; refine ab_bdI (fun v10 mv10 hf => ?_)
        refine xr_getN A xc_X15 in_X15 9 (Nat.le_of_ble_eq_true rfl) n1470 rfl (ab_gIE mv10) dX5_readHelper_138 ?_
        refine xr_iload_n A dX5_readHelper_141 2 rfl rfl ?_
        revert hf; refine ab_bdI (fun a11 e hf => ?_); subst e
        revert hf; refine ab_bdI (fun h12 mh12 hf => ?_)
        refine xr_iastore A mh12 dX5_readHelper_142 ?_
        refine xr_aload_n A dX5_readHelper_143 1 rfl rfl ?_
        revert hf; refine ab_bdI (fun v13 mv13 hf => ?_)
        refine xr_get A xc_X5 in_X5 4 (Nat.le_of_ble_eq_true rfl) q1302 rfl (ab_gRE mv13) dX5_readHelper_144 ?_
        revert hf; refine ab_bdI (fun a14 e hf => ?_); subst e
        revert hf; refine ab_bdI (fun v15 mv15 hf => ?_)
        refine xr_getN A xc_X15 in_X15 33 (Nat.le_of_ble_eq_true rfl) n1518 rfl (ab_gRE mv15) dX5_readHelper_147 ?_
        refine xr_aload_n A dX5_readHelper_150 1 rfl rfl ?_
        revert hf; refine ab_bdI (fun v16 mv16 hf => ?_)
        refine xr_get A xc_X5 in_X5 4 (Nat.le_of_ble_eq_true rfl) q1302 rfl (ab_gRE mv16) dX5_readHelper_151 ?_
        revert hf; refine ab_bdI (fun a17 e hf => ?_); subst e
        revert hf; refine ab_bdI (fun v18 mv18 hf => ?_)
        refine xr_getN A xc_X15 in_X15 9 (Nat.le_of_ble_eq_true rfl) n1470 rfl (ab_gIE mv18) dX5_readHelper_154 ?_
        refine xr_iload_n A dX5_readHelper_157 0 rfl rfl ?_
        revert hf; refine ab_bdI (fun a19 e hf => ?_); subst e
        revert hf; refine ab_bdI (fun h20 mh20 hf => ?_)
        refine xr_iastore A mh20 dX5_readHelper_158 ?_
        refine xr_aload_n A dX5_readHelper_159 1 rfl rfl ?_
        revert hf; refine ab_bdI (fun v21 mv21 hf => ?_)
        refine xr_get A xc_X5 in_X5 4 (Nat.le_of_ble_eq_true rfl) q1302 rfl (ab_gRE mv21) dX5_readHelper_160 ?_
        refine xr_dup A dX5_readHelper_163 rfl ?_
        revert hf; refine ab_bdI (fun a22 e hf => ?_); subst e
        revert hf; refine ab_bdI (fun v23 mv23 hf => ?_)
        refine xr_getN A xc_X15 in_X15 9 (Nat.le_of_ble_eq_true rfl) n1470 rfl (ab_gIE mv23) dX5_readHelper_164 ?_
        refine xr_iconst A (v := 1) dX5_readHelper_167 (by decide) ?_
        refine xr_iadd A dX5_readHelper_168 ?_
        revert hf; refine ab_bdI (fun h24 mh24 hf => ?_)
        refine xr_putN A xc_X15 in_X15 tyX15_ok nmX15 9 (Nat.le_of_ble_eq_true rfl) n1470 rfl rfl (v := vI (v23 + (1 : Int32))) rfl rfl mh24 dX5_readHelper_169 ?_
        exact xr_return A hf dX5_readHelper_172
      · replace hf := ab_ip c123 hf
        exact xr_return A hf dX5_readHelper_126
    · replace hf := ab_in c37 hf
      refine xr_aload_n A dX5_readHelper_40 0 rfl rfl ?_
      revert hf; refine ab_bdI (fun v25 mv25 hf => ?_)
      refine xr_get A xc_X5 in_X5 9 (Nat.le_of_ble_eq_true rfl) q1307 rfl (ab_gIE mv25) dX5_readHelper_41 ?_
      refine xr_iconst A (v := 3) dX5_readHelper_44 (by decide) ?_
      refine xr_icmp_ne A (tgt := 74) dX5_readHelper_45 (by decide) (fun c45 => ?_) (fun c45 => ?_)
      · replace hf := ab_in c45 hf
        refine X.sub [0, 1] rfl ?_
        exact wX5_readHelper_b74 A (fun hf => ih hf) hf
      · replace hf := ab_ip c45 hf
        refine xr_aload_n A dX5_readHelper_48 0 rfl rfl ?_
        revert hf; refine ab_bdI (fun v26 mv26 hf => ?_)
        refine xr_get A xc_X5 in_X5 12 (Nat.le_of_ble_eq_true rfl) q1310 rfl (ab_gIE mv26) dX5_readHelper_49 ?_
        refine xr_bipush A (v := 7) dX5_readHelper_52 (by decide) ?_
        refine xr_icmp_ge A (tgt := 74) dX5_readHelper_54 (by decide) (fun c54 => ?_) (fun c54 => ?_)
        · replace hf := ab_ip c54 hf
          refine X.sub [0, 1] rfl ?_
          exact wX5_readHelper_b74 A (fun hf => ih hf) hf
        · replace hf := ab_in c54 hf
          refine xr_iload_n A dX5_readHelper_57 1 rfl rfl ?_
          refine xr_aload_n A dX5_readHelper_58 0 rfl rfl ?_
          revert hf; refine ab_bdI (fun v27 mv27 hf => ?_)
          refine xr_get A xc_X5 in_X5 12 (Nat.le_of_ble_eq_true rfl) q1310 rfl (ab_gIE mv27) dX5_readHelper_59 ?_
          refine xr_ishr A dX5_readHelper_62 ?_
          refine xr_iconst A (v := 1) dX5_readHelper_63 (by decide) ?_
          refine xr_iand A dX5_readHelper_64 ?_
          refine xr_iconst A (v := 1) dX5_readHelper_65 (by decide) ?_
          refine xr_icmp_ne A (tgt := 74) dX5_readHelper_66 (by decide) (fun c66 => ?_) (fun c66 => ?_)
          · replace hf := ab_in c66 hf
            refine X.sub [0, 1] rfl ?_
            exact wX5_readHelper_b74 A (fun hf => ih hf) hf
          · replace hf := ab_ip c66 hf
            refine xr_aload_n A dX5_readHelper_69 0 rfl rfl ?_
            refine xr_iconst A (v := 3) dX5_readHelper_70 (by decide) ?_
            revert hf; refine ab_bdI (fun h29 m28 hf => ?_)
            refine xr_V0 A bX5_wrong (wX5_wrong D m28).2 xc_X5 (wX5_wrong D m28).1 q1641 qs51 q1639 (av := [vI (3 : Int32)]) (rest := []) rfl dX5_readHelper_71 (Nat.le_of_ble_eq_true rfl) (Nat.le_of_ble_eq_true rfl) rfl (Nat.le_of_ble_eq_true rfl) ?_
            refine X.sub [0, 1] rfl ?_
            exact wX5_readHelper_b74 A (fun hf => ih hf) hf
noncomputable def fX5_readHelper (x : Nat) (h : Hp) : Option Hp :=
  ab_ck h x 4 <|
  ab_bd (ab_gR h x 4 4) fun v1 =>
  ab_bd v1 fun a2 =>
  ab_bd (ab_gI h a2 13 9) fun v3 =>
  ab_bd (fX5_readNamed x v3 (5 : Int32) (3 : Int32) h) fun h5 =>
  ab_bd (fX5_needs x (some (hstr h5 29)) h5) fun h7 =>
  ab_bd (ab_gI h7 x 4 9) fun v8 =>
  if v8 = (5 : Int32) then (
    fX5_readHelper_l36 x (hfu h7) (0 : Int32) (0 : Int32) h7)
  else (
    fX5_readHelper_l36 x (hfu h7) (0 : Int32) (1 : Int32) h7)
theorem wX5_readHelper (D : Dd) {x : Nat} {h : Hp} {h' : Hp} (hf : fX5_readHelper x h = some h') : ab_is h x 4 ∧ Ct D 9 193 yX5_readHelper cX5_readHelper 4 (none : Option FieldType) [vR (some x)] h (.inl none) h' := by
    unfold fX5_readHelper at hf
    replace hf := ab_ckE hf; obtain ⟨i0, hf⟩ := hf
    refine ⟨i0, ?_⟩
    refine Ct.of (by decide) (L := [(0, vR (some x))]) rfl (Nat.le_of_ble_eq_true rfl) (fun C A => ?_)
    refine xr_aload_n A dX5_readHelper_0 0 rfl rfl ?_
    refine xr_aload_n A dX5_readHelper_1 0 rfl rfl ?_
    revert hf; refine ab_bdI (fun v1 mv1 hf => ?_)
    refine xr_get A xc_X5 in_X5 4 (Nat.le_of_ble_eq_true rfl) q1302 rfl (ab_gRE mv1) dX5_readHelper_2 ?_
    revert hf; refine ab_bdI (fun a2 e hf => ?_); subst e
    revert hf; refine ab_bdI (fun v3 mv3 hf => ?_)
    refine xr_getN A xc_X15 in_X15 9 (Nat.le_of_ble_eq_true rfl) n1470 rfl (ab_gIE mv3) dX5_readHelper_5 ?_
    refine xr_iconst A (v := 5) dX5_readHelper_8 (by decide) ?_
    refine xr_iconst A (v := 3) dX5_readHelper_9 (by decide) ?_
    revert hf; refine ab_bdI (fun h5 m4 hf => ?_)
    refine xr_V0 A bX5_readNamed (wX5_readNamed D m4).2 xc_X5 (wX5_readNamed D m4).1 q1667 qs56 q1665 (av := [vI v3, vI (5 : Int32), vI (3 : Int32)]) (rest := []) rfl dX5_readHelper_10 (Nat.le_of_ble_eq_true rfl) (Nat.le_of_ble_eq_true rfl) rfl (Nat.le_of_ble_eq_true rfl) ?_
    refine xr_aload_n A dX5_readHelper_13 0 rfl rfl ?_
    refine xr_ldcsw A t1741 dX5_readHelper_14 ?_
    revert hf; refine ab_bdI (fun h7 m6 hf => ?_)
    refine xr_V0 A bX5_needs (wX5_needs D m6).2 xc_X5 (wX5_needs D m6).1 q1650 qs53 q1648 (av := [vR (some (hstr h5 29))]) (rest := []) rfl dX5_readHelper_17 (Nat.le_of_ble_eq_true rfl) (Nat.le_of_ble_eq_true rfl) rfl (Nat.le_of_ble_eq_true rfl) ?_
    refine xr_iconst A (v := 0) dX5_readHelper_20 (by decide) ?_
    refine xr_istore_n A dX5_readHelper_21 rfl (Nat.le_of_ble_eq_true rfl) (L' := [(1, vI (0 : Int32)), (0, vR (some x))]) rfl ?_
    refine xr_aload_n A dX5_readHelper_22 1 rfl rfl ?_
    revert hf; refine ab_bdI (fun v8 mv8 hf => ?_)
    refine xr_get A xc_X5 in_X5 9 (Nat.le_of_ble_eq_true rfl) q1307 rfl (ab_gIE mv8) dX5_readHelper_23 ?_
    refine xr_iconst A (v := 5) dX5_readHelper_26 (by decide) ?_
    refine xr_icmp_eq A (tgt := 34) dX5_readHelper_27 (by decide) (fun c27 => ?_) (fun c27 => ?_)
    · replace hf := ab_ip c27 hf
      refine xr_iconst A (v := 0) dX5_readHelper_34 (by decide) ?_
      refine xr_istore_n A dX5_readHelper_35 rfl (Nat.le_of_ble_eq_true rfl) (L' := [(2, vI (0 : Int32)), (1, vI (0 : Int32)), (0, vR (some x))]) rfl ?_
      refine X.sub [2, 1, 0] rfl ?_
      exact wX5_readHelper_l36 A _ hf
    · replace hf := ab_in c27 hf
      refine xr_iconst A (v := 1) dX5_readHelper_30 (by decide) ?_
      refine xr_goto A (tgt := 35) dX5_readHelper_31 (by decide) ?_
      refine xr_istore_n A dX5_readHelper_35 rfl (Nat.le_of_ble_eq_true rfl) (L' := [(2, vI (1 : Int32)), (1, vI (0 : Int32)), (0, vR (some x))]) rfl ?_
      refine X.sub [2, 1, 0] rfl ?_
      exact wX5_readHelper_l36 A _ hf
/-! X5_readLine -/
theorem bX5_readLine : MB yX5_readLine cX5_readLine 1 (none : Option FieldType) 0 := ⟨q1624, q99, by decide, by decide +kernel⟩
noncomputable def fX5_readLine (x : Nat) (h : Hp) : Option Hp :=
  ab_ck h x 4 <|
  ab_b2 (fX5_isWord x (some (hstr h 1)) h) fun v3 h2 =>
  if v3 = 0 then (
    ab_b2 (fX5_isWord x (some (hstr h2 2)) h2) fun v6 h5 =>
    if v6 = 0 then (
      ab_b2 (fX5_isWord x (some (hstr h5 3)) h5) fun v9 h8 =>
      if v9 = 0 then (
        ab_b2 (fX5_isWord x (some (hstr h8 4)) h8) fun v12 h11 =>
        if v12 = 0 then (
          ab_b2 (fX5_isWord x (some (hstr h11 5)) h11) fun v15 h14 =>
          if v15 = 0 then (
            ab_b2 (fX5_isWord x (some (hstr h14 6)) h14) fun v18 h17 =>
            if v18 = 0 then (
              ab_b2 (fX5_isWord x (some (hstr h17 7)) h17) fun v21 h20 =>
              if v21 = 0 then (
                ab_b2 (fX5_isWord x (some (hstr h20 8)) h20) fun v24 h23 =>
                if v24 = 0 then (
                  ab_b2 (fX5_isWord x (some (hstr h23 9)) h23) fun v27 h26 =>
                  if v27 = 0 then (
                    ab_bd (fX5_wrong x (1 : Int32) h26) fun h29 =>
                    some h29)
                  else (
                    ab_bd (fX5_readHelper x h26) fun h31 =>
                    some h31))
                else (
                  ab_bd (fX5_readCall x h23) fun h33 =>
                  some h33))
              else (
                ab_bd (fX5_readCar x h20) fun h35 =>
                some h35))
            else (
              ab_bd (fX5_readHouse x h17) fun h37 =>
              some h37))
          else (
            ab_bd (fX5_readDiet x h14) fun h39 =>
            some h39))
        else (
          ab_bd (fX5_readDish x h11) fun h41 =>
          some h41))
      else (
        ab_bd (fX5_readFlood x h8) fun h43 =>
        some h43))
    else (
      ab_bd (fX5_readKitchen x h5) fun h45 =>
      some h45))
  else (
    ab_bd (fX5_readLaw x h2) fun h47 =>
    some h47)
theorem wX5_readLine (D : Dd) {x : Nat} {h : Hp} {h' : Hp} (hf : fX5_readLine x h = some h') : ab_is h x 4 ∧ Ct D 10 221 yX5_readLine cX5_readLine 1 (none : Option FieldType) [vR (some x)] h (.inl none) h' := by
    unfold fX5_readLine at hf
    replace hf := ab_ckE hf; obtain ⟨i0, hf⟩ := hf
    refine ⟨i0, ?_⟩
    refine Ct.of (by decide) (L := [(0, vR (some x))]) rfl (Nat.le_of_ble_eq_true rfl) (fun C A => ?_)
    refine xr_aload_n A dX5_readLine_0 0 rfl rfl ?_
    refine xr_ldcs A t1625 dX5_readLine_1 ?_
    revert hf; refine ab_b2I (fun v3 h2 m1 hf => ?_)
    refine xr_V A bX5_isWord (wX5_isWord D m1).2 xc_X5 (wX5_isWord D m1).1 q1628 qs49 q1626 (av := [vR (some (hstr h 1))]) (rest := []) rfl dX5_readLine_3 (Nat.le_of_ble_eq_true rfl) (Nat.le_of_ble_eq_true rfl) rfl (Nat.le_of_ble_eq_true rfl) ?_
    refine xr_if_eq A (tgt := 16) dX5_readLine_6 (by decide) (fun c6 => ?_) (fun c6 => ?_)
    · replace hf := ab_ip c6 hf
      refine xr_aload_n A dX5_readLine_16 0 rfl rfl ?_
      refine xr_ldcs A t1660 dX5_readLine_17 ?_
      revert hf; refine ab_b2I (fun v6 h5 m4 hf => ?_)
      refine xr_V A bX5_isWord (wX5_isWord D m4).2 xc_X5 (wX5_isWord D m4).1 q1628 qs49 q1626 (av := [vR (some (hstr h2 2))]) (rest := []) rfl dX5_readLine_19 (Nat.le_of_ble_eq_true rfl) (Nat.le_of_ble_eq_true rfl) rfl (Nat.le_of_ble_eq_true rfl) ?_
      refine xr_if_eq A (tgt := 32) dX5_readLine_22 (by decide) (fun c22 => ?_) (fun c22 => ?_)
      · replace hf := ab_ip c22 hf
        refine xr_aload_n A dX5_readLine_32 0 rfl rfl ?_
        refine xr_ldcs A t1673 dX5_readLine_33 ?_
        revert hf; refine ab_b2I (fun v9 h8 m7 hf => ?_)
        refine xr_V A bX5_isWord (wX5_isWord D m7).2 xc_X5 (wX5_isWord D m7).1 q1628 qs49 q1626 (av := [vR (some (hstr h5 3))]) (rest := []) rfl dX5_readLine_35 (Nat.le_of_ble_eq_true rfl) (Nat.le_of_ble_eq_true rfl) rfl (Nat.le_of_ble_eq_true rfl) ?_
        refine xr_if_eq A (tgt := 48) dX5_readLine_38 (by decide) (fun c38 => ?_) (fun c38 => ?_)
        · replace hf := ab_ip c38 hf
          refine xr_aload_n A dX5_readLine_48 0 rfl rfl ?_
          refine xr_ldcs A t1674 dX5_readLine_49 ?_
          revert hf; refine ab_b2I (fun v12 h11 m10 hf => ?_)
          refine xr_V A bX5_isWord (wX5_isWord D m10).2 xc_X5 (wX5_isWord D m10).1 q1628 qs49 q1626 (av := [vR (some (hstr h8 4))]) (rest := []) rfl dX5_readLine_51 (Nat.le_of_ble_eq_true rfl) (Nat.le_of_ble_eq_true rfl) rfl (Nat.le_of_ble_eq_true rfl) ?_
          refine xr_if_eq A (tgt := 64) dX5_readLine_54 (by decide) (fun c54 => ?_) (fun c54 => ?_)
          · replace hf := ab_ip c54 hf
            refine xr_aload_n A dX5_readLine_64 0 rfl rfl ?_
            refine xr_ldcs A t1675 dX5_readLine_65 ?_
            revert hf; refine ab_b2I (fun v15 h14 m13 hf => ?_)
            refine xr_V A bX5_isWord (wX5_isWord D m13).2 xc_X5 (wX5_isWord D m13).1 q1628 qs49 q1626 (av := [vR (some (hstr h11 5))]) (rest := []) rfl dX5_readLine_67 (Nat.le_of_ble_eq_true rfl) (Nat.le_of_ble_eq_true rfl) rfl (Nat.le_of_ble_eq_true rfl) ?_
            refine xr_if_eq A (tgt := 80) dX5_readLine_70 (by decide) (fun c70 => ?_) (fun c70 => ?_)
            · replace hf := ab_ip c70 hf
              refine xr_aload_n A dX5_readLine_80 0 rfl rfl ?_
              refine xr_ldcs A t1676 dX5_readLine_81 ?_
              revert hf; refine ab_b2I (fun v18 h17 m16 hf => ?_)
              refine xr_V A bX5_isWord (wX5_isWord D m16).2 xc_X5 (wX5_isWord D m16).1 q1628 qs49 q1626 (av := [vR (some (hstr h14 6))]) (rest := []) rfl dX5_readLine_83 (Nat.le_of_ble_eq_true rfl) (Nat.le_of_ble_eq_true rfl) rfl (Nat.le_of_ble_eq_true rfl) ?_
              refine xr_if_eq A (tgt := 96) dX5_readLine_86 (by decide) (fun c86 => ?_) (fun c86 => ?_)
              · replace hf := ab_ip c86 hf
                refine xr_aload_n A dX5_readLine_96 0 rfl rfl ?_
                refine xr_ldcs A t1677 dX5_readLine_97 ?_
                revert hf; refine ab_b2I (fun v21 h20 m19 hf => ?_)
                refine xr_V A bX5_isWord (wX5_isWord D m19).2 xc_X5 (wX5_isWord D m19).1 q1628 qs49 q1626 (av := [vR (some (hstr h17 7))]) (rest := []) rfl dX5_readLine_99 (Nat.le_of_ble_eq_true rfl) (Nat.le_of_ble_eq_true rfl) rfl (Nat.le_of_ble_eq_true rfl) ?_
                refine xr_if_eq A (tgt := 112) dX5_readLine_102 (by decide) (fun c102 => ?_) (fun c102 => ?_)
                · replace hf := ab_ip c102 hf
                  refine xr_aload_n A dX5_readLine_112 0 rfl rfl ?_
                  refine xr_ldcs A t1678 dX5_readLine_113 ?_
                  revert hf; refine ab_b2I (fun v24 h23 m22 hf => ?_)
                  refine xr_V A bX5_isWord (wX5_isWord D m22).2 xc_X5 (wX5_isWord D m22).1 q1628 qs49 q1626 (av := [vR (some (hstr h20 8))]) (rest := []) rfl dX5_readLine_115 (Nat.le_of_ble_eq_true rfl) (Nat.le_of_ble_eq_true rfl) rfl (Nat.le_of_ble_eq_true rfl) ?_
                  refine xr_if_eq A (tgt := 128) dX5_readLine_118 (by decide) (fun c118 => ?_) (fun c118 => ?_)
                  · replace hf := ab_ip c118 hf
                    refine xr_aload_n A dX5_readLine_128 0 rfl rfl ?_
                    refine xr_ldcs A t1679 dX5_readLine_129 ?_
                    revert hf; refine ab_b2I (fun v27 h26 m25 hf => ?_)
                    refine xr_V A bX5_isWord (wX5_isWord D m25).2 xc_X5 (wX5_isWord D m25).1 q1628 qs49 q1626 (av := [vR (some (hstr h23 9))]) (rest := []) rfl dX5_readLine_131 (Nat.le_of_ble_eq_true rfl) (Nat.le_of_ble_eq_true rfl) rfl (Nat.le_of_ble_eq_true rfl) ?_
                    refine xr_if_eq A (tgt := 144) dX5_readLine_134 (by decide) (fun c134 => ?_) (fun c134 => ?_)
                    · replace hf := ab_ip c134 hf
                      refine xr_aload_n A dX5_readLine_144 0 rfl rfl ?_
                      refine xr_iconst A (v := 1) dX5_readLine_145 (by decide) ?_
                      revert hf; refine ab_bdI (fun h29 m28 hf => ?_)
                      refine xr_V0 A bX5_wrong (wX5_wrong D m28).2 xc_X5 (wX5_wrong D m28).1 q1641 qs51 q1639 (av := [vI (1 : Int32)]) (rest := []) rfl dX5_readLine_146 (Nat.le_of_ble_eq_true rfl) (Nat.le_of_ble_eq_true rfl) rfl (Nat.le_of_ble_eq_true rfl) ?_
                      exact xr_return A hf dX5_readLine_149
                    · replace hf := ab_in c134 hf
                      refine xr_aload_n A dX5_readLine_137 0 rfl rfl ?_
                      revert hf; refine ab_bdI (fun h31 m30 hf => ?_)
                      refine xr_V0 A bX5_readHelper (wX5_readHelper D m30).2 xc_X5 (wX5_readHelper D m30).1 q1739 qs67 q1737 (av := []) (rest := []) rfl dX5_readLine_138 (Nat.le_of_ble_eq_true rfl) (Nat.le_of_ble_eq_true rfl) rfl (Nat.le_of_ble_eq_true rfl) ?_
                      refine xr_goto A (tgt := 149) dX5_readLine_141 (by decide) ?_
                      exact xr_return A hf dX5_readLine_149
                  · replace hf := ab_in c118 hf
                    refine xr_aload_n A dX5_readLine_121 0 rfl rfl ?_
                    revert hf; refine ab_bdI (fun h33 m32 hf => ?_)
                    refine xr_V0 A bX5_readCall (wX5_readCall D m32).2 xc_X5 (wX5_readCall D m32).1 q1734 qs66 q1732 (av := []) (rest := []) rfl dX5_readLine_122 (Nat.le_of_ble_eq_true rfl) (Nat.le_of_ble_eq_true rfl) rfl (Nat.le_of_ble_eq_true rfl) ?_
                    refine xr_goto A (tgt := 149) dX5_readLine_125 (by decide) ?_
                    exact xr_return A hf dX5_readLine_149
                · replace hf := ab_in c102 hf
                  refine xr_aload_n A dX5_readLine_105 0 rfl rfl ?_
                  revert hf; refine ab_bdI (fun h35 m34 hf => ?_)
                  refine xr_V0 A bX5_readCar (wX5_readCar D m34).2 xc_X5 (wX5_readCar D m34).1 q1726 qs65 q1724 (av := []) (rest := []) rfl dX5_readLine_106 (Nat.le_of_ble_eq_true rfl) (Nat.le_of_ble_eq_true rfl) rfl (Nat.le_of_ble_eq_true rfl) ?_
                  refine xr_goto A (tgt := 149) dX5_readLine_109 (by decide) ?_
                  exact xr_return A hf dX5_readLine_149
              · replace hf := ab_in c86 hf
                refine xr_aload_n A dX5_readLine_89 0 rfl rfl ?_
                revert hf; refine ab_bdI (fun h37 m36 hf => ?_)
                refine xr_V0 A bX5_readHouse (wX5_readHouse D m36).2 xc_X5 (wX5_readHouse D m36).1 q1709 qs62 q1707 (av := []) (rest := []) rfl dX5_readLine_90 (Nat.le_of_ble_eq_true rfl) (Nat.le_of_ble_eq_true rfl) rfl (Nat.le_of_ble_eq_true rfl) ?_
                refine xr_goto A (tgt := 149) dX5_readLine_93 (by decide) ?_
                exact xr_return A hf dX5_readLine_149
            · replace hf := ab_in c70 hf
              refine xr_aload_n A dX5_readLine_73 0 rfl rfl ?_
              revert hf; refine ab_bdI (fun h39 m38 hf => ?_)
              refine xr_V0 A bX5_readDiet (wX5_readDiet D m38).2 xc_X5 (wX5_readDiet D m38).1 q1704 qs61 q1702 (av := []) (rest := []) rfl dX5_readLine_74 (Nat.le_of_ble_eq_true rfl) (Nat.le_of_ble_eq_true rfl) rfl (Nat.le_of_ble_eq_true rfl) ?_
              refine xr_goto A (tgt := 149) dX5_readLine_77 (by decide) ?_
              exact xr_return A hf dX5_readLine_149
          · replace hf := ab_in c54 hf
            refine xr_aload_n A dX5_readLine_57 0 rfl rfl ?_
            revert hf; refine ab_bdI (fun h41 m40 hf => ?_)
            refine xr_V0 A bX5_readDish (wX5_readDish D m40).2 xc_X5 (wX5_readDish D m40).1 q1694 qs59 q1692 (av := []) (rest := []) rfl dX5_readLine_58 (Nat.le_of_ble_eq_true rfl) (Nat.le_of_ble_eq_true rfl) rfl (Nat.le_of_ble_eq_true rfl) ?_
            refine xr_goto A (tgt := 149) dX5_readLine_61 (by decide) ?_
            exact xr_return A hf dX5_readLine_149
        · replace hf := ab_in c38 hf
          refine xr_aload_n A dX5_readLine_41 0 rfl rfl ?_
          revert hf; refine ab_bdI (fun h43 m42 hf => ?_)
          refine xr_V0 A bX5_readFlood (wX5_readFlood D m42).2 xc_X5 (wX5_readFlood D m42).1 q1689 qs58 q1687 (av := []) (rest := []) rfl dX5_readLine_42 (Nat.le_of_ble_eq_true rfl) (Nat.le_of_ble_eq_true rfl) rfl (Nat.le_of_ble_eq_true rfl) ?_
          refine xr_goto A (tgt := 149) dX5_readLine_45 (by decide) ?_
          exact xr_return A hf dX5_readLine_149
      · replace hf := ab_in c22 hf
        refine xr_aload_n A dX5_readLine_25 0 rfl rfl ?_
        revert hf; refine ab_bdI (fun h45 m44 hf => ?_)
        refine xr_V0 A bX5_readKitchen (wX5_readKitchen D m44).2 xc_X5 (wX5_readKitchen D m44).1 q1663 qs55 q1661 (av := []) (rest := []) rfl dX5_readLine_26 (Nat.le_of_ble_eq_true rfl) (Nat.le_of_ble_eq_true rfl) rfl (Nat.le_of_ble_eq_true rfl) ?_
        refine xr_goto A (tgt := 149) dX5_readLine_29 (by decide) ?_
        exact xr_return A hf dX5_readLine_149
    · replace hf := ab_in c6 hf
      refine xr_aload_n A dX5_readLine_9 0 rfl rfl ?_
      revert hf; refine ab_bdI (fun h47 m46 hf => ?_)
      refine xr_V0 A bX5_readLaw (wX5_readLaw D m46).2 xc_X5 (wX5_readLaw D m46).1 q1637 qs50 q1635 (av := []) (rest := []) rfl dX5_readLine_10 (Nat.le_of_ble_eq_true rfl) (Nat.le_of_ble_eq_true rfl) rfl (Nat.le_of_ble_eq_true rfl) ?_
      refine xr_goto A (tgt := 149) dX5_readLine_13 (by decide) ?_
      exact xr_return A hf dX5_readLine_149
