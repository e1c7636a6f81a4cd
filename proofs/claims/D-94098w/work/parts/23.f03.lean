set_option maxRecDepth 100000
/-! X1_fault -/
theorem bX1_fault : MB yX1_fault cX1_fault 1 (some FieldType.int) 0 := ⟨q992, q92, by decide, by decide +kernel⟩
noncomputable def fX1_fault (x : Nat) (h : Hp) : Option (Int32 × Hp) :=
  ab_ck h x 0 <|
  ab_bd (ab_gI h x 0 5) fun v1 =>
  some (v1, h)
theorem wX1_fault (D : Dd) {x : Nat} {h : Hp} {r : Int32} {h' : Hp} (hf : fX1_fault x h = some (r, h')) : ab_is h x 0 ∧ Ct D 1 20 yX1_fault cX1_fault 1 (some FieldType.int) [vR (some x)] h (.inl (some (vI r))) h' := by
    unfold fX1_fault at hf
    replace hf := ab_ckE hf; obtain ⟨i0, hf⟩ := hf
    refine ⟨i0, ?_⟩
    refine Ct.of (by decide) (L := [(0, vR (some x))]) rfl (Nat.le_of_ble_eq_true rfl) (fun C A => ?_)
    refine xr_aload_n A dX1_fault_0 0 rfl rfl ?_
    revert hf; refine ab_bdI (fun v1 mv1 hf => ?_)
    refine xr_get A xc_X1 in_X1 5 (Nat.le_of_ble_eq_true rfl) q268 rfl (ab_gIE mv1) dX1_fault_1 ?_
    exact xr_ireturn A rfl hf dX1_fault_4
/-! X1_where -/
theorem bX1_where : MB yX1_where cX1_where 1 (some FieldType.int) 0 := ⟨q996, q92, by decide, by decide +kernel⟩
noncomputable def fX1_where (x : Nat) (h : Hp) : Option (Int32 × Hp) :=
  ab_ck h x 0 <|
  ab_bd (ab_gI h x 0 4) fun v1 =>
  if v1 = (4 : Int32) then (
    ab_bd (ab_gI h x 0 6) fun v2 =>
    some (v2, h))
  else (
    some ((-1 : Int32), h))
theorem wX1_where (D : Dd) {x : Nat} {h : Hp} {r : Int32} {h' : Hp} (hf : fX1_where x h = some (r, h')) : ab_is h x 0 ∧ Ct D 1 20 yX1_where cX1_where 1 (some FieldType.int) [vR (some x)] h (.inl (some (vI r))) h' := by
    unfold fX1_where at hf
    replace hf := ab_ckE hf; obtain ⟨i0, hf⟩ := hf
    refine ⟨i0, ?_⟩
    refine Ct.of (by decide) (L := [(0, vR (some x))]) rfl (Nat.le_of_ble_eq_true rfl) (fun C A => ?_)
    refine xr_aload_n A dX1_where_0 0 rfl rfl ?_
    revert hf; refine ab_bdI (fun v1 mv1 hf => ?_)
    refine xr_get A xc_X1 in_X1 4 (Nat.le_of_ble_eq_true rfl) q267 rfl (ab_gIE mv1) dX1_where_1 ?_
    refine xr_iconst A (v := 4) dX1_where_4 (by decide) ?_
    refine xr_icmp_ne A (tgt := 15) dX1_where_5 (by decide) (fun c5 => ?_) (fun c5 => ?_)
    · replace hf := ab_in c5 hf
      refine xr_iconst A (v := (-1)) dX1_where_15 (by decide) ?_
      exact xr_ireturn A rfl hf dX1_where_16
    · replace hf := ab_ip c5 hf
      refine xr_aload_n A dX1_where_8 0 rfl rfl ?_
      revert hf; refine ab_bdI (fun v2 mv2 hf => ?_)
      refine xr_get A xc_X1 in_X1 6 (Nat.le_of_ble_eq_true rfl) q269 rfl (ab_gIE mv2) dX1_where_9 ?_
      refine xr_goto A (tgt := 16) dX1_where_12 (by decide) ?_
      exact xr_ireturn A rfl hf dX1_where_16
/-! X1_isHouse -/
theorem bX1_isHouse : MB yX1_isHouse cX1_isHouse 2 (some FieldType.boolean) 1 := ⟨q1008, q92, by decide, by decide +kernel⟩
noncomputable def fX1_isHouse (x : Nat) (p1 : Int32) (h : Hp) : Option (Int32 × Hp) :=
  ab_ck h x 0 <|
  ab_bd (ab_gR h x 0 3) fun v1 =>
  ab_on v1 (
    some ((0 : Int32), h)) fun a2 => (
    ab_bd (ab_gR h x 0 3) fun v3 =>
    ab_bd v3 fun a4 =>
    ab_bd (ab_gI h a4 5 12) fun v5 =>
    ab_b2 (fX1_in p1 (0 : Int32) (v5 - (1 : Int32)) h) fun v8 h7 =>
    if v8 = 0 then (
      some ((0 : Int32), h7))
    else (
      some ((1 : Int32), h7)))
theorem wX1_isHouse (D : Dd) {x : Nat} {p1 : Int32} {h : Hp} {r : Int32} {h' : Hp} (hf : fX1_isHouse x p1 h = some (r, h')) : ab_is h x 0 ∧ Ct D 2 42 yX1_isHouse cX1_isHouse 2 (some FieldType.boolean) [vR (some x), vI p1] h (.inl (some (vI r))) h' := by
    unfold fX1_isHouse at hf
    replace hf := ab_ckE hf; obtain ⟨i0, hf⟩ := hf
    refine ⟨i0, ?_⟩
    refine Ct.of (by decide) (L := [(0, vR (some x)), (1, vI p1)]) rfl (Nat.le_of_ble_eq_true rfl) (fun C A => ?_)
    refine xr_aload_n A dX1_isHouse_0 0 rfl rfl ?_
    revert hf; refine ab_bdI (fun v1 mv1 hf => ?_)
    refine xr_get A xc_X1 in_X1 3 (Nat.le_of_ble_eq_true rfl) q266 rfl (ab_gRE mv1) dX1_isHouse_1 ?_
    revert hf; refine ab_onI (fun e hf => ?_) (fun a2 e hf => ?_) <;> subst e
    · refine xr_ifnull A (tgt := 28) dX1_isHouse_4 (by decide) (fun _ => ?_) (fun _ e => by cases e)
      refine xr_iconst A (v := 0) dX1_isHouse_28 (by decide) ?_
      exact xr_ireturn A rfl hf dX1_isHouse_29
    · refine xr_ifnull A (tgt := 28) dX1_isHouse_4 (by decide) (fun e => by cases e) (fun _ _ => ?_)
      refine xr_iload_n A dX1_isHouse_7 1 rfl rfl ?_
      refine xr_iconst A (v := 0) dX1_isHouse_8 (by decide) ?_
      refine xr_aload_n A dX1_isHouse_9 0 rfl rfl ?_
      revert hf; refine ab_bdI (fun v3 mv3 hf => ?_)
      refine xr_get A xc_X1 in_X1 3 (Nat.le_of_ble_eq_true rfl) q266 rfl (ab_gRE mv3) dX1_isHouse_10 ?_
      revert hf; refine ab_bdI (fun a4 e hf => ?_); subst e
      revert hf; refine ab_bdI (fun v5 mv5 hf => ?_)
      refine xr_get A xc_X6 in_X6 12 (Nat.le_of_ble_eq_true rfl) q470 rfl (ab_gIE mv5) dX1_isHouse_13 ?_
      refine xr_iconst A (v := 1) dX1_isHouse_16 (by decide) ?_
      refine xr_isub A dX1_isHouse_17 ?_
      revert hf; refine ab_b2I (fun v8 h7 m6 hf => ?_)
      refine xr_S A bX1_in (wX1_in D m6) q405 q404 (av := [vI p1, vI (0 : Int32), vI (v5 - (1 : Int32))]) (rest := []) rfl dX1_isHouse_18 (Nat.le_of_ble_eq_true rfl) (Nat.le_of_ble_eq_true rfl) rfl (Nat.le_of_ble_eq_true rfl) ?_
      refine xr_if_eq A (tgt := 28) dX1_isHouse_21 (by decide) (fun c21 => ?_) (fun c21 => ?_)
      · replace hf := ab_ip c21 hf
        refine xr_iconst A (v := 0) dX1_isHouse_28 (by decide) ?_
        exact xr_ireturn A rfl hf dX1_isHouse_29
      · replace hf := ab_in c21 hf
        refine xr_iconst A (v := 1) dX1_isHouse_24 (by decide) ?_
        refine xr_goto A (tgt := 29) dX1_isHouse_25 (by decide) ?_
        exact xr_ireturn A rfl hf dX1_isHouse_29
/-! X4_placeOf -/
theorem bX4_placeOf : MB yX4_placeOf cX4_placeOf 3 (some FieldType.int) 1 := ⟨q1016, q98, by decide, by decide +kernel⟩
noncomputable def fX4_placeOf_l2 (x : Nat) : Nat → Int32 → Int32 → Hp → Option (Int32 × Hp)
  | 0, _, _, _ => none
  | n + 1, l1, l2, h =>
  ab_bd (ab_gI h x 3 2) fun v1 =>
  if v1 ≤ l2 then (
    ab_bd (ab_gI h x 3 2) fun v2 =>
    if v2 ≤ l2 then (
      some ((-1 : Int32), h))
    else (
      some (l2, h)))
  else (
    ab_bd (ab_gR h x 3 0) fun v3 =>
    ab_bd v3 fun a4 =>
    ab_bd (ab_aI h a4 0 l2) fun v5 =>
    if v5 = l1 then (
      ab_bd (ab_gI h x 3 2) fun v6 =>
      if v6 ≤ l2 then (
        some ((-1 : Int32), h))
      else (
        some (l2, h)))
    else (
      fX4_placeOf_l2 x n l1 (l2 + (1 : Int32)) h))
theorem wX4_placeOf_l2 {D : Dd} {C : Cx} {h0 h' : Hp} {r : Int32} (A : Act C D (h0, (.inl (some (vI r))), h') yX4_placeOf cX4_placeOf 3 (some FieldType.int) 1 20 []) {x : Nat} : ∀ (n : Nat) {l1 : Int32} {l2 : Int32} {h : Hp}, fX4_placeOf_l2 x n l1 l2 h = some (r, h') → X C D (h0, (.inl (some (vI r))), h') 3 2 [(0, vR (some x)), (1, vI l1), (2, vI l2)] [] h := by
  intro n
  induction n with
  | zero => intro l1 l2 h hf; exact ab_no hf
  | succ n ih =>
    intro l1 l2 h hf
    unfold fX4_placeOf_l2 at hf
    refine xr_iload_n A dX4_placeOf_2 2 rfl rfl ?_
    refine xr_aload_n A dX4_placeOf_3 0 rfl rfl ?_
    revert hf; refine ab_bdI (fun v1 mv1 hf => ?_)
    refine xr_get A xc_X4 in_X4 2 (Nat.le_of_ble_eq_true rfl) q249 rfl (ab_gIE mv1) dX4_placeOf_4 ?_
    refine xr_icmp_ge A (tgt := 26) dX4_placeOf_7 (by decide) (fun c7 => ?_) (fun c7 => ?_)
    · replace hf := ab_ip c7 hf
      refine xr_iload_n A dX4_placeOf_26 2 rfl rfl ?_
      refine xr_aload_n A dX4_placeOf_27 0 rfl rfl ?_
      revert hf; refine ab_bdI (fun v2 mv2 hf => ?_)
      refine xr_get A xc_X4 in_X4 2 (Nat.le_of_ble_eq_true rfl) q249 rfl (ab_gIE mv2) dX4_placeOf_28 ?_
      refine xr_icmp_ge A (tgt := 38) dX4_placeOf_31 (by decide) (fun c31 => ?_) (fun c31 => ?_)
      · replace hf := ab_ip c31 hf
        refine xr_iconst A (v := (-1)) dX4_placeOf_38 (by decide) ?_
        exact xr_ireturn A rfl hf dX4_placeOf_39
      · replace hf := ab_in c31 hf
        refine xr_iload_n A dX4_placeOf_34 2 rfl rfl ?_
        refine xr_goto A (tgt := 39) dX4_placeOf_35 (by decide) ?_
        exact xr_ireturn A rfl hf dX4_placeOf_39
    · replace hf := ab_in c7 hf
      refine xr_aload_n A dX4_placeOf_10 0 rfl rfl ?_
      revert hf; refine ab_bdI (fun v3 mv3 hf => ?_)
      refine xr_get A xc_X4 in_X4 0 (Nat.le_of_ble_eq_true rfl) q245 rfl (ab_gRE mv3) dX4_placeOf_11 ?_
      refine xr_iload_n A dX4_placeOf_14 2 rfl rfl ?_
      revert hf; refine ab_bdI (fun a4 e hf => ?_); subst e
      revert hf; refine ab_bdI (fun v5 mv5 hf => ?_)
      refine xr_iaload A mv5 dX4_placeOf_15 ?_
      refine xr_iload_n A dX4_placeOf_16 1 rfl rfl ?_
      refine xr_icmp_eq A (tgt := 26) dX4_placeOf_17 (by decide) (fun c17 => ?_) (fun c17 => ?_)
      · replace hf := ab_ip c17 hf
        refine xr_iload_n A dX4_placeOf_26 2 rfl rfl ?_
        refine xr_aload_n A dX4_placeOf_27 0 rfl rfl ?_
        revert hf; refine ab_bdI (fun v6 mv6 hf => ?_)
        refine xr_get A xc_X4 in_X4 2 (Nat.le_of_ble_eq_true rfl) q249 rfl (ab_gIE mv6) dX4_placeOf_28 ?_
        refine xr_icmp_ge A (tgt := 38) dX4_placeOf_31 (by decide) (fun c31 => ?_) (fun c31 => ?_)
        · replace hf := ab_ip c31 hf
          refine xr_iconst A (v := (-1)) dX4_placeOf_38 (by decide) ?_
          exact xr_ireturn A rfl hf dX4_placeOf_39
        · replace hf := ab_in c31 hf
          refine xr_iload_n A dX4_placeOf_34 2 rfl rfl ?_
          refine xr_goto A (tgt := 39) dX4_placeOf_35 (by decide) ?_
          exact xr_ireturn A rfl hf dX4_placeOf_39
      · replace hf := ab_in c17 hf
        refine xr_iinc A dX4_placeOf_20 2 rfl (v := (l2 + (1 : Int32))) rfl (Nat.le_of_ble_eq_true rfl) (L' := [(2, vI (l2 + (1 : Int32))), (0, vR (some x)), (1, vI l1)]) rfl ?_
        refine xr_goto A (tgt := 2) dX4_placeOf_23 (by decide) ?_
        refine X.sub [1, 2, 0] rfl ?_
        exact ih hf
noncomputable def fX4_placeOf (x : Nat) (p1 : Int32) (h : Hp) : Option (Int32 × Hp) :=
  ab_ck h x 3 <|
  fX4_placeOf_l2 x (hfu h) p1 (0 : Int32) h
theorem wX4_placeOf (D : Dd) {x : Nat} {p1 : Int32} {h : Hp} {r : Int32} {h' : Hp} (hf : fX4_placeOf x p1 h = some (r, h')) : ab_is h x 3 ∧ Ct D 1 20 yX4_placeOf cX4_placeOf 3 (some FieldType.int) [vR (some x), vI p1] h (.inl (some (vI r))) h' := by
    unfold fX4_placeOf at hf
    replace hf := ab_ckE hf; obtain ⟨i0, hf⟩ := hf
    refine ⟨i0, ?_⟩
    refine Ct.of (by decide) (L := [(0, vR (some x)), (1, vI p1)]) rfl (Nat.le_of_ble_eq_true rfl) (fun C A => ?_)
    refine xr_iconst A (v := 0) dX4_placeOf_0 (by decide) ?_
    refine xr_istore_n A dX4_placeOf_1 rfl (Nat.le_of_ble_eq_true rfl) (L' := [(2, vI (0 : Int32)), (0, vR (some x)), (1, vI p1)]) rfl ?_
    refine X.sub [1, 2, 0] rfl ?_
    exact wX4_placeOf_l2 A _ hf
/-! X1_carOf -/
theorem bX1_carOf : MB yX1_carOf cX1_carOf 3 (some FieldType.int) 1 := ⟨q1012, q92, by decide, by decide +kernel⟩
noncomputable def fX1_carOf_l2 (x : Nat) : Nat → Int32 → Int32 → Hp → Option (Int32 × Hp)
  | 0, _, _, _ => none
  | n + 1, l1, l2, h =>
  ab_bd (ab_gR h x 0 3) fun v1 =>
  ab_bd v1 fun a2 =>
  ab_bd (ab_gI h a2 5 13) fun v3 =>
  if v3 ≤ l2 then (
    ab_bd (ab_gR h x 0 3) fun v4 =>
    ab_bd v4 fun a5 =>
    ab_bd (ab_gI h a5 5 13) fun v6 =>
    if v6 ≤ l2 then (
      some ((-1 : Int32), h))
    else (
      some (l2, h)))
  else (
    ab_bd (ab_gR h x 0 8) fun v7 =>
    ab_bd v7 fun a8 =>
    ab_bd (ab_aR h a8 5 l2) fun v9 =>
    ab_bd v9 fun a10 =>
    ab_b2 (fX4_placeOf a10 l1 h) fun v13 h12 =>
    if v13 = (-1 : Int32) then (
      fX1_carOf_l2 x n l1 (l2 + (1 : Int32)) h12)
    else (
      ab_bd (ab_gR h12 x 0 3) fun v14 =>
      ab_bd v14 fun a15 =>
      ab_bd (ab_gI h12 a15 5 13) fun v16 =>
      if v16 ≤ l2 then (
        some ((-1 : Int32), h12))
      else (
        some (l2, h12))))
theorem wX1_carOf_l2 {D : Dd} {C : Cx} {h0 h' : Hp} {r : Int32} (A : Act C D (h0, (.inl (some (vI r))), h') yX1_carOf cX1_carOf 3 (some FieldType.int) 2 42 []) {x : Nat} : ∀ (n : Nat) {l1 : Int32} {l2 : Int32} {h : Hp}, fX1_carOf_l2 x n l1 l2 h = some (r, h') → X C D (h0, (.inl (some (vI r))), h') 3 2 [(0, vR (some x)), (1, vI l1), (2, vI l2)] [] h := by
  intro n
  induction n with
  | zero => intro l1 l2 h hf; exact ab_no hf
  | succ n ih =>
    intro l1 l2 h hf
    unfold fX1_carOf_l2 at hf
    refine xr_iload_n A dX1_carOf_2 2 rfl rfl ?_
    refine xr_aload_n A dX1_carOf_3 0 rfl rfl ?_
    revert hf; refine ab_bdI (fun v1 mv1 hf => ?_)
    refine xr_get A xc_X1 in_X1 3 (Nat.le_of_ble_eq_true rfl) q266 rfl (ab_gRE mv1) dX1_carOf_4 ?_
    revert hf; refine ab_bdI (fun a2 e hf => ?_); subst e
    revert hf; refine ab_bdI (fun v3 mv3 hf => ?_)
    refine xr_get A xc_X6 in_X6 13 (Nat.le_of_ble_eq_true rfl) q473 rfl (ab_gIE mv3) dX1_carOf_7 ?_
    refine xr_icmp_ge A (tgt := 33) dX1_carOf_10 (by decide) (fun c10 => ?_) (fun c10 => ?_)
    · replace hf := ab_ip c10 hf
      refine xr_iload_n A dX1_carOf_33 2 rfl rfl ?_
      refine xr_aload_n A dX1_carOf_34 0 rfl rfl ?_
      revert hf; refine ab_bdI (fun v4 mv4 hf => ?_)
      refine xr_get A xc_X1 in_X1 3 (Nat.le_of_ble_eq_true rfl) q266 rfl (ab_gRE mv4) dX1_carOf_35 ?_
      revert hf; refine ab_bdI (fun a5 e hf => ?_); subst e
      revert hf; refine ab_bdI (fun v6 mv6 hf => ?_)
      refine xr_get A xc_X6 in_X6 13 (Nat.le_of_ble_eq_true rfl) q473 rfl (ab_gIE mv6) dX1_carOf_38 ?_
      refine xr_icmp_ge A (tgt := 48) dX1_carOf_41 (by decide) (fun c41 => ?_) (fun c41 => ?_)
      · replace hf := ab_ip c41 hf
        refine xr_iconst A (v := (-1)) dX1_carOf_48 (by decide) ?_
        exact xr_ireturn A rfl hf dX1_carOf_49
      · replace hf := ab_in c41 hf
        refine xr_iload_n A dX1_carOf_44 2 rfl rfl ?_
        refine xr_goto A (tgt := 49) dX1_carOf_45 (by decide) ?_
        exact xr_ireturn A rfl hf dX1_carOf_49
    · replace hf := ab_in c10 hf
      refine xr_aload_n A dX1_carOf_13 0 rfl rfl ?_
      revert hf; refine ab_bdI (fun v7 mv7 hf => ?_)
      refine xr_get A xc_X1 in_X1 8 (Nat.le_of_ble_eq_true rfl) q271 rfl (ab_gRE mv7) dX1_carOf_14 ?_
      refine xr_iload_n A dX1_carOf_17 2 rfl rfl ?_
      revert hf; refine ab_bdI (fun a8 e hf => ?_); subst e
      revert hf; refine ab_bdI (fun v9 mv9 hf => ?_)
      refine xr_aaload A (t := 5) rfl mv9 dX1_carOf_18 ?_
      refine xr_iload_n A dX1_carOf_19 1 rfl rfl ?_
      revert hf; refine ab_bdI (fun a10 e hf => ?_); subst e
      revert hf; refine ab_b2I (fun v13 h12 m11 hf => ?_)
      refine xr_V A bX4_placeOf (wX4_placeOf D m11).2 xc_X4 (wX4_placeOf D m11).1 q1014 q1015 q1013 (av := [vI l1]) (rest := []) rfl dX1_carOf_20 (Nat.le_of_ble_eq_true rfl) (Nat.le_of_ble_eq_true rfl) rfl (Nat.le_of_ble_eq_true rfl) ?_
      refine xr_iconst A (v := (-1)) dX1_carOf_23 (by decide) ?_
      refine xr_icmp_ne A (tgt := 33) dX1_carOf_24 (by decide) (fun c24 => ?_) (fun c24 => ?_)
      · replace hf := ab_in c24 hf
        refine xr_iload_n A dX1_carOf_33 2 rfl rfl ?_
        refine xr_aload_n A dX1_carOf_34 0 rfl rfl ?_
        revert hf; refine ab_bdI (fun v14 mv14 hf => ?_)
        refine xr_get A xc_X1 in_X1 3 (Nat.le_of_ble_eq_true rfl) q266 rfl (ab_gRE mv14) dX1_carOf_35 ?_
        revert hf; refine ab_bdI (fun a15 e hf => ?_); subst e
        revert hf; refine ab_bdI (fun v16 mv16 hf => ?_)
        refine xr_get A xc_X6 in_X6 13 (Nat.le_of_ble_eq_true rfl) q473 rfl (ab_gIE mv16) dX1_carOf_38 ?_
        refine xr_icmp_ge A (tgt := 48) dX1_carOf_41 (by decide) (fun c41 => ?_) (fun c41 => ?_)
        · replace hf := ab_ip c41 hf
          refine xr_iconst A (v := (-1)) dX1_carOf_48 (by decide) ?_
          exact xr_ireturn A rfl hf dX1_carOf_49
        · replace hf := ab_in c41 hf
          refine xr_iload_n A dX1_carOf_44 2 rfl rfl ?_
          refine xr_goto A (tgt := 49) dX1_carOf_45 (by decide) ?_
          exact xr_ireturn A rfl hf dX1_carOf_49
      · replace hf := ab_ip c24 hf
        refine xr_iinc A dX1_carOf_27 2 rfl (v := (l2 + (1 : Int32))) rfl (Nat.le_of_ble_eq_true rfl) (L' := [(2, vI (l2 + (1 : Int32))), (0, vR (some x)), (1, vI l1)]) rfl ?_
        refine xr_goto A (tgt := 2) dX1_carOf_30 (by decide) ?_
        refine X.sub [1, 2, 0] rfl ?_
        exact ih hf
noncomputable def fX1_carOf (x : Nat) (p1 : Int32) (h : Hp) : Option (Int32 × Hp) :=
  ab_ck h x 0 <|
  fX1_carOf_l2 x (hfu h) p1 (0 : Int32) h
theorem wX1_carOf (D : Dd) {x : Nat} {p1 : Int32} {h : Hp} {r : Int32} {h' : Hp} (hf : fX1_carOf x p1 h = some (r, h')) : ab_is h x 0 ∧ Ct D 2 42 yX1_carOf cX1_carOf 3 (some FieldType.int) [vR (some x), vI p1] h (.inl (some (vI r))) h' := by
    unfold fX1_carOf at hf
    replace hf := ab_ckE hf; obtain ⟨i0, hf⟩ := hf
    refine ⟨i0, ?_⟩
    refine Ct.of (by decide) (L := [(0, vR (some x)), (1, vI p1)]) rfl (Nat.le_of_ble_eq_true rfl) (fun C A => ?_)
    refine xr_iconst A (v := 0) dX1_carOf_0 (by decide) ?_
    refine xr_istore_n A dX1_carOf_1 rfl (Nat.le_of_ble_eq_true rfl) (L' := [(2, vI (0 : Int32)), (0, vR (some x)), (1, vI p1)]) rfl ?_
    refine X.sub [1, 2, 0] rfl ?_
    exact wX1_carOf_l2 A _ hf
/-! X1_drive -/
theorem bX1_drive : MB yX1_drive cX1_drive 4 (some FieldType.int) 2 := ⟨q1000, q92, by decide, by decide +kernel⟩
noncomputable def fX1_drive (x : Nat) (p1 : Int32) (p2 : Int32) (h : Hp) : Option (Int32 × Hp) :=
  ab_ck h x 0 <|
  ab_bd (fX1_anew x h) fun h2 =>
  ab_b2 (fX1_isCar x p1 h2) fun v5 h4 =>
  if v5 = 0 then (
    ab_b2 (fX1_no x (1 : Int32) h4) fun v8 h7 =>
    some (v8, h7))
  else (
    ab_b2 (fX1_isHouse x p2 h4) fun v11 h10 =>
    if v11 = 0 then (
      ab_b2 (fX1_no x (1 : Int32) h10) fun v42 h41 =>
      some (v42, h41))
    else (
      ab_b2 (fX1_carOf x p2 h10) fun v14 h13 =>
      if v14 = (-1 : Int32) then (
        ab_bd (ab_gR h13 x 0 8) fun v15 =>
        ab_bd v15 fun a16 =>
        ab_bd (ab_aR h13 a16 5 p1) fun v17 =>
        ab_bd v17 fun a18 =>
        ab_bd (ab_gI h13 a18 3 2) fun v19 =>
        ab_bd (ab_gR h13 x 0 3) fun v20 =>
        ab_bd v20 fun a21 =>
        ab_bd (ab_gR h13 a21 5 4) fun v22 =>
        ab_bd v22 fun a23 =>
        ab_bd (ab_aR h13 a23 10 p1) fun v24 =>
        ab_bd v24 fun a25 =>
        ab_bd (ab_gI h13 a25 10 4) fun v26 =>
        if v19 = v26 then (
          ab_b2 (fX1_no x (3 : Int32) h13) fun v36 h35 =>
          some (v36, h35))
        else (
          ab_bd (ab_gR h13 a18 3 0) fun v27 =>
          ab_bd (ab_gI h13 a18 3 2) fun v28 =>
          ab_bd v27 fun a29 =>
          ab_bd (ab_sI h13 a29 v28 p2) fun h30 =>
          ab_bd (ab_gI h30 a18 3 2) fun v31 =>
          ab_bd (ab_pI h30 a18 3 2 (v31 + (1 : Int32))) fun h32 =>
          ab_bd (ab_gI h32 a18 3 2) fun v33 =>
          some (v33, h32)))
      else (
        ab_b2 (fX1_no x (5 : Int32) h13) fun v39 h38 =>
        some (v39, h38))))
theorem wX1_drive (D : Dd) {x : Nat} {p1 : Int32} {p2 : Int32} {h : Hp} {r : Int32} {h' : Hp} (hf : fX1_drive x p1 p2 h = some (r, h')) : ab_is h x 0 ∧ Ct D 3 64 yX1_drive cX1_drive 4 (some FieldType.int) [vR (some x), vI p1, vI p2] h (.inl (some (vI r))) h' := by
    unfold fX1_drive at hf
    replace hf := ab_ckE hf; obtain ⟨i0, hf⟩ := hf
    refine ⟨i0, ?_⟩
    refine Ct.of (by decide) (L := [(0, vR (some x)), (1, vI p1), (2, vI p2)]) rfl (Nat.le_of_ble_eq_true rfl) (fun C A => ?_)
    refine xr_aload_n A dX1_drive_0 0 rfl rfl ?_
    revert hf; refine ab_bdI (fun h2 m1 hf => ?_)
    refine xr_V0 A bX1_anew (wX1_anew D m1).2 xc_X1 (wX1_anew D m1).1 q402 qs2 q400 (av := []) (rest := []) rfl dX1_drive_1 (Nat.le_of_ble_eq_true rfl) (Nat.le_of_ble_eq_true rfl) rfl (Nat.le_of_ble_eq_true rfl) ?_
    refine xr_aload_n A dX1_drive_4 0 rfl rfl ?_
    refine xr_iload_n A dX1_drive_5 1 rfl rfl ?_
    revert hf; refine ab_b2I (fun v5 h4 m3 hf => ?_)
    refine xr_V A bX1_isCar (wX1_isCar D m3).2 xc_X1 (wX1_isCar D m3).1 q1003 qs24 q1001 (av := [vI p1]) (rest := []) rfl dX1_drive_6 (Nat.le_of_ble_eq_true rfl) (Nat.le_of_ble_eq_true rfl) rfl (Nat.le_of_ble_eq_true rfl) ?_
    refine xr_if_eq A (tgt := 20) dX1_drive_9 (by decide) (fun c9 => ?_) (fun c9 => ?_)
    · replace hf := ab_ip c9 hf
      refine xr_aload_n A dX1_drive_20 0 rfl rfl ?_
      refine xr_iconst A (v := 1) dX1_drive_21 (by decide) ?_
      revert hf; refine ab_b2I (fun v8 h7 m6 hf => ?_)
      refine xr_V A bX1_no (wX1_no D m6).2 xc_X1 (wX1_no D m6).1 q409 qs3 q407 (av := [vI (1 : Int32)]) (rest := []) rfl dX1_drive_22 (Nat.le_of_ble_eq_true rfl) (Nat.le_of_ble_eq_true rfl) rfl (Nat.le_of_ble_eq_true rfl) ?_
      exact xr_ireturn A rfl hf dX1_drive_25
    · replace hf := ab_in c9 hf
      refine xr_aload_n A dX1_drive_12 0 rfl rfl ?_
      refine xr_iload_n A dX1_drive_13 2 rfl rfl ?_
      revert hf; refine ab_b2I (fun v11 h10 m9 hf => ?_)
      refine xr_V A bX1_isHouse (wX1_isHouse D m9).2 xc_X1 (wX1_isHouse D m9).1 q1007 qs25 q1005 (av := [vI p2]) (rest := []) rfl dX1_drive_14 (Nat.le_of_ble_eq_true rfl) (Nat.le_of_ble_eq_true rfl) rfl (Nat.le_of_ble_eq_true rfl) ?_
      refine xr_if_ne A (tgt := 26) dX1_drive_17 (by decide) (fun c17 => ?_) (fun c17 => ?_)
      · replace hf := ab_in c17 hf
        refine xr_aload_n A dX1_drive_26 0 rfl rfl ?_
        refine xr_iload_n A dX1_drive_27 2 rfl rfl ?_
        revert hf; refine ab_b2I (fun v14 h13 m12 hf => ?_)
        refine xr_V A bX1_carOf (wX1_carOf D m12).2 xc_X1 (wX1_carOf D m12).1 q1011 qs26 q1009 (av := [vI p2]) (rest := []) rfl dX1_drive_28 (Nat.le_of_ble_eq_true rfl) (Nat.le_of_ble_eq_true rfl) rfl (Nat.le_of_ble_eq_true rfl) ?_
        refine xr_iconst A (v := (-1)) dX1_drive_31 (by decide) ?_
        refine xr_icmp_eq A (tgt := 41) dX1_drive_32 (by decide) (fun c32 => ?_) (fun c32 => ?_)
        · replace hf := ab_ip c32 hf
          refine xr_aload_n A dX1_drive_41 0 rfl rfl ?_
          revert hf; refine ab_bdI (fun v15 mv15 hf => ?_)
          refine xr_get A xc_X1 in_X1 8 (Nat.le_of_ble_eq_true rfl) q271 rfl (ab_gRE mv15) dX1_drive_42 ?_
          refine xr_iload_n A dX1_drive_45 1 rfl rfl ?_
          revert hf; refine ab_bdI (fun a16 e hf => ?_); subst e
          revert hf; refine ab_bdI (fun v17 mv17 hf => ?_)
          refine xr_aaload A (t := 5) rfl mv17 dX1_drive_46 ?_
          refine xr_astore_n A dX1_drive_47 rfl (Nat.le_of_ble_eq_true rfl) (L' := [(3, vR v17), (0, vR (some x)), (1, vI p1), (2, vI p2)]) rfl ?_
          refine xr_aload_n A dX1_drive_48 0 rfl rfl ?_
          revert hf; refine ab_bdI (fun a18 e hf => ?_); subst e
          revert hf; refine ab_bdI (fun v19 mv19 hf => ?_)
          refine xr_get A xc_X4 in_X4 2 (Nat.le_of_ble_eq_true rfl) q250 rfl (ab_gIE mv19) dX1_drive_49 ?_
          refine xr_aload_n A dX1_drive_52 1 rfl rfl ?_
          revert hf; refine ab_bdI (fun v20 mv20 hf => ?_)
          refine xr_get A xc_X1 in_X1 3 (Nat.le_of_ble_eq_true rfl) q266 rfl (ab_gRE mv20) dX1_drive_53 ?_
          revert hf; refine ab_bdI (fun a21 e hf => ?_); subst e
          revert hf; refine ab_bdI (fun v22 mv22 hf => ?_)
          refine xr_get A xc_X6 in_X6 4 (Nat.le_of_ble_eq_true rfl) q448 rfl (ab_gRE mv22) dX1_drive_56 ?_
          refine xr_iload_n A dX1_drive_59 2 rfl rfl ?_
          revert hf; refine ab_bdI (fun a23 e hf => ?_); subst e
          revert hf; refine ab_bdI (fun v24 mv24 hf => ?_)
          refine xr_aaload A (t := 10) rfl mv24 dX1_drive_60 ?_
          revert hf; refine ab_bdI (fun a25 e hf => ?_); subst e
          revert hf; refine ab_bdI (fun v26 mv26 hf => ?_)
          refine xr_get A xc_X12 in_X12 4 (Nat.le_of_ble_eq_true rfl) q918 rfl (ab_gIE mv26) dX1_drive_61 ?_
          refine xr_icmp_ne A (tgt := 73) dX1_drive_64 (by decide) (fun c64 => ?_) (fun c64 => ?_)
          · replace hf := ab_in c64 hf
            refine xr_aload_n A dX1_drive_73 0 rfl rfl ?_
            revert hf; refine ab_bdI (fun v27 mv27 hf => ?_)
            refine xr_get A xc_X4 in_X4 0 (Nat.le_of_ble_eq_true rfl) q246 rfl (ab_gRE mv27) dX1_drive_74 ?_
            refine xr_aload_n A dX1_drive_77 0 rfl rfl ?_
            revert hf; refine ab_bdI (fun v28 mv28 hf => ?_)
            refine xr_get A xc_X4 in_X4 2 (Nat.le_of_ble_eq_true rfl) q250 rfl (ab_gIE mv28) dX1_drive_78 ?_
            refine xr_iload_n A dX1_drive_81 3 rfl rfl ?_
            revert hf; refine ab_bdI (fun a29 e hf => ?_); subst e
            revert hf; refine ab_bdI (fun h30 mh30 hf => ?_)
            refine xr_iastore A mh30 dX1_drive_82 ?_
            refine xr_aload_n A dX1_drive_83 0 rfl rfl ?_
            refine xr_dup A dX1_drive_84 rfl ?_
            revert hf; refine ab_bdI (fun v31 mv31 hf => ?_)
            refine xr_get A xc_X4 in_X4 2 (Nat.le_of_ble_eq_true rfl) q250 rfl (ab_gIE mv31) dX1_drive_85 ?_
            refine xr_iconst A (v := 1) dX1_drive_88 (by decide) ?_
            refine xr_iadd A dX1_drive_89 ?_
            revert hf; refine ab_bdI (fun h32 mh32 hf => ?_)
            refine xr_put A xc_X4 in_X4 tyX4_ok nmX4 2 (Nat.le_of_ble_eq_true rfl) q250 rfl rfl (v := vI (v31 + (1 : Int32))) rfl rfl mh32 dX1_drive_90 ?_
            refine xr_aload_n A dX1_drive_93 0 rfl rfl ?_
            revert hf; refine ab_bdI (fun v33 mv33 hf => ?_)
            refine xr_get A xc_X4 in_X4 2 (Nat.le_of_ble_eq_true rfl) q250 rfl (ab_gIE mv33) dX1_drive_94 ?_
            exact xr_ireturn A rfl hf dX1_drive_97
          · replace hf := ab_ip c64 hf
            refine xr_aload_n A dX1_drive_67 1 rfl rfl ?_
            refine xr_iconst A (v := 3) dX1_drive_68 (by decide) ?_
            revert hf; refine ab_b2I (fun v36 h35 m34 hf => ?_)
            refine xr_V A bX1_no (wX1_no D m34).2 xc_X1 (wX1_no D m34).1 q409 qs3 q407 (av := [vI (3 : Int32)]) (rest := []) rfl dX1_drive_69 (Nat.le_of_ble_eq_true rfl) (Nat.le_of_ble_eq_true rfl) rfl (Nat.le_of_ble_eq_true rfl) ?_
            exact xr_ireturn A rfl hf dX1_drive_72
        · replace hf := ab_in c32 hf
          refine xr_aload_n A dX1_drive_35 0 rfl rfl ?_
          refine xr_iconst A (v := 5) dX1_drive_36 (by decide) ?_
          revert hf; refine ab_b2I (fun v39 h38 m37 hf => ?_)
          refine xr_V A bX1_no (wX1_no D m37).2 xc_X1 (wX1_no D m37).1 q409 qs3 q407 (av := [vI (5 : Int32)]) (rest := []) rfl dX1_drive_37 (Nat.le_of_ble_eq_true rfl) (Nat.le_of_ble_eq_true rfl) rfl (Nat.le_of_ble_eq_true rfl) ?_
          exact xr_ireturn A rfl hf dX1_drive_40
      · replace hf := ab_ip c17 hf
        refine xr_aload_n A dX1_drive_20 0 rfl rfl ?_
        refine xr_iconst A (v := 1) dX1_drive_21 (by decide) ?_
        revert hf; refine ab_b2I (fun v42 h41 m40 hf => ?_)
        refine xr_V A bX1_no (wX1_no D m40).2 xc_X1 (wX1_no D m40).1 q409 qs3 q407 (av := [vI (1 : Int32)]) (rest := []) rfl dX1_drive_22 (Nat.le_of_ble_eq_true rfl) (Nat.le_of_ble_eq_true rfl) rfl (Nat.le_of_ble_eq_true rfl) ?_
        exact xr_ireturn A rfl hf dX1_drive_25
/-! X1_unload -/
theorem bX1_unload : MB yX1_unload cX1_unload 3 (some FieldType.int) 1 := ⟨q1020, q92, by decide, by decide +kernel⟩
noncomputable def fX1_unload (x : Nat) (p1 : Int32) (h : Hp) : Option (Int32 × Hp) :=
  ab_ck h x 0 <|
  ab_bd (fX1_anew x h) fun h2 =>
  ab_b2 (fX1_isCar x p1 h2) fun v5 h4 =>
  if v5 = 0 then (
    ab_b2 (fX1_no x (1 : Int32) h4) fun v18 h17 =>
    some (v18, h17))
  else (
    ab_bd (ab_gR h4 x 0 8) fun v6 =>
    ab_bd v6 fun a7 =>
    ab_bd (ab_aR h4 a7 5 p1) fun v8 =>
    ab_bd v8 fun a9 =>
    ab_bd (ab_gI h4 a9 3 2) fun v10 =>
    ab_bd (ab_gR h4 x 0 8) fun v11 =>
    ab_bd v11 fun a12 =>
    ab_bd (ab_aR h4 a12 5 p1) fun v13 =>
    ab_bd v13 fun a14 =>
    ab_bd (ab_pI h4 a14 3 2 (0 : Int32)) fun h15 =>
    some (v10, h15))
theorem wX1_unload (D : Dd) {x : Nat} {p1 : Int32} {h : Hp} {r : Int32} {h' : Hp} (hf : fX1_unload x p1 h = some (r, h')) : ab_is h x 0 ∧ Ct D 3 63 yX1_unload cX1_unload 3 (some FieldType.int) [vR (some x), vI p1] h (.inl (some (vI r))) h' := by
    unfold fX1_unload at hf
    replace hf := ab_ckE hf; obtain ⟨i0, hf⟩ := hf
    refine ⟨i0, ?_⟩
    refine Ct.of (by decide) (L := [(0, vR (some x)), (1, vI p1)]) rfl (Nat.le_of_ble_eq_true rfl) (fun C A => ?_)
    refine xr_aload_n A dX1_unload_0 0 rfl rfl ?_
    revert hf; refine ab_bdI (fun h2 m1 hf => ?_)
    refine xr_V0 A bX1_anew (wX1_anew D m1).2 xc_X1 (wX1_anew D m1).1 q402 qs2 q400 (av := []) (rest := []) rfl dX1_unload_1 (Nat.le_of_ble_eq_true rfl) (Nat.le_of_ble_eq_true rfl) rfl (Nat.le_of_ble_eq_true rfl) ?_
    refine xr_aload_n A dX1_unload_4 0 rfl rfl ?_
    refine xr_iload_n A dX1_unload_5 1 rfl rfl ?_
    revert hf; refine ab_b2I (fun v5 h4 m3 hf => ?_)
    refine xr_V A bX1_isCar (wX1_isCar D m3).2 xc_X1 (wX1_isCar D m3).1 q1003 qs24 q1001 (av := [vI p1]) (rest := []) rfl dX1_unload_6 (Nat.le_of_ble_eq_true rfl) (Nat.le_of_ble_eq_true rfl) rfl (Nat.le_of_ble_eq_true rfl) ?_
    refine xr_if_ne A (tgt := 18) dX1_unload_9 (by decide) (fun c9 => ?_) (fun c9 => ?_)
    · replace hf := ab_in c9 hf
      refine xr_aload_n A dX1_unload_18 0 rfl rfl ?_
      revert hf; refine ab_bdI (fun v6 mv6 hf => ?_)
      refine xr_get A xc_X1 in_X1 8 (Nat.le_of_ble_eq_true rfl) q271 rfl (ab_gRE mv6) dX1_unload_19 ?_
      refine xr_iload_n A dX1_unload_22 1 rfl rfl ?_
      revert hf; refine ab_bdI (fun a7 e hf => ?_); subst e
      revert hf; refine ab_bdI (fun v8 mv8 hf => ?_)
      refine xr_aaload A (t := 5) rfl mv8 dX1_unload_23 ?_
      revert hf; refine ab_bdI (fun a9 e hf => ?_); subst e
      revert hf; refine ab_bdI (fun v10 mv10 hf => ?_)
      refine xr_get A xc_X4 in_X4 2 (Nat.le_of_ble_eq_true rfl) q250 rfl (ab_gIE mv10) dX1_unload_24 ?_
      refine xr_istore_n A dX1_unload_27 rfl (Nat.le_of_ble_eq_true rfl) (L' := [(2, vI v10), (0, vR (some x)), (1, vI p1)]) rfl ?_
      refine xr_aload_n A dX1_unload_28 1 rfl rfl ?_
      revert hf; refine ab_bdI (fun v11 mv11 hf => ?_)
      refine xr_get A xc_X1 in_X1 8 (Nat.le_of_ble_eq_true rfl) q271 rfl (ab_gRE mv11) dX1_unload_29 ?_
      refine xr_iload_n A dX1_unload_32 2 rfl rfl ?_
      revert hf; refine ab_bdI (fun a12 e hf => ?_); subst e
      revert hf; refine ab_bdI (fun v13 mv13 hf => ?_)
      refine xr_aaload A (t := 5) rfl mv13 dX1_unload_33 ?_
      refine xr_iconst A (v := 0) dX1_unload_34 (by decide) ?_
      revert hf; refine ab_bdI (fun a14 e hf => ?_); subst e
      revert hf; refine ab_bdI (fun h15 mh15 hf => ?_)
      refine xr_put A xc_X4 in_X4 tyX4_ok nmX4 2 (Nat.le_of_ble_eq_true rfl) q250 rfl rfl (v := vI (0 : Int32)) rfl rfl mh15 dX1_unload_35 ?_
      refine xr_iload_n A dX1_unload_38 0 rfl rfl ?_
      exact xr_ireturn A rfl hf dX1_unload_39
    · replace hf := ab_ip c9 hf
      refine xr_aload_n A dX1_unload_12 0 rfl rfl ?_
      refine xr_iconst A (v := 1) dX1_unload_13 (by decide) ?_
      revert hf; refine ab_b2I (fun v18 h17 m16 hf => ?_)
      refine xr_V A bX1_no (wX1_no D m16).2 xc_X1 (wX1_no D m16).1 q409 qs3 q407 (av := [vI (1 : Int32)]) (rest := []) rfl dX1_unload_14 (Nat.le_of_ble_eq_true rfl) (Nat.le_of_ble_eq_true rfl) rfl (Nat.le_of_ble_eq_true rfl) ?_
      exact xr_ireturn A rfl hf dX1_unload_17
/-! X1_isSet -/
theorem bX1_isSet : MB yX1_isSet cX1_isSet 2 (some FieldType.boolean) 1 := ⟨q1028, q92, by decide, by decide +kernel⟩
noncomputable def fX1_isSet (x : Nat) (p1 : Int32) (h : Hp) : Option (Int32 × Hp) :=
  ab_ck h x 0 <|
  ab_bd (ab_gR h x 0 3) fun v1 =>
  ab_on v1 (
    some ((0 : Int32), h)) fun a2 => (
    ab_bd (ab_gR h x 0 3) fun v3 =>
    ab_bd v3 fun a4 =>
    ab_bd (ab_gI h a4 5 12) fun v5 =>
    ab_b2 (fX1_in p1 (0 : Int32) (((1 : Int32) <<< (v5 &&& 31)) - (1 : Int32)) h) fun v8 h7 =>
    if v8 = 0 then (
      some ((0 : Int32), h7))
    else (
      some ((1 : Int32), h7)))
theorem wX1_isSet (D : Dd) {x : Nat} {p1 : Int32} {h : Hp} {r : Int32} {h' : Hp} (hf : fX1_isSet x p1 h = some (r, h')) : ab_is h x 0 ∧ Ct D 2 42 yX1_isSet cX1_isSet 2 (some FieldType.boolean) [vR (some x), vI p1] h (.inl (some (vI r))) h' := by
    unfold fX1_isSet at hf
    replace hf := ab_ckE hf; obtain ⟨i0, hf⟩ := hf
    refine ⟨i0, ?_⟩
    refine Ct.of (by decide) (L := [(0, vR (some x)), (1, vI p1)]) rfl (Nat.le_of_ble_eq_true rfl) (fun C A => ?_)
    refine xr_aload_n A dX1_isSet_0 0 rfl rfl ?_
    revert hf; refine ab_bdI (fun v1 mv1 hf => ?_)
    refine xr_get A xc_X1 in_X1 3 (Nat.le_of_ble_eq_true rfl) q266 rfl (ab_gRE mv1) dX1_isSet_1 ?_
    revert hf; refine ab_onI (fun e hf => ?_) (fun a2 e hf => ?_) <;> subst e
    · refine xr_ifnull A (tgt := 30) dX1_isSet_4 (by decide) (fun _ => ?_) (fun _ e => by cases e)
      refine xr_iconst A (v := 0) dX1_isSet_30 (by decide) ?_
      exact xr_ireturn A rfl hf dX1_isSet_31
    · refine xr_ifnull A (tgt := 30) dX1_isSet_4 (by decide) (fun e => by cases e) (fun _ _ => ?_)
      refine xr_iload_n A dX1_isSet_7 1 rfl rfl ?_
      refine xr_iconst A (v := 0) dX1_isSet_8 (by decide) ?_
      refine xr_iconst A (v := 1) dX1_isSet_9 (by decide) ?_
      refine xr_aload_n A dX1_isSet_10 0 rfl rfl ?_
      revert hf; refine ab_bdI (fun v3 mv3 hf => ?_)
      refine xr_get A xc_X1 in_X1 3 (Nat.le_of_ble_eq_true rfl) q266 rfl (ab_gRE mv3) dX1_isSet_11 ?_
      revert hf; refine ab_bdI (fun a4 e hf => ?_); subst e
      revert hf; refine ab_bdI (fun v5 mv5 hf => ?_)
      refine xr_get A xc_X6 in_X6 12 (Nat.le_of_ble_eq_true rfl) q470 rfl (ab_gIE mv5) dX1_isSet_14 ?_
      refine xr_ishl A dX1_isSet_17 ?_
      refine xr_iconst A (v := 1) dX1_isSet_18 (by decide) ?_
      refine xr_isub A dX1_isSet_19 ?_
      revert hf; refine ab_b2I (fun v8 h7 m6 hf => ?_)
      refine xr_S A bX1_in (wX1_in D m6) q405 q404 (av := [vI p1, vI (0 : Int32), vI (((1 : Int32) <<< (v5 &&& 31)) - (1 : Int32))]) (rest := []) rfl dX1_isSet_20 (Nat.le_of_ble_eq_true rfl) (Nat.le_of_ble_eq_true rfl) rfl (Nat.le_of_ble_eq_true rfl) ?_
      refine xr_if_eq A (tgt := 30) dX1_isSet_23 (by decide) (fun c23 => ?_) (fun c23 => ?_)
      · replace hf := ab_ip c23 hf
        refine xr_iconst A (v := 0) dX1_isSet_30 (by decide) ?_
        exact xr_ireturn A rfl hf dX1_isSet_31
      · replace hf := ab_in c23 hf
        refine xr_iconst A (v := 1) dX1_isSet_26 (by decide) ?_
        refine xr_goto A (tgt := 31) dX1_isSet_27 (by decide) ?_
        exact xr_ireturn A rfl hf dX1_isSet_31
/-! X1_yes -/
theorem bX1_yes : MB yX1_yes cX1_yes 2 (some FieldType.boolean) 1 := ⟨q1032, q92, by decide, by decide +kernel⟩
noncomputable def fX1_yes (x : Nat) (p1 : Int32) (h : Hp) : Option (Int32 × Hp) :=
  ab_ck h x 0 <|
  ab_bd (fX1_anew x h) fun h2 =>
  ab_bd (ab_pI h2 x 0 4 p1) fun h3 =>
  if p1 = 0 then (
    some ((1 : Int32), h3))
  else (
    some ((0 : Int32), h3))
theorem wX1_yes (D : Dd) {x : Nat} {p1 : Int32} {h : Hp} {r : Int32} {h' : Hp} (hf : fX1_yes x p1 h = some (r, h')) : ab_is h x 0 ∧ Ct D 2 40 yX1_yes cX1_yes 2 (some FieldType.boolean) [vR (some x), vI p1] h (.inl (some (vI r))) h' := by
    unfold fX1_yes at hf
    replace hf := ab_ckE hf; obtain ⟨i0, hf⟩ := hf
    refine ⟨i0, ?_⟩
    refine Ct.of (by decide) (L := [(0, vR (some x)), (1, vI p1)]) rfl (Nat.le_of_ble_eq_true rfl) (fun C A => ?_)
    refine xr_aload_n A dX1_yes_0 0 rfl rfl ?_
    revert hf; refine ab_bdI (fun h2 m1 hf => ?_)
    refine xr_V0 A bX1_anew (wX1_anew D m1).2 xc_X1 (wX1_anew D m1).1 q402 qs2 q400 (av := []) (rest := []) rfl dX1_yes_1 (Nat.le_of_ble_eq_true rfl) (Nat.le_of_ble_eq_true rfl) rfl (Nat.le_of_ble_eq_true rfl) ?_
    refine xr_aload_n A dX1_yes_4 0 rfl rfl ?_
    refine xr_iload_n A dX1_yes_5 1 rfl rfl ?_
    revert hf; refine ab_bdI (fun h3 mh3 hf => ?_)
    refine xr_put A xc_X1 in_X1 tyX1_ok nmX1 4 (Nat.le_of_ble_eq_true rfl) q267 rfl rfl (v := vI p1) rfl rfl mh3 dX1_yes_6 ?_
    refine xr_iload_n A dX1_yes_9 1 rfl rfl ?_
    refine xr_if_ne A (tgt := 17) dX1_yes_10 (by decide) (fun c10 => ?_) (fun c10 => ?_)
    · replace hf := ab_in c10 hf
      refine xr_iconst A (v := 0) dX1_yes_17 (by decide) ?_
      exact xr_ireturn A rfl hf dX1_yes_18
    · replace hf := ab_ip c10 hf
      refine xr_iconst A (v := 1) dX1_yes_13 (by decide) ?_
      refine xr_goto A (tgt := 18) dX1_yes_14 (by decide) ?_
      exact xr_ireturn A rfl hf dX1_yes_18
/-! X1_tea -/
theorem bX1_tea : MB yX1_tea cX1_tea 2 (some FieldType.boolean) 1 := ⟨q1024, q92, by decide, by decide +kernel⟩
noncomputable def fX1_tea_b25 (x : Nat) (l1 : Int32) (s0 : Int32) (s1 : Nat) (h : Hp) : Option (Int32 × Hp) :=
  ab_b2 (fX1_yes s1 s0 h) fun v3 h2 =>
  if v3 = 0 then (
    some ((0 : Int32), h2))
  else (
    ab_bd (ab_pI h2 x 0 7 l1) fun h4 =>
    some ((1 : Int32), h4))
theorem wX1_tea_b25 {D : Dd} {C : Cx} {h0 h' : Hp} {r : Int32} (A : Act C D (h0, (.inl (some (vI r))), h') yX1_tea cX1_tea 2 (some FieldType.boolean) 3 63 []) {x : Nat} {l1 : Int32} {s0 : Int32} {s1 : Nat} {h : Hp} (hf : fX1_tea_b25 x l1 s0 s1 h = some (r, h')) : X C D (h0, (.inl (some (vI r))), h') 2 25 [(0, vR (some x)), (1, vI l1)] [vI s0, vR (some s1)] h := by
  unfold fX1_tea_b25 at hf
  revert hf; refine ab_b2I (fun v3 h2 m1 hf => ?_)
  refine xr_V A bX1_yes (wX1_yes D m1).2 xc_X1 (wX1_yes D m1).1 q1031 qs28 q1029 (av := [vI s0]) (rest := []) rfl dX1_tea_25 (Nat.le_of_ble_eq_true rfl) (Nat.le_of_ble_eq_true rfl) rfl (Nat.le_of_ble_eq_true rfl) ?_
  refine xr_if_ne A (tgt := 33) dX1_tea_28 (by decide) (fun c28 => ?_) (fun c28 => ?_)
  · replace hf := ab_in c28 hf
    refine xr_aload_n A dX1_tea_33 0 rfl rfl ?_
    refine xr_iload_n A dX1_tea_34 1 rfl rfl ?_
    revert hf; refine ab_bdI (fun h4 mh4 hf => ?_)
    refine xr_put A xc_X1 in_X1 tyX1_ok nmX1 7 (Nat.le_of_ble_eq_true rfl) q270 rfl rfl (v := vI l1) rfl rfl mh4 dX1_tea_35 ?_
    refine xr_iconst A (v := 1) dX1_tea_38 (by decide) ?_
    exact xr_ireturn A rfl hf dX1_tea_39
  · replace hf := ab_ip c28 hf
    refine xr_iconst A (v := 0) dX1_tea_31 (by decide) ?_
    exact xr_ireturn A rfl hf dX1_tea_32
noncomputable def fX1_tea (x : Nat) (p1 : Int32) (h : Hp) : Option (Int32 × Hp) :=
  ab_ck h x 0 <|
  ab_bd (ab_gR h x 0 3) fun v1 =>
  ab_on v1 (
    fX1_tea_b25 x p1 (1 : Int32) x h) fun a2 => (
    ab_b2 (fX1_isSet x p1 h) fun v5 h4 =>
    if v5 = 0 then (
      fX1_tea_b25 x p1 (2 : Int32) x h4)
    else (
      fX1_tea_b25 x p1 (0 : Int32) x h4))
theorem wX1_tea (D : Dd) {x : Nat} {p1 : Int32} {h : Hp} {r : Int32} {h' : Hp} (hf : fX1_tea x p1 h = some (r, h')) : ab_is h x 0 ∧ Ct D 3 63 yX1_tea cX1_tea 2 (some FieldType.boolean) [vR (some x), vI p1] h (.inl (some (vI r))) h' := by
    unfold fX1_tea at hf
    replace hf := ab_ckE hf; obtain ⟨i0, hf⟩ := hf
    refine ⟨i0, ?_⟩
    refine Ct.of (by decide) (L := [(0, vR (some x)), (1, vI p1)]) rfl (Nat.le_of_ble_eq_true rfl) (fun C A => ?_)
    refine xr_aload_n A dX1_tea_0 0 rfl rfl ?_
    refine xr_aload_n A dX1_tea_1 0 rfl rfl ?_
    revert hf; refine ab_bdI (fun v1 mv1 hf => ?_)
    refine xr_get A xc_X1 in_X1 3 (Nat.le_of_ble_eq_true rfl) q266 rfl (ab_gRE mv1) dX1_tea_2 ?_
    revert hf; refine ab_onI (fun e hf => ?_) (fun a2 e hf => ?_) <;> subst e
    · refine xr_ifnonnull A (tgt := 12) dX1_tea_5 (by decide) (fun _ e => by cases e) (fun _ => ?_)
      refine xr_iconst A (v := 1) dX1_tea_8 (by decide) ?_
      refine xr_goto A (tgt := 25) dX1_tea_9 (by decide) ?_
      exact wX1_tea_b25 A hf
    · refine xr_ifnonnull A (tgt := 12) dX1_tea_5 (by decide) (fun _ _ => ?_) (fun e => by cases e)
      refine xr_aload_n A dX1_tea_12 0 rfl rfl ?_
      refine xr_iload_n A dX1_tea_13 1 rfl rfl ?_
      revert hf; refine ab_b2I (fun v5 h4 m3 hf => ?_)
      refine xr_V A bX1_isSet (wX1_isSet D m3).2 xc_X1 (wX1_isSet D m3).1 q1027 qs27 q1025 (av := [vI p1]) (rest := [vR (some x)]) rfl dX1_tea_14 (Nat.le_of_ble_eq_true rfl) (Nat.le_of_ble_eq_true rfl) rfl (Nat.le_of_ble_eq_true rfl) ?_
      refine xr_if_eq A (tgt := 24) dX1_tea_17 (by decide) (fun c17 => ?_) (fun c17 => ?_)
      · replace hf := ab_ip c17 hf
        refine xr_iconst A (v := 2) dX1_tea_24 (by decide) ?_
        exact wX1_tea_b25 A hf
      · replace hf := ab_in c17 hf
        refine xr_iconst A (v := 0) dX1_tea_20 (by decide) ?_
        refine xr_goto A (tgt := 25) dX1_tea_21 (by decide) ?_
        exact wX1_tea_b25 A hf
/-! X1_drivenWhy -/
theorem bX1_drivenWhy : MB yX1_drivenWhy cX1_drivenWhy 2 (some FieldType.int) 1 := ⟨q1040, q92, by decide, by decide +kernel⟩
noncomputable def fX1_drivenWhy (x : Nat) (p1 : Int32) (h : Hp) : Option (Int32 × Hp) :=
  ab_ck h x 0 <|
  ab_b2 (fX1_isHouse x p1 h) fun v3 h2 =>
  if v3 = 0 then (
    some ((1 : Int32), h2))
  else (
    ab_b2 (fX1_carOf x p1 h2) fun v6 h5 =>
    if v6 = (-1 : Int32) then (
      some ((6 : Int32), h5))
    else (
      some ((0 : Int32), h5)))
theorem wX1_drivenWhy (D : Dd) {x : Nat} {p1 : Int32} {h : Hp} {r : Int32} {h' : Hp} (hf : fX1_drivenWhy x p1 h = some (r, h')) : ab_is h x 0 ∧ Ct D 3 64 yX1_drivenWhy cX1_drivenWhy 2 (some FieldType.int) [vR (some x), vI p1] h (.inl (some (vI r))) h' := by
    unfold fX1_drivenWhy at hf
    replace hf := ab_ckE hf; obtain ⟨i0, hf⟩ := hf
    refine ⟨i0, ?_⟩
    refine Ct.of (by decide) (L := [(0, vR (some x)), (1, vI p1)]) rfl (Nat.le_of_ble_eq_true rfl) (fun C A => ?_)
    refine xr_aload_n A dX1_drivenWhy_0 0 rfl rfl ?_
    refine xr_iload_n A dX1_drivenWhy_1 1 rfl rfl ?_
    revert hf; refine ab_b2I (fun v3 h2 m1 hf => ?_)
    refine xr_V A bX1_isHouse (wX1_isHouse D m1).2 xc_X1 (wX1_isHouse D m1).1 q1007 qs25 q1005 (av := [vI p1]) (rest := []) rfl dX1_drivenWhy_2 (Nat.le_of_ble_eq_true rfl) (Nat.le_of_ble_eq_true rfl) rfl (Nat.le_of_ble_eq_true rfl) ?_
    refine xr_if_ne A (tgt := 12) dX1_drivenWhy_5 (by decide) (fun c5 => ?_) (fun c5 => ?_)
    · replace hf := ab_in c5 hf
      refine xr_aload_n A dX1_drivenWhy_12 0 rfl rfl ?_
      refine xr_iload_n A dX1_drivenWhy_13 1 rfl rfl ?_
      revert hf; refine ab_b2I (fun v6 h5 m4 hf => ?_)
      refine xr_V A bX1_carOf (wX1_carOf D m4).2 xc_X1 (wX1_carOf D m4).1 q1011 qs26 q1009 (av := [vI p1]) (rest := []) rfl dX1_drivenWhy_14 (Nat.le_of_ble_eq_true rfl) (Nat.le_of_ble_eq_true rfl) rfl (Nat.le_of_ble_eq_true rfl) ?_
      refine xr_iconst A (v := (-1)) dX1_drivenWhy_17 (by decide) ?_
      refine xr_icmp_ne A (tgt := 26) dX1_drivenWhy_18 (by decide) (fun c18 => ?_) (fun c18 => ?_)
      · replace hf := ab_in c18 hf
        refine xr_iconst A (v := 0) dX1_drivenWhy_26 (by decide) ?_
        exact xr_ireturn A rfl hf dX1_drivenWhy_27
      · replace hf := ab_ip c18 hf
        refine xr_bipush A (v := 6) dX1_drivenWhy_21 (by decide) ?_
        refine xr_goto A (tgt := 27) dX1_drivenWhy_23 (by decide) ?_
        exact xr_ireturn A rfl hf dX1_drivenWhy_27
    · replace hf := ab_ip c5 hf
      refine xr_iconst A (v := 1) dX1_drivenWhy_8 (by decide) ?_
      refine xr_goto A (tgt := 27) dX1_drivenWhy_9 (by decide) ?_
      exact xr_ireturn A rfl hf dX1_drivenWhy_27
/-! X6_way -/
theorem bX6_way : MB yX6_way cX6_way 7 (some FieldType.int) 2 := ⟨q1056, q100, by decide, by decide +kernel⟩
noncomputable def fX6_way_l22 (x : Nat) : Nat → Int32 → Int32 → Int32 → Int32 → Hp → Option (Int32 × Hp)
  | 0, _, _, _, _, _ => none
  | n + 1, l3, l4, l5, l6, h =>
  ab_bd (ab_gI h x 5 16) fun v1 =>
  if v1 ≤ l6 then (
    some (l5, h))
  else (
    ab_bd (ab_gR h x 5 7) fun v2 =>
    ab_bd v2 fun a3 =>
    ab_bd (ab_aI h a3 0 l6) fun v4 =>
    if v4 < l3 then (
      fX6_way_l22 x n l3 l4 (l5 + (0 : Int32)) (l6 + (1 : Int32)) h)
    else (
      ab_bd (ab_gR h x 5 7) fun v5 =>
      ab_bd v5 fun a6 =>
      ab_bd (ab_aI h a6 0 l6) fun v7 =>
      if l4 ≤ v7 then (
        fX6_way_l22 x n l3 l4 (l5 + (0 : Int32)) (l6 + (1 : Int32)) h)
      else (
        ab_bd (ab_gR h x 5 8) fun v8 =>
        ab_bd v8 fun a9 =>
        ab_bd (ab_aI h a9 0 l6) fun v10 =>
        fX6_way_l22 x n l3 l4 (l5 + v10) (l6 + (1 : Int32)) h)))
theorem wX6_way_l22 {D : Dd} {C : Cx} {h0 h' : Hp} {r : Int32} (A : Act C D (h0, (.inl (some (vI r))), h') yX6_way cX6_way 7 (some FieldType.int) 1 21 []) {x : Nat} : ∀ (n : Nat) {l3 : Int32} {l4 : Int32} {l5 : Int32} {l6 : Int32} {h : Hp}, fX6_way_l22 x n l3 l4 l5 l6 h = some (r, h') → X C D (h0, (.inl (some (vI r))), h') 7 22 [(0, vR (some x)), (3, vI l3), (4, vI l4), (5, vI l5), (6, vI l6)] [] h := by
  intro n
  induction n with
  | zero => intro l3 l4 l5 l6 h hf; exact ab_no hf
  | succ n ih =>
    intro l3 l4 l5 l6 h hf
    unfold fX6_way_l22 at hf
    refine xr_iload A dX6_way_22 4 rfl ?_
    refine xr_aload_n A dX6_way_24 0 rfl rfl ?_
    revert hf; refine ab_bdI (fun v1 mv1 hf => ?_)
    refine xr_get A xc_X6 in_X6 16 (Nat.le_of_ble_eq_true rfl) q481 rfl (ab_gIE mv1) dX6_way_25 ?_
    refine xr_icmp_ge A (tgt := 76) dX6_way_28 (by decide) (fun c28 => ?_) (fun c28 => ?_)
    · replace hf := ab_ip c28 hf
      refine xr_iload A dX6_way_76 3 rfl ?_
      exact xr_ireturn A rfl hf dX6_way_78
    · replace hf := ab_in c28 hf
      refine xr_iload A dX6_way_31 3 rfl ?_
      refine xr_aload_n A dX6_way_33 0 rfl rfl ?_
      revert hf; refine ab_bdI (fun v2 mv2 hf => ?_)
      refine xr_get A xc_X6 in_X6 7 (Nat.le_of_ble_eq_true rfl) q456 rfl (ab_gRE mv2) dX6_way_34 ?_
      refine xr_iload A dX6_way_37 4 rfl ?_
      revert hf; refine ab_bdI (fun a3 e hf => ?_); subst e
      revert hf; refine ab_bdI (fun v4 mv4 hf => ?_)
      refine xr_iaload A mv4 dX6_way_39 ?_
      refine xr_iload_n A dX6_way_40 1 rfl rfl ?_
      refine xr_icmp_lt A (tgt := 66) dX6_way_41 (by decide) (fun c41 => ?_) (fun c41 => ?_)
      · replace hf := ab_ip c41 hf
        refine xr_iconst A (v := 0) dX6_way_66 (by decide) ?_
        refine xr_iadd A dX6_way_67 ?_
        refine xr_istore A dX6_way_68 (Nat.le_of_ble_eq_true rfl) (L' := [(5, vI (l5 + (0 : Int32))), (0, vR (some x)), (3, vI l3), (4, vI l4), (6, vI l6)]) rfl ?_
        refine xr_iinc A dX6_way_70 4 rfl (v := (l6 + (1 : Int32))) rfl (Nat.le_of_ble_eq_true rfl) (L' := [(6, vI (l6 + (1 : Int32))), (5, vI (l5 + (0 : Int32))), (0, vR (some x)), (3, vI l3), (4, vI l4)]) rfl ?_
        refine xr_goto A (tgt := 22) dX6_way_73 (by decide) ?_
        refine X.sub [2, 3, 4, 1, 0] rfl ?_
        exact ih hf
      · replace hf := ab_in c41 hf
        refine xr_aload_n A dX6_way_44 0 rfl rfl ?_
        revert hf; refine ab_bdI (fun v5 mv5 hf => ?_)
        refine xr_get A xc_X6 in_X6 7 (Nat.le_of_ble_eq_true rfl) q456 rfl (ab_gRE mv5) dX6_way_45 ?_
        refine xr_iload A dX6_way_48 4 rfl ?_
        revert hf; refine ab_bdI (fun a6 e hf => ?_); subst e
        revert hf; refine ab_bdI (fun v7 mv7 hf => ?_)
        refine xr_iaload A mv7 dX6_way_50 ?_
        refine xr_iload A dX6_way_51 2 rfl ?_
        refine xr_icmp_ge A (tgt := 66) dX6_way_53 (by decide) (fun c53 => ?_) (fun c53 => ?_)
        · replace hf := ab_ip c53 hf
          refine xr_iconst A (v := 0) dX6_way_66 (by decide) ?_
          refine xr_iadd A dX6_way_67 ?_
          refine xr_istore A dX6_way_68 (Nat.le_of_ble_eq_true rfl) (L' := [(5, vI (l5 + (0 : Int32))), (0, vR (some x)), (3, vI l3), (4, vI l4), (6, vI l6)]) rfl ?_
          refine xr_iinc A dX6_way_70 4 rfl (v := (l6 + (1 : Int32))) rfl (Nat.le_of_ble_eq_true rfl) (L' := [(6, vI (l6 + (1 : Int32))), (5, vI (l5 + (0 : Int32))), (0, vR (some x)), (3, vI l3), (4, vI l4)]) rfl ?_
          refine xr_goto A (tgt := 22) dX6_way_73 (by decide) ?_
          refine X.sub [2, 3, 4, 1, 0] rfl ?_
          exact ih hf
        · replace hf := ab_in c53 hf
          refine xr_aload_n A dX6_way_56 0 rfl rfl ?_
          revert hf; refine ab_bdI (fun v8 mv8 hf => ?_)
          refine xr_get A xc_X6 in_X6 8 (Nat.le_of_ble_eq_true rfl) q458 rfl (ab_gRE mv8) dX6_way_57 ?_
          refine xr_iload A dX6_way_60 4 rfl ?_
          revert hf; refine ab_bdI (fun a9 e hf => ?_); subst e
          revert hf; refine ab_bdI (fun v10 mv10 hf => ?_)
          refine xr_iaload A mv10 dX6_way_62 ?_
          refine xr_goto A (tgt := 67) dX6_way_63 (by decide) ?_
          refine xr_iadd A dX6_way_67 ?_
          refine xr_istore A dX6_way_68 (Nat.le_of_ble_eq_true rfl) (L' := [(5, vI (l5 + v10)), (0, vR (some x)), (3, vI l3), (4, vI l4), (6, vI l6)]) rfl ?_
          refine xr_iinc A dX6_way_70 4 rfl (v := (l6 + (1 : Int32))) rfl (Nat.le_of_ble_eq_true rfl) (L' := [(6, vI (l6 + (1 : Int32))), (5, vI (l5 + v10)), (0, vR (some x)), (3, vI l3), (4, vI l4)]) rfl ?_
          refine xr_goto A (tgt := 22) dX6_way_73 (by decide) ?_
          refine X.sub [2, 3, 4, 1, 0] rfl ?_
          exact ih hf
noncomputable def fX6_way (x : Nat) (p1 : Int32) (p2 : Int32) (h : Hp) : Option (Int32 × Hp) :=
  ab_ck h x 5 <|
  fX6_way_l22 x (hfu h) (ab_min p1 p2) (ab_max p1 p2) ((ab_max p1 p2) - (ab_min p1 p2)) (0 : Int32) h
theorem wX6_way (D : Dd) {x : Nat} {p1 : Int32} {p2 : Int32} {h : Hp} {r : Int32} {h' : Hp} (hf : fX6_way x p1 p2 h = some (r, h')) : ab_is h x 5 ∧ Ct D 1 21 yX6_way cX6_way 7 (some FieldType.int) [vR (some x), vI p1, vI p2] h (.inl (some (vI r))) h' := by
    unfold fX6_way at hf
    replace hf := ab_ckE hf; obtain ⟨i0, hf⟩ := hf
    refine ⟨i0, ?_⟩
    refine Ct.of (by decide) (L := [(0, vR (some x)), (1, vI p1), (2, vI p2)]) rfl (Nat.le_of_ble_eq_true rfl) (fun C A => ?_)
    refine xr_iload_n A dX6_way_0 1 rfl rfl ?_
    refine xr_iload_n A dX6_way_1 2 rfl rfl ?_
    refine xr_mmin A q1057 dX6_way_2 (Nat.le_of_ble_eq_true rfl) (Nat.le_of_ble_eq_true rfl) (Nat.le_of_ble_eq_true rfl) ?_
    refine xr_istore_n A dX6_way_5 rfl (Nat.le_of_ble_eq_true rfl) (L' := [(3, vI (ab_min p1 p2)), (0, vR (some x)), (1, vI p1), (2, vI p2)]) rfl ?_
    refine xr_iload_n A dX6_way_6 2 rfl rfl ?_
    refine xr_iload_n A dX6_way_7 3 rfl rfl ?_
    refine xr_mmax A q1060 dX6_way_8 (Nat.le_of_ble_eq_true rfl) (Nat.le_of_ble_eq_true rfl) (Nat.le_of_ble_eq_true rfl) ?_
    refine xr_istore A dX6_way_11 (Nat.le_of_ble_eq_true rfl) (L' := [(4, vI (ab_max p1 p2)), (3, vI (ab_min p1 p2)), (0, vR (some x)), (1, vI p1), (2, vI p2)]) rfl ?_
    refine xr_iload A dX6_way_13 0 rfl ?_
    refine xr_iload_n A dX6_way_15 1 rfl rfl ?_
    refine xr_isub A dX6_way_16 ?_
    refine xr_istore A dX6_way_17 (Nat.le_of_ble_eq_true rfl) (L' := [(5, vI ((ab_max p1 p2) - (ab_min p1 p2))), (4, vI (ab_max p1 p2)), (3, vI (ab_min p1 p2)), (0, vR (some x)), (1, vI p1), (2, vI p2)]) rfl ?_
    refine xr_iconst A (v := 0) dX6_way_19 (by decide) ?_
    refine xr_istore A dX6_way_20 (Nat.le_of_ble_eq_true rfl) (L' := [(6, vI (0 : Int32)), (5, vI ((ab_max p1 p2) - (ab_min p1 p2))), (4, vI (ab_max p1 p2)), (3, vI (ab_min p1 p2)), (0, vR (some x)), (1, vI p1), (2, vI p2)]) rfl ?_
    refine X.sub [4, 3, 2, 1, 0] rfl ?_
    exact wX6_way_l22 A _ hf
/-! X12_heat -/
theorem bX12_heat : MB yX12_heat cX12_heat 2 (some FieldType.int) 1 := ⟨q1070, q111, by decide, by decide +kernel⟩
noncomputable def fX12_heat (x : Nat) (p1 : Int32) (h : Hp) : Option (Int32 × Hp) :=
  ab_ck h x 10 <|
  ab_bd (ab_gR h x 10 2) fun v1 =>
  ab_bd v1 fun a2 =>
  ab_bd (ab_gI h a2 6 3) fun v3 =>
  ab_bd (ab_gI h x 10 5) fun v4 =>
  ab_bd (ab_gI h x 10 3) fun v5 =>
  some ((v3 - ((v4 * (p1 - v5)) / (10 : Int32))), h)
theorem wX12_heat (D : Dd) {x : Nat} {p1 : Int32} {h : Hp} {r : Int32} {h' : Hp} (hf : fX12_heat x p1 h = some (r, h')) : ab_is h x 10 ∧ Ct D 1 20 yX12_heat cX12_heat 2 (some FieldType.int) [vR (some x), vI p1] h (.inl (some (vI r))) h' := by
    unfold fX12_heat at hf
    replace hf := ab_ckE hf; obtain ⟨i0, hf⟩ := hf
    refine ⟨i0, ?_⟩
    refine Ct.of (by decide) (L := [(0, vR (some x)), (1, vI p1)]) rfl (Nat.le_of_ble_eq_true rfl) (fun C A => ?_)
    refine xr_aload_n A dX12_heat_0 0 rfl rfl ?_
    revert hf; refine ab_bdI (fun v1 mv1 hf => ?_)
    refine xr_get A xc_X12 in_X12 2 (Nat.le_of_ble_eq_true rfl) q910 rfl (ab_gRE mv1) dX12_heat_1 ?_
    revert hf; refine ab_bdI (fun a2 e hf => ?_); subst e
    revert hf; refine ab_bdI (fun v3 mv3 hf => ?_)
    refine xr_get A xc_X8 in_X8 3 (Nat.le_of_ble_eq_true rfl) q763 rfl (ab_gIE mv3) dX12_heat_4 ?_
    refine xr_aload_n A dX12_heat_7 0 rfl rfl ?_
    revert hf; refine ab_bdI (fun v4 mv4 hf => ?_)
    refine xr_get A xc_X12 in_X12 5 (Nat.le_of_ble_eq_true rfl) q920 rfl (ab_gIE mv4) dX12_heat_8 ?_
    refine xr_iload_n A dX12_heat_11 1 rfl rfl ?_
    refine xr_aload_n A dX12_heat_12 0 rfl rfl ?_
    revert hf; refine ab_bdI (fun v5 mv5 hf => ?_)
    refine xr_get A xc_X12 in_X12 3 (Nat.le_of_ble_eq_true rfl) q915 rfl (ab_gIE mv5) dX12_heat_13 ?_
    refine xr_isub A dX12_heat_16 ?_
    refine xr_imul A dX12_heat_17 ?_
    refine xr_bipush A (v := 10) dX12_heat_18 (by decide) ?_
    refine xr_idiv A dX12_heat_20 (by decide) ?_
    refine xr_isub A dX12_heat_21 ?_
    exact xr_ireturn A rfl hf dX12_heat_22
/-! X6_isBad -/
theorem bX6_isBad : MB yX6_isBad cX6_isBad 3 (some FieldType.boolean) 2 := ⟨q1066, q100, by decide, by decide +kernel⟩
noncomputable def fX6_isBad (x : Nat) (p1 : Option Nat) (p2 : Int32) (h : Hp) : Option (Int32 × Hp) :=
  ab_ck h x 5 <|
  ab_bd (ab_gI h x 5 18) fun v1 =>
  if v1 < p2 then (
    some ((1 : Int32), h))
  else (
    ab_bd p1 fun a2 =>
    ab_b2 (fX12_heat a2 p2 h) fun v5 h4 =>
    ab_bd (ab_gI h4 x 5 17) fun v6 =>
    if v6 ≤ v5 then (
      some ((0 : Int32), h4))
    else (
      some ((1 : Int32), h4)))
theorem wX6_isBad (D : Dd) {x : Nat} {p1 : Option Nat} {p2 : Int32} {h : Hp} {r : Int32} {h' : Hp} (hf : fX6_isBad x p1 p2 h = some (r, h')) : ab_is h x 5 ∧ Ct D 2 41 yX6_isBad cX6_isBad 3 (some FieldType.boolean) [vR (some x), vR p1, vI p2] h (.inl (some (vI r))) h' := by
    unfold fX6_isBad at hf
    replace hf := ab_ckE hf; obtain ⟨i0, hf⟩ := hf
    refine ⟨i0, ?_⟩
    refine Ct.of (by decide) (L := [(0, vR (some x)), (1, vR p1), (2, vI p2)]) rfl (Nat.le_of_ble_eq_true rfl) (fun C A => ?_)
    refine xr_iload_n A dX6_isBad_0 2 rfl rfl ?_
    refine xr_aload_n A dX6_isBad_1 0 rfl rfl ?_
    revert hf; refine ab_bdI (fun v1 mv1 hf => ?_)
    refine xr_get A xc_X6 in_X6 18 (Nat.le_of_ble_eq_true rfl) q487 rfl (ab_gIE mv1) dX6_isBad_2 ?_
    refine xr_icmp_gt A (tgt := 20) dX6_isBad_5 (by decide) (fun c5 => ?_) (fun c5 => ?_)
    · replace hf := ab_ip c5 hf
      refine xr_iconst A (v := 1) dX6_isBad_20 (by decide) ?_
      refine xr_goto A (tgt := 25) dX6_isBad_21 (by decide) ?_
      exact xr_ireturn A rfl hf dX6_isBad_25
    · replace hf := ab_in c5 hf
      refine xr_aload_n A dX6_isBad_8 1 rfl rfl ?_
      refine xr_iload_n A dX6_isBad_9 2 rfl rfl ?_
      revert hf; refine ab_bdI (fun a2 e hf => ?_); subst e
      revert hf; refine ab_b2I (fun v5 h4 m3 hf => ?_)
      refine xr_V A bX12_heat (wX12_heat D m3).2 xc_X12 (wX12_heat D m3).1 q1068 q1069 q1067 (av := [vI p2]) (rest := []) rfl dX6_isBad_10 (Nat.le_of_ble_eq_true rfl) (Nat.le_of_ble_eq_true rfl) rfl (Nat.le_of_ble_eq_true rfl) ?_
      refine xr_aload_n A dX6_isBad_13 0 rfl rfl ?_
      revert hf; refine ab_bdI (fun v6 mv6 hf => ?_)
      refine xr_get A xc_X6 in_X6 17 (Nat.le_of_ble_eq_true rfl) q484 rfl (ab_gIE mv6) dX6_isBad_14 ?_
      refine xr_icmp_ge A (tgt := 24) dX6_isBad_17 (by decide) (fun c17 => ?_) (fun c17 => ?_)
      · replace hf := ab_ip c17 hf
        refine xr_iconst A (v := 0) dX6_isBad_24 (by decide) ?_
        exact xr_ireturn A rfl hf dX6_isBad_25
      · replace hf := ab_in c17 hf
        refine xr_iconst A (v := 1) dX6_isBad_20 (by decide) ?_
        refine xr_goto A (tgt := 25) dX6_isBad_21 (by decide) ?_
        exact xr_ireturn A rfl hf dX6_isBad_25
/-! X4_walks -/
theorem bX4_walks : MB yX4_walks cX4_walks 8 (some (FieldType.object "NoonMeals$Round")) 3 := ⟨q1052, q98, by decide, by decide +kernel⟩
noncomputable def fX4_walks_b137 (x : Nat) (K23 : Option Nat → Nat → Int32 → Int32 → Int32 → Int32 → Hp → Option ((Option Nat) × Hp)) (l1 : Nat) (l2 : Nat) (l3 : Int32) (l5 : Int32) (l6 : Int32) (l7 : Nat) (s0 : Int32) (s1 : Int32) (s2 : Int32) (h : Hp) : Option ((Option Nat) × Hp) :=
  ab_bd (ab_gR h x 3 0) fun v1 =>
  ab_bd v1 fun a2 =>
  ab_bd (ab_aI h a2 0 l6) fun v3 =>
  ab_b2 (fX1_lies l3 v3 h) fun v6 h5 =>
  if v6 = 0 then (
    K23 (some l1) l2 l3 (s2 + ((s1 + s0) + (0 : Int32))) l5 (l6 + (1 : Int32)) h5)
  else (
    ab_bd (ab_gI h5 l7 9 4) fun v7 =>
    K23 (some l1) l2 l3 (s2 + ((s1 + s0) + v7)) l5 (l6 + (1 : Int32)) h5)
theorem wX4_walks_b137 {D : Dd} {C : Cx} {h0 h' : Hp} {r : Option Nat} (A : Act C D (h0, (.inl (some (vR r))), h') yX4_walks cX4_walks 8 (some (FieldType.object "NoonMeals$Round")) 3 63 []) {x : Nat} {K23 : Option Nat → Nat → Int32 → Int32 → Int32 → Int32 → Hp → Option ((Option Nat) × Hp)} (hK23 : ∀ {l1 : Option Nat} {l2 : Nat} {l3 : Int32} {l4 : Int32} {l5 : Int32} {l6 : Int32} {h : Hp}, K23 l1 l2 l3 l4 l5 l6 h = some (r, h') → X C D (h0, (.inl (some (vR r))), h') 8 23 [(0, vR (some x)), (1, vR l1), (2, vR (some l2)), (3, vI l3), (4, vI l4), (5, vI l5), (6, vI l6)] [] h) {l1 : Nat} {l2 : Nat} {l3 : Int32} {l5 : Int32} {l6 : Int32} {l7 : Nat} {s0 : Int32} {s1 : Int32} {s2 : Int32} {h : Hp} (hf : fX4_walks_b137 x K23 l1 l2 l3 l5 l6 l7 s0 s1 s2 h = some (r, h')) : X C D (h0, (.inl (some (vR r))), h') 8 137 [(0, vR (some x)), (1, vR (some l1)), (2, vR (some l2)), (3, vI l3), (5, vI l5), (6, vI l6), (7, vR (some l7))] [vI s0, vI s1, vI s2] h := by
  unfold fX4_walks_b137 at hf
  refine xr_iadd A dX4_walks_137 ?_
  refine xr_iload_n A dX4_walks_138 3 rfl rfl ?_
  refine xr_aload_n A dX4_walks_139 0 rfl rfl ?_
  revert hf; refine ab_bdI (fun v1 mv1 hf => ?_)
  refine xr_get A xc_X4 in_X4 0 (Nat.le_of_ble_eq_true rfl) q245 rfl (ab_gRE mv1) dX4_walks_140 ?_
  refine xr_iload A dX4_walks_143 5 rfl ?_
  revert hf; refine ab_bdI (fun a2 e hf => ?_); subst e
  revert hf; refine ab_bdI (fun v3 mv3 hf => ?_)
  refine xr_iaload A mv3 dX4_walks_145 ?_
  revert hf; refine ab_b2I (fun v6 h5 m4 hf => ?_)
  refine xr_SN A bX1_lies (wX1_lies D m4) q986 n1071 (av := [vI l3, vI v3]) (rest := [vI (s1 + s0), vI s2]) rfl dX4_walks_146 (Nat.le_of_ble_eq_true rfl) (Nat.le_of_ble_eq_true rfl) rfl (Nat.le_of_ble_eq_true rfl) ?_
  refine xr_if_eq A (tgt := 160) dX4_walks_149 (by decide) (fun c149 => ?_) (fun c149 => ?_)
  · replace hf := ab_ip c149 hf
    refine xr_iconst A (v := 0) dX4_walks_160 (by decide) ?_
    refine xr_iadd A dX4_walks_161 ?_
    refine xr_iadd A dX4_walks_162 ?_
    refine xr_istore A dX4_walks_163 (Nat.le_of_ble_eq_true rfl) (L' := [(4, vI (s2 + ((s1 + s0) + (0 : Int32)))), (0, vR (some x)), (1, vR (some l1)), (2, vR (some l2)), (3, vI l3), (5, vI l5), (6, vI l6), (7, vR (some l7))]) rfl ?_
    refine xr_iinc A dX4_walks_165 6 rfl (v := (l6 + (1 : Int32))) rfl (Nat.le_of_ble_eq_true rfl) (L' := [(6, vI (l6 + (1 : Int32))), (4, vI (s2 + ((s1 + s0) + (0 : Int32)))), (0, vR (some x)), (1, vR (some l1)), (2, vR (some l2)), (3, vI l3), (5, vI l5), (7, vR (some l7))]) rfl ?_
    refine xr_goto A (tgt := 23) dX4_walks_168 (by decide) ?_
    refine X.sub [2, 3, 4, 5, 1, 6, 0] rfl ?_
    exact hK23 hf
  · replace hf := ab_in c149 hf
    refine xr_aload A dX4_walks_152 6 rfl ?_
    revert hf; refine ab_bdI (fun v7 mv7 hf => ?_)
    refine xr_get A xc_X11 in_X11 4 (Nat.le_of_ble_eq_true rfl) q868 rfl (ab_gIE mv7) dX4_walks_154 ?_
    refine xr_goto A (tgt := 161) dX4_walks_157 (by decide) ?_
    refine xr_iadd A dX4_walks_161 ?_
    refine xr_iadd A dX4_walks_162 ?_
    refine xr_istore A dX4_walks_163 (Nat.le_of_ble_eq_true rfl) (L' := [(4, vI (s2 + ((s1 + s0) + v7))), (0, vR (some x)), (1, vR (some l1)), (2, vR (some l2)), (3, vI l3), (5, vI l5), (6, vI l6), (7, vR (some l7))]) rfl ?_
    refine xr_iinc A dX4_walks_165 6 rfl (v := (l6 + (1 : Int32))) rfl (Nat.le_of_ble_eq_true rfl) (L' := [(6, vI (l6 + (1 : Int32))), (4, vI (s2 + ((s1 + s0) + v7))), (0, vR (some x)), (1, vR (some l1)), (2, vR (some l2)), (3, vI l3), (5, vI l5), (7, vR (some l7))]) rfl ?_
    refine xr_goto A (tgt := 23) dX4_walks_168 (by decide) ?_
    refine X.sub [2, 3, 4, 5, 1, 6, 0] rfl ?_
    exact hK23 hf
noncomputable def fX4_walks_b106 (x : Nat) (K23 : Option Nat → Nat → Int32 → Int32 → Int32 → Int32 → Hp → Option ((Option Nat) × Hp)) (l1 : Nat) (l2 : Nat) (l3 : Int32) (l4 : Int32) (l5 : Int32) (l6 : Int32) (l7 : Nat) (s0 : Int32) (s1 : Int32) (s2 : Nat) (h : Hp) : Option ((Option Nat) × Hp) :=
  ab_bd (ab_pI h s2 3 3 (s1 ||| s0)) fun h1 =>
  ab_bd (ab_gI h1 l7 9 3) fun v2 =>
  ab_bd (ab_gI h1 l7 9 8) fun v3 =>
  if v3 = 0 then (
    fX4_walks_b137 x K23 l1 l2 l3 l5 l6 l7 (0 : Int32) v2 l4 h1)
  else (
    ab_bd (ab_gI h1 l2 10 6) fun v4 =>
    if v4 = 0 then (
      fX4_walks_b137 x K23 l1 l2 l3 l5 l6 l7 (0 : Int32) v2 l4 h1)
    else (
      fX4_walks_b137 x K23 l1 l2 l3 l5 l6 l7 (5 : Int32) v2 l4 h1))
theorem wX4_walks_b106 {D : Dd} {C : Cx} {h0 h' : Hp} {r : Option Nat} (A : Act C D (h0, (.inl (some (vR r))), h') yX4_walks cX4_walks 8 (some (FieldType.object "NoonMeals$Round")) 3 63 []) {x : Nat} {K23 : Option Nat → Nat → Int32 → Int32 → Int32 → Int32 → Hp → Option ((Option Nat) × Hp)} (hK23 : ∀ {l1 : Option Nat} {l2 : Nat} {l3 : Int32} {l4 : Int32} {l5 : Int32} {l6 : Int32} {h : Hp}, K23 l1 l2 l3 l4 l5 l6 h = some (r, h') → X C D (h0, (.inl (some (vR r))), h') 8 23 [(0, vR (some x)), (1, vR l1), (2, vR (some l2)), (3, vI l3), (4, vI l4), (5, vI l5), (6, vI l6)] [] h) {l1 : Nat} {l2 : Nat} {l3 : Int32} {l4 : Int32} {l5 : Int32} {l6 : Int32} {l7 : Nat} {s0 : Int32} {s1 : Int32} {s2 : Nat} {h : Hp} (hf : fX4_walks_b106 x K23 l1 l2 l3 l4 l5 l6 l7 s0 s1 s2 h = some (r, h')) : X C D (h0, (.inl (some (vR r))), h') 8 106 [(0, vR (some x)), (1, vR (some l1)), (2, vR (some l2)), (3, vI l3), (4, vI l4), (5, vI l5), (6, vI l6), (7, vR (some l7))] [vI s0, vI s1, vR (some s2)] h := by
  unfold fX4_walks_b106 at hf
  refine xr_ior A dX4_walks_106 ?_
  revert hf; refine ab_bdI (fun h1 mh1 hf => ?_)
  refine xr_put A xc_X4 in_X4 tyX4_ok nmX4 3 (Nat.le_of_ble_eq_true rfl) q251 rfl rfl (v := vI (s1 ||| s0)) rfl rfl mh1 dX4_walks_107 ?_
  refine xr_iload A dX4_walks_110 4 rfl ?_
  refine xr_aload A dX4_walks_112 7 rfl ?_
  revert hf; refine ab_bdI (fun v2 mv2 hf => ?_)
  refine xr_get A xc_X11 in_X11 3 (Nat.le_of_ble_eq_true rfl) q866 rfl (ab_gIE mv2) dX4_walks_114 ?_
  refine xr_aload A dX4_walks_117 7 rfl ?_
  revert hf; refine ab_bdI (fun v3 mv3 hf => ?_)
  refine xr_get A xc_X11 in_X11 8 (Nat.le_of_ble_eq_true rfl) q876 rfl (ab_gIE mv3) dX4_walks_119 ?_
  refine xr_if_eq A (tgt := 136) dX4_walks_122 (by decide) (fun c122 => ?_) (fun c122 => ?_)
  · replace hf := ab_ip c122 hf
    refine xr_iconst A (v := 0) dX4_walks_136 (by decide) ?_
    refine X.sub [0, 1, 2, 3, 5, 6, 7] rfl ?_
    exact wX4_walks_b137 A @hK23 hf
  · replace hf := ab_in c122 hf
    refine xr_aload_n A dX4_walks_125 2 rfl rfl ?_
    revert hf; refine ab_bdI (fun v4 mv4 hf => ?_)
    refine xr_get A xc_X12 in_X12 6 (Nat.le_of_ble_eq_true rfl) q922 rfl (ab_gIE mv4) dX4_walks_126 ?_
    refine xr_if_eq A (tgt := 136) dX4_walks_129 (by decide) (fun c129 => ?_) (fun c129 => ?_)
    · replace hf := ab_ip c129 hf
      refine xr_iconst A (v := 0) dX4_walks_136 (by decide) ?_
      refine X.sub [0, 1, 2, 3, 5, 6, 7] rfl ?_
      exact wX4_walks_b137 A @hK23 hf
    · replace hf := ab_in c129 hf
      refine xr_iconst A (v := 5) dX4_walks_132 (by decide) ?_
      refine xr_goto A (tgt := 137) dX4_walks_133 (by decide) ?_
      refine X.sub [0, 1, 2, 3, 5, 6, 7] rfl ?_
      exact wX4_walks_b137 A @hK23 hf
noncomputable def fX4_walks_l23 (x : Nat) : Nat → Option Nat → Nat → Int32 → Int32 → Int32 → Int32 → Hp → Option ((Option Nat) × Hp)
  | 0, _, _, _, _, _, _, _ => none
  | n + 1, l1, l2, l3, l4, l5, l6, h =>
  ab_bd (ab_gI h x 3 2) fun v1 =>
  if v1 ≤ l6 then (
    some ((some x), h))
  else (
    ab_bd l1 fun a2 =>
    ab_bd (ab_gR h a2 5 3) fun v3 =>
    ab_bd (ab_gR h x 3 0) fun v4 =>
    ab_bd v4 fun a5 =>
    ab_bd (ab_aI h a5 0 l6) fun v6 =>
    ab_bd v3 fun a7 =>
    ab_bd (ab_aR h a7 9 v6) fun v8 =>
    ab_bd v8 fun a9 =>
    ab_bd (ab_gI h a9 9 2) fun v10 =>
    ab_b2 (fX6_way a2 l5 v10 h) fun v13 h12 =>
    ab_bd (ab_gI h12 a9 9 2) fun v14 =>
    ab_bd (ab_gR h12 x 3 1) fun v15 =>
    ab_bd v15 fun a16 =>
    ab_bd (ab_sI h12 a16 l6 (l4 + v13)) fun h17 =>
    ab_bd (ab_gI h17 x 3 3) fun v18 =>
    ab_b2 (fX6_isBad a2 (some l2) (l4 + v13) h17) fun v21 h20 =>
    if v21 = 0 then (
      fX4_walks_b106 x (fX4_walks_l23 x n) a2 l2 l3 (l4 + v13) v14 l6 a9 (0 : Int32) v18 x h20)
    else (
      ab_bd (ab_gR h20 x 3 0) fun v22 =>
      ab_bd v22 fun a23 =>
      ab_bd (ab_aI h20 a23 0 l6) fun v24 =>
      fX4_walks_b106 x (fX4_walks_l23 x n) a2 l2 l3 (l4 + v13) v14 l6 a9 ((1 : Int32) <<< (v24 &&& 31)) v18 x h20))
theorem wX4_walks_l23 {D : Dd} {C : Cx} {h0 h' : Hp} {r : Option Nat} (A : Act C D (h0, (.inl (some (vR r))), h') yX4_walks cX4_walks 8 (some (FieldType.object "NoonMeals$Round")) 3 63 []) {x : Nat} : ∀ (n : Nat) {l1 : Option Nat} {l2 : Nat} {l3 : Int32} {l4 : Int32} {l5 : Int32} {l6 : Int32} {h : Hp}, fX4_walks_l23 x n l1 l2 l3 l4 l5 l6 h = some (r, h') → X C D (h0, (.inl (some (vR r))), h') 8 23 [(0, vR (some x)), (1, vR l1), (2, vR (some l2)), (3, vI l3), (4, vI l4), (5, vI l5), (6, vI l6)] [] h := by
  intro n
  induction n with
  | zero => intro l1 l2 l3 l4 l5 l6 h hf; exact ab_no hf
  | succ n ih =>
    intro l1 l2 l3 l4 l5 l6 h hf
    unfold fX4_walks_l23 at hf
    refine xr_iload A dX4_walks_23 6 rfl ?_
    refine xr_aload_n A dX4_walks_25 0 rfl rfl ?_
    revert hf; refine ab_bdI (fun v1 mv1 hf => ?_)
    refine xr_get A xc_X4 in_X4 2 (Nat.le_of_ble_eq_true rfl) q249 rfl (ab_gIE mv1) dX4_walks_26 ?_
    refine xr_icmp_ge A (tgt := 171) dX4_walks_29 (by decide) (fun c29 => ?_) (fun c29 => ?_)
    · replace hf := ab_ip c29 hf
      refine xr_aload_n A dX4_walks_171 0 rfl rfl ?_
      exact xr_areturn A (Or.inl ⟨_, rfl⟩) hf dX4_walks_172
    · replace hf := ab_in c29 hf
      refine xr_aload_n A dX4_walks_32 1 rfl rfl ?_
      revert hf; refine ab_bdI (fun a2 e hf => ?_); subst e
      revert hf; refine ab_bdI (fun v3 mv3 hf => ?_)
      refine xr_get A xc_X6 in_X6 3 (Nat.le_of_ble_eq_true rfl) q444 rfl (ab_gRE mv3) dX4_walks_33 ?_
      refine xr_aload_n A dX4_walks_36 0 rfl rfl ?_
      revert hf; refine ab_bdI (fun v4 mv4 hf => ?_)
      refine xr_get A xc_X4 in_X4 0 (Nat.le_of_ble_eq_true rfl) q245 rfl (ab_gRE mv4) dX4_walks_37 ?_
      refine xr_iload A dX4_walks_40 6 rfl ?_
      revert hf; refine ab_bdI (fun a5 e hf => ?_); subst e
      revert hf; refine ab_bdI (fun v6 mv6 hf => ?_)
      refine xr_iaload A mv6 dX4_walks_42 ?_
      revert hf; refine ab_bdI (fun a7 e hf => ?_); subst e
      revert hf; refine ab_bdI (fun v8 mv8 hf => ?_)
      refine xr_aaload A (t := 9) rfl mv8 dX4_walks_43 ?_
      refine xr_astore A dX4_walks_44 (Nat.le_of_ble_eq_true rfl) (L' := [(7, vR v8), (0, vR (some x)), (1, vR (some a2)), (2, vR (some l2)), (3, vI l3), (4, vI l4), (5, vI l5), (6, vI l6)]) rfl ?_
      refine xr_iload A dX4_walks_46 5 rfl ?_
      refine xr_aload_n A dX4_walks_48 2 rfl rfl ?_
      refine xr_iload A dX4_walks_49 6 rfl ?_
      refine xr_aload A dX4_walks_51 0 rfl ?_
      revert hf; refine ab_bdI (fun a9 e hf => ?_); subst e
      revert hf; refine ab_bdI (fun v10 mv10 hf => ?_)
      refine xr_get A xc_X11 in_X11 2 (Nat.le_of_ble_eq_true rfl) q864 rfl (ab_gIE mv10) dX4_walks_53 ?_
      revert hf; refine ab_b2I (fun v13 h12 m11 hf => ?_)
      refine xr_V A bX6_way (wX6_way D m11).2 xc_X6 (wX6_way D m11).1 q1054 q1055 q1053 (av := [vI l5, vI v10]) (rest := [vI l4]) rfl dX4_walks_56 (Nat.le_of_ble_eq_true rfl) (Nat.le_of_ble_eq_true rfl) rfl (Nat.le_of_ble_eq_true rfl) ?_
      refine xr_iadd A dX4_walks_59 ?_
      refine xr_istore A dX4_walks_60 (Nat.le_of_ble_eq_true rfl) (L' := [(4, vI (l4 + v13)), (7, vR (some a9)), (0, vR (some x)), (1, vR (some a2)), (2, vR (some l2)), (3, vI l3), (5, vI l5), (6, vI l6)]) rfl ?_
      refine xr_aload A dX4_walks_62 1 rfl ?_
      revert hf; refine ab_bdI (fun v14 mv14 hf => ?_)
      refine xr_get A xc_X11 in_X11 2 (Nat.le_of_ble_eq_true rfl) q864 rfl (ab_gIE mv14) dX4_walks_64 ?_
      refine xr_istore A dX4_walks_67 (Nat.le_of_ble_eq_true rfl) (L' := [(5, vI v14), (4, vI (l4 + v13)), (7, vR (some a9)), (0, vR (some x)), (1, vR (some a2)), (2, vR (some l2)), (3, vI l3), (6, vI l6)]) rfl ?_
      refine xr_aload_n A dX4_walks_69 3 rfl rfl ?_
      revert hf; refine ab_bdI (fun v15 mv15 hf => ?_)
      refine xr_get A xc_X4 in_X4 1 (Nat.le_of_ble_eq_true rfl) q247 rfl (ab_gRE mv15) dX4_walks_70 ?_
      refine xr_iload A dX4_walks_73 7 rfl ?_
      refine xr_iload A dX4_walks_75 1 rfl ?_
      revert hf; refine ab_bdI (fun a16 e hf => ?_); subst e
      revert hf; refine ab_bdI (fun h17 mh17 hf => ?_)
      refine xr_iastore A mh17 dX4_walks_77 ?_
      refine xr_aload_n A dX4_walks_78 3 rfl rfl ?_
      refine xr_dup A dX4_walks_79 rfl ?_
      revert hf; refine ab_bdI (fun v18 mv18 hf => ?_)
      refine xr_get A xc_X4 in_X4 3 (Nat.le_of_ble_eq_true rfl) q251 rfl (ab_gIE mv18) dX4_walks_80 ?_
      refine xr_aload_n A dX4_walks_83 4 rfl rfl ?_
      refine xr_aload_n A dX4_walks_84 5 rfl rfl ?_
      refine xr_iload A dX4_walks_85 1 rfl ?_
      revert hf; refine ab_b2I (fun v21 h20 m19 hf => ?_)
      refine xr_V A bX6_isBad (wX6_isBad D m19).2 xc_X6 (wX6_isBad D m19).1 q1064 q1065 q1063 (av := [vR (some l2), vI (l4 + v13)]) (rest := [vI v18, vR (some x)]) rfl dX4_walks_87 (Nat.le_of_ble_eq_true rfl) (Nat.le_of_ble_eq_true rfl) rfl (Nat.le_of_ble_eq_true rfl) ?_
      refine xr_if_eq A (tgt := 105) dX4_walks_90 (by decide) (fun c90 => ?_) (fun c90 => ?_)
      · replace hf := ab_ip c90 hf
        refine xr_iconst A (v := 0) dX4_walks_105 (by decide) ?_
        refine X.sub [3, 4, 5, 6, 1, 0, 7, 2] rfl ?_
        exact wX4_walks_b106 A (fun hf => ih hf) hf
      · replace hf := ab_in c90 hf
        refine xr_iconst A (v := 1) dX4_walks_93 (by decide) ?_
        refine xr_aload_n A dX4_walks_94 3 rfl rfl ?_
        revert hf; refine ab_bdI (fun v22 mv22 hf => ?_)
        refine xr_get A xc_X4 in_X4 0 (Nat.le_of_ble_eq_true rfl) q245 rfl (ab_gRE mv22) dX4_walks_95 ?_
        refine xr_iload A dX4_walks_98 7 rfl ?_
        revert hf; refine ab_bdI (fun a23 e hf => ?_); subst e
        revert hf; refine ab_bdI (fun v24 mv24 hf => ?_)
        refine xr_iaload A mv24 dX4_walks_100 ?_
        refine xr_ishl A dX4_walks_101 ?_
        refine xr_goto A (tgt := 106) dX4_walks_102 (by decide) ?_
        refine X.sub [3, 4, 5, 6, 1, 0, 7, 2] rfl ?_
        exact wX4_walks_b106 A (fun hf => ih hf) hf
noncomputable def fX4_walks (x : Nat) (p1 : Option Nat) (p2 : Option Nat) (p3 : Int32) (h : Hp) : Option ((Option Nat) × Hp) :=
  ab_ck h x 3 <|
  ab_bd p2 fun a1 =>
  ab_bd (ab_gI h a1 10 3) fun v2 =>
  ab_bd (ab_gR h a1 10 2) fun v3 =>
  ab_bd v3 fun a4 =>
  ab_bd (ab_gI h a4 6 2) fun v5 =>
  ab_bd (ab_pI h x 3 3 (0 : Int32)) fun h6 =>
  fX4_walks_l23 x (hfu h6) p1 a1 p3 v2 v5 (0 : Int32) h6
theorem wX4_walks (D : Dd) {x : Nat} {p1 : Option Nat} {p2 : Option Nat} {p3 : Int32} {h : Hp} {r : Option Nat} {h' : Hp} (hf : fX4_walks x p1 p2 p3 h = some (r, h')) : ab_is h x 3 ∧ Ct D 3 63 yX4_walks cX4_walks 8 (some (FieldType.object "NoonMeals$Round")) [vR (some x), vR p1, vR p2, vI p3] h (.inl (some (vR r))) h' := by
    unfold fX4_walks at hf
    replace hf := ab_ckE hf; obtain ⟨i0, hf⟩ := hf
    refine ⟨i0, ?_⟩
    refine Ct.of (by decide) (L := [(0, vR (some x)), (1, vR p1), (2, vR p2), (3, vI p3)]) rfl (Nat.le_of_ble_eq_true rfl) (fun C A => ?_)
    refine xr_aload_n A dX4_walks_0 2 rfl rfl ?_
    revert hf; refine ab_bdI (fun a1 e hf => ?_); subst e
    revert hf; refine ab_bdI (fun v2 mv2 hf => ?_)
    refine xr_get A xc_X12 in_X12 3 (Nat.le_of_ble_eq_true rfl) q914 rfl (ab_gIE mv2) dX4_walks_1 ?_
    refine xr_istore A dX4_walks_4 (Nat.le_of_ble_eq_true rfl) (L' := [(4, vI v2), (0, vR (some x)), (1, vR p1), (2, vR (some a1)), (3, vI p3)]) rfl ?_
    refine xr_aload_n A dX4_walks_6 3 rfl rfl ?_
    revert hf; refine ab_bdI (fun v3 mv3 hf => ?_)
    refine xr_get A xc_X12 in_X12 2 (Nat.le_of_ble_eq_true rfl) q911 rfl (ab_gRE mv3) dX4_walks_7 ?_
    revert hf; refine ab_bdI (fun a4 e hf => ?_); subst e
    revert hf; refine ab_bdI (fun v5 mv5 hf => ?_)
    refine xr_get A xc_X8 in_X8 2 (Nat.le_of_ble_eq_true rfl) q761 rfl (ab_gIE mv5) dX4_walks_10 ?_
    refine xr_istore A dX4_walks_13 (Nat.le_of_ble_eq_true rfl) (L' := [(5, vI v5), (4, vI v2), (0, vR (some x)), (1, vR p1), (2, vR (some a1)), (3, vI p3)]) rfl ?_
    refine xr_aload_n A dX4_walks_15 2 rfl rfl ?_
    refine xr_iconst A (v := 0) dX4_walks_16 (by decide) ?_
    revert hf; refine ab_bdI (fun h6 mh6 hf => ?_)
    refine xr_put A xc_X4 in_X4 tyX4_ok nmX4 3 (Nat.le_of_ble_eq_true rfl) q251 rfl rfl (v := vI (0 : Int32)) rfl rfl mh6 dX4_walks_17 ?_
    refine xr_iconst A (v := 0) dX4_walks_20 (by decide) ?_
    refine xr_istore A dX4_walks_21 (Nat.le_of_ble_eq_true rfl) (L' := [(6, vI (0 : Int32)), (5, vI v5), (4, vI v2), (0, vR (some x)), (1, vR p1), (2, vR (some a1)), (3, vI p3)]) rfl ?_
    refine X.sub [3, 4, 5, 6, 2, 1, 0] rfl ?_
    exact wX4_walks_l23 A _ hf
/-! X1_walked -/
theorem bX1_walked : MB yX1_walked cX1_walked 3 (some (FieldType.object "NoonMeals$Round")) 2 := ⟨q1048, q92, by decide, by decide +kernel⟩
noncomputable def fX1_walked (x : Nat) (p1 : Int32) (p2 : Int32) (h : Hp) : Option ((Option Nat) × Hp) :=
  ab_ck h x 0 <|
  ab_bd (ab_gR h x 0 8) fun v1 =>
  ab_bd v1 fun a2 =>
  ab_bd (ab_aR h a2 5 p1) fun v3 =>
  ab_bd (ab_gR h x 0 3) fun v4 =>
  ab_bd (ab_gR h x 0 3) fun v5 =>
  ab_bd v5 fun a6 =>
  ab_bd (ab_gR h a6 5 4) fun v7 =>
  ab_bd v7 fun a8 =>
  ab_bd (ab_aR h a8 10 p1) fun v9 =>
  ab_bd v3 fun a10 =>
  ab_b2 (fX4_walks a10 v4 v9 p2 h) fun v13 h12 =>
  some (v13, h12)
theorem wX1_walked (D : Dd) {x : Nat} {p1 : Int32} {p2 : Int32} {h : Hp} {r : Option Nat} {h' : Hp} (hf : fX1_walked x p1 p2 h = some (r, h')) : ab_is h x 0 ∧ Ct D 4 90 yX1_walked cX1_walked 3 (some (FieldType.object "NoonMeals$Round")) [vR (some x), vI p1, vI p2] h (.inl (some (vR r))) h' := by
    unfold fX1_walked at hf
    replace hf := ab_ckE hf; obtain ⟨i0, hf⟩ := hf
    refine ⟨i0, ?_⟩
    refine Ct.of (by decide) (L := [(0, vR (some x)), (1, vI p1), (2, vI p2)]) rfl (Nat.le_of_ble_eq_true rfl) (fun C A => ?_)
    refine xr_aload_n A dX1_walked_0 0 rfl rfl ?_
    revert hf; refine ab_bdI (fun v1 mv1 hf => ?_)
    refine xr_get A xc_X1 in_X1 8 (Nat.le_of_ble_eq_true rfl) q271 rfl (ab_gRE mv1) dX1_walked_1 ?_
    refine xr_iload_n A dX1_walked_4 1 rfl rfl ?_
    revert hf; refine ab_bdI (fun a2 e hf => ?_); subst e
    revert hf; refine ab_bdI (fun v3 mv3 hf => ?_)
    refine xr_aaload A (t := 5) rfl mv3 dX1_walked_5 ?_
    refine xr_aload_n A dX1_walked_6 0 rfl rfl ?_
    revert hf; refine ab_bdI (fun v4 mv4 hf => ?_)
    refine xr_get A xc_X1 in_X1 3 (Nat.le_of_ble_eq_true rfl) q266 rfl (ab_gRE mv4) dX1_walked_7 ?_
    refine xr_aload_n A dX1_walked_10 0 rfl rfl ?_
    revert hf; refine ab_bdI (fun v5 mv5 hf => ?_)
    refine xr_get A xc_X1 in_X1 3 (Nat.le_of_ble_eq_true rfl) q266 rfl (ab_gRE mv5) dX1_walked_11 ?_
    revert hf; refine ab_bdI (fun a6 e hf => ?_); subst e
    revert hf; refine ab_bdI (fun v7 mv7 hf => ?_)
    refine xr_get A xc_X6 in_X6 4 (Nat.le_of_ble_eq_true rfl) q448 rfl (ab_gRE mv7) dX1_walked_14 ?_
    refine xr_iload_n A dX1_walked_17 1 rfl rfl ?_
    revert hf; refine ab_bdI (fun a8 e hf => ?_); subst e
    revert hf; refine ab_bdI (fun v9 mv9 hf => ?_)
    refine xr_aaload A (t := 10) rfl mv9 dX1_walked_18 ?_
    refine xr_iload_n A dX1_walked_19 2 rfl rfl ?_
    revert hf; refine ab_bdI (fun a10 e hf => ?_); subst e
    revert hf; refine ab_b2I (fun v13 h12 m11 hf => ?_)
    refine xr_V A bX4_walks (wX4_walks D m11).2 xc_X4 (wX4_walks D m11).1 q1050 q1051 q1049 (av := [vR v4, vR v9, vI p2]) (rest := []) rfl dX1_walked_20 (Nat.le_of_ble_eq_true rfl) (Nat.le_of_ble_eq_true rfl) rfl (Nat.le_of_ble_eq_true rfl) ?_
    exact xr_areturn A (Or.inl ⟨_, rfl⟩) hf dX1_walked_23
/-! X1_comesTo -/
theorem bX1_comesTo : MB yX1_comesTo cX1_comesTo 4 (some FieldType.int) 2 := ⟨q1044, q92, by decide, by decide +kernel⟩
noncomputable def fX1_comesTo (x : Nat) (p1 : Int32) (p2 : Int32) (h : Hp) : Option (Int32 × Hp) :=
  ab_ck h x 0 <|
  ab_bd (ab_gI h x 0 7) fun v1 =>
  ab_b2 (fX1_walked x p1 v1 h) fun v4 h3 =>
  ab_bd v4 fun a5 =>
  ab_bd (ab_gR h3 a5 3 1) fun v6 =>
  ab_b2 (fX4_placeOf a5 p2 h3) fun v9 h8 =>
  ab_bd v6 fun a10 =>
  ab_bd (ab_aI h8 a10 0 v9) fun v11 =>
  some (v11, h8)
theorem wX1_comesTo (D : Dd) {x : Nat} {p1 : Int32} {p2 : Int32} {h : Hp} {r : Int32} {h' : Hp} (hf : fX1_comesTo x p1 p2 h = some (r, h')) : ab_is h x 0 ∧ Ct D 5 112 yX1_comesTo cX1_comesTo 4 (some FieldType.int) [vR (some x), vI p1, vI p2] h (.inl (some (vI r))) h' := by
    unfold fX1_comesTo at hf
    replace hf := ab_ckE hf; obtain ⟨i0, hf⟩ := hf
    refine ⟨i0, ?_⟩
    refine Ct.of (by decide) (L := [(0, vR (some x)), (1, vI p1), (2, vI p2)]) rfl (Nat.le_of_ble_eq_true rfl) (fun C A => ?_)
    refine xr_aload_n A dX1_comesTo_0 0 rfl rfl ?_
    refine xr_iload_n A dX1_comesTo_1 1 rfl rfl ?_
    refine xr_aload_n A dX1_comesTo_2 0 rfl rfl ?_
    revert hf; refine ab_bdI (fun v1 mv1 hf => ?_)
    refine xr_get A xc_X1 in_X1 7 (Nat.le_of_ble_eq_true rfl) q270 rfl (ab_gIE mv1) dX1_comesTo_3 ?_
    revert hf; refine ab_b2I (fun v4 h3 m2 hf => ?_)
    refine xr_V A bX1_walked (wX1_walked D m2).2 xc_X1 (wX1_walked D m2).1 q1047 qs31 q1045 (av := [vI p1, vI v1]) (rest := []) rfl dX1_comesTo_6 (Nat.le_of_ble_eq_true rfl) (Nat.le_of_ble_eq_true rfl) rfl (Nat.le_of_ble_eq_true rfl) ?_
    refine xr_astore_n A dX1_comesTo_9 rfl (Nat.le_of_ble_eq_true rfl) (L' := [(3, vR v4), (0, vR (some x)), (1, vI p1), (2, vI p2)]) rfl ?_
    refine xr_aload_n A dX1_comesTo_10 0 rfl rfl ?_
    revert hf; refine ab_bdI (fun a5 e hf => ?_); subst e
    revert hf; refine ab_bdI (fun v6 mv6 hf => ?_)
    refine xr_get A xc_X4 in_X4 1 (Nat.le_of_ble_eq_true rfl) q248 rfl (ab_gRE mv6) dX1_comesTo_11 ?_
    refine xr_aload_n A dX1_comesTo_14 0 rfl rfl ?_
    refine xr_iload_n A dX1_comesTo_15 3 rfl rfl ?_
    revert hf; refine ab_b2I (fun v9 h8 m7 hf => ?_)
    refine xr_V A bX4_placeOf (wX4_placeOf D m7).2 xc_X4 (wX4_placeOf D m7).1 q1014 q1015 q1013 (av := [vI p2]) (rest := [vR v6]) rfl dX1_comesTo_16 (Nat.le_of_ble_eq_true rfl) (Nat.le_of_ble_eq_true rfl) rfl (Nat.le_of_ble_eq_true rfl) ?_
    revert hf; refine ab_bdI (fun a10 e hf => ?_); subst e
    revert hf; refine ab_bdI (fun v11 mv11 hf => ?_)
    refine xr_iaload A mv11 dX1_comesTo_19 ?_
    exact xr_ireturn A rfl hf dX1_comesTo_20
/-! X1_comes -/
theorem bX1_comes : MB yX1_comes cX1_comes 3 (some FieldType.int) 1 := ⟨q1036, q92, by decide, by decide +kernel⟩
noncomputable def fX1_comes (x : Nat) (p1 : Int32) (h : Hp) : Option (Int32 × Hp) :=
  ab_ck h x 0 <|
  ab_bd (fX1_anew x h) fun h2 =>
  ab_b2 (fX1_drivenWhy x p1 h2) fun v5 h4 =>
  if v5 = 0 then (
    ab_b2 (fX1_carOf x p1 h4) fun v8 h7 =>
    ab_b2 (fX1_comesTo x v8 p1 h7) fun v11 h10 =>
    some (v11, h10))
  else (
    ab_b2 (fX1_no x v5 h4) fun v14 h13 =>
    some (v14, h13))
theorem wX1_comes (D : Dd) {x : Nat} {p1 : Int32} {h : Hp} {r : Int32} {h' : Hp} (hf : fX1_comes x p1 h = some (r, h')) : ab_is h x 0 ∧ Ct D 6 135 yX1_comes cX1_comes 3 (some FieldType.int) [vR (some x), vI p1] h (.inl (some (vI r))) h' := by
    unfold fX1_comes at hf
    replace hf := ab_ckE hf; obtain ⟨i0, hf⟩ := hf
    refine ⟨i0, ?_⟩
    refine Ct.of (by decide) (L := [(0, vR (some x)), (1, vI p1)]) rfl (Nat.le_of_ble_eq_true rfl) (fun C A => ?_)
    refine xr_aload_n A dX1_comes_0 0 rfl rfl ?_
    revert hf; refine ab_bdI (fun h2 m1 hf => ?_)
    refine xr_V0 A bX1_anew (wX1_anew D m1).2 xc_X1 (wX1_anew D m1).1 q402 qs2 q400 (av := []) (rest := []) rfl dX1_comes_1 (Nat.le_of_ble_eq_true rfl) (Nat.le_of_ble_eq_true rfl) rfl (Nat.le_of_ble_eq_true rfl) ?_
    refine xr_aload_n A dX1_comes_4 0 rfl rfl ?_
    refine xr_iload_n A dX1_comes_5 1 rfl rfl ?_
    revert hf; refine ab_b2I (fun v5 h4 m3 hf => ?_)
    refine xr_V A bX1_drivenWhy (wX1_drivenWhy D m3).2 xc_X1 (wX1_drivenWhy D m3).1 q1039 qs29 q1037 (av := [vI p1]) (rest := []) rfl dX1_comes_6 (Nat.le_of_ble_eq_true rfl) (Nat.le_of_ble_eq_true rfl) rfl (Nat.le_of_ble_eq_true rfl) ?_
    refine xr_istore_n A dX1_comes_9 rfl (Nat.le_of_ble_eq_true rfl) (L' := [(2, vI v5), (0, vR (some x)), (1, vI p1)]) rfl ?_
    refine xr_iload_n A dX1_comes_10 0 rfl rfl ?_
    refine xr_if_eq A (tgt := 22) dX1_comes_11 (by decide) (fun c11 => ?_) (fun c11 => ?_)
    · replace hf := ab_ip c11 hf
      refine xr_aload_n A dX1_comes_22 1 rfl rfl ?_
      refine xr_aload_n A dX1_comes_23 1 rfl rfl ?_
      refine xr_iload_n A dX1_comes_24 2 rfl rfl ?_
      revert hf; refine ab_b2I (fun v8 h7 m6 hf => ?_)
      refine xr_V A bX1_carOf (wX1_carOf D m6).2 xc_X1 (wX1_carOf D m6).1 q1011 qs26 q1009 (av := [vI p1]) (rest := [vR (some x)]) rfl dX1_comes_25 (Nat.le_of_ble_eq_true rfl) (Nat.le_of_ble_eq_true rfl) rfl (Nat.le_of_ble_eq_true rfl) ?_
      refine xr_iload_n A dX1_comes_28 2 rfl rfl ?_
      revert hf; refine ab_b2I (fun v11 h10 m9 hf => ?_)
      refine xr_V A bX1_comesTo (wX1_comesTo D m9).2 xc_X1 (wX1_comesTo D m9).1 q1043 qs30 q1041 (av := [vI v8, vI p1]) (rest := []) rfl dX1_comes_29 (Nat.le_of_ble_eq_true rfl) (Nat.le_of_ble_eq_true rfl) rfl (Nat.le_of_ble_eq_true rfl) ?_
      exact xr_ireturn A rfl hf dX1_comes_32
    · replace hf := ab_in c11 hf
      refine xr_aload_n A dX1_comes_14 1 rfl rfl ?_
      refine xr_iload_n A dX1_comes_15 0 rfl rfl ?_
      revert hf; refine ab_b2I (fun v14 h13 m12 hf => ?_)
      refine xr_V A bX1_no (wX1_no D m12).2 xc_X1 (wX1_no D m12).1 q409 qs3 q407 (av := [vI v5]) (rest := []) rfl dX1_comes_16 (Nat.le_of_ble_eq_true rfl) (Nat.le_of_ble_eq_true rfl) rfl (Nat.le_of_ble_eq_true rfl) ?_
      refine xr_goto A (tgt := 32) dX1_comes_19 (by decide) ?_
      exact xr_ireturn A rfl hf dX1_comes_32
/-! X1_heat -/
theorem bX1_heat : MB yX1_heat cX1_heat 2 (some FieldType.int) 1 := ⟨q1075, q92, by decide, by decide +kernel⟩
noncomputable def fX1_heat (x : Nat) (p1 : Int32) (h : Hp) : Option (Int32 × Hp) :=
  ab_ck h x 0 <|
  ab_bd (fX1_anew x h) fun h2 =>
  ab_b2 (fX1_drivenWhy x p1 h2) fun v5 h4 =>
  ab_bd (ab_pI h4 x 0 4 v5) fun h6 =>
  ab_bd (ab_gI h6 x 0 4) fun v7 =>
  if v7 = 0 then (
    ab_bd (ab_gR h6 x 0 3) fun v8 =>
    ab_bd v8 fun a9 =>
    ab_bd (ab_gR h6 a9 5 4) fun v10 =>
    ab_b2 (fX1_carOf x p1 h6) fun v13 h12 =>
    ab_bd v10 fun a14 =>
    ab_bd (ab_aR h12 a14 10 v13) fun v15 =>
    ab_b2 (fX1_carOf x p1 h12) fun v18 h17 =>
    ab_b2 (fX1_comesTo x v18 p1 h17) fun v21 h20 =>
    ab_bd v15 fun a22 =>
    ab_b2 (fX12_heat a22 v21 h20) fun v25 h24 =>
    some (v25, h24))
  else (
    some ((-1000 : Int32), h6))
theorem wX1_heat (D : Dd) {x : Nat} {p1 : Int32} {h : Hp} {r : Int32} {h' : Hp} (hf : fX1_heat x p1 h = some (r, h')) : ab_is h x 0 ∧ Ct D 6 135 yX1_heat cX1_heat 2 (some FieldType.int) [vR (some x), vI p1] h (.inl (some (vI r))) h' := by
    unfold fX1_heat at hf
    replace hf := ab_ckE hf; obtain ⟨i0, hf⟩ := hf
    refine ⟨i0, ?_⟩
    refine Ct.of (by decide) (L := [(0, vR (some x)), (1, vI p1)]) rfl (Nat.le_of_ble_eq_true rfl) (fun C A => ?_)
    refine xr_aload_n A dX1_heat_0 0 rfl rfl ?_
    revert hf; refine ab_bdI (fun h2 m1 hf => ?_)
    refine xr_V0 A bX1_anew (wX1_anew D m1).2 xc_X1 (wX1_anew D m1).1 q402 qs2 q400 (av := []) (rest := []) rfl dX1_heat_1 (Nat.le_of_ble_eq_true rfl) (Nat.le_of_ble_eq_true rfl) rfl (Nat.le_of_ble_eq_true rfl) ?_
    refine xr_aload_n A dX1_heat_4 0 rfl rfl ?_
    refine xr_aload_n A dX1_heat_5 0 rfl rfl ?_
    refine xr_iload_n A dX1_heat_6 1 rfl rfl ?_
    revert hf; refine ab_b2I (fun v5 h4 m3 hf => ?_)
    refine xr_V A bX1_drivenWhy (wX1_drivenWhy D m3).2 xc_X1 (wX1_drivenWhy D m3).1 q1039 qs29 q1037 (av := [vI p1]) (rest := [vR (some x)]) rfl dX1_heat_7 (Nat.le_of_ble_eq_true rfl) (Nat.le_of_ble_eq_true rfl) rfl (Nat.le_of_ble_eq_true rfl) ?_
    revert hf; refine ab_bdI (fun h6 mh6 hf => ?_)
    refine xr_put A xc_X1 in_X1 tyX1_ok nmX1 4 (Nat.le_of_ble_eq_true rfl) q267 rfl rfl (v := vI v5) rfl rfl mh6 dX1_heat_10 ?_
    refine xr_aload_n A dX1_heat_13 0 rfl rfl ?_
    revert hf; refine ab_bdI (fun v7 mv7 hf => ?_)
    refine xr_get A xc_X1 in_X1 4 (Nat.le_of_ble_eq_true rfl) q267 rfl (ab_gIE mv7) dX1_heat_14 ?_
    refine xr_if_eq A (tgt := 26) dX1_heat_17 (by decide) (fun c17 => ?_) (fun c17 => ?_)
    · replace hf := ab_ip c17 hf
      refine xr_aload_n A dX1_heat_26 0 rfl rfl ?_
      revert hf; refine ab_bdI (fun v8 mv8 hf => ?_)
      refine xr_get A xc_X1 in_X1 3 (Nat.le_of_ble_eq_true rfl) q266 rfl (ab_gRE mv8) dX1_heat_27 ?_
      revert hf; refine ab_bdI (fun a9 e hf => ?_); subst e
      revert hf; refine ab_bdI (fun v10 mv10 hf => ?_)
      refine xr_get A xc_X6 in_X6 4 (Nat.le_of_ble_eq_true rfl) q448 rfl (ab_gRE mv10) dX1_heat_30 ?_
      refine xr_aload_n A dX1_heat_33 0 rfl rfl ?_
      refine xr_iload_n A dX1_heat_34 1 rfl rfl ?_
      revert hf; refine ab_b2I (fun v13 h12 m11 hf => ?_)
      refine xr_V A bX1_carOf (wX1_carOf D m11).2 xc_X1 (wX1_carOf D m11).1 q1011 qs26 q1009 (av := [vI p1]) (rest := [vR v10]) rfl dX1_heat_35 (Nat.le_of_ble_eq_true rfl) (Nat.le_of_ble_eq_true rfl) rfl (Nat.le_of_ble_eq_true rfl) ?_
      revert hf; refine ab_bdI (fun a14 e hf => ?_); subst e
      revert hf; refine ab_bdI (fun v15 mv15 hf => ?_)
      refine xr_aaload A (t := 10) rfl mv15 dX1_heat_38 ?_
      refine xr_aload_n A dX1_heat_39 0 rfl rfl ?_
      refine xr_aload_n A dX1_heat_40 0 rfl rfl ?_
      refine xr_iload_n A dX1_heat_41 1 rfl rfl ?_
      revert hf; refine ab_b2I (fun v18 h17 m16 hf => ?_)
      refine xr_V A bX1_carOf (wX1_carOf D m16).2 xc_X1 (wX1_carOf D m16).1 q1011 qs26 q1009 (av := [vI p1]) (rest := [vR (some x), vR v15]) rfl dX1_heat_42 (Nat.le_of_ble_eq_true rfl) (Nat.le_of_ble_eq_true rfl) rfl (Nat.le_of_ble_eq_true rfl) ?_
      refine xr_iload_n A dX1_heat_45 1 rfl rfl ?_
      revert hf; refine ab_b2I (fun v21 h20 m19 hf => ?_)
      refine xr_V A bX1_comesTo (wX1_comesTo D m19).2 xc_X1 (wX1_comesTo D m19).1 q1043 qs30 q1041 (av := [vI v18, vI p1]) (rest := [vR v15]) rfl dX1_heat_46 (Nat.le_of_ble_eq_true rfl) (Nat.le_of_ble_eq_true rfl) rfl (Nat.le_of_ble_eq_true rfl) ?_
      revert hf; refine ab_bdI (fun a22 e hf => ?_); subst e
      revert hf; refine ab_b2I (fun v25 h24 m23 hf => ?_)
      refine xr_V A bX12_heat (wX12_heat D m23).2 xc_X12 (wX12_heat D m23).1 q1068 q1069 q1076 (av := [vI v21]) (rest := []) rfl dX1_heat_49 (Nat.le_of_ble_eq_true rfl) (Nat.le_of_ble_eq_true rfl) rfl (Nat.le_of_ble_eq_true rfl) ?_
      exact xr_ireturn A rfl hf dX1_heat_52
    · replace hf := ab_in c17 hf
      refine xr_sipush A (v := (-1000)) dX1_heat_20 (by decide) ?_
      refine xr_goto A (tgt := 52) dX1_heat_23 (by decide) ?_
      exact xr_ireturn A rfl hf dX1_heat_52
/-! X1_bad -/
theorem bX1_bad : MB yX1_bad cX1_bad 2 (some FieldType.int) 1 := ⟨q1080, q92, by decide, by decide +kernel⟩
noncomputable def fX1_bad (x : Nat) (p1 : Int32) (h : Hp) : Option (Int32 × Hp) :=
  ab_ck h x 0 <|
  ab_bd (fX1_anew x h) fun h2 =>
  ab_b2 (fX1_isCar x p1 h2) fun v5 h4 =>
  if v5 = 0 then (
    ab_b2 (fX1_no x (1 : Int32) h4) fun v8 h7 =>
    some (v8, h7))
  else (
    ab_bd (ab_gI h4 x 0 7) fun v9 =>
    ab_b2 (fX1_walked x p1 v9 h4) fun v12 h11 =>
    ab_bd v12 fun a13 =>
    ab_bd (ab_gI h11 a13 3 3) fun v14 =>
    some (v14, h11))
theorem wX1_bad (D : Dd) {x : Nat} {p1 : Int32} {h : Hp} {r : Int32} {h' : Hp} (hf : fX1_bad x p1 h = some (r, h')) : ab_is h x 0 ∧ Ct D 5 112 yX1_bad cX1_bad 2 (some FieldType.int) [vR (some x), vI p1] h (.inl (some (vI r))) h' := by
    unfold fX1_bad at hf
    replace hf := ab_ckE hf; obtain ⟨i0, hf⟩ := hf
    refine ⟨i0, ?_⟩
    refine Ct.of (by decide) (L := [(0, vR (some x)), (1, vI p1)]) rfl (Nat.le_of_ble_eq_true rfl) (fun C A => ?_)
    refine xr_aload_n A dX1_bad_0 0 rfl rfl ?_
    revert hf; refine ab_bdI (fun h2 m1 hf => ?_)
    refine xr_V0 A bX1_anew (wX1_anew D m1).2 xc_X1 (wX1_anew D m1).1 q402 qs2 q400 (av := []) (rest := []) rfl dX1_bad_1 (Nat.le_of_ble_eq_true rfl) (Nat.le_of_ble_eq_true rfl) rfl (Nat.le_of_ble_eq_true rfl) ?_
    refine xr_aload_n A dX1_bad_4 0 rfl rfl ?_
    refine xr_iload_n A dX1_bad_5 1 rfl rfl ?_
    revert hf; refine ab_b2I (fun v5 h4 m3 hf => ?_)
    refine xr_V A bX1_isCar (wX1_isCar D m3).2 xc_X1 (wX1_isCar D m3).1 q1003 qs24 q1001 (av := [vI p1]) (rest := []) rfl dX1_bad_6 (Nat.le_of_ble_eq_true rfl) (Nat.le_of_ble_eq_true rfl) rfl (Nat.le_of_ble_eq_true rfl) ?_
    refine xr_if_eq A (tgt := 27) dX1_bad_9 (by decide) (fun c9 => ?_) (fun c9 => ?_)
    · replace hf := ab_ip c9 hf
      refine xr_aload_n A dX1_bad_27 0 rfl rfl ?_
      refine xr_iconst A (v := 1) dX1_bad_28 (by decide) ?_
      revert hf; refine ab_b2I (fun v8 h7 m6 hf => ?_)
      refine xr_V A bX1_no (wX1_no D m6).2 xc_X1 (wX1_no D m6).1 q409 qs3 q407 (av := [vI (1 : Int32)]) (rest := []) rfl dX1_bad_29 (Nat.le_of_ble_eq_true rfl) (Nat.le_of_ble_eq_true rfl) rfl (Nat.le_of_ble_eq_true rfl) ?_
      exact xr_ireturn A rfl hf dX1_bad_32
    · replace hf := ab_in c9 hf
      refine xr_aload_n A dX1_bad_12 0 rfl rfl ?_
      refine xr_iload_n A dX1_bad_13 1 rfl rfl ?_
      refine xr_aload_n A dX1_bad_14 0 rfl rfl ?_
      revert hf; refine ab_bdI (fun v9 mv9 hf => ?_)
      refine xr_get A xc_X1 in_X1 7 (Nat.le_of_ble_eq_true rfl) q270 rfl (ab_gIE mv9) dX1_bad_15 ?_
      revert hf; refine ab_b2I (fun v12 h11 m10 hf => ?_)
      refine xr_V A bX1_walked (wX1_walked D m10).2 xc_X1 (wX1_walked D m10).1 q1047 qs31 q1045 (av := [vI p1, vI v9]) (rest := []) rfl dX1_bad_18 (Nat.le_of_ble_eq_true rfl) (Nat.le_of_ble_eq_true rfl) rfl (Nat.le_of_ble_eq_true rfl) ?_
      revert hf; refine ab_bdI (fun a13 e hf => ?_); subst e
      revert hf; refine ab_bdI (fun v14 mv14 hf => ?_)
      refine xr_get A xc_X4 in_X4 3 (Nat.le_of_ble_eq_true rfl) q252 rfl (ab_gIE mv14) dX1_bad_21 ?_
      refine xr_goto A (tgt := 32) dX1_bad_24 (by decide) ?_
      exact xr_ireturn A rfl hf dX1_bad_32
/-! X1_way -/
theorem bX1_way : MB yX1_way cX1_way 3 (some FieldType.int) 2 := ⟨q1084, q92, by decide, by decide +kernel⟩
noncomputable def fX1_way (x : Nat) (p1 : Int32) (p2 : Int32) (h : Hp) : Option (Int32 × Hp) :=
  ab_ck h x 0 <|
  ab_bd (fX1_anew x h) fun h2 =>
  ab_bd (ab_gR h2 x 0 3) fun v3 =>
  ab_on v3 (
    ab_b2 (fX1_no x (1 : Int32) h2) fun v7 h6 =>
    some (v7, h6)) fun a4 => (
    ab_b2 (fX1_in p1 (0 : Int32) (99 : Int32) h2) fun v10 h9 =>
    if v10 = 0 then (
      ab_b2 (fX1_no x (2 : Int32) h9) fun v13 h12 =>
      some (v13, h12))
    else (
      ab_b2 (fX1_in p2 (0 : Int32) (99 : Int32) h9) fun v16 h15 =>
      if v16 = 0 then (
        ab_b2 (fX1_no x (2 : Int32) h15) fun v19 h18 =>
        some (v19, h18))
      else (
        ab_bd (ab_gR h15 x 0 3) fun v20 =>
        ab_bd v20 fun a21 =>
        ab_b2 (fX6_way a21 p1 p2 h15) fun v24 h23 =>
        some (v24, h23))))
theorem wX1_way (D : Dd) {x : Nat} {p1 : Int32} {p2 : Int32} {h : Hp} {r : Int32} {h' : Hp} (hf : fX1_way x p1 p2 h = some (r, h')) : ab_is h x 0 ∧ Ct D 2 47 yX1_way cX1_way 3 (some FieldType.int) [vR (some x), vI p1, vI p2] h (.inl (some (vI r))) h' := by
    unfold fX1_way at hf
    replace hf := ab_ckE hf; obtain ⟨i0, hf⟩ := hf
    refine ⟨i0, ?_⟩
    refine Ct.of (by decide) (L := [(0, vR (some x)), (1, vI p1), (2, vI p2)]) rfl (Nat.le_of_ble_eq_true rfl) (fun C A => ?_)
    refine xr_aload_n A dX1_way_0 0 rfl rfl ?_
    revert hf; refine ab_bdI (fun h2 m1 hf => ?_)
    refine xr_V0 A bX1_anew (wX1_anew D m1).2 xc_X1 (wX1_anew D m1).1 q402 qs2 q400 (av := []) (rest := []) rfl dX1_way_1 (Nat.le_of_ble_eq_true rfl) (Nat.le_of_ble_eq_true rfl) rfl (Nat.le_of_ble_eq_true rfl) ?_
    refine xr_aload_n A dX1_way_4 0 rfl rfl ?_
    revert hf; refine ab_bdI (fun v3 mv3 hf => ?_)
    refine xr_get A xc_X1 in_X1 3 (Nat.le_of_ble_eq_true rfl) q266 rfl (ab_gRE mv3) dX1_way_5 ?_
    revert hf; refine ab_onI (fun e hf => ?_) (fun a4 e hf => ?_) <;> subst e
    · refine xr_ifnonnull A (tgt := 17) dX1_way_8 (by decide) (fun _ e => by cases e) (fun _ => ?_)
      refine xr_aload_n A dX1_way_11 0 rfl rfl ?_
      refine xr_iconst A (v := 1) dX1_way_12 (by decide) ?_
      revert hf; refine ab_b2I (fun v7 h6 m5 hf => ?_)
      refine xr_V A bX1_no (wX1_no D m5).2 xc_X1 (wX1_no D m5).1 q409 qs3 q407 (av := [vI (1 : Int32)]) (rest := []) rfl dX1_way_13 (Nat.le_of_ble_eq_true rfl) (Nat.le_of_ble_eq_true rfl) rfl (Nat.le_of_ble_eq_true rfl) ?_
      exact xr_ireturn A rfl hf dX1_way_16
    · refine xr_ifnonnull A (tgt := 17) dX1_way_8 (by decide) (fun _ _ => ?_) (fun e => by cases e)
      refine xr_iload_n A dX1_way_17 1 rfl rfl ?_
      refine xr_iconst A (v := 0) dX1_way_18 (by decide) ?_
      refine xr_bipush A (v := 99) dX1_way_19 (by decide) ?_
      revert hf; refine ab_b2I (fun v10 h9 m8 hf => ?_)
      refine xr_S A bX1_in (wX1_in D m8) q405 q404 (av := [vI p1, vI (0 : Int32), vI (99 : Int32)]) (rest := []) rfl dX1_way_21 (Nat.le_of_ble_eq_true rfl) (Nat.le_of_ble_eq_true rfl) rfl (Nat.le_of_ble_eq_true rfl) ?_
      refine xr_if_eq A (tgt := 49) dX1_way_24 (by decide) (fun c24 => ?_) (fun c24 => ?_)
      · replace hf := ab_ip c24 hf
        refine xr_aload_n A dX1_way_49 0 rfl rfl ?_
        refine xr_iconst A (v := 2) dX1_way_50 (by decide) ?_
        revert hf; refine ab_b2I (fun v13 h12 m11 hf => ?_)
        refine xr_V A bX1_no (wX1_no D m11).2 xc_X1 (wX1_no D m11).1 q409 qs3 q407 (av := [vI (2 : Int32)]) (rest := []) rfl dX1_way_51 (Nat.le_of_ble_eq_true rfl) (Nat.le_of_ble_eq_true rfl) rfl (Nat.le_of_ble_eq_true rfl) ?_
        exact xr_ireturn A rfl hf dX1_way_54
      · replace hf := ab_in c24 hf
        refine xr_iload_n A dX1_way_27 2 rfl rfl ?_
        refine xr_iconst A (v := 0) dX1_way_28 (by decide) ?_
        refine xr_bipush A (v := 99) dX1_way_29 (by decide) ?_
        revert hf; refine ab_b2I (fun v16 h15 m14 hf => ?_)
        refine xr_S A bX1_in (wX1_in D m14) q405 q404 (av := [vI p2, vI (0 : Int32), vI (99 : Int32)]) (rest := []) rfl dX1_way_31 (Nat.le_of_ble_eq_true rfl) (Nat.le_of_ble_eq_true rfl) rfl (Nat.le_of_ble_eq_true rfl) ?_
        refine xr_if_eq A (tgt := 49) dX1_way_34 (by decide) (fun c34 => ?_) (fun c34 => ?_)
        · replace hf := ab_ip c34 hf
          refine xr_aload_n A dX1_way_49 0 rfl rfl ?_
          refine xr_iconst A (v := 2) dX1_way_50 (by decide) ?_
          revert hf; refine ab_b2I (fun v19 h18 m17 hf => ?_)
          refine xr_V A bX1_no (wX1_no D m17).2 xc_X1 (wX1_no D m17).1 q409 qs3 q407 (av := [vI (2 : Int32)]) (rest := []) rfl dX1_way_51 (Nat.le_of_ble_eq_true rfl) (Nat.le_of_ble_eq_true rfl) rfl (Nat.le_of_ble_eq_true rfl) ?_
          exact xr_ireturn A rfl hf dX1_way_54
        · replace hf := ab_in c34 hf
          refine xr_aload_n A dX1_way_37 0 rfl rfl ?_
          revert hf; refine ab_bdI (fun v20 mv20 hf => ?_)
          refine xr_get A xc_X1 in_X1 3 (Nat.le_of_ble_eq_true rfl) q266 rfl (ab_gRE mv20) dX1_way_38 ?_
          refine xr_iload_n A dX1_way_41 1 rfl rfl ?_
          refine xr_iload_n A dX1_way_42 2 rfl rfl ?_
          revert hf; refine ab_bdI (fun a21 e hf => ?_); subst e
          revert hf; refine ab_b2I (fun v24 h23 m22 hf => ?_)
          refine xr_V A bX6_way (wX6_way D m22).2 xc_X6 (wX6_way D m22).1 q1054 q1055 q1085 (av := [vI p1, vI p2]) (rest := []) rfl dX1_way_43 (Nat.le_of_ble_eq_true rfl) (Nat.le_of_ble_eq_true rfl) rfl (Nat.le_of_ble_eq_true rfl) ?_
          refine xr_goto A (tgt := 54) dX1_way_46 (by decide) ?_
          exact xr_ireturn A rfl hf dX1_way_54
/-! X1_ones -/
theorem bX1_ones : MB yX1_ones cX1_ones 3 (some FieldType.int) 1 := ⟨q1096, q92, by decide, by decide +kernel⟩
noncomputable def fX1_ones_l4 : Nat → Int32 → Int32 → Hp → Option (Int32 × Hp)
  | 0, _, _, _ => none
  | n + 1, l1, l2, h =>
  if l2 = 0 then (
    some (l1, h))
  else (
    fX1_ones_l4 n (l1 + (1 : Int32)) (l2 &&& (l2 - (1 : Int32))) h)
theorem wX1_ones_l4 {D : Dd} {C : Cx} {h0 h' : Hp} {r : Int32} (A : Act C D (h0, (.inl (some (vI r))), h') yX1_ones cX1_ones 3 (some FieldType.int) 1 20 []) : ∀ (n : Nat) {l1 : Int32} {l2 : Int32} {h : Hp}, fX1_ones_l4 n l1 l2 h = some (r, h') → X C D (h0, (.inl (some (vI r))), h') 3 4 [(1, vI l1), (2, vI l2)] [] h := by
  intro n
  induction n with
  | zero => intro l1 l2 h hf; exact ab_no hf
  | succ n ih =>
    intro l1 l2 h hf
    unfold fX1_ones_l4 at hf
    refine xr_iload_n A dX1_ones_4 1 rfl rfl ?_
    refine xr_if_eq A (tgt := 20) dX1_ones_5 (by decide) (fun c5 => ?_) (fun c5 => ?_)
    · replace hf := ab_ip c5 hf
      refine xr_iload_n A dX1_ones_20 0 rfl rfl ?_
      exact xr_ireturn A rfl hf dX1_ones_21
    · replace hf := ab_in c5 hf
      refine xr_iinc A dX1_ones_8 0 rfl (v := (l1 + (1 : Int32))) rfl (Nat.le_of_ble_eq_true rfl) (L' := [(1, vI (l1 + (1 : Int32))), (2, vI l2)]) rfl ?_
      refine xr_iload_n A dX1_ones_11 1 rfl rfl ?_
      refine xr_iload_n A dX1_ones_12 1 rfl rfl ?_
      refine xr_iconst A (v := 1) dX1_ones_13 (by decide) ?_
      refine xr_isub A dX1_ones_14 ?_
      refine xr_iand A dX1_ones_15 ?_
      refine xr_istore_n A dX1_ones_16 rfl (Nat.le_of_ble_eq_true rfl) (L' := [(2, vI (l2 &&& (l2 - (1 : Int32)))), (1, vI (l1 + (1 : Int32)))]) rfl ?_
      refine xr_goto A (tgt := 4) dX1_ones_17 (by decide) ?_
      refine X.sub [1, 0] rfl ?_
      exact ih hf
noncomputable def fX1_ones (p0 : Int32) (h : Hp) : Option (Int32 × Hp) :=
  fX1_ones_l4 (hfu h) (0 : Int32) p0 h
theorem wX1_ones (D : Dd) {p0 : Int32} {h : Hp} {r : Int32} {h' : Hp} (hf : fX1_ones p0 h = some (r, h')) : Ct D 1 20 yX1_ones cX1_ones 3 (some FieldType.int) [vI p0] h (.inl (some (vI r))) h' := by
    unfold fX1_ones at hf
    refine Ct.of (by decide) (L := [(0, vI p0)]) rfl (Nat.le_of_ble_eq_true rfl) (fun C A => ?_)
    refine xr_iconst A (v := 0) dX1_ones_0 (by decide) ?_
    refine xr_istore_n A dX1_ones_1 rfl (Nat.le_of_ble_eq_true rfl) (L' := [(1, vI (0 : Int32)), (0, vI p0)]) rfl ?_
    refine xr_iload_n A dX1_ones_2 1 rfl rfl ?_
    refine xr_istore_n A dX1_ones_3 rfl (Nat.le_of_ble_eq_true rfl) (L' := [(2, vI p0), (1, vI (0 : Int32)), (0, vI p0)]) rfl ?_
    refine X.sub [1, 0] rfl ?_
    exact wX1_ones_l4 A _ hf
/-! X1_bestWhy -/
theorem bX1_bestWhy : MB yX1_bestWhy cX1_bestWhy 3 (some FieldType.int) 2 := ⟨q1093, q92, by decide, by decide +kernel⟩
noncomputable def fX1_bestWhy (x : Nat) (p1 : Int32) (p2 : Int32) (h : Hp) : Option (Int32 × Hp) :=
  ab_ck h x 0 <|
  ab_b2 (fX1_isCar x p1 h) fun v3 h2 =>
  if v3 = 0 then (
    some ((1 : Int32), h2))
  else (
    ab_b2 (fX1_isSet x p2 h2) fun v6 h5 =>
    if v6 = 0 then (
      some ((1 : Int32), h5))
    else (
      ab_b2 (fX1_ones p2 h5) fun v9 h8 =>
      ab_bd (ab_gR h8 x 0 3) fun v10 =>
      ab_bd v10 fun a11 =>
      ab_bd (ab_gR h8 a11 5 4) fun v12 =>
      ab_bd v12 fun a13 =>
      ab_bd (ab_aR h8 a13 10 p1) fun v14 =>
      ab_bd v14 fun a15 =>
      ab_bd (ab_gI h8 a15 10 4) fun v16 =>
      if v9 ≤ v16 then (
        some ((0 : Int32), h8))
      else (
        some ((3 : Int32), h8))))
theorem wX1_bestWhy (D : Dd) {x : Nat} {p1 : Int32} {p2 : Int32} {h : Hp} {r : Int32} {h' : Hp} (hf : fX1_bestWhy x p1 p2 h = some (r, h')) : ab_is h x 0 ∧ Ct D 3 63 yX1_bestWhy cX1_bestWhy 3 (some FieldType.int) [vR (some x), vI p1, vI p2] h (.inl (some (vI r))) h' := by
    unfold fX1_bestWhy at hf
    replace hf := ab_ckE hf; obtain ⟨i0, hf⟩ := hf
    refine ⟨i0, ?_⟩
    refine Ct.of (by decide) (L := [(0, vR (some x)), (1, vI p1), (2, vI p2)]) rfl (Nat.le_of_ble_eq_true rfl) (fun C A => ?_)
    refine xr_aload_n A dX1_bestWhy_0 0 rfl rfl ?_
    refine xr_iload_n A dX1_bestWhy_1 1 rfl rfl ?_
    revert hf; refine ab_b2I (fun v3 h2 m1 hf => ?_)
    refine xr_V A bX1_isCar (wX1_isCar D m1).2 xc_X1 (wX1_isCar D m1).1 q1003 qs24 q1001 (av := [vI p1]) (rest := []) rfl dX1_bestWhy_2 (Nat.le_of_ble_eq_true rfl) (Nat.le_of_ble_eq_true rfl) rfl (Nat.le_of_ble_eq_true rfl) ?_
    refine xr_if_eq A (tgt := 16) dX1_bestWhy_5 (by decide) (fun c5 => ?_) (fun c5 => ?_)
    · replace hf := ab_ip c5 hf
      refine xr_iconst A (v := 1) dX1_bestWhy_16 (by decide) ?_
      refine xr_goto A (tgt := 44) dX1_bestWhy_17 (by decide) ?_
      exact xr_ireturn A rfl hf dX1_bestWhy_44
    · replace hf := ab_in c5 hf
      refine xr_aload_n A dX1_bestWhy_8 0 rfl rfl ?_
      refine xr_iload_n A dX1_bestWhy_9 2 rfl rfl ?_
      revert hf; refine ab_b2I (fun v6 h5 m4 hf => ?_)
      refine xr_V A bX1_isSet (wX1_isSet D m4).2 xc_X1 (wX1_isSet D m4).1 q1027 qs27 q1025 (av := [vI p2]) (rest := []) rfl dX1_bestWhy_10 (Nat.le_of_ble_eq_true rfl) (Nat.le_of_ble_eq_true rfl) rfl (Nat.le_of_ble_eq_true rfl) ?_
      refine xr_if_ne A (tgt := 20) dX1_bestWhy_13 (by decide) (fun c13 => ?_) (fun c13 => ?_)
      · replace hf := ab_in c13 hf
        refine xr_iload_n A dX1_bestWhy_20 2 rfl rfl ?_
        revert hf; refine ab_b2I (fun v9 h8 m7 hf => ?_)
        refine xr_S A bX1_ones (wX1_ones D m7) q1095 q1094 (av := [vI p2]) (rest := []) rfl dX1_bestWhy_21 (Nat.le_of_ble_eq_true rfl) (Nat.le_of_ble_eq_true rfl) rfl (Nat.le_of_ble_eq_true rfl) ?_
        refine xr_aload_n A dX1_bestWhy_24 0 rfl rfl ?_
        revert hf; refine ab_bdI (fun v10 mv10 hf => ?_)
        refine xr_get A xc_X1 in_X1 3 (Nat.le_of_ble_eq_true rfl) q266 rfl (ab_gRE mv10) dX1_bestWhy_25 ?_
        revert hf; refine ab_bdI (fun a11 e hf => ?_); subst e
        revert hf; refine ab_bdI (fun v12 mv12 hf => ?_)
        refine xr_get A xc_X6 in_X6 4 (Nat.le_of_ble_eq_true rfl) q448 rfl (ab_gRE mv12) dX1_bestWhy_28 ?_
        refine xr_iload_n A dX1_bestWhy_31 1 rfl rfl ?_
        revert hf; refine ab_bdI (fun a13 e hf => ?_); subst e
        revert hf; refine ab_bdI (fun v14 mv14 hf => ?_)
        refine xr_aaload A (t := 10) rfl mv14 dX1_bestWhy_32 ?_
        revert hf; refine ab_bdI (fun a15 e hf => ?_); subst e
        revert hf; refine ab_bdI (fun v16 mv16 hf => ?_)
        refine xr_get A xc_X12 in_X12 4 (Nat.le_of_ble_eq_true rfl) q918 rfl (ab_gIE mv16) dX1_bestWhy_33 ?_
        refine xr_icmp_le A (tgt := 43) dX1_bestWhy_36 (by decide) (fun c36 => ?_) (fun c36 => ?_)
        · replace hf := ab_ip c36 hf
          refine xr_iconst A (v := 0) dX1_bestWhy_43 (by decide) ?_
          exact xr_ireturn A rfl hf dX1_bestWhy_44
        · replace hf := ab_in c36 hf
          refine xr_iconst A (v := 3) dX1_bestWhy_39 (by decide) ?_
          refine xr_goto A (tgt := 44) dX1_bestWhy_40 (by decide) ?_
          exact xr_ireturn A rfl hf dX1_bestWhy_44
      · replace hf := ab_ip c13 hf
        refine xr_iconst A (v := 1) dX1_bestWhy_16 (by decide) ?_
        refine xr_goto A (tgt := 44) dX1_bestWhy_17 (by decide) ?_
        exact xr_ireturn A rfl hf dX1_bestWhy_44
/-! X4_last -/
theorem bX4_last : MB yX4_last cX4_last 2 (some FieldType.int) 1 := ⟨q1113, q98, by decide, by decide +kernel⟩
noncomputable def fX4_last (x : Nat) (p1 : Option Nat) (h : Hp) : Option (Int32 × Hp) :=
  ab_ck h x 3 <|
  ab_bd (ab_gI h x 3 2) fun v1 =>
  if v1 = 0 then (
    ab_bd p1 fun a6 =>
    ab_bd (ab_gI h a6 10 3) fun v7 =>
    some (v7, h))
  else (
    ab_bd (ab_gR h x 3 1) fun v2 =>
    ab_bd (ab_gI h x 3 2) fun v3 =>
    ab_bd v2 fun a4 =>
    ab_bd (ab_aI h a4 0 (v3 - (1 : Int32))) fun v5 =>
    some (v5, h))
theorem wX4_last (D : Dd) {x : Nat} {p1 : Option Nat} {h : Hp} {r : Int32} {h' : Hp} (hf : fX4_last x p1 h = some (r, h')) : ab_is h x 3 ∧ Ct D 1 20 yX4_last cX4_last 2 (some FieldType.int) [vR (some x), vR p1] h (.inl (some (vI r))) h' := by
    unfold fX4_last at hf
    replace hf := ab_ckE hf; obtain ⟨i0, hf⟩ := hf
    refine ⟨i0, ?_⟩
    refine Ct.of (by decide) (L := [(0, vR (some x)), (1, vR p1)]) rfl (Nat.le_of_ble_eq_true rfl) (fun C A => ?_)
    refine xr_aload_n A dX4_last_0 0 rfl rfl ?_
    revert hf; refine ab_bdI (fun v1 mv1 hf => ?_)
    refine xr_get A xc_X4 in_X4 2 (Nat.le_of_ble_eq_true rfl) q249 rfl (ab_gIE mv1) dX4_last_1 ?_
    refine xr_if_ne A (tgt := 14) dX4_last_4 (by decide) (fun c4 => ?_) (fun c4 => ?_)
    · replace hf := ab_in c4 hf
      refine xr_aload_n A dX4_last_14 0 rfl rfl ?_
      revert hf; refine ab_bdI (fun v2 mv2 hf => ?_)
      refine xr_get A xc_X4 in_X4 1 (Nat.le_of_ble_eq_true rfl) q247 rfl (ab_gRE mv2) dX4_last_15 ?_
      refine xr_aload_n A dX4_last_18 0 rfl rfl ?_
      revert hf; refine ab_bdI (fun v3 mv3 hf => ?_)
      refine xr_get A xc_X4 in_X4 2 (Nat.le_of_ble_eq_true rfl) q249 rfl (ab_gIE mv3) dX4_last_19 ?_
      refine xr_iconst A (v := 1) dX4_last_22 (by decide) ?_
      refine xr_isub A dX4_last_23 ?_
      revert hf; refine ab_bdI (fun a4 e hf => ?_); subst e
      revert hf; refine ab_bdI (fun v5 mv5 hf => ?_)
      refine xr_iaload A mv5 dX4_last_24 ?_
      exact xr_ireturn A rfl hf dX4_last_25
    · replace hf := ab_ip c4 hf
      refine xr_aload_n A dX4_last_7 1 rfl rfl ?_
      revert hf; refine ab_bdI (fun a6 e hf => ?_); subst e
      revert hf; refine ab_bdI (fun v7 mv7 hf => ?_)
      refine xr_get A xc_X12 in_X12 3 (Nat.le_of_ble_eq_true rfl) q914 rfl (ab_gIE mv7) dX4_last_8 ?_
      refine xr_goto A (tgt := 25) dX4_last_11 (by decide) ?_
      exact xr_ireturn A rfl hf dX4_last_25
