set_option maxRecDepth 100000
/-! X1_in -/
theorem bX1_in : MB yX1_in cX1_in 3 (some FieldType.boolean) 3 := ⟨q406, q92, by decide, by decide +kernel⟩
noncomputable def fX1_in (p0 : Int32) (p1 : Int32) (p2 : Int32) (h : Hp) : Option (Int32 × Hp) :=
  if p0 < p1 then (
    some ((0 : Int32), h))
  else (
    if p2 < p0 then (
      some ((0 : Int32), h))
    else (
      some ((1 : Int32), h)))
theorem wX1_in (D : Dd) {p0 : Int32} {p1 : Int32} {p2 : Int32} {h : Hp} {r : Int32} {h' : Hp} (hf : fX1_in p0 p1 p2 h = some (r, h')) : Ct D 1 20 yX1_in cX1_in 3 (some FieldType.boolean) [vI p0, vI p1, vI p2] h (.inl (some (vI r))) h' := by
    unfold fX1_in at hf
    refine Ct.of (by decide) (L := [(0, vI p0), (1, vI p1), (2, vI p2)]) rfl (Nat.le_of_ble_eq_true rfl) (fun C A => ?_)
    refine xr_iload_n A dX1_in_0 0 rfl rfl ?_
    refine xr_iload_n A dX1_in_1 1 rfl rfl ?_
    refine xr_icmp_lt A (tgt := 14) dX1_in_2 (by decide) (fun c2 => ?_) (fun c2 => ?_)
    · replace hf := ab_ip c2 hf
      refine xr_iconst A (v := 0) dX1_in_14 (by decide) ?_
      exact xr_ireturn A rfl hf dX1_in_15
    · replace hf := ab_in c2 hf
      refine xr_iload_n A dX1_in_5 0 rfl rfl ?_
      refine xr_iload_n A dX1_in_6 2 rfl rfl ?_
      refine xr_icmp_gt A (tgt := 14) dX1_in_7 (by decide) (fun c7 => ?_) (fun c7 => ?_)
      · replace hf := ab_ip c7 hf
        refine xr_iconst A (v := 0) dX1_in_14 (by decide) ?_
        exact xr_ireturn A rfl hf dX1_in_15
      · replace hf := ab_in c7 hf
        refine xr_iconst A (v := 1) dX1_in_10 (by decide) ?_
        refine xr_goto A (tgt := 15) dX1_in_11 (by decide) ?_
        exact xr_ireturn A rfl hf dX1_in_15
/-! X1_isCar -/
theorem bX1_isCar : MB yX1_isCar cX1_isCar 2 (some FieldType.boolean) 1 := ⟨q1004, q92, by decide, by decide +kernel⟩
noncomputable def fX1_isCar (x : Nat) (p1 : Int32) (h : Hp) : Option (Int32 × Hp) :=
  ab_ck h x 0 <|
  ab_bd (ab_gR h x 0 3) fun v1 =>
  ab_on v1 (
    some ((0 : Int32), h)) fun a2 => (
    ab_bd (ab_gR h x 0 3) fun v3 =>
    ab_bd v3 fun a4 =>
    ab_bd (ab_gI h a4 5 13) fun v5 =>
    ab_b2 (fX1_in p1 (0 : Int32) (v5 - (1 : Int32)) h) fun v8 h7 =>
    if v8 = 0 then (
      some ((0 : Int32), h7))
    else (
      some ((1 : Int32), h7)))
theorem wX1_isCar (D : Dd) {x : Nat} {p1 : Int32} {h : Hp} {r : Int32} {h' : Hp} (hf : fX1_isCar x p1 h = some (r, h')) : ab_is h x 0 ∧ Ct D 2 42 yX1_isCar cX1_isCar 2 (some FieldType.boolean) [vR (some x), vI p1] h (.inl (some (vI r))) h' := by
    unfold fX1_isCar at hf
    replace hf := ab_ckE hf; obtain ⟨i0, hf⟩ := hf
    refine ⟨i0, ?_⟩
    refine Ct.of (by decide) (L := [(0, vR (some x)), (1, vI p1)]) rfl (Nat.le_of_ble_eq_true rfl) (fun C A => ?_)
    refine xr_aload_n A dX1_isCar_0 0 rfl rfl ?_
    revert hf; refine ab_bdI (fun v1 mv1 hf => ?_)
    refine xr_get A xc_X1 in_X1 3 (Nat.le_of_ble_eq_true rfl) q266 rfl (ab_gRE mv1) dX1_isCar_1 ?_
    revert hf; refine ab_onI (fun e hf => ?_) (fun a2 e hf => ?_) <;> subst e
    · refine xr_ifnull A (tgt := 28) dX1_isCar_4 (by decide) (fun _ => ?_) (fun _ e => by cases e)
      refine xr_iconst A (v := 0) dX1_isCar_28 (by decide) ?_
      exact xr_ireturn A rfl hf dX1_isCar_29
    · refine xr_ifnull A (tgt := 28) dX1_isCar_4 (by decide) (fun e => by cases e) (fun _ _ => ?_)
      refine xr_iload_n A dX1_isCar_7 1 rfl rfl ?_
      refine xr_iconst A (v := 0) dX1_isCar_8 (by decide) ?_
      refine xr_aload_n A dX1_isCar_9 0 rfl rfl ?_
      revert hf; refine ab_bdI (fun v3 mv3 hf => ?_)
      refine xr_get A xc_X1 in_X1 3 (Nat.le_of_ble_eq_true rfl) q266 rfl (ab_gRE mv3) dX1_isCar_10 ?_
      revert hf; refine ab_bdI (fun a4 e hf => ?_); subst e
      revert hf; refine ab_bdI (fun v5 mv5 hf => ?_)
      refine xr_get A xc_X6 in_X6 13 (Nat.le_of_ble_eq_true rfl) q473 rfl (ab_gIE mv5) dX1_isCar_13 ?_
      refine xr_iconst A (v := 1) dX1_isCar_16 (by decide) ?_
      refine xr_isub A dX1_isCar_17 ?_
      revert hf; refine ab_b2I (fun v8 h7 m6 hf => ?_)
      refine xr_S A bX1_in (wX1_in D m6) q405 q404 (av := [vI p1, vI (0 : Int32), vI (v5 - (1 : Int32))]) (rest := []) rfl dX1_isCar_18 (Nat.le_of_ble_eq_true rfl) (Nat.le_of_ble_eq_true rfl) rfl (Nat.le_of_ble_eq_true rfl) ?_
      refine xr_if_eq A (tgt := 28) dX1_isCar_21 (by decide) (fun c21 => ?_) (fun c21 => ?_)
      · replace hf := ab_ip c21 hf
        refine xr_iconst A (v := 0) dX1_isCar_28 (by decide) ?_
        exact xr_ireturn A rfl hf dX1_isCar_29
      · replace hf := ab_in c21 hf
        refine xr_iconst A (v := 1) dX1_isCar_24 (by decide) ?_
        refine xr_goto A (tgt := 29) dX1_isCar_25 (by decide) ?_
        exact xr_ireturn A rfl hf dX1_isCar_29
/-! X1_led -/
theorem bX1_led : MB yX1_led cX1_led 3 (some FieldType.int) 2 := ⟨q1270, q92, by decide, by decide +kernel⟩
noncomputable def fX1_led (x : Nat) (p1 : Int32) (p2 : Int32) (h : Hp) : Option ((Int32 ⊕ Nat) × Hp) :=
  ab_ck h x 0 <|
  ab_b2 (fX1_isCar x p1 h) fun v3 h2 =>
  if v3 = 0 then (
    ab_b2 (ab_nse h2) fun q9 h9 =>
    some (.inr q9, h9))
  else (
    ab_bd (ab_gR h2 x 0 8) fun v4 =>
    ab_bd v4 fun a5 =>
    ab_bd (ab_aR h2 a5 5 p1) fun v6 =>
    ab_bd v6 fun a7 =>
    ab_bd (ab_gI h2 a7 3 2) fun v8 =>
    ab_b2 (fX1_in p2 (0 : Int32) (v8 - (1 : Int32)) h2) fun v11 h10 =>
    if v11 = 0 then (
      ab_b2 (ab_nse h10) fun q9 h9 =>
      some (.inr q9, h9))
    else (
      ab_bd (ab_gR h10 x 0 8) fun v12 =>
      ab_bd v12 fun a13 =>
      ab_bd (ab_aR h10 a13 5 p1) fun v14 =>
      ab_bd v14 fun a15 =>
      ab_bd (ab_gR h10 a15 3 0) fun v16 =>
      ab_bd v16 fun a17 =>
      ab_bd (ab_aI h10 a17 0 p2) fun v18 =>
      some (.inl v18, h10)))
theorem wX1_led (D : Dd) {x : Nat} {p1 : Int32} {p2 : Int32} {h : Hp} {ρ : Int32 ⊕ Nat} {h' : Hp} (hf : fX1_led x p1 p2 h = some (ρ, h')) : ab_is h x 0 ∧ Ct D 6 100 yX1_led cX1_led 3 (some FieldType.int) [vR (some x), vI p1, vI p2] h (xoI ρ) h' := by
    unfold fX1_led at hf
    replace hf := ab_ckE hf; obtain ⟨i0, hf⟩ := hf
    refine ⟨i0, ?_⟩
    refine Ct.of (by decide) (L := [(0, vR (some x)), (1, vI p1), (2, vI p2)]) rfl (Nat.le_of_ble_eq_true rfl) (fun C A => ?_)
    refine xr_aload_n A dX1_led_0 0 rfl rfl ?_
    refine xr_iload_n A dX1_led_1 1 rfl rfl ?_
    revert hf; refine ab_b2I (fun v3 h2 m1 hf => ?_)
    refine xr_V A bX1_isCar (wX1_isCar D m1).2 xc_X1 (wX1_isCar D m1).1 q1003 qs24 q1001 (av := [vI p1]) (rest := []) rfl dX1_led_2 (Nat.le_of_ble_eq_true rfl) (Nat.le_of_ble_eq_true rfl) rfl (Nat.le_of_ble_eq_true rfl) ?_
    refine xr_if_eq A (tgt := 27) dX1_led_5 (by decide) (fun c5 => ?_) (fun c5 => ?_)
    · replace hf := ab_ip c5 hf
      revert hf; refine ab_b2I (fun q9 h9 m9 hf => ?_)
      obtain ⟨rfl, rfl⟩ := ab_pr hf
      exact xr_throw0 A rfl m9 dX1_led_27 dX1_led_30 dX1_led_31 dX1_led_34 (Nat.le_of_ble_eq_true rfl) (Nat.le_of_ble_eq_true rfl) (Nat.le_of_ble_eq_true rfl)
    · replace hf := ab_in c5 hf
      refine xr_iload_n A dX1_led_8 2 rfl rfl ?_
      refine xr_iconst A (v := 0) dX1_led_9 (by decide) ?_
      refine xr_aload_n A dX1_led_10 0 rfl rfl ?_
      revert hf; refine ab_bdI (fun v4 mv4 hf => ?_)
      refine xr_get A xc_X1 in_X1 8 (Nat.le_of_ble_eq_true rfl) q271 rfl (ab_gRE mv4) dX1_led_11 ?_
      refine xr_iload_n A dX1_led_14 1 rfl rfl ?_
      revert hf; refine ab_bdI (fun a5 e hf => ?_); subst e
      revert hf; refine ab_bdI (fun v6 mv6 hf => ?_)
      refine xr_aaload A (t := 5) rfl mv6 dX1_led_15 ?_
      revert hf; refine ab_bdI (fun a7 e hf => ?_); subst e
      revert hf; refine ab_bdI (fun v8 mv8 hf => ?_)
      refine xr_get A xc_X4 in_X4 2 (Nat.le_of_ble_eq_true rfl) q250 rfl (ab_gIE mv8) dX1_led_16 ?_
      refine xr_iconst A (v := 1) dX1_led_19 (by decide) ?_
      refine xr_isub A dX1_led_20 ?_
      revert hf; refine ab_b2I (fun v11 h10 m9 hf => ?_)
      refine xr_S A bX1_in (wX1_in D m9) q405 q404 (av := [vI p2, vI (0 : Int32), vI (v8 - (1 : Int32))]) (rest := []) rfl dX1_led_21 (Nat.le_of_ble_eq_true rfl) (Nat.le_of_ble_eq_true rfl) rfl (Nat.le_of_ble_eq_true rfl) ?_
      refine xr_if_ne A (tgt := 35) dX1_led_24 (by decide) (fun c24 => ?_) (fun c24 => ?_)
      · replace hf := ab_in c24 hf
        refine xr_aload_n A dX1_led_35 0 rfl rfl ?_
        revert hf; refine ab_bdI (fun v12 mv12 hf => ?_)
        refine xr_get A xc_X1 in_X1 8 (Nat.le_of_ble_eq_true rfl) q271 rfl (ab_gRE mv12) dX1_led_36 ?_
        refine xr_iload_n A dX1_led_39 1 rfl rfl ?_
        revert hf; refine ab_bdI (fun a13 e hf => ?_); subst e
        revert hf; refine ab_bdI (fun v14 mv14 hf => ?_)
        refine xr_aaload A (t := 5) rfl mv14 dX1_led_40 ?_
        revert hf; refine ab_bdI (fun a15 e hf => ?_); subst e
        revert hf; refine ab_bdI (fun v16 mv16 hf => ?_)
        refine xr_get A xc_X4 in_X4 0 (Nat.le_of_ble_eq_true rfl) q246 rfl (ab_gRE mv16) dX1_led_41 ?_
        refine xr_iload_n A dX1_led_44 2 rfl rfl ?_
        revert hf; refine ab_bdI (fun a17 e hf => ?_); subst e
        revert hf; refine ab_bdI (fun v18 mv18 hf => ?_)
        refine xr_iaload A mv18 dX1_led_45 ?_
        obtain ⟨rfl, rfl⟩ := ab_pr hf
        exact xr_ireturn A rfl rfl dX1_led_46
      · replace hf := ab_ip c24 hf
        revert hf; refine ab_b2I (fun q9 h9 m9 hf => ?_)
        obtain ⟨rfl, rfl⟩ := ab_pr hf
        exact xr_throw0 A rfl m9 dX1_led_27 dX1_led_30 dX1_led_31 dX1_led_34 (Nat.le_of_ble_eq_true rfl) (Nat.le_of_ble_eq_true rfl) (Nat.le_of_ble_eq_true rfl)
/-! X0_led -/
theorem bX0_led : MBW yX0_led cX0_led 5 (some FieldType.int) [(0, 10, 13, 13)] 4 := ⟨q1265, q91, by decide, by decide +kernel⟩
noncomputable def fX0_led (p0 : Option Nat) (p1 : Int32) (p2 : Int32) (p3 : Option Nat) (h : Hp) : Option (Int32 × Hp) :=
  ab_bd p0 fun a1 =>
  ab_bx (fX1_led a1 p1 p2 h) (fun v4 h3 =>
  ab_bd p3 fun a5 =>
  ab_bd (ab_sJ h3 a5 3 (0 : Int32) v4.toInt64) fun h6 =>
  some ((0 : Int32), h6)) fun qh3 gh3 => ab_nc gh3 qh3 <|
    some ((1 : Int32), gh3)
theorem wX0_led (D : Dd) {p0 : Option Nat} {p1 : Int32} {p2 : Int32} {p3 : Option Nat} {h : Hp} {r : Int32} {h' : Hp} (hf : fX0_led p0 p1 p2 p3 h = some (r, h')) : CtW D 7 122 yX0_led (wsW_ yX0_led cX0_led 5 (some FieldType.int) [(0, 10, 13, 13)]) [vR p0, vI p1, vI p2, vR p3] h (.inl (some (vI r))) h' := by
    unfold fX0_led at hf
    refine Ct.ofW (by decide) (L := [(0, vR p0), (1, vI p1), (2, vI p2), (3, vR p3)]) rfl (Nat.le_of_ble_eq_true rfl) (fun C A => ?_)
    refine xr_aload_n A dX0_led_0 3 rfl rfl ?_
    refine xr_iconst A (v := 0) dX0_led_1 (by decide) ?_
    refine xr_aload_n A dX0_led_2 0 rfl rfl ?_
    refine xr_iload_n A dX0_led_3 1 rfl rfl ?_
    refine xr_iload_n A dX0_led_4 2 rfl rfl ?_
    revert hf; refine ab_bdI (fun a1 e hf => ?_); subst e
    revert hf; refine ab_bxI (fun v4 h3 m2 hf => ?_) (fun qh3 gh3 m2 hf => ?_)
    · refine xr_V A bX1_led (wX1_led D m2).2 xc_X1 (wX1_led D m2).1 q1268 q1269 q1267 (av := [vI p1, vI p2]) (rest := [vI (0 : Int32), vR p3]) rfl dX0_led_5 (Nat.le_of_ble_eq_true rfl) (Nat.le_of_ble_eq_true rfl) rfl (Nat.le_of_ble_eq_true rfl) ?_
      refine xr_i2l A dX0_led_8 ?_
      revert hf; refine ab_bdI (fun a5 e hf => ?_); subst e
      revert hf; refine ab_bdI (fun h6 mh6 hf => ?_)
      refine xr_lastore A mh6 dX0_led_9 ?_
      refine xr_goto A (tgt := 17) dX0_led_10 (by decide) ?_
      refine xr_iconst A (v := 0) dX0_led_17 (by decide) ?_
      exact xr_ireturn A rfl hf dX0_led_18
    · refine xr_VX A bX1_led (wX1_led D m2).2 xc_X1 (wX1_led D m2).1 q1268 q1269 q1267 (av := [vI p1, vI p2]) (rest := [vI (0 : Int32), vR p3]) rfl dX0_led_5 (Nat.le_of_ble_eq_true rfl) (Nat.le_of_ble_eq_true rfl) rfl (Nat.le_of_ble_eq_true rfl) ?_
      replace hf := ab_ncE hf; obtain ⟨ih3, hf⟩ := hf
      refine xr_catchN A (pc := 5) rfl ih3 q1266 (by decide +kernel) (by decide) ?_
      refine xr_astore A dX0_led_13 (Nat.le_of_ble_eq_true rfl) (L' := [(4, vR (some qh3)), (0, vR (some a1)), (1, vI p1), (2, vI p2), (3, vR p3)]) rfl ?_
      refine xr_iconst A (v := 1) dX0_led_15 (by decide) ?_
      exact xr_ireturn A rfl hf dX0_led_16
/-! J0_init_2 -/
theorem bJ0_init_2 : MB yJ0_init_2 cJ0_init_2 5 (none : Option FieldType) 4 := ⟨q183, q94, by decide, by decide +kernel⟩
noncomputable def fJ0_init_2 (x : Nat) (p1 : Option Nat) (p2 : Option Nat) (p3 : Int32) (p4 : Int32) (h : Hp) : Option Hp :=
  ab_bd (ab_pR h x 2 0 (some x)) fun h1 =>
  ab_bd (ab_pR h1 x 2 1 (hsta h1 0)) fun h2 =>
  ab_bd (ab_pR h2 x 2 2 (hsta h2 1)) fun h3 =>
  if p4 = 0 then (
    ab_bd (ab_pR h3 x 2 1 none) fun h4 =>
    ab_bd (ab_pR h4 x 2 3 p1) fun h5 =>
    ab_bd (ab_pR h5 x 2 0 p2) fun h6 =>
    if p3 = 0 then (
      ab_bd (ab_pR h6 x 2 2 none) fun h7 =>
      some h7)
    else (
      some h6))
  else (
    none)
theorem wJ0_init_2 (D : Dd) {x : Nat} {p1 : Option Nat} {p2 : Option Nat} {p3 : Int32} {p4 : Int32} {h : Hp} {h' : Hp} (hf : fJ0_init_2 x p1 p2 p3 p4 h = some h') : Ct D 1 20 yJ0_init_2 cJ0_init_2 5 (none : Option FieldType) [vR (some x), vR p1, vR p2, vI p3, vI p4] h (.inl none) h' := by
    unfold fJ0_init_2 at hf
    refine Ct.of (by decide) (L := [(0, vR (some x)), (1, vR p1), (2, vR p2), (3, vI p3), (4, vI p4)]) rfl (Nat.le_of_ble_eq_true rfl) (fun C A => ?_)
    refine xr_aload_n A dJ0_init_2_0 0 rfl rfl ?_
    refine xr_objInit A q157 q_oi1 q_oi2 dJ0_init_2_1 (by omega) (by omega) (Nat.le_of_ble_eq_true rfl) ?_
    refine xr_aload_n A dJ0_init_2_4 0 rfl rfl ?_
    refine xr_aload_n A dJ0_init_2_5 0 rfl rfl ?_
    revert hf; refine ab_bdI (fun h1 mh1 hf => ?_)
    refine xr_put A xc_X3 in_X3 tyX3_ok nmX3 0 (Nat.le_of_ble_eq_true rfl) q190 rfl rfl (v := vR (some x)) (ab_nR _ rfl) (ab_tR _ rfl) mh1 dJ0_init_2_6 ?_
    refine xr_aload_n A dJ0_init_2_9 0 rfl rfl ?_
    refine xr_gsR A q158 0 rfl dJ0_init_2_10 ?_
    revert hf; refine ab_bdI (fun h2 mh2 hf => ?_)
    refine xr_put A xc_X3 in_X3 tyX3_ok nmX3 1 (Nat.le_of_ble_eq_true rfl) q191 rfl rfl (v := vR (hsta h1 0)) (ab_nR _ rfl) (ab_tR _ rfl) mh2 dJ0_init_2_13 ?_
    refine xr_aload_n A dJ0_init_2_16 0 rfl rfl ?_
    refine xr_gsR A q160 1 rfl dJ0_init_2_17 ?_
    revert hf; refine ab_bdI (fun h3 mh3 hf => ?_)
    refine xr_put A xc_X3 in_X3 tyX3_ok nmX3 2 (Nat.le_of_ble_eq_true rfl) q192 rfl rfl (v := vR (hsta h2 1)) (ab_nR _ rfl) (ab_tR _ rfl) mh3 dJ0_init_2_20 ?_
    refine xr_iload A dJ0_init_2_23 4 rfl ?_
    refine xr_if_eq A (tgt := 36) dJ0_init_2_25 (by decide) (fun c25 => ?_) (fun c25 => ?_)
    · replace hf := ab_ip c25 hf
      refine xr_aload_n A dJ0_init_2_36 0 rfl rfl ?_
      refine xr_null A dJ0_init_2_37 ?_
      revert hf; refine ab_bdI (fun h4 mh4 hf => ?_)
      refine xr_put A xc_X3 in_X3 tyX3_ok nmX3 1 (Nat.le_of_ble_eq_true rfl) q191 rfl rfl (v := vR none) (ab_nR _ rfl) (ab_tR _ rfl) mh4 dJ0_init_2_38 ?_
      refine xr_aload_n A dJ0_init_2_41 0 rfl rfl ?_
      refine xr_aload_n A dJ0_init_2_42 1 rfl rfl ?_
      revert hf; refine ab_bdI (fun h5 mh5 hf => ?_)
      refine xr_put A xc_X3 in_X3 tyX3_ok nmX3 3 (Nat.le_of_ble_eq_true rfl) q189 rfl rfl (v := vR p1) (ab_nR _ rfl) (ab_tR _ rfl) mh5 dJ0_init_2_43 ?_
      refine xr_aload_n A dJ0_init_2_46 0 rfl rfl ?_
      refine xr_aload_n A dJ0_init_2_47 2 rfl rfl ?_
      revert hf; refine ab_bdI (fun h6 mh6 hf => ?_)
      refine xr_put A xc_X3 in_X3 tyX3_ok nmX3 0 (Nat.le_of_ble_eq_true rfl) q190 rfl rfl (v := vR p2) (ab_nR _ rfl) (ab_tR _ rfl) mh6 dJ0_init_2_48 ?_
      refine xr_iload_n A dJ0_init_2_51 3 rfl rfl ?_
      refine xr_if_ne A (tgt := 60) dJ0_init_2_52 (by decide) (fun c52 => ?_) (fun c52 => ?_)
      · replace hf := ab_in c52 hf
        exact xr_return A hf dJ0_init_2_60
      · replace hf := ab_ip c52 hf
        refine xr_aload_n A dJ0_init_2_55 0 rfl rfl ?_
        refine xr_null A dJ0_init_2_56 ?_
        revert hf; refine ab_bdI (fun h7 mh7 hf => ?_)
        refine xr_put A xc_X3 in_X3 tyX3_ok nmX3 2 (Nat.le_of_ble_eq_true rfl) q192 rfl rfl (v := vR none) (ab_nR _ rfl) (ab_tR _ rfl) mh7 dJ0_init_2_57 ?_
        exact xr_return A hf dJ0_init_2_60
    · replace hf := ab_in c25 hf
      refine xr_aload_n A dJ0_init_2_28 0 rfl rfl ?_
      exact ab_no hf
/-! J1_init -/
theorem bJ1_init : MB yJ1_init cJ1_init 5 (none : Option FieldType) 4 := ⟨q180, q95, by decide, by decide +kernel⟩
noncomputable def fJ1_init (x : Nat) (p1 : Option Nat) (p2 : Option Nat) (p3 : Int32) (p4 : Int32) (h : Hp) : Option Hp :=
  ab_bd (fJ0_init_2 x p1 p2 p3 p4 h) fun h2 =>
  some h2
theorem wJ1_init (D : Dd) {x : Nat} {p1 : Option Nat} {p2 : Option Nat} {p3 : Int32} {p4 : Int32} {h : Hp} {h' : Hp} (hf : fJ1_init x p1 p2 p3 p4 h = some h') : Ct D 2 44 yJ1_init cJ1_init 5 (none : Option FieldType) [vR (some x), vR p1, vR p2, vI p3, vI p4] h (.inl none) h' := by
    unfold fJ1_init at hf
    refine Ct.of (by decide) (L := [(0, vR (some x)), (1, vR p1), (2, vR p2), (3, vI p3), (4, vI p4)]) rfl (Nat.le_of_ble_eq_true rfl) (fun C A => ?_)
    refine xr_aload_n A dJ1_init_0 0 rfl rfl ?_
    refine xr_aload_n A dJ1_init_1 1 rfl rfl ?_
    refine xr_aload_n A dJ1_init_2 2 rfl rfl ?_
    refine xr_iload_n A dJ1_init_3 3 rfl rfl ?_
    refine xr_iload A dJ1_init_4 4 rfl ?_
    revert hf; refine ab_bdI (fun h2 m1 hf => ?_)
    refine xr_I0 A bJ0_init_2 (wJ0_init_2 D m1) rfl q182 q181 (av := [vR p1, vR p2, vI p3, vI p4]) (rest := []) rfl dJ1_init_6 (Nat.le_of_ble_eq_true rfl) (Nat.le_of_ble_eq_true rfl) rfl (Nat.le_of_ble_eq_true rfl) ?_
    exact xr_return A hf dJ1_init_9
/-! J2_init -/
theorem bJ2_init : MB yJ2_init cJ2_init 5 (none : Option FieldType) 4 := ⟨q177, q96, by decide, by decide +kernel⟩
noncomputable def fJ2_init (x : Nat) (p1 : Option Nat) (p2 : Option Nat) (p3 : Int32) (p4 : Int32) (h : Hp) : Option Hp :=
  ab_bd (fJ1_init x p1 p2 p3 p4 h) fun h2 =>
  some h2
theorem wJ2_init (D : Dd) {x : Nat} {p1 : Option Nat} {p2 : Option Nat} {p3 : Int32} {p4 : Int32} {h : Hp} {h' : Hp} (hf : fJ2_init x p1 p2 p3 p4 h = some h') : Ct D 3 68 yJ2_init cJ2_init 5 (none : Option FieldType) [vR (some x), vR p1, vR p2, vI p3, vI p4] h (.inl none) h' := by
    unfold fJ2_init at hf
    refine Ct.of (by decide) (L := [(0, vR (some x)), (1, vR p1), (2, vR p2), (3, vI p3), (4, vI p4)]) rfl (Nat.le_of_ble_eq_true rfl) (fun C A => ?_)
    refine xr_aload_n A dJ2_init_0 0 rfl rfl ?_
    refine xr_aload_n A dJ2_init_1 1 rfl rfl ?_
    refine xr_aload_n A dJ2_init_2 2 rfl rfl ?_
    refine xr_iload_n A dJ2_init_3 3 rfl rfl ?_
    refine xr_iload A dJ2_init_4 4 rfl ?_
    revert hf; refine ab_bdI (fun h2 m1 hf => ?_)
    refine xr_I0 A bJ1_init (wJ1_init D m1) rfl q179 q178 (av := [vR p1, vR p2, vI p3, vI p4]) (rest := []) rfl dJ2_init_6 (Nat.le_of_ble_eq_true rfl) (Nat.le_of_ble_eq_true rfl) rfl (Nat.le_of_ble_eq_true rfl) ?_
    exact xr_return A hf dJ2_init_9
/-! X3_init -/
theorem bX3_init : MB yX3_init cX3_init 1 (none : Option FieldType) 0 := ⟨q174, q97, by decide, by decide +kernel⟩
noncomputable def fX3_init (x : Nat) (h : Hp) : Option Hp :=
  ab_bd (fJ2_init x none none (0 : Int32) (0 : Int32) h) fun h2 =>
  ab_bd (ab_pI h2 x 2 7 (-1 : Int32)) fun h3 =>
  some h3
theorem wX3_init (D : Dd) {x : Nat} {h : Hp} {h' : Hp} (hf : fX3_init x h = some h') : Ct D 4 92 yX3_init cX3_init 1 (none : Option FieldType) [vR (some x)] h (.inl none) h' := by
    unfold fX3_init at hf
    refine Ct.of (by decide) (L := [(0, vR (some x))]) rfl (Nat.le_of_ble_eq_true rfl) (fun C A => ?_)
    refine xr_aload_n A dX3_init_0 0 rfl rfl ?_
    refine xr_null A dX3_init_1 ?_
    refine xr_null A dX3_init_2 ?_
    refine xr_iconst A (v := 0) dX3_init_3 (by decide) ?_
    refine xr_iconst A (v := 0) dX3_init_4 (by decide) ?_
    revert hf; refine ab_bdI (fun h2 m1 hf => ?_)
    refine xr_I0 A bJ2_init (wJ2_init D m1) rfl q176 q175 (av := [vR none, vR none, vI (0 : Int32), vI (0 : Int32)]) (rest := []) rfl dX3_init_5 (Nat.le_of_ble_eq_true rfl) (Nat.le_of_ble_eq_true rfl) rfl (Nat.le_of_ble_eq_true rfl) ?_
    refine xr_aload_n A dX3_init_8 0 rfl rfl ?_
    refine xr_iconst A (v := (-1)) dX3_init_9 (by decide) ?_
    revert hf; refine ab_bdI (fun h3 mh3 hf => ?_)
    refine xr_put A xc_X3 in_X3 tyX3_ok nmX3 7 (Nat.le_of_ble_eq_true rfl) q186 rfl rfl (v := vI (-1 : Int32)) rfl rfl mh3 dX3_init_10 ?_
    exact xr_return A hf dX3_init_13
/-! X2_init -/
theorem bX2_init : MB yX2_init cX2_init 2 (none : Option FieldType) 1 := ⟨q130, q93, by decide, by decide +kernel⟩
noncomputable def fX2_init (x : Nat) (p1 : Option Nat) (h : Hp) : Option Hp :=
  ab_b2 (ab_new h 2 8 tyX3) fun a1 h2 =>
  ab_bd (fX3_init a1 h2) fun h4 =>
  ab_bd (ab_pR h4 x 1 0 (some a1)) fun h5 =>
  ab_b2 (ab_nA h5 2 (8 : Int32) ab_zI) fun a6 h7 =>
  ab_bd (ab_pR h7 x 1 2 (some a6)) fun h8 =>
  ab_bd (ab_pR h8 x 1 1 p1) fun h9 =>
  some h9
theorem wX2_init (D : Dd) {x : Nat} {p1 : Option Nat} {h : Hp} {h' : Hp} (hf : fX2_init x p1 h = some h') : Ct D 5 112 yX2_init cX2_init 2 (none : Option FieldType) [vR (some x), vR p1] h (.inl none) h' := by
    unfold fX2_init at hf
    refine Ct.of (by decide) (L := [(0, vR (some x)), (1, vR p1)]) rfl (Nat.le_of_ble_eq_true rfl) (fun C A => ?_)
    refine xr_aload_n A dX2_init_0 0 rfl rfl ?_
    refine xr_objInit A q131 q_oi1 q_oi2 dX2_init_1 (by omega) (by omega) (Nat.le_of_ble_eq_true rfl) ?_
    refine xr_aload_n A dX2_init_4 0 rfl rfl ?_
    revert hf; refine ab_b2I (fun a1 h2 mh2 hf => ?_)
    refine xr_new A xc_X3 in_X3 tyX3_ok q132 q133 q97 mh2 dX2_init_5 ?_
    refine xr_dup A dX2_init_8 rfl ?_
    revert hf; refine ab_bdI (fun h4 m3 hf => ?_)
    refine xr_I0 A bX3_init (wX3_init D m3) rfl q173 q172 (av := []) (rest := [vR (some a1), vR (some x)]) rfl dX2_init_9 (Nat.le_of_ble_eq_true rfl) (Nat.le_of_ble_eq_true rfl) rfl (Nat.le_of_ble_eq_true rfl) ?_
    revert hf; refine ab_bdI (fun h5 mh5 hf => ?_)
    refine xr_putF A xc_X2 in_X2 tyX2_ok nmX2 0 (Nat.le_of_ble_eq_true rfl) q206 rfl rfl rfl rfl (v := vR (some a1)) (ab_nR _ rfl) (ab_tR _ rfl) mh5 dX2_init_12 ?_
    refine xr_aload_n A dX2_init_15 0 rfl rfl ?_
    refine xr_bipush A (v := 8) dX2_init_16 (by decide) ?_
    revert hf; refine ab_b2I (fun a6 h7 mh7 hf => ?_)
    refine xr_newa_char A mh7 dX2_init_18 ?_
    revert hf; refine ab_bdI (fun h8 mh8 hf => ?_)
    refine xr_putF A xc_X2 in_X2 tyX2_ok nmX2 2 (Nat.le_of_ble_eq_true rfl) q208 rfl rfl rfl rfl (v := vR (some a6)) (ab_nR _ rfl) (ab_tR _ rfl) mh8 dX2_init_20 ?_
    refine xr_aload_n A dX2_init_23 0 rfl rfl ?_
    refine xr_aload_n A dX2_init_24 1 rfl rfl ?_
    revert hf; refine ab_bdI (fun h9 mh9 hf => ?_)
    refine xr_putF A xc_X2 in_X2 tyX2_ok nmX2 1 (Nat.le_of_ble_eq_true rfl) q207 rfl rfl rfl rfl (v := vR p1) (ab_nR _ rfl) (ab_tR _ rfl) mh9 dX2_init_25 ?_
    exact xr_return A hf dX2_init_28
/-! X4_init -/
theorem bX4_init : MB yX4_init cX4_init 1 (none : Option FieldType) 0 := ⟨q243, q98, by decide, by decide +kernel⟩
noncomputable def fX4_init (x : Nat) (h : Hp) : Option Hp :=
  ab_b2 (ab_nA h 0 (6 : Int32) ab_zI) fun a1 h2 =>
  ab_bd (ab_pR h2 x 3 0 (some a1)) fun h3 =>
  ab_b2 (ab_nA h3 0 (6 : Int32) ab_zI) fun a4 h5 =>
  ab_bd (ab_pR h5 x 3 1 (some a4)) fun h6 =>
  some h6
theorem wX4_init (D : Dd) {x : Nat} {h : Hp} {h' : Hp} (hf : fX4_init x h = some h') : Ct D 1 20 yX4_init cX4_init 1 (none : Option FieldType) [vR (some x)] h (.inl none) h' := by
    unfold fX4_init at hf
    refine Ct.of (by decide) (L := [(0, vR (some x))]) rfl (Nat.le_of_ble_eq_true rfl) (fun C A => ?_)
    refine xr_aload_n A dX4_init_0 0 rfl rfl ?_
    refine xr_objInit A q244 q_oi1 q_oi2 dX4_init_1 (by omega) (by omega) (Nat.le_of_ble_eq_true rfl) ?_
    refine xr_aload_n A dX4_init_4 0 rfl rfl ?_
    refine xr_bipush A (v := 6) dX4_init_5 (by decide) ?_
    revert hf; refine ab_b2I (fun a1 h2 mh2 hf => ?_)
    refine xr_newa_int A mh2 dX4_init_7 ?_
    revert hf; refine ab_bdI (fun h3 mh3 hf => ?_)
    refine xr_putF A xc_X4 in_X4 tyX4_ok nmX4 0 (Nat.le_of_ble_eq_true rfl) q245 rfl rfl rfl rfl (v := vR (some a1)) (ab_nR _ rfl) (ab_tR _ rfl) mh3 dX4_init_9 ?_
    refine xr_aload_n A dX4_init_12 0 rfl rfl ?_
    refine xr_bipush A (v := 6) dX4_init_13 (by decide) ?_
    revert hf; refine ab_b2I (fun a4 h5 mh5 hf => ?_)
    refine xr_newa_int A mh5 dX4_init_15 ?_
    revert hf; refine ab_bdI (fun h6 mh6 hf => ?_)
    refine xr_putF A xc_X4 in_X4 tyX4_ok nmX4 1 (Nat.le_of_ble_eq_true rfl) q247 rfl rfl rfl rfl (v := vR (some a4)) (ab_nR _ rfl) (ab_tR _ rfl) mh6 dX4_init_17 ?_
    exact xr_return A hf dX4_init_20
/-! X1_init -/
theorem bX1_init : MB yX1_init cX1_init 2 (none : Option FieldType) 0 := ⟨q122, q92, by decide, by decide +kernel⟩
noncomputable def fX1_init_l221 (x : Nat) : Nat → Int32 → Hp → Option Hp
  | 0, _, _ => none
  | n + 1, l1, h =>
  if (3 : Int32) ≤ l1 then (
    some h)
  else (
    ab_bd (ab_gR h x 0 8) fun v1 =>
    ab_b2 (ab_new h 3 4 tyX4) fun a2 h3 =>
    ab_bd (fX4_init a2 h3) fun h5 =>
    ab_bd v1 fun a6 =>
    ab_bd (ab_sR h5 a6 5 3 l1 a2) fun h7 =>
    fX1_init_l221 x n (l1 + (1 : Int32)) h7)
theorem wX1_init_l221 {D : Dd} {C : Cx} {h0 h' : Hp} (A : Act C D (h0, (.inl none), h') yX1_init cX1_init 2 (none : Option FieldType) 6 133 []) {x : Nat} : ∀ (n : Nat) {l1 : Int32} {h : Hp}, fX1_init_l221 x n l1 h = some h' → X C D (h0, (.inl none), h') 2 221 [(0, vR (some x)), (1, vI l1)] [] h := by
  intro n
  induction n with
  | zero => intro l1 h hf; exact ab_no hf
  | succ n ih =>
    intro l1 h hf
    unfold fX1_init_l221 at hf
    refine xr_iload_n A dX1_init_221 1 rfl rfl ?_
    refine xr_iconst A (v := 3) dX1_init_222 (by decide) ?_
    refine xr_icmp_ge A (tgt := 245) dX1_init_223 (by decide) (fun c223 => ?_) (fun c223 => ?_)
    · replace hf := ab_ip c223 hf
      exact xr_return A hf dX1_init_245
    · replace hf := ab_in c223 hf
      refine xr_aload_n A dX1_init_226 0 rfl rfl ?_
      revert hf; refine ab_bdI (fun v1 mv1 hf => ?_)
      refine xr_get A xc_X1 in_X1 8 (Nat.le_of_ble_eq_true rfl) q271 rfl (ab_gRE mv1) dX1_init_227 ?_
      refine xr_iload_n A dX1_init_230 1 rfl rfl ?_
      revert hf; refine ab_b2I (fun a2 h3 mh3 hf => ?_)
      refine xr_new A xc_X4 in_X4 tyX4_ok q238 q240 q98 mh3 dX1_init_231 ?_
      refine xr_dup A dX1_init_234 rfl ?_
      revert hf; refine ab_bdI (fun h5 m4 hf => ?_)
      refine xr_IN0 A bX4_init (wX4_init D m4) rfl q242 n241 (av := []) (rest := [vR (some a2), vI l1, vR v1]) rfl dX1_init_235 (Nat.le_of_ble_eq_true rfl) (Nat.le_of_ble_eq_true rfl) rfl (Nat.le_of_ble_eq_true rfl) ?_
      revert hf; refine ab_bdI (fun a6 e hf => ?_); subst e
      revert hf; refine ab_bdI (fun h7 mh7 hf => ?_)
      refine xr_aastore A (t := 5) (ci := 3) rfl xc_X4 mh7 dX1_init_238 ?_
      refine xr_iinc A dX1_init_239 1 rfl (v := (l1 + (1 : Int32))) rfl (Nat.le_of_ble_eq_true rfl) (L' := [(1, vI (l1 + (1 : Int32))), (0, vR (some x))]) rfl ?_
      refine xr_goto A (tgt := 221) dX1_init_242 (by decide) ?_
      refine X.sub [1, 0] rfl ?_
      exact ih hf
noncomputable def fX1_init (x : Nat) (h : Hp) : Option Hp :=
  ab_b2 (ab_nA h 1 (900 : Int32) ab_zI) fun a1 h2 =>
  ab_bd (ab_pR h2 x 0 0 (some a1)) fun h3 =>
  ab_b2 (ab_new h3 1 10 tyX2) fun a4 h5 =>
  ab_bd (ab_gR h5 x 0 0) fun v6 =>
  ab_bd (fX2_init a4 v6 h5) fun h8 =>
  ab_bd (ab_pR h8 x 0 2 (some a4)) fun h9 =>
  ab_bd (ab_pI h9 x 0 6 (-1 : Int32)) fun h10 =>
  ab_b2 (ab_nA h10 5 (3 : Int32) ab_zR) fun a11 h12 =>
  ab_bd (ab_pR h12 x 0 8 (some a11)) fun h13 =>
  ab_b2 (ab_new h13 3 4 tyX4) fun a14 h15 =>
  ab_bd (fX4_init a14 h15) fun h17 =>
  ab_bd (ab_pR h17 x 0 9 (some a14)) fun h18 =>
  ab_b2 (ab_new h18 3 4 tyX4) fun a19 h20 =>
  ab_bd (fX4_init a19 h20) fun h22 =>
  ab_bd (ab_pR h22 x 0 10 (some a19)) fun h23 =>
  ab_b2 (ab_nA h23 0 (192 : Int32) ab_zI) fun a24 h25 =>
  ab_bd (ab_pR h25 x 0 12 (some a24)) fun h26 =>
  ab_b2 (ab_nA h26 0 (3 : Int32) ab_zI) fun a27 h28 =>
  ab_bd (ab_pR h28 x 0 13 (some a27)) fun h29 =>
  ab_b2 (ab_nA h29 0 (6 : Int32) ab_zI) fun a30 h31 =>
  ab_bd (ab_pR h31 x 0 14 (some a30)) fun h32 =>
  ab_b2 (ab_nA h32 0 (6 : Int32) ab_zI) fun a33 h34 =>
  ab_bd (ab_pR h34 x 0 15 (some a33)) fun h35 =>
  ab_b2 (ab_nA h35 0 (6 : Int32) ab_zI) fun a36 h37 =>
  ab_bd (ab_pR h37 x 0 18 (some a36)) fun h38 =>
  ab_b2 (ab_nA h38 0 (84 : Int32) ab_zI) fun a39 h40 =>
  ab_bd (ab_pR h40 x 0 19 (some a39)) fun h41 =>
  ab_b2 (ab_nA h41 0 (14 : Int32) ab_zI) fun a42 h43 =>
  ab_bd (ab_pR h43 x 0 20 (some a42)) fun h44 =>
  ab_b2 (ab_nA h44 0 (6 : Int32) ab_zI) fun a45 h46 =>
  ab_bd (ab_pR h46 x 0 22 (some a45)) fun h47 =>
  ab_b2 (ab_nA h47 0 (5 : Int32) ab_zI) fun a48 h49 =>
  ab_bd (ab_pR h49 x 0 23 (some a48)) fun h50 =>
  ab_b2 (ab_nA h50 0 (5 : Int32) ab_zI) fun a51 h52 =>
  ab_bd (ab_pR h52 x 0 24 (some a51)) fun h53 =>
  ab_b2 (ab_nA h53 0 (5 : Int32) ab_zI) fun a54 h55 =>
  ab_bd (ab_pR h55 x 0 25 (some a54)) fun h56 =>
  ab_b2 (ab_nA h56 0 (7 : Int32) ab_zI) fun a57 h58 =>
  ab_bd (ab_pR h58 x 0 28 (some a57)) fun h59 =>
  ab_b2 (ab_nA h59 0 (7 : Int32) ab_zI) fun a60 h61 =>
  ab_bd (ab_pR h61 x 0 29 (some a60)) fun h62 =>
  ab_b2 (ab_nA h62 0 (7 : Int32) ab_zI) fun a63 h64 =>
  ab_bd (ab_pR h64 x 0 30 (some a63)) fun h65 =>
  ab_b2 (ab_nA h65 0 (5 : Int32) ab_zI) fun a66 h67 =>
  ab_bd (ab_pR h67 x 0 31 (some a66)) fun h68 =>
  ab_b2 (ab_nA h68 0 (60 : Int32) ab_zI) fun a69 h70 =>
  ab_bd (ab_pR h70 x 0 35 (some a69)) fun h71 =>
  ab_b2 (ab_nA h71 0 (6 : Int32) ab_zI) fun a72 h73 =>
  ab_bd (ab_pR h73 x 0 36 (some a72)) fun h74 =>
  ab_b2 (ab_nA h74 0 (16 : Int32) ab_zI) fun a75 h76 =>
  ab_bd (ab_pR h76 x 0 37 (some a75)) fun h77 =>
  ab_b2 (ab_nA h77 0 (16 : Int32) ab_zI) fun a78 h79 =>
  ab_bd (ab_pR h79 x 0 38 (some a78)) fun h80 =>
  ab_b2 (ab_nA h80 0 (16 : Int32) ab_zI) fun a81 h82 =>
  ab_bd (ab_pR h82 x 0 39 (some a81)) fun h83 =>
  fX1_init_l221 x (hfu h83) (0 : Int32) h83
theorem wX1_init (D : Dd) {x : Nat} {h : Hp} {h' : Hp} (hf : fX1_init x h = some h') : Ct D 6 133 yX1_init cX1_init 2 (none : Option FieldType) [vR (some x)] h (.inl none) h' := by
    unfold fX1_init at hf
    refine Ct.of (by decide) (L := [(0, vR (some x))]) rfl (Nat.le_of_ble_eq_true rfl) (fun C A => ?_)
    refine xr_aload_n A dX1_init_0 0 rfl rfl ?_
    refine xr_objInit A q123 q_oi1 q_oi2 dX1_init_1 (by omega) (by omega) (Nat.le_of_ble_eq_true rfl) ?_
    refine xr_aload_n A dX1_init_4 0 rfl rfl ?_
    refine xr_sipush A (v := 900) dX1_init_5 (by decide) ?_
    revert hf; refine ab_b2I (fun a1 h2 mh2 hf => ?_)
    refine xr_newa_byte A mh2 dX1_init_8 ?_
    revert hf; refine ab_bdI (fun h3 mh3 hf => ?_)
    refine xr_putF A xc_X1 in_X1 tyX1_ok nmX1 0 (Nat.le_of_ble_eq_true rfl) q263 rfl rfl rfl rfl (v := vR (some a1)) (ab_nR _ rfl) (ab_tR _ rfl) mh3 dX1_init_10 ?_
    refine xr_aload_n A dX1_init_13 0 rfl rfl ?_
    revert hf; refine ab_b2I (fun a4 h5 mh5 hf => ?_)
    refine xr_new A xc_X2 in_X2 tyX2_ok q126 q127 q93 mh5 dX1_init_14 ?_
    refine xr_dup A dX1_init_17 rfl ?_
    refine xr_aload_n A dX1_init_18 0 rfl rfl ?_
    revert hf; refine ab_bdI (fun v6 mv6 hf => ?_)
    refine xr_get A xc_X1 in_X1 0 (Nat.le_of_ble_eq_true rfl) q263 rfl (ab_gRE mv6) dX1_init_19 ?_
    revert hf; refine ab_bdI (fun h8 m7 hf => ?_)
    refine xr_I0 A bX2_init (wX2_init D m7) rfl q129 q128 (av := [vR v6]) (rest := [vR (some a4), vR (some x)]) rfl dX1_init_22 (Nat.le_of_ble_eq_true rfl) (Nat.le_of_ble_eq_true rfl) rfl (Nat.le_of_ble_eq_true rfl) ?_
    revert hf; refine ab_bdI (fun h9 mh9 hf => ?_)
    refine xr_putF A xc_X1 in_X1 tyX1_ok nmX1 2 (Nat.le_of_ble_eq_true rfl) q265 rfl rfl rfl rfl (v := vR (some a4)) (ab_nR _ rfl) (ab_tR _ rfl) mh9 dX1_init_25 ?_
    refine xr_aload_n A dX1_init_28 0 rfl rfl ?_
    refine xr_iconst A (v := (-1)) dX1_init_29 (by decide) ?_
    revert hf; refine ab_bdI (fun h10 mh10 hf => ?_)
    refine xr_put A xc_X1 in_X1 tyX1_ok nmX1 6 (Nat.le_of_ble_eq_true rfl) q269 rfl rfl (v := vI (-1 : Int32)) rfl rfl mh10 dX1_init_30 ?_
    refine xr_aload_n A dX1_init_33 0 rfl rfl ?_
    refine xr_iconst A (v := 3) dX1_init_34 (by decide) ?_
    revert hf; refine ab_b2I (fun a11 h12 mh12 hf => ?_)
    refine xr_newq A (t := 5) rfl q238 n239 mh12 dX1_init_35 ?_
    revert hf; refine ab_bdI (fun h13 mh13 hf => ?_)
    refine xr_putF A xc_X1 in_X1 tyX1_ok nmX1 8 (Nat.le_of_ble_eq_true rfl) q271 rfl rfl rfl rfl (v := vR (some a11)) (ab_nR _ rfl) (ab_tR _ rfl) mh13 dX1_init_38 ?_
    refine xr_aload_n A dX1_init_41 0 rfl rfl ?_
    revert hf; refine ab_b2I (fun a14 h15 mh15 hf => ?_)
    refine xr_new A xc_X4 in_X4 tyX4_ok q238 q240 q98 mh15 dX1_init_42 ?_
    refine xr_dup A dX1_init_45 rfl ?_
    revert hf; refine ab_bdI (fun h17 m16 hf => ?_)
    refine xr_IN0 A bX4_init (wX4_init D m16) rfl q242 n241 (av := []) (rest := [vR (some a14), vR (some x)]) rfl dX1_init_46 (Nat.le_of_ble_eq_true rfl) (Nat.le_of_ble_eq_true rfl) rfl (Nat.le_of_ble_eq_true rfl) ?_
    revert hf; refine ab_bdI (fun h18 mh18 hf => ?_)
    refine xr_putF A xc_X1 in_X1 tyX1_ok nmX1 9 (Nat.le_of_ble_eq_true rfl) q272 rfl rfl rfl rfl (v := vR (some a14)) (ab_nR _ rfl) (ab_tR _ rfl) mh18 dX1_init_49 ?_
    refine xr_aload_n A dX1_init_52 0 rfl rfl ?_
    revert hf; refine ab_b2I (fun a19 h20 mh20 hf => ?_)
    refine xr_new A xc_X4 in_X4 tyX4_ok q238 q240 q98 mh20 dX1_init_53 ?_
    refine xr_dup A dX1_init_56 rfl ?_
    revert hf; refine ab_bdI (fun h22 m21 hf => ?_)
    refine xr_IN0 A bX4_init (wX4_init D m21) rfl q242 n241 (av := []) (rest := [vR (some a19), vR (some x)]) rfl dX1_init_57 (Nat.le_of_ble_eq_true rfl) (Nat.le_of_ble_eq_true rfl) rfl (Nat.le_of_ble_eq_true rfl) ?_
    revert hf; refine ab_bdI (fun h23 mh23 hf => ?_)
    refine xr_putF A xc_X1 in_X1 tyX1_ok nmX1 10 (Nat.le_of_ble_eq_true rfl) q273 rfl rfl rfl rfl (v := vR (some a19)) (ab_nR _ rfl) (ab_tR _ rfl) mh23 dX1_init_60 ?_
    refine xr_aload_n A dX1_init_63 0 rfl rfl ?_
    refine xr_sipush A (v := 192) dX1_init_64 (by decide) ?_
    revert hf; refine ab_b2I (fun a24 h25 mh25 hf => ?_)
    refine xr_newa_int A mh25 dX1_init_67 ?_
    revert hf; refine ab_bdI (fun h26 mh26 hf => ?_)
    refine xr_putF A xc_X1 in_X1 tyX1_ok nmX1 12 (Nat.le_of_ble_eq_true rfl) q275 rfl rfl rfl rfl (v := vR (some a24)) (ab_nR _ rfl) (ab_tR _ rfl) mh26 dX1_init_69 ?_
    refine xr_aload_n A dX1_init_72 0 rfl rfl ?_
    refine xr_iconst A (v := 3) dX1_init_73 (by decide) ?_
    revert hf; refine ab_b2I (fun a27 h28 mh28 hf => ?_)
    refine xr_newa_int A mh28 dX1_init_74 ?_
    revert hf; refine ab_bdI (fun h29 mh29 hf => ?_)
    refine xr_putF A xc_X1 in_X1 tyX1_ok nmX1 13 (Nat.le_of_ble_eq_true rfl) q276 rfl rfl rfl rfl (v := vR (some a27)) (ab_nR _ rfl) (ab_tR _ rfl) mh29 dX1_init_76 ?_
    refine xr_aload_n A dX1_init_79 0 rfl rfl ?_
    refine xr_bipush A (v := 6) dX1_init_80 (by decide) ?_
    revert hf; refine ab_b2I (fun a30 h31 mh31 hf => ?_)
    refine xr_newa_int A mh31 dX1_init_82 ?_
    revert hf; refine ab_bdI (fun h32 mh32 hf => ?_)
    refine xr_putF A xc_X1 in_X1 tyX1_ok nmX1 14 (Nat.le_of_ble_eq_true rfl) q277 rfl rfl rfl rfl (v := vR (some a30)) (ab_nR _ rfl) (ab_tR _ rfl) mh32 dX1_init_84 ?_
    refine xr_aload_n A dX1_init_87 0 rfl rfl ?_
    refine xr_bipush A (v := 6) dX1_init_88 (by decide) ?_
    revert hf; refine ab_b2I (fun a33 h34 mh34 hf => ?_)
    refine xr_newa_int A mh34 dX1_init_90 ?_
    revert hf; refine ab_bdI (fun h35 mh35 hf => ?_)
    refine xr_putF A xc_X1 in_X1 tyX1_ok nmX1 15 (Nat.le_of_ble_eq_true rfl) q278 rfl rfl rfl rfl (v := vR (some a33)) (ab_nR _ rfl) (ab_tR _ rfl) mh35 dX1_init_92 ?_
    refine xr_aload_n A dX1_init_95 0 rfl rfl ?_
    refine xr_bipush A (v := 6) dX1_init_96 (by decide) ?_
    revert hf; refine ab_b2I (fun a36 h37 mh37 hf => ?_)
    refine xr_newa_int A mh37 dX1_init_98 ?_
    revert hf; refine ab_bdI (fun h38 mh38 hf => ?_)
    refine xr_putF A xc_X1 in_X1 tyX1_ok nmX1 18 (Nat.le_of_ble_eq_true rfl) q281 rfl rfl rfl rfl (v := vR (some a36)) (ab_nR _ rfl) (ab_tR _ rfl) mh38 dX1_init_100 ?_
    refine xr_aload_n A dX1_init_103 0 rfl rfl ?_
    refine xr_bipush A (v := 84) dX1_init_104 (by decide) ?_
    revert hf; refine ab_b2I (fun a39 h40 mh40 hf => ?_)
    refine xr_newa_int A mh40 dX1_init_106 ?_
    revert hf; refine ab_bdI (fun h41 mh41 hf => ?_)
    refine xr_putF A xc_X1 in_X1 tyX1_ok nmX1 19 (Nat.le_of_ble_eq_true rfl) q282 rfl rfl rfl rfl (v := vR (some a39)) (ab_nR _ rfl) (ab_tR _ rfl) mh41 dX1_init_108 ?_
    refine xr_aload_n A dX1_init_111 0 rfl rfl ?_
    refine xr_bipush A (v := 14) dX1_init_112 (by decide) ?_
    revert hf; refine ab_b2I (fun a42 h43 mh43 hf => ?_)
    refine xr_newa_int A mh43 dX1_init_114 ?_
    revert hf; refine ab_bdI (fun h44 mh44 hf => ?_)
    refine xr_putF A xc_X1 in_X1 tyX1_ok nmX1 20 (Nat.le_of_ble_eq_true rfl) q283 rfl rfl rfl rfl (v := vR (some a42)) (ab_nR _ rfl) (ab_tR _ rfl) mh44 dX1_init_116 ?_
    refine xr_aload_n A dX1_init_119 0 rfl rfl ?_
    refine xr_bipush A (v := 6) dX1_init_120 (by decide) ?_
    revert hf; refine ab_b2I (fun a45 h46 mh46 hf => ?_)
    refine xr_newa_int A mh46 dX1_init_122 ?_
    revert hf; refine ab_bdI (fun h47 mh47 hf => ?_)
    refine xr_putF A xc_X1 in_X1 tyX1_ok nmX1 22 (Nat.le_of_ble_eq_true rfl) q285 rfl rfl rfl rfl (v := vR (some a45)) (ab_nR _ rfl) (ab_tR _ rfl) mh47 dX1_init_124 ?_
    refine xr_aload_n A dX1_init_127 0 rfl rfl ?_
    refine xr_iconst A (v := 5) dX1_init_128 (by decide) ?_
    revert hf; refine ab_b2I (fun a48 h49 mh49 hf => ?_)
    refine xr_newa_int A mh49 dX1_init_129 ?_
    revert hf; refine ab_bdI (fun h50 mh50 hf => ?_)
    refine xr_putF A xc_X1 in_X1 tyX1_ok nmX1 23 (Nat.le_of_ble_eq_true rfl) q286 rfl rfl rfl rfl (v := vR (some a48)) (ab_nR _ rfl) (ab_tR _ rfl) mh50 dX1_init_131 ?_
    refine xr_aload_n A dX1_init_134 0 rfl rfl ?_
    refine xr_iconst A (v := 5) dX1_init_135 (by decide) ?_
    revert hf; refine ab_b2I (fun a51 h52 mh52 hf => ?_)
    refine xr_newa_int A mh52 dX1_init_136 ?_
    revert hf; refine ab_bdI (fun h53 mh53 hf => ?_)
    refine xr_putF A xc_X1 in_X1 tyX1_ok nmX1 24 (Nat.le_of_ble_eq_true rfl) q287 rfl rfl rfl rfl (v := vR (some a51)) (ab_nR _ rfl) (ab_tR _ rfl) mh53 dX1_init_138 ?_
    refine xr_aload_n A dX1_init_141 0 rfl rfl ?_
    refine xr_iconst A (v := 5) dX1_init_142 (by decide) ?_
    revert hf; refine ab_b2I (fun a54 h55 mh55 hf => ?_)
    refine xr_newa_int A mh55 dX1_init_143 ?_
    revert hf; refine ab_bdI (fun h56 mh56 hf => ?_)
    refine xr_putF A xc_X1 in_X1 tyX1_ok nmX1 25 (Nat.le_of_ble_eq_true rfl) q288 rfl rfl rfl rfl (v := vR (some a54)) (ab_nR _ rfl) (ab_tR _ rfl) mh56 dX1_init_145 ?_
    refine xr_aload_n A dX1_init_148 0 rfl rfl ?_
    refine xr_bipush A (v := 7) dX1_init_149 (by decide) ?_
    revert hf; refine ab_b2I (fun a57 h58 mh58 hf => ?_)
    refine xr_newa_int A mh58 dX1_init_151 ?_
    revert hf; refine ab_bdI (fun h59 mh59 hf => ?_)
    refine xr_putF A xc_X1 in_X1 tyX1_ok nmX1 28 (Nat.le_of_ble_eq_true rfl) q291 rfl rfl rfl rfl (v := vR (some a57)) (ab_nR _ rfl) (ab_tR _ rfl) mh59 dX1_init_153 ?_
    refine xr_aload_n A dX1_init_156 0 rfl rfl ?_
    refine xr_bipush A (v := 7) dX1_init_157 (by decide) ?_
    revert hf; refine ab_b2I (fun a60 h61 mh61 hf => ?_)
    refine xr_newa_int A mh61 dX1_init_159 ?_
    revert hf; refine ab_bdI (fun h62 mh62 hf => ?_)
    refine xr_putF A xc_X1 in_X1 tyX1_ok nmX1 29 (Nat.le_of_ble_eq_true rfl) q292 rfl rfl rfl rfl (v := vR (some a60)) (ab_nR _ rfl) (ab_tR _ rfl) mh62 dX1_init_161 ?_
    refine xr_aload_n A dX1_init_164 0 rfl rfl ?_
    refine xr_bipush A (v := 7) dX1_init_165 (by decide) ?_
    revert hf; refine ab_b2I (fun a63 h64 mh64 hf => ?_)
    refine xr_newa_int A mh64 dX1_init_167 ?_
    revert hf; refine ab_bdI (fun h65 mh65 hf => ?_)
    refine xr_putF A xc_X1 in_X1 tyX1_ok nmX1 30 (Nat.le_of_ble_eq_true rfl) q293 rfl rfl rfl rfl (v := vR (some a63)) (ab_nR _ rfl) (ab_tR _ rfl) mh65 dX1_init_169 ?_
    refine xr_aload_n A dX1_init_172 0 rfl rfl ?_
    refine xr_iconst A (v := 5) dX1_init_173 (by decide) ?_
    revert hf; refine ab_b2I (fun a66 h67 mh67 hf => ?_)
    refine xr_newa_int A mh67 dX1_init_174 ?_
    revert hf; refine ab_bdI (fun h68 mh68 hf => ?_)
    refine xr_putF A xc_X1 in_X1 tyX1_ok nmX1 31 (Nat.le_of_ble_eq_true rfl) q294 rfl rfl rfl rfl (v := vR (some a66)) (ab_nR _ rfl) (ab_tR _ rfl) mh68 dX1_init_176 ?_
    refine xr_aload_n A dX1_init_179 0 rfl rfl ?_
    refine xr_bipush A (v := 60) dX1_init_180 (by decide) ?_
    revert hf; refine ab_b2I (fun a69 h70 mh70 hf => ?_)
    refine xr_newa_int A mh70 dX1_init_182 ?_
    revert hf; refine ab_bdI (fun h71 mh71 hf => ?_)
    refine xr_putF A xc_X1 in_X1 tyX1_ok nmX1 35 (Nat.le_of_ble_eq_true rfl) q298 rfl rfl rfl rfl (v := vR (some a69)) (ab_nR _ rfl) (ab_tR _ rfl) mh71 dX1_init_184 ?_
    refine xr_aload_n A dX1_init_187 0 rfl rfl ?_
    refine xr_bipush A (v := 6) dX1_init_188 (by decide) ?_
    revert hf; refine ab_b2I (fun a72 h73 mh73 hf => ?_)
    refine xr_newa_int A mh73 dX1_init_190 ?_
    revert hf; refine ab_bdI (fun h74 mh74 hf => ?_)
    refine xr_putF A xc_X1 in_X1 tyX1_ok nmX1 36 (Nat.le_of_ble_eq_true rfl) q299 rfl rfl rfl rfl (v := vR (some a72)) (ab_nR _ rfl) (ab_tR _ rfl) mh74 dX1_init_192 ?_
    refine xr_aload_n A dX1_init_195 0 rfl rfl ?_
    refine xr_bipush A (v := 16) dX1_init_196 (by decide) ?_
    revert hf; refine ab_b2I (fun a75 h76 mh76 hf => ?_)
    refine xr_newa_int A mh76 dX1_init_198 ?_
    revert hf; refine ab_bdI (fun h77 mh77 hf => ?_)
    refine xr_putF A xc_X1 in_X1 tyX1_ok nmX1 37 (Nat.le_of_ble_eq_true rfl) q300 rfl rfl rfl rfl (v := vR (some a75)) (ab_nR _ rfl) (ab_tR _ rfl) mh77 dX1_init_200 ?_
    refine xr_aload_n A dX1_init_203 0 rfl rfl ?_
    refine xr_bipush A (v := 16) dX1_init_204 (by decide) ?_
    revert hf; refine ab_b2I (fun a78 h79 mh79 hf => ?_)
    refine xr_newa_int A mh79 dX1_init_206 ?_
    revert hf; refine ab_bdI (fun h80 mh80 hf => ?_)
    refine xr_putF A xc_X1 in_X1 tyX1_ok nmX1 38 (Nat.le_of_ble_eq_true rfl) q301 rfl rfl rfl rfl (v := vR (some a78)) (ab_nR _ rfl) (ab_tR _ rfl) mh80 dX1_init_208 ?_
    refine xr_aload_n A dX1_init_211 0 rfl rfl ?_
    refine xr_bipush A (v := 16) dX1_init_212 (by decide) ?_
    revert hf; refine ab_b2I (fun a81 h82 mh82 hf => ?_)
    refine xr_newa_int A mh82 dX1_init_214 ?_
    revert hf; refine ab_bdI (fun h83 mh83 hf => ?_)
    refine xr_putF A xc_X1 in_X1 tyX1_ok nmX1 39 (Nat.le_of_ble_eq_true rfl) q302 rfl rfl rfl rfl (v := vR (some a81)) (ab_nR _ rfl) (ab_tR _ rfl) mh83 dX1_init_216 ?_
    refine xr_iconst A (v := 0) dX1_init_219 (by decide) ?_
    refine xr_istore_n A dX1_init_220 rfl (Nat.le_of_ble_eq_true rfl) (L' := [(1, vI (0 : Int32)), (0, vR (some x))]) rfl ?_
    refine X.sub [1, 0] rfl ?_
    exact wX1_init_l221 A _ hf
/-! X1_bytes -/
theorem bX1_bytes : MB yX1_bytes cX1_bytes 3 (none : Option FieldType) 1 := ⟨q394, q92, by decide, by decide +kernel⟩
noncomputable def fX1_bytes_l3 (x : Nat) : Nat → Int32 → Int32 → Hp → Option Hp
  | 0, _, _, _ => none
  | n + 1, l1, l2, h =>
  if l2 < 0 then (
    some h)
  else (
    ab_bd (ab_gR h x 0 0) fun v1 =>
    ab_bd (ab_gI h x 0 1) fun v2 =>
    ab_bd v1 fun a3 =>
    ab_bd (ab_sB h a3 v2 (l1 >>> (l2 &&& 31)).toInt8.toInt32) fun h4 =>
    ab_bd (ab_gI h4 x 0 1) fun v5 =>
    ab_bd (ab_pI h4 x 0 1 (v5 + (1 : Int32))) fun h6 =>
    fX1_bytes_l3 x n l1 (l2 + (-8 : Int32)) h6)
theorem wX1_bytes_l3 {D : Dd} {C : Cx} {h0 h' : Hp} (A : Act C D (h0, (.inl none), h') yX1_bytes cX1_bytes 3 (none : Option FieldType) 1 20 []) {x : Nat} : ∀ (n : Nat) {l1 : Int32} {l2 : Int32} {h : Hp}, fX1_bytes_l3 x n l1 l2 h = some h' → X C D (h0, (.inl none), h') 3 3 [(0, vR (some x)), (1, vI l1), (2, vI l2)] [] h := by
  intro n
  induction n with
  | zero => intro l1 l2 h hf; exact ab_no hf
  | succ n ih =>
    intro l1 l2 h hf
    unfold fX1_bytes_l3 at hf
    refine xr_iload_n A dX1_bytes_3 2 rfl rfl ?_
    refine xr_if_lt A (tgt := 36) dX1_bytes_4 (by decide) (fun c4 => ?_) (fun c4 => ?_)
    · replace hf := ab_ip c4 hf
      exact xr_return A hf dX1_bytes_36
    · replace hf := ab_in c4 hf
      refine xr_aload_n A dX1_bytes_7 0 rfl rfl ?_
      revert hf; refine ab_bdI (fun v1 mv1 hf => ?_)
      refine xr_get A xc_X1 in_X1 0 (Nat.le_of_ble_eq_true rfl) q263 rfl (ab_gRE mv1) dX1_bytes_8 ?_
      refine xr_aload_n A dX1_bytes_11 0 rfl rfl ?_
      revert hf; refine ab_bdI (fun v2 mv2 hf => ?_)
      refine xr_get A xc_X1 in_X1 1 (Nat.le_of_ble_eq_true rfl) q264 rfl (ab_gIE mv2) dX1_bytes_12 ?_
      refine xr_iload_n A dX1_bytes_15 1 rfl rfl ?_
      refine xr_iload_n A dX1_bytes_16 2 rfl rfl ?_
      refine xr_ishr A dX1_bytes_17 ?_
      refine xr_i2b A dX1_bytes_18 ?_
      revert hf; refine ab_bdI (fun a3 e hf => ?_); subst e
      revert hf; refine ab_bdI (fun h4 mh4 hf => ?_)
      refine xr_bastore A mh4 dX1_bytes_19 ?_
      refine xr_aload_n A dX1_bytes_20 0 rfl rfl ?_
      refine xr_dup A dX1_bytes_21 rfl ?_
      revert hf; refine ab_bdI (fun v5 mv5 hf => ?_)
      refine xr_get A xc_X1 in_X1 1 (Nat.le_of_ble_eq_true rfl) q264 rfl (ab_gIE mv5) dX1_bytes_22 ?_
      refine xr_iconst A (v := 1) dX1_bytes_25 (by decide) ?_
      refine xr_iadd A dX1_bytes_26 ?_
      revert hf; refine ab_bdI (fun h6 mh6 hf => ?_)
      refine xr_put A xc_X1 in_X1 tyX1_ok nmX1 1 (Nat.le_of_ble_eq_true rfl) q264 rfl rfl (v := vI (v5 + (1 : Int32))) rfl rfl mh6 dX1_bytes_27 ?_
      refine xr_iinc A dX1_bytes_30 2 rfl (v := (l2 + (-8 : Int32))) rfl (Nat.le_of_ble_eq_true rfl) (L' := [(2, vI (l2 + (-8 : Int32))), (0, vR (some x)), (1, vI l1)]) rfl ?_
      refine xr_goto A (tgt := 3) dX1_bytes_33 (by decide) ?_
      refine X.sub [1, 2, 0] rfl ?_
      exact ih hf
noncomputable def fX1_bytes (x : Nat) (p1 : Int32) (h : Hp) : Option Hp :=
  ab_ck h x 0 <|
  fX1_bytes_l3 x (hfu h) p1 (24 : Int32) h
theorem wX1_bytes (D : Dd) {x : Nat} {p1 : Int32} {h : Hp} {h' : Hp} (hf : fX1_bytes x p1 h = some h') : ab_is h x 0 ∧ Ct D 1 20 yX1_bytes cX1_bytes 3 (none : Option FieldType) [vR (some x), vI p1] h (.inl none) h' := by
    unfold fX1_bytes at hf
    replace hf := ab_ckE hf; obtain ⟨i0, hf⟩ := hf
    refine ⟨i0, ?_⟩
    refine Ct.of (by decide) (L := [(0, vR (some x)), (1, vI p1)]) rfl (Nat.le_of_ble_eq_true rfl) (fun C A => ?_)
    refine xr_bipush A (v := 24) dX1_bytes_0 (by decide) ?_
    refine xr_istore_n A dX1_bytes_2 rfl (Nat.le_of_ble_eq_true rfl) (L' := [(2, vI (24 : Int32)), (0, vR (some x)), (1, vI p1)]) rfl ?_
    refine X.sub [1, 2, 0] rfl ?_
    exact wX1_bytes_l3 A _ hf
/-! X1_feed -/
theorem bX1_feed : MB yX1_feed cX1_feed 6 (some FieldType.int) 5 := ⟨q390, q92, by decide, by decide +kernel⟩
noncomputable def fX1_feed (x : Nat) (p1 : Int32) (p2 : Int32) (p3 : Int32) (p4 : Int32) (p5 : Int32) (h : Hp) : Option (Int32 × Hp) :=
  ab_ck h x 0 <|
  ab_bd (ab_gI h x 0 1) fun v1 =>
  if (v1 + (20 : Int32)) ≤ (900 : Int32) then (
    ab_bd (fX1_bytes x p1 h) fun h3 =>
    ab_bd (fX1_bytes x p2 h3) fun h5 =>
    ab_bd (fX1_bytes x p3 h5) fun h7 =>
    ab_bd (fX1_bytes x p4 h7) fun h9 =>
    ab_bd (fX1_bytes x p5 h9) fun h11 =>
    ab_bd (ab_gI h11 x 0 1) fun v12 =>
    some (v12, h11))
  else (
    some ((-1 : Int32), h))
theorem wX1_feed (D : Dd) {x : Nat} {p1 : Int32} {p2 : Int32} {p3 : Int32} {p4 : Int32} {p5 : Int32} {h : Hp} {r : Int32} {h' : Hp} (hf : fX1_feed x p1 p2 p3 p4 p5 h = some (r, h')) : ab_is h x 0 ∧ Ct D 2 42 yX1_feed cX1_feed 6 (some FieldType.int) [vR (some x), vI p1, vI p2, vI p3, vI p4, vI p5] h (.inl (some (vI r))) h' := by
    unfold fX1_feed at hf
    replace hf := ab_ckE hf; obtain ⟨i0, hf⟩ := hf
    refine ⟨i0, ?_⟩
    refine Ct.of (by decide) (L := [(0, vR (some x)), (1, vI p1), (2, vI p2), (3, vI p3), (4, vI p4), (5, vI p5)]) rfl (Nat.le_of_ble_eq_true rfl) (fun C A => ?_)
    refine xr_aload_n A dX1_feed_0 0 rfl rfl ?_
    revert hf; refine ab_bdI (fun v1 mv1 hf => ?_)
    refine xr_get A xc_X1 in_X1 1 (Nat.le_of_ble_eq_true rfl) q264 rfl (ab_gIE mv1) dX1_feed_1 ?_
    refine xr_bipush A (v := 20) dX1_feed_4 (by decide) ?_
    refine xr_iadd A dX1_feed_6 ?_
    refine xr_sipush A (v := 900) dX1_feed_7 (by decide) ?_
    refine xr_icmp_le A (tgt := 15) dX1_feed_10 (by decide) (fun c10 => ?_) (fun c10 => ?_)
    · replace hf := ab_ip c10 hf
      refine xr_aload_n A dX1_feed_15 0 rfl rfl ?_
      refine xr_iload_n A dX1_feed_16 1 rfl rfl ?_
      revert hf; refine ab_bdI (fun h3 m2 hf => ?_)
      refine xr_V0 A bX1_bytes (wX1_bytes D m2).2 xc_X1 (wX1_bytes D m2).1 q393 qs1 q391 (av := [vI p1]) (rest := []) rfl dX1_feed_17 (Nat.le_of_ble_eq_true rfl) (Nat.le_of_ble_eq_true rfl) rfl (Nat.le_of_ble_eq_true rfl) ?_
      refine xr_aload_n A dX1_feed_20 0 rfl rfl ?_
      refine xr_iload_n A dX1_feed_21 2 rfl rfl ?_
      revert hf; refine ab_bdI (fun h5 m4 hf => ?_)
      refine xr_V0 A bX1_bytes (wX1_bytes D m4).2 xc_X1 (wX1_bytes D m4).1 q393 qs1 q391 (av := [vI p2]) (rest := []) rfl dX1_feed_22 (Nat.le_of_ble_eq_true rfl) (Nat.le_of_ble_eq_true rfl) rfl (Nat.le_of_ble_eq_true rfl) ?_
      refine xr_aload_n A dX1_feed_25 0 rfl rfl ?_
      refine xr_iload_n A dX1_feed_26 3 rfl rfl ?_
      revert hf; refine ab_bdI (fun h7 m6 hf => ?_)
      refine xr_V0 A bX1_bytes (wX1_bytes D m6).2 xc_X1 (wX1_bytes D m6).1 q393 qs1 q391 (av := [vI p3]) (rest := []) rfl dX1_feed_27 (Nat.le_of_ble_eq_true rfl) (Nat.le_of_ble_eq_true rfl) rfl (Nat.le_of_ble_eq_true rfl) ?_
      refine xr_aload_n A dX1_feed_30 0 rfl rfl ?_
      refine xr_iload A dX1_feed_31 4 rfl ?_
      revert hf; refine ab_bdI (fun h9 m8 hf => ?_)
      refine xr_V0 A bX1_bytes (wX1_bytes D m8).2 xc_X1 (wX1_bytes D m8).1 q393 qs1 q391 (av := [vI p4]) (rest := []) rfl dX1_feed_33 (Nat.le_of_ble_eq_true rfl) (Nat.le_of_ble_eq_true rfl) rfl (Nat.le_of_ble_eq_true rfl) ?_
      refine xr_aload_n A dX1_feed_36 0 rfl rfl ?_
      refine xr_iload A dX1_feed_37 5 rfl ?_
      revert hf; refine ab_bdI (fun h11 m10 hf => ?_)
      refine xr_V0 A bX1_bytes (wX1_bytes D m10).2 xc_X1 (wX1_bytes D m10).1 q393 qs1 q391 (av := [vI p5]) (rest := []) rfl dX1_feed_39 (Nat.le_of_ble_eq_true rfl) (Nat.le_of_ble_eq_true rfl) rfl (Nat.le_of_ble_eq_true rfl) ?_
      refine xr_aload_n A dX1_feed_42 0 rfl rfl ?_
      revert hf; refine ab_bdI (fun v12 mv12 hf => ?_)
      refine xr_get A xc_X1 in_X1 1 (Nat.le_of_ble_eq_true rfl) q264 rfl (ab_gIE mv12) dX1_feed_43 ?_
      exact xr_ireturn A rfl hf dX1_feed_46
    · replace hf := ab_in c10 hf
      refine xr_iconst A (v := (-1)) dX1_feed_13 (by decide) ?_
      exact xr_ireturn A rfl hf dX1_feed_14
/-! X1_anew -/
theorem bX1_anew : MB yX1_anew cX1_anew 1 (none : Option FieldType) 0 := ⟨q403, q92, by decide, by decide +kernel⟩
noncomputable def fX1_anew (x : Nat) (h : Hp) : Option Hp :=
  ab_ck h x 0 <|
  ab_bd (ab_pI h x 0 4 (0 : Int32)) fun h1 =>
  ab_bd (ab_pI h1 x 0 6 (-1 : Int32)) fun h2 =>
  some h2
theorem wX1_anew (D : Dd) {x : Nat} {h : Hp} {h' : Hp} (hf : fX1_anew x h = some h') : ab_is h x 0 ∧ Ct D 1 20 yX1_anew cX1_anew 1 (none : Option FieldType) [vR (some x)] h (.inl none) h' := by
    unfold fX1_anew at hf
    replace hf := ab_ckE hf; obtain ⟨i0, hf⟩ := hf
    refine ⟨i0, ?_⟩
    refine Ct.of (by decide) (L := [(0, vR (some x))]) rfl (Nat.le_of_ble_eq_true rfl) (fun C A => ?_)
    refine xr_aload_n A dX1_anew_0 0 rfl rfl ?_
    refine xr_iconst A (v := 0) dX1_anew_1 (by decide) ?_
    revert hf; refine ab_bdI (fun h1 mh1 hf => ?_)
    refine xr_put A xc_X1 in_X1 tyX1_ok nmX1 4 (Nat.le_of_ble_eq_true rfl) q267 rfl rfl (v := vI (0 : Int32)) rfl rfl mh1 dX1_anew_2 ?_
    refine xr_aload_n A dX1_anew_5 0 rfl rfl ?_
    refine xr_iconst A (v := (-1)) dX1_anew_6 (by decide) ?_
    revert hf; refine ab_bdI (fun h2 mh2 hf => ?_)
    refine xr_put A xc_X1 in_X1 tyX1_ok nmX1 6 (Nat.le_of_ble_eq_true rfl) q269 rfl rfl (v := vI (-1 : Int32)) rfl rfl mh2 dX1_anew_7 ?_
    exact xr_return A hf dX1_anew_10
/-! X1_no -/
theorem bX1_no : MB yX1_no cX1_no 2 (some FieldType.int) 1 := ⟨q410, q92, by decide, by decide +kernel⟩
noncomputable def fX1_no (x : Nat) (p1 : Int32) (h : Hp) : Option (Int32 × Hp) :=
  ab_ck h x 0 <|
  ab_bd (ab_pI h x 0 4 p1) fun h1 =>
  some ((-1 : Int32), h1)
theorem wX1_no (D : Dd) {x : Nat} {p1 : Int32} {h : Hp} {r : Int32} {h' : Hp} (hf : fX1_no x p1 h = some (r, h')) : ab_is h x 0 ∧ Ct D 1 20 yX1_no cX1_no 2 (some FieldType.int) [vR (some x), vI p1] h (.inl (some (vI r))) h' := by
    unfold fX1_no at hf
    replace hf := ab_ckE hf; obtain ⟨i0, hf⟩ := hf
    refine ⟨i0, ?_⟩
    refine Ct.of (by decide) (L := [(0, vR (some x)), (1, vI p1)]) rfl (Nat.le_of_ble_eq_true rfl) (fun C A => ?_)
    refine xr_aload_n A dX1_no_0 0 rfl rfl ?_
    refine xr_iload_n A dX1_no_1 1 rfl rfl ?_
    revert hf; refine ab_bdI (fun h1 mh1 hf => ?_)
    refine xr_put A xc_X1 in_X1 tyX1_ok nmX1 4 (Nat.le_of_ble_eq_true rfl) q267 rfl rfl (v := vI p1) rfl rfl mh1 dX1_no_2 ?_
    refine xr_iconst A (v := (-1)) dX1_no_5 (by decide) ?_
    exact xr_ireturn A rfl hf dX1_no_6
/-! X6_init -/
theorem bX6_init : MB yX6_init cX6_init 1 (none : Option FieldType) 0 := ⟨q419, q100, by decide, by decide +kernel⟩
noncomputable def fX6_init (x : Nat) (h : Hp) : Option Hp :=
  ab_b2 (ab_nA h 6 (3 : Int32) ab_zR) fun a1 h2 =>
  ab_bd (ab_pR h2 x 5 0 (some a1)) fun h3 =>
  ab_b2 (ab_nA h3 7 (6 : Int32) ab_zR) fun a4 h5 =>
  ab_bd (ab_pR h5 x 5 1 (some a4)) fun h6 =>
  ab_b2 (ab_nA h6 8 (4 : Int32) ab_zR) fun a7 h8 =>
  ab_bd (ab_pR h8 x 5 2 (some a7)) fun h9 =>
  ab_b2 (ab_nA h9 9 (6 : Int32) ab_zR) fun a10 h11 =>
  ab_bd (ab_pR h11 x 5 3 (some a10)) fun h12 =>
  ab_b2 (ab_nA h12 10 (3 : Int32) ab_zR) fun a13 h14 =>
  ab_bd (ab_pR h14 x 5 4 (some a13)) fun h15 =>
  ab_b2 (ab_nA h15 11 (5 : Int32) ab_zR) fun a16 h17 =>
  ab_bd (ab_pR h17 x 5 5 (some a16)) fun h18 =>
  ab_b2 (ab_nA h18 12 (5 : Int32) ab_zR) fun a19 h20 =>
  ab_bd (ab_pR h20 x 5 6 (some a19)) fun h21 =>
  ab_b2 (ab_nA h21 0 (3 : Int32) ab_zI) fun a22 h23 =>
  ab_bd (ab_pR h23 x 5 7 (some a22)) fun h24 =>
  ab_b2 (ab_nA h24 0 (3 : Int32) ab_zI) fun a25 h26 =>
  ab_bd (ab_pR h26 x 5 8 (some a25)) fun h27 =>
  some h27
theorem wX6_init (D : Dd) {x : Nat} {h : Hp} {h' : Hp} (hf : fX6_init x h = some h') : Ct D 1 20 yX6_init cX6_init 1 (none : Option FieldType) [vR (some x)] h (.inl none) h' := by
    unfold fX6_init at hf
    refine Ct.of (by decide) (L := [(0, vR (some x))]) rfl (Nat.le_of_ble_eq_true rfl) (fun C A => ?_)
    refine xr_aload_n A dX6_init_0 0 rfl rfl ?_
    refine xr_objInit A q420 q_oi1 q_oi2 dX6_init_1 (by omega) (by omega) (Nat.le_of_ble_eq_true rfl) ?_
    refine xr_aload_n A dX6_init_4 0 rfl rfl ?_
    refine xr_iconst A (v := 3) dX6_init_5 (by decide) ?_
    revert hf; refine ab_b2I (fun a1 h2 mh2 hf => ?_)
    refine xr_newq A (t := 6) rfl q421 n422 mh2 dX6_init_6 ?_
    revert hf; refine ab_bdI (fun h3 mh3 hf => ?_)
    refine xr_putF A xc_X6 in_X6 tyX6_ok nmX6 0 (Nat.le_of_ble_eq_true rfl) q435 rfl rfl rfl rfl (v := vR (some a1)) (ab_nR _ rfl) (ab_tR _ rfl) mh3 dX6_init_9 ?_
    refine xr_aload_n A dX6_init_12 0 rfl rfl ?_
    refine xr_bipush A (v := 6) dX6_init_13 (by decide) ?_
    revert hf; refine ab_b2I (fun a4 h5 mh5 hf => ?_)
    refine xr_newq A (t := 7) rfl q423 n424 mh5 dX6_init_15 ?_
    revert hf; refine ab_bdI (fun h6 mh6 hf => ?_)
    refine xr_putF A xc_X6 in_X6 tyX6_ok nmX6 1 (Nat.le_of_ble_eq_true rfl) q437 rfl rfl rfl rfl (v := vR (some a4)) (ab_nR _ rfl) (ab_tR _ rfl) mh6 dX6_init_18 ?_
    refine xr_aload_n A dX6_init_21 0 rfl rfl ?_
    refine xr_iconst A (v := 4) dX6_init_22 (by decide) ?_
    revert hf; refine ab_b2I (fun a7 h8 mh8 hf => ?_)
    refine xr_newq A (t := 8) rfl q425 n426 mh8 dX6_init_23 ?_
    revert hf; refine ab_bdI (fun h9 mh9 hf => ?_)
    refine xr_putF A xc_X6 in_X6 tyX6_ok nmX6 2 (Nat.le_of_ble_eq_true rfl) q440 rfl rfl rfl rfl (v := vR (some a7)) (ab_nR _ rfl) (ab_tR _ rfl) mh9 dX6_init_26 ?_
    refine xr_aload_n A dX6_init_29 0 rfl rfl ?_
    refine xr_bipush A (v := 6) dX6_init_30 (by decide) ?_
    revert hf; refine ab_b2I (fun a10 h11 mh11 hf => ?_)
    refine xr_newq A (t := 9) rfl q427 n428 mh11 dX6_init_32 ?_
    revert hf; refine ab_bdI (fun h12 mh12 hf => ?_)
    refine xr_putF A xc_X6 in_X6 tyX6_ok nmX6 3 (Nat.le_of_ble_eq_true rfl) q443 rfl rfl rfl rfl (v := vR (some a10)) (ab_nR _ rfl) (ab_tR _ rfl) mh12 dX6_init_35 ?_
    refine xr_aload_n A dX6_init_38 0 rfl rfl ?_
    refine xr_iconst A (v := 3) dX6_init_39 (by decide) ?_
    revert hf; refine ab_b2I (fun a13 h14 mh14 hf => ?_)
    refine xr_newq A (t := 10) rfl q429 n430 mh14 dX6_init_40 ?_
    revert hf; refine ab_bdI (fun h15 mh15 hf => ?_)
    refine xr_putF A xc_X6 in_X6 tyX6_ok nmX6 4 (Nat.le_of_ble_eq_true rfl) q447 rfl rfl rfl rfl (v := vR (some a13)) (ab_nR _ rfl) (ab_tR _ rfl) mh15 dX6_init_43 ?_
    refine xr_aload_n A dX6_init_46 0 rfl rfl ?_
    refine xr_iconst A (v := 5) dX6_init_47 (by decide) ?_
    revert hf; refine ab_b2I (fun a16 h17 mh17 hf => ?_)
    refine xr_newq A (t := 11) rfl q431 n432 mh17 dX6_init_48 ?_
    revert hf; refine ab_bdI (fun h18 mh18 hf => ?_)
    refine xr_putF A xc_X6 in_X6 tyX6_ok nmX6 5 (Nat.le_of_ble_eq_true rfl) q450 rfl rfl rfl rfl (v := vR (some a16)) (ab_nR _ rfl) (ab_tR _ rfl) mh18 dX6_init_51 ?_
    refine xr_aload_n A dX6_init_54 0 rfl rfl ?_
    refine xr_iconst A (v := 5) dX6_init_55 (by decide) ?_
    revert hf; refine ab_b2I (fun a19 h20 mh20 hf => ?_)
    refine xr_newq A (t := 12) rfl q433 n434 mh20 dX6_init_56 ?_
    revert hf; refine ab_bdI (fun h21 mh21 hf => ?_)
    refine xr_putF A xc_X6 in_X6 tyX6_ok nmX6 6 (Nat.le_of_ble_eq_true rfl) q453 rfl rfl rfl rfl (v := vR (some a19)) (ab_nR _ rfl) (ab_tR _ rfl) mh21 dX6_init_59 ?_
    refine xr_aload_n A dX6_init_62 0 rfl rfl ?_
    refine xr_iconst A (v := 3) dX6_init_63 (by decide) ?_
    revert hf; refine ab_b2I (fun a22 h23 mh23 hf => ?_)
    refine xr_newa_int A mh23 dX6_init_64 ?_
    revert hf; refine ab_bdI (fun h24 mh24 hf => ?_)
    refine xr_putF A xc_X6 in_X6 tyX6_ok nmX6 7 (Nat.le_of_ble_eq_true rfl) q456 rfl rfl rfl rfl (v := vR (some a22)) (ab_nR _ rfl) (ab_tR _ rfl) mh24 dX6_init_66 ?_
    refine xr_aload_n A dX6_init_69 0 rfl rfl ?_
    refine xr_iconst A (v := 3) dX6_init_70 (by decide) ?_
    revert hf; refine ab_b2I (fun a25 h26 mh26 hf => ?_)
    refine xr_newa_int A mh26 dX6_init_71 ?_
    revert hf; refine ab_bdI (fun h27 mh27 hf => ?_)
    refine xr_putF A xc_X6 in_X6 tyX6_ok nmX6 8 (Nat.le_of_ble_eq_true rfl) q458 rfl rfl rfl rfl (v := vR (some a25)) (ab_nR _ rfl) (ab_tR _ rfl) mh27 dX6_init_73 ?_
    exact xr_return A hf dX6_init_76
/-! X2_see -/
theorem bX2_see : MB yX2_see cX2_see 2 (some FieldType.int) 1 := ⟨q535, q93, by decide, by decide +kernel⟩
noncomputable def fX2_see (x : Nat) (p1 : Int32) (h : Hp) : Option (Int32 × Hp) :=
  ab_ck h x 1 <|
  ab_bd (ab_gI h x 1 3) fun v1 =>
  if v1 ≤ p1 then (
    some ((-1 : Int32), h))
  else (
    ab_bd (ab_gR h x 1 1) fun v2 =>
    ab_bd v2 fun a3 =>
    ab_bd (ab_aI h a3 1 p1) fun v4 =>
    some ((v4 &&& (255 : Int32)), h))
theorem wX2_see (D : Dd) {x : Nat} {p1 : Int32} {h : Hp} {r : Int32} {h' : Hp} (hf : fX2_see x p1 h = some (r, h')) : ab_is h x 1 ∧ Ct D 1 20 yX2_see cX2_see 2 (some FieldType.int) [vR (some x), vI p1] h (.inl (some (vI r))) h' := by
    unfold fX2_see at hf
    replace hf := ab_ckE hf; obtain ⟨i0, hf⟩ := hf
    refine ⟨i0, ?_⟩
    refine Ct.of (by decide) (L := [(0, vR (some x)), (1, vI p1)]) rfl (Nat.le_of_ble_eq_true rfl) (fun C A => ?_)
    refine xr_iload_n A dX2_see_0 1 rfl rfl ?_
    refine xr_aload_n A dX2_see_1 0 rfl rfl ?_
    revert hf; refine ab_bdI (fun v1 mv1 hf => ?_)
    refine xr_get A xc_X2 in_X2 3 (Nat.le_of_ble_eq_true rfl) q209 rfl (ab_gIE mv1) dX2_see_2 ?_
    refine xr_icmp_ge A (tgt := 21) dX2_see_5 (by decide) (fun c5 => ?_) (fun c5 => ?_)
    · replace hf := ab_ip c5 hf
      refine xr_iconst A (v := (-1)) dX2_see_21 (by decide) ?_
      exact xr_ireturn A rfl hf dX2_see_22
    · replace hf := ab_in c5 hf
      refine xr_aload_n A dX2_see_8 0 rfl rfl ?_
      revert hf; refine ab_bdI (fun v2 mv2 hf => ?_)
      refine xr_get A xc_X2 in_X2 1 (Nat.le_of_ble_eq_true rfl) q207 rfl (ab_gRE mv2) dX2_see_9 ?_
      refine xr_iload_n A dX2_see_12 1 rfl rfl ?_
      revert hf; refine ab_bdI (fun a3 e hf => ?_); subst e
      revert hf; refine ab_bdI (fun v4 mv4 hf => ?_)
      refine xr_baload A mv4 dX2_see_13 ?_
      refine xr_sipush A (v := 255) dX2_see_14 (by decide) ?_
      refine xr_iand A dX2_see_17 ?_
      refine xr_goto A (tgt := 22) dX2_see_18 (by decide) ?_
      exact xr_ireturn A rfl hf dX2_see_22
/-! X2_isSmall -/
theorem bX2_isSmall : MB yX2_isSmall cX2_isSmall 1 (some FieldType.boolean) 1 := ⟨q538, q93, by decide, by decide +kernel⟩
noncomputable def fX2_isSmall (p0 : Int32) (h : Hp) : Option (Int32 × Hp) :=
  ab_b2 (fX1_in p0 (97 : Int32) (122 : Int32) h) fun v3 h2 =>
  ab_rq (v3 = 0 ∨ v3 = 1) <|
  some (v3, h2)
theorem wX2_isSmall (D : Dd) {p0 : Int32} {h : Hp} {r : Int32} {h' : Hp} (hf : fX2_isSmall p0 h = some (r, h')) : Ct D 2 42 yX2_isSmall cX2_isSmall 1 (some FieldType.boolean) [vI p0] h (.inl (some (vI r))) h' := by
    unfold fX2_isSmall at hf
    refine Ct.of (by decide) (L := [(0, vI p0)]) rfl (Nat.le_of_ble_eq_true rfl) (fun C A => ?_)
    refine xr_iload_n A dX2_isSmall_0 0 rfl rfl ?_
    refine xr_bipush A (v := 97) dX2_isSmall_1 (by decide) ?_
    refine xr_bipush A (v := 122) dX2_isSmall_3 (by decide) ?_
    revert hf; refine ab_b2I (fun v3 h2 m1 hf => ?_)
    refine xr_SN A bX1_in (wX1_in D m1) q405 n539 (av := [vI p0, vI (97 : Int32), vI (122 : Int32)]) (rest := []) rfl dX2_isSmall_5 (Nat.le_of_ble_eq_true rfl) (Nat.le_of_ble_eq_true rfl) rfl (Nat.le_of_ble_eq_true rfl) ?_
    replace hf := ab_rqE hf; obtain ⟨c8, hf⟩ := hf
    exact xr_ireturn A (ab_nZ c8) hf dX2_isSmall_8
/-! J4_checkFromIndexSize -/
theorem bJ4_checkFromIndexSize : MB yJ4_checkFromIndexSize cJ4_checkFromIndexSize 4 (some FieldType.int) 4 := ⟨q555, q102, by decide, by decide +kernel⟩
noncomputable def fJ4_checkFromIndexSize (p0 : Int32) (p1 : Int32) (p2 : Int32) (p3 : Option Nat) (h : Hp) : Option (Int32 × Hp) :=
  if ((p2 ||| p0) ||| p1) < 0 then (
    none)
  else (
    if p1 ≤ (p2 - p0) then (
      some (p0, h))
    else (
      none))
theorem wJ4_checkFromIndexSize (D : Dd) {p0 : Int32} {p1 : Int32} {p2 : Int32} {p3 : Option Nat} {h : Hp} {r : Int32} {h' : Hp} (hf : fJ4_checkFromIndexSize p0 p1 p2 p3 h = some (r, h')) : Ct D 1 20 yJ4_checkFromIndexSize cJ4_checkFromIndexSize 4 (some FieldType.int) [vI p0, vI p1, vI p2, vR p3] h (.inl (some (vI r))) h' := by
    unfold fJ4_checkFromIndexSize at hf
    refine Ct.of (by decide) (L := [(0, vI p0), (1, vI p1), (2, vI p2), (3, vR p3)]) rfl (Nat.le_of_ble_eq_true rfl) (fun C A => ?_)
    refine xr_iload_n A dJ4_checkFromIndexSize_0 2 rfl rfl ?_
    refine xr_iload_n A dJ4_checkFromIndexSize_1 0 rfl rfl ?_
    refine xr_ior A dJ4_checkFromIndexSize_2 ?_
    refine xr_iload_n A dJ4_checkFromIndexSize_3 1 rfl rfl ?_
    refine xr_ior A dJ4_checkFromIndexSize_4 ?_
    refine xr_if_lt A (tgt := 15) dJ4_checkFromIndexSize_5 (by decide) (fun c5 => ?_) (fun c5 => ?_)
    · replace hf := ab_ip c5 hf
      refine xr_aload_n A dJ4_checkFromIndexSize_15 3 rfl rfl ?_
      refine xr_iload_n A dJ4_checkFromIndexSize_16 0 rfl rfl ?_
      refine xr_iload_n A dJ4_checkFromIndexSize_17 1 rfl rfl ?_
      refine xr_iload_n A dJ4_checkFromIndexSize_18 2 rfl rfl ?_
      exact ab_no hf
    · replace hf := ab_in c5 hf
      refine xr_iload_n A dJ4_checkFromIndexSize_8 1 rfl rfl ?_
      refine xr_iload_n A dJ4_checkFromIndexSize_9 2 rfl rfl ?_
      refine xr_iload_n A dJ4_checkFromIndexSize_10 0 rfl rfl ?_
      refine xr_isub A dJ4_checkFromIndexSize_11 ?_
      refine xr_icmp_le A (tgt := 23) dJ4_checkFromIndexSize_12 (by decide) (fun c12 => ?_) (fun c12 => ?_)
      · replace hf := ab_ip c12 hf
        refine xr_iload_n A dJ4_checkFromIndexSize_23 0 rfl rfl ?_
        exact xr_ireturn A rfl hf dJ4_checkFromIndexSize_24
      · replace hf := ab_in c12 hf
        refine xr_aload_n A dJ4_checkFromIndexSize_15 3 rfl rfl ?_
        refine xr_iload_n A dJ4_checkFromIndexSize_16 0 rfl rfl ?_
        refine xr_iload_n A dJ4_checkFromIndexSize_17 1 rfl rfl ?_
        refine xr_iload_n A dJ4_checkFromIndexSize_18 2 rfl rfl ?_
        exact ab_no hf
/-! J3_checkBoundsOffCount -/
theorem bJ3_checkBoundsOffCount : MB yJ3_checkBoundsOffCount cJ3_checkBoundsOffCount 3 (some FieldType.int) 3 := ⟨q550, q101, by decide, by decide +kernel⟩
noncomputable def fJ3_checkBoundsOffCount (p0 : Int32) (p1 : Int32) (p2 : Int32) (h : Hp) : Option (Int32 × Hp) :=
  ab_b2 (fJ4_checkFromIndexSize p0 p1 p2 (hsta h 2) h) fun v3 h2 =>
  some (v3, h2)
theorem wJ3_checkBoundsOffCount (D : Dd) {p0 : Int32} {p1 : Int32} {p2 : Int32} {h : Hp} {r : Int32} {h' : Hp} (hf : fJ3_checkBoundsOffCount p0 p1 p2 h = some (r, h')) : Ct D 2 43 yJ3_checkBoundsOffCount cJ3_checkBoundsOffCount 3 (some FieldType.int) [vI p0, vI p1, vI p2] h (.inl (some (vI r))) h' := by
    unfold fJ3_checkBoundsOffCount at hf
    refine Ct.of (by decide) (L := [(0, vI p0), (1, vI p1), (2, vI p2)]) rfl (Nat.le_of_ble_eq_true rfl) (fun C A => ?_)
    refine xr_iload_n A dJ3_checkBoundsOffCount_0 0 rfl rfl ?_
    refine xr_iload_n A dJ3_checkBoundsOffCount_1 1 rfl rfl ?_
    refine xr_iload_n A dJ3_checkBoundsOffCount_2 2 rfl rfl ?_
    refine xr_gsR A q551 2 rfl dJ3_checkBoundsOffCount_3 ?_
    revert hf; refine ab_b2I (fun v3 h2 m1 hf => ?_)
    refine xr_S A bJ4_checkFromIndexSize (wJ4_checkFromIndexSize D m1) q554 q553 (av := [vI p0, vI p1, vI p2, vR (hsta h 2)]) (rest := []) rfl dJ3_checkBoundsOffCount_6 (Nat.le_of_ble_eq_true rfl) (Nat.le_of_ble_eq_true rfl) rfl (Nat.le_of_ble_eq_true rfl) ?_
    exact xr_ireturn A rfl hf dJ3_checkBoundsOffCount_9
/-! J3_rangeCheck -/
theorem bJ3_rangeCheck : MB yJ3_rangeCheck cJ3_rangeCheck 3 (some (FieldType.object "java/lang/Void")) 3 := ⟨q547, q101, by decide, by decide +kernel⟩
noncomputable def fJ3_rangeCheck (p0 : Option Nat) (p1 : Int32) (p2 : Int32) (h : Hp) : Option ((Option Nat) × Hp) :=
  ab_bd p0 fun a1 =>
  ab_bd (ab_len h a1) fun v2 =>
  ab_b2 (fJ3_checkBoundsOffCount p1 p2 v2 h) fun v5 h4 =>
  some (none, h4)
theorem wJ3_rangeCheck (D : Dd) {p0 : Option Nat} {p1 : Int32} {p2 : Int32} {h : Hp} {r : Option Nat} {h' : Hp} (hf : fJ3_rangeCheck p0 p1 p2 h = some (r, h')) : Ct D 3 65 yJ3_rangeCheck cJ3_rangeCheck 3 (some (FieldType.object "java/lang/Void")) [vR p0, vI p1, vI p2] h (.inl (some (vR r))) h' := by
    unfold fJ3_rangeCheck at hf
    refine Ct.of (by decide) (L := [(0, vR p0), (1, vI p1), (2, vI p2)]) rfl (Nat.le_of_ble_eq_true rfl) (fun C A => ?_)
    refine xr_iload_n A dJ3_rangeCheck_0 1 rfl rfl ?_
    refine xr_iload_n A dJ3_rangeCheck_1 2 rfl rfl ?_
    refine xr_aload_n A dJ3_rangeCheck_2 0 rfl rfl ?_
    revert hf; refine ab_bdI (fun a1 e hf => ?_); subst e
    revert hf; refine ab_bdI (fun v2 mv2 hf => ?_)
    refine xr_alen A mv2 dJ3_rangeCheck_3 ?_
    revert hf; refine ab_b2I (fun v5 h4 m3 hf => ?_)
    refine xr_S A bJ3_checkBoundsOffCount (wJ3_checkBoundsOffCount D m3) q549 q548 (av := [vI p1, vI p2, vI v2]) (rest := []) rfl dJ3_rangeCheck_4 (Nat.le_of_ble_eq_true rfl) (Nat.le_of_ble_eq_true rfl) rfl (Nat.le_of_ble_eq_true rfl) ?_
    refine xr_pop A dJ3_rangeCheck_7 rfl ?_
    refine xr_null A dJ3_rangeCheck_8 ?_
    exact xr_areturn A (Or.inl ⟨_, rfl⟩) hf dJ3_rangeCheck_9
/-! J5_compress_2 -/
theorem bJ5_compress_2 : MB yJ5_compress_2 cJ5_compress_2 7 (some FieldType.int) 5 := ⟨q568, q103, by decide, by decide +kernel⟩
noncomputable def fJ5_compress_2_l3 : Nat → Option Nat → Int32 → Option Nat → Int32 → Int32 → Int32 → Hp → Option (Int32 × Hp)
  | 0, _, _, _, _, _, _, _ => none
  | n + 1, l0, l1, l2, l3, l4, l5, h =>
  if l4 ≤ l5 then (
    some (l4, h))
  else (
    ab_bd l0 fun a1 =>
    ab_bd (ab_aI h a1 2 l1) fun v2 =>
    if v2 ≤ (255 : Int32) then (
      ab_bd l2 fun a3 =>
      ab_bd (ab_sB h a3 l3 v2.toInt8.toInt32) fun h4 =>
      fJ5_compress_2_l3 n (some a1) (l1 + (1 : Int32)) (some a3) (l3 + (1 : Int32)) l4 (l5 + (1 : Int32)) h4)
    else (
      some (l5, h)))
theorem wJ5_compress_2_l3 {D : Dd} {C : Cx} {h0 h' : Hp} {r : Int32} (A : Act C D (h0, (.inl (some (vI r))), h') yJ5_compress_2 cJ5_compress_2 7 (some FieldType.int) 1 20 []) : ∀ (n : Nat) {l0 : Option Nat} {l1 : Int32} {l2 : Option Nat} {l3 : Int32} {l4 : Int32} {l5 : Int32} {h : Hp}, fJ5_compress_2_l3 n l0 l1 l2 l3 l4 l5 h = some (r, h') → X C D (h0, (.inl (some (vI r))), h') 7 3 [(0, vR l0), (1, vI l1), (2, vR l2), (3, vI l3), (4, vI l4), (5, vI l5)] [] h := by
  intro n
  induction n with
  | zero => intro l0 l1 l2 l3 l4 l5 h hf; exact ab_no hf
  | succ n ih =>
    intro l0 l1 l2 l3 l4 l5 h hf
    unfold fJ5_compress_2_l3 at hf
    refine xr_iload A dJ5_compress_2_3 5 rfl ?_
    refine xr_iload A dJ5_compress_2_5 4 rfl ?_
    refine xr_icmp_ge A (tgt := 44) dJ5_compress_2_7 (by decide) (fun c7 => ?_) (fun c7 => ?_)
    · replace hf := ab_ip c7 hf
      refine xr_iload A dJ5_compress_2_44 4 rfl ?_
      exact xr_ireturn A rfl hf dJ5_compress_2_46
    · replace hf := ab_in c7 hf
      refine xr_aload_n A dJ5_compress_2_10 0 rfl rfl ?_
      refine xr_iload_n A dJ5_compress_2_11 1 rfl rfl ?_
      revert hf; refine ab_bdI (fun a1 e hf => ?_); subst e
      revert hf; refine ab_bdI (fun v2 mv2 hf => ?_)
      refine xr_caload A mv2 dJ5_compress_2_12 ?_
      refine xr_istore A dJ5_compress_2_13 (Nat.le_of_ble_eq_true rfl) (L' := [(6, vI v2), (0, vR (some a1)), (1, vI l1), (2, vR l2), (3, vI l3), (4, vI l4), (5, vI l5)]) rfl ?_
      refine xr_iload A dJ5_compress_2_15 0 rfl ?_
      refine xr_sipush A (v := 255) dJ5_compress_2_17 (by decide) ?_
      refine xr_icmp_le A (tgt := 26) dJ5_compress_2_20 (by decide) (fun c20 => ?_) (fun c20 => ?_)
      · replace hf := ab_ip c20 hf
        refine xr_aload_n A dJ5_compress_2_26 3 rfl rfl ?_
        refine xr_iload_n A dJ5_compress_2_27 4 rfl rfl ?_
        refine xr_iload A dJ5_compress_2_28 0 rfl ?_
        refine xr_i2b A dJ5_compress_2_30 ?_
        revert hf; refine ab_bdI (fun a3 e hf => ?_); subst e
        revert hf; refine ab_bdI (fun h4 mh4 hf => ?_)
        refine xr_bastore A mh4 dJ5_compress_2_31 ?_
        refine xr_iinc A dJ5_compress_2_32 2 rfl (v := (l1 + (1 : Int32))) rfl (Nat.le_of_ble_eq_true rfl) (L' := [(1, vI (l1 + (1 : Int32))), (6, vI v2), (0, vR (some a1)), (2, vR (some a3)), (3, vI l3), (4, vI l4), (5, vI l5)]) rfl ?_
        refine xr_iinc A dJ5_compress_2_35 4 rfl (v := (l3 + (1 : Int32))) rfl (Nat.le_of_ble_eq_true rfl) (L' := [(3, vI (l3 + (1 : Int32))), (1, vI (l1 + (1 : Int32))), (6, vI v2), (0, vR (some a1)), (2, vR (some a3)), (4, vI l4), (5, vI l5)]) rfl ?_
        refine xr_iinc A dJ5_compress_2_38 6 rfl (v := (l5 + (1 : Int32))) rfl (Nat.le_of_ble_eq_true rfl) (L' := [(5, vI (l5 + (1 : Int32))), (3, vI (l3 + (1 : Int32))), (1, vI (l1 + (1 : Int32))), (6, vI v2), (0, vR (some a1)), (2, vR (some a3)), (4, vI l4)]) rfl ?_
        refine xr_goto A (tgt := 3) dJ5_compress_2_41 (by decide) ?_
        refine X.sub [4, 2, 5, 1, 6, 0] rfl ?_
        exact ih hf
      · replace hf := ab_in c20 hf
        refine xr_iload A dJ5_compress_2_23 6 rfl ?_
        exact xr_ireturn A rfl hf dJ5_compress_2_25
noncomputable def fJ5_compress_2 (p0 : Option Nat) (p1 : Int32) (p2 : Option Nat) (p3 : Int32) (p4 : Int32) (h : Hp) : Option (Int32 × Hp) :=
  fJ5_compress_2_l3 (hfu h) p0 p1 p2 p3 p4 (0 : Int32) h
theorem wJ5_compress_2 (D : Dd) {p0 : Option Nat} {p1 : Int32} {p2 : Option Nat} {p3 : Int32} {p4 : Int32} {h : Hp} {r : Int32} {h' : Hp} (hf : fJ5_compress_2 p0 p1 p2 p3 p4 h = some (r, h')) : Ct D 1 20 yJ5_compress_2 cJ5_compress_2 7 (some FieldType.int) [vR p0, vI p1, vR p2, vI p3, vI p4] h (.inl (some (vI r))) h' := by
    unfold fJ5_compress_2 at hf
    refine Ct.of (by decide) (L := [(0, vR p0), (1, vI p1), (2, vR p2), (3, vI p3), (4, vI p4)]) rfl (Nat.le_of_ble_eq_true rfl) (fun C A => ?_)
    refine xr_iconst A (v := 0) dJ5_compress_2_0 (by decide) ?_
    refine xr_istore A dJ5_compress_2_1 (Nat.le_of_ble_eq_true rfl) (L' := [(5, vI (0 : Int32)), (0, vR p0), (1, vI p1), (2, vR p2), (3, vI p3), (4, vI p4)]) rfl ?_
    refine X.sub [1, 2, 3, 4, 5, 0] rfl ?_
    exact wJ5_compress_2_l3 A _ hf
/-! J5_compress -/
theorem bJ5_compress : MB yJ5_compress cJ5_compress 6 (some (FieldType.array FieldType.byte)) 3 := ⟨q565, q103, by decide, by decide +kernel⟩
noncomputable def fJ5_compress (p0 : Option Nat) (p1 : Int32) (p2 : Int32) (h : Hp) : Option ((Option Nat) × Hp) :=
  ab_b2 (ab_nA h 1 p2 ab_zI) fun a1 h2 =>
  ab_b2 (fJ5_compress_2 p0 p1 (some a1) (0 : Int32) p2 h2) fun v5 h4 =>
  if v5 = p2 then (
    some ((some a1), h4))
  else (
    none)
theorem wJ5_compress (D : Dd) {p0 : Option Nat} {p1 : Int32} {p2 : Int32} {h : Hp} {r : Option Nat} {h' : Hp} (hf : fJ5_compress p0 p1 p2 h = some (r, h')) : Ct D 2 46 yJ5_compress cJ5_compress 6 (some (FieldType.array FieldType.byte)) [vR p0, vI p1, vI p2] h (.inl (some (vR r))) h' := by
    unfold fJ5_compress at hf
    refine Ct.of (by decide) (L := [(0, vR p0), (1, vI p1), (2, vI p2)]) rfl (Nat.le_of_ble_eq_true rfl) (fun C A => ?_)
    refine xr_iload_n A dJ5_compress_0 2 rfl rfl ?_
    revert hf; refine ab_b2I (fun a1 h2 mh2 hf => ?_)
    refine xr_newa_byte A mh2 dJ5_compress_1 ?_
    refine xr_astore_n A dJ5_compress_3 rfl (Nat.le_of_ble_eq_true rfl) (L' := [(3, vR (some a1)), (0, vR p0), (1, vI p1), (2, vI p2)]) rfl ?_
    refine xr_aload_n A dJ5_compress_4 1 rfl rfl ?_
    refine xr_iload_n A dJ5_compress_5 2 rfl rfl ?_
    refine xr_aload_n A dJ5_compress_6 0 rfl rfl ?_
    refine xr_iconst A (v := 0) dJ5_compress_7 (by decide) ?_
    refine xr_iload_n A dJ5_compress_8 3 rfl rfl ?_
    revert hf; refine ab_b2I (fun v5 h4 m3 hf => ?_)
    refine xr_S A bJ5_compress_2 (wJ5_compress_2 D m3) q567 q566 (av := [vR p0, vI p1, vR (some a1), vI (0 : Int32), vI p2]) (rest := []) rfl dJ5_compress_9 (Nat.le_of_ble_eq_true rfl) (Nat.le_of_ble_eq_true rfl) rfl (Nat.le_of_ble_eq_true rfl) ?_
    refine xr_istore A dJ5_compress_12 (Nat.le_of_ble_eq_true rfl) (L' := [(4, vI v5), (3, vR (some a1)), (0, vR p0), (1, vI p1), (2, vI p2)]) rfl ?_
    refine xr_iload A dJ5_compress_14 0 rfl ?_
    refine xr_iload_n A dJ5_compress_16 4 rfl rfl ?_
    refine xr_icmp_eq A (tgt := 57) dJ5_compress_17 (by decide) (fun c17 => ?_) (fun c17 => ?_)
    · replace hf := ab_ip c17 hf
      refine xr_aload_n A dJ5_compress_57 1 rfl rfl ?_
      exact xr_areturn A (Or.inr ⟨_, rfl⟩) hf dJ5_compress_58
    · replace hf := ab_in c17 hf
      refine xr_aload_n A dJ5_compress_20 2 rfl rfl ?_
      refine xr_iload_n A dJ5_compress_21 3 rfl rfl ?_
      refine xr_iload_n A dJ5_compress_22 4 rfl rfl ?_
      exact ab_no hf
/-! J3_init_2 -/
theorem bJ3_init_2 : MB yJ3_init_2 cJ3_init_2 6 (none : Option FieldType) 4 := ⟨q558, q101, by decide, by decide +kernel⟩
noncomputable def fJ3_init_2 (x : Nat) (p1 : Option Nat) (p2 : Int32) (p3 : Int32) (p4 : Option Nat) (h : Hp) : Option Hp :=
  if p3 = 0 then (
    ab_bd (ab_gR h (hstr h 0) 14 0) fun v4 =>
    ab_bd (ab_pR h x 14 0 v4) fun h5 =>
    ab_bd (ab_gI h5 (hstr h5 0) 14 1) fun v6 =>
    ab_bd (ab_pB h5 x 14 1 v6) fun h7 =>
    some h7)
  else (
    ab_b2 (fJ5_compress p1 p2 p3 h) fun v3 h2 =>
    none)
theorem wJ3_init_2 (D : Dd) {x : Nat} {p1 : Option Nat} {p2 : Int32} {p3 : Int32} {p4 : Option Nat} {h : Hp} {h' : Hp} (hf : fJ3_init_2 x p1 p2 p3 p4 h = some h') : Ct D 3 71 yJ3_init_2 cJ3_init_2 6 (none : Option FieldType) [vR (some x), vR p1, vI p2, vI p3, vR p4] h (.inl none) h' := by
    unfold fJ3_init_2 at hf
    refine Ct.of (by decide) (L := [(0, vR (some x)), (1, vR p1), (2, vI p2), (3, vI p3), (4, vR p4)]) rfl (Nat.le_of_ble_eq_true rfl) (fun C A => ?_)
    refine xr_aload_n A dJ3_init_2_0 0 rfl rfl ?_
    refine xr_objInit A q559 q_oi1 q_oi2 dJ3_init_2_1 (by omega) (by omega) (Nat.le_of_ble_eq_true rfl) ?_
    refine xr_iload_n A dJ3_init_2_4 3 rfl rfl ?_
    refine xr_if_ne A (tgt := 27) dJ3_init_2_5 (by decide) (fun c5 => ?_) (fun c5 => ?_)
    · replace hf := ab_in c5 hf
      refine xr_gsI A q561 0 rfl dJ3_init_2_27 ?_
      refine xr_if_eq A (tgt := 58) dJ3_init_2_30 (by decide) (fun c30 => absurd c30 (by decide)) (fun _ => ?_)
      refine xr_aload_n A dJ3_init_2_33 1 rfl rfl ?_
      refine xr_iload_n A dJ3_init_2_34 2 rfl rfl ?_
      refine xr_iload_n A dJ3_init_2_35 3 rfl rfl ?_
      revert hf; refine ab_b2I (fun v3 h2 m1 hf => ?_)
      refine xr_S A bJ5_compress (wJ5_compress D m1) q564 q563 (av := [vR p1, vI p2, vI p3]) (rest := []) rfl dJ3_init_2_36 (Nat.le_of_ble_eq_true rfl) (Nat.le_of_ble_eq_true rfl) rfl (Nat.le_of_ble_eq_true rfl) ?_
      refine xr_astore A dJ3_init_2_39 (Nat.le_of_ble_eq_true rfl) (L' := [(5, vR v3), (0, vR (some x)), (1, vR p1), (2, vI p2), (3, vI p3), (4, vR p4)]) rfl ?_
      refine xr_aload_n A dJ3_init_2_41 1 rfl rfl ?_
      refine xr_aload A dJ3_init_2_42 0 rfl ?_
      refine xr_iload_n A dJ3_init_2_44 4 rfl rfl ?_
      exact ab_no hf
    · replace hf := ab_ip c5 hf
      refine xr_aload_n A dJ3_init_2_8 0 rfl rfl ?_
      refine xr_ldcs A t560 dJ3_init_2_9 ?_
      revert hf; refine ab_bdI (fun v4 mv4 hf => ?_)
      refine xr_get A xc_J3 in_J3 0 (Nat.le_of_ble_eq_true rfl) q605 rfl (ab_gRE mv4) dJ3_init_2_11 ?_
      revert hf; refine ab_bdI (fun h5 mh5 hf => ?_)
      refine xr_putF A xc_J3 in_J3 tyJ3_ok nmJ3 0 (Nat.le_of_ble_eq_true rfl) q605 rfl rfl rfl rfl (v := vR v4) (ab_nR _ rfl) (ab_tR _ rfl) mh5 dJ3_init_2_14 ?_
      refine xr_aload_n A dJ3_init_2_17 0 rfl rfl ?_
      refine xr_ldcs A t560 dJ3_init_2_18 ?_
      revert hf; refine ab_bdI (fun v6 mv6 hf => ?_)
      refine xr_get A xc_J3 in_J3 1 (Nat.le_of_ble_eq_true rfl) q606 rfl (ab_gIE mv6) dJ3_init_2_20 ?_
      revert hf; refine ab_bdI (fun h7 mh7 hf => ?_)
      obtain ⟨zh7, mh7⟩ := ab_pBE mh7
      refine xr_putF A xc_J3 in_J3 tyJ3_ok nmJ3 1 (Nat.le_of_ble_eq_true rfl) q606 rfl rfl rfl rfl (v := vI v6) (ab_nB zh7) (ab_tB zh7) mh7 dJ3_init_2_23 ?_
      exact xr_return A hf dJ3_init_2_26
