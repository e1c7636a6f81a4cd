set_option maxRecDepth 100000
/-! X2_kitchen -/
theorem bX2_kitchen : MB yX2_kitchen cX2_kitchen 2 (none : Option FieldType) 0 := ⟨q733, q93, by decide, by decide +kernel⟩
noncomputable def fX2_kitchen_b17 (x : Nat) (s0 : Int32) (s1 : Nat) (h : Hp) : Option ((Unit ⊕ Nat) × Hp) :=
  ab_bx (fX2_begins s1 s0 (5 : Int32) h) (fun _ h2 =>
  ab_b2 (ab_new h2 6 4 tyX8) fun a3 h4 =>
  ab_bx (fX2_newName x h4) (fun v7 h6 =>
  ab_bd (ab_gR h6 x 1 9) fun v8 =>
  ab_bd v8 fun a9 =>
  ab_bd (ab_gI h6 a9 5 9) fun v10 =>
  ab_bd (fX8_init a3 v7 v10 h6) fun h12 =>
  ab_bx (fX2_told x (some (hstr h12 14)) (0 : Int32) (99 : Int32) h12) (fun v15 h14 =>
  ab_bd (ab_pI h14 a3 6 2 v15) fun h16 =>
  ab_bx (fX2_told x (some (hstr h16 10)) (60 : Int32) (99 : Int32) h16) (fun v19 h18 =>
  ab_bd (ab_pI h18 a3 6 3 v19) fun h20 =>
  ab_bd (ab_gR h20 x 1 9) fun v21 =>
  ab_bd v21 fun a22 =>
  ab_bd (ab_gR h20 a22 5 0) fun v23 =>
  ab_bd (ab_gR h20 x 1 9) fun v24 =>
  ab_bd v24 fun a25 =>
  ab_bd (ab_gI h20 a25 5 9) fun v26 =>
  ab_bd v23 fun a27 =>
  ab_bd (ab_sR h20 a27 6 6 v26 a3) fun h28 =>
  ab_bd (ab_gR h28 x 1 9) fun v29 =>
  ab_bd v29 fun a30 =>
  ab_bd (ab_gI h28 a30 5 9) fun v31 =>
  ab_bd (ab_pI h28 a30 5 9 (v31 + (1 : Int32))) fun h32 =>
  some (.inl (), h32)) fun qh18 gh18 => some (.inr qh18, gh18)) fun qh14 gh14 => some (.inr qh14, gh14)) fun qh6 gh6 => some (.inr qh6, gh6)) fun qh2 gh2 => some (.inr qh2, gh2)
theorem wX2_kitchen_b17 {D : Dd} {C : Cx} {h0 h' : Hp} {ρ : Unit ⊕ Nat} (A : Act C D (h0, (xoV ρ), h') yX2_kitchen cX2_kitchen 2 (none : Option FieldType) 9 206 []) {x : Nat} {s0 : Int32} {s1 : Nat} {h : Hp} (hf : fX2_kitchen_b17 x s0 s1 h = some (ρ, h')) : X C D (h0, (xoV ρ), h') 2 17 [(0, vR (some x))] [vI s0, vR (some s1)] h := by
  unfold fX2_kitchen_b17 at hf
  refine xr_iconst A (v := 5) dX2_kitchen_17 (by decide) ?_
  revert hf; refine ab_bxI (fun uh2 h2 m1 hf => ?_) (fun qh2 gh2 m1 hf => ?_)
  · refine xr_V0 A bX2_begins (wX2_begins D m1).2 xc_X2 (wX2_begins D m1).1 q706 qs8 q704 (av := [vI s0, vI (5 : Int32)]) (rest := []) rfl dX2_kitchen_18 (Nat.le_of_ble_eq_true rfl) (Nat.le_of_ble_eq_true rfl) rfl (Nat.le_of_ble_eq_true rfl) ?_
    revert hf; refine ab_b2I (fun a3 h4 mh4 hf => ?_)
    refine xr_new A xc_X8 in_X8 tyX8_ok q734 q735 q107 mh4 dX2_kitchen_21 ?_
    refine xr_dup A dX2_kitchen_24 rfl ?_
    refine xr_aload_n A dX2_kitchen_25 0 rfl rfl ?_
    revert hf; refine ab_bxI (fun v7 h6 m5 hf => ?_) (fun qh6 gh6 m5 hf => ?_)
    · refine xr_V A bX2_newName (wX2_newName D m5).2 xc_X2 (wX2_newName D m5).1 q738 qs15 q736 (av := []) (rest := [vR (some a3), vR (some a3)]) rfl dX2_kitchen_26 (Nat.le_of_ble_eq_true rfl) (Nat.le_of_ble_eq_true rfl) rfl (Nat.le_of_ble_eq_true rfl) ?_
      refine xr_aload_n A dX2_kitchen_29 0 rfl rfl ?_
      revert hf; refine ab_bdI (fun v8 mv8 hf => ?_)
      refine xr_get A xc_X2 in_X2 9 (Nat.le_of_ble_eq_true rfl) q215 rfl (ab_gRE mv8) dX2_kitchen_30 ?_
      revert hf; refine ab_bdI (fun a9 e hf => ?_); subst e
      revert hf; refine ab_bdI (fun v10 mv10 hf => ?_)
      refine xr_get A xc_X6 in_X6 9 (Nat.le_of_ble_eq_true rfl) q461 rfl (ab_gIE mv10) dX2_kitchen_33 ?_
      revert hf; refine ab_bdI (fun h12 m11 hf => ?_)
      refine xr_I0 A bX8_init (wX8_init D m11) rfl q755 q754 (av := [vR v7, vI v10]) (rest := [vR (some a3)]) rfl dX2_kitchen_36 (Nat.le_of_ble_eq_true rfl) (Nat.le_of_ble_eq_true rfl) rfl (Nat.le_of_ble_eq_true rfl) ?_
      refine xr_astore_n A dX2_kitchen_39 rfl (Nat.le_of_ble_eq_true rfl) (L' := [(1, vR (some a3)), (0, vR (some x))]) rfl ?_
      refine xr_aload_n A dX2_kitchen_40 0 rfl rfl ?_
      refine xr_aload_n A dX2_kitchen_41 1 rfl rfl ?_
      refine xr_ldcs A t779 dX2_kitchen_42 ?_
      refine xr_iconst A (v := 0) dX2_kitchen_44 (by decide) ?_
      refine xr_bipush A (v := 99) dX2_kitchen_45 (by decide) ?_
      revert hf; refine ab_bxI (fun v15 h14 m13 hf => ?_) (fun qh14 gh14 m13 hf => ?_)
      · refine xr_V A bX2_told (wX2_told D m13).2 xc_X2 (wX2_told D m13).1 q711 qs9 q709 (av := [vR (some (hstr h12 14)), vI (0 : Int32), vI (99 : Int32)]) (rest := [vR (some a3)]) rfl dX2_kitchen_47 (Nat.le_of_ble_eq_true rfl) (Nat.le_of_ble_eq_true rfl) rfl (Nat.le_of_ble_eq_true rfl) ?_
        revert hf; refine ab_bdI (fun h16 mh16 hf => ?_)
        refine xr_put A xc_X8 in_X8 tyX8_ok nmX8 2 (Nat.le_of_ble_eq_true rfl) q762 rfl rfl (v := vI v15) rfl rfl mh16 dX2_kitchen_50 ?_
        refine xr_aload_n A dX2_kitchen_53 0 rfl rfl ?_
        refine xr_aload_n A dX2_kitchen_54 1 rfl rfl ?_
        refine xr_ldcs A t708 dX2_kitchen_55 ?_
        refine xr_bipush A (v := 60) dX2_kitchen_57 (by decide) ?_
        refine xr_bipush A (v := 99) dX2_kitchen_59 (by decide) ?_
        revert hf; refine ab_bxI (fun v19 h18 m17 hf => ?_) (fun qh18 gh18 m17 hf => ?_)
        · refine xr_V A bX2_told (wX2_told D m17).2 xc_X2 (wX2_told D m17).1 q711 qs9 q709 (av := [vR (some (hstr h16 10)), vI (60 : Int32), vI (99 : Int32)]) (rest := [vR (some a3)]) rfl dX2_kitchen_61 (Nat.le_of_ble_eq_true rfl) (Nat.le_of_ble_eq_true rfl) rfl (Nat.le_of_ble_eq_true rfl) ?_
          revert hf; refine ab_bdI (fun h20 mh20 hf => ?_)
          refine xr_put A xc_X8 in_X8 tyX8_ok nmX8 3 (Nat.le_of_ble_eq_true rfl) q764 rfl rfl (v := vI v19) rfl rfl mh20 dX2_kitchen_64 ?_
          refine xr_aload_n A dX2_kitchen_67 1 rfl rfl ?_
          revert hf; refine ab_bdI (fun v21 mv21 hf => ?_)
          refine xr_get A xc_X2 in_X2 9 (Nat.le_of_ble_eq_true rfl) q215 rfl (ab_gRE mv21) dX2_kitchen_68 ?_
          revert hf; refine ab_bdI (fun a22 e hf => ?_); subst e
          revert hf; refine ab_bdI (fun v23 mv23 hf => ?_)
          refine xr_get A xc_X6 in_X6 0 (Nat.le_of_ble_eq_true rfl) q436 rfl (ab_gRE mv23) dX2_kitchen_71 ?_
          refine xr_aload_n A dX2_kitchen_74 1 rfl rfl ?_
          revert hf; refine ab_bdI (fun v24 mv24 hf => ?_)
          refine xr_get A xc_X2 in_X2 9 (Nat.le_of_ble_eq_true rfl) q215 rfl (ab_gRE mv24) dX2_kitchen_75 ?_
          revert hf; refine ab_bdI (fun a25 e hf => ?_); subst e
          revert hf; refine ab_bdI (fun v26 mv26 hf => ?_)
          refine xr_get A xc_X6 in_X6 9 (Nat.le_of_ble_eq_true rfl) q461 rfl (ab_gIE mv26) dX2_kitchen_78 ?_
          refine xr_aload_n A dX2_kitchen_81 0 rfl rfl ?_
          revert hf; refine ab_bdI (fun a27 e hf => ?_); subst e
          revert hf; refine ab_bdI (fun h28 mh28 hf => ?_)
          refine xr_aastore A (t := 6) (ci := 6) rfl xc_X8 mh28 dX2_kitchen_82 ?_
          refine xr_aload_n A dX2_kitchen_83 1 rfl rfl ?_
          revert hf; refine ab_bdI (fun v29 mv29 hf => ?_)
          refine xr_get A xc_X2 in_X2 9 (Nat.le_of_ble_eq_true rfl) q215 rfl (ab_gRE mv29) dX2_kitchen_84 ?_
          refine xr_dup A dX2_kitchen_87 rfl ?_
          revert hf; refine ab_bdI (fun a30 e hf => ?_); subst e
          revert hf; refine ab_bdI (fun v31 mv31 hf => ?_)
          refine xr_get A xc_X6 in_X6 9 (Nat.le_of_ble_eq_true rfl) q461 rfl (ab_gIE mv31) dX2_kitchen_88 ?_
          refine xr_iconst A (v := 1) dX2_kitchen_91 (by decide) ?_
          refine xr_iadd A dX2_kitchen_92 ?_
          revert hf; refine ab_bdI (fun h32 mh32 hf => ?_)
          refine xr_put A xc_X6 in_X6 tyX6_ok nmX6 9 (Nat.le_of_ble_eq_true rfl) q461 rfl rfl (v := vI (v31 + (1 : Int32))) rfl rfl mh32 dX2_kitchen_93 ?_
          obtain ⟨rfl, rfl⟩ := ab_pr hf
          exact xr_return A rfl dX2_kitchen_96
        · refine xr_VX A bX2_told (wX2_told D m17).2 xc_X2 (wX2_told D m17).1 q711 qs9 q709 (av := [vR (some (hstr h16 10)), vI (60 : Int32), vI (99 : Int32)]) (rest := [vR (some a3)]) rfl dX2_kitchen_61 (Nat.le_of_ble_eq_true rfl) (Nat.le_of_ble_eq_true rfl) rfl (Nat.le_of_ble_eq_true rfl) ?_
          obtain ⟨rfl, rfl⟩ := ab_pr hf
          exact xr_out A rfl
      · refine xr_VX A bX2_told (wX2_told D m13).2 xc_X2 (wX2_told D m13).1 q711 qs9 q709 (av := [vR (some (hstr h12 14)), vI (0 : Int32), vI (99 : Int32)]) (rest := [vR (some a3)]) rfl dX2_kitchen_47 (Nat.le_of_ble_eq_true rfl) (Nat.le_of_ble_eq_true rfl) rfl (Nat.le_of_ble_eq_true rfl) ?_
        obtain ⟨rfl, rfl⟩ := ab_pr hf
        exact xr_out A rfl
    · refine xr_VX A bX2_newName (wX2_newName D m5).2 xc_X2 (wX2_newName D m5).1 q738 qs15 q736 (av := []) (rest := [vR (some a3), vR (some a3)]) rfl dX2_kitchen_26 (Nat.le_of_ble_eq_true rfl) (Nat.le_of_ble_eq_true rfl) rfl (Nat.le_of_ble_eq_true rfl) ?_
      obtain ⟨rfl, rfl⟩ := ab_pr hf
      exact xr_out A rfl
  · refine xr_VX A bX2_begins (wX2_begins D m1).2 xc_X2 (wX2_begins D m1).1 q706 qs8 q704 (av := [vI s0, vI (5 : Int32)]) (rest := []) rfl dX2_kitchen_18 (Nat.le_of_ble_eq_true rfl) (Nat.le_of_ble_eq_true rfl) rfl (Nat.le_of_ble_eq_true rfl) ?_
    obtain ⟨rfl, rfl⟩ := ab_pr hf
    exact xr_out A rfl
noncomputable def fX2_kitchen (x : Nat) (h : Hp) : Option ((Unit ⊕ Nat) × Hp) :=
  ab_ck h x 1 <|
  ab_bd (ab_gR h x 1 9) fun v1 =>
  ab_bd v1 fun a2 =>
  ab_bd (ab_gI h a2 5 9) fun v3 =>
  if (3 : Int32) ≤ v3 then (
    fX2_kitchen_b17 x (0 : Int32) x h)
  else (
    fX2_kitchen_b17 x (1 : Int32) x h)
theorem wX2_kitchen (D : Dd) {x : Nat} {h : Hp} {ρ : Unit ⊕ Nat} {h' : Hp} (hf : fX2_kitchen x h = some (ρ, h')) : ab_is h x 1 ∧ Ct D 9 206 yX2_kitchen cX2_kitchen 2 (none : Option FieldType) [vR (some x)] h (xoV ρ) h' := by
    unfold fX2_kitchen at hf
    replace hf := ab_ckE hf; obtain ⟨i0, hf⟩ := hf
    refine ⟨i0, ?_⟩
    refine Ct.of (by decide) (L := [(0, vR (some x))]) rfl (Nat.le_of_ble_eq_true rfl) (fun C A => ?_)
    refine xr_aload_n A dX2_kitchen_0 0 rfl rfl ?_
    refine xr_aload_n A dX2_kitchen_1 0 rfl rfl ?_
    revert hf; refine ab_bdI (fun v1 mv1 hf => ?_)
    refine xr_get A xc_X2 in_X2 9 (Nat.le_of_ble_eq_true rfl) q215 rfl (ab_gRE mv1) dX2_kitchen_2 ?_
    revert hf; refine ab_bdI (fun a2 e hf => ?_); subst e
    revert hf; refine ab_bdI (fun v3 mv3 hf => ?_)
    refine xr_get A xc_X6 in_X6 9 (Nat.le_of_ble_eq_true rfl) q461 rfl (ab_gIE mv3) dX2_kitchen_5 ?_
    refine xr_iconst A (v := 3) dX2_kitchen_8 (by decide) ?_
    refine xr_icmp_ge A (tgt := 16) dX2_kitchen_9 (by decide) (fun c9 => ?_) (fun c9 => ?_)
    · replace hf := ab_ip c9 hf
      refine xr_iconst A (v := 0) dX2_kitchen_16 (by decide) ?_
      exact wX2_kitchen_b17 A hf
    · replace hf := ab_in c9 hf
      refine xr_iconst A (v := 1) dX2_kitchen_12 (by decide) ?_
      refine xr_goto A (tgt := 17) dX2_kitchen_13 (by decide) ?_
      exact wX2_kitchen_b17 A hf
/-! X9_init -/
theorem bX9_init : MB yX9_init cX9_init 3 (none : Option FieldType) 2 := ⟨q789, q108, by decide, by decide +kernel⟩
noncomputable def fX9_init (x : Nat) (p1 : Option Nat) (p2 : Int32) (h : Hp) : Option Hp :=
  ab_bd (fX7_init x p1 p2 h) fun h2 =>
  some h2
theorem wX9_init (D : Dd) {x : Nat} {p1 : Option Nat} {p2 : Int32} {h : Hp} {h' : Hp} (hf : fX9_init x p1 p2 h = some h') : Ct D 2 42 yX9_init cX9_init 3 (none : Option FieldType) [vR (some x), vR p1, vI p2] h (.inl none) h' := by
    unfold fX9_init at hf
    refine Ct.of (by decide) (L := [(0, vR (some x)), (1, vR p1), (2, vI p2)]) rfl (Nat.le_of_ble_eq_true rfl) (fun C A => ?_)
    refine xr_aload_n A dX9_init_0 0 rfl rfl ?_
    refine xr_aload_n A dX9_init_1 1 rfl rfl ?_
    refine xr_iload_n A dX9_init_2 2 rfl rfl ?_
    revert hf; refine ab_bdI (fun h2 m1 hf => ?_)
    refine xr_I0 A bX7_init (wX7_init D m1) rfl q758 q790 (av := [vR p1, vI p2]) (rest := []) rfl dX9_init_3 (Nat.le_of_ble_eq_true rfl) (Nat.le_of_ble_eq_true rfl) rfl (Nat.le_of_ble_eq_true rfl) ?_
    exact xr_return A hf dX9_init_6
/-! J3_coder -/
theorem bJ3_coder : MB yJ3_coder cJ3_coder 1 (some FieldType.byte) 0 := ⟨q814, q101, by decide, by decide +kernel⟩
noncomputable def fJ3_coder (x : Nat) (h : Hp) : Option (Int32 × Hp) :=
  ab_ck h x 14 <|
  ab_bd (ab_gI h x 14 1) fun v1 =>
  ab_rq (v1.toInt8.toInt32 = v1) <|
  some (v1, h)
theorem wJ3_coder (D : Dd) {x : Nat} {h : Hp} {r : Int32} {h' : Hp} (hf : fJ3_coder x h = some (r, h')) : ab_is h x 14 ∧ Ct D 1 20 yJ3_coder cJ3_coder 1 (some FieldType.byte) [vR (some x)] h (.inl (some (vI r))) h' := by
    unfold fJ3_coder at hf
    replace hf := ab_ckE hf; obtain ⟨i0, hf⟩ := hf
    refine ⟨i0, ?_⟩
    refine Ct.of (by decide) (L := [(0, vR (some x))]) rfl (Nat.le_of_ble_eq_true rfl) (fun C A => ?_)
    refine xr_gsI A q561 0 rfl dJ3_coder_0 ?_
    refine xr_if_eq A (tgt := 13) dJ3_coder_3 (by decide) (fun c3 => absurd c3 (by decide)) (fun _ => ?_)
    refine xr_aload_n A dJ3_coder_6 0 rfl rfl ?_
    revert hf; refine ab_bdI (fun v1 mv1 hf => ?_)
    refine xr_get A xc_J3 in_J3 1 (Nat.le_of_ble_eq_true rfl) q606 rfl (ab_gIE mv1) dJ3_coder_7 ?_
    refine xr_goto A (tgt := 14) dJ3_coder_10 (by decide) ?_
    replace hf := ab_rqE hf; obtain ⟨c14, hf⟩ := hf
    exact xr_ireturn A (ab_nB c14) hf dJ3_coder_14
/-! J3_length -/
theorem bJ3_length : MB yJ3_length cJ3_length 1 (some FieldType.int) 0 := ⟨q810, q101, by decide, by decide +kernel⟩
noncomputable def fJ3_length (x : Nat) (h : Hp) : Option (Int32 × Hp) :=
  ab_ck h x 14 <|
  ab_bd (ab_gR h x 14 0) fun v1 =>
  ab_bd v1 fun a2 =>
  ab_bd (ab_len h a2) fun v3 =>
  ab_b2 (fJ3_coder x h) fun v6 h5 =>
  some ((v3 >>> (v6 &&& 31)), h5)
theorem wJ3_length (D : Dd) {x : Nat} {h : Hp} {r : Int32} {h' : Hp} (hf : fJ3_length x h = some (r, h')) : ab_is h x 14 ∧ Ct D 2 40 yJ3_length cJ3_length 1 (some FieldType.int) [vR (some x)] h (.inl (some (vI r))) h' := by
    unfold fJ3_length at hf
    replace hf := ab_ckE hf; obtain ⟨i0, hf⟩ := hf
    refine ⟨i0, ?_⟩
    refine Ct.of (by decide) (L := [(0, vR (some x))]) rfl (Nat.le_of_ble_eq_true rfl) (fun C A => ?_)
    refine xr_aload_n A dJ3_length_0 0 rfl rfl ?_
    revert hf; refine ab_bdI (fun v1 mv1 hf => ?_)
    refine xr_get A xc_J3 in_J3 0 (Nat.le_of_ble_eq_true rfl) q605 rfl (ab_gRE mv1) dJ3_length_1 ?_
    revert hf; refine ab_bdI (fun a2 e hf => ?_); subst e
    revert hf; refine ab_bdI (fun v3 mv3 hf => ?_)
    refine xr_alen A mv3 dJ3_length_4 ?_
    refine xr_aload_n A dJ3_length_5 0 rfl rfl ?_
    revert hf; refine ab_b2I (fun v6 h5 m4 hf => ?_)
    refine xr_V A bJ3_coder (wJ3_coder D m4).2 xc_J3 (wJ3_coder D m4).1 q812 q813 q811 (av := []) (rest := [vI v3]) rfl dJ3_length_6 (Nat.le_of_ble_eq_true rfl) (Nat.le_of_ble_eq_true rfl) rfl (Nat.le_of_ble_eq_true rfl) ?_
    refine xr_ishr A dJ3_length_9 ?_
    exact xr_ireturn A rfl hf dJ3_length_10
/-! J4_checkIndex -/
theorem bJ4_checkIndex : MB yJ4_checkIndex cJ4_checkIndex 3 (some FieldType.int) 3 := ⟨q827, q102, by decide, by decide +kernel⟩
noncomputable def fJ4_checkIndex (p0 : Int32) (p1 : Int32) (p2 : Option Nat) (h : Hp) : Option (Int32 × Hp) :=
  if p0 < 0 then (
    none)
  else (
    if p0 < p1 then (
      some (p0, h))
    else (
      none))
theorem wJ4_checkIndex (D : Dd) {p0 : Int32} {p1 : Int32} {p2 : Option Nat} {h : Hp} {r : Int32} {h' : Hp} (hf : fJ4_checkIndex p0 p1 p2 h = some (r, h')) : Ct D 1 20 yJ4_checkIndex cJ4_checkIndex 3 (some FieldType.int) [vI p0, vI p1, vR p2] h (.inl (some (vI r))) h' := by
    unfold fJ4_checkIndex at hf
    refine Ct.of (by decide) (L := [(0, vI p0), (1, vI p1), (2, vR p2)]) rfl (Nat.le_of_ble_eq_true rfl) (fun C A => ?_)
    refine xr_iload_n A dJ4_checkIndex_0 0 rfl rfl ?_
    refine xr_if_lt A (tgt := 9) dJ4_checkIndex_1 (by decide) (fun c1 => ?_) (fun c1 => ?_)
    · replace hf := ab_ip c1 hf
      refine xr_aload_n A dJ4_checkIndex_9 2 rfl rfl ?_
      refine xr_iload_n A dJ4_checkIndex_10 0 rfl rfl ?_
      refine xr_iload_n A dJ4_checkIndex_11 1 rfl rfl ?_
      exact ab_no hf
    · replace hf := ab_in c1 hf
      refine xr_iload_n A dJ4_checkIndex_4 0 rfl rfl ?_
      refine xr_iload_n A dJ4_checkIndex_5 1 rfl rfl ?_
      refine xr_icmp_lt A (tgt := 16) dJ4_checkIndex_6 (by decide) (fun c6 => ?_) (fun c6 => ?_)
      · replace hf := ab_ip c6 hf
        refine xr_iload_n A dJ4_checkIndex_16 0 rfl rfl ?_
        exact xr_ireturn A rfl hf dJ4_checkIndex_17
      · replace hf := ab_in c6 hf
        refine xr_aload_n A dJ4_checkIndex_9 2 rfl rfl ?_
        refine xr_iload_n A dJ4_checkIndex_10 0 rfl rfl ?_
        refine xr_iload_n A dJ4_checkIndex_11 1 rfl rfl ?_
        exact ab_no hf
/-! J3_checkIndex -/
theorem bJ3_checkIndex : MB yJ3_checkIndex cJ3_checkIndex 2 (none : Option FieldType) 2 := ⟨q824, q101, by decide, by decide +kernel⟩
noncomputable def fJ3_checkIndex (p0 : Int32) (p1 : Int32) (h : Hp) : Option Hp :=
  ab_b2 (fJ4_checkIndex p0 p1 (hsta h 2) h) fun v3 h2 =>
  some h2
theorem wJ3_checkIndex (D : Dd) {p0 : Int32} {p1 : Int32} {h : Hp} {h' : Hp} (hf : fJ3_checkIndex p0 p1 h = some h') : Ct D 2 42 yJ3_checkIndex cJ3_checkIndex 2 (none : Option FieldType) [vI p0, vI p1] h (.inl none) h' := by
    unfold fJ3_checkIndex at hf
    refine Ct.of (by decide) (L := [(0, vI p0), (1, vI p1)]) rfl (Nat.le_of_ble_eq_true rfl) (fun C A => ?_)
    refine xr_iload_n A dJ3_checkIndex_0 0 rfl rfl ?_
    refine xr_iload_n A dJ3_checkIndex_1 1 rfl rfl ?_
    refine xr_gsR A q551 2 rfl dJ3_checkIndex_2 ?_
    revert hf; refine ab_b2I (fun v3 h2 m1 hf => ?_)
    refine xr_S A bJ4_checkIndex (wJ4_checkIndex D m1) q826 q825 (av := [vI p0, vI p1, vR (hsta h 2)]) (rest := []) rfl dJ3_checkIndex_5 (Nat.le_of_ble_eq_true rfl) (Nat.le_of_ble_eq_true rfl) rfl (Nat.le_of_ble_eq_true rfl) ?_
    refine xr_pop A dJ3_checkIndex_8 rfl ?_
    exact xr_return A hf dJ3_checkIndex_9
/-! J6_charAt -/
theorem bJ6_charAt : MB yJ6_charAt cJ6_charAt 2 (some FieldType.char) 2 := ⟨q821, q104, by decide, by decide +kernel⟩
noncomputable def fJ6_charAt (p0 : Option Nat) (p1 : Int32) (h : Hp) : Option (Int32 × Hp) :=
  ab_bd p0 fun a1 =>
  ab_bd (ab_len h a1) fun v2 =>
  ab_bd (fJ3_checkIndex p1 v2 h) fun h4 =>
  ab_bd (ab_aI h4 a1 1 p1) fun v5 =>
  ab_rq (((v5 &&& (255 : Int32)).toUInt32 % 65536).toInt32 = (((v5 &&& (255 : Int32)).toUInt32 % 65536).toInt32.toUInt32 % 65536).toInt32) <|
  some (((v5 &&& (255 : Int32)).toUInt32 % 65536).toInt32, h4)
theorem wJ6_charAt (D : Dd) {p0 : Option Nat} {p1 : Int32} {h : Hp} {r : Int32} {h' : Hp} (hf : fJ6_charAt p0 p1 h = some (r, h')) : Ct D 3 63 yJ6_charAt cJ6_charAt 2 (some FieldType.char) [vR p0, vI p1] h (.inl (some (vI r))) h' := by
    unfold fJ6_charAt at hf
    refine Ct.of (by decide) (L := [(0, vR p0), (1, vI p1)]) rfl (Nat.le_of_ble_eq_true rfl) (fun C A => ?_)
    refine xr_iload_n A dJ6_charAt_0 1 rfl rfl ?_
    refine xr_aload_n A dJ6_charAt_1 0 rfl rfl ?_
    revert hf; refine ab_bdI (fun a1 e hf => ?_); subst e
    revert hf; refine ab_bdI (fun v2 mv2 hf => ?_)
    refine xr_alen A mv2 dJ6_charAt_2 ?_
    revert hf; refine ab_bdI (fun h4 m3 hf => ?_)
    refine xr_S0 A bJ3_checkIndex (wJ3_checkIndex D m3) q823 q822 (av := [vI p1, vI v2]) (rest := []) rfl dJ6_charAt_3 (Nat.le_of_ble_eq_true rfl) (Nat.le_of_ble_eq_true rfl) rfl (Nat.le_of_ble_eq_true rfl) ?_
    refine xr_aload_n A dJ6_charAt_6 0 rfl rfl ?_
    refine xr_iload_n A dJ6_charAt_7 1 rfl rfl ?_
    revert hf; refine ab_bdI (fun v5 mv5 hf => ?_)
    refine xr_baload A mv5 dJ6_charAt_8 ?_
    refine xr_sipush A (v := 255) dJ6_charAt_9 (by decide) ?_
    refine xr_iand A dJ6_charAt_12 ?_
    refine xr_i2c A dJ6_charAt_13 ?_
    replace hf := ab_rqE hf; obtain ⟨c14, hf⟩ := hf
    exact xr_ireturn A (ab_nC c14) hf dJ6_charAt_14
/-! J3_charAt -/
theorem bJ3_charAt : MB yJ3_charAt cJ3_charAt 2 (some FieldType.char) 1 := ⟨q818, q101, by decide, by decide +kernel⟩
noncomputable def fJ3_charAt (x : Nat) (p1 : Int32) (h : Hp) : Option (Int32 × Hp) :=
  ab_ck h x 14 <|
  ab_b2 (fJ3_isLatin1 x h) fun v3 h2 =>
  if v3 = 0 then (
    ab_bd (ab_gR h2 x 14 0) fun v4 =>
    none)
  else (
    ab_bd (ab_gR h2 x 14 0) fun v5 =>
    ab_b2 (fJ6_charAt v5 p1 h2) fun v8 h7 =>
    ab_rq (v8 = (v8.toUInt32 % 65536).toInt32) <|
    some (v8, h7))
theorem wJ3_charAt (D : Dd) {x : Nat} {p1 : Int32} {h : Hp} {r : Int32} {h' : Hp} (hf : fJ3_charAt x p1 h = some (r, h')) : ab_is h x 14 ∧ Ct D 4 84 yJ3_charAt cJ3_charAt 2 (some FieldType.char) [vR (some x), vI p1] h (.inl (some (vI r))) h' := by
    unfold fJ3_charAt at hf
    replace hf := ab_ckE hf; obtain ⟨i0, hf⟩ := hf
    refine ⟨i0, ?_⟩
    refine Ct.of (by decide) (L := [(0, vR (some x)), (1, vI p1)]) rfl (Nat.le_of_ble_eq_true rfl) (fun C A => ?_)
    refine xr_aload_n A dJ3_charAt_0 0 rfl rfl ?_
    revert hf; refine ab_b2I (fun v3 h2 m1 hf => ?_)
    refine xr_V A bJ3_isLatin1 (wJ3_isLatin1 D m1).2 xc_J3 (wJ3_isLatin1 D m1).1 q639 q640 q638 (av := []) (rest := []) rfl dJ3_charAt_1 (Nat.le_of_ble_eq_true rfl) (Nat.le_of_ble_eq_true rfl) rfl (Nat.le_of_ble_eq_true rfl) ?_
    refine xr_if_eq A (tgt := 16) dJ3_charAt_4 (by decide) (fun c4 => ?_) (fun c4 => ?_)
    · replace hf := ab_ip c4 hf
      refine xr_aload_n A dJ3_charAt_16 0 rfl rfl ?_
      revert hf; refine ab_bdI (fun v4 mv4 hf => ?_)
      refine xr_get A xc_J3 in_J3 0 (Nat.le_of_ble_eq_true rfl) q605 rfl (ab_gRE mv4) dJ3_charAt_17 ?_
      refine xr_iload_n A dJ3_charAt_20 1 rfl rfl ?_
      exact ab_no hf
    · replace hf := ab_in c4 hf
      refine xr_aload_n A dJ3_charAt_7 0 rfl rfl ?_
      revert hf; refine ab_bdI (fun v5 mv5 hf => ?_)
      refine xr_get A xc_J3 in_J3 0 (Nat.le_of_ble_eq_true rfl) q605 rfl (ab_gRE mv5) dJ3_charAt_8 ?_
      refine xr_iload_n A dJ3_charAt_11 1 rfl rfl ?_
      revert hf; refine ab_b2I (fun v8 h7 m6 hf => ?_)
      refine xr_S A bJ6_charAt (wJ6_charAt D m6) q820 q819 (av := [vR v5, vI p1]) (rest := []) rfl dJ3_charAt_12 (Nat.le_of_ble_eq_true rfl) (Nat.le_of_ble_eq_true rfl) rfl (Nat.le_of_ble_eq_true rfl) ?_
      replace hf := ab_rqE hf; obtain ⟨c15, hf⟩ := hf
      exact xr_ireturn A (ab_nC c15) hf dJ3_charAt_15
/-! X2_letters -/
theorem bX2_letters : MB yX2_letters cX2_letters 4 (some FieldType.int) 1 := ⟨q806, q93, by decide, by decide +kernel⟩
noncomputable def fX2_letters_l23 (x : Nat) : Nat → Int32 → Int32 → Hp → Option ((Int32 ⊕ Nat) × Hp)
  | 0, _, _, _ => none
  | n + 1, l2, l3, h =>
  ab_bd (ab_gR h x 1 8) fun v1 =>
  ab_bd v1 fun a2 =>
  ab_b2 (fJ3_length a2 h) fun v5 h4 =>
  if v5 ≤ l3 then (
    ab_bd (fX2_next x h4) fun h7 =>
    some (.inl l2, h7))
  else (
    ab_bd (ab_gR h4 x 1 8) fun v8 =>
    ab_bd v8 fun a9 =>
    ab_b2 (fJ3_charAt a9 l3 h4) fun v12 h11 =>
    fX2_letters_l23 x n (l2 ||| ((1 : Int32) <<< ((v12 - (97 : Int32)) &&& 31))) (l3 + (1 : Int32)) h11)
theorem wX2_letters_l23 {D : Dd} {C : Cx} {h0 h' : Hp} {ρ : Int32 ⊕ Nat} (A : Act C D (h0, (xoI ρ), h') yX2_letters cX2_letters 4 (some FieldType.int) 8 183 []) {x : Nat} : ∀ (n : Nat) {l2 : Int32} {l3 : Int32} {h : Hp}, fX2_letters_l23 x n l2 l3 h = some (ρ, h') → X C D (h0, (xoI ρ), h') 4 23 [(0, vR (some x)), (2, vI l2), (3, vI l3)] [] h := by
  intro n
  induction n with
  | zero => intro l2 l3 h hf; exact ab_no hf
  | succ n ih =>
    intro l2 l3 h hf
    unfold fX2_letters_l23 at hf
    refine xr_iload_n A dX2_letters_23 2 rfl rfl ?_
    refine xr_aload_n A dX2_letters_24 0 rfl rfl ?_
    revert hf; refine ab_bdI (fun v1 mv1 hf => ?_)
    refine xr_get A xc_X2 in_X2 8 (Nat.le_of_ble_eq_true rfl) q214 rfl (ab_gRE mv1) dX2_letters_25 ?_
    revert hf; refine ab_bdI (fun a2 e hf => ?_); subst e
    revert hf; refine ab_b2I (fun v5 h4 m3 hf => ?_)
    refine xr_V A bJ3_length (wJ3_length D m3).2 xc_J3 (wJ3_length D m3).1 q808 q809 q807 (av := []) (rest := [vI l3]) rfl dX2_letters_28 (Nat.le_of_ble_eq_true rfl) (Nat.le_of_ble_eq_true rfl) rfl (Nat.le_of_ble_eq_true rfl) ?_
    refine xr_icmp_ge A (tgt := 56) dX2_letters_31 (by decide) (fun c31 => ?_) (fun c31 => ?_)
    · replace hf := ab_ip c31 hf
      refine xr_aload_n A dX2_letters_56 0 rfl rfl ?_
      revert hf; refine ab_bdI (fun h7 m6 hf => ?_)
      refine xr_V0 A bX2_next (wX2_next D m6).2 xc_X2 (wX2_next D m6).1 q530 qs4 q528 (av := []) (rest := []) rfl dX2_letters_57 (Nat.le_of_ble_eq_true rfl) (Nat.le_of_ble_eq_true rfl) rfl (Nat.le_of_ble_eq_true rfl) ?_
      refine xr_iload_n A dX2_letters_60 1 rfl rfl ?_
      obtain ⟨rfl, rfl⟩ := ab_pr hf
      exact xr_ireturn A rfl rfl dX2_letters_61
    · replace hf := ab_in c31 hf
      refine xr_iload_n A dX2_letters_34 1 rfl rfl ?_
      refine xr_iconst A (v := 1) dX2_letters_35 (by decide) ?_
      refine xr_aload_n A dX2_letters_36 0 rfl rfl ?_
      revert hf; refine ab_bdI (fun v8 mv8 hf => ?_)
      refine xr_get A xc_X2 in_X2 8 (Nat.le_of_ble_eq_true rfl) q214 rfl (ab_gRE mv8) dX2_letters_37 ?_
      refine xr_iload_n A dX2_letters_40 2 rfl rfl ?_
      revert hf; refine ab_bdI (fun a9 e hf => ?_); subst e
      revert hf; refine ab_b2I (fun v12 h11 m10 hf => ?_)
      refine xr_V A bJ3_charAt (wJ3_charAt D m10).2 xc_J3 (wJ3_charAt D m10).1 q816 q817 q815 (av := [vI l3]) (rest := [vI (1 : Int32), vI l2]) rfl dX2_letters_41 (Nat.le_of_ble_eq_true rfl) (Nat.le_of_ble_eq_true rfl) rfl (Nat.le_of_ble_eq_true rfl) ?_
      refine xr_bipush A (v := 97) dX2_letters_44 (by decide) ?_
      refine xr_isub A dX2_letters_46 ?_
      refine xr_ishl A dX2_letters_47 ?_
      refine xr_ior A dX2_letters_48 ?_
      refine xr_istore_n A dX2_letters_49 rfl (Nat.le_of_ble_eq_true rfl) (L' := [(2, vI (l2 ||| ((1 : Int32) <<< ((v12 - (97 : Int32)) &&& 31)))), (0, vR (some x)), (3, vI l3)]) rfl ?_
      refine xr_iinc A dX2_letters_50 2 rfl (v := (l3 + (1 : Int32))) rfl (Nat.le_of_ble_eq_true rfl) (L' := [(3, vI (l3 + (1 : Int32))), (2, vI (l2 ||| ((1 : Int32) <<< ((v12 - (97 : Int32)) &&& 31)))), (0, vR (some x))]) rfl ?_
      refine xr_goto A (tgt := 23) dX2_letters_53 (by decide) ?_
      refine X.sub [2, 1, 0] rfl ?_
      exact ih hf
noncomputable def fX2_letters (x : Nat) (p1 : Option Nat) (h : Hp) : Option ((Int32 ⊕ Nat) × Hp) :=
  ab_ck h x 1 <|
  ab_bx (fX2_must x p1 h) (fun _ h2 =>
  ab_bd (ab_gI h2 x 1 5) fun v3 =>
  if v3 = (2 : Int32) then (
    fX2_letters_l23 x (hfu h2) (0 : Int32) (0 : Int32) h2)
  else (
    ab_b2 (fX2_fail x (1 : Int32) h2) fun v6 h5 =>
    ab_bd v6 fun a7 =>
    ab_cz h5 a7 2 <| some (.inr a7, h5))) fun qh2 gh2 => some (.inr qh2, gh2)
theorem wX2_letters (D : Dd) {x : Nat} {p1 : Option Nat} {h : Hp} {ρ : Int32 ⊕ Nat} {h' : Hp} (hf : fX2_letters x p1 h = some (ρ, h')) : ab_is h x 1 ∧ Ct D 8 183 yX2_letters cX2_letters 4 (some FieldType.int) [vR (some x), vR p1] h (xoI ρ) h' := by
    unfold fX2_letters at hf
    replace hf := ab_ckE hf; obtain ⟨i0, hf⟩ := hf
    refine ⟨i0, ?_⟩
    refine Ct.of (by decide) (L := [(0, vR (some x)), (1, vR p1)]) rfl (Nat.le_of_ble_eq_true rfl) (fun C A => ?_)
    refine xr_aload_n A dX2_letters_0 0 rfl rfl ?_
    refine xr_aload_n A dX2_letters_1 1 rfl rfl ?_
    revert hf; refine ab_bxI (fun uh2 h2 m1 hf => ?_) (fun qh2 gh2 m1 hf => ?_)
    · refine xr_V0 A bX2_must (wX2_must D m1).2 xc_X2 (wX2_must D m1).1 q715 qs10 q713 (av := [vR p1]) (rest := []) rfl dX2_letters_2 (Nat.le_of_ble_eq_true rfl) (Nat.le_of_ble_eq_true rfl) rfl (Nat.le_of_ble_eq_true rfl) ?_
      refine xr_aload_n A dX2_letters_5 0 rfl rfl ?_
      revert hf; refine ab_bdI (fun v3 mv3 hf => ?_)
      refine xr_get A xc_X2 in_X2 5 (Nat.le_of_ble_eq_true rfl) q211 rfl (ab_gIE mv3) dX2_letters_6 ?_
      refine xr_iconst A (v := 2) dX2_letters_9 (by decide) ?_
      refine xr_icmp_eq A (tgt := 19) dX2_letters_10 (by decide) (fun c10 => ?_) (fun c10 => ?_)
      · replace hf := ab_ip c10 hf
        refine xr_iconst A (v := 0) dX2_letters_19 (by decide) ?_
        refine xr_istore_n A dX2_letters_20 rfl (Nat.le_of_ble_eq_true rfl) (L' := [(2, vI (0 : Int32)), (0, vR (some x)), (1, vR p1)]) rfl ?_
        refine xr_iconst A (v := 0) dX2_letters_21 (by decide) ?_
        refine xr_istore_n A dX2_letters_22 rfl (Nat.le_of_ble_eq_true rfl) (L' := [(3, vI (0 : Int32)), (2, vI (0 : Int32)), (0, vR (some x)), (1, vR p1)]) rfl ?_
        refine X.sub [2, 1, 0] rfl ?_
        exact wX2_letters_l23 A _ hf
      · replace hf := ab_in c10 hf
        refine xr_aload_n A dX2_letters_13 0 rfl rfl ?_
        refine xr_iconst A (v := 1) dX2_letters_14 (by decide) ?_
        revert hf; refine ab_b2I (fun v6 h5 m4 hf => ?_)
        refine xr_V A bX2_fail (wX2_fail D m4).2 xc_X2 (wX2_fail D m4).1 q628 qs7 q626 (av := [vI (1 : Int32)]) (rest := []) rfl dX2_letters_15 (Nat.le_of_ble_eq_true rfl) (Nat.le_of_ble_eq_true rfl) rfl (Nat.le_of_ble_eq_true rfl) ?_
        revert hf; refine ab_bdI (fun a7 e hf => ?_); subst e
        replace hf := ab_czE hf; obtain ⟨i18, hf⟩ := hf
        refine xr_athrow A i18 dX2_letters_18 ?_
        obtain ⟨rfl, rfl⟩ := ab_pr hf
        exact xr_out A rfl
    · refine xr_VX A bX2_must (wX2_must D m1).2 xc_X2 (wX2_must D m1).1 q715 qs10 q713 (av := [vR p1]) (rest := []) rfl dX2_letters_2 (Nat.le_of_ble_eq_true rfl) (Nat.le_of_ble_eq_true rfl) rfl (Nat.le_of_ble_eq_true rfl) ?_
      obtain ⟨rfl, rfl⟩ := ab_pr hf
      exact xr_out A rfl
/-! X2_dish -/
theorem bX2_dish : MB yX2_dish cX2_dish 2 (none : Option FieldType) 0 := ⟨q784, q93, by decide, by decide +kernel⟩
noncomputable def fX2_dish_b18 (x : Nat) (s0 : Int32) (s1 : Nat) (h : Hp) : Option ((Unit ⊕ Nat) × Hp) :=
  ab_bx (fX2_begins s1 s0 (5 : Int32) h) (fun _ h2 =>
  ab_b2 (ab_new h2 7 4 tyX9) fun a3 h4 =>
  ab_bx (fX2_newName x h4) (fun v7 h6 =>
  ab_bd (ab_gR h6 x 1 9) fun v8 =>
  ab_bd v8 fun a9 =>
  ab_bd (ab_gI h6 a9 5 10) fun v10 =>
  ab_bd (fX9_init a3 v7 v10 h6) fun h12 =>
  ab_bx (fX2_letters x (some (hstr h12 16)) h12) (fun v15 h14 =>
  ab_bd (ab_pI h14 a3 7 2 v15) fun h16 =>
  ab_bx (fX2_told x (some (hstr h16 17)) (1 : Int32) (99 : Int32) h16) (fun v19 h18 =>
  ab_bd (ab_pI h18 a3 7 3 v19) fun h20 =>
  ab_bd (ab_gR h20 x 1 9) fun v21 =>
  ab_bd v21 fun a22 =>
  ab_bd (ab_gR h20 a22 5 1) fun v23 =>
  ab_bd (ab_gR h20 x 1 9) fun v24 =>
  ab_bd v24 fun a25 =>
  ab_bd (ab_gI h20 a25 5 10) fun v26 =>
  ab_bd v23 fun a27 =>
  ab_bd (ab_sR h20 a27 7 7 v26 a3) fun h28 =>
  ab_bd (ab_gR h28 x 1 9) fun v29 =>
  ab_bd v29 fun a30 =>
  ab_bd (ab_gI h28 a30 5 10) fun v31 =>
  ab_bd (ab_pI h28 a30 5 10 (v31 + (1 : Int32))) fun h32 =>
  some (.inl (), h32)) fun qh18 gh18 => some (.inr qh18, gh18)) fun qh14 gh14 => some (.inr qh14, gh14)) fun qh6 gh6 => some (.inr qh6, gh6)) fun qh2 gh2 => some (.inr qh2, gh2)
theorem wX2_dish_b18 {D : Dd} {C : Cx} {h0 h' : Hp} {ρ : Unit ⊕ Nat} (A : Act C D (h0, (xoV ρ), h') yX2_dish cX2_dish 2 (none : Option FieldType) 9 206 []) {x : Nat} {s0 : Int32} {s1 : Nat} {h : Hp} (hf : fX2_dish_b18 x s0 s1 h = some (ρ, h')) : X C D (h0, (xoV ρ), h') 2 18 [(0, vR (some x))] [vI s0, vR (some s1)] h := by
  unfold fX2_dish_b18 at hf
  refine xr_iconst A (v := 5) dX2_dish_18 (by decide) ?_
  revert hf; refine ab_bxI (fun uh2 h2 m1 hf => ?_) (fun qh2 gh2 m1 hf => ?_)
  · refine xr_V0 A bX2_begins (wX2_begins D m1).2 xc_X2 (wX2_begins D m1).1 q706 qs8 q704 (av := [vI s0, vI (5 : Int32)]) (rest := []) rfl dX2_dish_19 (Nat.le_of_ble_eq_true rfl) (Nat.le_of_ble_eq_true rfl) rfl (Nat.le_of_ble_eq_true rfl) ?_
    revert hf; refine ab_b2I (fun a3 h4 mh4 hf => ?_)
    refine xr_new A xc_X9 in_X9 tyX9_ok q785 q786 q108 mh4 dX2_dish_22 ?_
    refine xr_dup A dX2_dish_25 rfl ?_
    refine xr_aload_n A dX2_dish_26 0 rfl rfl ?_
    revert hf; refine ab_bxI (fun v7 h6 m5 hf => ?_) (fun qh6 gh6 m5 hf => ?_)
    · refine xr_V A bX2_newName (wX2_newName D m5).2 xc_X2 (wX2_newName D m5).1 q738 qs15 q736 (av := []) (rest := [vR (some a3), vR (some a3)]) rfl dX2_dish_27 (Nat.le_of_ble_eq_true rfl) (Nat.le_of_ble_eq_true rfl) rfl (Nat.le_of_ble_eq_true rfl) ?_
      refine xr_aload_n A dX2_dish_30 0 rfl rfl ?_
      revert hf; refine ab_bdI (fun v8 mv8 hf => ?_)
      refine xr_get A xc_X2 in_X2 9 (Nat.le_of_ble_eq_true rfl) q215 rfl (ab_gRE mv8) dX2_dish_31 ?_
      revert hf; refine ab_bdI (fun a9 e hf => ?_); subst e
      revert hf; refine ab_bdI (fun v10 mv10 hf => ?_)
      refine xr_get A xc_X6 in_X6 10 (Nat.le_of_ble_eq_true rfl) q464 rfl (ab_gIE mv10) dX2_dish_34 ?_
      revert hf; refine ab_bdI (fun h12 m11 hf => ?_)
      refine xr_I0 A bX9_init (wX9_init D m11) rfl q788 q787 (av := [vR v7, vI v10]) (rest := [vR (some a3)]) rfl dX2_dish_37 (Nat.le_of_ble_eq_true rfl) (Nat.le_of_ble_eq_true rfl) rfl (Nat.le_of_ble_eq_true rfl) ?_
      refine xr_astore_n A dX2_dish_40 rfl (Nat.le_of_ble_eq_true rfl) (L' := [(1, vR (some a3)), (0, vR (some x))]) rfl ?_
      refine xr_aload_n A dX2_dish_41 0 rfl rfl ?_
      refine xr_aload_n A dX2_dish_42 1 rfl rfl ?_
      refine xr_ldcs A t802 dX2_dish_43 ?_
      revert hf; refine ab_bxI (fun v15 h14 m13 hf => ?_) (fun qh14 gh14 m13 hf => ?_)
      · refine xr_V A bX2_letters (wX2_letters D m13).2 xc_X2 (wX2_letters D m13).1 q805 qs18 q803 (av := [vR (some (hstr h12 16))]) (rest := [vR (some a3)]) rfl dX2_dish_45 (Nat.le_of_ble_eq_true rfl) (Nat.le_of_ble_eq_true rfl) rfl (Nat.le_of_ble_eq_true rfl) ?_
        revert hf; refine ab_bdI (fun h16 mh16 hf => ?_)
        refine xr_put A xc_X9 in_X9 tyX9_ok nmX9 2 (Nat.le_of_ble_eq_true rfl) q791 rfl rfl (v := vI v15) rfl rfl mh16 dX2_dish_48 ?_
        refine xr_aload_n A dX2_dish_51 0 rfl rfl ?_
        refine xr_aload_n A dX2_dish_52 1 rfl rfl ?_
        refine xr_ldcs A t835 dX2_dish_53 ?_
        refine xr_iconst A (v := 1) dX2_dish_55 (by decide) ?_
        refine xr_bipush A (v := 99) dX2_dish_56 (by decide) ?_
        revert hf; refine ab_bxI (fun v19 h18 m17 hf => ?_) (fun qh18 gh18 m17 hf => ?_)
        · refine xr_V A bX2_told (wX2_told D m17).2 xc_X2 (wX2_told D m17).1 q711 qs9 q709 (av := [vR (some (hstr h16 17)), vI (1 : Int32), vI (99 : Int32)]) (rest := [vR (some a3)]) rfl dX2_dish_58 (Nat.le_of_ble_eq_true rfl) (Nat.le_of_ble_eq_true rfl) rfl (Nat.le_of_ble_eq_true rfl) ?_
          revert hf; refine ab_bdI (fun h20 mh20 hf => ?_)
          refine xr_put A xc_X9 in_X9 tyX9_ok nmX9 3 (Nat.le_of_ble_eq_true rfl) q793 rfl rfl (v := vI v19) rfl rfl mh20 dX2_dish_61 ?_
          refine xr_aload_n A dX2_dish_64 1 rfl rfl ?_
          revert hf; refine ab_bdI (fun v21 mv21 hf => ?_)
          refine xr_get A xc_X2 in_X2 9 (Nat.le_of_ble_eq_true rfl) q215 rfl (ab_gRE mv21) dX2_dish_65 ?_
          revert hf; refine ab_bdI (fun a22 e hf => ?_); subst e
          revert hf; refine ab_bdI (fun v23 mv23 hf => ?_)
          refine xr_get A xc_X6 in_X6 1 (Nat.le_of_ble_eq_true rfl) q438 rfl (ab_gRE mv23) dX2_dish_68 ?_
          refine xr_aload_n A dX2_dish_71 1 rfl rfl ?_
          revert hf; refine ab_bdI (fun v24 mv24 hf => ?_)
          refine xr_get A xc_X2 in_X2 9 (Nat.le_of_ble_eq_true rfl) q215 rfl (ab_gRE mv24) dX2_dish_72 ?_
          revert hf; refine ab_bdI (fun a25 e hf => ?_); subst e
          revert hf; refine ab_bdI (fun v26 mv26 hf => ?_)
          refine xr_get A xc_X6 in_X6 10 (Nat.le_of_ble_eq_true rfl) q464 rfl (ab_gIE mv26) dX2_dish_75 ?_
          refine xr_aload_n A dX2_dish_78 0 rfl rfl ?_
          revert hf; refine ab_bdI (fun a27 e hf => ?_); subst e
          revert hf; refine ab_bdI (fun h28 mh28 hf => ?_)
          refine xr_aastore A (t := 7) (ci := 7) rfl xc_X9 mh28 dX2_dish_79 ?_
          refine xr_aload_n A dX2_dish_80 1 rfl rfl ?_
          revert hf; refine ab_bdI (fun v29 mv29 hf => ?_)
          refine xr_get A xc_X2 in_X2 9 (Nat.le_of_ble_eq_true rfl) q215 rfl (ab_gRE mv29) dX2_dish_81 ?_
          refine xr_dup A dX2_dish_84 rfl ?_
          revert hf; refine ab_bdI (fun a30 e hf => ?_); subst e
          revert hf; refine ab_bdI (fun v31 mv31 hf => ?_)
          refine xr_get A xc_X6 in_X6 10 (Nat.le_of_ble_eq_true rfl) q464 rfl (ab_gIE mv31) dX2_dish_85 ?_
          refine xr_iconst A (v := 1) dX2_dish_88 (by decide) ?_
          refine xr_iadd A dX2_dish_89 ?_
          revert hf; refine ab_bdI (fun h32 mh32 hf => ?_)
          refine xr_put A xc_X6 in_X6 tyX6_ok nmX6 10 (Nat.le_of_ble_eq_true rfl) q464 rfl rfl (v := vI (v31 + (1 : Int32))) rfl rfl mh32 dX2_dish_90 ?_
          obtain ⟨rfl, rfl⟩ := ab_pr hf
          exact xr_return A rfl dX2_dish_93
        · refine xr_VX A bX2_told (wX2_told D m17).2 xc_X2 (wX2_told D m17).1 q711 qs9 q709 (av := [vR (some (hstr h16 17)), vI (1 : Int32), vI (99 : Int32)]) (rest := [vR (some a3)]) rfl dX2_dish_58 (Nat.le_of_ble_eq_true rfl) (Nat.le_of_ble_eq_true rfl) rfl (Nat.le_of_ble_eq_true rfl) ?_
          obtain ⟨rfl, rfl⟩ := ab_pr hf
          exact xr_out A rfl
      · refine xr_VX A bX2_letters (wX2_letters D m13).2 xc_X2 (wX2_letters D m13).1 q805 qs18 q803 (av := [vR (some (hstr h12 16))]) (rest := [vR (some a3)]) rfl dX2_dish_45 (Nat.le_of_ble_eq_true rfl) (Nat.le_of_ble_eq_true rfl) rfl (Nat.le_of_ble_eq_true rfl) ?_
        obtain ⟨rfl, rfl⟩ := ab_pr hf
        exact xr_out A rfl
    · refine xr_VX A bX2_newName (wX2_newName D m5).2 xc_X2 (wX2_newName D m5).1 q738 qs15 q736 (av := []) (rest := [vR (some a3), vR (some a3)]) rfl dX2_dish_27 (Nat.le_of_ble_eq_true rfl) (Nat.le_of_ble_eq_true rfl) rfl (Nat.le_of_ble_eq_true rfl) ?_
      obtain ⟨rfl, rfl⟩ := ab_pr hf
      exact xr_out A rfl
  · refine xr_VX A bX2_begins (wX2_begins D m1).2 xc_X2 (wX2_begins D m1).1 q706 qs8 q704 (av := [vI s0, vI (5 : Int32)]) (rest := []) rfl dX2_dish_19 (Nat.le_of_ble_eq_true rfl) (Nat.le_of_ble_eq_true rfl) rfl (Nat.le_of_ble_eq_true rfl) ?_
    obtain ⟨rfl, rfl⟩ := ab_pr hf
    exact xr_out A rfl
noncomputable def fX2_dish (x : Nat) (h : Hp) : Option ((Unit ⊕ Nat) × Hp) :=
  ab_ck h x 1 <|
  ab_bd (ab_gR h x 1 9) fun v1 =>
  ab_bd v1 fun a2 =>
  ab_bd (ab_gI h a2 5 10) fun v3 =>
  if (6 : Int32) ≤ v3 then (
    fX2_dish_b18 x (0 : Int32) x h)
  else (
    fX2_dish_b18 x (1 : Int32) x h)
theorem wX2_dish (D : Dd) {x : Nat} {h : Hp} {ρ : Unit ⊕ Nat} {h' : Hp} (hf : fX2_dish x h = some (ρ, h')) : ab_is h x 1 ∧ Ct D 9 206 yX2_dish cX2_dish 2 (none : Option FieldType) [vR (some x)] h (xoV ρ) h' := by
    unfold fX2_dish at hf
    replace hf := ab_ckE hf; obtain ⟨i0, hf⟩ := hf
    refine ⟨i0, ?_⟩
    refine Ct.of (by decide) (L := [(0, vR (some x))]) rfl (Nat.le_of_ble_eq_true rfl) (fun C A => ?_)
    refine xr_aload_n A dX2_dish_0 0 rfl rfl ?_
    refine xr_aload_n A dX2_dish_1 0 rfl rfl ?_
    revert hf; refine ab_bdI (fun v1 mv1 hf => ?_)
    refine xr_get A xc_X2 in_X2 9 (Nat.le_of_ble_eq_true rfl) q215 rfl (ab_gRE mv1) dX2_dish_2 ?_
    revert hf; refine ab_bdI (fun a2 e hf => ?_); subst e
    revert hf; refine ab_bdI (fun v3 mv3 hf => ?_)
    refine xr_get A xc_X6 in_X6 10 (Nat.le_of_ble_eq_true rfl) q464 rfl (ab_gIE mv3) dX2_dish_5 ?_
    refine xr_bipush A (v := 6) dX2_dish_8 (by decide) ?_
    refine xr_icmp_ge A (tgt := 17) dX2_dish_10 (by decide) (fun c10 => ?_) (fun c10 => ?_)
    · replace hf := ab_ip c10 hf
      refine xr_iconst A (v := 0) dX2_dish_17 (by decide) ?_
      exact wX2_dish_b18 A hf
    · replace hf := ab_in c10 hf
      refine xr_iconst A (v := 1) dX2_dish_13 (by decide) ?_
      refine xr_goto A (tgt := 18) dX2_dish_14 (by decide) ?_
      exact wX2_dish_b18 A hf
/-! X10_init -/
theorem bX10_init : MB yX10_init cX10_init 3 (none : Option FieldType) 2 := ⟨q844, q109, by decide, by decide +kernel⟩
noncomputable def fX10_init (x : Nat) (p1 : Option Nat) (p2 : Int32) (h : Hp) : Option Hp :=
  ab_bd (fX7_init x p1 p2 h) fun h2 =>
  some h2
theorem wX10_init (D : Dd) {x : Nat} {p1 : Option Nat} {p2 : Int32} {h : Hp} {h' : Hp} (hf : fX10_init x p1 p2 h = some h') : Ct D 2 42 yX10_init cX10_init 3 (none : Option FieldType) [vR (some x), vR p1, vI p2] h (.inl none) h' := by
    unfold fX10_init at hf
    refine Ct.of (by decide) (L := [(0, vR (some x)), (1, vR p1), (2, vI p2)]) rfl (Nat.le_of_ble_eq_true rfl) (fun C A => ?_)
    refine xr_aload_n A dX10_init_0 0 rfl rfl ?_
    refine xr_aload_n A dX10_init_1 1 rfl rfl ?_
    refine xr_iload_n A dX10_init_2 2 rfl rfl ?_
    revert hf; refine ab_bdI (fun h2 m1 hf => ?_)
    refine xr_I0 A bX7_init (wX7_init D m1) rfl q758 q845 (av := [vR p1, vI p2]) (rest := []) rfl dX10_init_3 (Nat.le_of_ble_eq_true rfl) (Nat.le_of_ble_eq_true rfl) rfl (Nat.le_of_ble_eq_true rfl) ?_
    exact xr_return A hf dX10_init_6
/-! X2_diet -/
theorem bX2_diet : MB yX2_diet cX2_diet 2 (none : Option FieldType) 0 := ⟨q839, q93, by decide, by decide +kernel⟩
noncomputable def fX2_diet_b17 (x : Nat) (s0 : Int32) (s1 : Nat) (h : Hp) : Option ((Unit ⊕ Nat) × Hp) :=
  ab_bx (fX2_begins s1 s0 (5 : Int32) h) (fun _ h2 =>
  ab_b2 (ab_new h2 8 3 tyX10) fun a3 h4 =>
  ab_bx (fX2_newName x h4) (fun v7 h6 =>
  ab_bd (ab_gR h6 x 1 9) fun v8 =>
  ab_bd v8 fun a9 =>
  ab_bd (ab_gI h6 a9 5 11) fun v10 =>
  ab_bd (fX10_init a3 v7 v10 h6) fun h12 =>
  ab_bx (fX2_letters x (some (hstr h12 18)) h12) (fun v15 h14 =>
  ab_bd (ab_pI h14 a3 8 2 v15) fun h16 =>
  ab_bd (ab_gR h16 x 1 9) fun v17 =>
  ab_bd v17 fun a18 =>
  ab_bd (ab_gR h16 a18 5 2) fun v19 =>
  ab_bd (ab_gR h16 x 1 9) fun v20 =>
  ab_bd v20 fun a21 =>
  ab_bd (ab_gI h16 a21 5 11) fun v22 =>
  ab_bd v19 fun a23 =>
  ab_bd (ab_sR h16 a23 8 8 v22 a3) fun h24 =>
  ab_bd (ab_gR h24 x 1 9) fun v25 =>
  ab_bd v25 fun a26 =>
  ab_bd (ab_gI h24 a26 5 11) fun v27 =>
  ab_bd (ab_pI h24 a26 5 11 (v27 + (1 : Int32))) fun h28 =>
  some (.inl (), h28)) fun qh14 gh14 => some (.inr qh14, gh14)) fun qh6 gh6 => some (.inr qh6, gh6)) fun qh2 gh2 => some (.inr qh2, gh2)
theorem wX2_diet_b17 {D : Dd} {C : Cx} {h0 h' : Hp} {ρ : Unit ⊕ Nat} (A : Act C D (h0, (xoV ρ), h') yX2_diet cX2_diet 2 (none : Option FieldType) 9 206 []) {x : Nat} {s0 : Int32} {s1 : Nat} {h : Hp} (hf : fX2_diet_b17 x s0 s1 h = some (ρ, h')) : X C D (h0, (xoV ρ), h') 2 17 [(0, vR (some x))] [vI s0, vR (some s1)] h := by
  unfold fX2_diet_b17 at hf
  refine xr_iconst A (v := 5) dX2_diet_17 (by decide) ?_
  revert hf; refine ab_bxI (fun uh2 h2 m1 hf => ?_) (fun qh2 gh2 m1 hf => ?_)
  · refine xr_V0 A bX2_begins (wX2_begins D m1).2 xc_X2 (wX2_begins D m1).1 q706 qs8 q704 (av := [vI s0, vI (5 : Int32)]) (rest := []) rfl dX2_diet_18 (Nat.le_of_ble_eq_true rfl) (Nat.le_of_ble_eq_true rfl) rfl (Nat.le_of_ble_eq_true rfl) ?_
    revert hf; refine ab_b2I (fun a3 h4 mh4 hf => ?_)
    refine xr_new A xc_X10 in_X10 tyX10_ok q840 q841 q109 mh4 dX2_diet_21 ?_
    refine xr_dup A dX2_diet_24 rfl ?_
    refine xr_aload_n A dX2_diet_25 0 rfl rfl ?_
    revert hf; refine ab_bxI (fun v7 h6 m5 hf => ?_) (fun qh6 gh6 m5 hf => ?_)
    · refine xr_V A bX2_newName (wX2_newName D m5).2 xc_X2 (wX2_newName D m5).1 q738 qs15 q736 (av := []) (rest := [vR (some a3), vR (some a3)]) rfl dX2_diet_26 (Nat.le_of_ble_eq_true rfl) (Nat.le_of_ble_eq_true rfl) rfl (Nat.le_of_ble_eq_true rfl) ?_
      refine xr_aload_n A dX2_diet_29 0 rfl rfl ?_
      revert hf; refine ab_bdI (fun v8 mv8 hf => ?_)
      refine xr_get A xc_X2 in_X2 9 (Nat.le_of_ble_eq_true rfl) q215 rfl (ab_gRE mv8) dX2_diet_30 ?_
      revert hf; refine ab_bdI (fun a9 e hf => ?_); subst e
      revert hf; refine ab_bdI (fun v10 mv10 hf => ?_)
      refine xr_get A xc_X6 in_X6 11 (Nat.le_of_ble_eq_true rfl) q467 rfl (ab_gIE mv10) dX2_diet_33 ?_
      revert hf; refine ab_bdI (fun h12 m11 hf => ?_)
      refine xr_I0 A bX10_init (wX10_init D m11) rfl q843 q842 (av := [vR v7, vI v10]) (rest := [vR (some a3)]) rfl dX2_diet_36 (Nat.le_of_ble_eq_true rfl) (Nat.le_of_ble_eq_true rfl) rfl (Nat.le_of_ble_eq_true rfl) ?_
      refine xr_astore_n A dX2_diet_39 rfl (Nat.le_of_ble_eq_true rfl) (L' := [(1, vR (some a3)), (0, vR (some x))]) rfl ?_
      refine xr_aload_n A dX2_diet_40 0 rfl rfl ?_
      refine xr_aload_n A dX2_diet_41 1 rfl rfl ?_
      refine xr_ldcs A t853 dX2_diet_42 ?_
      revert hf; refine ab_bxI (fun v15 h14 m13 hf => ?_) (fun qh14 gh14 m13 hf => ?_)
      · refine xr_V A bX2_letters (wX2_letters D m13).2 xc_X2 (wX2_letters D m13).1 q805 qs18 q803 (av := [vR (some (hstr h12 18))]) (rest := [vR (some a3)]) rfl dX2_diet_44 (Nat.le_of_ble_eq_true rfl) (Nat.le_of_ble_eq_true rfl) rfl (Nat.le_of_ble_eq_true rfl) ?_
        revert hf; refine ab_bdI (fun h16 mh16 hf => ?_)
        refine xr_put A xc_X10 in_X10 tyX10_ok nmX10 2 (Nat.le_of_ble_eq_true rfl) q846 rfl rfl (v := vI v15) rfl rfl mh16 dX2_diet_47 ?_
        refine xr_aload_n A dX2_diet_50 1 rfl rfl ?_
        revert hf; refine ab_bdI (fun v17 mv17 hf => ?_)
        refine xr_get A xc_X2 in_X2 9 (Nat.le_of_ble_eq_true rfl) q215 rfl (ab_gRE mv17) dX2_diet_51 ?_
        revert hf; refine ab_bdI (fun a18 e hf => ?_); subst e
        revert hf; refine ab_bdI (fun v19 mv19 hf => ?_)
        refine xr_get A xc_X6 in_X6 2 (Nat.le_of_ble_eq_true rfl) q441 rfl (ab_gRE mv19) dX2_diet_54 ?_
        refine xr_aload_n A dX2_diet_57 1 rfl rfl ?_
        revert hf; refine ab_bdI (fun v20 mv20 hf => ?_)
        refine xr_get A xc_X2 in_X2 9 (Nat.le_of_ble_eq_true rfl) q215 rfl (ab_gRE mv20) dX2_diet_58 ?_
        revert hf; refine ab_bdI (fun a21 e hf => ?_); subst e
        revert hf; refine ab_bdI (fun v22 mv22 hf => ?_)
        refine xr_get A xc_X6 in_X6 11 (Nat.le_of_ble_eq_true rfl) q467 rfl (ab_gIE mv22) dX2_diet_61 ?_
        refine xr_aload_n A dX2_diet_64 0 rfl rfl ?_
        revert hf; refine ab_bdI (fun a23 e hf => ?_); subst e
        revert hf; refine ab_bdI (fun h24 mh24 hf => ?_)
        refine xr_aastore A (t := 8) (ci := 8) rfl xc_X10 mh24 dX2_diet_65 ?_
        refine xr_aload_n A dX2_diet_66 1 rfl rfl ?_
        revert hf; refine ab_bdI (fun v25 mv25 hf => ?_)
        refine xr_get A xc_X2 in_X2 9 (Nat.le_of_ble_eq_true rfl) q215 rfl (ab_gRE mv25) dX2_diet_67 ?_
        refine xr_dup A dX2_diet_70 rfl ?_
        revert hf; refine ab_bdI (fun a26 e hf => ?_); subst e
        revert hf; refine ab_bdI (fun v27 mv27 hf => ?_)
        refine xr_get A xc_X6 in_X6 11 (Nat.le_of_ble_eq_true rfl) q467 rfl (ab_gIE mv27) dX2_diet_71 ?_
        refine xr_iconst A (v := 1) dX2_diet_74 (by decide) ?_
        refine xr_iadd A dX2_diet_75 ?_
        revert hf; refine ab_bdI (fun h28 mh28 hf => ?_)
        refine xr_put A xc_X6 in_X6 tyX6_ok nmX6 11 (Nat.le_of_ble_eq_true rfl) q467 rfl rfl (v := vI (v27 + (1 : Int32))) rfl rfl mh28 dX2_diet_76 ?_
        obtain ⟨rfl, rfl⟩ := ab_pr hf
        exact xr_return A rfl dX2_diet_79
      · refine xr_VX A bX2_letters (wX2_letters D m13).2 xc_X2 (wX2_letters D m13).1 q805 qs18 q803 (av := [vR (some (hstr h12 18))]) (rest := [vR (some a3)]) rfl dX2_diet_44 (Nat.le_of_ble_eq_true rfl) (Nat.le_of_ble_eq_true rfl) rfl (Nat.le_of_ble_eq_true rfl) ?_
        obtain ⟨rfl, rfl⟩ := ab_pr hf
        exact xr_out A rfl
    · refine xr_VX A bX2_newName (wX2_newName D m5).2 xc_X2 (wX2_newName D m5).1 q738 qs15 q736 (av := []) (rest := [vR (some a3), vR (some a3)]) rfl dX2_diet_26 (Nat.le_of_ble_eq_true rfl) (Nat.le_of_ble_eq_true rfl) rfl (Nat.le_of_ble_eq_true rfl) ?_
      obtain ⟨rfl, rfl⟩ := ab_pr hf
      exact xr_out A rfl
  · refine xr_VX A bX2_begins (wX2_begins D m1).2 xc_X2 (wX2_begins D m1).1 q706 qs8 q704 (av := [vI s0, vI (5 : Int32)]) (rest := []) rfl dX2_diet_18 (Nat.le_of_ble_eq_true rfl) (Nat.le_of_ble_eq_true rfl) rfl (Nat.le_of_ble_eq_true rfl) ?_
    obtain ⟨rfl, rfl⟩ := ab_pr hf
    exact xr_out A rfl
noncomputable def fX2_diet (x : Nat) (h : Hp) : Option ((Unit ⊕ Nat) × Hp) :=
  ab_ck h x 1 <|
  ab_bd (ab_gR h x 1 9) fun v1 =>
  ab_bd v1 fun a2 =>
  ab_bd (ab_gI h a2 5 11) fun v3 =>
  if (4 : Int32) ≤ v3 then (
    fX2_diet_b17 x (0 : Int32) x h)
  else (
    fX2_diet_b17 x (1 : Int32) x h)
theorem wX2_diet (D : Dd) {x : Nat} {h : Hp} {ρ : Unit ⊕ Nat} {h' : Hp} (hf : fX2_diet x h = some (ρ, h')) : ab_is h x 1 ∧ Ct D 9 206 yX2_diet cX2_diet 2 (none : Option FieldType) [vR (some x)] h (xoV ρ) h' := by
    unfold fX2_diet at hf
    replace hf := ab_ckE hf; obtain ⟨i0, hf⟩ := hf
    refine ⟨i0, ?_⟩
    refine Ct.of (by decide) (L := [(0, vR (some x))]) rfl (Nat.le_of_ble_eq_true rfl) (fun C A => ?_)
    refine xr_aload_n A dX2_diet_0 0 rfl rfl ?_
    refine xr_aload_n A dX2_diet_1 0 rfl rfl ?_
    revert hf; refine ab_bdI (fun v1 mv1 hf => ?_)
    refine xr_get A xc_X2 in_X2 9 (Nat.le_of_ble_eq_true rfl) q215 rfl (ab_gRE mv1) dX2_diet_2 ?_
    revert hf; refine ab_bdI (fun a2 e hf => ?_); subst e
    revert hf; refine ab_bdI (fun v3 mv3 hf => ?_)
    refine xr_get A xc_X6 in_X6 11 (Nat.le_of_ble_eq_true rfl) q467 rfl (ab_gIE mv3) dX2_diet_5 ?_
    refine xr_iconst A (v := 4) dX2_diet_8 (by decide) ?_
    refine xr_icmp_ge A (tgt := 16) dX2_diet_9 (by decide) (fun c9 => ?_) (fun c9 => ?_)
    · replace hf := ab_ip c9 hf
      refine xr_iconst A (v := 0) dX2_diet_16 (by decide) ?_
      exact wX2_diet_b17 A hf
    · replace hf := ab_in c9 hf
      refine xr_iconst A (v := 1) dX2_diet_12 (by decide) ?_
      refine xr_goto A (tgt := 17) dX2_diet_13 (by decide) ?_
      exact wX2_diet_b17 A hf
/-! X11_init -/
theorem bX11_init : MB yX11_init cX11_init 3 (none : Option FieldType) 2 := ⟨q862, q110, by decide, by decide +kernel⟩
noncomputable def fX11_init (x : Nat) (p1 : Option Nat) (p2 : Int32) (h : Hp) : Option Hp :=
  ab_bd (fX7_init x p1 p2 h) fun h2 =>
  some h2
theorem wX11_init (D : Dd) {x : Nat} {p1 : Option Nat} {p2 : Int32} {h : Hp} {h' : Hp} (hf : fX11_init x p1 p2 h = some h') : Ct D 2 42 yX11_init cX11_init 3 (none : Option FieldType) [vR (some x), vR p1, vI p2] h (.inl none) h' := by
    unfold fX11_init at hf
    refine Ct.of (by decide) (L := [(0, vR (some x)), (1, vR p1), (2, vI p2)]) rfl (Nat.le_of_ble_eq_true rfl) (fun C A => ?_)
    refine xr_aload_n A dX11_init_0 0 rfl rfl ?_
    refine xr_aload_n A dX11_init_1 1 rfl rfl ?_
    refine xr_iload_n A dX11_init_2 2 rfl rfl ?_
    revert hf; refine ab_bdI (fun h2 m1 hf => ?_)
    refine xr_I0 A bX7_init (wX7_init D m1) rfl q758 q863 (av := [vR p1, vI p2]) (rest := []) rfl dX11_init_3 (Nat.le_of_ble_eq_true rfl) (Nat.le_of_ble_eq_true rfl) rfl (Nat.le_of_ble_eq_true rfl) ?_
    exact xr_return A hf dX11_init_6
/-! X2_house -/
theorem bX2_house : MB yX2_house cX2_house 3 (none : Option FieldType) 0 := ⟨q857, q93, by decide, by decide +kernel⟩
noncomputable def fX2_house_b18 (x : Nat) (s0 : Int32) (s1 : Nat) (h : Hp) : Option ((Unit ⊕ Nat) × Hp) :=
  ab_bx (fX2_begins s1 s0 (5 : Int32) h) (fun _ h2 =>
  ab_b2 (ab_new h2 9 9 tyX11) fun a3 h4 =>
  ab_bx (fX2_newName x h4) (fun v7 h6 =>
  ab_bd (ab_gR h6 x 1 9) fun v8 =>
  ab_bd v8 fun a9 =>
  ab_bd (ab_gI h6 a9 5 12) fun v10 =>
  ab_bd (fX11_init a3 v7 v10 h6) fun h12 =>
  ab_bx (fX2_told x (some (hstr h12 14)) (0 : Int32) (99 : Int32) h12) (fun v15 h14 =>
  ab_bd (ab_pI h14 a3 9 2 v15) fun h16 =>
  ab_bx (fX2_must x (some (hstr h16 19)) h16) (fun _ h18 =>
  ab_bx (fX2_mustName x h18) (fun _ h20 =>
  ab_bd (ab_gR h20 x 1 9) fun v21 =>
  ab_bd (ab_gR h20 x 1 8) fun v22 =>
  ab_bd v21 fun a23 =>
  ab_b2 (fX6_find a23 v22 h20) fun v26 h25 =>
  ab_bd (ab_in9 h25 v26 8) fun v27 =>
  if v27 = 0 then (
    ab_b2 (fX2_fail x (2 : Int32) h25) fun v66 h65 =>
    ab_bd v66 fun a67 =>
    ab_cz h65 a67 2 <| some (.inr a67, h65))
  else (
    ab_bd v26 fun a28 =>
    ab_ck h25 a28 8 <|
    ab_bd (ab_pR h25 a3 9 7 (some a28)) fun h29 =>
    ab_bd (fX2_next x h29) fun h31 =>
    ab_bx (fX2_told x (some (hstr h31 20)) (0 : Int32) (30 : Int32) h31) (fun v34 h33 =>
    ab_bd (ab_pI h33 a3 9 3 v34) fun h35 =>
    ab_bx (fX2_told x (some (hstr h35 21)) (0 : Int32) (60 : Int32) h35) (fun v38 h37 =>
    ab_bd (ab_pI h37 a3 9 4 v38) fun h39 =>
    ab_bx (fX2_told x (some (hstr h39 22)) (0 : Int32) (100 : Int32) h39) (fun v42 h41 =>
    ab_bd (ab_pI h41 a3 9 5 v42) fun h43 =>
    ab_bx (fX2_told x (some (hstr h43 23)) (1 : Int32) (9 : Int32) h43) (fun v46 h45 =>
    ab_bd (ab_pI h45 a3 9 6 v46) fun h47 =>
    ab_b2 (fX2_takes x (some (hstr h47 12)) h47) fun v50 h49 =>
    ab_bd (ab_pZ h49 a3 9 8 v50) fun h51 =>
    ab_bd (ab_gR h51 x 1 9) fun v52 =>
    ab_bd v52 fun a53 =>
    ab_bd (ab_gR h51 a53 5 3) fun v54 =>
    ab_bd (ab_gR h51 x 1 9) fun v55 =>
    ab_bd v55 fun a56 =>
    ab_bd (ab_gI h51 a56 5 12) fun v57 =>
    ab_bd v54 fun a58 =>
    ab_bd (ab_sR h51 a58 9 9 v57 a3) fun h59 =>
    ab_bd (ab_gR h59 x 1 9) fun v60 =>
    ab_bd v60 fun a61 =>
    ab_bd (ab_gI h59 a61 5 12) fun v62 =>
    ab_bd (ab_pI h59 a61 5 12 (v62 + (1 : Int32))) fun h63 =>
    some (.inl (), h63)) fun qh45 gh45 => some (.inr qh45, gh45)) fun qh41 gh41 => some (.inr qh41, gh41)) fun qh37 gh37 => some (.inr qh37, gh37)) fun qh33 gh33 => some (.inr qh33, gh33))) fun qh20 gh20 => some (.inr qh20, gh20)) fun qh18 gh18 => some (.inr qh18, gh18)) fun qh14 gh14 => some (.inr qh14, gh14)) fun qh6 gh6 => some (.inr qh6, gh6)) fun qh2 gh2 => some (.inr qh2, gh2)
theorem wX2_house_b18 {D : Dd} {C : Cx} {h0 h' : Hp} {ρ : Unit ⊕ Nat} (A : Act C D (h0, (xoV ρ), h') yX2_house cX2_house 3 (none : Option FieldType) 9 206 []) {x : Nat} {s0 : Int32} {s1 : Nat} {h : Hp} (hf : fX2_house_b18 x s0 s1 h = some (ρ, h')) : X C D (h0, (xoV ρ), h') 3 18 [(0, vR (some x))] [vI s0, vR (some s1)] h := by
  unfold fX2_house_b18 at hf
  refine xr_iconst A (v := 5) dX2_house_18 (by decide) ?_
  revert hf; refine ab_bxI (fun uh2 h2 m1 hf => ?_) (fun qh2 gh2 m1 hf => ?_)
  · refine xr_V0 A bX2_begins (wX2_begins D m1).2 xc_X2 (wX2_begins D m1).1 q706 qs8 q704 (av := [vI s0, vI (5 : Int32)]) (rest := []) rfl dX2_house_19 (Nat.le_of_ble_eq_true rfl) (Nat.le_of_ble_eq_true rfl) rfl (Nat.le_of_ble_eq_true rfl) ?_
    revert hf; refine ab_b2I (fun a3 h4 mh4 hf => ?_)
    refine xr_new A xc_X11 in_X11 tyX11_ok q858 q859 q110 mh4 dX2_house_22 ?_
    refine xr_dup A dX2_house_25 rfl ?_
    refine xr_aload_n A dX2_house_26 0 rfl rfl ?_
    revert hf; refine ab_bxI (fun v7 h6 m5 hf => ?_) (fun qh6 gh6 m5 hf => ?_)
    · refine xr_V A bX2_newName (wX2_newName D m5).2 xc_X2 (wX2_newName D m5).1 q738 qs15 q736 (av := []) (rest := [vR (some a3), vR (some a3)]) rfl dX2_house_27 (Nat.le_of_ble_eq_true rfl) (Nat.le_of_ble_eq_true rfl) rfl (Nat.le_of_ble_eq_true rfl) ?_
      refine xr_aload_n A dX2_house_30 0 rfl rfl ?_
      revert hf; refine ab_bdI (fun v8 mv8 hf => ?_)
      refine xr_get A xc_X2 in_X2 9 (Nat.le_of_ble_eq_true rfl) q215 rfl (ab_gRE mv8) dX2_house_31 ?_
      revert hf; refine ab_bdI (fun a9 e hf => ?_); subst e
      revert hf; refine ab_bdI (fun v10 mv10 hf => ?_)
      refine xr_get A xc_X6 in_X6 12 (Nat.le_of_ble_eq_true rfl) q471 rfl (ab_gIE mv10) dX2_house_34 ?_
      revert hf; refine ab_bdI (fun h12 m11 hf => ?_)
      refine xr_I0 A bX11_init (wX11_init D m11) rfl q861 q860 (av := [vR v7, vI v10]) (rest := [vR (some a3)]) rfl dX2_house_37 (Nat.le_of_ble_eq_true rfl) (Nat.le_of_ble_eq_true rfl) rfl (Nat.le_of_ble_eq_true rfl) ?_
      refine xr_astore_n A dX2_house_40 rfl (Nat.le_of_ble_eq_true rfl) (L' := [(1, vR (some a3)), (0, vR (some x))]) rfl ?_
      refine xr_aload_n A dX2_house_41 0 rfl rfl ?_
      refine xr_aload_n A dX2_house_42 1 rfl rfl ?_
      refine xr_ldcs A t779 dX2_house_43 ?_
      refine xr_iconst A (v := 0) dX2_house_45 (by decide) ?_
      refine xr_bipush A (v := 99) dX2_house_46 (by decide) ?_
      revert hf; refine ab_bxI (fun v15 h14 m13 hf => ?_) (fun qh14 gh14 m13 hf => ?_)
      · refine xr_V A bX2_told (wX2_told D m13).2 xc_X2 (wX2_told D m13).1 q711 qs9 q709 (av := [vR (some (hstr h12 14)), vI (0 : Int32), vI (99 : Int32)]) (rest := [vR (some a3)]) rfl dX2_house_48 (Nat.le_of_ble_eq_true rfl) (Nat.le_of_ble_eq_true rfl) rfl (Nat.le_of_ble_eq_true rfl) ?_
        revert hf; refine ab_bdI (fun h16 mh16 hf => ?_)
        refine xr_put A xc_X11 in_X11 tyX11_ok nmX11 2 (Nat.le_of_ble_eq_true rfl) q865 rfl rfl (v := vI v15) rfl rfl mh16 dX2_house_51 ?_
        refine xr_aload_n A dX2_house_54 1 rfl rfl ?_
        refine xr_ldcs A t895 dX2_house_55 ?_
        revert hf; refine ab_bxI (fun uh18 h18 m17 hf => ?_) (fun qh18 gh18 m17 hf => ?_)
        · refine xr_V0 A bX2_must (wX2_must D m17).2 xc_X2 (wX2_must D m17).1 q715 qs10 q713 (av := [vR (some (hstr h16 19))]) (rest := []) rfl dX2_house_57 (Nat.le_of_ble_eq_true rfl) (Nat.le_of_ble_eq_true rfl) rfl (Nat.le_of_ble_eq_true rfl) ?_
          refine xr_aload_n A dX2_house_60 1 rfl rfl ?_
          revert hf; refine ab_bxI (fun uh20 h20 m19 hf => ?_) (fun qh20 gh20 m19 hf => ?_)
          · refine xr_V0 A bX2_mustName (wX2_mustName D m19).2 xc_X2 (wX2_mustName D m19).1 q742 qs16 q740 (av := []) (rest := []) rfl dX2_house_61 (Nat.le_of_ble_eq_true rfl) (Nat.le_of_ble_eq_true rfl) rfl (Nat.le_of_ble_eq_true rfl) ?_
            refine xr_aload_n A dX2_house_64 1 rfl rfl ?_
            revert hf; refine ab_bdI (fun v21 mv21 hf => ?_)
            refine xr_get A xc_X2 in_X2 9 (Nat.le_of_ble_eq_true rfl) q215 rfl (ab_gRE mv21) dX2_house_65 ?_
            refine xr_aload_n A dX2_house_68 1 rfl rfl ?_
            revert hf; refine ab_bdI (fun v22 mv22 hf => ?_)
            refine xr_get A xc_X2 in_X2 8 (Nat.le_of_ble_eq_true rfl) q214 rfl (ab_gRE mv22) dX2_house_69 ?_
            revert hf; refine ab_bdI (fun a23 e hf => ?_); subst e
            revert hf; refine ab_b2I (fun v26 h25 m24 hf => ?_)
            refine xr_V A bX6_find (wX6_find D m24).2 xc_X6 (wX6_find D m24).1 q747 q748 q746 (av := [vR v22]) (rest := []) rfl dX2_house_72 (Nat.le_of_ble_eq_true rfl) (Nat.le_of_ble_eq_true rfl) rfl (Nat.le_of_ble_eq_true rfl) ?_
            refine xr_astore_n A dX2_house_75 rfl (Nat.le_of_ble_eq_true rfl) (L' := [(2, vR v26), (1, vR (some a3)), (0, vR (some x))]) rfl ?_
            refine xr_aload_n A dX2_house_76 0 rfl rfl ?_
            revert hf; refine ab_bdI (fun v27 mv27 hf => ?_)
            refine xr_instX10 A mv27 q840 dX2_house_77 ?_
            refine xr_if_ne A (tgt := 89) dX2_house_80 (by decide) (fun c80 => ?_) (fun c80 => ?_)
            · replace hf := ab_in c80 hf
              refine xr_aload_n A dX2_house_89 1 rfl rfl ?_
              refine xr_aload_n A dX2_house_90 0 rfl rfl ?_
              revert hf; refine ab_bdI (fun a28 e hf => ?_); subst e
              replace hf := ab_ckE hf; obtain ⟨i91, hf⟩ := hf
              refine xr_cast A xc_X10 i91 q840 dX2_house_91 ?_
              revert hf; refine ab_bdI (fun h29 mh29 hf => ?_)
              refine xr_put A xc_X11 in_X11 tyX11_ok nmX11 7 (Nat.le_of_ble_eq_true rfl) q874 rfl rfl (v := vR (some a28)) (ab_nR _ rfl) (ab_tR _ rfl) mh29 dX2_house_94 ?_
              refine xr_aload_n A dX2_house_97 2 rfl rfl ?_
              revert hf; refine ab_bdI (fun h31 m30 hf => ?_)
              refine xr_V0 A bX2_next (wX2_next D m30).2 xc_X2 (wX2_next D m30).1 q530 qs4 q528 (av := []) (rest := []) rfl dX2_house_98 (Nat.le_of_ble_eq_true rfl) (Nat.le_of_ble_eq_true rfl) rfl (Nat.le_of_ble_eq_true rfl) ?_
              refine xr_aload_n A dX2_house_101 1 rfl rfl ?_
              refine xr_aload_n A dX2_house_102 2 rfl rfl ?_
              refine xr_ldcsw A t896 dX2_house_103 ?_
              refine xr_iconst A (v := 0) dX2_house_106 (by decide) ?_
              refine xr_bipush A (v := 30) dX2_house_107 (by decide) ?_
              revert hf; refine ab_bxI (fun v34 h33 m32 hf => ?_) (fun qh33 gh33 m32 hf => ?_)
              · refine xr_V A bX2_told (wX2_told D m32).2 xc_X2 (wX2_told D m32).1 q711 qs9 q709 (av := [vR (some (hstr h31 20)), vI (0 : Int32), vI (30 : Int32)]) (rest := [vR (some a3)]) rfl dX2_house_109 (Nat.le_of_ble_eq_true rfl) (Nat.le_of_ble_eq_true rfl) rfl (Nat.le_of_ble_eq_true rfl) ?_
                revert hf; refine ab_bdI (fun h35 mh35 hf => ?_)
                refine xr_put A xc_X11 in_X11 tyX11_ok nmX11 3 (Nat.le_of_ble_eq_true rfl) q867 rfl rfl (v := vI v34) rfl rfl mh35 dX2_house_112 ?_
                refine xr_aload_n A dX2_house_115 1 rfl rfl ?_
                refine xr_aload_n A dX2_house_116 2 rfl rfl ?_
                refine xr_ldcsw A t897 dX2_house_117 ?_
                refine xr_iconst A (v := 0) dX2_house_120 (by decide) ?_
                refine xr_bipush A (v := 60) dX2_house_121 (by decide) ?_
                revert hf; refine ab_bxI (fun v38 h37 m36 hf => ?_) (fun qh37 gh37 m36 hf => ?_)
                · refine xr_V A bX2_told (wX2_told D m36).2 xc_X2 (wX2_told D m36).1 q711 qs9 q709 (av := [vR (some (hstr h35 21)), vI (0 : Int32), vI (60 : Int32)]) (rest := [vR (some a3)]) rfl dX2_house_123 (Nat.le_of_ble_eq_true rfl) (Nat.le_of_ble_eq_true rfl) rfl (Nat.le_of_ble_eq_true rfl) ?_
                  revert hf; refine ab_bdI (fun h39 mh39 hf => ?_)
                  refine xr_put A xc_X11 in_X11 tyX11_ok nmX11 4 (Nat.le_of_ble_eq_true rfl) q869 rfl rfl (v := vI v38) rfl rfl mh39 dX2_house_126 ?_
                  refine xr_aload_n A dX2_house_129 1 rfl rfl ?_
                  refine xr_aload_n A dX2_house_130 2 rfl rfl ?_
                  refine xr_ldcsw A t898 dX2_house_131 ?_
                  refine xr_iconst A (v := 0) dX2_house_134 (by decide) ?_
                  refine xr_bipush A (v := 100) dX2_house_135 (by decide) ?_
                  revert hf; refine ab_bxI (fun v42 h41 m40 hf => ?_) (fun qh41 gh41 m40 hf => ?_)
                  · refine xr_V A bX2_told (wX2_told D m40).2 xc_X2 (wX2_told D m40).1 q711 qs9 q709 (av := [vR (some (hstr h39 22)), vI (0 : Int32), vI (100 : Int32)]) (rest := [vR (some a3)]) rfl dX2_house_137 (Nat.le_of_ble_eq_true rfl) (Nat.le_of_ble_eq_true rfl) rfl (Nat.le_of_ble_eq_true rfl) ?_
                    revert hf; refine ab_bdI (fun h43 mh43 hf => ?_)
                    refine xr_put A xc_X11 in_X11 tyX11_ok nmX11 5 (Nat.le_of_ble_eq_true rfl) q870 rfl rfl (v := vI v42) rfl rfl mh43 dX2_house_140 ?_
                    refine xr_aload_n A dX2_house_143 1 rfl rfl ?_
                    refine xr_aload_n A dX2_house_144 2 rfl rfl ?_
                    refine xr_ldcsw A t899 dX2_house_145 ?_
                    refine xr_iconst A (v := 1) dX2_house_148 (by decide) ?_
                    refine xr_bipush A (v := 9) dX2_house_149 (by decide) ?_
                    revert hf; refine ab_bxI (fun v46 h45 m44 hf => ?_) (fun qh45 gh45 m44 hf => ?_)
                    · refine xr_V A bX2_told (wX2_told D m44).2 xc_X2 (wX2_told D m44).1 q711 qs9 q709 (av := [vR (some (hstr h43 23)), vI (1 : Int32), vI (9 : Int32)]) (rest := [vR (some a3)]) rfl dX2_house_151 (Nat.le_of_ble_eq_true rfl) (Nat.le_of_ble_eq_true rfl) rfl (Nat.le_of_ble_eq_true rfl) ?_
                      revert hf; refine ab_bdI (fun h47 mh47 hf => ?_)
                      refine xr_put A xc_X11 in_X11 tyX11_ok nmX11 6 (Nat.le_of_ble_eq_true rfl) q872 rfl rfl (v := vI v46) rfl rfl mh47 dX2_house_154 ?_
                      refine xr_aload_n A dX2_house_157 1 rfl rfl ?_
                      refine xr_aload_n A dX2_house_158 2 rfl rfl ?_
                      refine xr_ldcs A t744 dX2_house_159 ?_
                      revert hf; refine ab_b2I (fun v50 h49 m48 hf => ?_)
                      refine xr_V A bX2_takes (wX2_takes D m48).2 xc_X2 (wX2_takes D m48).1 q719 qs11 q717 (av := [vR (some (hstr h47 12))]) (rest := [vR (some a3)]) rfl dX2_house_161 (Nat.le_of_ble_eq_true rfl) (Nat.le_of_ble_eq_true rfl) rfl (Nat.le_of_ble_eq_true rfl) ?_
                      revert hf; refine ab_bdI (fun h51 mh51 hf => ?_)
                      obtain ⟨zh51, mh51⟩ := ab_pZE mh51
                      refine xr_put A xc_X11 in_X11 tyX11_ok nmX11 8 (Nat.le_of_ble_eq_true rfl) q877 rfl rfl (v := vI v50) (ab_nZ zh51) (ab_tZ zh51) mh51 dX2_house_164 ?_
                      refine xr_aload_n A dX2_house_167 2 rfl rfl ?_
                      revert hf; refine ab_bdI (fun v52 mv52 hf => ?_)
                      refine xr_get A xc_X2 in_X2 9 (Nat.le_of_ble_eq_true rfl) q215 rfl (ab_gRE mv52) dX2_house_168 ?_
                      revert hf; refine ab_bdI (fun a53 e hf => ?_); subst e
                      revert hf; refine ab_bdI (fun v54 mv54 hf => ?_)
                      refine xr_get A xc_X6 in_X6 3 (Nat.le_of_ble_eq_true rfl) q445 rfl (ab_gRE mv54) dX2_house_171 ?_
                      refine xr_aload_n A dX2_house_174 2 rfl rfl ?_
                      revert hf; refine ab_bdI (fun v55 mv55 hf => ?_)
                      refine xr_get A xc_X2 in_X2 9 (Nat.le_of_ble_eq_true rfl) q215 rfl (ab_gRE mv55) dX2_house_175 ?_
                      revert hf; refine ab_bdI (fun a56 e hf => ?_); subst e
                      revert hf; refine ab_bdI (fun v57 mv57 hf => ?_)
                      refine xr_get A xc_X6 in_X6 12 (Nat.le_of_ble_eq_true rfl) q471 rfl (ab_gIE mv57) dX2_house_178 ?_
                      refine xr_aload_n A dX2_house_181 1 rfl rfl ?_
                      revert hf; refine ab_bdI (fun a58 e hf => ?_); subst e
                      revert hf; refine ab_bdI (fun h59 mh59 hf => ?_)
                      refine xr_aastore A (t := 9) (ci := 9) rfl xc_X11 mh59 dX2_house_182 ?_
                      refine xr_aload_n A dX2_house_183 2 rfl rfl ?_
                      revert hf; refine ab_bdI (fun v60 mv60 hf => ?_)
                      refine xr_get A xc_X2 in_X2 9 (Nat.le_of_ble_eq_true rfl) q215 rfl (ab_gRE mv60) dX2_house_184 ?_
                      refine xr_dup A dX2_house_187 rfl ?_
                      revert hf; refine ab_bdI (fun a61 e hf => ?_); subst e
                      revert hf; refine ab_bdI (fun v62 mv62 hf => ?_)
                      refine xr_get A xc_X6 in_X6 12 (Nat.le_of_ble_eq_true rfl) q471 rfl (ab_gIE mv62) dX2_house_188 ?_
                      refine xr_iconst A (v := 1) dX2_house_191 (by decide) ?_
                      refine xr_iadd A dX2_house_192 ?_
                      revert hf; refine ab_bdI (fun h63 mh63 hf => ?_)
                      refine xr_put A xc_X6 in_X6 tyX6_ok nmX6 12 (Nat.le_of_ble_eq_true rfl) q471 rfl rfl (v := vI (v62 + (1 : Int32))) rfl rfl mh63 dX2_house_193 ?_
                      obtain ⟨rfl, rfl⟩ := ab_pr hf
                      exact xr_return A rfl dX2_house_196
                    · refine xr_VX A bX2_told (wX2_told D m44).2 xc_X2 (wX2_told D m44).1 q711 qs9 q709 (av := [vR (some (hstr h43 23)), vI (1 : Int32), vI (9 : Int32)]) (rest := [vR (some a3)]) rfl dX2_house_151 (Nat.le_of_ble_eq_true rfl) (Nat.le_of_ble_eq_true rfl) rfl (Nat.le_of_ble_eq_true rfl) ?_
                      obtain ⟨rfl, rfl⟩ := ab_pr hf
                      exact xr_out A rfl
                  · refine xr_VX A bX2_told (wX2_told D m40).2 xc_X2 (wX2_told D m40).1 q711 qs9 q709 (av := [vR (some (hstr h39 22)), vI (0 : Int32), vI (100 : Int32)]) (rest := [vR (some a3)]) rfl dX2_house_137 (Nat.le_of_ble_eq_true rfl) (Nat.le_of_ble_eq_true rfl) rfl (Nat.le_of_ble_eq_true rfl) ?_
                    obtain ⟨rfl, rfl⟩ := ab_pr hf
                    exact xr_out A rfl
                · refine xr_VX A bX2_told (wX2_told D m36).2 xc_X2 (wX2_told D m36).1 q711 qs9 q709 (av := [vR (some (hstr h35 21)), vI (0 : Int32), vI (60 : Int32)]) (rest := [vR (some a3)]) rfl dX2_house_123 (Nat.le_of_ble_eq_true rfl) (Nat.le_of_ble_eq_true rfl) rfl (Nat.le_of_ble_eq_true rfl) ?_
                  obtain ⟨rfl, rfl⟩ := ab_pr hf
                  exact xr_out A rfl
              · refine xr_VX A bX2_told (wX2_told D m32).2 xc_X2 (wX2_told D m32).1 q711 qs9 q709 (av := [vR (some (hstr h31 20)), vI (0 : Int32), vI (30 : Int32)]) (rest := [vR (some a3)]) rfl dX2_house_109 (Nat.le_of_ble_eq_true rfl) (Nat.le_of_ble_eq_true rfl) rfl (Nat.le_of_ble_eq_true rfl) ?_
                obtain ⟨rfl, rfl⟩ := ab_pr hf
                exact xr_out A rfl
            · replace hf := ab_ip c80 hf
              refine xr_aload_n A dX2_house_83 2 rfl rfl ?_
              refine xr_iconst A (v := 2) dX2_house_84 (by decide) ?_
              revert hf; refine ab_b2I (fun v66 h65 m64 hf => ?_)
              refine xr_V A bX2_fail (wX2_fail D m64).2 xc_X2 (wX2_fail D m64).1 q628 qs7 q626 (av := [vI (2 : Int32)]) (rest := []) rfl dX2_house_85 (Nat.le_of_ble_eq_true rfl) (Nat.le_of_ble_eq_true rfl) rfl (Nat.le_of_ble_eq_true rfl) ?_
              revert hf; refine ab_bdI (fun a67 e hf => ?_); subst e
              replace hf := ab_czE hf; obtain ⟨i88, hf⟩ := hf
              refine xr_athrow A i88 dX2_house_88 ?_
              obtain ⟨rfl, rfl⟩ := ab_pr hf
              exact xr_out A rfl
          · refine xr_VX A bX2_mustName (wX2_mustName D m19).2 xc_X2 (wX2_mustName D m19).1 q742 qs16 q740 (av := []) (rest := []) rfl dX2_house_61 (Nat.le_of_ble_eq_true rfl) (Nat.le_of_ble_eq_true rfl) rfl (Nat.le_of_ble_eq_true rfl) ?_
            obtain ⟨rfl, rfl⟩ := ab_pr hf
            exact xr_out A rfl
        · refine xr_VX A bX2_must (wX2_must D m17).2 xc_X2 (wX2_must D m17).1 q715 qs10 q713 (av := [vR (some (hstr h16 19))]) (rest := []) rfl dX2_house_57 (Nat.le_of_ble_eq_true rfl) (Nat.le_of_ble_eq_true rfl) rfl (Nat.le_of_ble_eq_true rfl) ?_
          obtain ⟨rfl, rfl⟩ := ab_pr hf
          exact xr_out A rfl
      · refine xr_VX A bX2_told (wX2_told D m13).2 xc_X2 (wX2_told D m13).1 q711 qs9 q709 (av := [vR (some (hstr h12 14)), vI (0 : Int32), vI (99 : Int32)]) (rest := [vR (some a3)]) rfl dX2_house_48 (Nat.le_of_ble_eq_true rfl) (Nat.le_of_ble_eq_true rfl) rfl (Nat.le_of_ble_eq_true rfl) ?_
        obtain ⟨rfl, rfl⟩ := ab_pr hf
        exact xr_out A rfl
    · refine xr_VX A bX2_newName (wX2_newName D m5).2 xc_X2 (wX2_newName D m5).1 q738 qs15 q736 (av := []) (rest := [vR (some a3), vR (some a3)]) rfl dX2_house_27 (Nat.le_of_ble_eq_true rfl) (Nat.le_of_ble_eq_true rfl) rfl (Nat.le_of_ble_eq_true rfl) ?_
      obtain ⟨rfl, rfl⟩ := ab_pr hf
      exact xr_out A rfl
  · refine xr_VX A bX2_begins (wX2_begins D m1).2 xc_X2 (wX2_begins D m1).1 q706 qs8 q704 (av := [vI s0, vI (5 : Int32)]) (rest := []) rfl dX2_house_19 (Nat.le_of_ble_eq_true rfl) (Nat.le_of_ble_eq_true rfl) rfl (Nat.le_of_ble_eq_true rfl) ?_
    obtain ⟨rfl, rfl⟩ := ab_pr hf
    exact xr_out A rfl
noncomputable def fX2_house (x : Nat) (h : Hp) : Option ((Unit ⊕ Nat) × Hp) :=
  ab_ck h x 1 <|
  ab_bd (ab_gR h x 1 9) fun v1 =>
  ab_bd v1 fun a2 =>
  ab_bd (ab_gI h a2 5 12) fun v3 =>
  if (6 : Int32) ≤ v3 then (
    fX2_house_b18 x (0 : Int32) x h)
  else (
    fX2_house_b18 x (1 : Int32) x h)
theorem wX2_house (D : Dd) {x : Nat} {h : Hp} {ρ : Unit ⊕ Nat} {h' : Hp} (hf : fX2_house x h = some (ρ, h')) : ab_is h x 1 ∧ Ct D 9 206 yX2_house cX2_house 3 (none : Option FieldType) [vR (some x)] h (xoV ρ) h' := by
    unfold fX2_house at hf
    replace hf := ab_ckE hf; obtain ⟨i0, hf⟩ := hf
    refine ⟨i0, ?_⟩
    refine Ct.of (by decide) (L := [(0, vR (some x))]) rfl (Nat.le_of_ble_eq_true rfl) (fun C A => ?_)
    refine xr_aload_n A dX2_house_0 0 rfl rfl ?_
    refine xr_aload_n A dX2_house_1 0 rfl rfl ?_
    revert hf; refine ab_bdI (fun v1 mv1 hf => ?_)
    refine xr_get A xc_X2 in_X2 9 (Nat.le_of_ble_eq_true rfl) q215 rfl (ab_gRE mv1) dX2_house_2 ?_
    revert hf; refine ab_bdI (fun a2 e hf => ?_); subst e
    revert hf; refine ab_bdI (fun v3 mv3 hf => ?_)
    refine xr_get A xc_X6 in_X6 12 (Nat.le_of_ble_eq_true rfl) q471 rfl (ab_gIE mv3) dX2_house_5 ?_
    refine xr_bipush A (v := 6) dX2_house_8 (by decide) ?_
    refine xr_icmp_ge A (tgt := 17) dX2_house_10 (by decide) (fun c10 => ?_) (fun c10 => ?_)
    · replace hf := ab_ip c10 hf
      refine xr_iconst A (v := 0) dX2_house_17 (by decide) ?_
      exact wX2_house_b18 A hf
    · replace hf := ab_in c10 hf
      refine xr_iconst A (v := 1) dX2_house_13 (by decide) ?_
      refine xr_goto A (tgt := 18) dX2_house_14 (by decide) ?_
      exact wX2_house_b18 A hf
/-! X12_init -/
theorem bX12_init : MB yX12_init cX12_init 3 (none : Option FieldType) 2 := ⟨q908, q111, by decide, by decide +kernel⟩
noncomputable def fX12_init (x : Nat) (p1 : Option Nat) (p2 : Int32) (h : Hp) : Option Hp :=
  ab_bd (fX7_init x p1 p2 h) fun h2 =>
  some h2
theorem wX12_init (D : Dd) {x : Nat} {p1 : Option Nat} {p2 : Int32} {h : Hp} {h' : Hp} (hf : fX12_init x p1 p2 h = some h') : Ct D 2 42 yX12_init cX12_init 3 (none : Option FieldType) [vR (some x), vR p1, vI p2] h (.inl none) h' := by
    unfold fX12_init at hf
    refine Ct.of (by decide) (L := [(0, vR (some x)), (1, vR p1), (2, vI p2)]) rfl (Nat.le_of_ble_eq_true rfl) (fun C A => ?_)
    refine xr_aload_n A dX12_init_0 0 rfl rfl ?_
    refine xr_aload_n A dX12_init_1 1 rfl rfl ?_
    refine xr_iload_n A dX12_init_2 2 rfl rfl ?_
    revert hf; refine ab_bdI (fun h2 m1 hf => ?_)
    refine xr_I0 A bX7_init (wX7_init D m1) rfl q758 q909 (av := [vR p1, vI p2]) (rest := []) rfl dX12_init_3 (Nat.le_of_ble_eq_true rfl) (Nat.le_of_ble_eq_true rfl) rfl (Nat.le_of_ble_eq_true rfl) ?_
    exact xr_return A hf dX12_init_6
/-! X2_car -/
theorem bX2_car : MB yX2_car cX2_car 3 (none : Option FieldType) 0 := ⟨q903, q93, by decide, by decide +kernel⟩
noncomputable def fX2_car_b17 (x : Nat) (s0 : Int32) (s1 : Nat) (h : Hp) : Option ((Unit ⊕ Nat) × Hp) :=
  ab_bx (fX2_begins s1 s0 (5 : Int32) h) (fun _ h2 =>
  ab_b2 (ab_new h2 10 7 tyX12) fun a3 h4 =>
  ab_bx (fX2_newName x h4) (fun v7 h6 =>
  ab_bd (ab_gR h6 x 1 9) fun v8 =>
  ab_bd v8 fun a9 =>
  ab_bd (ab_gI h6 a9 5 13) fun v10 =>
  ab_bd (fX12_init a3 v7 v10 h6) fun h12 =>
  ab_bx (fX2_must x (some (hstr h12 24)) h12) (fun _ h14 =>
  ab_bx (fX2_mustName x h14) (fun _ h16 =>
  ab_bd (ab_gR h16 x 1 9) fun v17 =>
  ab_bd (ab_gR h16 x 1 8) fun v18 =>
  ab_bd v17 fun a19 =>
  ab_b2 (fX6_find a19 v18 h16) fun v22 h21 =>
  ab_bd (ab_in9 h21 v22 6) fun v23 =>
  if v23 = 0 then (
    ab_b2 (fX2_fail x (2 : Int32) h21) fun v58 h57 =>
    ab_bd v58 fun a59 =>
    ab_cz h57 a59 2 <| some (.inr a59, h57))
  else (
    ab_bd v22 fun a24 =>
    ab_ck h21 a24 6 <|
    ab_bd (ab_pR h21 a3 10 2 (some a24)) fun h25 =>
    ab_bd (fX2_next x h25) fun h27 =>
    ab_bx (fX2_told x (some (hstr h27 25)) (500 : Int32) (800 : Int32) h27) (fun v30 h29 =>
    ab_bd (ab_pI h29 a3 10 3 v30) fun h31 =>
    ab_bx (fX2_told x (some (hstr h31 26)) (1 : Int32) (6 : Int32) h31) (fun v34 h33 =>
    ab_bd (ab_pI h33 a3 10 4 v34) fun h35 =>
    ab_bx (fX2_told x (some (hstr h35 27)) (0 : Int32) (50 : Int32) h35) (fun v38 h37 =>
    ab_bd (ab_pI h37 a3 10 5 v38) fun h39 =>
    ab_b2 (fX2_takes x (some (hstr h39 13)) h39) fun v42 h41 =>
    ab_bd (ab_pZ h41 a3 10 6 v42) fun h43 =>
    ab_bd (ab_gR h43 x 1 9) fun v44 =>
    ab_bd v44 fun a45 =>
    ab_bd (ab_gR h43 a45 5 4) fun v46 =>
    ab_bd (ab_gR h43 x 1 9) fun v47 =>
    ab_bd v47 fun a48 =>
    ab_bd (ab_gI h43 a48 5 13) fun v49 =>
    ab_bd v46 fun a50 =>
    ab_bd (ab_sR h43 a50 10 10 v49 a3) fun h51 =>
    ab_bd (ab_gR h51 x 1 9) fun v52 =>
    ab_bd v52 fun a53 =>
    ab_bd (ab_gI h51 a53 5 13) fun v54 =>
    ab_bd (ab_pI h51 a53 5 13 (v54 + (1 : Int32))) fun h55 =>
    some (.inl (), h55)) fun qh37 gh37 => some (.inr qh37, gh37)) fun qh33 gh33 => some (.inr qh33, gh33)) fun qh29 gh29 => some (.inr qh29, gh29))) fun qh16 gh16 => some (.inr qh16, gh16)) fun qh14 gh14 => some (.inr qh14, gh14)) fun qh6 gh6 => some (.inr qh6, gh6)) fun qh2 gh2 => some (.inr qh2, gh2)
theorem wX2_car_b17 {D : Dd} {C : Cx} {h0 h' : Hp} {ρ : Unit ⊕ Nat} (A : Act C D (h0, (xoV ρ), h') yX2_car cX2_car 3 (none : Option FieldType) 9 206 []) {x : Nat} {s0 : Int32} {s1 : Nat} {h : Hp} (hf : fX2_car_b17 x s0 s1 h = some (ρ, h')) : X C D (h0, (xoV ρ), h') 3 17 [(0, vR (some x))] [vI s0, vR (some s1)] h := by
  unfold fX2_car_b17 at hf
  refine xr_iconst A (v := 5) dX2_car_17 (by decide) ?_
  revert hf; refine ab_bxI (fun uh2 h2 m1 hf => ?_) (fun qh2 gh2 m1 hf => ?_)
  · refine xr_V0 A bX2_begins (wX2_begins D m1).2 xc_X2 (wX2_begins D m1).1 q706 qs8 q704 (av := [vI s0, vI (5 : Int32)]) (rest := []) rfl dX2_car_18 (Nat.le_of_ble_eq_true rfl) (Nat.le_of_ble_eq_true rfl) rfl (Nat.le_of_ble_eq_true rfl) ?_
    revert hf; refine ab_b2I (fun a3 h4 mh4 hf => ?_)
    refine xr_new A xc_X12 in_X12 tyX12_ok q904 q905 q111 mh4 dX2_car_21 ?_
    refine xr_dup A dX2_car_24 rfl ?_
    refine xr_aload_n A dX2_car_25 0 rfl rfl ?_
    revert hf; refine ab_bxI (fun v7 h6 m5 hf => ?_) (fun qh6 gh6 m5 hf => ?_)
    · refine xr_V A bX2_newName (wX2_newName D m5).2 xc_X2 (wX2_newName D m5).1 q738 qs15 q736 (av := []) (rest := [vR (some a3), vR (some a3)]) rfl dX2_car_26 (Nat.le_of_ble_eq_true rfl) (Nat.le_of_ble_eq_true rfl) rfl (Nat.le_of_ble_eq_true rfl) ?_
      refine xr_aload_n A dX2_car_29 0 rfl rfl ?_
      revert hf; refine ab_bdI (fun v8 mv8 hf => ?_)
      refine xr_get A xc_X2 in_X2 9 (Nat.le_of_ble_eq_true rfl) q215 rfl (ab_gRE mv8) dX2_car_30 ?_
      revert hf; refine ab_bdI (fun a9 e hf => ?_); subst e
      revert hf; refine ab_bdI (fun v10 mv10 hf => ?_)
      refine xr_get A xc_X6 in_X6 13 (Nat.le_of_ble_eq_true rfl) q474 rfl (ab_gIE mv10) dX2_car_33 ?_
      revert hf; refine ab_bdI (fun h12 m11 hf => ?_)
      refine xr_I0 A bX12_init (wX12_init D m11) rfl q907 q906 (av := [vR v7, vI v10]) (rest := [vR (some a3)]) rfl dX2_car_36 (Nat.le_of_ble_eq_true rfl) (Nat.le_of_ble_eq_true rfl) rfl (Nat.le_of_ble_eq_true rfl) ?_
      refine xr_astore_n A dX2_car_39 rfl (Nat.le_of_ble_eq_true rfl) (L' := [(1, vR (some a3)), (0, vR (some x))]) rfl ?_
      refine xr_aload_n A dX2_car_40 1 rfl rfl ?_
      refine xr_ldcsw A t937 dX2_car_41 ?_
      revert hf; refine ab_bxI (fun uh14 h14 m13 hf => ?_) (fun qh14 gh14 m13 hf => ?_)
      · refine xr_V0 A bX2_must (wX2_must D m13).2 xc_X2 (wX2_must D m13).1 q715 qs10 q713 (av := [vR (some (hstr h12 24))]) (rest := []) rfl dX2_car_44 (Nat.le_of_ble_eq_true rfl) (Nat.le_of_ble_eq_true rfl) rfl (Nat.le_of_ble_eq_true rfl) ?_
        refine xr_aload_n A dX2_car_47 1 rfl rfl ?_
        revert hf; refine ab_bxI (fun uh16 h16 m15 hf => ?_) (fun qh16 gh16 m15 hf => ?_)
        · refine xr_V0 A bX2_mustName (wX2_mustName D m15).2 xc_X2 (wX2_mustName D m15).1 q742 qs16 q740 (av := []) (rest := []) rfl dX2_car_48 (Nat.le_of_ble_eq_true rfl) (Nat.le_of_ble_eq_true rfl) rfl (Nat.le_of_ble_eq_true rfl) ?_
          refine xr_aload_n A dX2_car_51 1 rfl rfl ?_
          revert hf; refine ab_bdI (fun v17 mv17 hf => ?_)
          refine xr_get A xc_X2 in_X2 9 (Nat.le_of_ble_eq_true rfl) q215 rfl (ab_gRE mv17) dX2_car_52 ?_
          refine xr_aload_n A dX2_car_55 1 rfl rfl ?_
          revert hf; refine ab_bdI (fun v18 mv18 hf => ?_)
          refine xr_get A xc_X2 in_X2 8 (Nat.le_of_ble_eq_true rfl) q214 rfl (ab_gRE mv18) dX2_car_56 ?_
          revert hf; refine ab_bdI (fun a19 e hf => ?_); subst e
          revert hf; refine ab_b2I (fun v22 h21 m20 hf => ?_)
          refine xr_V A bX6_find (wX6_find D m20).2 xc_X6 (wX6_find D m20).1 q747 q748 q746 (av := [vR v18]) (rest := []) rfl dX2_car_59 (Nat.le_of_ble_eq_true rfl) (Nat.le_of_ble_eq_true rfl) rfl (Nat.le_of_ble_eq_true rfl) ?_
          refine xr_astore_n A dX2_car_62 rfl (Nat.le_of_ble_eq_true rfl) (L' := [(2, vR v22), (1, vR (some a3)), (0, vR (some x))]) rfl ?_
          refine xr_aload_n A dX2_car_63 0 rfl rfl ?_
          revert hf; refine ab_bdI (fun v23 mv23 hf => ?_)
          refine xr_instX8 A mv23 q734 dX2_car_64 ?_
          refine xr_if_ne A (tgt := 76) dX2_car_67 (by decide) (fun c67 => ?_) (fun c67 => ?_)
          · replace hf := ab_in c67 hf
            refine xr_aload_n A dX2_car_76 1 rfl rfl ?_
            refine xr_aload_n A dX2_car_77 0 rfl rfl ?_
            revert hf; refine ab_bdI (fun a24 e hf => ?_); subst e
            replace hf := ab_ckE hf; obtain ⟨i78, hf⟩ := hf
            refine xr_cast A xc_X8 i78 q734 dX2_car_78 ?_
            revert hf; refine ab_bdI (fun h25 mh25 hf => ?_)
            refine xr_put A xc_X12 in_X12 tyX12_ok nmX12 2 (Nat.le_of_ble_eq_true rfl) q912 rfl rfl (v := vR (some a24)) (ab_nR _ rfl) (ab_tR _ rfl) mh25 dX2_car_81 ?_
            refine xr_aload_n A dX2_car_84 2 rfl rfl ?_
            revert hf; refine ab_bdI (fun h27 m26 hf => ?_)
            refine xr_V0 A bX2_next (wX2_next D m26).2 xc_X2 (wX2_next D m26).1 q530 qs4 q528 (av := []) (rest := []) rfl dX2_car_85 (Nat.le_of_ble_eq_true rfl) (Nat.le_of_ble_eq_true rfl) rfl (Nat.le_of_ble_eq_true rfl) ?_
            refine xr_aload_n A dX2_car_88 1 rfl rfl ?_
            refine xr_aload_n A dX2_car_89 2 rfl rfl ?_
            refine xr_ldcsw A t938 dX2_car_90 ?_
            refine xr_sipush A (v := 500) dX2_car_93 (by decide) ?_
            refine xr_sipush A (v := 800) dX2_car_96 (by decide) ?_
            revert hf; refine ab_bxI (fun v30 h29 m28 hf => ?_) (fun qh29 gh29 m28 hf => ?_)
            · refine xr_V A bX2_told (wX2_told D m28).2 xc_X2 (wX2_told D m28).1 q711 qs9 q709 (av := [vR (some (hstr h27 25)), vI (500 : Int32), vI (800 : Int32)]) (rest := [vR (some a3)]) rfl dX2_car_99 (Nat.le_of_ble_eq_true rfl) (Nat.le_of_ble_eq_true rfl) rfl (Nat.le_of_ble_eq_true rfl) ?_
              revert hf; refine ab_bdI (fun h31 mh31 hf => ?_)
              refine xr_put A xc_X12 in_X12 tyX12_ok nmX12 3 (Nat.le_of_ble_eq_true rfl) q916 rfl rfl (v := vI v30) rfl rfl mh31 dX2_car_102 ?_
              refine xr_aload_n A dX2_car_105 1 rfl rfl ?_
              refine xr_aload_n A dX2_car_106 2 rfl rfl ?_
              refine xr_ldcsw A t939 dX2_car_107 ?_
              refine xr_iconst A (v := 1) dX2_car_110 (by decide) ?_
              refine xr_bipush A (v := 6) dX2_car_111 (by decide) ?_
              revert hf; refine ab_bxI (fun v34 h33 m32 hf => ?_) (fun qh33 gh33 m32 hf => ?_)
              · refine xr_V A bX2_told (wX2_told D m32).2 xc_X2 (wX2_told D m32).1 q711 qs9 q709 (av := [vR (some (hstr h31 26)), vI (1 : Int32), vI (6 : Int32)]) (rest := [vR (some a3)]) rfl dX2_car_113 (Nat.le_of_ble_eq_true rfl) (Nat.le_of_ble_eq_true rfl) rfl (Nat.le_of_ble_eq_true rfl) ?_
                revert hf; refine ab_bdI (fun h35 mh35 hf => ?_)
                refine xr_put A xc_X12 in_X12 tyX12_ok nmX12 4 (Nat.le_of_ble_eq_true rfl) q919 rfl rfl (v := vI v34) rfl rfl mh35 dX2_car_116 ?_
                refine xr_aload_n A dX2_car_119 1 rfl rfl ?_
                refine xr_aload_n A dX2_car_120 2 rfl rfl ?_
                refine xr_ldcsw A t940 dX2_car_121 ?_
                refine xr_iconst A (v := 0) dX2_car_124 (by decide) ?_
                refine xr_bipush A (v := 50) dX2_car_125 (by decide) ?_
                revert hf; refine ab_bxI (fun v38 h37 m36 hf => ?_) (fun qh37 gh37 m36 hf => ?_)
                · refine xr_V A bX2_told (wX2_told D m36).2 xc_X2 (wX2_told D m36).1 q711 qs9 q709 (av := [vR (some (hstr h35 27)), vI (0 : Int32), vI (50 : Int32)]) (rest := [vR (some a3)]) rfl dX2_car_127 (Nat.le_of_ble_eq_true rfl) (Nat.le_of_ble_eq_true rfl) rfl (Nat.le_of_ble_eq_true rfl) ?_
                  revert hf; refine ab_bdI (fun h39 mh39 hf => ?_)
                  refine xr_put A xc_X12 in_X12 tyX12_ok nmX12 5 (Nat.le_of_ble_eq_true rfl) q921 rfl rfl (v := vI v38) rfl rfl mh39 dX2_car_130 ?_
                  refine xr_aload_n A dX2_car_133 1 rfl rfl ?_
                  refine xr_aload_n A dX2_car_134 2 rfl rfl ?_
                  refine xr_ldcs A t745 dX2_car_135 ?_
                  revert hf; refine ab_b2I (fun v42 h41 m40 hf => ?_)
                  refine xr_V A bX2_takes (wX2_takes D m40).2 xc_X2 (wX2_takes D m40).1 q719 qs11 q717 (av := [vR (some (hstr h39 13))]) (rest := [vR (some a3)]) rfl dX2_car_137 (Nat.le_of_ble_eq_true rfl) (Nat.le_of_ble_eq_true rfl) rfl (Nat.le_of_ble_eq_true rfl) ?_
                  revert hf; refine ab_bdI (fun h43 mh43 hf => ?_)
                  obtain ⟨zh43, mh43⟩ := ab_pZE mh43
                  refine xr_put A xc_X12 in_X12 tyX12_ok nmX12 6 (Nat.le_of_ble_eq_true rfl) q923 rfl rfl (v := vI v42) (ab_nZ zh43) (ab_tZ zh43) mh43 dX2_car_140 ?_
                  refine xr_aload_n A dX2_car_143 2 rfl rfl ?_
                  revert hf; refine ab_bdI (fun v44 mv44 hf => ?_)
                  refine xr_get A xc_X2 in_X2 9 (Nat.le_of_ble_eq_true rfl) q215 rfl (ab_gRE mv44) dX2_car_144 ?_
                  revert hf; refine ab_bdI (fun a45 e hf => ?_); subst e
                  revert hf; refine ab_bdI (fun v46 mv46 hf => ?_)
                  refine xr_get A xc_X6 in_X6 4 (Nat.le_of_ble_eq_true rfl) q449 rfl (ab_gRE mv46) dX2_car_147 ?_
                  refine xr_aload_n A dX2_car_150 2 rfl rfl ?_
                  revert hf; refine ab_bdI (fun v47 mv47 hf => ?_)
                  refine xr_get A xc_X2 in_X2 9 (Nat.le_of_ble_eq_true rfl) q215 rfl (ab_gRE mv47) dX2_car_151 ?_
                  revert hf; refine ab_bdI (fun a48 e hf => ?_); subst e
                  revert hf; refine ab_bdI (fun v49 mv49 hf => ?_)
                  refine xr_get A xc_X6 in_X6 13 (Nat.le_of_ble_eq_true rfl) q474 rfl (ab_gIE mv49) dX2_car_154 ?_
                  refine xr_aload_n A dX2_car_157 1 rfl rfl ?_
                  revert hf; refine ab_bdI (fun a50 e hf => ?_); subst e
                  revert hf; refine ab_bdI (fun h51 mh51 hf => ?_)
                  refine xr_aastore A (t := 10) (ci := 10) rfl xc_X12 mh51 dX2_car_158 ?_
                  refine xr_aload_n A dX2_car_159 2 rfl rfl ?_
                  revert hf; refine ab_bdI (fun v52 mv52 hf => ?_)
                  refine xr_get A xc_X2 in_X2 9 (Nat.le_of_ble_eq_true rfl) q215 rfl (ab_gRE mv52) dX2_car_160 ?_
                  refine xr_dup A dX2_car_163 rfl ?_
                  revert hf; refine ab_bdI (fun a53 e hf => ?_); subst e
                  revert hf; refine ab_bdI (fun v54 mv54 hf => ?_)
                  refine xr_get A xc_X6 in_X6 13 (Nat.le_of_ble_eq_true rfl) q474 rfl (ab_gIE mv54) dX2_car_164 ?_
                  refine xr_iconst A (v := 1) dX2_car_167 (by decide) ?_
                  refine xr_iadd A dX2_car_168 ?_
                  revert hf; refine ab_bdI (fun h55 mh55 hf => ?_)
                  refine xr_put A xc_X6 in_X6 tyX6_ok nmX6 13 (Nat.le_of_ble_eq_true rfl) q474 rfl rfl (v := vI (v54 + (1 : Int32))) rfl rfl mh55 dX2_car_169 ?_
                  obtain ⟨rfl, rfl⟩ := ab_pr hf
                  exact xr_return A rfl dX2_car_172
                · refine xr_VX A bX2_told (wX2_told D m36).2 xc_X2 (wX2_told D m36).1 q711 qs9 q709 (av := [vR (some (hstr h35 27)), vI (0 : Int32), vI (50 : Int32)]) (rest := [vR (some a3)]) rfl dX2_car_127 (Nat.le_of_ble_eq_true rfl) (Nat.le_of_ble_eq_true rfl) rfl (Nat.le_of_ble_eq_true rfl) ?_
                  obtain ⟨rfl, rfl⟩ := ab_pr hf
                  exact xr_out A rfl
              · refine xr_VX A bX2_told (wX2_told D m32).2 xc_X2 (wX2_told D m32).1 q711 qs9 q709 (av := [vR (some (hstr h31 26)), vI (1 : Int32), vI (6 : Int32)]) (rest := [vR (some a3)]) rfl dX2_car_113 (Nat.le_of_ble_eq_true rfl) (Nat.le_of_ble_eq_true rfl) rfl (Nat.le_of_ble_eq_true rfl) ?_
                obtain ⟨rfl, rfl⟩ := ab_pr hf
                exact xr_out A rfl
            · refine xr_VX A bX2_told (wX2_told D m28).2 xc_X2 (wX2_told D m28).1 q711 qs9 q709 (av := [vR (some (hstr h27 25)), vI (500 : Int32), vI (800 : Int32)]) (rest := [vR (some a3)]) rfl dX2_car_99 (Nat.le_of_ble_eq_true rfl) (Nat.le_of_ble_eq_true rfl) rfl (Nat.le_of_ble_eq_true rfl) ?_
              obtain ⟨rfl, rfl⟩ := ab_pr hf
              exact xr_out A rfl
          · replace hf := ab_ip c67 hf
            refine xr_aload_n A dX2_car_70 2 rfl rfl ?_
            refine xr_iconst A (v := 2) dX2_car_71 (by decide) ?_
            revert hf; refine ab_b2I (fun v58 h57 m56 hf => ?_)
            refine xr_V A bX2_fail (wX2_fail D m56).2 xc_X2 (wX2_fail D m56).1 q628 qs7 q626 (av := [vI (2 : Int32)]) (rest := []) rfl dX2_car_72 (Nat.le_of_ble_eq_true rfl) (Nat.le_of_ble_eq_true rfl) rfl (Nat.le_of_ble_eq_true rfl) ?_
            revert hf; refine ab_bdI (fun a59 e hf => ?_); subst e
            replace hf := ab_czE hf; obtain ⟨i75, hf⟩ := hf
            refine xr_athrow A i75 dX2_car_75 ?_
            obtain ⟨rfl, rfl⟩ := ab_pr hf
            exact xr_out A rfl
        · refine xr_VX A bX2_mustName (wX2_mustName D m15).2 xc_X2 (wX2_mustName D m15).1 q742 qs16 q740 (av := []) (rest := []) rfl dX2_car_48 (Nat.le_of_ble_eq_true rfl) (Nat.le_of_ble_eq_true rfl) rfl (Nat.le_of_ble_eq_true rfl) ?_
          obtain ⟨rfl, rfl⟩ := ab_pr hf
          exact xr_out A rfl
      · refine xr_VX A bX2_must (wX2_must D m13).2 xc_X2 (wX2_must D m13).1 q715 qs10 q713 (av := [vR (some (hstr h12 24))]) (rest := []) rfl dX2_car_44 (Nat.le_of_ble_eq_true rfl) (Nat.le_of_ble_eq_true rfl) rfl (Nat.le_of_ble_eq_true rfl) ?_
        obtain ⟨rfl, rfl⟩ := ab_pr hf
        exact xr_out A rfl
    · refine xr_VX A bX2_newName (wX2_newName D m5).2 xc_X2 (wX2_newName D m5).1 q738 qs15 q736 (av := []) (rest := [vR (some a3), vR (some a3)]) rfl dX2_car_26 (Nat.le_of_ble_eq_true rfl) (Nat.le_of_ble_eq_true rfl) rfl (Nat.le_of_ble_eq_true rfl) ?_
      obtain ⟨rfl, rfl⟩ := ab_pr hf
      exact xr_out A rfl
  · refine xr_VX A bX2_begins (wX2_begins D m1).2 xc_X2 (wX2_begins D m1).1 q706 qs8 q704 (av := [vI s0, vI (5 : Int32)]) (rest := []) rfl dX2_car_18 (Nat.le_of_ble_eq_true rfl) (Nat.le_of_ble_eq_true rfl) rfl (Nat.le_of_ble_eq_true rfl) ?_
    obtain ⟨rfl, rfl⟩ := ab_pr hf
    exact xr_out A rfl
noncomputable def fX2_car (x : Nat) (h : Hp) : Option ((Unit ⊕ Nat) × Hp) :=
  ab_ck h x 1 <|
  ab_bd (ab_gR h x 1 9) fun v1 =>
  ab_bd v1 fun a2 =>
  ab_bd (ab_gI h a2 5 13) fun v3 =>
  if (3 : Int32) ≤ v3 then (
    fX2_car_b17 x (0 : Int32) x h)
  else (
    fX2_car_b17 x (1 : Int32) x h)
theorem wX2_car (D : Dd) {x : Nat} {h : Hp} {ρ : Unit ⊕ Nat} {h' : Hp} (hf : fX2_car x h = some (ρ, h')) : ab_is h x 1 ∧ Ct D 9 206 yX2_car cX2_car 3 (none : Option FieldType) [vR (some x)] h (xoV ρ) h' := by
    unfold fX2_car at hf
    replace hf := ab_ckE hf; obtain ⟨i0, hf⟩ := hf
    refine ⟨i0, ?_⟩
    refine Ct.of (by decide) (L := [(0, vR (some x))]) rfl (Nat.le_of_ble_eq_true rfl) (fun C A => ?_)
    refine xr_aload_n A dX2_car_0 0 rfl rfl ?_
    refine xr_aload_n A dX2_car_1 0 rfl rfl ?_
    revert hf; refine ab_bdI (fun v1 mv1 hf => ?_)
    refine xr_get A xc_X2 in_X2 9 (Nat.le_of_ble_eq_true rfl) q215 rfl (ab_gRE mv1) dX2_car_2 ?_
    revert hf; refine ab_bdI (fun a2 e hf => ?_); subst e
    revert hf; refine ab_bdI (fun v3 mv3 hf => ?_)
    refine xr_get A xc_X6 in_X6 13 (Nat.le_of_ble_eq_true rfl) q474 rfl (ab_gIE mv3) dX2_car_5 ?_
    refine xr_iconst A (v := 3) dX2_car_8 (by decide) ?_
    refine xr_icmp_ge A (tgt := 16) dX2_car_9 (by decide) (fun c9 => ?_) (fun c9 => ?_)
    · replace hf := ab_ip c9 hf
      refine xr_iconst A (v := 0) dX2_car_16 (by decide) ?_
      exact wX2_car_b17 A hf
    · replace hf := ab_in c9 hf
      refine xr_iconst A (v := 1) dX2_car_12 (by decide) ?_
      refine xr_goto A (tgt := 17) dX2_car_13 (by decide) ?_
      exact wX2_car_b17 A hf
/-! X13_init -/
theorem bX13_init : MB yX13_init cX13_init 3 (none : Option FieldType) 2 := ⟨q949, q112, by decide, by decide +kernel⟩
noncomputable def fX13_init (x : Nat) (p1 : Option Nat) (p2 : Int32) (h : Hp) : Option Hp :=
  ab_bd (fX7_init x p1 p2 h) fun h2 =>
  some h2
theorem wX13_init (D : Dd) {x : Nat} {p1 : Option Nat} {p2 : Int32} {h : Hp} {h' : Hp} (hf : fX13_init x p1 p2 h = some h') : Ct D 2 42 yX13_init cX13_init 3 (none : Option FieldType) [vR (some x), vR p1, vI p2] h (.inl none) h' := by
    unfold fX13_init at hf
    refine Ct.of (by decide) (L := [(0, vR (some x)), (1, vR p1), (2, vI p2)]) rfl (Nat.le_of_ble_eq_true rfl) (fun C A => ?_)
    refine xr_aload_n A dX13_init_0 0 rfl rfl ?_
    refine xr_aload_n A dX13_init_1 1 rfl rfl ?_
    refine xr_iload_n A dX13_init_2 2 rfl rfl ?_
    revert hf; refine ab_bdI (fun h2 m1 hf => ?_)
    refine xr_I0 A bX7_init (wX7_init D m1) rfl q758 q950 (av := [vR p1, vI p2]) (rest := []) rfl dX13_init_3 (Nat.le_of_ble_eq_true rfl) (Nat.le_of_ble_eq_true rfl) rfl (Nat.le_of_ble_eq_true rfl) ?_
    exact xr_return A hf dX13_init_6
/-! X2_call -/
theorem bX2_call : MB yX2_call cX2_call 2 (none : Option FieldType) 0 := ⟨q944, q93, by decide, by decide +kernel⟩
noncomputable def fX2_call_b17 (x : Nat) (s0 : Int32) (s1 : Nat) (h : Hp) : Option ((Unit ⊕ Nat) × Hp) :=
  ab_bx (fX2_begins s1 s0 (5 : Int32) h) (fun _ h2 =>
  ab_b2 (ab_new h2 11 4 tyX13) fun a3 h4 =>
  ab_bx (fX2_newName x h4) (fun v7 h6 =>
  ab_bd (ab_gR h6 x 1 9) fun v8 =>
  ab_bd v8 fun a9 =>
  ab_bd (ab_gI h6 a9 5 14) fun v10 =>
  ab_bd (fX13_init a3 v7 v10 h6) fun h12 =>
  ab_bx (fX2_told x (some (hstr h12 28)) (1 : Int32) (60 : Int32) h12) (fun v15 h14 =>
  ab_bd (ab_pI h14 a3 11 2 v15) fun h16 =>
  ab_bx (fX2_told x (some (hstr h16 22)) (0 : Int32) (100 : Int32) h16) (fun v19 h18 =>
  ab_bd (ab_pI h18 a3 11 3 v19) fun h20 =>
  ab_bd (ab_gR h20 x 1 9) fun v21 =>
  ab_bd v21 fun a22 =>
  ab_bd (ab_gR h20 a22 5 5) fun v23 =>
  ab_bd (ab_gR h20 x 1 9) fun v24 =>
  ab_bd v24 fun a25 =>
  ab_bd (ab_gI h20 a25 5 14) fun v26 =>
  ab_bd v23 fun a27 =>
  ab_bd (ab_sR h20 a27 11 11 v26 a3) fun h28 =>
  ab_bd (ab_gR h28 x 1 9) fun v29 =>
  ab_bd v29 fun a30 =>
  ab_bd (ab_gI h28 a30 5 14) fun v31 =>
  ab_bd (ab_pI h28 a30 5 14 (v31 + (1 : Int32))) fun h32 =>
  some (.inl (), h32)) fun qh18 gh18 => some (.inr qh18, gh18)) fun qh14 gh14 => some (.inr qh14, gh14)) fun qh6 gh6 => some (.inr qh6, gh6)) fun qh2 gh2 => some (.inr qh2, gh2)
theorem wX2_call_b17 {D : Dd} {C : Cx} {h0 h' : Hp} {ρ : Unit ⊕ Nat} (A : Act C D (h0, (xoV ρ), h') yX2_call cX2_call 2 (none : Option FieldType) 9 206 []) {x : Nat} {s0 : Int32} {s1 : Nat} {h : Hp} (hf : fX2_call_b17 x s0 s1 h = some (ρ, h')) : X C D (h0, (xoV ρ), h') 2 17 [(0, vR (some x))] [vI s0, vR (some s1)] h := by
  unfold fX2_call_b17 at hf
  refine xr_iconst A (v := 5) dX2_call_17 (by decide) ?_
  revert hf; refine ab_bxI (fun uh2 h2 m1 hf => ?_) (fun qh2 gh2 m1 hf => ?_)
  · refine xr_V0 A bX2_begins (wX2_begins D m1).2 xc_X2 (wX2_begins D m1).1 q706 qs8 q704 (av := [vI s0, vI (5 : Int32)]) (rest := []) rfl dX2_call_18 (Nat.le_of_ble_eq_true rfl) (Nat.le_of_ble_eq_true rfl) rfl (Nat.le_of_ble_eq_true rfl) ?_
    revert hf; refine ab_b2I (fun a3 h4 mh4 hf => ?_)
    refine xr_new A xc_X13 in_X13 tyX13_ok q945 q946 q112 mh4 dX2_call_21 ?_
    refine xr_dup A dX2_call_24 rfl ?_
    refine xr_aload_n A dX2_call_25 0 rfl rfl ?_
    revert hf; refine ab_bxI (fun v7 h6 m5 hf => ?_) (fun qh6 gh6 m5 hf => ?_)
    · refine xr_V A bX2_newName (wX2_newName D m5).2 xc_X2 (wX2_newName D m5).1 q738 qs15 q736 (av := []) (rest := [vR (some a3), vR (some a3)]) rfl dX2_call_26 (Nat.le_of_ble_eq_true rfl) (Nat.le_of_ble_eq_true rfl) rfl (Nat.le_of_ble_eq_true rfl) ?_
      refine xr_aload_n A dX2_call_29 0 rfl rfl ?_
      revert hf; refine ab_bdI (fun v8 mv8 hf => ?_)
      refine xr_get A xc_X2 in_X2 9 (Nat.le_of_ble_eq_true rfl) q215 rfl (ab_gRE mv8) dX2_call_30 ?_
      revert hf; refine ab_bdI (fun a9 e hf => ?_); subst e
      revert hf; refine ab_bdI (fun v10 mv10 hf => ?_)
      refine xr_get A xc_X6 in_X6 14 (Nat.le_of_ble_eq_true rfl) q476 rfl (ab_gIE mv10) dX2_call_33 ?_
      revert hf; refine ab_bdI (fun h12 m11 hf => ?_)
      refine xr_I0 A bX13_init (wX13_init D m11) rfl q948 q947 (av := [vR v7, vI v10]) (rest := [vR (some a3)]) rfl dX2_call_36 (Nat.le_of_ble_eq_true rfl) (Nat.le_of_ble_eq_true rfl) rfl (Nat.le_of_ble_eq_true rfl) ?_
      refine xr_astore_n A dX2_call_39 rfl (Nat.le_of_ble_eq_true rfl) (L' := [(1, vR (some a3)), (0, vR (some x))]) rfl ?_
      refine xr_aload_n A dX2_call_40 0 rfl rfl ?_
      refine xr_aload_n A dX2_call_41 1 rfl rfl ?_
      refine xr_ldcsw A t962 dX2_call_42 ?_
      refine xr_iconst A (v := 1) dX2_call_45 (by decide) ?_
      refine xr_bipush A (v := 60) dX2_call_46 (by decide) ?_
      revert hf; refine ab_bxI (fun v15 h14 m13 hf => ?_) (fun qh14 gh14 m13 hf => ?_)
      · refine xr_V A bX2_told (wX2_told D m13).2 xc_X2 (wX2_told D m13).1 q711 qs9 q709 (av := [vR (some (hstr h12 28)), vI (1 : Int32), vI (60 : Int32)]) (rest := [vR (some a3)]) rfl dX2_call_48 (Nat.le_of_ble_eq_true rfl) (Nat.le_of_ble_eq_true rfl) rfl (Nat.le_of_ble_eq_true rfl) ?_
        revert hf; refine ab_bdI (fun h16 mh16 hf => ?_)
        refine xr_put A xc_X13 in_X13 tyX13_ok nmX13 2 (Nat.le_of_ble_eq_true rfl) q951 rfl rfl (v := vI v15) rfl rfl mh16 dX2_call_51 ?_
        refine xr_aload_n A dX2_call_54 0 rfl rfl ?_
        refine xr_aload_n A dX2_call_55 1 rfl rfl ?_
        refine xr_ldcsw A t898 dX2_call_56 ?_
        refine xr_iconst A (v := 0) dX2_call_59 (by decide) ?_
        refine xr_bipush A (v := 100) dX2_call_60 (by decide) ?_
        revert hf; refine ab_bxI (fun v19 h18 m17 hf => ?_) (fun qh18 gh18 m17 hf => ?_)
        · refine xr_V A bX2_told (wX2_told D m17).2 xc_X2 (wX2_told D m17).1 q711 qs9 q709 (av := [vR (some (hstr h16 22)), vI (0 : Int32), vI (100 : Int32)]) (rest := [vR (some a3)]) rfl dX2_call_62 (Nat.le_of_ble_eq_true rfl) (Nat.le_of_ble_eq_true rfl) rfl (Nat.le_of_ble_eq_true rfl) ?_
          revert hf; refine ab_bdI (fun h20 mh20 hf => ?_)
          refine xr_put A xc_X13 in_X13 tyX13_ok nmX13 3 (Nat.le_of_ble_eq_true rfl) q953 rfl rfl (v := vI v19) rfl rfl mh20 dX2_call_65 ?_
          refine xr_aload_n A dX2_call_68 1 rfl rfl ?_
          revert hf; refine ab_bdI (fun v21 mv21 hf => ?_)
          refine xr_get A xc_X2 in_X2 9 (Nat.le_of_ble_eq_true rfl) q215 rfl (ab_gRE mv21) dX2_call_69 ?_
          revert hf; refine ab_bdI (fun a22 e hf => ?_); subst e
          revert hf; refine ab_bdI (fun v23 mv23 hf => ?_)
          refine xr_get A xc_X6 in_X6 5 (Nat.le_of_ble_eq_true rfl) q451 rfl (ab_gRE mv23) dX2_call_72 ?_
          refine xr_aload_n A dX2_call_75 1 rfl rfl ?_
          revert hf; refine ab_bdI (fun v24 mv24 hf => ?_)
          refine xr_get A xc_X2 in_X2 9 (Nat.le_of_ble_eq_true rfl) q215 rfl (ab_gRE mv24) dX2_call_76 ?_
          revert hf; refine ab_bdI (fun a25 e hf => ?_); subst e
          revert hf; refine ab_bdI (fun v26 mv26 hf => ?_)
          refine xr_get A xc_X6 in_X6 14 (Nat.le_of_ble_eq_true rfl) q476 rfl (ab_gIE mv26) dX2_call_79 ?_
          refine xr_aload_n A dX2_call_82 0 rfl rfl ?_
          revert hf; refine ab_bdI (fun a27 e hf => ?_); subst e
          revert hf; refine ab_bdI (fun h28 mh28 hf => ?_)
          refine xr_aastore A (t := 11) (ci := 11) rfl xc_X13 mh28 dX2_call_83 ?_
          refine xr_aload_n A dX2_call_84 1 rfl rfl ?_
          revert hf; refine ab_bdI (fun v29 mv29 hf => ?_)
          refine xr_get A xc_X2 in_X2 9 (Nat.le_of_ble_eq_true rfl) q215 rfl (ab_gRE mv29) dX2_call_85 ?_
          refine xr_dup A dX2_call_88 rfl ?_
          revert hf; refine ab_bdI (fun a30 e hf => ?_); subst e
          revert hf; refine ab_bdI (fun v31 mv31 hf => ?_)
          refine xr_get A xc_X6 in_X6 14 (Nat.le_of_ble_eq_true rfl) q476 rfl (ab_gIE mv31) dX2_call_89 ?_
          refine xr_iconst A (v := 1) dX2_call_92 (by decide) ?_
          refine xr_iadd A dX2_call_93 ?_
          revert hf; refine ab_bdI (fun h32 mh32 hf => ?_)
          refine xr_put A xc_X6 in_X6 tyX6_ok nmX6 14 (Nat.le_of_ble_eq_true rfl) q476 rfl rfl (v := vI (v31 + (1 : Int32))) rfl rfl mh32 dX2_call_94 ?_
          obtain ⟨rfl, rfl⟩ := ab_pr hf
          exact xr_return A rfl dX2_call_97
        · refine xr_VX A bX2_told (wX2_told D m17).2 xc_X2 (wX2_told D m17).1 q711 qs9 q709 (av := [vR (some (hstr h16 22)), vI (0 : Int32), vI (100 : Int32)]) (rest := [vR (some a3)]) rfl dX2_call_62 (Nat.le_of_ble_eq_true rfl) (Nat.le_of_ble_eq_true rfl) rfl (Nat.le_of_ble_eq_true rfl) ?_
          obtain ⟨rfl, rfl⟩ := ab_pr hf
          exact xr_out A rfl
      · refine xr_VX A bX2_told (wX2_told D m13).2 xc_X2 (wX2_told D m13).1 q711 qs9 q709 (av := [vR (some (hstr h12 28)), vI (1 : Int32), vI (60 : Int32)]) (rest := [vR (some a3)]) rfl dX2_call_48 (Nat.le_of_ble_eq_true rfl) (Nat.le_of_ble_eq_true rfl) rfl (Nat.le_of_ble_eq_true rfl) ?_
        obtain ⟨rfl, rfl⟩ := ab_pr hf
        exact xr_out A rfl
    · refine xr_VX A bX2_newName (wX2_newName D m5).2 xc_X2 (wX2_newName D m5).1 q738 qs15 q736 (av := []) (rest := [vR (some a3), vR (some a3)]) rfl dX2_call_26 (Nat.le_of_ble_eq_true rfl) (Nat.le_of_ble_eq_true rfl) rfl (Nat.le_of_ble_eq_true rfl) ?_
      obtain ⟨rfl, rfl⟩ := ab_pr hf
      exact xr_out A rfl
  · refine xr_VX A bX2_begins (wX2_begins D m1).2 xc_X2 (wX2_begins D m1).1 q706 qs8 q704 (av := [vI s0, vI (5 : Int32)]) (rest := []) rfl dX2_call_18 (Nat.le_of_ble_eq_true rfl) (Nat.le_of_ble_eq_true rfl) rfl (Nat.le_of_ble_eq_true rfl) ?_
    obtain ⟨rfl, rfl⟩ := ab_pr hf
    exact xr_out A rfl
noncomputable def fX2_call (x : Nat) (h : Hp) : Option ((Unit ⊕ Nat) × Hp) :=
  ab_ck h x 1 <|
  ab_bd (ab_gR h x 1 9) fun v1 =>
  ab_bd v1 fun a2 =>
  ab_bd (ab_gI h a2 5 14) fun v3 =>
  if (5 : Int32) ≤ v3 then (
    fX2_call_b17 x (0 : Int32) x h)
  else (
    fX2_call_b17 x (1 : Int32) x h)
theorem wX2_call (D : Dd) {x : Nat} {h : Hp} {ρ : Unit ⊕ Nat} {h' : Hp} (hf : fX2_call x h = some (ρ, h')) : ab_is h x 1 ∧ Ct D 9 206 yX2_call cX2_call 2 (none : Option FieldType) [vR (some x)] h (xoV ρ) h' := by
    unfold fX2_call at hf
    replace hf := ab_ckE hf; obtain ⟨i0, hf⟩ := hf
    refine ⟨i0, ?_⟩
    refine Ct.of (by decide) (L := [(0, vR (some x))]) rfl (Nat.le_of_ble_eq_true rfl) (fun C A => ?_)
    refine xr_aload_n A dX2_call_0 0 rfl rfl ?_
    refine xr_aload_n A dX2_call_1 0 rfl rfl ?_
    revert hf; refine ab_bdI (fun v1 mv1 hf => ?_)
    refine xr_get A xc_X2 in_X2 9 (Nat.le_of_ble_eq_true rfl) q215 rfl (ab_gRE mv1) dX2_call_2 ?_
    revert hf; refine ab_bdI (fun a2 e hf => ?_); subst e
    revert hf; refine ab_bdI (fun v3 mv3 hf => ?_)
    refine xr_get A xc_X6 in_X6 14 (Nat.le_of_ble_eq_true rfl) q476 rfl (ab_gIE mv3) dX2_call_5 ?_
    refine xr_iconst A (v := 5) dX2_call_8 (by decide) ?_
    refine xr_icmp_ge A (tgt := 16) dX2_call_9 (by decide) (fun c9 => ?_) (fun c9 => ?_)
    · replace hf := ab_ip c9 hf
      refine xr_iconst A (v := 0) dX2_call_16 (by decide) ?_
      exact wX2_call_b17 A hf
    · replace hf := ab_in c9 hf
      refine xr_iconst A (v := 1) dX2_call_12 (by decide) ?_
      refine xr_goto A (tgt := 17) dX2_call_13 (by decide) ?_
      exact wX2_call_b17 A hf
/-! X14_init -/
theorem bX14_init : MB yX14_init cX14_init 3 (none : Option FieldType) 2 := ⟨q971, q113, by decide, by decide +kernel⟩
noncomputable def fX14_init (x : Nat) (p1 : Option Nat) (p2 : Int32) (h : Hp) : Option Hp :=
  ab_bd (fX7_init x p1 p2 h) fun h2 =>
  some h2
theorem wX14_init (D : Dd) {x : Nat} {p1 : Option Nat} {p2 : Int32} {h : Hp} {h' : Hp} (hf : fX14_init x p1 p2 h = some h') : Ct D 2 42 yX14_init cX14_init 3 (none : Option FieldType) [vR (some x), vR p1, vI p2] h (.inl none) h' := by
    unfold fX14_init at hf
    refine Ct.of (by decide) (L := [(0, vR (some x)), (1, vR p1), (2, vI p2)]) rfl (Nat.le_of_ble_eq_true rfl) (fun C A => ?_)
    refine xr_aload_n A dX14_init_0 0 rfl rfl ?_
    refine xr_aload_n A dX14_init_1 1 rfl rfl ?_
    refine xr_iload_n A dX14_init_2 2 rfl rfl ?_
    revert hf; refine ab_bdI (fun h2 m1 hf => ?_)
    refine xr_I0 A bX7_init (wX7_init D m1) rfl q758 q972 (av := [vR p1, vI p2]) (rest := []) rfl dX14_init_3 (Nat.le_of_ble_eq_true rfl) (Nat.le_of_ble_eq_true rfl) rfl (Nat.le_of_ble_eq_true rfl) ?_
    exact xr_return A hf dX14_init_6
/-! X1_lies -/
theorem bX1_lies : MB yX1_lies cX1_lies 2 (some FieldType.boolean) 2 := ⟨q987, q92, by decide, by decide +kernel⟩
noncomputable def fX1_lies (p0 : Int32) (p1 : Int32) (h : Hp) : Option (Int32 × Hp) :=
  if ((p0 >>> (p1 &&& 31)) &&& (1 : Int32)) = (1 : Int32) then (
    some ((1 : Int32), h))
  else (
    some ((0 : Int32), h))
theorem wX1_lies (D : Dd) {p0 : Int32} {p1 : Int32} {h : Hp} {r : Int32} {h' : Hp} (hf : fX1_lies p0 p1 h = some (r, h')) : Ct D 1 20 yX1_lies cX1_lies 2 (some FieldType.boolean) [vI p0, vI p1] h (.inl (some (vI r))) h' := by
    unfold fX1_lies at hf
    refine Ct.of (by decide) (L := [(0, vI p0), (1, vI p1)]) rfl (Nat.le_of_ble_eq_true rfl) (fun C A => ?_)
    refine xr_iload_n A dX1_lies_0 0 rfl rfl ?_
    refine xr_iload_n A dX1_lies_1 1 rfl rfl ?_
    refine xr_ishr A dX1_lies_2 ?_
    refine xr_iconst A (v := 1) dX1_lies_3 (by decide) ?_
    refine xr_iand A dX1_lies_4 ?_
    refine xr_iconst A (v := 1) dX1_lies_5 (by decide) ?_
    refine xr_icmp_ne A (tgt := 13) dX1_lies_6 (by decide) (fun c6 => ?_) (fun c6 => ?_)
    · replace hf := ab_in c6 hf
      refine xr_iconst A (v := 0) dX1_lies_13 (by decide) ?_
      exact xr_ireturn A rfl hf dX1_lies_14
    · replace hf := ab_ip c6 hf
      refine xr_iconst A (v := 1) dX1_lies_9 (by decide) ?_
      refine xr_goto A (tgt := 14) dX1_lies_10 (by decide) ?_
      exact xr_ireturn A rfl hf dX1_lies_14
/-! X2_helper -/
theorem bX2_helper : MB yX2_helper cX2_helper 3 (none : Option FieldType) 0 := ⟨q966, q93, by decide, by decide +kernel⟩
noncomputable def fX2_helper_b94 (x : Nat) (K49 : Nat → Int32 → Hp → Option ((Unit ⊕ Nat) × Hp)) (l1 : Nat) (h : Hp) : Option ((Unit ⊕ Nat) × Hp) :=
  ab_bd (ab_gI h l1 12 2) fun v1 =>
  ab_bx (fX2_number x (0 : Int32) (6 : Int32) h) (fun v4 h3 =>
  ab_bd (ab_pI h3 l1 12 2 (v1 ||| ((1 : Int32) <<< (v4 &&& 31)))) fun h5 =>
  ab_bd (ab_gI h5 x 1 5) fun v6 =>
  if v6 = (44 : Int32) then (
    ab_bd (fX2_next x h5) fun h8 =>
    K49 l1 (1 : Int32) h8)
  else (
    K49 l1 (0 : Int32) h5)) fun qh3 gh3 => some (.inr qh3, gh3)
theorem wX2_helper_b94 {D : Dd} {C : Cx} {h0 h' : Hp} {ρ : Unit ⊕ Nat} (A : Act C D (h0, (xoV ρ), h') yX2_helper cX2_helper 3 (none : Option FieldType) 9 206 []) {x : Nat} {K49 : Nat → Int32 → Hp → Option ((Unit ⊕ Nat) × Hp)} (hK49 : ∀ {l1 : Nat} {l2 : Int32} {h : Hp}, K49 l1 l2 h = some (ρ, h') → X C D (h0, (xoV ρ), h') 3 49 [(0, vR (some x)), (1, vR (some l1)), (2, vI l2)] [] h) {l1 : Nat} {h : Hp} (hf : fX2_helper_b94 x K49 l1 h = some (ρ, h')) : X C D (h0, (xoV ρ), h') 3 94 [(0, vR (some x)), (1, vR (some l1))] [] h := by
  unfold fX2_helper_b94 at hf
  refine xr_aload_n A dX2_helper_94 1 rfl rfl ?_
  refine xr_dup A dX2_helper_95 rfl ?_
  revert hf; refine ab_bdI (fun v1 mv1 hf => ?_)
  refine xr_get A xc_X14 in_X14 2 (Nat.le_of_ble_eq_true rfl) q973 rfl (ab_gIE mv1) dX2_helper_96 ?_
  refine xr_iconst A (v := 1) dX2_helper_99 (by decide) ?_
  refine xr_aload_n A dX2_helper_100 0 rfl rfl ?_
  refine xr_iconst A (v := 0) dX2_helper_101 (by decide) ?_
  refine xr_bipush A (v := 6) dX2_helper_102 (by decide) ?_
  revert hf; refine ab_bxI (fun v4 h3 m2 hf => ?_) (fun qh3 gh3 m2 hf => ?_)
  · refine xr_V A bX2_number (wX2_number D m2).2 xc_X2 (wX2_number D m2).1 q727 qs13 q725 (av := [vI (0 : Int32), vI (6 : Int32)]) (rest := [vI (1 : Int32), vI v1, vR (some l1)]) rfl dX2_helper_104 (Nat.le_of_ble_eq_true rfl) (Nat.le_of_ble_eq_true rfl) rfl (Nat.le_of_ble_eq_true rfl) ?_
    refine xr_ishl A dX2_helper_107 ?_
    refine xr_ior A dX2_helper_108 ?_
    revert hf; refine ab_bdI (fun h5 mh5 hf => ?_)
    refine xr_put A xc_X14 in_X14 tyX14_ok nmX14 2 (Nat.le_of_ble_eq_true rfl) q973 rfl rfl (v := vI (v1 ||| ((1 : Int32) <<< (v4 &&& 31)))) rfl rfl mh5 dX2_helper_109 ?_
    refine xr_aload_n A dX2_helper_112 0 rfl rfl ?_
    revert hf; refine ab_bdI (fun v6 mv6 hf => ?_)
    refine xr_get A xc_X2 in_X2 5 (Nat.le_of_ble_eq_true rfl) q211 rfl (ab_gIE mv6) dX2_helper_113 ?_
    refine xr_bipush A (v := 44) dX2_helper_116 (by decide) ?_
    refine xr_icmp_ne A (tgt := 125) dX2_helper_118 (by decide) (fun c118 => ?_) (fun c118 => ?_)
    · replace hf := ab_in c118 hf
      refine xr_iconst A (v := 0) dX2_helper_125 (by decide) ?_
      refine xr_istore_n A dX2_helper_126 rfl (Nat.le_of_ble_eq_true rfl) (L' := [(2, vI (0 : Int32)), (0, vR (some x)), (1, vR (some l1))]) rfl ?_
      refine xr_iload_n A dX2_helper_127 0 rfl rfl ?_
      refine xr_if_eq A (tgt := 49) dX2_helper_128 (by decide) (fun _ => ?_) (fun c128 => absurd c128 (by decide))
      refine X.sub [1, 2, 0] rfl ?_
      exact hK49 hf
    · replace hf := ab_ip c118 hf
      refine xr_iconst A (v := 1) dX2_helper_121 (by decide) ?_
      refine xr_goto A (tgt := 126) dX2_helper_122 (by decide) ?_
      refine xr_istore_n A dX2_helper_126 rfl (Nat.le_of_ble_eq_true rfl) (L' := [(2, vI (1 : Int32)), (0, vR (some x)), (1, vR (some l1))]) rfl ?_
      refine xr_iload_n A dX2_helper_127 0 rfl rfl ?_
      refine xr_if_eq A (tgt := 49) dX2_helper_128 (by decide) (fun c128 => absurd c128 (by decide)) (fun _ => ?_)
      refine xr_aload_n A dX2_helper_131 1 rfl rfl ?_
      revert hf; refine ab_bdI (fun h8 m7 hf => ?_)
      refine xr_V0 A bX2_next (wX2_next D m7).2 xc_X2 (wX2_next D m7).1 q530 qs4 q528 (av := []) (rest := []) rfl dX2_helper_132 (Nat.le_of_ble_eq_true rfl) (Nat.le_of_ble_eq_true rfl) rfl (Nat.le_of_ble_eq_true rfl) ?_
      refine xr_goto A (tgt := 49) dX2_helper_135 (by decide) ?_
      refine X.sub [1, 2, 0] rfl ?_
      exact hK49 hf
  · refine xr_VX A bX2_number (wX2_number D m2).2 xc_X2 (wX2_number D m2).1 q727 qs13 q725 (av := [vI (0 : Int32), vI (6 : Int32)]) (rest := [vI (1 : Int32), vI v1, vR (some l1)]) rfl dX2_helper_104 (Nat.le_of_ble_eq_true rfl) (Nat.le_of_ble_eq_true rfl) rfl (Nat.le_of_ble_eq_true rfl) ?_
    obtain ⟨rfl, rfl⟩ := ab_pr hf
    exact xr_out A rfl
noncomputable def fX2_helper_l49 (x : Nat) : Nat → Nat → Int32 → Hp → Option ((Unit ⊕ Nat) × Hp)
  | 0, _, _, _ => none
  | n + 1, l1, l2, h =>
  if l2 = 0 then (
    ab_bx (fX2_told x (some (hstr h 30)) (1 : Int32) (7 : Int32) h) (fun v3 h2 =>
    ab_bd (ab_pI h2 l1 12 3 v3) fun h4 =>
    ab_bd (ab_gR h4 x 1 9) fun v5 =>
    ab_bd v5 fun a6 =>
    ab_bd (ab_gR h4 a6 5 6) fun v7 =>
    ab_bd (ab_gR h4 x 1 9) fun v8 =>
    ab_bd v8 fun a9 =>
    ab_bd (ab_gI h4 a9 5 15) fun v10 =>
    ab_bd v7 fun a11 =>
    ab_bd (ab_sR h4 a11 12 12 v10 l1) fun h12 =>
    ab_bd (ab_gR h12 x 1 9) fun v13 =>
    ab_bd v13 fun a14 =>
    ab_bd (ab_gI h12 a14 5 15) fun v15 =>
    ab_bd (ab_pI h12 a14 5 15 (v15 + (1 : Int32))) fun h16 =>
    some (.inl (), h16)) fun qh2 gh2 => some (.inr qh2, gh2))
  else (
    ab_bd (ab_gI h x 1 5) fun v17 =>
    if v17 = (3 : Int32) then (
      ab_bd (ab_gI h x 1 7) fun v18 =>
      ab_b2 (fX1_in v18 (0 : Int32) (6 : Int32) h) fun v21 h20 =>
      if v21 = 0 then (
        fX2_helper_b94 x (fX2_helper_l49 x n) l1 h20)
      else (
        ab_bd (ab_gI h20 l1 12 2) fun v22 =>
        ab_bd (ab_gI h20 x 1 7) fun v23 =>
        ab_b2 (fX1_lies v22 v23 h20) fun v26 h25 =>
        if v26 = 0 then (
          fX2_helper_b94 x (fX2_helper_l49 x n) l1 h25)
        else (
          ab_b2 (fX2_fail x (3 : Int32) h25) fun v29 h28 =>
          ab_bd v29 fun a30 =>
          ab_cz h28 a30 2 <| some (.inr a30, h28))))
    else (
      fX2_helper_b94 x (fX2_helper_l49 x n) l1 h))
theorem wX2_helper_l49 {D : Dd} {C : Cx} {h0 h' : Hp} {ρ : Unit ⊕ Nat} (A : Act C D (h0, (xoV ρ), h') yX2_helper cX2_helper 3 (none : Option FieldType) 9 206 []) {x : Nat} : ∀ (n : Nat) {l1 : Nat} {l2 : Int32} {h : Hp}, fX2_helper_l49 x n l1 l2 h = some (ρ, h') → X C D (h0, (xoV ρ), h') 3 49 [(0, vR (some x)), (1, vR (some l1)), (2, vI l2)] [] h := by
  intro n
  induction n with
  | zero => intro l1 l2 h hf; exact ab_no hf
  | succ n ih =>
    intro l1 l2 h hf
    unfold fX2_helper_l49 at hf
    refine xr_iload_n A dX2_helper_49 2 rfl rfl ?_
    refine xr_if_eq A (tgt := 138) dX2_helper_50 (by decide) (fun c50 => ?_) (fun c50 => ?_)
    · replace hf := ab_ip c50 hf
      refine xr_aload_n A dX2_helper_138 1 rfl rfl ?_
      refine xr_aload_n A dX2_helper_139 0 rfl rfl ?_
      refine xr_ldcsw A t988 dX2_helper_140 ?_
      refine xr_iconst A (v := 1) dX2_helper_143 (by decide) ?_
      refine xr_bipush A (v := 7) dX2_helper_144 (by decide) ?_
      revert hf; refine ab_bxI (fun v3 h2 m1 hf => ?_) (fun qh2 gh2 m1 hf => ?_)
      · refine xr_V A bX2_told (wX2_told D m1).2 xc_X2 (wX2_told D m1).1 q711 qs9 q709 (av := [vR (some (hstr h 30)), vI (1 : Int32), vI (7 : Int32)]) (rest := [vR (some l1)]) rfl dX2_helper_146 (Nat.le_of_ble_eq_true rfl) (Nat.le_of_ble_eq_true rfl) rfl (Nat.le_of_ble_eq_true rfl) ?_
        revert hf; refine ab_bdI (fun h4 mh4 hf => ?_)
        refine xr_put A xc_X14 in_X14 tyX14_ok nmX14 3 (Nat.le_of_ble_eq_true rfl) q975 rfl rfl (v := vI v3) rfl rfl mh4 dX2_helper_149 ?_
        refine xr_aload_n A dX2_helper_152 0 rfl rfl ?_
        revert hf; refine ab_bdI (fun v5 mv5 hf => ?_)
        refine xr_get A xc_X2 in_X2 9 (Nat.le_of_ble_eq_true rfl) q215 rfl (ab_gRE mv5) dX2_helper_153 ?_
        revert hf; refine ab_bdI (fun a6 e hf => ?_); subst e
        revert hf; refine ab_bdI (fun v7 mv7 hf => ?_)
        refine xr_get A xc_X6 in_X6 6 (Nat.le_of_ble_eq_true rfl) q454 rfl (ab_gRE mv7) dX2_helper_156 ?_
        refine xr_aload_n A dX2_helper_159 0 rfl rfl ?_
        revert hf; refine ab_bdI (fun v8 mv8 hf => ?_)
        refine xr_get A xc_X2 in_X2 9 (Nat.le_of_ble_eq_true rfl) q215 rfl (ab_gRE mv8) dX2_helper_160 ?_
        revert hf; refine ab_bdI (fun a9 e hf => ?_); subst e
        revert hf; refine ab_bdI (fun v10 mv10 hf => ?_)
        refine xr_get A xc_X6 in_X6 15 (Nat.le_of_ble_eq_true rfl) q479 rfl (ab_gIE mv10) dX2_helper_163 ?_
        refine xr_aload_n A dX2_helper_166 1 rfl rfl ?_
        revert hf; refine ab_bdI (fun a11 e hf => ?_); subst e
        revert hf; refine ab_bdI (fun h12 mh12 hf => ?_)
        refine xr_aastore A (t := 12) (ci := 12) rfl xc_X14 mh12 dX2_helper_167 ?_
        refine xr_aload_n A dX2_helper_168 0 rfl rfl ?_
        revert hf; refine ab_bdI (fun v13 mv13 hf => ?_)
        refine xr_get A xc_X2 in_X2 9 (Nat.le_of_ble_eq_true rfl) q215 rfl (ab_gRE mv13) dX2_helper_169 ?_
        refine xr_dup A dX2_helper_172 rfl ?_
        revert hf; refine ab_bdI (fun a14 e hf => ?_); subst e
        revert hf; refine ab_bdI (fun v15 mv15 hf => ?_)
        refine xr_get A xc_X6 in_X6 15 (Nat.le_of_ble_eq_true rfl) q479 rfl (ab_gIE mv15) dX2_helper_173 ?_
        refine xr_iconst A (v := 1) dX2_helper_176 (by decide) ?_
        refine xr_iadd A dX2_helper_177 ?_
        revert hf; refine ab_bdI (fun h16 mh16 hf => ?_)
        refine xr_put A xc_X6 in_X6 tyX6_ok nmX6 15 (Nat.le_of_ble_eq_true rfl) q479 rfl rfl (v := vI (v15 + (1 : Int32))) rfl rfl mh16 dX2_helper_178 ?_
        obtain ⟨rfl, rfl⟩ := ab_pr hf
        exact xr_return A rfl dX2_helper_181
      · refine xr_VX A bX2_told (wX2_told D m1).2 xc_X2 (wX2_told D m1).1 q711 qs9 q709 (av := [vR (some (hstr h 30)), vI (1 : Int32), vI (7 : Int32)]) (rest := [vR (some l1)]) rfl dX2_helper_146 (Nat.le_of_ble_eq_true rfl) (Nat.le_of_ble_eq_true rfl) rfl (Nat.le_of_ble_eq_true rfl) ?_
        obtain ⟨rfl, rfl⟩ := ab_pr hf
        exact xr_out A rfl
    · replace hf := ab_in c50 hf
      refine xr_aload_n A dX2_helper_53 0 rfl rfl ?_
      revert hf; refine ab_bdI (fun v17 mv17 hf => ?_)
      refine xr_get A xc_X2 in_X2 5 (Nat.le_of_ble_eq_true rfl) q211 rfl (ab_gIE mv17) dX2_helper_54 ?_
      refine xr_iconst A (v := 3) dX2_helper_57 (by decide) ?_
      refine xr_icmp_ne A (tgt := 94) dX2_helper_58 (by decide) (fun c58 => ?_) (fun c58 => ?_)
      · replace hf := ab_in c58 hf
        refine X.sub [0, 1] rfl ?_
        exact wX2_helper_b94 A (fun hf => ih hf) hf
      · replace hf := ab_ip c58 hf
        refine xr_aload_n A dX2_helper_61 0 rfl rfl ?_
        revert hf; refine ab_bdI (fun v18 mv18 hf => ?_)
        refine xr_get A xc_X2 in_X2 7 (Nat.le_of_ble_eq_true rfl) q213 rfl (ab_gIE mv18) dX2_helper_62 ?_
        refine xr_iconst A (v := 0) dX2_helper_65 (by decide) ?_
        refine xr_bipush A (v := 6) dX2_helper_66 (by decide) ?_
        revert hf; refine ab_b2I (fun v21 h20 m19 hf => ?_)
        refine xr_SN A bX1_in (wX1_in D m19) q405 n539 (av := [vI v18, vI (0 : Int32), vI (6 : Int32)]) (rest := []) rfl dX2_helper_68 (Nat.le_of_ble_eq_true rfl) (Nat.le_of_ble_eq_true rfl) rfl (Nat.le_of_ble_eq_true rfl) ?_
        refine xr_if_eq A (tgt := 94) dX2_helper_71 (by decide) (fun c71 => ?_) (fun c71 => ?_)
        · replace hf := ab_ip c71 hf
          refine X.sub [0, 1] rfl ?_
          exact wX2_helper_b94 A (fun hf => ih hf) hf
        · replace hf := ab_in c71 hf
          refine xr_aload_n A dX2_helper_74 1 rfl rfl ?_
          revert hf; refine ab_bdI (fun v22 mv22 hf => ?_)
          refine xr_get A xc_X14 in_X14 2 (Nat.le_of_ble_eq_true rfl) q973 rfl (ab_gIE mv22) dX2_helper_75 ?_
          refine xr_aload_n A dX2_helper_78 0 rfl rfl ?_
          revert hf; refine ab_bdI (fun v23 mv23 hf => ?_)
          refine xr_get A xc_X2 in_X2 7 (Nat.le_of_ble_eq_true rfl) q213 rfl (ab_gIE mv23) dX2_helper_79 ?_
          revert hf; refine ab_b2I (fun v26 h25 m24 hf => ?_)
          refine xr_SN A bX1_lies (wX1_lies D m24) q986 n985 (av := [vI v22, vI v23]) (rest := []) rfl dX2_helper_82 (Nat.le_of_ble_eq_true rfl) (Nat.le_of_ble_eq_true rfl) rfl (Nat.le_of_ble_eq_true rfl) ?_
          refine xr_if_eq A (tgt := 94) dX2_helper_85 (by decide) (fun c85 => ?_) (fun c85 => ?_)
          · replace hf := ab_ip c85 hf
            refine X.sub [0, 1] rfl ?_
            exact wX2_helper_b94 A (fun hf => ih hf) hf
          · replace hf := ab_in c85 hf
            refine xr_aload_n A dX2_helper_88 0 rfl rfl ?_
            refine xr_iconst A (v := 3) dX2_helper_89 (by decide) ?_
            revert hf; refine ab_b2I (fun v29 h28 m27 hf => ?_)
            refine xr_V A bX2_fail (wX2_fail D m27).2 xc_X2 (wX2_fail D m27).1 q628 qs7 q626 (av := [vI (3 : Int32)]) (rest := []) rfl dX2_helper_90 (Nat.le_of_ble_eq_true rfl) (Nat.le_of_ble_eq_true rfl) rfl (Nat.le_of_ble_eq_true rfl) ?_
            revert hf; refine ab_bdI (fun a30 e hf => ?_); subst e
            replace hf := ab_czE hf; obtain ⟨i93, hf⟩ := hf
            refine xr_athrow A i93 dX2_helper_93 ?_
            obtain ⟨rfl, rfl⟩ := ab_pr hf
            exact xr_out A rfl
noncomputable def fX2_helper_b17 (x : Nat) (s0 : Int32) (s1 : Nat) (h : Hp) : Option ((Unit ⊕ Nat) × Hp) :=
  ab_bx (fX2_begins s1 s0 (5 : Int32) h) (fun _ h2 =>
  ab_b2 (ab_new h2 12 4 tyX14) fun a3 h4 =>
  ab_bx (fX2_newName x h4) (fun v7 h6 =>
  ab_bd (ab_gR h6 x 1 9) fun v8 =>
  ab_bd v8 fun a9 =>
  ab_bd (ab_gI h6 a9 5 15) fun v10 =>
  ab_bd (fX14_init a3 v7 v10 h6) fun h12 =>
  ab_bx (fX2_must x (some (hstr h12 29)) h12) (fun _ h14 =>
  fX2_helper_l49 x (hfu h14) a3 (1 : Int32) h14) fun qh14 gh14 => some (.inr qh14, gh14)) fun qh6 gh6 => some (.inr qh6, gh6)) fun qh2 gh2 => some (.inr qh2, gh2)
theorem wX2_helper_b17 {D : Dd} {C : Cx} {h0 h' : Hp} {ρ : Unit ⊕ Nat} (A : Act C D (h0, (xoV ρ), h') yX2_helper cX2_helper 3 (none : Option FieldType) 9 206 []) {x : Nat} {s0 : Int32} {s1 : Nat} {h : Hp} (hf : fX2_helper_b17 x s0 s1 h = some (ρ, h')) : X C D (h0, (xoV ρ), h') 3 17 [(0, vR (some x))] [vI s0, vR (some s1)] h := by
  unfold fX2_helper_b17 at hf
  refine xr_iconst A (v := 5) dX2_helper_17 (by decide) ?_
  revert hf; refine ab_bxI (fun uh2 h2 m1 hf => ?_) (fun qh2 gh2 m1 hf => ?_)
  · refine xr_V0 A bX2_begins (wX2_begins D m1).2 xc_X2 (wX2_begins D m1).1 q706 qs8 q704 (av := [vI s0, vI (5 : Int32)]) (rest := []) rfl dX2_helper_18 (Nat.le_of_ble_eq_true rfl) (Nat.le_of_ble_eq_true rfl) rfl (Nat.le_of_ble_eq_true rfl) ?_
    revert hf; refine ab_b2I (fun a3 h4 mh4 hf => ?_)
    refine xr_new A xc_X14 in_X14 tyX14_ok q967 q968 q113 mh4 dX2_helper_21 ?_
    refine xr_dup A dX2_helper_24 rfl ?_
    refine xr_aload_n A dX2_helper_25 0 rfl rfl ?_
    revert hf; refine ab_bxI (fun v7 h6 m5 hf => ?_) (fun qh6 gh6 m5 hf => ?_)
    · refine xr_V A bX2_newName (wX2_newName D m5).2 xc_X2 (wX2_newName D m5).1 q738 qs15 q736 (av := []) (rest := [vR (some a3), vR (some a3)]) rfl dX2_helper_26 (Nat.le_of_ble_eq_true rfl) (Nat.le_of_ble_eq_true rfl) rfl (Nat.le_of_ble_eq_true rfl) ?_
      refine xr_aload_n A dX2_helper_29 0 rfl rfl ?_
      revert hf; refine ab_bdI (fun v8 mv8 hf => ?_)
      refine xr_get A xc_X2 in_X2 9 (Nat.le_of_ble_eq_true rfl) q215 rfl (ab_gRE mv8) dX2_helper_30 ?_
      revert hf; refine ab_bdI (fun a9 e hf => ?_); subst e
      revert hf; refine ab_bdI (fun v10 mv10 hf => ?_)
      refine xr_get A xc_X6 in_X6 15 (Nat.le_of_ble_eq_true rfl) q479 rfl (ab_gIE mv10) dX2_helper_33 ?_
      revert hf; refine ab_bdI (fun h12 m11 hf => ?_)
      refine xr_I0 A bX14_init (wX14_init D m11) rfl q970 q969 (av := [vR v7, vI v10]) (rest := [vR (some a3)]) rfl dX2_helper_36 (Nat.le_of_ble_eq_true rfl) (Nat.le_of_ble_eq_true rfl) rfl (Nat.le_of_ble_eq_true rfl) ?_
      refine xr_astore_n A dX2_helper_39 rfl (Nat.le_of_ble_eq_true rfl) (L' := [(1, vR (some a3)), (0, vR (some x))]) rfl ?_
      refine xr_aload_n A dX2_helper_40 1 rfl rfl ?_
      refine xr_ldcsw A t984 dX2_helper_41 ?_
      revert hf; refine ab_bxI (fun uh14 h14 m13 hf => ?_) (fun qh14 gh14 m13 hf => ?_)
      · refine xr_V0 A bX2_must (wX2_must D m13).2 xc_X2 (wX2_must D m13).1 q715 qs10 q713 (av := [vR (some (hstr h12 29))]) (rest := []) rfl dX2_helper_44 (Nat.le_of_ble_eq_true rfl) (Nat.le_of_ble_eq_true rfl) rfl (Nat.le_of_ble_eq_true rfl) ?_
        refine xr_iconst A (v := 1) dX2_helper_47 (by decide) ?_
        refine xr_istore_n A dX2_helper_48 rfl (Nat.le_of_ble_eq_true rfl) (L' := [(2, vI (1 : Int32)), (1, vR (some a3)), (0, vR (some x))]) rfl ?_
        refine X.sub [2, 1, 0] rfl ?_
        exact wX2_helper_l49 A _ hf
      · refine xr_VX A bX2_must (wX2_must D m13).2 xc_X2 (wX2_must D m13).1 q715 qs10 q713 (av := [vR (some (hstr h12 29))]) (rest := []) rfl dX2_helper_44 (Nat.le_of_ble_eq_true rfl) (Nat.le_of_ble_eq_true rfl) rfl (Nat.le_of_ble_eq_true rfl) ?_
        obtain ⟨rfl, rfl⟩ := ab_pr hf
        exact xr_out A rfl
    · refine xr_VX A bX2_newName (wX2_newName D m5).2 xc_X2 (wX2_newName D m5).1 q738 qs15 q736 (av := []) (rest := [vR (some a3), vR (some a3)]) rfl dX2_helper_26 (Nat.le_of_ble_eq_true rfl) (Nat.le_of_ble_eq_true rfl) rfl (Nat.le_of_ble_eq_true rfl) ?_
      obtain ⟨rfl, rfl⟩ := ab_pr hf
      exact xr_out A rfl
  · refine xr_VX A bX2_begins (wX2_begins D m1).2 xc_X2 (wX2_begins D m1).1 q706 qs8 q704 (av := [vI s0, vI (5 : Int32)]) (rest := []) rfl dX2_helper_18 (Nat.le_of_ble_eq_true rfl) (Nat.le_of_ble_eq_true rfl) rfl (Nat.le_of_ble_eq_true rfl) ?_
    obtain ⟨rfl, rfl⟩ := ab_pr hf
    exact xr_out A rfl
noncomputable def fX2_helper (x : Nat) (h : Hp) : Option ((Unit ⊕ Nat) × Hp) :=
  ab_ck h x 1 <|
  ab_bd (ab_gR h x 1 9) fun v1 =>
  ab_bd v1 fun a2 =>
  ab_bd (ab_gI h a2 5 15) fun v3 =>
  if (5 : Int32) ≤ v3 then (
    fX2_helper_b17 x (0 : Int32) x h)
  else (
    fX2_helper_b17 x (1 : Int32) x h)
theorem wX2_helper (D : Dd) {x : Nat} {h : Hp} {ρ : Unit ⊕ Nat} {h' : Hp} (hf : fX2_helper x h = some (ρ, h')) : ab_is h x 1 ∧ Ct D 9 206 yX2_helper cX2_helper 3 (none : Option FieldType) [vR (some x)] h (xoV ρ) h' := by
    unfold fX2_helper at hf
    replace hf := ab_ckE hf; obtain ⟨i0, hf⟩ := hf
    refine ⟨i0, ?_⟩
    refine Ct.of (by decide) (L := [(0, vR (some x))]) rfl (Nat.le_of_ble_eq_true rfl) (fun C A => ?_)
    refine xr_aload_n A dX2_helper_0 0 rfl rfl ?_
    refine xr_aload_n A dX2_helper_1 0 rfl rfl ?_
    revert hf; refine ab_bdI (fun v1 mv1 hf => ?_)
    refine xr_get A xc_X2 in_X2 9 (Nat.le_of_ble_eq_true rfl) q215 rfl (ab_gRE mv1) dX2_helper_2 ?_
    revert hf; refine ab_bdI (fun a2 e hf => ?_); subst e
    revert hf; refine ab_bdI (fun v3 mv3 hf => ?_)
    refine xr_get A xc_X6 in_X6 15 (Nat.le_of_ble_eq_true rfl) q479 rfl (ab_gIE mv3) dX2_helper_5 ?_
    refine xr_iconst A (v := 5) dX2_helper_8 (by decide) ?_
    refine xr_icmp_ge A (tgt := 16) dX2_helper_9 (by decide) (fun c9 => ?_) (fun c9 => ?_)
    · replace hf := ab_ip c9 hf
      refine xr_iconst A (v := 0) dX2_helper_16 (by decide) ?_
      exact wX2_helper_b17 A hf
    · replace hf := ab_in c9 hf
      refine xr_iconst A (v := 1) dX2_helper_12 (by decide) ?_
      refine xr_goto A (tgt := 17) dX2_helper_13 (by decide) ?_
      exact wX2_helper_b17 A hf
/-! X2_line -/
theorem bX2_line : MB yX2_line cX2_line 4 (none : Option FieldType) 0 := ⟨q625, q93, by decide, by decide +kernel⟩
noncomputable def fX2_line_b300 (x : Nat) (s0 : Int32) (s1 : Nat) (h : Hp) : Option ((Unit ⊕ Nat) × Hp) :=
  ab_bx (fX2_begins s1 s0 (3 : Int32) h) (fun _ h2 =>
  ab_bx (fX2_told x (some (hstr h2 10)) (40 : Int32) (90 : Int32) h2) (fun v5 h4 =>
  ab_bd (ab_gR h4 x 1 9) fun v6 =>
  ab_bx (fX2_told x (some (hstr h4 11)) (600 : Int32) (900 : Int32) h4) (fun v9 h8 =>
  ab_bd v6 fun a10 =>
  ab_bd (ab_pI h8 a10 5 18 v9) fun h11 =>
  ab_bd (ab_gR h11 x 1 9) fun v12 =>
  ab_bd v12 fun a13 =>
  ab_bd (ab_pI h11 a13 5 17 v5) fun h14 =>
  some (.inl (), h14)) fun qh8 gh8 => some (.inr qh8, gh8)) fun qh4 gh4 => some (.inr qh4, gh4)) fun qh2 gh2 => some (.inr qh2, gh2)
theorem wX2_line_b300 {D : Dd} {C : Cx} {h0 h' : Hp} {ρ : Unit ⊕ Nat} (A : Act C D (h0, (xoV ρ), h') yX2_line cX2_line 4 (none : Option FieldType) 10 228 []) {x : Nat} {s0 : Int32} {s1 : Nat} {h : Hp} (hf : fX2_line_b300 x s0 s1 h = some (ρ, h')) : X C D (h0, (xoV ρ), h') 4 300 [(0, vR (some x))] [vI s0, vR (some s1)] h := by
  unfold fX2_line_b300 at hf
  refine xr_iconst A (v := 3) dX2_line_300 (by decide) ?_
  revert hf; refine ab_bxI (fun uh2 h2 m1 hf => ?_) (fun qh2 gh2 m1 hf => ?_)
  · refine xr_V0 A bX2_begins (wX2_begins D m1).2 xc_X2 (wX2_begins D m1).1 q706 qs8 q704 (av := [vI s0, vI (3 : Int32)]) (rest := []) rfl dX2_line_301 (Nat.le_of_ble_eq_true rfl) (Nat.le_of_ble_eq_true rfl) rfl (Nat.le_of_ble_eq_true rfl) ?_
    refine xr_aload_n A dX2_line_304 0 rfl rfl ?_
    refine xr_ldcs A t708 dX2_line_305 ?_
    refine xr_bipush A (v := 40) dX2_line_307 (by decide) ?_
    refine xr_bipush A (v := 90) dX2_line_309 (by decide) ?_
    revert hf; refine ab_bxI (fun v5 h4 m3 hf => ?_) (fun qh4 gh4 m3 hf => ?_)
    · refine xr_V A bX2_told (wX2_told D m3).2 xc_X2 (wX2_told D m3).1 q711 qs9 q709 (av := [vR (some (hstr h2 10)), vI (40 : Int32), vI (90 : Int32)]) (rest := []) rfl dX2_line_311 (Nat.le_of_ble_eq_true rfl) (Nat.le_of_ble_eq_true rfl) rfl (Nat.le_of_ble_eq_true rfl) ?_
      refine xr_istore_n A dX2_line_314 rfl (Nat.le_of_ble_eq_true rfl) (L' := [(3, vI v5), (0, vR (some x))]) rfl ?_
      refine xr_aload_n A dX2_line_315 1 rfl rfl ?_
      revert hf; refine ab_bdI (fun v6 mv6 hf => ?_)
      refine xr_get A xc_X2 in_X2 9 (Nat.le_of_ble_eq_true rfl) q215 rfl (ab_gRE mv6) dX2_line_316 ?_
      refine xr_aload_n A dX2_line_319 1 rfl rfl ?_
      refine xr_ldcs A t729 dX2_line_320 ?_
      refine xr_sipush A (v := 600) dX2_line_322 (by decide) ?_
      refine xr_sipush A (v := 900) dX2_line_325 (by decide) ?_
      revert hf; refine ab_bxI (fun v9 h8 m7 hf => ?_) (fun qh8 gh8 m7 hf => ?_)
      · refine xr_V A bX2_told (wX2_told D m7).2 xc_X2 (wX2_told D m7).1 q711 qs9 q709 (av := [vR (some (hstr h4 11)), vI (600 : Int32), vI (900 : Int32)]) (rest := [vR v6]) rfl dX2_line_328 (Nat.le_of_ble_eq_true rfl) (Nat.le_of_ble_eq_true rfl) rfl (Nat.le_of_ble_eq_true rfl) ?_
        revert hf; refine ab_bdI (fun a10 e hf => ?_); subst e
        revert hf; refine ab_bdI (fun h11 mh11 hf => ?_)
        refine xr_put A xc_X6 in_X6 tyX6_ok nmX6 18 (Nat.le_of_ble_eq_true rfl) q488 rfl rfl (v := vI v9) rfl rfl mh11 dX2_line_331 ?_
        refine xr_aload_n A dX2_line_334 1 rfl rfl ?_
        revert hf; refine ab_bdI (fun v12 mv12 hf => ?_)
        refine xr_get A xc_X2 in_X2 9 (Nat.le_of_ble_eq_true rfl) q215 rfl (ab_gRE mv12) dX2_line_335 ?_
        refine xr_iload_n A dX2_line_338 0 rfl rfl ?_
        revert hf; refine ab_bdI (fun a13 e hf => ?_); subst e
        revert hf; refine ab_bdI (fun h14 mh14 hf => ?_)
        refine xr_put A xc_X6 in_X6 tyX6_ok nmX6 17 (Nat.le_of_ble_eq_true rfl) q485 rfl rfl (v := vI v5) rfl rfl mh14 dX2_line_339 ?_
        refine xr_goto A (tgt := 483) dX2_line_342 (by decide) ?_
        obtain ⟨rfl, rfl⟩ := ab_pr hf
        exact xr_return A rfl dX2_line_483
      · refine xr_VX A bX2_told (wX2_told D m7).2 xc_X2 (wX2_told D m7).1 q711 qs9 q709 (av := [vR (some (hstr h4 11)), vI (600 : Int32), vI (900 : Int32)]) (rest := [vR v6]) rfl dX2_line_328 (Nat.le_of_ble_eq_true rfl) (Nat.le_of_ble_eq_true rfl) rfl (Nat.le_of_ble_eq_true rfl) ?_
        obtain ⟨rfl, rfl⟩ := ab_pr hf
        exact xr_out A rfl
    · refine xr_VX A bX2_told (wX2_told D m3).2 xc_X2 (wX2_told D m3).1 q711 qs9 q709 (av := [vR (some (hstr h2 10)), vI (40 : Int32), vI (90 : Int32)]) (rest := []) rfl dX2_line_311 (Nat.le_of_ble_eq_true rfl) (Nat.le_of_ble_eq_true rfl) rfl (Nat.le_of_ble_eq_true rfl) ?_
      obtain ⟨rfl, rfl⟩ := ab_pr hf
      exact xr_out A rfl
  · refine xr_VX A bX2_begins (wX2_begins D m1).2 xc_X2 (wX2_begins D m1).1 q706 qs8 q704 (av := [vI s0, vI (3 : Int32)]) (rest := []) rfl dX2_line_301 (Nat.le_of_ble_eq_true rfl) (Nat.le_of_ble_eq_true rfl) rfl (Nat.le_of_ble_eq_true rfl) ?_
    obtain ⟨rfl, rfl⟩ := ab_pr hf
    exact xr_out A rfl
noncomputable def fX2_line_b369 (x : Nat) (s0 : Int32) (s1 : Nat) (h : Hp) : Option ((Unit ⊕ Nat) × Hp) :=
  ab_bx (fX2_begins s1 s0 (5 : Int32) h) (fun _ h2 =>
  ab_bd (ab_gR h2 x 1 9) fun v3 =>
  ab_bd v3 fun a4 =>
  ab_bd (ab_gR h2 a4 5 7) fun v5 =>
  ab_bd (ab_gR h2 x 1 9) fun v6 =>
  ab_bd v6 fun a7 =>
  ab_bd (ab_gI h2 a7 5 16) fun v8 =>
  ab_bx (fX2_number x (0 : Int32) (98 : Int32) h2) (fun v11 h10 =>
  ab_bd v5 fun a12 =>
  ab_bd (ab_sI h10 a12 v8 v11) fun h13 =>
  ab_bd (ab_gR h13 x 1 9) fun v14 =>
  ab_bd v14 fun a15 =>
  ab_bd (ab_gR h13 a15 5 8) fun v16 =>
  ab_bd (ab_gR h13 x 1 9) fun v17 =>
  ab_bd v17 fun a18 =>
  ab_bd (ab_gI h13 a18 5 16) fun v19 =>
  ab_bx (fX2_told x (some (hstr h13 15)) (1 : Int32) (60 : Int32) h13) (fun v22 h21 =>
  ab_bd v16 fun a23 =>
  ab_bd (ab_sI h21 a23 v19 v22) fun h24 =>
  ab_bd (ab_gR h24 x 1 9) fun v25 =>
  ab_bd v25 fun a26 =>
  ab_bd (ab_gI h24 a26 5 16) fun v27 =>
  ab_bd (ab_pI h24 a26 5 16 (v27 + (1 : Int32))) fun h28 =>
  some (.inl (), h28)) fun qh21 gh21 => some (.inr qh21, gh21)) fun qh10 gh10 => some (.inr qh10, gh10)) fun qh2 gh2 => some (.inr qh2, gh2)
theorem wX2_line_b369 {D : Dd} {C : Cx} {h0 h' : Hp} {ρ : Unit ⊕ Nat} (A : Act C D (h0, (xoV ρ), h') yX2_line cX2_line 4 (none : Option FieldType) 10 228 []) {x : Nat} {s0 : Int32} {s1 : Nat} {h : Hp} (hf : fX2_line_b369 x s0 s1 h = some (ρ, h')) : X C D (h0, (xoV ρ), h') 4 369 [(0, vR (some x))] [vI s0, vR (some s1)] h := by
  unfold fX2_line_b369 at hf
  refine xr_iconst A (v := 5) dX2_line_369 (by decide) ?_
  revert hf; refine ab_bxI (fun uh2 h2 m1 hf => ?_) (fun qh2 gh2 m1 hf => ?_)
  · refine xr_V0 A bX2_begins (wX2_begins D m1).2 xc_X2 (wX2_begins D m1).1 q706 qs8 q704 (av := [vI s0, vI (5 : Int32)]) (rest := []) rfl dX2_line_370 (Nat.le_of_ble_eq_true rfl) (Nat.le_of_ble_eq_true rfl) rfl (Nat.le_of_ble_eq_true rfl) ?_
    refine xr_aload_n A dX2_line_373 0 rfl rfl ?_
    revert hf; refine ab_bdI (fun v3 mv3 hf => ?_)
    refine xr_get A xc_X2 in_X2 9 (Nat.le_of_ble_eq_true rfl) q215 rfl (ab_gRE mv3) dX2_line_374 ?_
    revert hf; refine ab_bdI (fun a4 e hf => ?_); subst e
    revert hf; refine ab_bdI (fun v5 mv5 hf => ?_)
    refine xr_get A xc_X6 in_X6 7 (Nat.le_of_ble_eq_true rfl) q457 rfl (ab_gRE mv5) dX2_line_377 ?_
    refine xr_aload_n A dX2_line_380 0 rfl rfl ?_
    revert hf; refine ab_bdI (fun v6 mv6 hf => ?_)
    refine xr_get A xc_X2 in_X2 9 (Nat.le_of_ble_eq_true rfl) q215 rfl (ab_gRE mv6) dX2_line_381 ?_
    revert hf; refine ab_bdI (fun a7 e hf => ?_); subst e
    revert hf; refine ab_bdI (fun v8 mv8 hf => ?_)
    refine xr_get A xc_X6 in_X6 16 (Nat.le_of_ble_eq_true rfl) q482 rfl (ab_gIE mv8) dX2_line_384 ?_
    refine xr_aload_n A dX2_line_387 0 rfl rfl ?_
    refine xr_iconst A (v := 0) dX2_line_388 (by decide) ?_
    refine xr_bipush A (v := 98) dX2_line_389 (by decide) ?_
    revert hf; refine ab_bxI (fun v11 h10 m9 hf => ?_) (fun qh10 gh10 m9 hf => ?_)
    · refine xr_V A bX2_number (wX2_number D m9).2 xc_X2 (wX2_number D m9).1 q727 qs13 q725 (av := [vI (0 : Int32), vI (98 : Int32)]) (rest := [vI v8, vR v5]) rfl dX2_line_391 (Nat.le_of_ble_eq_true rfl) (Nat.le_of_ble_eq_true rfl) rfl (Nat.le_of_ble_eq_true rfl) ?_
      revert hf; refine ab_bdI (fun a12 e hf => ?_); subst e
      revert hf; refine ab_bdI (fun h13 mh13 hf => ?_)
      refine xr_iastore A mh13 dX2_line_394 ?_
      refine xr_aload_n A dX2_line_395 0 rfl rfl ?_
      revert hf; refine ab_bdI (fun v14 mv14 hf => ?_)
      refine xr_get A xc_X2 in_X2 9 (Nat.le_of_ble_eq_true rfl) q215 rfl (ab_gRE mv14) dX2_line_396 ?_
      revert hf; refine ab_bdI (fun a15 e hf => ?_); subst e
      revert hf; refine ab_bdI (fun v16 mv16 hf => ?_)
      refine xr_get A xc_X6 in_X6 8 (Nat.le_of_ble_eq_true rfl) q459 rfl (ab_gRE mv16) dX2_line_399 ?_
      refine xr_aload_n A dX2_line_402 0 rfl rfl ?_
      revert hf; refine ab_bdI (fun v17 mv17 hf => ?_)
      refine xr_get A xc_X2 in_X2 9 (Nat.le_of_ble_eq_true rfl) q215 rfl (ab_gRE mv17) dX2_line_403 ?_
      revert hf; refine ab_bdI (fun a18 e hf => ?_); subst e
      revert hf; refine ab_bdI (fun v19 mv19 hf => ?_)
      refine xr_get A xc_X6 in_X6 16 (Nat.le_of_ble_eq_true rfl) q482 rfl (ab_gIE mv19) dX2_line_406 ?_
      refine xr_aload_n A dX2_line_409 0 rfl rfl ?_
      refine xr_ldcs A t780 dX2_line_410 ?_
      refine xr_iconst A (v := 1) dX2_line_412 (by decide) ?_
      refine xr_bipush A (v := 60) dX2_line_413 (by decide) ?_
      revert hf; refine ab_bxI (fun v22 h21 m20 hf => ?_) (fun qh21 gh21 m20 hf => ?_)
      · refine xr_V A bX2_told (wX2_told D m20).2 xc_X2 (wX2_told D m20).1 q711 qs9 q709 (av := [vR (some (hstr h13 15)), vI (1 : Int32), vI (60 : Int32)]) (rest := [vI v19, vR v16]) rfl dX2_line_415 (Nat.le_of_ble_eq_true rfl) (Nat.le_of_ble_eq_true rfl) rfl (Nat.le_of_ble_eq_true rfl) ?_
        revert hf; refine ab_bdI (fun a23 e hf => ?_); subst e
        revert hf; refine ab_bdI (fun h24 mh24 hf => ?_)
        refine xr_iastore A mh24 dX2_line_418 ?_
        refine xr_aload_n A dX2_line_419 0 rfl rfl ?_
        revert hf; refine ab_bdI (fun v25 mv25 hf => ?_)
        refine xr_get A xc_X2 in_X2 9 (Nat.le_of_ble_eq_true rfl) q215 rfl (ab_gRE mv25) dX2_line_420 ?_
        refine xr_dup A dX2_line_423 rfl ?_
        revert hf; refine ab_bdI (fun a26 e hf => ?_); subst e
        revert hf; refine ab_bdI (fun v27 mv27 hf => ?_)
        refine xr_get A xc_X6 in_X6 16 (Nat.le_of_ble_eq_true rfl) q482 rfl (ab_gIE mv27) dX2_line_424 ?_
        refine xr_iconst A (v := 1) dX2_line_427 (by decide) ?_
        refine xr_iadd A dX2_line_428 ?_
        revert hf; refine ab_bdI (fun h28 mh28 hf => ?_)
        refine xr_put A xc_X6 in_X6 tyX6_ok nmX6 16 (Nat.le_of_ble_eq_true rfl) q482 rfl rfl (v := vI (v27 + (1 : Int32))) rfl rfl mh28 dX2_line_429 ?_
        refine xr_goto A (tgt := 483) dX2_line_432 (by decide) ?_
        obtain ⟨rfl, rfl⟩ := ab_pr hf
        exact xr_return A rfl dX2_line_483
      · refine xr_VX A bX2_told (wX2_told D m20).2 xc_X2 (wX2_told D m20).1 q711 qs9 q709 (av := [vR (some (hstr h13 15)), vI (1 : Int32), vI (60 : Int32)]) (rest := [vI v19, vR v16]) rfl dX2_line_415 (Nat.le_of_ble_eq_true rfl) (Nat.le_of_ble_eq_true rfl) rfl (Nat.le_of_ble_eq_true rfl) ?_
        obtain ⟨rfl, rfl⟩ := ab_pr hf
        exact xr_out A rfl
    · refine xr_VX A bX2_number (wX2_number D m9).2 xc_X2 (wX2_number D m9).1 q727 qs13 q725 (av := [vI (0 : Int32), vI (98 : Int32)]) (rest := [vI v8, vR v5]) rfl dX2_line_391 (Nat.le_of_ble_eq_true rfl) (Nat.le_of_ble_eq_true rfl) rfl (Nat.le_of_ble_eq_true rfl) ?_
      obtain ⟨rfl, rfl⟩ := ab_pr hf
      exact xr_out A rfl
  · refine xr_VX A bX2_begins (wX2_begins D m1).2 xc_X2 (wX2_begins D m1).1 q706 qs8 q704 (av := [vI s0, vI (5 : Int32)]) (rest := []) rfl dX2_line_370 (Nat.le_of_ble_eq_true rfl) (Nat.le_of_ble_eq_true rfl) rfl (Nat.le_of_ble_eq_true rfl) ?_
    obtain ⟨rfl, rfl⟩ := ab_pr hf
    exact xr_out A rfl
noncomputable def fX2_line_b234 (x : Nat) (l2 : Int32) (h : Hp) : Option ((Unit ⊕ Nat) × Hp) :=
  if l2 = (0 : Int32) then (
    ab_bd (ab_gR h x 1 9) fun v1 =>
    ab_bd v1 fun a2 =>
    ab_bd (ab_gI h a2 5 17) fun v3 =>
    if v3 = 0 then (
      fX2_line_b300 x (1 : Int32) x h)
    else (
      fX2_line_b300 x (0 : Int32) x h))
  else
  if l2 = (1 : Int32) then (
    ab_bx (fX2_kitchen x h) (fun _ h5 =>
    some (.inl (), h5)) fun qh5 gh5 => some (.inr qh5, gh5))
  else
  if l2 = (2 : Int32) then (
    ab_bd (ab_gR h x 1 9) fun v6 =>
    ab_bd v6 fun a7 =>
    ab_bd (ab_gI h a7 5 16) fun v8 =>
    if (3 : Int32) ≤ v8 then (
      fX2_line_b369 x (0 : Int32) x h)
    else (
      fX2_line_b369 x (1 : Int32) x h))
  else
  if l2 = (3 : Int32) then (
    ab_bx (fX2_dish x h) (fun _ h10 =>
    some (.inl (), h10)) fun qh10 gh10 => some (.inr qh10, gh10))
  else
  if l2 = (4 : Int32) then (
    ab_bx (fX2_diet x h) (fun _ h12 =>
    some (.inl (), h12)) fun qh12 gh12 => some (.inr qh12, gh12))
  else
  if l2 = (5 : Int32) then (
    ab_bx (fX2_house x h) (fun _ h14 =>
    some (.inl (), h14)) fun qh14 gh14 => some (.inr qh14, gh14))
  else
  if l2 = (6 : Int32) then (
    ab_bx (fX2_car x h) (fun _ h16 =>
    some (.inl (), h16)) fun qh16 gh16 => some (.inr qh16, gh16))
  else
  if l2 = (7 : Int32) then (
    ab_bx (fX2_call x h) (fun _ h18 =>
    some (.inl (), h18)) fun qh18 gh18 => some (.inr qh18, gh18))
  else
  if l2 = (8 : Int32) then (
    ab_bx (fX2_helper x h) (fun _ h20 =>
    some (.inl (), h20)) fun qh20 gh20 => some (.inr qh20, gh20))
  else
  ab_b2 (fX2_fail x (1 : Int32) h) fun v23 h22 =>
  ab_bd v23 fun a24 =>
  ab_cz h22 a24 2 <| some (.inr a24, h22)
theorem wX2_line_b234 {D : Dd} {C : Cx} {h0 h' : Hp} {ρ : Unit ⊕ Nat} (A : Act C D (h0, (xoV ρ), h') yX2_line cX2_line 4 (none : Option FieldType) 10 228 []) {x : Nat} {l2 : Int32} {h : Hp} (hf : fX2_line_b234 x l2 h = some (ρ, h')) : X C D (h0, (xoV ρ), h') 4 234 [(0, vR (some x)), (2, vI l2)] [] h := by
  unfold fX2_line_b234 at hf
  refine xr_iload_n A dX2_line_234 1 rfl rfl ?_
  by_cases c235_0 : l2 = (0 : Int32)
  · replace hf := ab_ip c235_0 hf
    refine xr_tabIn A (tgt := 284) dX2_line_235 (by rw [c235_0]; decide) (by rw [c235_0]; decide) (by rw [c235_0]; rfl) (by decide) ?_
    refine xr_aload_n A dX2_line_284 0 rfl rfl ?_
    refine xr_aload_n A dX2_line_285 0 rfl rfl ?_
    revert hf; refine ab_bdI (fun v1 mv1 hf => ?_)
    refine xr_get A xc_X2 in_X2 9 (Nat.le_of_ble_eq_true rfl) q215 rfl (ab_gRE mv1) dX2_line_286 ?_
    revert hf; refine ab_bdI (fun a2 e hf => ?_); subst e
    revert hf; refine ab_bdI (fun v3 mv3 hf => ?_)
    refine xr_get A xc_X6 in_X6 17 (Nat.le_of_ble_eq_true rfl) q485 rfl (ab_gIE mv3) dX2_line_289 ?_
    refine xr_if_ne A (tgt := 299) dX2_line_292 (by decide) (fun c292 => ?_) (fun c292 => ?_)
    · replace hf := ab_in c292 hf
      refine xr_iconst A (v := 0) dX2_line_299 (by decide) ?_
      refine X.sub [0] rfl ?_
      exact wX2_line_b300 A hf
    · replace hf := ab_ip c292 hf
      refine xr_iconst A (v := 1) dX2_line_295 (by decide) ?_
      refine xr_goto A (tgt := 300) dX2_line_296 (by decide) ?_
      refine X.sub [0] rfl ?_
      exact wX2_line_b300 A hf
  replace hf := ab_in c235_0 hf
  by_cases c235_1 : l2 = (1 : Int32)
  · replace hf := ab_ip c235_1 hf
    refine xr_tabIn A (tgt := 345) dX2_line_235 (by rw [c235_1]; decide) (by rw [c235_1]; decide) (by rw [c235_1]; rfl) (by decide) ?_
    refine xr_aload_n A dX2_line_345 0 rfl rfl ?_
    revert hf; refine ab_bxI (fun uh5 h5 m4 hf => ?_) (fun qh5 gh5 m4 hf => ?_)
    · refine xr_V0 A bX2_kitchen (wX2_kitchen D m4).2 xc_X2 (wX2_kitchen D m4).1 q732 qs14 q730 (av := []) (rest := []) rfl dX2_line_346 (Nat.le_of_ble_eq_true rfl) (Nat.le_of_ble_eq_true rfl) rfl (Nat.le_of_ble_eq_true rfl) ?_
      refine xr_goto A (tgt := 483) dX2_line_349 (by decide) ?_
      obtain ⟨rfl, rfl⟩ := ab_pr hf
      exact xr_return A rfl dX2_line_483
    · refine xr_VX A bX2_kitchen (wX2_kitchen D m4).2 xc_X2 (wX2_kitchen D m4).1 q732 qs14 q730 (av := []) (rest := []) rfl dX2_line_346 (Nat.le_of_ble_eq_true rfl) (Nat.le_of_ble_eq_true rfl) rfl (Nat.le_of_ble_eq_true rfl) ?_
      obtain ⟨rfl, rfl⟩ := ab_pr hf
      exact xr_out A rfl
  replace hf := ab_in c235_1 hf
  by_cases c235_2 : l2 = (2 : Int32)
  · replace hf := ab_ip c235_2 hf
    refine xr_tabIn A (tgt := 352) dX2_line_235 (by rw [c235_2]; decide) (by rw [c235_2]; decide) (by rw [c235_2]; rfl) (by decide) ?_
    refine xr_aload_n A dX2_line_352 0 rfl rfl ?_
    refine xr_aload_n A dX2_line_353 0 rfl rfl ?_
    revert hf; refine ab_bdI (fun v6 mv6 hf => ?_)
    refine xr_get A xc_X2 in_X2 9 (Nat.le_of_ble_eq_true rfl) q215 rfl (ab_gRE mv6) dX2_line_354 ?_
    revert hf; refine ab_bdI (fun a7 e hf => ?_); subst e
    revert hf; refine ab_bdI (fun v8 mv8 hf => ?_)
    refine xr_get A xc_X6 in_X6 16 (Nat.le_of_ble_eq_true rfl) q482 rfl (ab_gIE mv8) dX2_line_357 ?_
    refine xr_iconst A (v := 3) dX2_line_360 (by decide) ?_
    refine xr_icmp_ge A (tgt := 368) dX2_line_361 (by decide) (fun c361 => ?_) (fun c361 => ?_)
    · replace hf := ab_ip c361 hf
      refine xr_iconst A (v := 0) dX2_line_368 (by decide) ?_
      refine X.sub [0] rfl ?_
      exact wX2_line_b369 A hf
    · replace hf := ab_in c361 hf
      refine xr_iconst A (v := 1) dX2_line_364 (by decide) ?_
      refine xr_goto A (tgt := 369) dX2_line_365 (by decide) ?_
      refine X.sub [0] rfl ?_
      exact wX2_line_b369 A hf
  replace hf := ab_in c235_2 hf
  by_cases c235_3 : l2 = (3 : Int32)
  · replace hf := ab_ip c235_3 hf
    refine xr_tabIn A (tgt := 435) dX2_line_235 (by rw [c235_3]; decide) (by rw [c235_3]; decide) (by rw [c235_3]; rfl) (by decide) ?_
    refine xr_aload_n A dX2_line_435 0 rfl rfl ?_
    revert hf; refine ab_bxI (fun uh10 h10 m9 hf => ?_) (fun qh10 gh10 m9 hf => ?_)
    · refine xr_V0 A bX2_dish (wX2_dish D m9).2 xc_X2 (wX2_dish D m9).1 q783 qs17 q781 (av := []) (rest := []) rfl dX2_line_436 (Nat.le_of_ble_eq_true rfl) (Nat.le_of_ble_eq_true rfl) rfl (Nat.le_of_ble_eq_true rfl) ?_
      refine xr_goto A (tgt := 483) dX2_line_439 (by decide) ?_
      obtain ⟨rfl, rfl⟩ := ab_pr hf
      exact xr_return A rfl dX2_line_483
    · refine xr_VX A bX2_dish (wX2_dish D m9).2 xc_X2 (wX2_dish D m9).1 q783 qs17 q781 (av := []) (rest := []) rfl dX2_line_436 (Nat.le_of_ble_eq_true rfl) (Nat.le_of_ble_eq_true rfl) rfl (Nat.le_of_ble_eq_true rfl) ?_
      obtain ⟨rfl, rfl⟩ := ab_pr hf
      exact xr_out A rfl
  replace hf := ab_in c235_3 hf
  by_cases c235_4 : l2 = (4 : Int32)
  · replace hf := ab_ip c235_4 hf
    refine xr_tabIn A (tgt := 442) dX2_line_235 (by rw [c235_4]; decide) (by rw [c235_4]; decide) (by rw [c235_4]; rfl) (by decide) ?_
    refine xr_aload_n A dX2_line_442 0 rfl rfl ?_
    revert hf; refine ab_bxI (fun uh12 h12 m11 hf => ?_) (fun qh12 gh12 m11 hf => ?_)
    · refine xr_V0 A bX2_diet (wX2_diet D m11).2 xc_X2 (wX2_diet D m11).1 q838 qs19 q836 (av := []) (rest := []) rfl dX2_line_443 (Nat.le_of_ble_eq_true rfl) (Nat.le_of_ble_eq_true rfl) rfl (Nat.le_of_ble_eq_true rfl) ?_
      refine xr_goto A (tgt := 483) dX2_line_446 (by decide) ?_
      obtain ⟨rfl, rfl⟩ := ab_pr hf
      exact xr_return A rfl dX2_line_483
    · refine xr_VX A bX2_diet (wX2_diet D m11).2 xc_X2 (wX2_diet D m11).1 q838 qs19 q836 (av := []) (rest := []) rfl dX2_line_443 (Nat.le_of_ble_eq_true rfl) (Nat.le_of_ble_eq_true rfl) rfl (Nat.le_of_ble_eq_true rfl) ?_
      obtain ⟨rfl, rfl⟩ := ab_pr hf
      exact xr_out A rfl
  replace hf := ab_in c235_4 hf
  by_cases c235_5 : l2 = (5 : Int32)
  · replace hf := ab_ip c235_5 hf
    refine xr_tabIn A (tgt := 449) dX2_line_235 (by rw [c235_5]; decide) (by rw [c235_5]; decide) (by rw [c235_5]; rfl) (by decide) ?_
    refine xr_aload_n A dX2_line_449 0 rfl rfl ?_
    revert hf; refine ab_bxI (fun uh14 h14 m13 hf => ?_) (fun qh14 gh14 m13 hf => ?_)
    · refine xr_V0 A bX2_house (wX2_house D m13).2 xc_X2 (wX2_house D m13).1 q856 qs20 q854 (av := []) (rest := []) rfl dX2_line_450 (Nat.le_of_ble_eq_true rfl) (Nat.le_of_ble_eq_true rfl) rfl (Nat.le_of_ble_eq_true rfl) ?_
      refine xr_goto A (tgt := 483) dX2_line_453 (by decide) ?_
      obtain ⟨rfl, rfl⟩ := ab_pr hf
      exact xr_return A rfl dX2_line_483
    · refine xr_VX A bX2_house (wX2_house D m13).2 xc_X2 (wX2_house D m13).1 q856 qs20 q854 (av := []) (rest := []) rfl dX2_line_450 (Nat.le_of_ble_eq_true rfl) (Nat.le_of_ble_eq_true rfl) rfl (Nat.le_of_ble_eq_true rfl) ?_
      obtain ⟨rfl, rfl⟩ := ab_pr hf
      exact xr_out A rfl
  replace hf := ab_in c235_5 hf
  by_cases c235_6 : l2 = (6 : Int32)
  · replace hf := ab_ip c235_6 hf
    refine xr_tabIn A (tgt := 456) dX2_line_235 (by rw [c235_6]; decide) (by rw [c235_6]; decide) (by rw [c235_6]; rfl) (by decide) ?_
    refine xr_aload_n A dX2_line_456 0 rfl rfl ?_
    revert hf; refine ab_bxI (fun uh16 h16 m15 hf => ?_) (fun qh16 gh16 m15 hf => ?_)
    · refine xr_V0 A bX2_car (wX2_car D m15).2 xc_X2 (wX2_car D m15).1 q902 qs21 q900 (av := []) (rest := []) rfl dX2_line_457 (Nat.le_of_ble_eq_true rfl) (Nat.le_of_ble_eq_true rfl) rfl (Nat.le_of_ble_eq_true rfl) ?_
      refine xr_goto A (tgt := 483) dX2_line_460 (by decide) ?_
      obtain ⟨rfl, rfl⟩ := ab_pr hf
      exact xr_return A rfl dX2_line_483
    · refine xr_VX A bX2_car (wX2_car D m15).2 xc_X2 (wX2_car D m15).1 q902 qs21 q900 (av := []) (rest := []) rfl dX2_line_457 (Nat.le_of_ble_eq_true rfl) (Nat.le_of_ble_eq_true rfl) rfl (Nat.le_of_ble_eq_true rfl) ?_
      obtain ⟨rfl, rfl⟩ := ab_pr hf
      exact xr_out A rfl
  replace hf := ab_in c235_6 hf
  by_cases c235_7 : l2 = (7 : Int32)
  · replace hf := ab_ip c235_7 hf
    refine xr_tabIn A (tgt := 463) dX2_line_235 (by rw [c235_7]; decide) (by rw [c235_7]; decide) (by rw [c235_7]; rfl) (by decide) ?_
    refine xr_aload_n A dX2_line_463 0 rfl rfl ?_
    revert hf; refine ab_bxI (fun uh18 h18 m17 hf => ?_) (fun qh18 gh18 m17 hf => ?_)
    · refine xr_V0 A bX2_call (wX2_call D m17).2 xc_X2 (wX2_call D m17).1 q943 qs22 q941 (av := []) (rest := []) rfl dX2_line_464 (Nat.le_of_ble_eq_true rfl) (Nat.le_of_ble_eq_true rfl) rfl (Nat.le_of_ble_eq_true rfl) ?_
      refine xr_goto A (tgt := 483) dX2_line_467 (by decide) ?_
      obtain ⟨rfl, rfl⟩ := ab_pr hf
      exact xr_return A rfl dX2_line_483
    · refine xr_VX A bX2_call (wX2_call D m17).2 xc_X2 (wX2_call D m17).1 q943 qs22 q941 (av := []) (rest := []) rfl dX2_line_464 (Nat.le_of_ble_eq_true rfl) (Nat.le_of_ble_eq_true rfl) rfl (Nat.le_of_ble_eq_true rfl) ?_
      obtain ⟨rfl, rfl⟩ := ab_pr hf
      exact xr_out A rfl
  replace hf := ab_in c235_7 hf
  by_cases c235_8 : l2 = (8 : Int32)
  · replace hf := ab_ip c235_8 hf
    refine xr_tabIn A (tgt := 470) dX2_line_235 (by rw [c235_8]; decide) (by rw [c235_8]; decide) (by rw [c235_8]; rfl) (by decide) ?_
    refine xr_aload_n A dX2_line_470 0 rfl rfl ?_
    revert hf; refine ab_bxI (fun uh20 h20 m19 hf => ?_) (fun qh20 gh20 m19 hf => ?_)
    · refine xr_V0 A bX2_helper (wX2_helper D m19).2 xc_X2 (wX2_helper D m19).1 q965 qs23 q963 (av := []) (rest := []) rfl dX2_line_471 (Nat.le_of_ble_eq_true rfl) (Nat.le_of_ble_eq_true rfl) rfl (Nat.le_of_ble_eq_true rfl) ?_
      refine xr_goto A (tgt := 483) dX2_line_474 (by decide) ?_
      obtain ⟨rfl, rfl⟩ := ab_pr hf
      exact xr_return A rfl dX2_line_483
    · refine xr_VX A bX2_helper (wX2_helper D m19).2 xc_X2 (wX2_helper D m19).1 q965 qs23 q963 (av := []) (rest := []) rfl dX2_line_471 (Nat.le_of_ble_eq_true rfl) (Nat.le_of_ble_eq_true rfl) rfl (Nat.le_of_ble_eq_true rfl) ?_
      obtain ⟨rfl, rfl⟩ := ab_pr hf
      exact xr_out A rfl
  replace hf := ab_in c235_8 hf
  refine xr_tabOut A (tgt := 477) dX2_line_235 (ab_tab 0 8 (by decide) [(0 : Int32), (1 : Int32), (2 : Int32), (3 : Int32), (4 : Int32), (5 : Int32), (6 : Int32), (7 : Int32), (8 : Int32)] rfl (by simp only [List.forall_mem_cons]; exact ⟨c235_0, c235_1, c235_2, c235_3, c235_4, c235_5, c235_6, c235_7, c235_8, fun _ h => absurd h List.not_mem_nil⟩)) (by decide) ?_
  refine xr_aload_n A dX2_line_477 0 rfl rfl ?_
  refine xr_iconst A (v := 1) dX2_line_478 (by decide) ?_
  revert hf; refine ab_b2I (fun v23 h22 m21 hf => ?_)
  refine xr_V A bX2_fail (wX2_fail D m21).2 xc_X2 (wX2_fail D m21).1 q628 qs7 q626 (av := [vI (1 : Int32)]) (rest := []) rfl dX2_line_479 (Nat.le_of_ble_eq_true rfl) (Nat.le_of_ble_eq_true rfl) rfl (Nat.le_of_ble_eq_true rfl) ?_
  revert hf; refine ab_bdI (fun a24 e hf => ?_); subst e
  replace hf := ab_czE hf; obtain ⟨i482, hf⟩ := hf
  refine xr_athrow A i482 dX2_line_482 ?_
  obtain ⟨rfl, rfl⟩ := ab_pr hf
  exact xr_out A rfl
noncomputable def fX2_line (x : Nat) (h : Hp) : Option ((Unit ⊕ Nat) × Hp) :=
  ab_ck h x 1 <|
  ab_bd (ab_gI h x 1 5) fun v1 =>
  if v1 = (2 : Int32) then (
    ab_bd (ab_gR h x 1 8) fun v2 =>
    ab_bd v2 fun a3 =>
    ab_b2 (fJ3_hashCode a3 h) fun v6 h5 =>
    if v6 = (-1220931666 : Int32) then (
      ab_b2 (fJ3_equals a3 (some (hstr h5 9)) h5) fun v9 h8 =>
      if v9 = 0 then (
        fX2_line_b234 x (-1 : Int32) h8)
      else (
        fX2_line_b234 x (8 : Int32) h8))
    else
    if v6 = (-705112156 : Int32) then (
      ab_b2 (fJ3_equals a3 (some (hstr h5 2)) h5) fun v12 h11 =>
      if v12 = 0 then (
        fX2_line_b234 x (-1 : Int32) h11)
      else (
        fX2_line_b234 x (1 : Int32) h11))
    else
    if v6 = (98260 : Int32) then (
      ab_b2 (fJ3_equals a3 (some (hstr h5 7)) h5) fun v15 h14 =>
      if v15 = 0 then (
        fX2_line_b234 x (-1 : Int32) h14)
      else (
        fX2_line_b234 x (6 : Int32) h14))
    else
    if v6 = (106914 : Int32) then (
      ab_b2 (fJ3_equals a3 (some (hstr h5 1)) h5) fun v18 h17 =>
      if v18 = 0 then (
        fX2_line_b234 x (-1 : Int32) h17)
      else (
        fX2_line_b234 x (0 : Int32) h17))
    else
    if v6 = (3045982 : Int32) then (
      ab_b2 (fJ3_equals a3 (some (hstr h5 8)) h5) fun v21 h20 =>
      if v21 = 0 then (
        fX2_line_b234 x (-1 : Int32) h20)
      else (
        fX2_line_b234 x (7 : Int32) h20))
    else
    if v6 = (3083252 : Int32) then (
      ab_b2 (fJ3_equals a3 (some (hstr h5 5)) h5) fun v24 h23 =>
      if v24 = 0 then (
        fX2_line_b234 x (-1 : Int32) h23)
      else (
        fX2_line_b234 x (4 : Int32) h23))
    else
    if v6 = (3083674 : Int32) then (
      ab_b2 (fJ3_equals a3 (some (hstr h5 4)) h5) fun v27 h26 =>
      if v27 = 0 then (
        fX2_line_b234 x (-1 : Int32) h26)
      else (
        fX2_line_b234 x (3 : Int32) h26))
    else
    if v6 = (97526782 : Int32) then (
      ab_b2 (fJ3_equals a3 (some (hstr h5 3)) h5) fun v30 h29 =>
      if v30 = 0 then (
        fX2_line_b234 x (-1 : Int32) h29)
      else (
        fX2_line_b234 x (2 : Int32) h29))
    else
    if v6 = (99469088 : Int32) then (
      ab_b2 (fJ3_equals a3 (some (hstr h5 6)) h5) fun v33 h32 =>
      if v33 = 0 then (
        fX2_line_b234 x (-1 : Int32) h32)
      else (
        fX2_line_b234 x (5 : Int32) h32))
    else
    fX2_line_b234 x (-1 : Int32) h5)
  else (
    ab_b2 (fX2_fail x (1 : Int32) h) fun v36 h35 =>
    ab_bd v36 fun a37 =>
    ab_cz h35 a37 2 <| some (.inr a37, h35))
theorem wX2_line (D : Dd) {x : Nat} {h : Hp} {ρ : Unit ⊕ Nat} {h' : Hp} (hf : fX2_line x h = some (ρ, h')) : ab_is h x 1 ∧ Ct D 10 228 yX2_line cX2_line 4 (none : Option FieldType) [vR (some x)] h (xoV ρ) h' := by
    unfold fX2_line at hf
    replace hf := ab_ckE hf; obtain ⟨i0, hf⟩ := hf
    refine ⟨i0, ?_⟩
    refine Ct.of (by decide) (L := [(0, vR (some x))]) rfl (Nat.le_of_ble_eq_true rfl) (fun C A => ?_)
    refine xr_aload_n A dX2_line_0 0 rfl rfl ?_
    revert hf; refine ab_bdI (fun v1 mv1 hf => ?_)
    refine xr_get A xc_X2 in_X2 5 (Nat.le_of_ble_eq_true rfl) q211 rfl (ab_gIE mv1) dX2_line_1 ?_
    refine xr_iconst A (v := 2) dX2_line_4 (by decide) ?_
    refine xr_icmp_eq A (tgt := 14) dX2_line_5 (by decide) (fun c5 => ?_) (fun c5 => ?_)
    · replace hf := ab_ip c5 hf
      refine xr_aload_n A dX2_line_14 0 rfl rfl ?_
      revert hf; refine ab_bdI (fun v2 mv2 hf => ?_)
      refine xr_get A xc_X2 in_X2 8 (Nat.le_of_ble_eq_true rfl) q214 rfl (ab_gRE mv2) dX2_line_15 ?_
      refine xr_astore_n A dX2_line_18 rfl (Nat.le_of_ble_eq_true rfl) (L' := [(1, vR v2), (0, vR (some x))]) rfl ?_
      refine xr_iconst A (v := (-1)) dX2_line_19 (by decide) ?_
      refine xr_istore_n A dX2_line_20 rfl (Nat.le_of_ble_eq_true rfl) (L' := [(2, vI (-1 : Int32)), (1, vR v2), (0, vR (some x))]) rfl ?_
      refine xr_aload_n A dX2_line_21 1 rfl rfl ?_
      revert hf; refine ab_bdI (fun a3 e hf => ?_); subst e
      revert hf; refine ab_b2I (fun v6 h5 m4 hf => ?_)
      refine xr_V A bJ3_hashCode (wJ3_hashCode D m4).2 xc_J3 (wJ3_hashCode D m4).1 q635 q636 q634 (av := []) (rest := []) rfl dX2_line_22 (Nat.le_of_ble_eq_true rfl) (Nat.le_of_ble_eq_true rfl) rfl (Nat.le_of_ble_eq_true rfl) ?_
      by_cases c25_m1220931666 : v6 = (-1220931666 : Int32)
      · replace hf := ab_ip c25_m1220931666 hf
        refine xr_lookup A (tgt := 222) dX2_line_25 (by decide) (off := 197) (by rw [c25_m1220931666] <;> rfl) (by decide) ?_
        refine xr_aload_n A dX2_line_222 1 rfl rfl ?_
        refine xr_ldcs A t703 dX2_line_223 ?_
        revert hf; refine ab_b2I (fun v9 h8 m7 hf => ?_)
        refine xr_V A bJ3_equals (wJ3_equals D m7).2 xc_J3 (wJ3_equals D m7).1 q689 q690 q688 (av := [vR (some (hstr h5 9))]) (rest := []) rfl dX2_line_225 (Nat.le_of_ble_eq_true rfl) (Nat.le_of_ble_eq_true rfl) rfl (Nat.le_of_ble_eq_true rfl) ?_
        refine xr_if_eq A (tgt := 234) dX2_line_228 (by decide) (fun c228 => ?_) (fun c228 => ?_)
        · replace hf := ab_ip c228 hf
          refine X.sub [2, 0] rfl ?_
          exact wX2_line_b234 A hf
        · replace hf := ab_in c228 hf
          refine xr_bipush A (v := 8) dX2_line_231 (by decide) ?_
          refine xr_istore_n A dX2_line_233 rfl (Nat.le_of_ble_eq_true rfl) (L' := [(2, vI (8 : Int32)), (1, vR (some a3)), (0, vR (some x))]) rfl ?_
          refine X.sub [2, 0] rfl ?_
          exact wX2_line_b234 A hf
      replace hf := ab_in c25_m1220931666 hf
      by_cases c25_m705112156 : v6 = (-705112156 : Int32)
      · replace hf := ab_ip c25_m705112156 hf
        refine xr_lookup A (tgt := 122) dX2_line_25 (by decide) (off := 97) (by rw [c25_m705112156] <;> rfl) (by decide) ?_
        refine xr_aload_n A dX2_line_122 1 rfl rfl ?_
        refine xr_ldcs A t696 dX2_line_123 ?_
        revert hf; refine ab_b2I (fun v12 h11 m10 hf => ?_)
        refine xr_V A bJ3_equals (wJ3_equals D m10).2 xc_J3 (wJ3_equals D m10).1 q689 q690 q688 (av := [vR (some (hstr h5 2))]) (rest := []) rfl dX2_line_125 (Nat.le_of_ble_eq_true rfl) (Nat.le_of_ble_eq_true rfl) rfl (Nat.le_of_ble_eq_true rfl) ?_
        refine xr_if_eq A (tgt := 234) dX2_line_128 (by decide) (fun c128 => ?_) (fun c128 => ?_)
        · replace hf := ab_ip c128 hf
          refine X.sub [2, 0] rfl ?_
          exact wX2_line_b234 A hf
        · replace hf := ab_in c128 hf
          refine xr_iconst A (v := 1) dX2_line_131 (by decide) ?_
          refine xr_istore_n A dX2_line_132 rfl (Nat.le_of_ble_eq_true rfl) (L' := [(2, vI (1 : Int32)), (1, vR (some a3)), (0, vR (some x))]) rfl ?_
          refine xr_goto A (tgt := 234) dX2_line_133 (by decide) ?_
          refine X.sub [2, 0] rfl ?_
          exact wX2_line_b234 A hf
      replace hf := ab_in c25_m705112156 hf
      by_cases c25_98260 : v6 = (98260 : Int32)
      · replace hf := ab_ip c25_98260 hf
        refine xr_lookup A (tgt := 192) dX2_line_25 (by decide) (off := 167) (by rw [c25_98260] <;> rfl) (by decide) ?_
        refine xr_aload_n A dX2_line_192 1 rfl rfl ?_
        refine xr_ldcs A t701 dX2_line_193 ?_
        revert hf; refine ab_b2I (fun v15 h14 m13 hf => ?_)
        refine xr_V A bJ3_equals (wJ3_equals D m13).2 xc_J3 (wJ3_equals D m13).1 q689 q690 q688 (av := [vR (some (hstr h5 7))]) (rest := []) rfl dX2_line_195 (Nat.le_of_ble_eq_true rfl) (Nat.le_of_ble_eq_true rfl) rfl (Nat.le_of_ble_eq_true rfl) ?_
        refine xr_if_eq A (tgt := 234) dX2_line_198 (by decide) (fun c198 => ?_) (fun c198 => ?_)
        · replace hf := ab_ip c198 hf
          refine X.sub [2, 0] rfl ?_
          exact wX2_line_b234 A hf
        · replace hf := ab_in c198 hf
          refine xr_bipush A (v := 6) dX2_line_201 (by decide) ?_
          refine xr_istore_n A dX2_line_203 rfl (Nat.le_of_ble_eq_true rfl) (L' := [(2, vI (6 : Int32)), (1, vR (some a3)), (0, vR (some x))]) rfl ?_
          refine xr_goto A (tgt := 234) dX2_line_204 (by decide) ?_
          refine X.sub [2, 0] rfl ?_
          exact wX2_line_b234 A hf
      replace hf := ab_in c25_98260 hf
      by_cases c25_106914 : v6 = (106914 : Int32)
      · replace hf := ab_ip c25_106914 hf
        refine xr_lookup A (tgt := 108) dX2_line_25 (by decide) (off := 83) (by rw [c25_106914] <;> rfl) (by decide) ?_
        refine xr_aload_n A dX2_line_108 1 rfl rfl ?_
        refine xr_ldcs A t687 dX2_line_109 ?_
        revert hf; refine ab_b2I (fun v18 h17 m16 hf => ?_)
        refine xr_V A bJ3_equals (wJ3_equals D m16).2 xc_J3 (wJ3_equals D m16).1 q689 q690 q688 (av := [vR (some (hstr h5 1))]) (rest := []) rfl dX2_line_111 (Nat.le_of_ble_eq_true rfl) (Nat.le_of_ble_eq_true rfl) rfl (Nat.le_of_ble_eq_true rfl) ?_
        refine xr_if_eq A (tgt := 234) dX2_line_114 (by decide) (fun c114 => ?_) (fun c114 => ?_)
        · replace hf := ab_ip c114 hf
          refine X.sub [2, 0] rfl ?_
          exact wX2_line_b234 A hf
        · replace hf := ab_in c114 hf
          refine xr_iconst A (v := 0) dX2_line_117 (by decide) ?_
          refine xr_istore_n A dX2_line_118 rfl (Nat.le_of_ble_eq_true rfl) (L' := [(2, vI (0 : Int32)), (1, vR (some a3)), (0, vR (some x))]) rfl ?_
          refine xr_goto A (tgt := 234) dX2_line_119 (by decide) ?_
          refine X.sub [2, 0] rfl ?_
          exact wX2_line_b234 A hf
      replace hf := ab_in c25_106914 hf
      by_cases c25_3045982 : v6 = (3045982 : Int32)
      · replace hf := ab_ip c25_3045982 hf
        refine xr_lookup A (tgt := 207) dX2_line_25 (by decide) (off := 182) (by rw [c25_3045982] <;> rfl) (by decide) ?_
        refine xr_aload_n A dX2_line_207 1 rfl rfl ?_
        refine xr_ldcs A t702 dX2_line_208 ?_
        revert hf; refine ab_b2I (fun v21 h20 m19 hf => ?_)
        refine xr_V A bJ3_equals (wJ3_equals D m19).2 xc_J3 (wJ3_equals D m19).1 q689 q690 q688 (av := [vR (some (hstr h5 8))]) (rest := []) rfl dX2_line_210 (Nat.le_of_ble_eq_true rfl) (Nat.le_of_ble_eq_true rfl) rfl (Nat.le_of_ble_eq_true rfl) ?_
        refine xr_if_eq A (tgt := 234) dX2_line_213 (by decide) (fun c213 => ?_) (fun c213 => ?_)
        · replace hf := ab_ip c213 hf
          refine X.sub [2, 0] rfl ?_
          exact wX2_line_b234 A hf
        · replace hf := ab_in c213 hf
          refine xr_bipush A (v := 7) dX2_line_216 (by decide) ?_
          refine xr_istore_n A dX2_line_218 rfl (Nat.le_of_ble_eq_true rfl) (L' := [(2, vI (7 : Int32)), (1, vR (some a3)), (0, vR (some x))]) rfl ?_
          refine xr_goto A (tgt := 234) dX2_line_219 (by decide) ?_
          refine X.sub [2, 0] rfl ?_
          exact wX2_line_b234 A hf
      replace hf := ab_in c25_3045982 hf
      by_cases c25_3083252 : v6 = (3083252 : Int32)
      · replace hf := ab_ip c25_3083252 hf
        refine xr_lookup A (tgt := 164) dX2_line_25 (by decide) (off := 139) (by rw [c25_3083252] <;> rfl) (by decide) ?_
        refine xr_aload_n A dX2_line_164 1 rfl rfl ?_
        refine xr_ldcs A t699 dX2_line_165 ?_
        revert hf; refine ab_b2I (fun v24 h23 m22 hf => ?_)
        refine xr_V A bJ3_equals (wJ3_equals D m22).2 xc_J3 (wJ3_equals D m22).1 q689 q690 q688 (av := [vR (some (hstr h5 5))]) (rest := []) rfl dX2_line_167 (Nat.le_of_ble_eq_true rfl) (Nat.le_of_ble_eq_true rfl) rfl (Nat.le_of_ble_eq_true rfl) ?_
        refine xr_if_eq A (tgt := 234) dX2_line_170 (by decide) (fun c170 => ?_) (fun c170 => ?_)
        · replace hf := ab_ip c170 hf
          refine X.sub [2, 0] rfl ?_
          exact wX2_line_b234 A hf
        · replace hf := ab_in c170 hf
          refine xr_iconst A (v := 4) dX2_line_173 (by decide) ?_
          refine xr_istore_n A dX2_line_174 rfl (Nat.le_of_ble_eq_true rfl) (L' := [(2, vI (4 : Int32)), (1, vR (some a3)), (0, vR (some x))]) rfl ?_
          refine xr_goto A (tgt := 234) dX2_line_175 (by decide) ?_
          refine X.sub [2, 0] rfl ?_
          exact wX2_line_b234 A hf
      replace hf := ab_in c25_3083252 hf
      by_cases c25_3083674 : v6 = (3083674 : Int32)
      · replace hf := ab_ip c25_3083674 hf
        refine xr_lookup A (tgt := 150) dX2_line_25 (by decide) (off := 125) (by rw [c25_3083674] <;> rfl) (by decide) ?_
        refine xr_aload_n A dX2_line_150 1 rfl rfl ?_
        refine xr_ldcs A t698 dX2_line_151 ?_
        revert hf; refine ab_b2I (fun v27 h26 m25 hf => ?_)
        refine xr_V A bJ3_equals (wJ3_equals D m25).2 xc_J3 (wJ3_equals D m25).1 q689 q690 q688 (av := [vR (some (hstr h5 4))]) (rest := []) rfl dX2_line_153 (Nat.le_of_ble_eq_true rfl) (Nat.le_of_ble_eq_true rfl) rfl (Nat.le_of_ble_eq_true rfl) ?_
        refine xr_if_eq A (tgt := 234) dX2_line_156 (by decide) (fun c156 => ?_) (fun c156 => ?_)
        · replace hf := ab_ip c156 hf
          refine X.sub [2, 0] rfl ?_
          exact wX2_line_b234 A hf
        · replace hf := ab_in c156 hf
          refine xr_iconst A (v := 3) dX2_line_159 (by decide) ?_
          refine xr_istore_n A dX2_line_160 rfl (Nat.le_of_ble_eq_true rfl) (L' := [(2, vI (3 : Int32)), (1, vR (some a3)), (0, vR (some x))]) rfl ?_
          refine xr_goto A (tgt := 234) dX2_line_161 (by decide) ?_
          refine X.sub [2, 0] rfl ?_
          exact wX2_line_b234 A hf
      replace hf := ab_in c25_3083674 hf
      by_cases c25_97526782 : v6 = (97526782 : Int32)
      · replace hf := ab_ip c25_97526782 hf
        refine xr_lookup A (tgt := 136) dX2_line_25 (by decide) (off := 111) (by rw [c25_97526782] <;> rfl) (by decide) ?_
        refine xr_aload_n A dX2_line_136 1 rfl rfl ?_
        refine xr_ldcs A t697 dX2_line_137 ?_
        revert hf; refine ab_b2I (fun v30 h29 m28 hf => ?_)
        refine xr_V A bJ3_equals (wJ3_equals D m28).2 xc_J3 (wJ3_equals D m28).1 q689 q690 q688 (av := [vR (some (hstr h5 3))]) (rest := []) rfl dX2_line_139 (Nat.le_of_ble_eq_true rfl) (Nat.le_of_ble_eq_true rfl) rfl (Nat.le_of_ble_eq_true rfl) ?_
        refine xr_if_eq A (tgt := 234) dX2_line_142 (by decide) (fun c142 => ?_) (fun c142 => ?_)
        · replace hf := ab_ip c142 hf
          refine X.sub [2, 0] rfl ?_
          exact wX2_line_b234 A hf
        · replace hf := ab_in c142 hf
          refine xr_iconst A (v := 2) dX2_line_145 (by decide) ?_
          refine xr_istore_n A dX2_line_146 rfl (Nat.le_of_ble_eq_true rfl) (L' := [(2, vI (2 : Int32)), (1, vR (some a3)), (0, vR (some x))]) rfl ?_
          refine xr_goto A (tgt := 234) dX2_line_147 (by decide) ?_
          refine X.sub [2, 0] rfl ?_
          exact wX2_line_b234 A hf
      replace hf := ab_in c25_97526782 hf
      by_cases c25_99469088 : v6 = (99469088 : Int32)
      · replace hf := ab_ip c25_99469088 hf
        refine xr_lookup A (tgt := 178) dX2_line_25 (by decide) (off := 153) (by rw [c25_99469088] <;> rfl) (by decide) ?_
        refine xr_aload_n A dX2_line_178 1 rfl rfl ?_
        refine xr_ldcs A t700 dX2_line_179 ?_
        revert hf; refine ab_b2I (fun v33 h32 m31 hf => ?_)
        refine xr_V A bJ3_equals (wJ3_equals D m31).2 xc_J3 (wJ3_equals D m31).1 q689 q690 q688 (av := [vR (some (hstr h5 6))]) (rest := []) rfl dX2_line_181 (Nat.le_of_ble_eq_true rfl) (Nat.le_of_ble_eq_true rfl) rfl (Nat.le_of_ble_eq_true rfl) ?_
        refine xr_if_eq A (tgt := 234) dX2_line_184 (by decide) (fun c184 => ?_) (fun c184 => ?_)
        · replace hf := ab_ip c184 hf
          refine X.sub [2, 0] rfl ?_
          exact wX2_line_b234 A hf
        · replace hf := ab_in c184 hf
          refine xr_iconst A (v := 5) dX2_line_187 (by decide) ?_
          refine xr_istore_n A dX2_line_188 rfl (Nat.le_of_ble_eq_true rfl) (L' := [(2, vI (5 : Int32)), (1, vR (some a3)), (0, vR (some x))]) rfl ?_
          refine xr_goto A (tgt := 234) dX2_line_189 (by decide) ?_
          refine X.sub [2, 0] rfl ?_
          exact wX2_line_b234 A hf
      replace hf := ab_in c25_99469088 hf
      refine xr_lookup A (tgt := 234) dX2_line_25 (by decide) (off := 209) (by show Op.lookupswitch.offset [((-1220931666), (197)), ((-705112156), (97)), ((98260), (167)), ((106914), (83)), ((3045982), (182)), ((3083252), (139)), ((3083674), (125)), ((97526782), (111)), ((99469088), (153))] (209) _ = _; rw [lv_osw c25_m1220931666 (by decide), lv_osw c25_m705112156 (by decide), lv_osw c25_98260 (by decide), lv_osw c25_106914 (by decide), lv_osw c25_3045982 (by decide), lv_osw c25_3083252 (by decide), lv_osw c25_3083674 (by decide), lv_osw c25_97526782 (by decide), lv_osw c25_99469088 (by decide)] <;> rfl) (by decide) ?_
      refine X.sub [2, 0] rfl ?_
      exact wX2_line_b234 A hf
    · replace hf := ab_in c5 hf
      refine xr_aload_n A dX2_line_8 0 rfl rfl ?_
      refine xr_iconst A (v := 1) dX2_line_9 (by decide) ?_
      revert hf; refine ab_b2I (fun v36 h35 m34 hf => ?_)
      refine xr_V A bX2_fail (wX2_fail D m34).2 xc_X2 (wX2_fail D m34).1 q628 qs7 q626 (av := [vI (1 : Int32)]) (rest := []) rfl dX2_line_10 (Nat.le_of_ble_eq_true rfl) (Nat.le_of_ble_eq_true rfl) rfl (Nat.le_of_ble_eq_true rfl) ?_
      revert hf; refine ab_bdI (fun a37 e hf => ?_); subst e
      replace hf := ab_czE hf; obtain ⟨i13, hf⟩ := hf
      refine xr_athrow A i13 dX2_line_13 ?_
      obtain ⟨rfl, rfl⟩ := ab_pr hf
      exact xr_out A rfl
/-! X2_read -/
theorem bX2_read : MB yX2_read cX2_read 2 (some (FieldType.object "NoonMeals$Day")) 1 := ⟨q414, q93, by decide, by decide +kernel⟩
noncomputable def fX2_read_b92 (x : Nat) (h : Hp) : Option (((Option Nat) ⊕ Nat) × Hp) :=
  ab_b2 (fX2_fail x (6 : Int32) h) fun v3 h2 =>
  ab_bd v3 fun a4 =>
  ab_cz h2 a4 2 <| some (.inr a4, h2)
theorem wX2_read_b92 {D : Dd} {C : Cx} {h0 h' : Hp} {ρ : (Option Nat) ⊕ Nat} (A : Act C D (h0, (xoR ρ), h') yX2_read cX2_read 2 (some (FieldType.object "NoonMeals$Day")) 11 251 []) {x : Nat} {h : Hp} (hf : fX2_read_b92 x h = some (ρ, h')) : X C D (h0, (xoR ρ), h') 2 92 [(0, vR (some x))] [] h := by
  unfold fX2_read_b92 at hf
  refine xr_aload_n A dX2_read_92 0 rfl rfl ?_
  refine xr_bipush A (v := 6) dX2_read_93 (by decide) ?_
  revert hf; refine ab_b2I (fun v3 h2 m1 hf => ?_)
  refine xr_V A bX2_fail (wX2_fail D m1).2 xc_X2 (wX2_fail D m1).1 q628 qs7 q626 (av := [vI (6 : Int32)]) (rest := []) rfl dX2_read_95 (Nat.le_of_ble_eq_true rfl) (Nat.le_of_ble_eq_true rfl) rfl (Nat.le_of_ble_eq_true rfl) ?_
  revert hf; refine ab_bdI (fun a4 e hf => ?_); subst e
  replace hf := ab_czE hf; obtain ⟨i98, hf⟩ := hf
  refine xr_athrow A i98 dX2_read_98 ?_
  obtain ⟨rfl, rfl⟩ := ab_pr hf
  exact xr_out A rfl
noncomputable def fX2_read_l29 (x : Nat) : Nat → Hp → Option (((Option Nat) ⊕ Nat) × Hp)
  | 0, _ => none
  | n + 1, h =>
  ab_bd (ab_gI h x 1 5) fun v1 =>
  if v1 = (59 : Int32) then (
    ab_bd (fX2_next x h) fun h18 =>
    ab_bx (fX2_line x h18) (fun _ h20 =>
    fX2_read_l29 x n  h20) fun qh20 gh20 => some (.inr qh20, gh20))
  else (
    ab_bd (ab_gI h x 1 5) fun v2 =>
    if v2 = 0 then (
      ab_bd (ab_gR h x 1 9) fun v3 =>
      ab_bd v3 fun a4 =>
      ab_bd (ab_gI h a4 5 17) fun v5 =>
      if v5 = 0 then (
        fX2_read_b92 x  h)
      else (
        ab_bd (ab_gR h x 1 9) fun v6 =>
        ab_bd v6 fun a7 =>
        ab_bd (ab_gI h a7 5 12) fun v8 =>
        if v8 = 0 then (
          fX2_read_b92 x  h)
        else (
          ab_bd (ab_gR h x 1 9) fun v9 =>
          ab_bd v9 fun a10 =>
          ab_bd (ab_gI h a10 5 13) fun v11 =>
          if v11 = 0 then (
            fX2_read_b92 x  h)
          else (
            ab_bd (ab_gR h x 1 9) fun v12 =>
            some (.inl v12, h)))))
    else (
      ab_b2 (fX2_fail x (1 : Int32) h) fun v15 h14 =>
      ab_bd v15 fun a16 =>
      ab_cz h14 a16 2 <| some (.inr a16, h14)))
theorem wX2_read_l29 {D : Dd} {C : Cx} {h0 h' : Hp} {ρ : (Option Nat) ⊕ Nat} (A : Act C D (h0, (xoR ρ), h') yX2_read cX2_read 2 (some (FieldType.object "NoonMeals$Day")) 11 251 []) {x : Nat} : ∀ (n : Nat) {h : Hp}, fX2_read_l29 x n h = some (ρ, h') → X C D (h0, (xoR ρ), h') 2 29 [(0, vR (some x))] [] h := by
  intro n
  induction n with
  | zero => intro h hf; exact ab_no hf
  | succ n ih =>
    intro h hf
    unfold fX2_read_l29 at hf
    refine xr_aload_n A dX2_read_29 0 rfl rfl ?_
    revert hf; refine ab_bdI (fun v1 mv1 hf => ?_)
    refine xr_get A xc_X2 in_X2 5 (Nat.le_of_ble_eq_true rfl) q211 rfl (ab_gIE mv1) dX2_read_30 ?_
    refine xr_bipush A (v := 59) dX2_read_33 (by decide) ?_
    refine xr_icmp_ne A (tgt := 49) dX2_read_35 (by decide) (fun c35 => ?_) (fun c35 => ?_)
    · replace hf := ab_in c35 hf
      refine xr_aload_n A dX2_read_49 0 rfl rfl ?_
      revert hf; refine ab_bdI (fun v2 mv2 hf => ?_)
      refine xr_get A xc_X2 in_X2 5 (Nat.le_of_ble_eq_true rfl) q211 rfl (ab_gIE mv2) dX2_read_50 ?_
      refine xr_if_eq A (tgt := 62) dX2_read_53 (by decide) (fun c53 => ?_) (fun c53 => ?_)
      · replace hf := ab_ip c53 hf
        refine xr_aload_n A dX2_read_62 0 rfl rfl ?_
        revert hf; refine ab_bdI (fun v3 mv3 hf => ?_)
        refine xr_get A xc_X2 in_X2 9 (Nat.le_of_ble_eq_true rfl) q215 rfl (ab_gRE mv3) dX2_read_63 ?_
        revert hf; refine ab_bdI (fun a4 e hf => ?_); subst e
        revert hf; refine ab_bdI (fun v5 mv5 hf => ?_)
        refine xr_get A xc_X6 in_X6 17 (Nat.le_of_ble_eq_true rfl) q485 rfl (ab_gIE mv5) dX2_read_66 ?_
        refine xr_if_eq A (tgt := 92) dX2_read_69 (by decide) (fun c69 => ?_) (fun c69 => ?_)
        · replace hf := ab_ip c69 hf
          exact wX2_read_b92 A hf
        · replace hf := ab_in c69 hf
          refine xr_aload_n A dX2_read_72 0 rfl rfl ?_
          revert hf; refine ab_bdI (fun v6 mv6 hf => ?_)
          refine xr_get A xc_X2 in_X2 9 (Nat.le_of_ble_eq_true rfl) q215 rfl (ab_gRE mv6) dX2_read_73 ?_
          revert hf; refine ab_bdI (fun a7 e hf => ?_); subst e
          revert hf; refine ab_bdI (fun v8 mv8 hf => ?_)
          refine xr_get A xc_X6 in_X6 12 (Nat.le_of_ble_eq_true rfl) q471 rfl (ab_gIE mv8) dX2_read_76 ?_
          refine xr_if_eq A (tgt := 92) dX2_read_79 (by decide) (fun c79 => ?_) (fun c79 => ?_)
          · replace hf := ab_ip c79 hf
            exact wX2_read_b92 A hf
          · replace hf := ab_in c79 hf
            refine xr_aload_n A dX2_read_82 0 rfl rfl ?_
            revert hf; refine ab_bdI (fun v9 mv9 hf => ?_)
            refine xr_get A xc_X2 in_X2 9 (Nat.le_of_ble_eq_true rfl) q215 rfl (ab_gRE mv9) dX2_read_83 ?_
            revert hf; refine ab_bdI (fun a10 e hf => ?_); subst e
            revert hf; refine ab_bdI (fun v11 mv11 hf => ?_)
            refine xr_get A xc_X6 in_X6 13 (Nat.le_of_ble_eq_true rfl) q474 rfl (ab_gIE mv11) dX2_read_86 ?_
            refine xr_if_ne A (tgt := 99) dX2_read_89 (by decide) (fun c89 => ?_) (fun c89 => ?_)
            · replace hf := ab_in c89 hf
              refine xr_aload_n A dX2_read_99 0 rfl rfl ?_
              revert hf; refine ab_bdI (fun v12 mv12 hf => ?_)
              refine xr_get A xc_X2 in_X2 9 (Nat.le_of_ble_eq_true rfl) q215 rfl (ab_gRE mv12) dX2_read_100 ?_
              obtain ⟨rfl, rfl⟩ := ab_pr hf
              exact xr_areturn A (Or.inl ⟨_, rfl⟩) rfl dX2_read_103
            · replace hf := ab_ip c89 hf
              exact wX2_read_b92 A hf
      · replace hf := ab_in c53 hf
        refine xr_aload_n A dX2_read_56 0 rfl rfl ?_
        refine xr_iconst A (v := 1) dX2_read_57 (by decide) ?_
        revert hf; refine ab_b2I (fun v15 h14 m13 hf => ?_)
        refine xr_V A bX2_fail (wX2_fail D m13).2 xc_X2 (wX2_fail D m13).1 q628 qs7 q626 (av := [vI (1 : Int32)]) (rest := []) rfl dX2_read_58 (Nat.le_of_ble_eq_true rfl) (Nat.le_of_ble_eq_true rfl) rfl (Nat.le_of_ble_eq_true rfl) ?_
        revert hf; refine ab_bdI (fun a16 e hf => ?_); subst e
        replace hf := ab_czE hf; obtain ⟨i61, hf⟩ := hf
        refine xr_athrow A i61 dX2_read_61 ?_
        obtain ⟨rfl, rfl⟩ := ab_pr hf
        exact xr_out A rfl
    · replace hf := ab_ip c35 hf
      refine xr_aload_n A dX2_read_38 0 rfl rfl ?_
      revert hf; refine ab_bdI (fun h18 m17 hf => ?_)
      refine xr_V0 A bX2_next (wX2_next D m17).2 xc_X2 (wX2_next D m17).1 q530 qs4 q528 (av := []) (rest := []) rfl dX2_read_39 (Nat.le_of_ble_eq_true rfl) (Nat.le_of_ble_eq_true rfl) rfl (Nat.le_of_ble_eq_true rfl) ?_
      refine xr_aload_n A dX2_read_42 0 rfl rfl ?_
      revert hf; refine ab_bxI (fun uh20 h20 m19 hf => ?_) (fun qh20 gh20 m19 hf => ?_)
      · refine xr_V0 A bX2_line (wX2_line D m19).2 xc_X2 (wX2_line D m19).1 q624 qs6 q622 (av := []) (rest := []) rfl dX2_read_43 (Nat.le_of_ble_eq_true rfl) (Nat.le_of_ble_eq_true rfl) rfl (Nat.le_of_ble_eq_true rfl) ?_
        refine xr_goto A (tgt := 29) dX2_read_46 (by decide) ?_
        exact ih hf
      · refine xr_VX A bX2_line (wX2_line D m19).2 xc_X2 (wX2_line D m19).1 q624 qs6 q622 (av := []) (rest := []) rfl dX2_read_43 (Nat.le_of_ble_eq_true rfl) (Nat.le_of_ble_eq_true rfl) rfl (Nat.le_of_ble_eq_true rfl) ?_
        obtain ⟨rfl, rfl⟩ := ab_pr hf
        exact xr_out A rfl
noncomputable def fX2_read (x : Nat) (p1 : Int32) (h : Hp) : Option (((Option Nat) ⊕ Nat) × Hp) :=
  ab_ck h x 1 <|
  ab_bd (ab_pI h x 1 3 p1) fun h1 =>
  ab_bd (ab_pI h1 x 1 4 (0 : Int32)) fun h2 =>
  ab_b2 (ab_new h2 5 19 tyX6) fun a3 h4 =>
  ab_bd (fX6_init a3 h4) fun h6 =>
  ab_bd (ab_pR h6 x 1 9 (some a3)) fun h7 =>
  ab_bd (fX2_next x h7) fun h9 =>
  ab_bx (fX2_line x h9) (fun _ h11 =>
  fX2_read_l29 x (hfu h11)  h11) fun qh11 gh11 => some (.inr qh11, gh11)
theorem wX2_read (D : Dd) {x : Nat} {p1 : Int32} {h : Hp} {ρ : (Option Nat) ⊕ Nat} {h' : Hp} (hf : fX2_read x p1 h = some (ρ, h')) : ab_is h x 1 ∧ Ct D 11 251 yX2_read cX2_read 2 (some (FieldType.object "NoonMeals$Day")) [vR (some x), vI p1] h (xoR ρ) h' := by
    unfold fX2_read at hf
    replace hf := ab_ckE hf; obtain ⟨i0, hf⟩ := hf
    refine ⟨i0, ?_⟩
    refine Ct.of (by decide) (L := [(0, vR (some x)), (1, vI p1)]) rfl (Nat.le_of_ble_eq_true rfl) (fun C A => ?_)
    refine xr_aload_n A dX2_read_0 0 rfl rfl ?_
    refine xr_iload_n A dX2_read_1 1 rfl rfl ?_
    revert hf; refine ab_bdI (fun h1 mh1 hf => ?_)
    refine xr_put A xc_X2 in_X2 tyX2_ok nmX2 3 (Nat.le_of_ble_eq_true rfl) q209 rfl rfl (v := vI p1) rfl rfl mh1 dX2_read_2 ?_
    refine xr_aload_n A dX2_read_5 0 rfl rfl ?_
    refine xr_iconst A (v := 0) dX2_read_6 (by decide) ?_
    revert hf; refine ab_bdI (fun h2 mh2 hf => ?_)
    refine xr_put A xc_X2 in_X2 tyX2_ok nmX2 4 (Nat.le_of_ble_eq_true rfl) q210 rfl rfl (v := vI (0 : Int32)) rfl rfl mh2 dX2_read_7 ?_
    refine xr_aload_n A dX2_read_10 0 rfl rfl ?_
    revert hf; refine ab_b2I (fun a3 h4 mh4 hf => ?_)
    refine xr_new A xc_X6 in_X6 tyX6_ok q415 q416 q100 mh4 dX2_read_11 ?_
    refine xr_dup A dX2_read_14 rfl ?_
    revert hf; refine ab_bdI (fun h6 m5 hf => ?_)
    refine xr_IN0 A bX6_init (wX6_init D m5) rfl q418 n417 (av := []) (rest := [vR (some a3), vR (some x)]) rfl dX2_read_15 (Nat.le_of_ble_eq_true rfl) (Nat.le_of_ble_eq_true rfl) rfl (Nat.le_of_ble_eq_true rfl) ?_
    revert hf; refine ab_bdI (fun h7 mh7 hf => ?_)
    refine xr_put A xc_X2 in_X2 tyX2_ok nmX2 9 (Nat.le_of_ble_eq_true rfl) q215 rfl rfl (v := vR (some a3)) (ab_nR _ rfl) (ab_tR _ rfl) mh7 dX2_read_18 ?_
    refine xr_aload_n A dX2_read_21 0 rfl rfl ?_
    revert hf; refine ab_bdI (fun h9 m8 hf => ?_)
    refine xr_V0 A bX2_next (wX2_next D m8).2 xc_X2 (wX2_next D m8).1 q530 qs4 q528 (av := []) (rest := []) rfl dX2_read_22 (Nat.le_of_ble_eq_true rfl) (Nat.le_of_ble_eq_true rfl) rfl (Nat.le_of_ble_eq_true rfl) ?_
    refine xr_aload_n A dX2_read_25 0 rfl rfl ?_
    revert hf; refine ab_bxI (fun uh11 h11 m10 hf => ?_) (fun qh11 gh11 m10 hf => ?_)
    · refine xr_V0 A bX2_line (wX2_line D m10).2 xc_X2 (wX2_line D m10).1 q624 qs6 q622 (av := []) (rest := []) rfl dX2_read_26 (Nat.le_of_ble_eq_true rfl) (Nat.le_of_ble_eq_true rfl) rfl (Nat.le_of_ble_eq_true rfl) ?_
      refine X.sub [0] rfl ?_
      exact wX2_read_l29 A _ hf
    · refine xr_VX A bX2_line (wX2_line D m10).2 xc_X2 (wX2_line D m10).1 q624 qs6 q622 (av := []) (rest := []) rfl dX2_read_26 (Nat.le_of_ble_eq_true rfl) (Nat.le_of_ble_eq_true rfl) rfl (Nat.le_of_ble_eq_true rfl) ?_
      obtain ⟨rfl, rfl⟩ := ab_pr hf
      exact xr_out A rfl
/-! X1_day -/
theorem bX1_day : MBW yX1_day cX1_day 6 (some FieldType.int) [(32, 44, 47, 133)] 1 := ⟨q398, q92, by decide, by decide +kernel⟩
noncomputable def fX1_day_l112 (x : Nat) : Nat → Int32 → Hp → Option (Int32 × Hp)
  | 0, _, _ => none
  | n + 1, l2, h =>
  if (6 : Int32) ≤ l2 then (
    ab_bd (ab_pI h x 0 40 (0 : Int32)) fun h1 =>
    ab_bd (ab_pI h1 x 0 21 (0 : Int32)) fun h2 =>
    ab_bd (ab_pI h2 x 0 26 (0 : Int32)) fun h3 =>
    ab_bd (ab_pI h3 x 0 16 (0 : Int32)) fun h4 =>
    ab_bd (ab_pI h4 x 0 32 (0 : Int32)) fun h5 =>
    ab_bd (ab_gR h5 x 0 3) fun v6 =>
    ab_bd v6 fun a7 =>
    ab_bd (ab_gI h5 a7 5 12) fun v8 =>
    some (v8, h5))
  else (
    ab_bd (ab_gR h x 0 36) fun v9 =>
    ab_bd v9 fun a10 =>
    ab_bd (ab_sI h a10 l2 (0 : Int32)) fun h11 =>
    fX1_day_l112 x n (l2 + (1 : Int32)) h11)
theorem wX1_day_l112 {D : Dd} {C : Cx} {h0 h' : Hp} {r : Int32} (A : Act C D (h0, (.inl (some (vI r))), h') yX1_day cX1_day 6 (some FieldType.int) 12 272 [(32, 44, 47, 133)]) {x : Nat} : ∀ (n : Nat) {l2 : Int32} {h : Hp}, fX1_day_l112 x n l2 h = some (r, h') → X C D (h0, (.inl (some (vI r))), h') 6 112 [(0, vR (some x)), (2, vI l2)] [] h := by
  intro n
  induction n with
  | zero => intro l2 h hf; exact ab_no hf
  | succ n ih =>
    intro l2 h hf
    unfold fX1_day_l112 at hf
    refine xr_iload_n A dX1_day_112 1 rfl rfl ?_
    refine xr_bipush A (v := 6) dX1_day_113 (by decide) ?_
    refine xr_icmp_ge A (tgt := 131) dX1_day_115 (by decide) (fun c115 => ?_) (fun c115 => ?_)
    · replace hf := ab_ip c115 hf
      refine xr_aload_n A dX1_day_131 0 rfl rfl ?_
      refine xr_iconst A (v := 0) dX1_day_132 (by decide) ?_
      revert hf; refine ab_bdI (fun h1 mh1 hf => ?_)
      refine xr_put A xc_X1 in_X1 tyX1_ok nmX1 40 (Nat.le_of_ble_eq_true rfl) q303 rfl rfl (v := vI (0 : Int32)) rfl rfl mh1 dX1_day_133 ?_
      refine xr_aload_n A dX1_day_136 0 rfl rfl ?_
      refine xr_iconst A (v := 0) dX1_day_137 (by decide) ?_
      revert hf; refine ab_bdI (fun h2 mh2 hf => ?_)
      refine xr_put A xc_X1 in_X1 tyX1_ok nmX1 21 (Nat.le_of_ble_eq_true rfl) q284 rfl rfl (v := vI (0 : Int32)) rfl rfl mh2 dX1_day_138 ?_
      refine xr_aload_n A dX1_day_141 0 rfl rfl ?_
      refine xr_iconst A (v := 0) dX1_day_142 (by decide) ?_
      revert hf; refine ab_bdI (fun h3 mh3 hf => ?_)
      refine xr_put A xc_X1 in_X1 tyX1_ok nmX1 26 (Nat.le_of_ble_eq_true rfl) q289 rfl rfl (v := vI (0 : Int32)) rfl rfl mh3 dX1_day_143 ?_
      refine xr_aload_n A dX1_day_146 0 rfl rfl ?_
      refine xr_iconst A (v := 0) dX1_day_147 (by decide) ?_
      revert hf; refine ab_bdI (fun h4 mh4 hf => ?_)
      refine xr_put A xc_X1 in_X1 tyX1_ok nmX1 16 (Nat.le_of_ble_eq_true rfl) q279 rfl rfl (v := vI (0 : Int32)) rfl rfl mh4 dX1_day_148 ?_
      refine xr_aload_n A dX1_day_151 0 rfl rfl ?_
      refine xr_iconst A (v := 0) dX1_day_152 (by decide) ?_
      revert hf; refine ab_bdI (fun h5 mh5 hf => ?_)
      refine xr_put A xc_X1 in_X1 tyX1_ok nmX1 32 (Nat.le_of_ble_eq_true rfl) q295 rfl rfl (v := vI (0 : Int32)) rfl rfl mh5 dX1_day_153 ?_
      refine xr_aload_n A dX1_day_156 0 rfl rfl ?_
      revert hf; refine ab_bdI (fun v6 mv6 hf => ?_)
      refine xr_get A xc_X1 in_X1 3 (Nat.le_of_ble_eq_true rfl) q266 rfl (ab_gRE mv6) dX1_day_157 ?_
      revert hf; refine ab_bdI (fun a7 e hf => ?_); subst e
      revert hf; refine ab_bdI (fun v8 mv8 hf => ?_)
      refine xr_get A xc_X6 in_X6 12 (Nat.le_of_ble_eq_true rfl) q470 rfl (ab_gIE mv8) dX1_day_160 ?_
      exact xr_ireturn A rfl hf dX1_day_163
    · replace hf := ab_in c115 hf
      refine xr_aload_n A dX1_day_118 0 rfl rfl ?_
      revert hf; refine ab_bdI (fun v9 mv9 hf => ?_)
      refine xr_get A xc_X1 in_X1 36 (Nat.le_of_ble_eq_true rfl) q299 rfl (ab_gRE mv9) dX1_day_119 ?_
      refine xr_iload_n A dX1_day_122 1 rfl rfl ?_
      refine xr_iconst A (v := 0) dX1_day_123 (by decide) ?_
      revert hf; refine ab_bdI (fun a10 e hf => ?_); subst e
      revert hf; refine ab_bdI (fun h11 mh11 hf => ?_)
      refine xr_iastore A mh11 dX1_day_124 ?_
      refine xr_iinc A dX1_day_125 1 rfl (v := (l2 + (1 : Int32))) rfl (Nat.le_of_ble_eq_true rfl) (L' := [(2, vI (l2 + (1 : Int32))), (0, vR (some x))]) rfl ?_
      refine xr_goto A (tgt := 112) dX1_day_128 (by decide) ?_
      refine X.sub [1, 0] rfl ?_
      exact ih hf
noncomputable def fX1_day_l86 (x : Nat) : Nat → Nat → Int32 → Int32 → Hp → Option (Int32 × Hp)
  | 0, _, _, _, _ => none
  | n + 1, l2, l3, l4, h =>
  if l3 ≤ l4 then (
    fX1_day_l112 x (hfu h) (0 : Int32) h)
  else (
    ab_bd (ab_aR h l2 5 l4) fun v1 =>
    ab_bd v1 fun a2 =>
    ab_bd (ab_pI h a2 3 2 (0 : Int32)) fun h3 =>
    fX1_day_l86 x n l2 l3 (l4 + (1 : Int32)) h3)
theorem wX1_day_l86 {D : Dd} {C : Cx} {h0 h' : Hp} {r : Int32} (A : Act C D (h0, (.inl (some (vI r))), h') yX1_day cX1_day 6 (some FieldType.int) 12 272 [(32, 44, 47, 133)]) {x : Nat} : ∀ (n : Nat) {l2 : Nat} {l3 : Int32} {l4 : Int32} {h : Hp}, fX1_day_l86 x n l2 l3 l4 h = some (r, h') → X C D (h0, (.inl (some (vI r))), h') 6 86 [(0, vR (some x)), (2, vR (some l2)), (3, vI l3), (4, vI l4)] [] h := by
  intro n
  induction n with
  | zero => intro l2 l3 l4 h hf; exact ab_no hf
  | succ n ih =>
    intro l2 l3 l4 h hf
    unfold fX1_day_l86 at hf
    refine xr_iload A dX1_day_86 3 rfl ?_
    refine xr_iload_n A dX1_day_88 2 rfl rfl ?_
    refine xr_icmp_ge A (tgt := 110) dX1_day_89 (by decide) (fun c89 => ?_) (fun c89 => ?_)
    · replace hf := ab_ip c89 hf
      refine xr_iconst A (v := 0) dX1_day_110 (by decide) ?_
      refine xr_istore_n A dX1_day_111 rfl (Nat.le_of_ble_eq_true rfl) (L' := [(2, vI (0 : Int32)), (0, vR (some x)), (3, vI l3), (4, vI l4)]) rfl ?_
      refine X.sub [1, 0] rfl ?_
      exact wX1_day_l112 A _ hf
    · replace hf := ab_in c89 hf
      refine xr_aload_n A dX1_day_92 1 rfl rfl ?_
      refine xr_iload A dX1_day_93 3 rfl ?_
      revert hf; refine ab_bdI (fun v1 mv1 hf => ?_)
      refine xr_aaload A (t := 5) rfl mv1 dX1_day_95 ?_
      refine xr_astore A dX1_day_96 (Nat.le_of_ble_eq_true rfl) (L' := [(5, vR v1), (0, vR (some x)), (2, vR (some l2)), (3, vI l3), (4, vI l4)]) rfl ?_
      refine xr_aload A dX1_day_98 0 rfl ?_
      refine xr_iconst A (v := 0) dX1_day_100 (by decide) ?_
      revert hf; refine ab_bdI (fun a2 e hf => ?_); subst e
      revert hf; refine ab_bdI (fun h3 mh3 hf => ?_)
      refine xr_put A xc_X4 in_X4 tyX4_ok nmX4 2 (Nat.le_of_ble_eq_true rfl) q250 rfl rfl (v := vI (0 : Int32)) rfl rfl mh3 dX1_day_101 ?_
      refine xr_iinc A dX1_day_104 4 rfl (v := (l4 + (1 : Int32))) rfl (Nat.le_of_ble_eq_true rfl) (L' := [(4, vI (l4 + (1 : Int32))), (5, vR (some a2)), (0, vR (some x)), (2, vR (some l2)), (3, vI l3)]) rfl ?_
      refine xr_goto A (tgt := 86) dX1_day_107 (by decide) ?_
      refine X.sub [2, 3, 4, 0] rfl ?_
      exact ih hf
noncomputable def fX1_day (x : Nat) (p1 : Int32) (h : Hp) : Option (Int32 × Hp) :=
  ab_ck h x 0 <|
  ab_bd (fX1_anew x h) fun h2 =>
  ab_bd (ab_gI h2 x 0 1) fun v3 =>
  ab_b2 (fX1_in p1 (0 : Int32) v3 h2) fun v6 h5 =>
  if v6 = 0 then (
    ab_b2 (fX1_no x (2 : Int32) h5) fun v28 h27 =>
    some (v28, h27))
  else (
    ab_bd (ab_pI h5 x 0 1 (0 : Int32)) fun h7 =>
    ab_bd (ab_pI h7 x 0 5 (0 : Int32)) fun h8 =>
    ab_bd (ab_gR h8 x 0 2) fun v9 =>
    ab_bd v9 fun a10 =>
    ab_bx (fX2_read a10 p1 h8) (fun v13 h12 =>
    ab_bd (ab_pR h12 x 0 3 v13) fun h14 =>
    ab_bd (ab_pI h14 x 0 7 (0 : Int32)) fun h15 =>
    ab_bd (ab_gR h15 x 0 8) fun v16 =>
    ab_bd v16 fun a17 =>
    ab_bd (ab_len h15 a17) fun v18 =>
    fX1_day_l86 x (hfu h15) a17 v18 (0 : Int32) h15) fun qh12 gh12 => ab_ck gh12 qh12 2 <|
      ab_bd (ab_gI gh12 qh12 2 6) fun v19 =>
      ab_bd (ab_pI gh12 x 0 5 v19) fun h20 =>
      ab_bd (ab_gI h20 qh12 2 7) fun v21 =>
      ab_bd (ab_pI h20 x 0 6 v21) fun h22 =>
      ab_b2 (fX1_no x (4 : Int32) h22) fun v25 h24 =>
      some (v25, h24))
theorem wX1_day (D : Dd) {x : Nat} {p1 : Int32} {h : Hp} {r : Int32} {h' : Hp} (hf : fX1_day x p1 h = some (r, h')) : ab_is h x 0 ∧ CtW D 12 272 yX1_day (wsW_ yX1_day cX1_day 6 (some FieldType.int) [(32, 44, 47, 133)]) [vR (some x), vI p1] h (.inl (some (vI r))) h' := by
    unfold fX1_day at hf
    replace hf := ab_ckE hf; obtain ⟨i0, hf⟩ := hf
    refine ⟨i0, ?_⟩
    refine Ct.ofW (by decide) (L := [(0, vR (some x)), (1, vI p1)]) rfl (Nat.le_of_ble_eq_true rfl) (fun C A => ?_)
    refine xr_aload_n A dX1_day_0 0 rfl rfl ?_
    revert hf; refine ab_bdI (fun h2 m1 hf => ?_)
    refine xr_V0 A bX1_anew (wX1_anew D m1).2 xc_X1 (wX1_anew D m1).1 q402 qs2 q400 (av := []) (rest := []) rfl dX1_day_1 (Nat.le_of_ble_eq_true rfl) (Nat.le_of_ble_eq_true rfl) rfl (Nat.le_of_ble_eq_true rfl) ?_
    refine xr_iload_n A dX1_day_4 1 rfl rfl ?_
    refine xr_iconst A (v := 0) dX1_day_5 (by decide) ?_
    refine xr_aload_n A dX1_day_6 0 rfl rfl ?_
    revert hf; refine ab_bdI (fun v3 mv3 hf => ?_)
    refine xr_get A xc_X1 in_X1 1 (Nat.le_of_ble_eq_true rfl) q264 rfl (ab_gIE mv3) dX1_day_7 ?_
    revert hf; refine ab_b2I (fun v6 h5 m4 hf => ?_)
    refine xr_S A bX1_in (wX1_in D m4) q405 q404 (av := [vI p1, vI (0 : Int32), vI v3]) (rest := []) rfl dX1_day_10 (Nat.le_of_ble_eq_true rfl) (Nat.le_of_ble_eq_true rfl) rfl (Nat.le_of_ble_eq_true rfl) ?_
    refine xr_if_ne A (tgt := 22) dX1_day_13 (by decide) (fun c13 => ?_) (fun c13 => ?_)
    · replace hf := ab_in c13 hf
      refine xr_aload_n A dX1_day_22 0 rfl rfl ?_
      refine xr_iconst A (v := 0) dX1_day_23 (by decide) ?_
      revert hf; refine ab_bdI (fun h7 mh7 hf => ?_)
      refine xr_put A xc_X1 in_X1 tyX1_ok nmX1 1 (Nat.le_of_ble_eq_true rfl) q264 rfl rfl (v := vI (0 : Int32)) rfl rfl mh7 dX1_day_24 ?_
      refine xr_aload_n A dX1_day_27 0 rfl rfl ?_
      refine xr_iconst A (v := 0) dX1_day_28 (by decide) ?_
      revert hf; refine ab_bdI (fun h8 mh8 hf => ?_)
      refine xr_put A xc_X1 in_X1 tyX1_ok nmX1 5 (Nat.le_of_ble_eq_true rfl) q268 rfl rfl (v := vI (0 : Int32)) rfl rfl mh8 dX1_day_29 ?_
      refine xr_aload_n A dX1_day_32 0 rfl rfl ?_
      refine xr_aload_n A dX1_day_33 0 rfl rfl ?_
      revert hf; refine ab_bdI (fun v9 mv9 hf => ?_)
      refine xr_get A xc_X1 in_X1 2 (Nat.le_of_ble_eq_true rfl) q265 rfl (ab_gRE mv9) dX1_day_34 ?_
      refine xr_iload_n A dX1_day_37 1 rfl rfl ?_
      revert hf; refine ab_bdI (fun a10 e hf => ?_); subst e
      revert hf; refine ab_bxI (fun v13 h12 m11 hf => ?_) (fun qh12 gh12 m11 hf => ?_)
      · refine xr_V A bX2_read (wX2_read D m11).2 xc_X2 (wX2_read D m11).1 q412 q413 q411 (av := [vI p1]) (rest := [vR (some x)]) rfl dX1_day_38 (Nat.le_of_ble_eq_true rfl) (Nat.le_of_ble_eq_true rfl) rfl (Nat.le_of_ble_eq_true rfl) ?_
        revert hf; refine ab_bdI (fun h14 mh14 hf => ?_)
        refine xr_put A xc_X1 in_X1 tyX1_ok nmX1 3 (Nat.le_of_ble_eq_true rfl) q266 rfl rfl (v := vR v13) (ab_nR _ rfl) (ab_tR _ rfl) mh14 dX1_day_41 ?_
        refine xr_goto A (tgt := 70) dX1_day_44 (by decide) ?_
        refine xr_aload_n A dX1_day_70 0 rfl rfl ?_
        refine xr_iconst A (v := 0) dX1_day_71 (by decide) ?_
        revert hf; refine ab_bdI (fun h15 mh15 hf => ?_)
        refine xr_put A xc_X1 in_X1 tyX1_ok nmX1 7 (Nat.le_of_ble_eq_true rfl) q270 rfl rfl (v := vI (0 : Int32)) rfl rfl mh15 dX1_day_72 ?_
        refine xr_aload_n A dX1_day_75 0 rfl rfl ?_
        revert hf; refine ab_bdI (fun v16 mv16 hf => ?_)
        refine xr_get A xc_X1 in_X1 8 (Nat.le_of_ble_eq_true rfl) q271 rfl (ab_gRE mv16) dX1_day_76 ?_
        refine xr_astore_n A dX1_day_79 rfl (Nat.le_of_ble_eq_true rfl) (L' := [(2, vR v16), (0, vR (some x)), (1, vI p1)]) rfl ?_
        refine xr_aload_n A dX1_day_80 0 rfl rfl ?_
        revert hf; refine ab_bdI (fun a17 e hf => ?_); subst e
        revert hf; refine ab_bdI (fun v18 mv18 hf => ?_)
        refine xr_alen A mv18 dX1_day_81 ?_
        refine xr_istore_n A dX1_day_82 rfl (Nat.le_of_ble_eq_true rfl) (L' := [(3, vI v18), (2, vR (some a17)), (0, vR (some x)), (1, vI p1)]) rfl ?_
        refine xr_iconst A (v := 0) dX1_day_83 (by decide) ?_
        refine xr_istore A dX1_day_84 (Nat.le_of_ble_eq_true rfl) (L' := [(4, vI (0 : Int32)), (3, vI v18), (2, vR (some a17)), (0, vR (some x)), (1, vI p1)]) rfl ?_
        refine X.sub [3, 2, 1, 0] rfl ?_
        exact wX1_day_l86 A _ hf
      · refine xr_VX A bX2_read (wX2_read D m11).2 xc_X2 (wX2_read D m11).1 q412 q413 q411 (av := [vI p1]) (rest := [vR (some x)]) rfl dX1_day_38 (Nat.le_of_ble_eq_true rfl) (Nat.le_of_ble_eq_true rfl) rfl (Nat.le_of_ble_eq_true rfl) ?_
        replace hf := ab_ckE hf; obtain ⟨ih12, hf⟩ := hf
        refine xr_catch A (pc := 38) rfl ih12 q399 (by decide +kernel) (by decide) ?_
        refine xr_astore_n A dX1_day_47 rfl (Nat.le_of_ble_eq_true rfl) (L' := [(2, vR (some qh12)), (0, vR (some x)), (1, vI p1)]) rfl ?_
        refine xr_aload_n A dX1_day_48 1 rfl rfl ?_
        refine xr_aload_n A dX1_day_49 0 rfl rfl ?_
        revert hf; refine ab_bdI (fun v19 mv19 hf => ?_)
        refine xr_get A xc_X3 in_X3 6 (Nat.le_of_ble_eq_true rfl) q185 rfl (ab_gIE mv19) dX1_day_50 ?_
        revert hf; refine ab_bdI (fun h20 mh20 hf => ?_)
        refine xr_put A xc_X1 in_X1 tyX1_ok nmX1 5 (Nat.le_of_ble_eq_true rfl) q268 rfl rfl (v := vI v19) rfl rfl mh20 dX1_day_53 ?_
        refine xr_aload_n A dX1_day_56 1 rfl rfl ?_
        refine xr_aload_n A dX1_day_57 0 rfl rfl ?_
        revert hf; refine ab_bdI (fun v21 mv21 hf => ?_)
        refine xr_get A xc_X3 in_X3 7 (Nat.le_of_ble_eq_true rfl) q187 rfl (ab_gIE mv21) dX1_day_58 ?_
        revert hf; refine ab_bdI (fun h22 mh22 hf => ?_)
        refine xr_put A xc_X1 in_X1 tyX1_ok nmX1 6 (Nat.le_of_ble_eq_true rfl) q269 rfl rfl (v := vI v21) rfl rfl mh22 dX1_day_61 ?_
        refine xr_aload_n A dX1_day_64 1 rfl rfl ?_
        refine xr_iconst A (v := 4) dX1_day_65 (by decide) ?_
        revert hf; refine ab_b2I (fun v25 h24 m23 hf => ?_)
        refine xr_V A bX1_no (wX1_no D m23).2 xc_X1 (wX1_no D m23).1 q409 qs3 q407 (av := [vI (4 : Int32)]) (rest := []) rfl dX1_day_66 (Nat.le_of_ble_eq_true rfl) (Nat.le_of_ble_eq_true rfl) rfl (Nat.le_of_ble_eq_true rfl) ?_
        exact xr_ireturn A rfl hf dX1_day_69
    · replace hf := ab_ip c13 hf
      refine xr_aload_n A dX1_day_16 0 rfl rfl ?_
      refine xr_iconst A (v := 2) dX1_day_17 (by decide) ?_
      revert hf; refine ab_b2I (fun v28 h27 m26 hf => ?_)
      refine xr_V A bX1_no (wX1_no D m26).2 xc_X1 (wX1_no D m26).1 q409 qs3 q407 (av := [vI (2 : Int32)]) (rest := []) rfl dX1_day_18 (Nat.le_of_ble_eq_true rfl) (Nat.le_of_ble_eq_true rfl) rfl (Nat.le_of_ble_eq_true rfl) ?_
      exact xr_ireturn A rfl hf dX1_day_21
