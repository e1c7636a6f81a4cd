set_option maxRecDepth 100000
/-! X5_readDay -/
theorem bX5_readDay : MB yX5_readDay cX5_readDay 2 (none : Option FieldType) 0 := ⟨q1620, q99, by decide, by decide +kernel⟩
noncomputable def fX5_readDay_b64 (x : Nat) (h : Hp) : Option Hp :=
  ab_bd (fX5_wrong x (6 : Int32) h) fun h2 =>
  some h2
theorem wX5_readDay_b64 {D : Dd} {C : Cx} {h0 h' : Hp} (A : Act C D (h0, (.inl none), h') yX5_readDay cX5_readDay 2 (none : Option FieldType) 11 241 []) {x : Nat} {h : Hp} (hf : fX5_readDay_b64 x h = some h') : X C D (h0, (.inl none), h') 2 64 [(0, vR (some x))] [] h := by
  unfold fX5_readDay_b64 at hf
  refine xr_aload_n A dX5_readDay_64 0 rfl rfl ?_
  refine xr_bipush A (v := 6) dX5_readDay_65 (by decide) ?_
  revert hf; refine ab_bdI (fun h2 m1 hf => ?_)
  refine xr_V0 A bX5_wrong (wX5_wrong D m1).2 xc_X5 (wX5_wrong D m1).1 q1641 qs51 q1639 (av := [vI (6 : Int32)]) (rest := []) rfl dX5_readDay_67 (Nat.le_of_ble_eq_true rfl) (Nat.le_of_ble_eq_true rfl) rfl (Nat.le_of_ble_eq_true rfl) ?_
  exact xr_return A hf dX5_readDay_70
noncomputable def fX5_readDay_b33 (x : Nat) (h : Hp) : Option Hp :=
  ab_bd (ab_gR h x 4 4) fun v1 =>
  ab_bd v1 fun a2 =>
  ab_bd (ab_gI h a2 13 0) fun v3 =>
  if v3 = (-1 : Int32) then (
    fX5_readDay_b64 x  h)
  else (
    ab_bd (ab_gR h x 4 4) fun v4 =>
    ab_bd v4 fun a5 =>
    ab_bd (ab_gI h a5 13 5) fun v6 =>
    if v6 = 0 then (
      fX5_readDay_b64 x  h)
    else (
      ab_bd (ab_gR h x 4 4) fun v7 =>
      ab_bd v7 fun a8 =>
      ab_bd (ab_gI h a8 13 6) fun v9 =>
      if v9 = 0 then (
        fX5_readDay_b64 x  h)
      else (
        some h)))
theorem wX5_readDay_b33 {D : Dd} {C : Cx} {h0 h' : Hp} (A : Act C D (h0, (.inl none), h') yX5_readDay cX5_readDay 2 (none : Option FieldType) 11 241 []) {x : Nat} {h : Hp} (hf : fX5_readDay_b33 x h = some h') : X C D (h0, (.inl none), h') 2 33 [(0, vR (some x))] [] h := by
  unfold fX5_readDay_b33 at hf
  refine xr_aload_n A dX5_readDay_33 0 rfl rfl ?_
  revert hf; refine ab_bdI (fun v1 mv1 hf => ?_)
  refine xr_get A xc_X5 in_X5 4 (Nat.le_of_ble_eq_true rfl) q1302 rfl (ab_gRE mv1) dX5_readDay_34 ?_
  revert hf; refine ab_bdI (fun a2 e hf => ?_); subst e
  revert hf; refine ab_bdI (fun v3 mv3 hf => ?_)
  refine xr_getN A xc_X15 in_X15 0 (Nat.le_of_ble_eq_true rfl) n1460 rfl (ab_gIE mv3) dX5_readDay_37 ?_
  refine xr_iconst A (v := (-1)) dX5_readDay_40 (by decide) ?_
  refine xr_icmp_eq A (tgt := 64) dX5_readDay_41 (by decide) (fun c41 => ?_) (fun c41 => ?_)
  · replace hf := ab_ip c41 hf
    exact wX5_readDay_b64 A hf
  · replace hf := ab_in c41 hf
    refine xr_aload_n A dX5_readDay_44 0 rfl rfl ?_
    revert hf; refine ab_bdI (fun v4 mv4 hf => ?_)
    refine xr_get A xc_X5 in_X5 4 (Nat.le_of_ble_eq_true rfl) q1302 rfl (ab_gRE mv4) dX5_readDay_45 ?_
    revert hf; refine ab_bdI (fun a5 e hf => ?_); subst e
    revert hf; refine ab_bdI (fun v6 mv6 hf => ?_)
    refine xr_getN A xc_X15 in_X15 5 (Nat.le_of_ble_eq_true rfl) n1465 rfl (ab_gIE mv6) dX5_readDay_48 ?_
    refine xr_if_eq A (tgt := 64) dX5_readDay_51 (by decide) (fun c51 => ?_) (fun c51 => ?_)
    · replace hf := ab_ip c51 hf
      exact wX5_readDay_b64 A hf
    · replace hf := ab_in c51 hf
      refine xr_aload_n A dX5_readDay_54 0 rfl rfl ?_
      revert hf; refine ab_bdI (fun v7 mv7 hf => ?_)
      refine xr_get A xc_X5 in_X5 4 (Nat.le_of_ble_eq_true rfl) q1302 rfl (ab_gRE mv7) dX5_readDay_55 ?_
      revert hf; refine ab_bdI (fun a8 e hf => ?_); subst e
      revert hf; refine ab_bdI (fun v9 mv9 hf => ?_)
      refine xr_getN A xc_X15 in_X15 6 (Nat.le_of_ble_eq_true rfl) n1466 rfl (ab_gIE mv9) dX5_readDay_58 ?_
      refine xr_if_ne A (tgt := 70) dX5_readDay_61 (by decide) (fun c61 => ?_) (fun c61 => ?_)
      · replace hf := ab_in c61 hf
        exact xr_return A hf dX5_readDay_70
      · replace hf := ab_ip c61 hf
        exact wX5_readDay_b64 A hf
noncomputable def fX5_readDay_l2 (x : Nat) : Nat → Int32 → Hp → Option Hp
  | 0, _, _ => none
  | n + 1, l1, h =>
  if l1 = 0 then (
    ab_bd (ab_gI h x 4 9) fun v1 =>
    if v1 = (1 : Int32) then (
      fX5_readDay_b33 x  h)
    else (
      ab_bd (fX5_wrong x (1 : Int32) h) fun h3 =>
      fX5_readDay_b33 x  h3))
  else (
    ab_bd (fX5_readLine x h) fun h5 =>
    ab_b2 (fX5_eatsSign x (59 : Int32) h5) fun v8 h7 =>
    fX5_readDay_l2 x n v8 h7)
theorem wX5_readDay_l2 {D : Dd} {C : Cx} {h0 h' : Hp} (A : Act C D (h0, (.inl none), h') yX5_readDay cX5_readDay 2 (none : Option FieldType) 11 241 []) {x : Nat} : ∀ (n : Nat) {l1 : Int32} {h : Hp}, fX5_readDay_l2 x n l1 h = some h' → X C D (h0, (.inl none), h') 2 2 [(0, vR (some x)), (1, vI l1)] [] h := by
  intro n
  induction n with
  | zero => intro l1 h hf; exact ab_no hf
  | succ n ih =>
    intro l1 h hf
    unfold fX5_readDay_l2 at hf
    refine xr_iload_n A dX5_readDay_2 1 rfl rfl ?_
    refine xr_if_eq A (tgt := 20) dX5_readDay_3 (by decide) (fun c3 => ?_) (fun c3 => ?_)
    · replace hf := ab_ip c3 hf
      refine xr_aload_n A dX5_readDay_20 0 rfl rfl ?_
      revert hf; refine ab_bdI (fun v1 mv1 hf => ?_)
      refine xr_get A xc_X5 in_X5 9 (Nat.le_of_ble_eq_true rfl) q1307 rfl (ab_gIE mv1) dX5_readDay_21 ?_
      refine xr_iconst A (v := 1) dX5_readDay_24 (by decide) ?_
      refine xr_icmp_eq A (tgt := 33) dX5_readDay_25 (by decide) (fun c25 => ?_) (fun c25 => ?_)
      · replace hf := ab_ip c25 hf
        refine X.sub [0] rfl ?_
        exact wX5_readDay_b33 A hf
      · replace hf := ab_in c25 hf
        refine xr_aload_n A dX5_readDay_28 0 rfl rfl ?_
        refine xr_iconst A (v := 1) dX5_readDay_29 (by decide) ?_
        revert hf; refine ab_bdI (fun h3 m2 hf => ?_)
        refine xr_V0 A bX5_wrong (wX5_wrong D m2).2 xc_X5 (wX5_wrong D m2).1 q1641 qs51 q1639 (av := [vI (1 : Int32)]) (rest := []) rfl dX5_readDay_30 (Nat.le_of_ble_eq_true rfl) (Nat.le_of_ble_eq_true rfl) rfl (Nat.le_of_ble_eq_true rfl) ?_
        refine X.sub [0] rfl ?_
        exact wX5_readDay_b33 A hf
    · replace hf := ab_in c3 hf
      refine xr_aload_n A dX5_readDay_6 0 rfl rfl ?_
      revert hf; refine ab_bdI (fun h5 m4 hf => ?_)
      refine xr_V0 A bX5_readLine (wX5_readLine D m4).2 xc_X5 (wX5_readLine D m4).1 q1623 qs48 q1621 (av := []) (rest := []) rfl dX5_readDay_7 (Nat.le_of_ble_eq_true rfl) (Nat.le_of_ble_eq_true rfl) rfl (Nat.le_of_ble_eq_true rfl) ?_
      refine xr_aload_n A dX5_readDay_10 0 rfl rfl ?_
      refine xr_bipush A (v := 59) dX5_readDay_11 (by decide) ?_
      revert hf; refine ab_b2I (fun v8 h7 m6 hf => ?_)
      refine xr_V A bX5_eatsSign (wX5_eatsSign D m6).2 xc_X5 (wX5_eatsSign D m6).1 q1744 qs68 q1742 (av := [vI (59 : Int32)]) (rest := []) rfl dX5_readDay_13 (Nat.le_of_ble_eq_true rfl) (Nat.le_of_ble_eq_true rfl) rfl (Nat.le_of_ble_eq_true rfl) ?_
      refine xr_istore_n A dX5_readDay_16 rfl (Nat.le_of_ble_eq_true rfl) (L' := [(1, vI v8), (0, vR (some x))]) rfl ?_
      refine xr_goto A (tgt := 2) dX5_readDay_17 (by decide) ?_
      refine X.sub [1, 0] rfl ?_
      exact ih hf
noncomputable def fX5_readDay (x : Nat) (h : Hp) : Option Hp :=
  ab_ck h x 4 <|
  fX5_readDay_l2 x (hfu h) (1 : Int32) h
theorem wX5_readDay (D : Dd) {x : Nat} {h : Hp} {h' : Hp} (hf : fX5_readDay x h = some h') : ab_is h x 4 ∧ Ct D 11 241 yX5_readDay cX5_readDay 2 (none : Option FieldType) [vR (some x)] h (.inl none) h' := by
    unfold fX5_readDay at hf
    replace hf := ab_ckE hf; obtain ⟨i0, hf⟩ := hf
    refine ⟨i0, ?_⟩
    refine Ct.of (by decide) (L := [(0, vR (some x))]) rfl (Nat.le_of_ble_eq_true rfl) (fun C A => ?_)
    refine xr_iconst A (v := 1) dX5_readDay_0 (by decide) ?_
    refine xr_istore_n A dX5_readDay_1 rfl (Nat.le_of_ble_eq_true rfl) (L' := [(1, vI (1 : Int32)), (0, vR (some x))]) rfl ?_
    refine X.sub [1, 0] rfl ?_
    exact wX5_readDay_l2 A _ hf
/-! X5_done -/
theorem bX5_done : MB yX5_done cX5_done 2 (some FieldType.int) 1 := ⟨q1750, q99, by decide, by decide +kernel⟩
noncomputable def fX5_done (x : Nat) (p1 : Int32) (h : Hp) : Option (Int32 × Hp) :=
  ab_ck h x 4 <|
  ab_bd (ab_pI h x 4 1 (0 : Int32)) fun h1 =>
  ab_bd (ab_pI h1 x 4 2 (-1 : Int32)) fun h2 =>
  some (p1, h2)
theorem wX5_done (D : Dd) {x : Nat} {p1 : Int32} {h : Hp} {r : Int32} {h' : Hp} (hf : fX5_done x p1 h = some (r, h')) : ab_is h x 4 ∧ Ct D 1 20 yX5_done cX5_done 2 (some FieldType.int) [vR (some x), vI p1] h (.inl (some (vI r))) h' := by
    unfold fX5_done at hf
    replace hf := ab_ckE hf; obtain ⟨i0, hf⟩ := hf
    refine ⟨i0, ?_⟩
    refine Ct.of (by decide) (L := [(0, vR (some x)), (1, vI p1)]) rfl (Nat.le_of_ble_eq_true rfl) (fun C A => ?_)
    refine xr_aload_n A dX5_done_0 0 rfl rfl ?_
    refine xr_iconst A (v := 0) dX5_done_1 (by decide) ?_
    revert hf; refine ab_bdI (fun h1 mh1 hf => ?_)
    refine xr_put A xc_X5 in_X5 tyX5_ok nmX5 1 (Nat.le_of_ble_eq_true rfl) q1299 rfl rfl (v := vI (0 : Int32)) rfl rfl mh1 dX5_done_2 ?_
    refine xr_aload_n A dX5_done_5 0 rfl rfl ?_
    refine xr_iconst A (v := (-1)) dX5_done_6 (by decide) ?_
    revert hf; refine ab_bdI (fun h2 mh2 hf => ?_)
    refine xr_put A xc_X5 in_X5 tyX5_ok nmX5 2 (Nat.le_of_ble_eq_true rfl) q1300 rfl rfl (v := vI (-1 : Int32)) rfl rfl mh2 dX5_done_7 ?_
    refine xr_iload_n A dX5_done_10 1 rfl rfl ?_
    exact xr_ireturn A rfl hf dX5_done_11
/-! X5_day -/
theorem bX5_day : MB yX5_day cX5_day 3 (some FieldType.int) 1 := ⟨q1448, q99, by decide, by decide +kernel⟩
noncomputable def fX5_day_l119 (x : Nat) : Nat → Int32 → Hp → Option (Int32 × Hp)
  | 0, _, _ => none
  | n + 1, l2, h =>
  if (6 : Int32) ≤ l2 then (
    ab_bd (ab_pI h x 4 19 (0 : Int32)) fun h1 =>
    ab_bd (ab_pI h1 x 4 42 (0 : Int32)) fun h2 =>
    ab_bd (ab_pI h2 x 4 33 (0 : Int32)) fun h3 =>
    ab_bd (ab_pI h3 x 4 34 (0 : Int32)) fun h4 =>
    ab_bd (ab_pI h4 x 4 37 (0 : Int32)) fun h5 =>
    ab_bd (ab_pI h5 x 4 27 (0 : Int32)) fun h6 =>
    ab_bd (ab_gR h6 x 4 3) fun v7 =>
    ab_bd v7 fun a8 =>
    ab_bd (ab_gI h6 a8 13 5) fun v9 =>
    ab_b2 (fX5_done x v9 h6) fun v12 h11 =>
    some (v12, h11))
  else (
    ab_bd (ab_gR h x 4 40) fun v13 =>
    ab_bd v13 fun a14 =>
    ab_bd (ab_sI h a14 l2 (0 : Int32)) fun h15 =>
    fX5_day_l119 x n (l2 + (1 : Int32)) h15)
theorem wX5_day_l119 {D : Dd} {C : Cx} {h0 h' : Hp} {r : Int32} (A : Act C D (h0, (.inl (some (vI r))), h') yX5_day cX5_day 3 (some FieldType.int) 12 262 []) {x : Nat} : ∀ (n : Nat) {l2 : Int32} {h : Hp}, fX5_day_l119 x n l2 h = some (r, h') → X C D (h0, (.inl (some (vI r))), h') 3 119 [(0, vR (some x)), (2, vI l2)] [] h := by
  intro n
  induction n with
  | zero => intro l2 h hf; exact ab_no hf
  | succ n ih =>
    intro l2 h hf
    unfold fX5_day_l119 at hf
    refine xr_iload_n A dX5_day_119 1 rfl rfl ?_
    refine xr_bipush A (v := 6) dX5_day_120 (by decide) ?_
    refine xr_icmp_ge A (tgt := 138) dX5_day_122 (by decide) (fun c122 => ?_) (fun c122 => ?_)
    · replace hf := ab_ip c122 hf
      refine xr_aload_n A dX5_day_138 0 rfl rfl ?_
      refine xr_iconst A (v := 0) dX5_day_139 (by decide) ?_
      revert hf; refine ab_bdI (fun h1 mh1 hf => ?_)
      refine xr_put A xc_X5 in_X5 tyX5_ok nmX5 19 (Nat.le_of_ble_eq_true rfl) q1317 rfl rfl (v := vI (0 : Int32)) rfl rfl mh1 dX5_day_140 ?_
      refine xr_aload_n A dX5_day_143 0 rfl rfl ?_
      refine xr_iconst A (v := 0) dX5_day_144 (by decide) ?_
      revert hf; refine ab_bdI (fun h2 mh2 hf => ?_)
      refine xr_put A xc_X5 in_X5 tyX5_ok nmX5 42 (Nat.le_of_ble_eq_true rfl) q1340 rfl rfl (v := vI (0 : Int32)) rfl rfl mh2 dX5_day_145 ?_
      refine xr_aload_n A dX5_day_148 0 rfl rfl ?_
      refine xr_iconst A (v := 0) dX5_day_149 (by decide) ?_
      revert hf; refine ab_bdI (fun h3 mh3 hf => ?_)
      refine xr_put A xc_X5 in_X5 tyX5_ok nmX5 33 (Nat.le_of_ble_eq_true rfl) q1331 rfl rfl (v := vI (0 : Int32)) rfl rfl mh3 dX5_day_150 ?_
      refine xr_aload_n A dX5_day_153 0 rfl rfl ?_
      refine xr_iconst A (v := 0) dX5_day_154 (by decide) ?_
      revert hf; refine ab_bdI (fun h4 mh4 hf => ?_)
      refine xr_put A xc_X5 in_X5 tyX5_ok nmX5 34 (Nat.le_of_ble_eq_true rfl) q1332 rfl rfl (v := vI (0 : Int32)) rfl rfl mh4 dX5_day_155 ?_
      refine xr_aload_n A dX5_day_158 0 rfl rfl ?_
      refine xr_iconst A (v := 0) dX5_day_159 (by decide) ?_
      revert hf; refine ab_bdI (fun h5 mh5 hf => ?_)
      refine xr_put A xc_X5 in_X5 tyX5_ok nmX5 37 (Nat.le_of_ble_eq_true rfl) q1335 rfl rfl (v := vI (0 : Int32)) rfl rfl mh5 dX5_day_160 ?_
      refine xr_aload_n A dX5_day_163 0 rfl rfl ?_
      refine xr_iconst A (v := 0) dX5_day_164 (by decide) ?_
      revert hf; refine ab_bdI (fun h6 mh6 hf => ?_)
      refine xr_put A xc_X5 in_X5 tyX5_ok nmX5 27 (Nat.le_of_ble_eq_true rfl) q1325 rfl rfl (v := vI (0 : Int32)) rfl rfl mh6 dX5_day_165 ?_
      refine xr_aload_n A dX5_day_168 0 rfl rfl ?_
      refine xr_aload_n A dX5_day_169 0 rfl rfl ?_
      revert hf; refine ab_bdI (fun v7 mv7 hf => ?_)
      refine xr_get A xc_X5 in_X5 3 (Nat.le_of_ble_eq_true rfl) q1301 rfl (ab_gRE mv7) dX5_day_170 ?_
      revert hf; refine ab_bdI (fun a8 e hf => ?_); subst e
      revert hf; refine ab_bdI (fun v9 mv9 hf => ?_)
      refine xr_getN A xc_X15 in_X15 5 (Nat.le_of_ble_eq_true rfl) n1465 rfl (ab_gIE mv9) dX5_day_173 ?_
      revert hf; refine ab_b2I (fun v12 h11 m10 hf => ?_)
      refine xr_V A bX5_done (wX5_done D m10).2 xc_X5 (wX5_done D m10).1 q1749 qs69 q1747 (av := [vI v9]) (rest := []) rfl dX5_day_176 (Nat.le_of_ble_eq_true rfl) (Nat.le_of_ble_eq_true rfl) rfl (Nat.le_of_ble_eq_true rfl) ?_
      exact xr_ireturn A rfl hf dX5_day_179
    · replace hf := ab_in c122 hf
      refine xr_aload_n A dX5_day_125 0 rfl rfl ?_
      revert hf; refine ab_bdI (fun v13 mv13 hf => ?_)
      refine xr_get A xc_X5 in_X5 40 (Nat.le_of_ble_eq_true rfl) q1338 rfl (ab_gRE mv13) dX5_day_126 ?_
      refine xr_iload_n A dX5_day_129 1 rfl rfl ?_
      refine xr_iconst A (v := 0) dX5_day_130 (by decide) ?_
      revert hf; refine ab_bdI (fun a14 e hf => ?_); subst e
      revert hf; refine ab_bdI (fun h15 mh15 hf => ?_)
      refine xr_iastore A mh15 dX5_day_131 ?_
      refine xr_iinc A dX5_day_132 1 rfl (v := (l2 + (1 : Int32))) rfl (Nat.le_of_ble_eq_true rfl) (L' := [(2, vI (l2 + (1 : Int32))), (0, vR (some x))]) rfl ?_
      refine xr_goto A (tgt := 119) dX5_day_135 (by decide) ?_
      refine X.sub [1, 0] rfl ?_
      exact ih hf
noncomputable def fX5_day_l99 (x : Nat) : Nat → Int32 → Hp → Option (Int32 × Hp)
  | 0, _, _ => none
  | n + 1, l2, h =>
  if (3 : Int32) ≤ l2 then (
    fX5_day_l119 x (hfu h) (0 : Int32) h)
  else (
    ab_bd (ab_gR h x 4 17) fun v1 =>
    ab_bd v1 fun a2 =>
    ab_bd (ab_sI h a2 l2 (0 : Int32)) fun h3 =>
    fX5_day_l99 x n (l2 + (1 : Int32)) h3)
theorem wX5_day_l99 {D : Dd} {C : Cx} {h0 h' : Hp} {r : Int32} (A : Act C D (h0, (.inl (some (vI r))), h') yX5_day cX5_day 3 (some FieldType.int) 12 262 []) {x : Nat} : ∀ (n : Nat) {l2 : Int32} {h : Hp}, fX5_day_l99 x n l2 h = some (r, h') → X C D (h0, (.inl (some (vI r))), h') 3 99 [(0, vR (some x)), (2, vI l2)] [] h := by
  intro n
  induction n with
  | zero => intro l2 h hf; exact ab_no hf
  | succ n ih =>
    intro l2 h hf
    unfold fX5_day_l99 at hf
    refine xr_iload_n A dX5_day_99 1 rfl rfl ?_
    refine xr_iconst A (v := 3) dX5_day_100 (by decide) ?_
    refine xr_icmp_ge A (tgt := 117) dX5_day_101 (by decide) (fun c101 => ?_) (fun c101 => ?_)
    · replace hf := ab_ip c101 hf
      refine xr_iconst A (v := 0) dX5_day_117 (by decide) ?_
      refine xr_istore_n A dX5_day_118 rfl (Nat.le_of_ble_eq_true rfl) (L' := [(2, vI (0 : Int32)), (0, vR (some x))]) rfl ?_
      refine X.sub [1, 0] rfl ?_
      exact wX5_day_l119 A _ hf
    · replace hf := ab_in c101 hf
      refine xr_aload_n A dX5_day_104 0 rfl rfl ?_
      revert hf; refine ab_bdI (fun v1 mv1 hf => ?_)
      refine xr_get A xc_X5 in_X5 17 (Nat.le_of_ble_eq_true rfl) q1315 rfl (ab_gRE mv1) dX5_day_105 ?_
      refine xr_iload_n A dX5_day_108 1 rfl rfl ?_
      refine xr_iconst A (v := 0) dX5_day_109 (by decide) ?_
      revert hf; refine ab_bdI (fun a2 e hf => ?_); subst e
      revert hf; refine ab_bdI (fun h3 mh3 hf => ?_)
      refine xr_iastore A mh3 dX5_day_110 ?_
      refine xr_iinc A dX5_day_111 1 rfl (v := (l2 + (1 : Int32))) rfl (Nat.le_of_ble_eq_true rfl) (L' := [(2, vI (l2 + (1 : Int32))), (0, vR (some x))]) rfl ?_
      refine xr_goto A (tgt := 99) dX5_day_114 (by decide) ?_
      refine X.sub [1, 0] rfl ?_
      exact ih hf
noncomputable def fX5_day (x : Nat) (p1 : Int32) (h : Hp) : Option (Int32 × Hp) :=
  ab_ck h x 4 <|
  ab_bd (ab_pI h x 4 0 (0 : Int32)) fun h1 =>
  if p1 < 0 then (
    ab_b2 (fX5_refused x (2 : Int32) h1) fun v4 h3 =>
    some (v4, h3))
  else (
    ab_bd (ab_gI h1 x 4 6) fun v5 =>
    if p1 ≤ v5 then (
      ab_bd (ab_pI h1 x 4 7 p1) fun h6 =>
      ab_bd (ab_pI h6 x 4 6 (0 : Int32)) fun h7 =>
      ab_bd (ab_pI h7 x 4 8 (0 : Int32)) fun h8 =>
      ab_bd (ab_pI h8 x 4 13 (0 : Int32)) fun h9 =>
      ab_b2 (ab_new h9 13 37 tyX15) fun a10 h11 =>
      ab_bd (fX15_init a10 h11) fun h13 =>
      ab_bd (ab_pR h13 x 4 4 (some a10)) fun h14 =>
      ab_bd (ab_pI h14 x 4 9 (0 : Int32)) fun h15 =>
      ab_bd (fX5_goesOn x h15) fun h17 =>
      ab_bd (fX5_readDay x h17) fun h19 =>
      ab_bd (ab_gI h19 x 4 13) fun v20 =>
      if v20 ≤ 0 then (
        ab_bd (ab_gR h19 x 4 4) fun v21 =>
        ab_bd (ab_pR h19 x 4 3 v21) fun h22 =>
        fX5_day_l99 x (hfu h22) (0 : Int32) h22)
      else (
        ab_bd (ab_pI h19 x 4 1 (4 : Int32)) fun h23 =>
        ab_bd (ab_gI h23 x 4 14) fun v24 =>
        ab_bd (ab_pI h23 x 4 2 v24) fun h25 =>
        some ((-1 : Int32), h25)))
    else (
      ab_b2 (fX5_refused x (2 : Int32) h1) fun v28 h27 =>
      some (v28, h27)))
theorem wX5_day (D : Dd) {x : Nat} {p1 : Int32} {h : Hp} {r : Int32} {h' : Hp} (hf : fX5_day x p1 h = some (r, h')) : ab_is h x 4 ∧ Ct D 12 262 yX5_day cX5_day 3 (some FieldType.int) [vR (some x), vI p1] h (.inl (some (vI r))) h' := by
    unfold fX5_day at hf
    replace hf := ab_ckE hf; obtain ⟨i0, hf⟩ := hf
    refine ⟨i0, ?_⟩
    refine Ct.of (by decide) (L := [(0, vR (some x)), (1, vI p1)]) rfl (Nat.le_of_ble_eq_true rfl) (fun C A => ?_)
    refine xr_aload_n A dX5_day_0 0 rfl rfl ?_
    refine xr_iconst A (v := 0) dX5_day_1 (by decide) ?_
    revert hf; refine ab_bdI (fun h1 mh1 hf => ?_)
    refine xr_put A xc_X5 in_X5 tyX5_ok nmX5 0 (Nat.le_of_ble_eq_true rfl) q1298 rfl rfl (v := vI (0 : Int32)) rfl rfl mh1 dX5_day_2 ?_
    refine xr_iload_n A dX5_day_5 1 rfl rfl ?_
    refine xr_if_lt A (tgt := 17) dX5_day_6 (by decide) (fun c6 => ?_) (fun c6 => ?_)
    · replace hf := ab_ip c6 hf
      refine xr_aload_n A dX5_day_17 0 rfl rfl ?_
      refine xr_iconst A (v := 2) dX5_day_18 (by decide) ?_
      revert hf; refine ab_b2I (fun v4 h3 m2 hf => ?_)
      refine xr_V A bX5_refused (wX5_refused D m2).2 xc_X5 (wX5_refused D m2).1 q1451 qs44 q1449 (av := [vI (2 : Int32)]) (rest := []) rfl dX5_day_19 (Nat.le_of_ble_eq_true rfl) (Nat.le_of_ble_eq_true rfl) rfl (Nat.le_of_ble_eq_true rfl) ?_
      exact xr_ireturn A rfl hf dX5_day_22
    · replace hf := ab_in c6 hf
      refine xr_iload_n A dX5_day_9 1 rfl rfl ?_
      refine xr_aload_n A dX5_day_10 0 rfl rfl ?_
      revert hf; refine ab_bdI (fun v5 mv5 hf => ?_)
      refine xr_get A xc_X5 in_X5 6 (Nat.le_of_ble_eq_true rfl) q1304 rfl (ab_gIE mv5) dX5_day_11 ?_
      refine xr_icmp_le A (tgt := 23) dX5_day_14 (by decide) (fun c14 => ?_) (fun c14 => ?_)
      · replace hf := ab_ip c14 hf
        refine xr_aload_n A dX5_day_23 0 rfl rfl ?_
        refine xr_iload_n A dX5_day_24 1 rfl rfl ?_
        revert hf; refine ab_bdI (fun h6 mh6 hf => ?_)
        refine xr_put A xc_X5 in_X5 tyX5_ok nmX5 7 (Nat.le_of_ble_eq_true rfl) q1305 rfl rfl (v := vI p1) rfl rfl mh6 dX5_day_25 ?_
        refine xr_aload_n A dX5_day_28 0 rfl rfl ?_
        refine xr_iconst A (v := 0) dX5_day_29 (by decide) ?_
        revert hf; refine ab_bdI (fun h7 mh7 hf => ?_)
        refine xr_put A xc_X5 in_X5 tyX5_ok nmX5 6 (Nat.le_of_ble_eq_true rfl) q1304 rfl rfl (v := vI (0 : Int32)) rfl rfl mh7 dX5_day_30 ?_
        refine xr_aload_n A dX5_day_33 0 rfl rfl ?_
        refine xr_iconst A (v := 0) dX5_day_34 (by decide) ?_
        revert hf; refine ab_bdI (fun h8 mh8 hf => ?_)
        refine xr_put A xc_X5 in_X5 tyX5_ok nmX5 8 (Nat.le_of_ble_eq_true rfl) q1306 rfl rfl (v := vI (0 : Int32)) rfl rfl mh8 dX5_day_35 ?_
        refine xr_aload_n A dX5_day_38 0 rfl rfl ?_
        refine xr_iconst A (v := 0) dX5_day_39 (by decide) ?_
        revert hf; refine ab_bdI (fun h9 mh9 hf => ?_)
        refine xr_put A xc_X5 in_X5 tyX5_ok nmX5 13 (Nat.le_of_ble_eq_true rfl) q1311 rfl rfl (v := vI (0 : Int32)) rfl rfl mh9 dX5_day_40 ?_
        refine xr_aload_n A dX5_day_43 0 rfl rfl ?_
        revert hf; refine ab_b2I (fun a10 h11 mh11 hf => ?_)
        refine xr_new A xc_X15 in_X15 tyX15_ok q1453 q1454 q114 mh11 dX5_day_44 ?_
        refine xr_dup A dX5_day_47 rfl ?_
        revert hf; refine ab_bdI (fun h13 m12 hf => ?_)
        refine xr_IN0 A bX15_init (wX15_init D m12) rfl q1456 n1455 (av := []) (rest := [vR (some a10), vR (some x)]) rfl dX5_day_48 (Nat.le_of_ble_eq_true rfl) (Nat.le_of_ble_eq_true rfl) rfl (Nat.le_of_ble_eq_true rfl) ?_
        revert hf; refine ab_bdI (fun h14 mh14 hf => ?_)
        refine xr_put A xc_X5 in_X5 tyX5_ok nmX5 4 (Nat.le_of_ble_eq_true rfl) q1302 rfl rfl (v := vR (some a10)) (ab_nR _ rfl) (ab_tR _ rfl) mh14 dX5_day_51 ?_
        refine xr_aload_n A dX5_day_54 0 rfl rfl ?_
        refine xr_iconst A (v := 0) dX5_day_55 (by decide) ?_
        revert hf; refine ab_bdI (fun h15 mh15 hf => ?_)
        refine xr_put A xc_X5 in_X5 tyX5_ok nmX5 9 (Nat.le_of_ble_eq_true rfl) q1307 rfl rfl (v := vI (0 : Int32)) rfl rfl mh15 dX5_day_56 ?_
        refine xr_aload_n A dX5_day_59 0 rfl rfl ?_
        revert hf; refine ab_bdI (fun h17 m16 hf => ?_)
        refine xr_V0 A bX5_goesOn (wX5_goesOn D m16).2 xc_X5 (wX5_goesOn D m16).1 q1604 qs45 q1602 (av := []) (rest := []) rfl dX5_day_60 (Nat.le_of_ble_eq_true rfl) (Nat.le_of_ble_eq_true rfl) rfl (Nat.le_of_ble_eq_true rfl) ?_
        refine xr_aload_n A dX5_day_63 0 rfl rfl ?_
        revert hf; refine ab_bdI (fun h19 m18 hf => ?_)
        refine xr_V0 A bX5_readDay (wX5_readDay D m18).2 xc_X5 (wX5_readDay D m18).1 q1619 qs47 q1617 (av := []) (rest := []) rfl dX5_day_64 (Nat.le_of_ble_eq_true rfl) (Nat.le_of_ble_eq_true rfl) rfl (Nat.le_of_ble_eq_true rfl) ?_
        refine xr_aload_n A dX5_day_67 0 rfl rfl ?_
        revert hf; refine ab_bdI (fun v20 mv20 hf => ?_)
        refine xr_get A xc_X5 in_X5 13 (Nat.le_of_ble_eq_true rfl) q1311 rfl (ab_gIE mv20) dX5_day_68 ?_
        refine xr_if_le A (tgt := 89) dX5_day_71 (by decide) (fun c71 => ?_) (fun c71 => ?_)
        · replace hf := ab_ip c71 hf
          refine xr_aload_n A dX5_day_89 0 rfl rfl ?_
          refine xr_aload_n A dX5_day_90 0 rfl rfl ?_
          revert hf; refine ab_bdI (fun v21 mv21 hf => ?_)
          refine xr_get A xc_X5 in_X5 4 (Nat.le_of_ble_eq_true rfl) q1302 rfl (ab_gRE mv21) dX5_day_91 ?_
          revert hf; refine ab_bdI (fun h22 mh22 hf => ?_)
          refine xr_put A xc_X5 in_X5 tyX5_ok nmX5 3 (Nat.le_of_ble_eq_true rfl) q1301 rfl rfl (v := vR v21) (ab_nR _ rfl) (ab_tR _ rfl) mh22 dX5_day_94 ?_
          refine xr_iconst A (v := 0) dX5_day_97 (by decide) ?_
          refine xr_istore_n A dX5_day_98 rfl (Nat.le_of_ble_eq_true rfl) (L' := [(2, vI (0 : Int32)), (0, vR (some x)), (1, vI p1)]) rfl ?_
          refine X.sub [1, 0] rfl ?_
          exact wX5_day_l99 A _ hf
        · replace hf := ab_in c71 hf
          refine xr_aload_n A dX5_day_74 0 rfl rfl ?_
          refine xr_iconst A (v := 4) dX5_day_75 (by decide) ?_
          revert hf; refine ab_bdI (fun h23 mh23 hf => ?_)
          refine xr_put A xc_X5 in_X5 tyX5_ok nmX5 1 (Nat.le_of_ble_eq_true rfl) q1299 rfl rfl (v := vI (4 : Int32)) rfl rfl mh23 dX5_day_76 ?_
          refine xr_aload_n A dX5_day_79 0 rfl rfl ?_
          refine xr_aload_n A dX5_day_80 0 rfl rfl ?_
          revert hf; refine ab_bdI (fun v24 mv24 hf => ?_)
          refine xr_get A xc_X5 in_X5 14 (Nat.le_of_ble_eq_true rfl) q1312 rfl (ab_gIE mv24) dX5_day_81 ?_
          revert hf; refine ab_bdI (fun h25 mh25 hf => ?_)
          refine xr_put A xc_X5 in_X5 tyX5_ok nmX5 2 (Nat.le_of_ble_eq_true rfl) q1300 rfl rfl (v := vI v24) rfl rfl mh25 dX5_day_84 ?_
          refine xr_iconst A (v := (-1)) dX5_day_87 (by decide) ?_
          exact xr_ireturn A rfl hf dX5_day_88
      · replace hf := ab_in c14 hf
        refine xr_aload_n A dX5_day_17 0 rfl rfl ?_
        refine xr_iconst A (v := 2) dX5_day_18 (by decide) ?_
        revert hf; refine ab_b2I (fun v28 h27 m26 hf => ?_)
        refine xr_V A bX5_refused (wX5_refused D m26).2 xc_X5 (wX5_refused D m26).1 q1451 qs44 q1449 (av := [vI (2 : Int32)]) (rest := []) rfl dX5_day_19 (Nat.le_of_ble_eq_true rfl) (Nat.le_of_ble_eq_true rfl) rfl (Nat.le_of_ble_eq_true rfl) ?_
        exact xr_ireturn A rfl hf dX5_day_22
/-! X5_fault -/
theorem bX5_fault : MB yX5_fault cX5_fault 1 (some FieldType.int) 0 := ⟨q1754, q99, by decide, by decide +kernel⟩
noncomputable def fX5_fault (x : Nat) (h : Hp) : Option (Int32 × Hp) :=
  ab_ck h x 4 <|
  ab_bd (ab_pI h x 4 0 (0 : Int32)) fun h1 =>
  ab_bd (ab_gI h1 x 4 13) fun v2 =>
  some (v2, h1)
theorem wX5_fault (D : Dd) {x : Nat} {h : Hp} {r : Int32} {h' : Hp} (hf : fX5_fault x h = some (r, h')) : ab_is h x 4 ∧ Ct D 1 20 yX5_fault cX5_fault 1 (some FieldType.int) [vR (some x)] h (.inl (some (vI r))) h' := by
    unfold fX5_fault at hf
    replace hf := ab_ckE hf; obtain ⟨i0, hf⟩ := hf
    refine ⟨i0, ?_⟩
    refine Ct.of (by decide) (L := [(0, vR (some x))]) rfl (Nat.le_of_ble_eq_true rfl) (fun C A => ?_)
    refine xr_aload_n A dX5_fault_0 0 rfl rfl ?_
    refine xr_iconst A (v := 0) dX5_fault_1 (by decide) ?_
    revert hf; refine ab_bdI (fun h1 mh1 hf => ?_)
    refine xr_put A xc_X5 in_X5 tyX5_ok nmX5 0 (Nat.le_of_ble_eq_true rfl) q1298 rfl rfl (v := vI (0 : Int32)) rfl rfl mh1 dX5_fault_2 ?_
    refine xr_aload_n A dX5_fault_5 0 rfl rfl ?_
    revert hf; refine ab_bdI (fun v2 mv2 hf => ?_)
    refine xr_get A xc_X5 in_X5 13 (Nat.le_of_ble_eq_true rfl) q1311 rfl (ab_gIE mv2) dX5_fault_6 ?_
    exact xr_ireturn A rfl hf dX5_fault_9
/-! X5_where -/
theorem bX5_where : MB yX5_where cX5_where 1 (some FieldType.int) 0 := ⟨q1758, q99, by decide, by decide +kernel⟩
noncomputable def fX5_where (x : Nat) (h : Hp) : Option (Int32 × Hp) :=
  ab_ck h x 4 <|
  ab_bd (ab_pI h x 4 0 (0 : Int32)) fun h1 =>
  ab_bd (ab_gI h1 x 4 2) fun v2 =>
  some (v2, h1)
theorem wX5_where (D : Dd) {x : Nat} {h : Hp} {r : Int32} {h' : Hp} (hf : fX5_where x h = some (r, h')) : ab_is h x 4 ∧ Ct D 1 20 yX5_where cX5_where 1 (some FieldType.int) [vR (some x)] h (.inl (some (vI r))) h' := by
    unfold fX5_where at hf
    replace hf := ab_ckE hf; obtain ⟨i0, hf⟩ := hf
    refine ⟨i0, ?_⟩
    refine Ct.of (by decide) (L := [(0, vR (some x))]) rfl (Nat.le_of_ble_eq_true rfl) (fun C A => ?_)
    refine xr_aload_n A dX5_where_0 0 rfl rfl ?_
    refine xr_iconst A (v := 0) dX5_where_1 (by decide) ?_
    revert hf; refine ab_bdI (fun h1 mh1 hf => ?_)
    refine xr_put A xc_X5 in_X5 tyX5_ok nmX5 0 (Nat.le_of_ble_eq_true rfl) q1298 rfl rfl (v := vI (0 : Int32)) rfl rfl mh1 dX5_where_2 ?_
    refine xr_aload_n A dX5_where_5 0 rfl rfl ?_
    revert hf; refine ab_bdI (fun v2 mv2 hf => ?_)
    refine xr_get A xc_X5 in_X5 2 (Nat.le_of_ble_eq_true rfl) q1300 rfl (ab_gIE mv2) dX5_where_6 ?_
    exact xr_ireturn A rfl hf dX5_where_9
/-! X5_isCar -/
theorem bX5_isCar : MB yX5_isCar cX5_isCar 2 (some FieldType.boolean) 1 := ⟨q1766, q99, by decide, by decide +kernel⟩
noncomputable def fX5_isCar (x : Nat) (p1 : Int32) (h : Hp) : Option (Int32 × Hp) :=
  ab_ck h x 4 <|
  ab_bd (ab_gR h x 4 3) fun v1 =>
  ab_on v1 (
    some ((0 : Int32), h)) fun a2 => (
    if p1 < 0 then (
      some ((0 : Int32), h))
    else (
      ab_bd (ab_gR h x 4 3) fun v3 =>
      ab_bd v3 fun a4 =>
      ab_bd (ab_gI h a4 13 6) fun v5 =>
      if v5 ≤ p1 then (
        some ((0 : Int32), h))
      else (
        some ((1 : Int32), h))))
theorem wX5_isCar (D : Dd) {x : Nat} {p1 : Int32} {h : Hp} {r : Int32} {h' : Hp} (hf : fX5_isCar x p1 h = some (r, h')) : ab_is h x 4 ∧ Ct D 1 20 yX5_isCar cX5_isCar 2 (some FieldType.boolean) [vR (some x), vI p1] h (.inl (some (vI r))) h' := by
    unfold fX5_isCar at hf
    replace hf := ab_ckE hf; obtain ⟨i0, hf⟩ := hf
    refine ⟨i0, ?_⟩
    refine Ct.of (by decide) (L := [(0, vR (some x)), (1, vI p1)]) rfl (Nat.le_of_ble_eq_true rfl) (fun C A => ?_)
    refine xr_aload_n A dX5_isCar_0 0 rfl rfl ?_
    revert hf; refine ab_bdI (fun v1 mv1 hf => ?_)
    refine xr_get A xc_X5 in_X5 3 (Nat.le_of_ble_eq_true rfl) q1301 rfl (ab_gRE mv1) dX5_isCar_1 ?_
    revert hf; refine ab_onI (fun e hf => ?_) (fun a2 e hf => ?_) <;> subst e
    · refine xr_ifnull A (tgt := 26) dX5_isCar_4 (by decide) (fun _ => ?_) (fun _ e => by cases e)
      refine xr_iconst A (v := 0) dX5_isCar_26 (by decide) ?_
      exact xr_ireturn A rfl hf dX5_isCar_27
    · refine xr_ifnull A (tgt := 26) dX5_isCar_4 (by decide) (fun e => by cases e) (fun _ _ => ?_)
      refine xr_iload_n A dX5_isCar_7 1 rfl rfl ?_
      refine xr_if_lt A (tgt := 26) dX5_isCar_8 (by decide) (fun c8 => ?_) (fun c8 => ?_)
      · replace hf := ab_ip c8 hf
        refine xr_iconst A (v := 0) dX5_isCar_26 (by decide) ?_
        exact xr_ireturn A rfl hf dX5_isCar_27
      · replace hf := ab_in c8 hf
        refine xr_iload_n A dX5_isCar_11 1 rfl rfl ?_
        refine xr_aload_n A dX5_isCar_12 0 rfl rfl ?_
        revert hf; refine ab_bdI (fun v3 mv3 hf => ?_)
        refine xr_get A xc_X5 in_X5 3 (Nat.le_of_ble_eq_true rfl) q1301 rfl (ab_gRE mv3) dX5_isCar_13 ?_
        revert hf; refine ab_bdI (fun a4 e hf => ?_); subst e
        revert hf; refine ab_bdI (fun v5 mv5 hf => ?_)
        refine xr_getN A xc_X15 in_X15 6 (Nat.le_of_ble_eq_true rfl) n1466 rfl (ab_gIE mv5) dX5_isCar_16 ?_
        refine xr_icmp_ge A (tgt := 26) dX5_isCar_19 (by decide) (fun c19 => ?_) (fun c19 => ?_)
        · replace hf := ab_ip c19 hf
          refine xr_iconst A (v := 0) dX5_isCar_26 (by decide) ?_
          exact xr_ireturn A rfl hf dX5_isCar_27
        · replace hf := ab_in c19 hf
          refine xr_iconst A (v := 1) dX5_isCar_22 (by decide) ?_
          refine xr_goto A (tgt := 27) dX5_isCar_23 (by decide) ?_
          exact xr_ireturn A rfl hf dX5_isCar_27
/-! X5_isHouse -/
theorem bX5_isHouse : MB yX5_isHouse cX5_isHouse 2 (some FieldType.boolean) 1 := ⟨q1770, q99, by decide, by decide +kernel⟩
noncomputable def fX5_isHouse (x : Nat) (p1 : Int32) (h : Hp) : Option (Int32 × Hp) :=
  ab_ck h x 4 <|
  ab_bd (ab_gR h x 4 3) fun v1 =>
  ab_on v1 (
    some ((0 : Int32), h)) fun a2 => (
    if p1 < 0 then (
      some ((0 : Int32), h))
    else (
      ab_bd (ab_gR h x 4 3) fun v3 =>
      ab_bd v3 fun a4 =>
      ab_bd (ab_gI h a4 13 5) fun v5 =>
      if v5 ≤ p1 then (
        some ((0 : Int32), h))
      else (
        some ((1 : Int32), h))))
theorem wX5_isHouse (D : Dd) {x : Nat} {p1 : Int32} {h : Hp} {r : Int32} {h' : Hp} (hf : fX5_isHouse x p1 h = some (r, h')) : ab_is h x 4 ∧ Ct D 1 20 yX5_isHouse cX5_isHouse 2 (some FieldType.boolean) [vR (some x), vI p1] h (.inl (some (vI r))) h' := by
    unfold fX5_isHouse at hf
    replace hf := ab_ckE hf; obtain ⟨i0, hf⟩ := hf
    refine ⟨i0, ?_⟩
    refine Ct.of (by decide) (L := [(0, vR (some x)), (1, vI p1)]) rfl (Nat.le_of_ble_eq_true rfl) (fun C A => ?_)
    refine xr_aload_n A dX5_isHouse_0 0 rfl rfl ?_
    revert hf; refine ab_bdI (fun v1 mv1 hf => ?_)
    refine xr_get A xc_X5 in_X5 3 (Nat.le_of_ble_eq_true rfl) q1301 rfl (ab_gRE mv1) dX5_isHouse_1 ?_
    revert hf; refine ab_onI (fun e hf => ?_) (fun a2 e hf => ?_) <;> subst e
    · refine xr_ifnull A (tgt := 26) dX5_isHouse_4 (by decide) (fun _ => ?_) (fun _ e => by cases e)
      refine xr_iconst A (v := 0) dX5_isHouse_26 (by decide) ?_
      exact xr_ireturn A rfl hf dX5_isHouse_27
    · refine xr_ifnull A (tgt := 26) dX5_isHouse_4 (by decide) (fun e => by cases e) (fun _ _ => ?_)
      refine xr_iload_n A dX5_isHouse_7 1 rfl rfl ?_
      refine xr_if_lt A (tgt := 26) dX5_isHouse_8 (by decide) (fun c8 => ?_) (fun c8 => ?_)
      · replace hf := ab_ip c8 hf
        refine xr_iconst A (v := 0) dX5_isHouse_26 (by decide) ?_
        exact xr_ireturn A rfl hf dX5_isHouse_27
      · replace hf := ab_in c8 hf
        refine xr_iload_n A dX5_isHouse_11 1 rfl rfl ?_
        refine xr_aload_n A dX5_isHouse_12 0 rfl rfl ?_
        revert hf; refine ab_bdI (fun v3 mv3 hf => ?_)
        refine xr_get A xc_X5 in_X5 3 (Nat.le_of_ble_eq_true rfl) q1301 rfl (ab_gRE mv3) dX5_isHouse_13 ?_
        revert hf; refine ab_bdI (fun a4 e hf => ?_); subst e
        revert hf; refine ab_bdI (fun v5 mv5 hf => ?_)
        refine xr_getN A xc_X15 in_X15 5 (Nat.le_of_ble_eq_true rfl) n1465 rfl (ab_gIE mv5) dX5_isHouse_16 ?_
        refine xr_icmp_ge A (tgt := 26) dX5_isHouse_19 (by decide) (fun c19 => ?_) (fun c19 => ?_)
        · replace hf := ab_ip c19 hf
          refine xr_iconst A (v := 0) dX5_isHouse_26 (by decide) ?_
          exact xr_ireturn A rfl hf dX5_isHouse_27
        · replace hf := ab_in c19 hf
          refine xr_iconst A (v := 1) dX5_isHouse_22 (by decide) ?_
          refine xr_goto A (tgt := 27) dX5_isHouse_23 (by decide) ?_
          exact xr_ireturn A rfl hf dX5_isHouse_27
/-! X5_carOf -/
theorem bX5_carOf : MB yX5_carOf cX5_carOf 4 (some FieldType.int) 1 := ⟨q1774, q99, by decide, by decide +kernel⟩
noncomputable def fX5_carOf_l15 (x : Nat) (K2 : Int32 → Int32 → Hp → Option (Int32 × Hp)) : Nat → Int32 → Int32 → Int32 → Hp → Option (Int32 × Hp)
  | 0, _, _, _, _ => none
  | n + 1, l1, l2, l3, h =>
  ab_bd (ab_gR h x 4 17) fun v1 =>
  ab_bd v1 fun a2 =>
  ab_bd (ab_aI h a2 0 l2) fun v3 =>
  if v3 ≤ l3 then (
    K2 l1 (l2 + (1 : Int32)) h)
  else (
    ab_bd (ab_gR h x 4 18) fun v4 =>
    ab_bd v4 fun a5 =>
    ab_bd (ab_aI h a5 0 (((6 : Int32) * l2) + l3)) fun v6 =>
    if v6 = l1 then (
      some (l2, h))
    else (
      fX5_carOf_l15 x K2 n l1 l2 (l3 + (1 : Int32)) h))
theorem wX5_carOf_l15 {D : Dd} {C : Cx} {h0 h' : Hp} {r : Int32} (A : Act C D (h0, (.inl (some (vI r))), h') yX5_carOf cX5_carOf 4 (some FieldType.int) 1 20 []) {x : Nat} {K2 : Int32 → Int32 → Hp → Option (Int32 × Hp)} (hK2 : ∀ {l1 : Int32} {l2 : Int32} {h : Hp}, K2 l1 l2 h = some (r, h') → X C D (h0, (.inl (some (vI r))), h') 4 2 [(0, vR (some x)), (1, vI l1), (2, vI l2)] [] h) : ∀ (n : Nat) {l1 : Int32} {l2 : Int32} {l3 : Int32} {h : Hp}, fX5_carOf_l15 x K2 n l1 l2 l3 h = some (r, h') → X C D (h0, (.inl (some (vI r))), h') 4 15 [(0, vR (some x)), (1, vI l1), (2, vI l2), (3, vI l3)] [] h := by
  intro n
  induction n with
  | zero => intro l1 l2 l3 h hf; exact ab_no hf
  | succ n ih =>
    intro l1 l2 l3 h hf
    unfold fX5_carOf_l15 at hf
    refine xr_iload_n A dX5_carOf_15 3 rfl rfl ?_
    refine xr_aload_n A dX5_carOf_16 0 rfl rfl ?_
    revert hf; refine ab_bdI (fun v1 mv1 hf => ?_)
    refine xr_get A xc_X5 in_X5 17 (Nat.le_of_ble_eq_true rfl) q1315 rfl (ab_gRE mv1) dX5_carOf_17 ?_
    refine xr_iload_n A dX5_carOf_20 2 rfl rfl ?_
    revert hf; refine ab_bdI (fun a2 e hf => ?_); subst e
    revert hf; refine ab_bdI (fun v3 mv3 hf => ?_)
    refine xr_iaload A mv3 dX5_carOf_21 ?_
    refine xr_icmp_ge A (tgt := 48) dX5_carOf_22 (by decide) (fun c22 => ?_) (fun c22 => ?_)
    · replace hf := ab_ip c22 hf
      refine xr_iinc A dX5_carOf_48 2 rfl (v := (l2 + (1 : Int32))) rfl (Nat.le_of_ble_eq_true rfl) (L' := [(2, vI (l2 + (1 : Int32))), (0, vR (some x)), (1, vI l1), (3, vI l3)]) rfl ?_
      refine xr_goto A (tgt := 2) dX5_carOf_51 (by decide) ?_
      refine X.sub [1, 2, 0] rfl ?_
      exact hK2 hf
    · replace hf := ab_in c22 hf
      refine xr_aload_n A dX5_carOf_25 0 rfl rfl ?_
      revert hf; refine ab_bdI (fun v4 mv4 hf => ?_)
      refine xr_get A xc_X5 in_X5 18 (Nat.le_of_ble_eq_true rfl) q1316 rfl (ab_gRE mv4) dX5_carOf_26 ?_
      refine xr_bipush A (v := 6) dX5_carOf_29 (by decide) ?_
      refine xr_iload_n A dX5_carOf_31 2 rfl rfl ?_
      refine xr_imul A dX5_carOf_32 ?_
      refine xr_iload_n A dX5_carOf_33 3 rfl rfl ?_
      refine xr_iadd A dX5_carOf_34 ?_
      revert hf; refine ab_bdI (fun a5 e hf => ?_); subst e
      revert hf; refine ab_bdI (fun v6 mv6 hf => ?_)
      refine xr_iaload A mv6 dX5_carOf_35 ?_
      refine xr_iload_n A dX5_carOf_36 1 rfl rfl ?_
      refine xr_icmp_ne A (tgt := 42) dX5_carOf_37 (by decide) (fun c37 => ?_) (fun c37 => ?_)
      · replace hf := ab_in c37 hf
        refine xr_iinc A dX5_carOf_42 3 rfl (v := (l3 + (1 : Int32))) rfl (Nat.le_of_ble_eq_true rfl) (L' := [(3, vI (l3 + (1 : Int32))), (0, vR (some x)), (1, vI l1), (2, vI l2)]) rfl ?_
        refine xr_goto A (tgt := 15) dX5_carOf_45 (by decide) ?_
        refine X.sub [1, 2, 3, 0] rfl ?_
        exact ih hf
      · replace hf := ab_ip c37 hf
        refine xr_iload_n A dX5_carOf_40 2 rfl rfl ?_
        exact xr_ireturn A rfl hf dX5_carOf_41
noncomputable def fX5_carOf_l2 (x : Nat) : Nat → Int32 → Int32 → Hp → Option (Int32 × Hp)
  | 0, _, _, _ => none
  | n + 1, l1, l2, h =>
  ab_bd (ab_gR h x 4 3) fun v1 =>
  ab_bd v1 fun a2 =>
  ab_bd (ab_gI h a2 13 6) fun v3 =>
  if v3 ≤ l2 then (
    some ((-1 : Int32), h))
  else (
    fX5_carOf_l15 x (fX5_carOf_l2 x n) (hfu h) l1 l2 (0 : Int32) h)
theorem wX5_carOf_l2 {D : Dd} {C : Cx} {h0 h' : Hp} {r : Int32} (A : Act C D (h0, (.inl (some (vI r))), h') yX5_carOf cX5_carOf 4 (some FieldType.int) 1 20 []) {x : Nat} : ∀ (n : Nat) {l1 : Int32} {l2 : Int32} {h : Hp}, fX5_carOf_l2 x n l1 l2 h = some (r, h') → X C D (h0, (.inl (some (vI r))), h') 4 2 [(0, vR (some x)), (1, vI l1), (2, vI l2)] [] h := by
  intro n
  induction n with
  | zero => intro l1 l2 h hf; exact ab_no hf
  | succ n ih =>
    intro l1 l2 h hf
    unfold fX5_carOf_l2 at hf
    refine xr_iload_n A dX5_carOf_2 2 rfl rfl ?_
    refine xr_aload_n A dX5_carOf_3 0 rfl rfl ?_
    revert hf; refine ab_bdI (fun v1 mv1 hf => ?_)
    refine xr_get A xc_X5 in_X5 3 (Nat.le_of_ble_eq_true rfl) q1301 rfl (ab_gRE mv1) dX5_carOf_4 ?_
    revert hf; refine ab_bdI (fun a2 e hf => ?_); subst e
    revert hf; refine ab_bdI (fun v3 mv3 hf => ?_)
    refine xr_getN A xc_X15 in_X15 6 (Nat.le_of_ble_eq_true rfl) n1466 rfl (ab_gIE mv3) dX5_carOf_7 ?_
    refine xr_icmp_ge A (tgt := 54) dX5_carOf_10 (by decide) (fun c10 => ?_) (fun c10 => ?_)
    · replace hf := ab_ip c10 hf
      refine xr_iconst A (v := (-1)) dX5_carOf_54 (by decide) ?_
      exact xr_ireturn A rfl hf dX5_carOf_55
    · replace hf := ab_in c10 hf
      refine xr_iconst A (v := 0) dX5_carOf_13 (by decide) ?_
      refine xr_istore_n A dX5_carOf_14 rfl (Nat.le_of_ble_eq_true rfl) (L' := [(3, vI (0 : Int32)), (0, vR (some x)), (1, vI l1), (2, vI l2)]) rfl ?_
      refine X.sub [1, 2, 3, 0] rfl ?_
      exact wX5_carOf_l15 A (fun hf => ih hf) _ hf
noncomputable def fX5_carOf (x : Nat) (p1 : Int32) (h : Hp) : Option (Int32 × Hp) :=
  ab_ck h x 4 <|
  fX5_carOf_l2 x (hfu h) p1 (0 : Int32) h
theorem wX5_carOf (D : Dd) {x : Nat} {p1 : Int32} {h : Hp} {r : Int32} {h' : Hp} (hf : fX5_carOf x p1 h = some (r, h')) : ab_is h x 4 ∧ Ct D 1 20 yX5_carOf cX5_carOf 4 (some FieldType.int) [vR (some x), vI p1] h (.inl (some (vI r))) h' := by
    unfold fX5_carOf at hf
    replace hf := ab_ckE hf; obtain ⟨i0, hf⟩ := hf
    refine ⟨i0, ?_⟩
    refine Ct.of (by decide) (L := [(0, vR (some x)), (1, vI p1)]) rfl (Nat.le_of_ble_eq_true rfl) (fun C A => ?_)
    refine xr_iconst A (v := 0) dX5_carOf_0 (by decide) ?_
    refine xr_istore_n A dX5_carOf_1 rfl (Nat.le_of_ble_eq_true rfl) (L' := [(2, vI (0 : Int32)), (0, vR (some x)), (1, vI p1)]) rfl ?_
    refine X.sub [1, 2, 0] rfl ?_
    exact wX5_carOf_l2 A _ hf
/-! X5_drive -/
theorem bX5_drive : MB yX5_drive cX5_drive 3 (some FieldType.int) 2 := ⟨q1762, q99, by decide, by decide +kernel⟩
noncomputable def fX5_drive (x : Nat) (p1 : Int32) (p2 : Int32) (h : Hp) : Option (Int32 × Hp) :=
  ab_ck h x 4 <|
  ab_bd (ab_pI h x 4 0 (0 : Int32)) fun h1 =>
  ab_b2 (fX5_isCar x p1 h1) fun v4 h3 =>
  if v4 = 0 then (
    ab_b2 (fX5_refused x (1 : Int32) h3) fun v7 h6 =>
    some (v7, h6))
  else (
    ab_b2 (fX5_isHouse x p2 h3) fun v10 h9 =>
    if v10 = 0 then (
      ab_b2 (fX5_refused x (1 : Int32) h9) fun v46 h45 =>
      some (v46, h45))
    else (
      ab_b2 (fX5_carOf x p2 h9) fun v13 h12 =>
      if v13 = (-1 : Int32) then (
        ab_bd (ab_gR h12 x 4 17) fun v14 =>
        ab_bd v14 fun a15 =>
        ab_bd (ab_aI h12 a15 0 p1) fun v16 =>
        ab_bd (ab_gR h12 x 4 3) fun v17 =>
        ab_bd v17 fun a18 =>
        ab_bd (ab_gR h12 a18 13 28) fun v19 =>
        ab_bd v19 fun a20 =>
        ab_bd (ab_aI h12 a20 0 p1) fun v21 =>
        if v16 = v21 then (
          ab_b2 (fX5_refused x (3 : Int32) h12) fun v40 h39 =>
          some (v40, h39))
        else (
          ab_bd (ab_gR h12 x 4 18) fun v22 =>
          ab_bd (ab_gR h12 x 4 17) fun v23 =>
          ab_bd v23 fun a24 =>
          ab_bd (ab_aI h12 a24 0 p1) fun v25 =>
          ab_bd v22 fun a26 =>
          ab_bd (ab_sI h12 a26 (((6 : Int32) * p1) + v25) p2) fun h27 =>
          ab_bd (ab_gR h27 x 4 17) fun v28 =>
          ab_bd v28 fun a29 =>
          ab_bd (ab_aI h27 a29 0 p1) fun v30 =>
          ab_bd (ab_sI h27 a29 p1 (v30 + (1 : Int32))) fun h31 =>
          ab_bd (ab_gR h31 x 4 17) fun v32 =>
          ab_bd v32 fun a33 =>
          ab_bd (ab_aI h31 a33 0 p1) fun v34 =>
          ab_b2 (fX5_done x v34 h31) fun v37 h36 =>
          some (v37, h36)))
      else (
        ab_b2 (fX5_refused x (5 : Int32) h12) fun v43 h42 =>
        some (v43, h42))))
theorem wX5_drive (D : Dd) {x : Nat} {p1 : Int32} {p2 : Int32} {h : Hp} {r : Int32} {h' : Hp} (hf : fX5_drive x p1 p2 h = some (r, h')) : ab_is h x 4 ∧ Ct D 2 43 yX5_drive cX5_drive 3 (some FieldType.int) [vR (some x), vI p1, vI p2] h (.inl (some (vI r))) h' := by
    unfold fX5_drive at hf
    replace hf := ab_ckE hf; obtain ⟨i0, hf⟩ := hf
    refine ⟨i0, ?_⟩
    refine Ct.of (by decide) (L := [(0, vR (some x)), (1, vI p1), (2, vI p2)]) rfl (Nat.le_of_ble_eq_true rfl) (fun C A => ?_)
    refine xr_aload_n A dX5_drive_0 0 rfl rfl ?_
    refine xr_iconst A (v := 0) dX5_drive_1 (by decide) ?_
    revert hf; refine ab_bdI (fun h1 mh1 hf => ?_)
    refine xr_put A xc_X5 in_X5 tyX5_ok nmX5 0 (Nat.le_of_ble_eq_true rfl) q1298 rfl rfl (v := vI (0 : Int32)) rfl rfl mh1 dX5_drive_2 ?_
    refine xr_aload_n A dX5_drive_5 0 rfl rfl ?_
    refine xr_iload_n A dX5_drive_6 1 rfl rfl ?_
    revert hf; refine ab_b2I (fun v4 h3 m2 hf => ?_)
    refine xr_V A bX5_isCar (wX5_isCar D m2).2 xc_X5 (wX5_isCar D m2).1 q1765 qs70 q1763 (av := [vI p1]) (rest := []) rfl dX5_drive_7 (Nat.le_of_ble_eq_true rfl) (Nat.le_of_ble_eq_true rfl) rfl (Nat.le_of_ble_eq_true rfl) ?_
    refine xr_if_eq A (tgt := 21) dX5_drive_10 (by decide) (fun c10 => ?_) (fun c10 => ?_)
    · replace hf := ab_ip c10 hf
      refine xr_aload_n A dX5_drive_21 0 rfl rfl ?_
      refine xr_iconst A (v := 1) dX5_drive_22 (by decide) ?_
      revert hf; refine ab_b2I (fun v7 h6 m5 hf => ?_)
      refine xr_V A bX5_refused (wX5_refused D m5).2 xc_X5 (wX5_refused D m5).1 q1451 qs44 q1449 (av := [vI (1 : Int32)]) (rest := []) rfl dX5_drive_23 (Nat.le_of_ble_eq_true rfl) (Nat.le_of_ble_eq_true rfl) rfl (Nat.le_of_ble_eq_true rfl) ?_
      exact xr_ireturn A rfl hf dX5_drive_26
    · replace hf := ab_in c10 hf
      refine xr_aload_n A dX5_drive_13 0 rfl rfl ?_
      refine xr_iload_n A dX5_drive_14 2 rfl rfl ?_
      revert hf; refine ab_b2I (fun v10 h9 m8 hf => ?_)
      refine xr_V A bX5_isHouse (wX5_isHouse D m8).2 xc_X5 (wX5_isHouse D m8).1 q1769 qs71 q1767 (av := [vI p2]) (rest := []) rfl dX5_drive_15 (Nat.le_of_ble_eq_true rfl) (Nat.le_of_ble_eq_true rfl) rfl (Nat.le_of_ble_eq_true rfl) ?_
      refine xr_if_ne A (tgt := 27) dX5_drive_18 (by decide) (fun c18 => ?_) (fun c18 => ?_)
      · replace hf := ab_in c18 hf
        refine xr_aload_n A dX5_drive_27 0 rfl rfl ?_
        refine xr_iload_n A dX5_drive_28 2 rfl rfl ?_
        revert hf; refine ab_b2I (fun v13 h12 m11 hf => ?_)
        refine xr_V A bX5_carOf (wX5_carOf D m11).2 xc_X5 (wX5_carOf D m11).1 q1773 qs72 q1771 (av := [vI p2]) (rest := []) rfl dX5_drive_29 (Nat.le_of_ble_eq_true rfl) (Nat.le_of_ble_eq_true rfl) rfl (Nat.le_of_ble_eq_true rfl) ?_
        refine xr_iconst A (v := (-1)) dX5_drive_32 (by decide) ?_
        refine xr_icmp_eq A (tgt := 42) dX5_drive_33 (by decide) (fun c33 => ?_) (fun c33 => ?_)
        · replace hf := ab_ip c33 hf
          refine xr_aload_n A dX5_drive_42 0 rfl rfl ?_
          revert hf; refine ab_bdI (fun v14 mv14 hf => ?_)
          refine xr_get A xc_X5 in_X5 17 (Nat.le_of_ble_eq_true rfl) q1315 rfl (ab_gRE mv14) dX5_drive_43 ?_
          refine xr_iload_n A dX5_drive_46 1 rfl rfl ?_
          revert hf; refine ab_bdI (fun a15 e hf => ?_); subst e
          revert hf; refine ab_bdI (fun v16 mv16 hf => ?_)
          refine xr_iaload A mv16 dX5_drive_47 ?_
          refine xr_aload_n A dX5_drive_48 0 rfl rfl ?_
          revert hf; refine ab_bdI (fun v17 mv17 hf => ?_)
          refine xr_get A xc_X5 in_X5 3 (Nat.le_of_ble_eq_true rfl) q1301 rfl (ab_gRE mv17) dX5_drive_49 ?_
          revert hf; refine ab_bdI (fun a18 e hf => ?_); subst e
          revert hf; refine ab_bdI (fun v19 mv19 hf => ?_)
          refine xr_getN A xc_X15 in_X15 28 (Nat.le_of_ble_eq_true rfl) n1508 rfl (ab_gRE mv19) dX5_drive_52 ?_
          refine xr_iload_n A dX5_drive_55 1 rfl rfl ?_
          revert hf; refine ab_bdI (fun a20 e hf => ?_); subst e
          revert hf; refine ab_bdI (fun v21 mv21 hf => ?_)
          refine xr_iaload A mv21 dX5_drive_56 ?_
          refine xr_icmp_ne A (tgt := 66) dX5_drive_57 (by decide) (fun c57 => ?_) (fun c57 => ?_)
          · replace hf := ab_in c57 hf
            refine xr_aload_n A dX5_drive_66 0 rfl rfl ?_
            revert hf; refine ab_bdI (fun v22 mv22 hf => ?_)
            refine xr_get A xc_X5 in_X5 18 (Nat.le_of_ble_eq_true rfl) q1316 rfl (ab_gRE mv22) dX5_drive_67 ?_
            refine xr_bipush A (v := 6) dX5_drive_70 (by decide) ?_
            refine xr_iload_n A dX5_drive_72 1 rfl rfl ?_
            refine xr_imul A dX5_drive_73 ?_
            refine xr_aload_n A dX5_drive_74 0 rfl rfl ?_
            revert hf; refine ab_bdI (fun v23 mv23 hf => ?_)
            refine xr_get A xc_X5 in_X5 17 (Nat.le_of_ble_eq_true rfl) q1315 rfl (ab_gRE mv23) dX5_drive_75 ?_
            refine xr_iload_n A dX5_drive_78 1 rfl rfl ?_
            revert hf; refine ab_bdI (fun a24 e hf => ?_); subst e
            revert hf; refine ab_bdI (fun v25 mv25 hf => ?_)
            refine xr_iaload A mv25 dX5_drive_79 ?_
            refine xr_iadd A dX5_drive_80 ?_
            refine xr_iload_n A dX5_drive_81 2 rfl rfl ?_
            revert hf; refine ab_bdI (fun a26 e hf => ?_); subst e
            revert hf; refine ab_bdI (fun h27 mh27 hf => ?_)
            refine xr_iastore A mh27 dX5_drive_82 ?_
            refine xr_aload_n A dX5_drive_83 0 rfl rfl ?_
            revert hf; refine ab_bdI (fun v28 mv28 hf => ?_)
            refine xr_get A xc_X5 in_X5 17 (Nat.le_of_ble_eq_true rfl) q1315 rfl (ab_gRE mv28) dX5_drive_84 ?_
            refine xr_iload_n A dX5_drive_87 1 rfl rfl ?_
            refine xr_dup2 A dX5_drive_88 rfl rfl ?_
            revert hf; refine ab_bdI (fun a29 e hf => ?_); subst e
            revert hf; refine ab_bdI (fun v30 mv30 hf => ?_)
            refine xr_iaload A mv30 dX5_drive_89 ?_
            refine xr_iconst A (v := 1) dX5_drive_90 (by decide) ?_
            refine xr_iadd A dX5_drive_91 ?_
            revert hf; refine ab_bdI (fun h31 mh31 hf => ?_)
            refine xr_iastore A mh31 dX5_drive_92 ?_
            refine xr_aload_n A dX5_drive_93 0 rfl rfl ?_
            refine xr_aload_n A dX5_drive_94 0 rfl rfl ?_
            revert hf; refine ab_bdI (fun v32 mv32 hf => ?_)
            refine xr_get A xc_X5 in_X5 17 (Nat.le_of_ble_eq_true rfl) q1315 rfl (ab_gRE mv32) dX5_drive_95 ?_
            refine xr_iload_n A dX5_drive_98 1 rfl rfl ?_
            revert hf; refine ab_bdI (fun a33 e hf => ?_); subst e
            revert hf; refine ab_bdI (fun v34 mv34 hf => ?_)
            refine xr_iaload A mv34 dX5_drive_99 ?_
            revert hf; refine ab_b2I (fun v37 h36 m35 hf => ?_)
            refine xr_V A bX5_done (wX5_done D m35).2 xc_X5 (wX5_done D m35).1 q1749 qs69 q1747 (av := [vI v34]) (rest := []) rfl dX5_drive_100 (Nat.le_of_ble_eq_true rfl) (Nat.le_of_ble_eq_true rfl) rfl (Nat.le_of_ble_eq_true rfl) ?_
            exact xr_ireturn A rfl hf dX5_drive_103
          · replace hf := ab_ip c57 hf
            refine xr_aload_n A dX5_drive_60 0 rfl rfl ?_
            refine xr_iconst A (v := 3) dX5_drive_61 (by decide) ?_
            revert hf; refine ab_b2I (fun v40 h39 m38 hf => ?_)
            refine xr_V A bX5_refused (wX5_refused D m38).2 xc_X5 (wX5_refused D m38).1 q1451 qs44 q1449 (av := [vI (3 : Int32)]) (rest := []) rfl dX5_drive_62 (Nat.le_of_ble_eq_true rfl) (Nat.le_of_ble_eq_true rfl) rfl (Nat.le_of_ble_eq_true rfl) ?_
            exact xr_ireturn A rfl hf dX5_drive_65
        · replace hf := ab_in c33 hf
          refine xr_aload_n A dX5_drive_36 0 rfl rfl ?_
          refine xr_iconst A (v := 5) dX5_drive_37 (by decide) ?_
          revert hf; refine ab_b2I (fun v43 h42 m41 hf => ?_)
          refine xr_V A bX5_refused (wX5_refused D m41).2 xc_X5 (wX5_refused D m41).1 q1451 qs44 q1449 (av := [vI (5 : Int32)]) (rest := []) rfl dX5_drive_38 (Nat.le_of_ble_eq_true rfl) (Nat.le_of_ble_eq_true rfl) rfl (Nat.le_of_ble_eq_true rfl) ?_
          exact xr_ireturn A rfl hf dX5_drive_41
      · replace hf := ab_ip c18 hf
        refine xr_aload_n A dX5_drive_21 0 rfl rfl ?_
        refine xr_iconst A (v := 1) dX5_drive_22 (by decide) ?_
        revert hf; refine ab_b2I (fun v46 h45 m44 hf => ?_)
        refine xr_V A bX5_refused (wX5_refused D m44).2 xc_X5 (wX5_refused D m44).1 q1451 qs44 q1449 (av := [vI (1 : Int32)]) (rest := []) rfl dX5_drive_23 (Nat.le_of_ble_eq_true rfl) (Nat.le_of_ble_eq_true rfl) rfl (Nat.le_of_ble_eq_true rfl) ?_
        exact xr_ireturn A rfl hf dX5_drive_26
/-! X5_unload -/
theorem bX5_unload : MB yX5_unload cX5_unload 3 (some FieldType.int) 1 := ⟨q1778, q99, by decide, by decide +kernel⟩
noncomputable def fX5_unload (x : Nat) (p1 : Int32) (h : Hp) : Option (Int32 × Hp) :=
  ab_ck h x 4 <|
  ab_bd (ab_pI h x 4 0 (0 : Int32)) fun h1 =>
  ab_b2 (fX5_isCar x p1 h1) fun v4 h3 =>
  if v4 = 0 then (
    ab_b2 (fX5_refused x (1 : Int32) h3) fun v16 h15 =>
    some (v16, h15))
  else (
    ab_bd (ab_gR h3 x 4 17) fun v5 =>
    ab_bd v5 fun a6 =>
    ab_bd (ab_aI h3 a6 0 p1) fun v7 =>
    ab_bd (ab_gR h3 x 4 17) fun v8 =>
    ab_bd v8 fun a9 =>
    ab_bd (ab_sI h3 a9 p1 (0 : Int32)) fun h10 =>
    ab_b2 (fX5_done x v7 h10) fun v13 h12 =>
    some (v13, h12))
theorem wX5_unload (D : Dd) {x : Nat} {p1 : Int32} {h : Hp} {r : Int32} {h' : Hp} (hf : fX5_unload x p1 h = some (r, h')) : ab_is h x 4 ∧ Ct D 2 41 yX5_unload cX5_unload 3 (some FieldType.int) [vR (some x), vI p1] h (.inl (some (vI r))) h' := by
    unfold fX5_unload at hf
    replace hf := ab_ckE hf; obtain ⟨i0, hf⟩ := hf
    refine ⟨i0, ?_⟩
    refine Ct.of (by decide) (L := [(0, vR (some x)), (1, vI p1)]) rfl (Nat.le_of_ble_eq_true rfl) (fun C A => ?_)
    refine xr_aload_n A dX5_unload_0 0 rfl rfl ?_
    refine xr_iconst A (v := 0) dX5_unload_1 (by decide) ?_
    revert hf; refine ab_bdI (fun h1 mh1 hf => ?_)
    refine xr_put A xc_X5 in_X5 tyX5_ok nmX5 0 (Nat.le_of_ble_eq_true rfl) q1298 rfl rfl (v := vI (0 : Int32)) rfl rfl mh1 dX5_unload_2 ?_
    refine xr_aload_n A dX5_unload_5 0 rfl rfl ?_
    refine xr_iload_n A dX5_unload_6 1 rfl rfl ?_
    revert hf; refine ab_b2I (fun v4 h3 m2 hf => ?_)
    refine xr_V A bX5_isCar (wX5_isCar D m2).2 xc_X5 (wX5_isCar D m2).1 q1765 qs70 q1763 (av := [vI p1]) (rest := []) rfl dX5_unload_7 (Nat.le_of_ble_eq_true rfl) (Nat.le_of_ble_eq_true rfl) rfl (Nat.le_of_ble_eq_true rfl) ?_
    refine xr_if_ne A (tgt := 19) dX5_unload_10 (by decide) (fun c10 => ?_) (fun c10 => ?_)
    · replace hf := ab_in c10 hf
      refine xr_aload_n A dX5_unload_19 0 rfl rfl ?_
      revert hf; refine ab_bdI (fun v5 mv5 hf => ?_)
      refine xr_get A xc_X5 in_X5 17 (Nat.le_of_ble_eq_true rfl) q1315 rfl (ab_gRE mv5) dX5_unload_20 ?_
      refine xr_iload_n A dX5_unload_23 1 rfl rfl ?_
      revert hf; refine ab_bdI (fun a6 e hf => ?_); subst e
      revert hf; refine ab_bdI (fun v7 mv7 hf => ?_)
      refine xr_iaload A mv7 dX5_unload_24 ?_
      refine xr_istore_n A dX5_unload_25 rfl (Nat.le_of_ble_eq_true rfl) (L' := [(2, vI v7), (0, vR (some x)), (1, vI p1)]) rfl ?_
      refine xr_aload_n A dX5_unload_26 1 rfl rfl ?_
      revert hf; refine ab_bdI (fun v8 mv8 hf => ?_)
      refine xr_get A xc_X5 in_X5 17 (Nat.le_of_ble_eq_true rfl) q1315 rfl (ab_gRE mv8) dX5_unload_27 ?_
      refine xr_iload_n A dX5_unload_30 2 rfl rfl ?_
      refine xr_iconst A (v := 0) dX5_unload_31 (by decide) ?_
      revert hf; refine ab_bdI (fun a9 e hf => ?_); subst e
      revert hf; refine ab_bdI (fun h10 mh10 hf => ?_)
      refine xr_iastore A mh10 dX5_unload_32 ?_
      refine xr_aload_n A dX5_unload_33 1 rfl rfl ?_
      refine xr_iload_n A dX5_unload_34 0 rfl rfl ?_
      revert hf; refine ab_b2I (fun v13 h12 m11 hf => ?_)
      refine xr_V A bX5_done (wX5_done D m11).2 xc_X5 (wX5_done D m11).1 q1749 qs69 q1747 (av := [vI v7]) (rest := []) rfl dX5_unload_35 (Nat.le_of_ble_eq_true rfl) (Nat.le_of_ble_eq_true rfl) rfl (Nat.le_of_ble_eq_true rfl) ?_
      exact xr_ireturn A rfl hf dX5_unload_38
    · replace hf := ab_ip c10 hf
      refine xr_aload_n A dX5_unload_13 0 rfl rfl ?_
      refine xr_iconst A (v := 1) dX5_unload_14 (by decide) ?_
      revert hf; refine ab_b2I (fun v16 h15 m14 hf => ?_)
      refine xr_V A bX5_refused (wX5_refused D m14).2 xc_X5 (wX5_refused D m14).1 q1451 qs44 q1449 (av := [vI (1 : Int32)]) (rest := []) rfl dX5_unload_15 (Nat.le_of_ble_eq_true rfl) (Nat.le_of_ble_eq_true rfl) rfl (Nat.le_of_ble_eq_true rfl) ?_
      exact xr_ireturn A rfl hf dX5_unload_18
/-! X5_tea -/
theorem bX5_tea : MB yX5_tea cX5_tea 2 (some FieldType.boolean) 1 := ⟨q1782, q99, by decide, by decide +kernel⟩
noncomputable def fX5_tea_b29 (x : Nat) (h : Hp) : Option (Int32 × Hp) :=
  ab_bd (ab_gR h x 4 3) fun v1 =>
  ab_on v1 (
    ab_b2 (fX5_refused x (1 : Int32) h) fun v5 h4 =>
    some ((0 : Int32), h4)) fun a2 => (
    ab_b2 (fX5_refused x (2 : Int32) h) fun v8 h7 =>
    some ((0 : Int32), h7))
theorem wX5_tea_b29 {D : Dd} {C : Cx} {h0 h' : Hp} {r : Int32} (A : Act C D (h0, (.inl (some (vI r))), h') yX5_tea cX5_tea 2 (some FieldType.boolean) 2 41 []) {x : Nat} {h : Hp} (hf : fX5_tea_b29 x h = some (r, h')) : X C D (h0, (.inl (some (vI r))), h') 2 29 [(0, vR (some x))] [] h := by
  unfold fX5_tea_b29 at hf
  refine xr_aload_n A dX5_tea_29 0 rfl rfl ?_
  refine xr_aload_n A dX5_tea_30 0 rfl rfl ?_
  revert hf; refine ab_bdI (fun v1 mv1 hf => ?_)
  refine xr_get A xc_X5 in_X5 3 (Nat.le_of_ble_eq_true rfl) q1301 rfl (ab_gRE mv1) dX5_tea_31 ?_
  revert hf; refine ab_onI (fun e hf => ?_) (fun a2 e hf => ?_) <;> subst e
  · refine xr_ifnonnull A (tgt := 41) dX5_tea_34 (by decide) (fun _ e => by cases e) (fun _ => ?_)
    refine xr_iconst A (v := 1) dX5_tea_37 (by decide) ?_
    refine xr_goto A (tgt := 42) dX5_tea_38 (by decide) ?_
    revert hf; refine ab_b2I (fun v5 h4 m3 hf => ?_)
    refine xr_V A bX5_refused (wX5_refused D m3).2 xc_X5 (wX5_refused D m3).1 q1451 qs44 q1449 (av := [vI (1 : Int32)]) (rest := []) rfl dX5_tea_42 (Nat.le_of_ble_eq_true rfl) (Nat.le_of_ble_eq_true rfl) rfl (Nat.le_of_ble_eq_true rfl) ?_
    refine xr_pop A dX5_tea_45 rfl ?_
    refine xr_iconst A (v := 0) dX5_tea_46 (by decide) ?_
    exact xr_ireturn A rfl hf dX5_tea_47
  · refine xr_ifnonnull A (tgt := 41) dX5_tea_34 (by decide) (fun _ _ => ?_) (fun e => by cases e)
    refine xr_iconst A (v := 2) dX5_tea_41 (by decide) ?_
    revert hf; refine ab_b2I (fun v8 h7 m6 hf => ?_)
    refine xr_V A bX5_refused (wX5_refused D m6).2 xc_X5 (wX5_refused D m6).1 q1451 qs44 q1449 (av := [vI (2 : Int32)]) (rest := []) rfl dX5_tea_42 (Nat.le_of_ble_eq_true rfl) (Nat.le_of_ble_eq_true rfl) rfl (Nat.le_of_ble_eq_true rfl) ?_
    refine xr_pop A dX5_tea_45 rfl ?_
    refine xr_iconst A (v := 0) dX5_tea_46 (by decide) ?_
    exact xr_ireturn A rfl hf dX5_tea_47
noncomputable def fX5_tea (x : Nat) (p1 : Int32) (h : Hp) : Option (Int32 × Hp) :=
  ab_ck h x 4 <|
  ab_bd (ab_pI h x 4 0 (0 : Int32)) fun h1 =>
  ab_bd (ab_gR h1 x 4 3) fun v2 =>
  ab_on v2 (
    fX5_tea_b29 x  h1) fun a3 => (
    if p1 < 0 then (
      fX5_tea_b29 x  h1)
    else (
      ab_bd (ab_gR h1 x 4 3) fun v4 =>
      ab_bd v4 fun a5 =>
      ab_bd (ab_gI h1 a5 13 5) fun v6 =>
      if p1 < ((1 : Int32) <<< (v6 &&& 31)) then (
        ab_bd (ab_pI h1 x 4 19 p1) fun h7 =>
        ab_b2 (fX5_done x (0 : Int32) h7) fun v10 h9 =>
        some ((1 : Int32), h9))
      else (
        fX5_tea_b29 x  h1)))
theorem wX5_tea (D : Dd) {x : Nat} {p1 : Int32} {h : Hp} {r : Int32} {h' : Hp} (hf : fX5_tea x p1 h = some (r, h')) : ab_is h x 4 ∧ Ct D 2 41 yX5_tea cX5_tea 2 (some FieldType.boolean) [vR (some x), vI p1] h (.inl (some (vI r))) h' := by
    unfold fX5_tea at hf
    replace hf := ab_ckE hf; obtain ⟨i0, hf⟩ := hf
    refine ⟨i0, ?_⟩
    refine Ct.of (by decide) (L := [(0, vR (some x)), (1, vI p1)]) rfl (Nat.le_of_ble_eq_true rfl) (fun C A => ?_)
    refine xr_aload_n A dX5_tea_0 0 rfl rfl ?_
    refine xr_iconst A (v := 0) dX5_tea_1 (by decide) ?_
    revert hf; refine ab_bdI (fun h1 mh1 hf => ?_)
    refine xr_put A xc_X5 in_X5 tyX5_ok nmX5 0 (Nat.le_of_ble_eq_true rfl) q1298 rfl rfl (v := vI (0 : Int32)) rfl rfl mh1 dX5_tea_2 ?_
    refine xr_aload_n A dX5_tea_5 0 rfl rfl ?_
    revert hf; refine ab_bdI (fun v2 mv2 hf => ?_)
    refine xr_get A xc_X5 in_X5 3 (Nat.le_of_ble_eq_true rfl) q1301 rfl (ab_gRE mv2) dX5_tea_6 ?_
    revert hf; refine ab_onI (fun e hf => ?_) (fun a3 e hf => ?_) <;> subst e
    · refine xr_ifnull A (tgt := 29) dX5_tea_9 (by decide) (fun _ => ?_) (fun _ e => by cases e)
      refine X.sub [0] rfl ?_
      exact wX5_tea_b29 A hf
    · refine xr_ifnull A (tgt := 29) dX5_tea_9 (by decide) (fun e => by cases e) (fun _ _ => ?_)
      refine xr_iload_n A dX5_tea_12 1 rfl rfl ?_
      refine xr_if_lt A (tgt := 29) dX5_tea_13 (by decide) (fun c13 => ?_) (fun c13 => ?_)
      · replace hf := ab_ip c13 hf
        refine X.sub [0] rfl ?_
        exact wX5_tea_b29 A hf
      · replace hf := ab_in c13 hf
        refine xr_iload_n A dX5_tea_16 1 rfl rfl ?_
        refine xr_iconst A (v := 1) dX5_tea_17 (by decide) ?_
        refine xr_aload_n A dX5_tea_18 0 rfl rfl ?_
        revert hf; refine ab_bdI (fun v4 mv4 hf => ?_)
        refine xr_get A xc_X5 in_X5 3 (Nat.le_of_ble_eq_true rfl) q1301 rfl (ab_gRE mv4) dX5_tea_19 ?_
        revert hf; refine ab_bdI (fun a5 e hf => ?_); subst e
        revert hf; refine ab_bdI (fun v6 mv6 hf => ?_)
        refine xr_getN A xc_X15 in_X15 5 (Nat.le_of_ble_eq_true rfl) n1465 rfl (ab_gIE mv6) dX5_tea_22 ?_
        refine xr_ishl A dX5_tea_25 ?_
        refine xr_icmp_lt A (tgt := 48) dX5_tea_26 (by decide) (fun c26 => ?_) (fun c26 => ?_)
        · replace hf := ab_ip c26 hf
          refine xr_aload_n A dX5_tea_48 0 rfl rfl ?_
          refine xr_iload_n A dX5_tea_49 1 rfl rfl ?_
          revert hf; refine ab_bdI (fun h7 mh7 hf => ?_)
          refine xr_put A xc_X5 in_X5 tyX5_ok nmX5 19 (Nat.le_of_ble_eq_true rfl) q1317 rfl rfl (v := vI p1) rfl rfl mh7 dX5_tea_50 ?_
          refine xr_aload_n A dX5_tea_53 0 rfl rfl ?_
          refine xr_iconst A (v := 0) dX5_tea_54 (by decide) ?_
          revert hf; refine ab_b2I (fun v10 h9 m8 hf => ?_)
          refine xr_V A bX5_done (wX5_done D m8).2 xc_X5 (wX5_done D m8).1 q1749 qs69 q1747 (av := [vI (0 : Int32)]) (rest := []) rfl dX5_tea_55 (Nat.le_of_ble_eq_true rfl) (Nat.le_of_ble_eq_true rfl) rfl (Nat.le_of_ble_eq_true rfl) ?_
          refine xr_pop A dX5_tea_58 rfl ?_
          refine xr_iconst A (v := 1) dX5_tea_59 (by decide) ?_
          exact xr_ireturn A rfl hf dX5_tea_60
        · replace hf := ab_in c26 hf
          refine X.sub [0] rfl ?_
          exact wX5_tea_b29 A hf
/-! X15_way -/
theorem bX15_way : MB yX15_way cX15_way 7 (some FieldType.int) 2 := ⟨q1798, q114, by decide, by decide +kernel⟩
noncomputable def fX15_way_l32 (x : Nat) : Nat → Int32 → Int32 → Int32 → Int32 → Hp → Option (Int32 × Hp)
  | 0, _, _, _, _, _ => none
  | n + 1, l3, l4, l5, l6, h =>
  ab_bd (ab_gI h x 13 7) fun v1 =>
  if v1 ≤ l6 then (
    some (l5, h))
  else (
    ab_bd (ab_gR h x 13 16) fun v2 =>
    ab_bd v2 fun a3 =>
    ab_bd (ab_aI h a3 0 l6) fun v4 =>
    if v4 < l3 then (
      fX15_way_l32 x n l3 l4 (l5 + (0 : Int32)) (l6 + (1 : Int32)) h)
    else (
      ab_bd (ab_gR h x 13 16) fun v5 =>
      ab_bd v5 fun a6 =>
      ab_bd (ab_aI h a6 0 l6) fun v7 =>
      if l4 ≤ v7 then (
        fX15_way_l32 x n l3 l4 (l5 + (0 : Int32)) (l6 + (1 : Int32)) h)
      else (
        ab_bd (ab_gR h x 13 17) fun v8 =>
        ab_bd v8 fun a9 =>
        ab_bd (ab_aI h a9 0 l6) fun v10 =>
        fX15_way_l32 x n l3 l4 (l5 + v10) (l6 + (1 : Int32)) h)))
theorem wX15_way_l32 {D : Dd} {C : Cx} {h0 h' : Hp} {r : Int32} (A : Act C D (h0, (.inl (some (vI r))), h') yX15_way cX15_way 7 (some FieldType.int) 1 20 []) {x : Nat} : ∀ (n : Nat) {l3 : Int32} {l4 : Int32} {l5 : Int32} {l6 : Int32} {h : Hp}, fX15_way_l32 x n l3 l4 l5 l6 h = some (r, h') → X C D (h0, (.inl (some (vI r))), h') 7 32 [(0, vR (some x)), (3, vI l3), (4, vI l4), (5, vI l5), (6, vI l6)] [] h := by
  intro n
  induction n with
  | zero => intro l3 l4 l5 l6 h hf; exact ab_no hf
  | succ n ih =>
    intro l3 l4 l5 l6 h hf
    unfold fX15_way_l32 at hf
    refine xr_iload A dX15_way_32 4 rfl ?_
    refine xr_aload_n A dX15_way_34 0 rfl rfl ?_
    revert hf; refine ab_bdI (fun v1 mv1 hf => ?_)
    refine xr_get A xc_X15 in_X15 7 (Nat.le_of_ble_eq_true rfl) q1467 rfl (ab_gIE mv1) dX15_way_35 ?_
    refine xr_icmp_ge A (tgt := 86) dX15_way_38 (by decide) (fun c38 => ?_) (fun c38 => ?_)
    · replace hf := ab_ip c38 hf
      refine xr_iload A dX15_way_86 3 rfl ?_
      exact xr_ireturn A rfl hf dX15_way_88
    · replace hf := ab_in c38 hf
      refine xr_iload A dX15_way_41 3 rfl ?_
      refine xr_aload_n A dX15_way_43 0 rfl rfl ?_
      revert hf; refine ab_bdI (fun v2 mv2 hf => ?_)
      refine xr_get A xc_X15 in_X15 16 (Nat.le_of_ble_eq_true rfl) q1483 rfl (ab_gRE mv2) dX15_way_44 ?_
      refine xr_iload A dX15_way_47 4 rfl ?_
      revert hf; refine ab_bdI (fun a3 e hf => ?_); subst e
      revert hf; refine ab_bdI (fun v4 mv4 hf => ?_)
      refine xr_iaload A mv4 dX15_way_49 ?_
      refine xr_iload_n A dX15_way_50 1 rfl rfl ?_
      refine xr_icmp_lt A (tgt := 76) dX15_way_51 (by decide) (fun c51 => ?_) (fun c51 => ?_)
      · replace hf := ab_ip c51 hf
        refine xr_iconst A (v := 0) dX15_way_76 (by decide) ?_
        refine xr_iadd A dX15_way_77 ?_
        refine xr_istore A dX15_way_78 (Nat.le_of_ble_eq_true rfl) (L' := [(5, vI (l5 + (0 : Int32))), (0, vR (some x)), (3, vI l3), (4, vI l4), (6, vI l6)]) rfl ?_
        refine xr_iinc A dX15_way_80 4 rfl (v := (l6 + (1 : Int32))) rfl (Nat.le_of_ble_eq_true rfl) (L' := [(6, vI (l6 + (1 : Int32))), (5, vI (l5 + (0 : Int32))), (0, vR (some x)), (3, vI l3), (4, vI l4)]) rfl ?_
        refine xr_goto A (tgt := 32) dX15_way_83 (by decide) ?_
        refine X.sub [2, 3, 4, 1, 0] rfl ?_
        exact ih hf
      · replace hf := ab_in c51 hf
        refine xr_aload_n A dX15_way_54 0 rfl rfl ?_
        revert hf; refine ab_bdI (fun v5 mv5 hf => ?_)
        refine xr_get A xc_X15 in_X15 16 (Nat.le_of_ble_eq_true rfl) q1483 rfl (ab_gRE mv5) dX15_way_55 ?_
        refine xr_iload A dX15_way_58 4 rfl ?_
        revert hf; refine ab_bdI (fun a6 e hf => ?_); subst e
        revert hf; refine ab_bdI (fun v7 mv7 hf => ?_)
        refine xr_iaload A mv7 dX15_way_60 ?_
        refine xr_iload A dX15_way_61 2 rfl ?_
        refine xr_icmp_ge A (tgt := 76) dX15_way_63 (by decide) (fun c63 => ?_) (fun c63 => ?_)
        · replace hf := ab_ip c63 hf
          refine xr_iconst A (v := 0) dX15_way_76 (by decide) ?_
          refine xr_iadd A dX15_way_77 ?_
          refine xr_istore A dX15_way_78 (Nat.le_of_ble_eq_true rfl) (L' := [(5, vI (l5 + (0 : Int32))), (0, vR (some x)), (3, vI l3), (4, vI l4), (6, vI l6)]) rfl ?_
          refine xr_iinc A dX15_way_80 4 rfl (v := (l6 + (1 : Int32))) rfl (Nat.le_of_ble_eq_true rfl) (L' := [(6, vI (l6 + (1 : Int32))), (5, vI (l5 + (0 : Int32))), (0, vR (some x)), (3, vI l3), (4, vI l4)]) rfl ?_
          refine xr_goto A (tgt := 32) dX15_way_83 (by decide) ?_
          refine X.sub [2, 3, 4, 1, 0] rfl ?_
          exact ih hf
        · replace hf := ab_in c63 hf
          refine xr_aload_n A dX15_way_66 0 rfl rfl ?_
          revert hf; refine ab_bdI (fun v8 mv8 hf => ?_)
          refine xr_get A xc_X15 in_X15 17 (Nat.le_of_ble_eq_true rfl) q1485 rfl (ab_gRE mv8) dX15_way_67 ?_
          refine xr_iload A dX15_way_70 4 rfl ?_
          revert hf; refine ab_bdI (fun a9 e hf => ?_); subst e
          revert hf; refine ab_bdI (fun v10 mv10 hf => ?_)
          refine xr_iaload A mv10 dX15_way_72 ?_
          refine xr_goto A (tgt := 77) dX15_way_73 (by decide) ?_
          refine xr_iadd A dX15_way_77 ?_
          refine xr_istore A dX15_way_78 (Nat.le_of_ble_eq_true rfl) (L' := [(5, vI (l5 + v10)), (0, vR (some x)), (3, vI l3), (4, vI l4), (6, vI l6)]) rfl ?_
          refine xr_iinc A dX15_way_80 4 rfl (v := (l6 + (1 : Int32))) rfl (Nat.le_of_ble_eq_true rfl) (L' := [(6, vI (l6 + (1 : Int32))), (5, vI (l5 + v10)), (0, vR (some x)), (3, vI l3), (4, vI l4)]) rfl ?_
          refine xr_goto A (tgt := 32) dX15_way_83 (by decide) ?_
          refine X.sub [2, 3, 4, 1, 0] rfl ?_
          exact ih hf
noncomputable def fX15_way_b10 (x : Nat) (l1 : Int32) (l2 : Int32) (s0 : Int32) (h : Hp) : Option (Int32 × Hp) :=
  if l2 ≤ l1 then (
    fX15_way_l32 x (hfu h) s0 l1 (l1 - s0) (0 : Int32) h)
  else (
    fX15_way_l32 x (hfu h) s0 l2 (l2 - s0) (0 : Int32) h)
theorem wX15_way_b10 {D : Dd} {C : Cx} {h0 h' : Hp} {r : Int32} (A : Act C D (h0, (.inl (some (vI r))), h') yX15_way cX15_way 7 (some FieldType.int) 1 20 []) {x : Nat} {l1 : Int32} {l2 : Int32} {s0 : Int32} {h : Hp} (hf : fX15_way_b10 x l1 l2 s0 h = some (r, h')) : X C D (h0, (.inl (some (vI r))), h') 7 10 [(0, vR (some x)), (1, vI l1), (2, vI l2)] [vI s0] h := by
  unfold fX15_way_b10 at hf
  refine xr_istore_n A dX15_way_10 rfl (Nat.le_of_ble_eq_true rfl) (L' := [(3, vI s0), (0, vR (some x)), (1, vI l1), (2, vI l2)]) rfl ?_
  refine xr_iload_n A dX15_way_11 2 rfl rfl ?_
  refine xr_iload_n A dX15_way_12 3 rfl rfl ?_
  refine xr_icmp_ge A (tgt := 20) dX15_way_13 (by decide) (fun c13 => ?_) (fun c13 => ?_)
  · replace hf := ab_ip c13 hf
    refine xr_iload_n A dX15_way_20 2 rfl rfl ?_
    refine xr_istore A dX15_way_21 (Nat.le_of_ble_eq_true rfl) (L' := [(4, vI l1), (3, vI s0), (0, vR (some x)), (1, vI l1), (2, vI l2)]) rfl ?_
    refine xr_iload A dX15_way_23 0 rfl ?_
    refine xr_iload_n A dX15_way_25 1 rfl rfl ?_
    refine xr_isub A dX15_way_26 ?_
    refine xr_istore A dX15_way_27 (Nat.le_of_ble_eq_true rfl) (L' := [(5, vI (l1 - s0)), (4, vI l1), (3, vI s0), (0, vR (some x)), (1, vI l1), (2, vI l2)]) rfl ?_
    refine xr_iconst A (v := 0) dX15_way_29 (by decide) ?_
    refine xr_istore A dX15_way_30 (Nat.le_of_ble_eq_true rfl) (L' := [(6, vI (0 : Int32)), (5, vI (l1 - s0)), (4, vI l1), (3, vI s0), (0, vR (some x)), (1, vI l1), (2, vI l2)]) rfl ?_
    refine X.sub [4, 3, 2, 1, 0] rfl ?_
    exact wX15_way_l32 A _ hf
  · replace hf := ab_in c13 hf
    refine xr_iload_n A dX15_way_16 3 rfl rfl ?_
    refine xr_goto A (tgt := 21) dX15_way_17 (by decide) ?_
    refine xr_istore A dX15_way_21 (Nat.le_of_ble_eq_true rfl) (L' := [(4, vI l2), (3, vI s0), (0, vR (some x)), (1, vI l1), (2, vI l2)]) rfl ?_
    refine xr_iload A dX15_way_23 0 rfl ?_
    refine xr_iload_n A dX15_way_25 1 rfl rfl ?_
    refine xr_isub A dX15_way_26 ?_
    refine xr_istore A dX15_way_27 (Nat.le_of_ble_eq_true rfl) (L' := [(5, vI (l2 - s0)), (4, vI l2), (3, vI s0), (0, vR (some x)), (1, vI l1), (2, vI l2)]) rfl ?_
    refine xr_iconst A (v := 0) dX15_way_29 (by decide) ?_
    refine xr_istore A dX15_way_30 (Nat.le_of_ble_eq_true rfl) (L' := [(6, vI (0 : Int32)), (5, vI (l2 - s0)), (4, vI l2), (3, vI s0), (0, vR (some x)), (1, vI l1), (2, vI l2)]) rfl ?_
    refine X.sub [4, 3, 2, 1, 0] rfl ?_
    exact wX15_way_l32 A _ hf
noncomputable def fX15_way (x : Nat) (p1 : Int32) (p2 : Int32) (h : Hp) : Option (Int32 × Hp) :=
  ab_ck h x 13 <|
  if p2 ≤ p1 then (
    fX15_way_b10 x p1 p2 p2 h)
  else (
    fX15_way_b10 x p1 p2 p1 h)
theorem wX15_way (D : Dd) {x : Nat} {p1 : Int32} {p2 : Int32} {h : Hp} {r : Int32} {h' : Hp} (hf : fX15_way x p1 p2 h = some (r, h')) : ab_is h x 13 ∧ Ct D 1 20 yX15_way cX15_way 7 (some FieldType.int) [vR (some x), vI p1, vI p2] h (.inl (some (vI r))) h' := by
    unfold fX15_way at hf
    replace hf := ab_ckE hf; obtain ⟨i0, hf⟩ := hf
    refine ⟨i0, ?_⟩
    refine Ct.of (by decide) (L := [(0, vR (some x)), (1, vI p1), (2, vI p2)]) rfl (Nat.le_of_ble_eq_true rfl) (fun C A => ?_)
    refine xr_iload_n A dX15_way_0 1 rfl rfl ?_
    refine xr_iload_n A dX15_way_1 2 rfl rfl ?_
    refine xr_icmp_ge A (tgt := 9) dX15_way_2 (by decide) (fun c2 => ?_) (fun c2 => ?_)
    · replace hf := ab_ip c2 hf
      refine xr_iload_n A dX15_way_9 2 rfl rfl ?_
      exact wX15_way_b10 A hf
    · replace hf := ab_in c2 hf
      refine xr_iload_n A dX15_way_5 1 rfl rfl ?_
      refine xr_goto A (tgt := 10) dX15_way_6 (by decide) ?_
      exact wX15_way_b10 A hf
/-! X5_heatBy -/
theorem bX5_heatBy : MB yX5_heatBy cX5_heatBy 3 (some FieldType.int) 2 := ⟨q1802, q99, by decide, by decide +kernel⟩
noncomputable def fX5_heatBy (x : Nat) (p1 : Int32) (p2 : Int32) (h : Hp) : Option (Int32 × Hp) :=
  ab_ck h x 4 <|
  ab_bd (ab_gR h x 4 3) fun v1 =>
  ab_bd v1 fun a2 =>
  ab_bd (ab_gR h a2 13 12) fun v3 =>
  ab_bd (ab_gR h x 4 3) fun v4 =>
  ab_bd v4 fun a5 =>
  ab_bd (ab_gR h a5 13 26) fun v6 =>
  ab_bd v6 fun a7 =>
  ab_bd (ab_aI h a7 0 p1) fun v8 =>
  ab_bd v3 fun a9 =>
  ab_bd (ab_aI h a9 0 v8) fun v10 =>
  ab_bd (ab_gR h x 4 3) fun v11 =>
  ab_bd v11 fun a12 =>
  ab_bd (ab_gR h a12 13 29) fun v13 =>
  ab_bd v13 fun a14 =>
  ab_bd (ab_aI h a14 0 p1) fun v15 =>
  ab_bd (ab_gR h x 4 3) fun v16 =>
  ab_bd v16 fun a17 =>
  ab_bd (ab_gR h a17 13 27) fun v18 =>
  ab_bd v18 fun a19 =>
  ab_bd (ab_aI h a19 0 p1) fun v20 =>
  some ((v10 - ((v15 * (p2 - v20)) / (10 : Int32))), h)
theorem wX5_heatBy (D : Dd) {x : Nat} {p1 : Int32} {p2 : Int32} {h : Hp} {r : Int32} {h' : Hp} (hf : fX5_heatBy x p1 p2 h = some (r, h')) : ab_is h x 4 ∧ Ct D 1 20 yX5_heatBy cX5_heatBy 3 (some FieldType.int) [vR (some x), vI p1, vI p2] h (.inl (some (vI r))) h' := by
    unfold fX5_heatBy at hf
    replace hf := ab_ckE hf; obtain ⟨i0, hf⟩ := hf
    refine ⟨i0, ?_⟩
    refine Ct.of (by decide) (L := [(0, vR (some x)), (1, vI p1), (2, vI p2)]) rfl (Nat.le_of_ble_eq_true rfl) (fun C A => ?_)
    refine xr_aload_n A dX5_heatBy_0 0 rfl rfl ?_
    revert hf; refine ab_bdI (fun v1 mv1 hf => ?_)
    refine xr_get A xc_X5 in_X5 3 (Nat.le_of_ble_eq_true rfl) q1301 rfl (ab_gRE mv1) dX5_heatBy_1 ?_
    revert hf; refine ab_bdI (fun a2 e hf => ?_); subst e
    revert hf; refine ab_bdI (fun v3 mv3 hf => ?_)
    refine xr_getN A xc_X15 in_X15 12 (Nat.le_of_ble_eq_true rfl) n1476 rfl (ab_gRE mv3) dX5_heatBy_4 ?_
    refine xr_aload_n A dX5_heatBy_7 0 rfl rfl ?_
    revert hf; refine ab_bdI (fun v4 mv4 hf => ?_)
    refine xr_get A xc_X5 in_X5 3 (Nat.le_of_ble_eq_true rfl) q1301 rfl (ab_gRE mv4) dX5_heatBy_8 ?_
    revert hf; refine ab_bdI (fun a5 e hf => ?_); subst e
    revert hf; refine ab_bdI (fun v6 mv6 hf => ?_)
    refine xr_getN A xc_X15 in_X15 26 (Nat.le_of_ble_eq_true rfl) n1504 rfl (ab_gRE mv6) dX5_heatBy_11 ?_
    refine xr_iload_n A dX5_heatBy_14 1 rfl rfl ?_
    revert hf; refine ab_bdI (fun a7 e hf => ?_); subst e
    revert hf; refine ab_bdI (fun v8 mv8 hf => ?_)
    refine xr_iaload A mv8 dX5_heatBy_15 ?_
    revert hf; refine ab_bdI (fun a9 e hf => ?_); subst e
    revert hf; refine ab_bdI (fun v10 mv10 hf => ?_)
    refine xr_iaload A mv10 dX5_heatBy_16 ?_
    refine xr_aload_n A dX5_heatBy_17 0 rfl rfl ?_
    revert hf; refine ab_bdI (fun v11 mv11 hf => ?_)
    refine xr_get A xc_X5 in_X5 3 (Nat.le_of_ble_eq_true rfl) q1301 rfl (ab_gRE mv11) dX5_heatBy_18 ?_
    revert hf; refine ab_bdI (fun a12 e hf => ?_); subst e
    revert hf; refine ab_bdI (fun v13 mv13 hf => ?_)
    refine xr_getN A xc_X15 in_X15 29 (Nat.le_of_ble_eq_true rfl) n1510 rfl (ab_gRE mv13) dX5_heatBy_21 ?_
    refine xr_iload_n A dX5_heatBy_24 1 rfl rfl ?_
    revert hf; refine ab_bdI (fun a14 e hf => ?_); subst e
    revert hf; refine ab_bdI (fun v15 mv15 hf => ?_)
    refine xr_iaload A mv15 dX5_heatBy_25 ?_
    refine xr_iload_n A dX5_heatBy_26 2 rfl rfl ?_
    refine xr_aload_n A dX5_heatBy_27 0 rfl rfl ?_
    revert hf; refine ab_bdI (fun v16 mv16 hf => ?_)
    refine xr_get A xc_X5 in_X5 3 (Nat.le_of_ble_eq_true rfl) q1301 rfl (ab_gRE mv16) dX5_heatBy_28 ?_
    revert hf; refine ab_bdI (fun a17 e hf => ?_); subst e
    revert hf; refine ab_bdI (fun v18 mv18 hf => ?_)
    refine xr_getN A xc_X15 in_X15 27 (Nat.le_of_ble_eq_true rfl) n1506 rfl (ab_gRE mv18) dX5_heatBy_31 ?_
    refine xr_iload_n A dX5_heatBy_34 1 rfl rfl ?_
    revert hf; refine ab_bdI (fun a19 e hf => ?_); subst e
    revert hf; refine ab_bdI (fun v20 mv20 hf => ?_)
    refine xr_iaload A mv20 dX5_heatBy_35 ?_
    refine xr_isub A dX5_heatBy_36 ?_
    refine xr_imul A dX5_heatBy_37 ?_
    refine xr_bipush A (v := 10) dX5_heatBy_38 (by decide) ?_
    refine xr_idiv A dX5_heatBy_40 (by decide) ?_
    refine xr_isub A dX5_heatBy_41 ?_
    exact xr_ireturn A rfl hf dX5_heatBy_42
/-! X5_has -/
theorem bX5_has : MB yX5_has cX5_has 2 (some FieldType.boolean) 2 := ⟨q1805, q99, by decide, by decide +kernel⟩
noncomputable def fX5_has (p0 : Int32) (p1 : Int32) (h : Hp) : Option (Int32 × Hp) :=
  if ((p0 >>> (p1 &&& 31)) &&& (1 : Int32)) = (1 : Int32) then (
    some ((1 : Int32), h))
  else (
    some ((0 : Int32), h))
theorem wX5_has (D : Dd) {p0 : Int32} {p1 : Int32} {h : Hp} {r : Int32} {h' : Hp} (hf : fX5_has p0 p1 h = some (r, h')) : Ct D 1 20 yX5_has cX5_has 2 (some FieldType.boolean) [vI p0, vI p1] h (.inl (some (vI r))) h' := by
    unfold fX5_has at hf
    refine Ct.of (by decide) (L := [(0, vI p0), (1, vI p1)]) rfl (Nat.le_of_ble_eq_true rfl) (fun C A => ?_)
    refine xr_iload_n A dX5_has_0 0 rfl rfl ?_
    refine xr_iload_n A dX5_has_1 1 rfl rfl ?_
    refine xr_ishr A dX5_has_2 ?_
    refine xr_iconst A (v := 1) dX5_has_3 (by decide) ?_
    refine xr_iand A dX5_has_4 ?_
    refine xr_iconst A (v := 1) dX5_has_5 (by decide) ?_
    refine xr_icmp_ne A (tgt := 13) dX5_has_6 (by decide) (fun c6 => ?_) (fun c6 => ?_)
    · replace hf := ab_in c6 hf
      refine xr_iconst A (v := 0) dX5_has_13 (by decide) ?_
      exact xr_ireturn A rfl hf dX5_has_14
    · replace hf := ab_ip c6 hf
      refine xr_iconst A (v := 1) dX5_has_9 (by decide) ?_
      refine xr_goto A (tgt := 14) dX5_has_10 (by decide) ?_
      exact xr_ireturn A rfl hf dX5_has_14
/-! X5_goes -/
theorem bX5_goes : MB yX5_goes cX5_goes 7 (none : Option FieldType) 2 := ⟨q1794, q99, by decide, by decide +kernel⟩
noncomputable def fX5_goes_b190 (x : Nat) (K37 : Int32 → Int32 → Int32 → Int32 → Int32 → Hp → Option Hp) (l1 : Int32) (l2 : Int32) (l5 : Int32) (l6 : Int32) (s0 : Int32) (s1 : Int32) (s2 : Int32) (h : Hp) : Option Hp :=
  ab_bd (ab_gR h x 4 3) fun v1 =>
  ab_bd v1 fun a2 =>
  ab_bd (ab_gR h a2 13 18) fun v3 =>
  ab_bd v3 fun a4 =>
  ab_bd (ab_aI h a4 0 l6) fun v5 =>
  K37 l1 l2 (s2 + (s1 + s0)) v5 (l5 + (1 : Int32)) h
theorem wX5_goes_b190 {D : Dd} {C : Cx} {h0 h' : Hp} (A : Act C D (h0, (.inl none), h') yX5_goes cX5_goes 7 (none : Option FieldType) 2 46 []) {x : Nat} {K37 : Int32 → Int32 → Int32 → Int32 → Int32 → Hp → Option Hp} (hK37 : ∀ {l1 : Int32} {l2 : Int32} {l3 : Int32} {l4 : Int32} {l5 : Int32} {h : Hp}, K37 l1 l2 l3 l4 l5 h = some h' → X C D (h0, (.inl none), h') 7 37 [(0, vR (some x)), (1, vI l1), (2, vI l2), (3, vI l3), (4, vI l4), (5, vI l5)] [] h) {l1 : Int32} {l2 : Int32} {l5 : Int32} {l6 : Int32} {s0 : Int32} {s1 : Int32} {s2 : Int32} {h : Hp} (hf : fX5_goes_b190 x K37 l1 l2 l5 l6 s0 s1 s2 h = some h') : X C D (h0, (.inl none), h') 7 190 [(0, vR (some x)), (1, vI l1), (2, vI l2), (5, vI l5), (6, vI l6)] [vI s0, vI s1, vI s2] h := by
  unfold fX5_goes_b190 at hf
  refine xr_iadd A dX5_goes_190 ?_
  refine xr_iadd A dX5_goes_191 ?_
  refine xr_istore_n A dX5_goes_192 rfl (Nat.le_of_ble_eq_true rfl) (L' := [(3, vI (s2 + (s1 + s0))), (0, vR (some x)), (1, vI l1), (2, vI l2), (5, vI l5), (6, vI l6)]) rfl ?_
  refine xr_aload_n A dX5_goes_193 1 rfl rfl ?_
  revert hf; refine ab_bdI (fun v1 mv1 hf => ?_)
  refine xr_get A xc_X5 in_X5 3 (Nat.le_of_ble_eq_true rfl) q1301 rfl (ab_gRE mv1) dX5_goes_194 ?_
  revert hf; refine ab_bdI (fun a2 e hf => ?_); subst e
  revert hf; refine ab_bdI (fun v3 mv3 hf => ?_)
  refine xr_getN A xc_X15 in_X15 18 (Nat.le_of_ble_eq_true rfl) n1488 rfl (ab_gRE mv3) dX5_goes_197 ?_
  refine xr_iload A dX5_goes_200 5 rfl ?_
  revert hf; refine ab_bdI (fun a4 e hf => ?_); subst e
  revert hf; refine ab_bdI (fun v5 mv5 hf => ?_)
  refine xr_iaload A mv5 dX5_goes_202 ?_
  refine xr_istore A dX5_goes_203 (Nat.le_of_ble_eq_true rfl) (L' := [(4, vI v5), (3, vI (s2 + (s1 + s0))), (0, vR (some x)), (1, vI l1), (2, vI l2), (5, vI l5), (6, vI l6)]) rfl ?_
  refine xr_iinc A dX5_goes_205 5 rfl (v := (l5 + (1 : Int32))) rfl (Nat.le_of_ble_eq_true rfl) (L' := [(5, vI (l5 + (1 : Int32))), (4, vI v5), (3, vI (s2 + (s1 + s0))), (0, vR (some x)), (1, vI l1), (2, vI l2), (6, vI l6)]) rfl ?_
  refine xr_goto A (tgt := 37) dX5_goes_208 (by decide) ?_
  refine X.sub [3, 4, 5, 2, 1, 0] rfl ?_
  exact hK37 hf
noncomputable def fX5_goes_b166 (x : Nat) (K37 : Int32 → Int32 → Int32 → Int32 → Int32 → Hp → Option Hp) (l1 : Int32) (l2 : Int32) (l5 : Int32) (l6 : Int32) (s0 : Int32) (s1 : Int32) (s2 : Int32) (h : Hp) : Option Hp :=
  ab_b2 (fX5_has l2 l6 h) fun v3 h2 =>
  if v3 = 0 then (
    fX5_goes_b190 x K37 l1 l2 l5 l6 (0 : Int32) (s1 + s0) s2 h2)
  else (
    ab_bd (ab_gR h2 x 4 3) fun v4 =>
    ab_bd v4 fun a5 =>
    ab_bd (ab_gR h2 a5 13 21) fun v6 =>
    ab_bd v6 fun a7 =>
    ab_bd (ab_aI h2 a7 0 l6) fun v8 =>
    fX5_goes_b190 x K37 l1 l2 l5 l6 v8 (s1 + s0) s2 h2)
theorem wX5_goes_b166 {D : Dd} {C : Cx} {h0 h' : Hp} (A : Act C D (h0, (.inl none), h') yX5_goes cX5_goes 7 (none : Option FieldType) 2 46 []) {x : Nat} {K37 : Int32 → Int32 → Int32 → Int32 → Int32 → Hp → Option Hp} (hK37 : ∀ {l1 : Int32} {l2 : Int32} {l3 : Int32} {l4 : Int32} {l5 : Int32} {h : Hp}, K37 l1 l2 l3 l4 l5 h = some h' → X C D (h0, (.inl none), h') 7 37 [(0, vR (some x)), (1, vI l1), (2, vI l2), (3, vI l3), (4, vI l4), (5, vI l5)] [] h) {l1 : Int32} {l2 : Int32} {l5 : Int32} {l6 : Int32} {s0 : Int32} {s1 : Int32} {s2 : Int32} {h : Hp} (hf : fX5_goes_b166 x K37 l1 l2 l5 l6 s0 s1 s2 h = some h') : X C D (h0, (.inl none), h') 7 166 [(0, vR (some x)), (1, vI l1), (2, vI l2), (5, vI l5), (6, vI l6)] [vI s0, vI s1, vI s2] h := by
  unfold fX5_goes_b166 at hf
  refine xr_iadd A dX5_goes_166 ?_
  refine xr_iload_n A dX5_goes_167 2 rfl rfl ?_
  refine xr_iload A dX5_goes_168 4 rfl ?_
  revert hf; refine ab_b2I (fun v3 h2 m1 hf => ?_)
  refine xr_S A bX5_has (wX5_has D m1) q1804 q1803 (av := [vI l2, vI l6]) (rest := [vI (s1 + s0), vI s2]) rfl dX5_goes_170 (Nat.le_of_ble_eq_true rfl) (Nat.le_of_ble_eq_true rfl) rfl (Nat.le_of_ble_eq_true rfl) ?_
  refine xr_if_eq A (tgt := 189) dX5_goes_173 (by decide) (fun c173 => ?_) (fun c173 => ?_)
  · replace hf := ab_ip c173 hf
    refine xr_iconst A (v := 0) dX5_goes_189 (by decide) ?_
    exact wX5_goes_b190 A @hK37 hf
  · replace hf := ab_in c173 hf
    refine xr_aload_n A dX5_goes_176 0 rfl rfl ?_
    revert hf; refine ab_bdI (fun v4 mv4 hf => ?_)
    refine xr_get A xc_X5 in_X5 3 (Nat.le_of_ble_eq_true rfl) q1301 rfl (ab_gRE mv4) dX5_goes_177 ?_
    revert hf; refine ab_bdI (fun a5 e hf => ?_); subst e
    revert hf; refine ab_bdI (fun v6 mv6 hf => ?_)
    refine xr_getN A xc_X15 in_X15 21 (Nat.le_of_ble_eq_true rfl) n1494 rfl (ab_gRE mv6) dX5_goes_180 ?_
    refine xr_iload A dX5_goes_183 4 rfl ?_
    revert hf; refine ab_bdI (fun a7 e hf => ?_); subst e
    revert hf; refine ab_bdI (fun v8 mv8 hf => ?_)
    refine xr_iaload A mv8 dX5_goes_185 ?_
    refine xr_goto A (tgt := 190) dX5_goes_186 (by decide) ?_
    exact wX5_goes_b190 A @hK37 hf
noncomputable def fX5_goes_b125 (x : Nat) (K37 : Int32 → Int32 → Int32 → Int32 → Int32 → Hp → Option Hp) (l1 : Int32) (l2 : Int32) (l3 : Int32) (l5 : Int32) (l6 : Int32) (h : Hp) : Option Hp :=
  ab_bd (ab_gR h x 4 3) fun v1 =>
  ab_bd v1 fun a2 =>
  ab_bd (ab_gR h a2 13 20) fun v3 =>
  ab_bd v3 fun a4 =>
  ab_bd (ab_aI h a4 0 l6) fun v5 =>
  ab_bd (ab_gR h x 4 3) fun v6 =>
  ab_bd v6 fun a7 =>
  ab_bd (ab_gR h a7 13 24) fun v8 =>
  ab_bd v8 fun a9 =>
  ab_bd (ab_aI h a9 4 l6) fun v10 =>
  if v10 = 0 then (
    fX5_goes_b166 x K37 l1 l2 l5 l6 (0 : Int32) v5 l3 h)
  else (
    ab_bd (ab_gR h x 4 3) fun v11 =>
    ab_bd v11 fun a12 =>
    ab_bd (ab_gR h a12 13 25) fun v13 =>
    ab_bd v13 fun a14 =>
    ab_bd (ab_aI h a14 4 l1) fun v15 =>
    if v15 = 0 then (
      fX5_goes_b166 x K37 l1 l2 l5 l6 (0 : Int32) v5 l3 h)
    else (
      fX5_goes_b166 x K37 l1 l2 l5 l6 (5 : Int32) v5 l3 h))
theorem wX5_goes_b125 {D : Dd} {C : Cx} {h0 h' : Hp} (A : Act C D (h0, (.inl none), h') yX5_goes cX5_goes 7 (none : Option FieldType) 2 46 []) {x : Nat} {K37 : Int32 → Int32 → Int32 → Int32 → Int32 → Hp → Option Hp} (hK37 : ∀ {l1 : Int32} {l2 : Int32} {l3 : Int32} {l4 : Int32} {l5 : Int32} {h : Hp}, K37 l1 l2 l3 l4 l5 h = some h' → X C D (h0, (.inl none), h') 7 37 [(0, vR (some x)), (1, vI l1), (2, vI l2), (3, vI l3), (4, vI l4), (5, vI l5)] [] h) {l1 : Int32} {l2 : Int32} {l3 : Int32} {l5 : Int32} {l6 : Int32} {h : Hp} (hf : fX5_goes_b125 x K37 l1 l2 l3 l5 l6 h = some h') : X C D (h0, (.inl none), h') 7 125 [(0, vR (some x)), (1, vI l1), (2, vI l2), (3, vI l3), (5, vI l5), (6, vI l6)] [] h := by
  unfold fX5_goes_b125 at hf
  refine xr_iload_n A dX5_goes_125 3 rfl rfl ?_
  refine xr_aload_n A dX5_goes_126 0 rfl rfl ?_
  revert hf; refine ab_bdI (fun v1 mv1 hf => ?_)
  refine xr_get A xc_X5 in_X5 3 (Nat.le_of_ble_eq_true rfl) q1301 rfl (ab_gRE mv1) dX5_goes_127 ?_
  revert hf; refine ab_bdI (fun a2 e hf => ?_); subst e
  revert hf; refine ab_bdI (fun v3 mv3 hf => ?_)
  refine xr_getN A xc_X15 in_X15 20 (Nat.le_of_ble_eq_true rfl) n1492 rfl (ab_gRE mv3) dX5_goes_130 ?_
  refine xr_iload A dX5_goes_133 5 rfl ?_
  revert hf; refine ab_bdI (fun a4 e hf => ?_); subst e
  revert hf; refine ab_bdI (fun v5 mv5 hf => ?_)
  refine xr_iaload A mv5 dX5_goes_135 ?_
  refine xr_aload_n A dX5_goes_136 0 rfl rfl ?_
  revert hf; refine ab_bdI (fun v6 mv6 hf => ?_)
  refine xr_get A xc_X5 in_X5 3 (Nat.le_of_ble_eq_true rfl) q1301 rfl (ab_gRE mv6) dX5_goes_137 ?_
  revert hf; refine ab_bdI (fun a7 e hf => ?_); subst e
  revert hf; refine ab_bdI (fun v8 mv8 hf => ?_)
  refine xr_getN A xc_X15 in_X15 24 (Nat.le_of_ble_eq_true rfl) n1500 rfl (ab_gRE mv8) dX5_goes_140 ?_
  refine xr_iload A dX5_goes_143 5 rfl ?_
  revert hf; refine ab_bdI (fun a9 e hf => ?_); subst e
  revert hf; refine ab_bdI (fun v10 mv10 hf => ?_)
  refine xr_zaload A mv10 dX5_goes_145 ?_
  refine xr_if_eq A (tgt := 165) dX5_goes_146 (by decide) (fun c146 => ?_) (fun c146 => ?_)
  · replace hf := ab_ip c146 hf
    refine xr_iconst A (v := 0) dX5_goes_165 (by decide) ?_
    refine X.sub [0, 1, 2, 4, 5] rfl ?_
    exact wX5_goes_b166 A @hK37 hf
  · replace hf := ab_in c146 hf
    refine xr_aload_n A dX5_goes_149 0 rfl rfl ?_
    revert hf; refine ab_bdI (fun v11 mv11 hf => ?_)
    refine xr_get A xc_X5 in_X5 3 (Nat.le_of_ble_eq_true rfl) q1301 rfl (ab_gRE mv11) dX5_goes_150 ?_
    revert hf; refine ab_bdI (fun a12 e hf => ?_); subst e
    revert hf; refine ab_bdI (fun v13 mv13 hf => ?_)
    refine xr_getN A xc_X15 in_X15 25 (Nat.le_of_ble_eq_true rfl) n1502 rfl (ab_gRE mv13) dX5_goes_153 ?_
    refine xr_iload_n A dX5_goes_156 1 rfl rfl ?_
    revert hf; refine ab_bdI (fun a14 e hf => ?_); subst e
    revert hf; refine ab_bdI (fun v15 mv15 hf => ?_)
    refine xr_zaload A mv15 dX5_goes_157 ?_
    refine xr_if_eq A (tgt := 165) dX5_goes_158 (by decide) (fun c158 => ?_) (fun c158 => ?_)
    · replace hf := ab_ip c158 hf
      refine xr_iconst A (v := 0) dX5_goes_165 (by decide) ?_
      refine X.sub [0, 1, 2, 4, 5] rfl ?_
      exact wX5_goes_b166 A @hK37 hf
    · replace hf := ab_in c158 hf
      refine xr_iconst A (v := 5) dX5_goes_161 (by decide) ?_
      refine xr_goto A (tgt := 166) dX5_goes_162 (by decide) ?_
      refine X.sub [0, 1, 2, 4, 5] rfl ?_
      exact wX5_goes_b166 A @hK37 hf
noncomputable def fX5_goes_l37 (x : Nat) : Nat → Int32 → Int32 → Int32 → Int32 → Int32 → Hp → Option Hp
  | 0, _, _, _, _, _, _ => none
  | n + 1, l1, l2, l3, l4, l5, h =>
  ab_bd (ab_gI h x 4 20) fun v1 =>
  if v1 ≤ l5 then (
    some h)
  else (
    ab_bd (ab_gR h x 4 22) fun v2 =>
    ab_bd v2 fun a3 =>
    ab_bd (ab_aI h a3 0 l5) fun v4 =>
    ab_bd (ab_gR h x 4 3) fun v5 =>
    ab_bd (ab_gR h x 4 3) fun v6 =>
    ab_bd v6 fun a7 =>
    ab_bd (ab_gR h a7 13 18) fun v8 =>
    ab_bd v8 fun a9 =>
    ab_bd (ab_aI h a9 0 v4) fun v10 =>
    ab_bd v5 fun a11 =>
    ab_b2 (fX15_way a11 l4 v10 h) fun v14 h13 =>
    ab_bd (ab_gR h13 x 4 23) fun v15 =>
    ab_bd v15 fun a16 =>
    ab_bd (ab_sI h13 a16 l5 (l3 + v14)) fun h17 =>
    ab_bd (ab_gR h17 x 4 3) fun v18 =>
    ab_bd v18 fun a19 =>
    ab_bd (ab_gI h17 a19 13 1) fun v20 =>
    if v20 < (l3 + v14) then (
      ab_bd (ab_gI h17 x 4 21) fun v21 =>
      ab_bd (ab_pI h17 x 4 21 (v21 ||| ((1 : Int32) <<< (v4 &&& 31)))) fun h22 =>
      fX5_goes_b125 x (fX5_goes_l37 x n) l1 l2 (l3 + v14) l5 v4 h22)
    else (
      ab_b2 (fX5_heatBy x l1 (l3 + v14) h17) fun v25 h24 =>
      ab_bd (ab_gR h24 x 4 3) fun v26 =>
      ab_bd v26 fun a27 =>
      ab_bd (ab_gI h24 a27 13 0) fun v28 =>
      if v28 ≤ v25 then (
        fX5_goes_b125 x (fX5_goes_l37 x n) l1 l2 (l3 + v14) l5 v4 h24)
      else (
        ab_bd (ab_gI h24 x 4 21) fun v29 =>
        ab_bd (ab_pI h24 x 4 21 (v29 ||| ((1 : Int32) <<< (v4 &&& 31)))) fun h30 =>
        fX5_goes_b125 x (fX5_goes_l37 x n) l1 l2 (l3 + v14) l5 v4 h30)))
theorem wX5_goes_l37 {D : Dd} {C : Cx} {h0 h' : Hp} (A : Act C D (h0, (.inl none), h') yX5_goes cX5_goes 7 (none : Option FieldType) 2 46 []) {x : Nat} : ∀ (n : Nat) {l1 : Int32} {l2 : Int32} {l3 : Int32} {l4 : Int32} {l5 : Int32} {h : Hp}, fX5_goes_l37 x n l1 l2 l3 l4 l5 h = some h' → X C D (h0, (.inl none), h') 7 37 [(0, vR (some x)), (1, vI l1), (2, vI l2), (3, vI l3), (4, vI l4), (5, vI l5)] [] h := by
  intro n
  induction n with
  | zero => intro l1 l2 l3 l4 l5 h hf; exact ab_no hf
  | succ n ih =>
    intro l1 l2 l3 l4 l5 h hf
    unfold fX5_goes_l37 at hf
    refine xr_iload A dX5_goes_37 5 rfl ?_
    refine xr_aload_n A dX5_goes_39 0 rfl rfl ?_
    revert hf; refine ab_bdI (fun v1 mv1 hf => ?_)
    refine xr_get A xc_X5 in_X5 20 (Nat.le_of_ble_eq_true rfl) q1318 rfl (ab_gIE mv1) dX5_goes_40 ?_
    refine xr_icmp_ge A (tgt := 211) dX5_goes_43 (by decide) (fun c43 => ?_) (fun c43 => ?_)
    · replace hf := ab_ip c43 hf
      exact xr_return A hf dX5_goes_211
    · replace hf := ab_in c43 hf
      refine xr_aload_n A dX5_goes_46 0 rfl rfl ?_
      revert hf; refine ab_bdI (fun v2 mv2 hf => ?_)
      refine xr_get A xc_X5 in_X5 22 (Nat.le_of_ble_eq_true rfl) q1320 rfl (ab_gRE mv2) dX5_goes_47 ?_
      refine xr_iload A dX5_goes_50 5 rfl ?_
      revert hf; refine ab_bdI (fun a3 e hf => ?_); subst e
      revert hf; refine ab_bdI (fun v4 mv4 hf => ?_)
      refine xr_iaload A mv4 dX5_goes_52 ?_
      refine xr_istore A dX5_goes_53 (Nat.le_of_ble_eq_true rfl) (L' := [(6, vI v4), (0, vR (some x)), (1, vI l1), (2, vI l2), (3, vI l3), (4, vI l4), (5, vI l5)]) rfl ?_
      refine xr_iload_n A dX5_goes_55 4 rfl rfl ?_
      refine xr_aload_n A dX5_goes_56 1 rfl rfl ?_
      revert hf; refine ab_bdI (fun v5 mv5 hf => ?_)
      refine xr_get A xc_X5 in_X5 3 (Nat.le_of_ble_eq_true rfl) q1301 rfl (ab_gRE mv5) dX5_goes_57 ?_
      refine xr_iload A dX5_goes_60 5 rfl ?_
      refine xr_aload_n A dX5_goes_62 1 rfl rfl ?_
      revert hf; refine ab_bdI (fun v6 mv6 hf => ?_)
      refine xr_get A xc_X5 in_X5 3 (Nat.le_of_ble_eq_true rfl) q1301 rfl (ab_gRE mv6) dX5_goes_63 ?_
      revert hf; refine ab_bdI (fun a7 e hf => ?_); subst e
      revert hf; refine ab_bdI (fun v8 mv8 hf => ?_)
      refine xr_getN A xc_X15 in_X15 18 (Nat.le_of_ble_eq_true rfl) n1488 rfl (ab_gRE mv8) dX5_goes_66 ?_
      refine xr_iload A dX5_goes_69 0 rfl ?_
      revert hf; refine ab_bdI (fun a9 e hf => ?_); subst e
      revert hf; refine ab_bdI (fun v10 mv10 hf => ?_)
      refine xr_iaload A mv10 dX5_goes_71 ?_
      revert hf; refine ab_bdI (fun a11 e hf => ?_); subst e
      revert hf; refine ab_b2I (fun v14 h13 m12 hf => ?_)
      refine xr_V A bX15_way (wX15_way D m12).2 xc_X15 (wX15_way D m12).1 q1796 q1797 q1795 (av := [vI l4, vI v10]) (rest := [vI l3]) rfl dX5_goes_72 (Nat.le_of_ble_eq_true rfl) (Nat.le_of_ble_eq_true rfl) rfl (Nat.le_of_ble_eq_true rfl) ?_
      refine xr_iadd A dX5_goes_75 ?_
      refine xr_istore_n A dX5_goes_76 rfl (Nat.le_of_ble_eq_true rfl) (L' := [(3, vI (l3 + v14)), (6, vI v4), (0, vR (some x)), (1, vI l1), (2, vI l2), (4, vI l4), (5, vI l5)]) rfl ?_
      refine xr_aload_n A dX5_goes_77 2 rfl rfl ?_
      revert hf; refine ab_bdI (fun v15 mv15 hf => ?_)
      refine xr_get A xc_X5 in_X5 23 (Nat.le_of_ble_eq_true rfl) q1321 rfl (ab_gRE mv15) dX5_goes_78 ?_
      refine xr_iload A dX5_goes_81 6 rfl ?_
      refine xr_iload_n A dX5_goes_83 0 rfl rfl ?_
      revert hf; refine ab_bdI (fun a16 e hf => ?_); subst e
      revert hf; refine ab_bdI (fun h17 mh17 hf => ?_)
      refine xr_iastore A mh17 dX5_goes_84 ?_
      refine xr_iload_n A dX5_goes_85 0 rfl rfl ?_
      refine xr_aload_n A dX5_goes_86 2 rfl rfl ?_
      revert hf; refine ab_bdI (fun v18 mv18 hf => ?_)
      refine xr_get A xc_X5 in_X5 3 (Nat.le_of_ble_eq_true rfl) q1301 rfl (ab_gRE mv18) dX5_goes_87 ?_
      revert hf; refine ab_bdI (fun a19 e hf => ?_); subst e
      revert hf; refine ab_bdI (fun v20 mv20 hf => ?_)
      refine xr_getN A xc_X15 in_X15 1 (Nat.le_of_ble_eq_true rfl) n1461 rfl (ab_gIE mv20) dX5_goes_90 ?_
      refine xr_icmp_gt A (tgt := 112) dX5_goes_93 (by decide) (fun c93 => ?_) (fun c93 => ?_)
      · replace hf := ab_ip c93 hf
        refine xr_aload_n A dX5_goes_112 2 rfl rfl ?_
        refine xr_dup A dX5_goes_113 rfl ?_
        revert hf; refine ab_bdI (fun v21 mv21 hf => ?_)
        refine xr_get A xc_X5 in_X5 21 (Nat.le_of_ble_eq_true rfl) q1319 rfl (ab_gIE mv21) dX5_goes_114 ?_
        refine xr_iconst A (v := 1) dX5_goes_117 (by decide) ?_
        refine xr_iload A dX5_goes_118 1 rfl ?_
        refine xr_ishl A dX5_goes_120 ?_
        refine xr_ior A dX5_goes_121 ?_
        revert hf; refine ab_bdI (fun h22 mh22 hf => ?_)
        refine xr_put A xc_X5 in_X5 tyX5_ok nmX5 21 (Nat.le_of_ble_eq_true rfl) q1319 rfl rfl (v := vI (v21 ||| ((1 : Int32) <<< (v4 &&& 31)))) rfl rfl mh22 dX5_goes_122 ?_
        refine X.sub [2, 3, 4, 0, 6, 1] rfl ?_
        exact wX5_goes_b125 A (fun hf => ih hf) hf
      · replace hf := ab_in c93 hf
        refine xr_aload_n A dX5_goes_96 2 rfl rfl ?_
        refine xr_iload_n A dX5_goes_97 3 rfl rfl ?_
        refine xr_iload_n A dX5_goes_98 0 rfl rfl ?_
        revert hf; refine ab_b2I (fun v25 h24 m23 hf => ?_)
        refine xr_V A bX5_heatBy (wX5_heatBy D m23).2 xc_X5 (wX5_heatBy D m23).1 q1801 qs75 q1799 (av := [vI l1, vI (l3 + v14)]) (rest := []) rfl dX5_goes_99 (Nat.le_of_ble_eq_true rfl) (Nat.le_of_ble_eq_true rfl) rfl (Nat.le_of_ble_eq_true rfl) ?_
        refine xr_aload_n A dX5_goes_102 2 rfl rfl ?_
        revert hf; refine ab_bdI (fun v26 mv26 hf => ?_)
        refine xr_get A xc_X5 in_X5 3 (Nat.le_of_ble_eq_true rfl) q1301 rfl (ab_gRE mv26) dX5_goes_103 ?_
        revert hf; refine ab_bdI (fun a27 e hf => ?_); subst e
        revert hf; refine ab_bdI (fun v28 mv28 hf => ?_)
        refine xr_getN A xc_X15 in_X15 0 (Nat.le_of_ble_eq_true rfl) n1460 rfl (ab_gIE mv28) dX5_goes_106 ?_
        refine xr_icmp_ge A (tgt := 125) dX5_goes_109 (by decide) (fun c109 => ?_) (fun c109 => ?_)
        · replace hf := ab_ip c109 hf
          refine X.sub [2, 3, 4, 0, 6, 1] rfl ?_
          exact wX5_goes_b125 A (fun hf => ih hf) hf
        · replace hf := ab_in c109 hf
          refine xr_aload_n A dX5_goes_112 2 rfl rfl ?_
          refine xr_dup A dX5_goes_113 rfl ?_
          revert hf; refine ab_bdI (fun v29 mv29 hf => ?_)
          refine xr_get A xc_X5 in_X5 21 (Nat.le_of_ble_eq_true rfl) q1319 rfl (ab_gIE mv29) dX5_goes_114 ?_
          refine xr_iconst A (v := 1) dX5_goes_117 (by decide) ?_
          refine xr_iload A dX5_goes_118 1 rfl ?_
          refine xr_ishl A dX5_goes_120 ?_
          refine xr_ior A dX5_goes_121 ?_
          revert hf; refine ab_bdI (fun h30 mh30 hf => ?_)
          refine xr_put A xc_X5 in_X5 tyX5_ok nmX5 21 (Nat.le_of_ble_eq_true rfl) q1319 rfl rfl (v := vI (v29 ||| ((1 : Int32) <<< (v4 &&& 31)))) rfl rfl mh30 dX5_goes_122 ?_
          refine X.sub [2, 3, 4, 0, 6, 1] rfl ?_
          exact wX5_goes_b125 A (fun hf => ih hf) hf
noncomputable def fX5_goes (x : Nat) (p1 : Int32) (p2 : Int32) (h : Hp) : Option Hp :=
  ab_ck h x 4 <|
  ab_bd (ab_gR h x 4 3) fun v1 =>
  ab_bd v1 fun a2 =>
  ab_bd (ab_gR h a2 13 27) fun v3 =>
  ab_bd v3 fun a4 =>
  ab_bd (ab_aI h a4 0 p1) fun v5 =>
  ab_bd (ab_gR h x 4 3) fun v6 =>
  ab_bd v6 fun a7 =>
  ab_bd (ab_gR h a7 13 11) fun v8 =>
  ab_bd (ab_gR h x 4 3) fun v9 =>
  ab_bd v9 fun a10 =>
  ab_bd (ab_gR h a10 13 26) fun v11 =>
  ab_bd v11 fun a12 =>
  ab_bd (ab_aI h a12 0 p1) fun v13 =>
  ab_bd v8 fun a14 =>
  ab_bd (ab_aI h a14 0 v13) fun v15 =>
  ab_bd (ab_pI h x 4 21 (0 : Int32)) fun h16 =>
  fX5_goes_l37 x (hfu h16) p1 p2 v5 v15 (0 : Int32) h16
theorem wX5_goes (D : Dd) {x : Nat} {p1 : Int32} {p2 : Int32} {h : Hp} {h' : Hp} (hf : fX5_goes x p1 p2 h = some h') : ab_is h x 4 ∧ Ct D 2 46 yX5_goes cX5_goes 7 (none : Option FieldType) [vR (some x), vI p1, vI p2] h (.inl none) h' := by
    unfold fX5_goes at hf
    replace hf := ab_ckE hf; obtain ⟨i0, hf⟩ := hf
    refine ⟨i0, ?_⟩
    refine Ct.of (by decide) (L := [(0, vR (some x)), (1, vI p1), (2, vI p2)]) rfl (Nat.le_of_ble_eq_true rfl) (fun C A => ?_)
    refine xr_aload_n A dX5_goes_0 0 rfl rfl ?_
    revert hf; refine ab_bdI (fun v1 mv1 hf => ?_)
    refine xr_get A xc_X5 in_X5 3 (Nat.le_of_ble_eq_true rfl) q1301 rfl (ab_gRE mv1) dX5_goes_1 ?_
    revert hf; refine ab_bdI (fun a2 e hf => ?_); subst e
    revert hf; refine ab_bdI (fun v3 mv3 hf => ?_)
    refine xr_getN A xc_X15 in_X15 27 (Nat.le_of_ble_eq_true rfl) n1506 rfl (ab_gRE mv3) dX5_goes_4 ?_
    refine xr_iload_n A dX5_goes_7 1 rfl rfl ?_
    revert hf; refine ab_bdI (fun a4 e hf => ?_); subst e
    revert hf; refine ab_bdI (fun v5 mv5 hf => ?_)
    refine xr_iaload A mv5 dX5_goes_8 ?_
    refine xr_istore_n A dX5_goes_9 rfl (Nat.le_of_ble_eq_true rfl) (L' := [(3, vI v5), (0, vR (some x)), (1, vI p1), (2, vI p2)]) rfl ?_
    refine xr_aload_n A dX5_goes_10 1 rfl rfl ?_
    revert hf; refine ab_bdI (fun v6 mv6 hf => ?_)
    refine xr_get A xc_X5 in_X5 3 (Nat.le_of_ble_eq_true rfl) q1301 rfl (ab_gRE mv6) dX5_goes_11 ?_
    revert hf; refine ab_bdI (fun a7 e hf => ?_); subst e
    revert hf; refine ab_bdI (fun v8 mv8 hf => ?_)
    refine xr_getN A xc_X15 in_X15 11 (Nat.le_of_ble_eq_true rfl) n1474 rfl (ab_gRE mv8) dX5_goes_14 ?_
    refine xr_aload_n A dX5_goes_17 1 rfl rfl ?_
    revert hf; refine ab_bdI (fun v9 mv9 hf => ?_)
    refine xr_get A xc_X5 in_X5 3 (Nat.le_of_ble_eq_true rfl) q1301 rfl (ab_gRE mv9) dX5_goes_18 ?_
    revert hf; refine ab_bdI (fun a10 e hf => ?_); subst e
    revert hf; refine ab_bdI (fun v11 mv11 hf => ?_)
    refine xr_getN A xc_X15 in_X15 26 (Nat.le_of_ble_eq_true rfl) n1504 rfl (ab_gRE mv11) dX5_goes_21 ?_
    refine xr_iload_n A dX5_goes_24 2 rfl rfl ?_
    revert hf; refine ab_bdI (fun a12 e hf => ?_); subst e
    revert hf; refine ab_bdI (fun v13 mv13 hf => ?_)
    refine xr_iaload A mv13 dX5_goes_25 ?_
    revert hf; refine ab_bdI (fun a14 e hf => ?_); subst e
    revert hf; refine ab_bdI (fun v15 mv15 hf => ?_)
    refine xr_iaload A mv15 dX5_goes_26 ?_
    refine xr_istore A dX5_goes_27 (Nat.le_of_ble_eq_true rfl) (L' := [(4, vI v15), (3, vI v5), (0, vR (some x)), (1, vI p1), (2, vI p2)]) rfl ?_
    refine xr_aload_n A dX5_goes_29 2 rfl rfl ?_
    refine xr_iconst A (v := 0) dX5_goes_30 (by decide) ?_
    revert hf; refine ab_bdI (fun h16 mh16 hf => ?_)
    refine xr_put A xc_X5 in_X5 tyX5_ok nmX5 21 (Nat.le_of_ble_eq_true rfl) q1319 rfl rfl (v := vI (0 : Int32)) rfl rfl mh16 dX5_goes_31 ?_
    refine xr_iconst A (v := 0) dX5_goes_34 (by decide) ?_
    refine xr_istore A dX5_goes_35 (Nat.le_of_ble_eq_true rfl) (L' := [(5, vI (0 : Int32)), (4, vI v15), (3, vI v5), (0, vR (some x)), (1, vI p1), (2, vI p2)]) rfl ?_
    refine X.sub [3, 4, 5, 2, 1, 0] rfl ?_
    exact wX5_goes_l37 A _ hf
/-! X5_goesAsDriven -/
theorem bX5_goesAsDriven : MB yX5_goesAsDriven cX5_goesAsDriven 4 (none : Option FieldType) 2 := ⟨q1790, q99, by decide, by decide +kernel⟩
noncomputable def fX5_goesAsDriven_l12 (x : Nat) : Nat → Int32 → Int32 → Int32 → Hp → Option Hp
  | 0, _, _, _, _ => none
  | n + 1, l1, l2, l3, h =>
  ab_bd (ab_gI h x 4 20) fun v1 =>
  if v1 ≤ l3 then (
    ab_bd (fX5_goes x l1 l2 h) fun h3 =>
    some h3)
  else (
    ab_bd (ab_gR h x 4 22) fun v4 =>
    ab_bd (ab_gR h x 4 18) fun v5 =>
    ab_bd v5 fun a6 =>
    ab_bd (ab_aI h a6 0 (((6 : Int32) * l1) + l3)) fun v7 =>
    ab_bd v4 fun a8 =>
    ab_bd (ab_sI h a8 l3 v7) fun h9 =>
    fX5_goesAsDriven_l12 x n l1 l2 (l3 + (1 : Int32)) h9)
theorem wX5_goesAsDriven_l12 {D : Dd} {C : Cx} {h0 h' : Hp} (A : Act C D (h0, (.inl none), h') yX5_goesAsDriven cX5_goesAsDriven 4 (none : Option FieldType) 3 72 []) {x : Nat} : ∀ (n : Nat) {l1 : Int32} {l2 : Int32} {l3 : Int32} {h : Hp}, fX5_goesAsDriven_l12 x n l1 l2 l3 h = some h' → X C D (h0, (.inl none), h') 4 12 [(0, vR (some x)), (1, vI l1), (2, vI l2), (3, vI l3)] [] h := by
  intro n
  induction n with
  | zero => intro l1 l2 l3 h hf; exact ab_no hf
  | succ n ih =>
    intro l1 l2 l3 h hf
    unfold fX5_goesAsDriven_l12 at hf
    refine xr_iload_n A dX5_goesAsDriven_12 3 rfl rfl ?_
    refine xr_aload_n A dX5_goesAsDriven_13 0 rfl rfl ?_
    revert hf; refine ab_bdI (fun v1 mv1 hf => ?_)
    refine xr_get A xc_X5 in_X5 20 (Nat.le_of_ble_eq_true rfl) q1318 rfl (ab_gIE mv1) dX5_goesAsDriven_14 ?_
    refine xr_icmp_ge A (tgt := 43) dX5_goesAsDriven_17 (by decide) (fun c17 => ?_) (fun c17 => ?_)
    · replace hf := ab_ip c17 hf
      refine xr_aload_n A dX5_goesAsDriven_43 0 rfl rfl ?_
      refine xr_iload_n A dX5_goesAsDriven_44 1 rfl rfl ?_
      refine xr_iload_n A dX5_goesAsDriven_45 2 rfl rfl ?_
      revert hf; refine ab_bdI (fun h3 m2 hf => ?_)
      refine xr_V0 A bX5_goes (wX5_goes D m2).2 xc_X5 (wX5_goes D m2).1 q1793 qs74 q1791 (av := [vI l1, vI l2]) (rest := []) rfl dX5_goesAsDriven_46 (Nat.le_of_ble_eq_true rfl) (Nat.le_of_ble_eq_true rfl) rfl (Nat.le_of_ble_eq_true rfl) ?_
      exact xr_return A hf dX5_goesAsDriven_49
    · replace hf := ab_in c17 hf
      refine xr_aload_n A dX5_goesAsDriven_20 0 rfl rfl ?_
      revert hf; refine ab_bdI (fun v4 mv4 hf => ?_)
      refine xr_get A xc_X5 in_X5 22 (Nat.le_of_ble_eq_true rfl) q1320 rfl (ab_gRE mv4) dX5_goesAsDriven_21 ?_
      refine xr_iload_n A dX5_goesAsDriven_24 3 rfl rfl ?_
      refine xr_aload_n A dX5_goesAsDriven_25 0 rfl rfl ?_
      revert hf; refine ab_bdI (fun v5 mv5 hf => ?_)
      refine xr_get A xc_X5 in_X5 18 (Nat.le_of_ble_eq_true rfl) q1316 rfl (ab_gRE mv5) dX5_goesAsDriven_26 ?_
      refine xr_bipush A (v := 6) dX5_goesAsDriven_29 (by decide) ?_
      refine xr_iload_n A dX5_goesAsDriven_31 1 rfl rfl ?_
      refine xr_imul A dX5_goesAsDriven_32 ?_
      refine xr_iload_n A dX5_goesAsDriven_33 3 rfl rfl ?_
      refine xr_iadd A dX5_goesAsDriven_34 ?_
      revert hf; refine ab_bdI (fun a6 e hf => ?_); subst e
      revert hf; refine ab_bdI (fun v7 mv7 hf => ?_)
      refine xr_iaload A mv7 dX5_goesAsDriven_35 ?_
      revert hf; refine ab_bdI (fun a8 e hf => ?_); subst e
      revert hf; refine ab_bdI (fun h9 mh9 hf => ?_)
      refine xr_iastore A mh9 dX5_goesAsDriven_36 ?_
      refine xr_iinc A dX5_goesAsDriven_37 3 rfl (v := (l3 + (1 : Int32))) rfl (Nat.le_of_ble_eq_true rfl) (L' := [(3, vI (l3 + (1 : Int32))), (0, vR (some x)), (1, vI l1), (2, vI l2)]) rfl ?_
      refine xr_goto A (tgt := 12) dX5_goesAsDriven_40 (by decide) ?_
      refine X.sub [1, 2, 3, 0] rfl ?_
      exact ih hf
noncomputable def fX5_goesAsDriven (x : Nat) (p1 : Int32) (p2 : Int32) (h : Hp) : Option Hp :=
  ab_ck h x 4 <|
  ab_bd (ab_gR h x 4 17) fun v1 =>
  ab_bd v1 fun a2 =>
  ab_bd (ab_aI h a2 0 p1) fun v3 =>
  ab_bd (ab_pI h x 4 20 v3) fun h4 =>
  fX5_goesAsDriven_l12 x (hfu h4) p1 p2 (0 : Int32) h4
theorem wX5_goesAsDriven (D : Dd) {x : Nat} {p1 : Int32} {p2 : Int32} {h : Hp} {h' : Hp} (hf : fX5_goesAsDriven x p1 p2 h = some h') : ab_is h x 4 ∧ Ct D 3 72 yX5_goesAsDriven cX5_goesAsDriven 4 (none : Option FieldType) [vR (some x), vI p1, vI p2] h (.inl none) h' := by
    unfold fX5_goesAsDriven at hf
    replace hf := ab_ckE hf; obtain ⟨i0, hf⟩ := hf
    refine ⟨i0, ?_⟩
    refine Ct.of (by decide) (L := [(0, vR (some x)), (1, vI p1), (2, vI p2)]) rfl (Nat.le_of_ble_eq_true rfl) (fun C A => ?_)
    refine xr_aload_n A dX5_goesAsDriven_0 0 rfl rfl ?_
    refine xr_aload_n A dX5_goesAsDriven_1 0 rfl rfl ?_
    revert hf; refine ab_bdI (fun v1 mv1 hf => ?_)
    refine xr_get A xc_X5 in_X5 17 (Nat.le_of_ble_eq_true rfl) q1315 rfl (ab_gRE mv1) dX5_goesAsDriven_2 ?_
    refine xr_iload_n A dX5_goesAsDriven_5 1 rfl rfl ?_
    revert hf; refine ab_bdI (fun a2 e hf => ?_); subst e
    revert hf; refine ab_bdI (fun v3 mv3 hf => ?_)
    refine xr_iaload A mv3 dX5_goesAsDriven_6 ?_
    revert hf; refine ab_bdI (fun h4 mh4 hf => ?_)
    refine xr_put A xc_X5 in_X5 tyX5_ok nmX5 20 (Nat.le_of_ble_eq_true rfl) q1318 rfl rfl (v := vI v3) rfl rfl mh4 dX5_goesAsDriven_7 ?_
    refine xr_iconst A (v := 0) dX5_goesAsDriven_10 (by decide) ?_
    refine xr_istore_n A dX5_goesAsDriven_11 rfl (Nat.le_of_ble_eq_true rfl) (L' := [(3, vI (0 : Int32)), (0, vR (some x)), (1, vI p1), (2, vI p2)]) rfl ?_
    refine X.sub [1, 2, 3, 0] rfl ?_
    exact wX5_goesAsDriven_l12 A _ hf
/-! X5_comesTo -/
theorem bX5_comesTo : MB yX5_comesTo cX5_comesTo 3 (some FieldType.int) 1 := ⟨q1809, q99, by decide, by decide +kernel⟩
noncomputable def fX5_comesTo_l2 (x : Nat) : Nat → Int32 → Int32 → Hp → Option (Int32 × Hp)
  | 0, _, _, _ => none
  | n + 1, l1, l2, h =>
  ab_bd (ab_gR h x 4 22) fun v1 =>
  ab_bd v1 fun a2 =>
  ab_bd (ab_aI h a2 0 l2) fun v3 =>
  if v3 = l1 then (
    ab_bd (ab_gR h x 4 23) fun v4 =>
    ab_bd v4 fun a5 =>
    ab_bd (ab_aI h a5 0 l2) fun v6 =>
    some (v6, h))
  else (
    fX5_comesTo_l2 x n l1 (l2 + (1 : Int32)) h)
theorem wX5_comesTo_l2 {D : Dd} {C : Cx} {h0 h' : Hp} {r : Int32} (A : Act C D (h0, (.inl (some (vI r))), h') yX5_comesTo cX5_comesTo 3 (some FieldType.int) 1 20 []) {x : Nat} : ∀ (n : Nat) {l1 : Int32} {l2 : Int32} {h : Hp}, fX5_comesTo_l2 x n l1 l2 h = some (r, h') → X C D (h0, (.inl (some (vI r))), h') 3 2 [(0, vR (some x)), (1, vI l1), (2, vI l2)] [] h := by
  intro n
  induction n with
  | zero => intro l1 l2 h hf; exact ab_no hf
  | succ n ih =>
    intro l1 l2 h hf
    unfold fX5_comesTo_l2 at hf
    refine xr_aload_n A dX5_comesTo_2 0 rfl rfl ?_
    revert hf; refine ab_bdI (fun v1 mv1 hf => ?_)
    refine xr_get A xc_X5 in_X5 22 (Nat.le_of_ble_eq_true rfl) q1320 rfl (ab_gRE mv1) dX5_comesTo_3 ?_
    refine xr_iload_n A dX5_comesTo_6 2 rfl rfl ?_
    revert hf; refine ab_bdI (fun a2 e hf => ?_); subst e
    revert hf; refine ab_bdI (fun v3 mv3 hf => ?_)
    refine xr_iaload A mv3 dX5_comesTo_7 ?_
    refine xr_iload_n A dX5_comesTo_8 1 rfl rfl ?_
    refine xr_icmp_eq A (tgt := 18) dX5_comesTo_9 (by decide) (fun c9 => ?_) (fun c9 => ?_)
    · replace hf := ab_ip c9 hf
      refine xr_aload_n A dX5_comesTo_18 0 rfl rfl ?_
      revert hf; refine ab_bdI (fun v4 mv4 hf => ?_)
      refine xr_get A xc_X5 in_X5 23 (Nat.le_of_ble_eq_true rfl) q1321 rfl (ab_gRE mv4) dX5_comesTo_19 ?_
      refine xr_iload_n A dX5_comesTo_22 2 rfl rfl ?_
      revert hf; refine ab_bdI (fun a5 e hf => ?_); subst e
      revert hf; refine ab_bdI (fun v6 mv6 hf => ?_)
      refine xr_iaload A mv6 dX5_comesTo_23 ?_
      exact xr_ireturn A rfl hf dX5_comesTo_24
    · replace hf := ab_in c9 hf
      refine xr_iinc A dX5_comesTo_12 2 rfl (v := (l2 + (1 : Int32))) rfl (Nat.le_of_ble_eq_true rfl) (L' := [(2, vI (l2 + (1 : Int32))), (0, vR (some x)), (1, vI l1)]) rfl ?_
      refine xr_goto A (tgt := 2) dX5_comesTo_15 (by decide) ?_
      refine X.sub [1, 2, 0] rfl ?_
      exact ih hf
noncomputable def fX5_comesTo (x : Nat) (p1 : Int32) (h : Hp) : Option (Int32 × Hp) :=
  ab_ck h x 4 <|
  fX5_comesTo_l2 x (hfu h) p1 (0 : Int32) h
theorem wX5_comesTo (D : Dd) {x : Nat} {p1 : Int32} {h : Hp} {r : Int32} {h' : Hp} (hf : fX5_comesTo x p1 h = some (r, h')) : ab_is h x 4 ∧ Ct D 1 20 yX5_comesTo cX5_comesTo 3 (some FieldType.int) [vR (some x), vI p1] h (.inl (some (vI r))) h' := by
    unfold fX5_comesTo at hf
    replace hf := ab_ckE hf; obtain ⟨i0, hf⟩ := hf
    refine ⟨i0, ?_⟩
    refine Ct.of (by decide) (L := [(0, vR (some x)), (1, vI p1)]) rfl (Nat.le_of_ble_eq_true rfl) (fun C A => ?_)
    refine xr_iconst A (v := 0) dX5_comesTo_0 (by decide) ?_
    refine xr_istore_n A dX5_comesTo_1 rfl (Nat.le_of_ble_eq_true rfl) (L' := [(2, vI (0 : Int32)), (0, vR (some x)), (1, vI p1)]) rfl ?_
    refine X.sub [1, 2, 0] rfl ?_
    exact wX5_comesTo_l2 A _ hf
/-! X5_comes -/
theorem bX5_comes : MB yX5_comes cX5_comes 3 (some FieldType.int) 1 := ⟨q1786, q99, by decide, by decide +kernel⟩
noncomputable def fX5_comes (x : Nat) (p1 : Int32) (h : Hp) : Option (Int32 × Hp) :=
  ab_ck h x 4 <|
  ab_bd (ab_pI h x 4 0 (0 : Int32)) fun h1 =>
  ab_b2 (fX5_isHouse x p1 h1) fun v4 h3 =>
  if v4 = 0 then (
    ab_b2 (fX5_refused x (1 : Int32) h3) fun v22 h21 =>
    some (v22, h21))
  else (
    ab_b2 (fX5_carOf x p1 h3) fun v7 h6 =>
    if v7 = (-1 : Int32) then (
      ab_b2 (fX5_refused x (6 : Int32) h6) fun v19 h18 =>
      some (v19, h18))
    else (
      ab_bd (ab_gI h6 x 4 19) fun v8 =>
      ab_bd (fX5_goesAsDriven x v7 v8 h6) fun h10 =>
      ab_b2 (fX5_comesTo x p1 h10) fun v13 h12 =>
      ab_b2 (fX5_done x v13 h12) fun v16 h15 =>
      some (v16, h15)))
theorem wX5_comes (D : Dd) {x : Nat} {p1 : Int32} {h : Hp} {r : Int32} {h' : Hp} (hf : fX5_comes x p1 h = some (r, h')) : ab_is h x 4 ∧ Ct D 4 95 yX5_comes cX5_comes 3 (some FieldType.int) [vR (some x), vI p1] h (.inl (some (vI r))) h' := by
    unfold fX5_comes at hf
    replace hf := ab_ckE hf; obtain ⟨i0, hf⟩ := hf
    refine ⟨i0, ?_⟩
    refine Ct.of (by decide) (L := [(0, vR (some x)), (1, vI p1)]) rfl (Nat.le_of_ble_eq_true rfl) (fun C A => ?_)
    refine xr_aload_n A dX5_comes_0 0 rfl rfl ?_
    refine xr_iconst A (v := 0) dX5_comes_1 (by decide) ?_
    revert hf; refine ab_bdI (fun h1 mh1 hf => ?_)
    refine xr_put A xc_X5 in_X5 tyX5_ok nmX5 0 (Nat.le_of_ble_eq_true rfl) q1298 rfl rfl (v := vI (0 : Int32)) rfl rfl mh1 dX5_comes_2 ?_
    refine xr_aload_n A dX5_comes_5 0 rfl rfl ?_
    refine xr_iload_n A dX5_comes_6 1 rfl rfl ?_
    revert hf; refine ab_b2I (fun v4 h3 m2 hf => ?_)
    refine xr_V A bX5_isHouse (wX5_isHouse D m2).2 xc_X5 (wX5_isHouse D m2).1 q1769 qs71 q1767 (av := [vI p1]) (rest := []) rfl dX5_comes_7 (Nat.le_of_ble_eq_true rfl) (Nat.le_of_ble_eq_true rfl) rfl (Nat.le_of_ble_eq_true rfl) ?_
    refine xr_if_ne A (tgt := 19) dX5_comes_10 (by decide) (fun c10 => ?_) (fun c10 => ?_)
    · replace hf := ab_in c10 hf
      refine xr_aload_n A dX5_comes_19 0 rfl rfl ?_
      refine xr_iload_n A dX5_comes_20 1 rfl rfl ?_
      revert hf; refine ab_b2I (fun v7 h6 m5 hf => ?_)
      refine xr_V A bX5_carOf (wX5_carOf D m5).2 xc_X5 (wX5_carOf D m5).1 q1773 qs72 q1771 (av := [vI p1]) (rest := []) rfl dX5_comes_21 (Nat.le_of_ble_eq_true rfl) (Nat.le_of_ble_eq_true rfl) rfl (Nat.le_of_ble_eq_true rfl) ?_
      refine xr_istore_n A dX5_comes_24 rfl (Nat.le_of_ble_eq_true rfl) (L' := [(2, vI v7), (0, vR (some x)), (1, vI p1)]) rfl ?_
      refine xr_iload_n A dX5_comes_25 0 rfl rfl ?_
      refine xr_iconst A (v := (-1)) dX5_comes_26 (by decide) ?_
      refine xr_icmp_ne A (tgt := 37) dX5_comes_27 (by decide) (fun c27 => ?_) (fun c27 => ?_)
      · replace hf := ab_in c27 hf
        refine xr_aload_n A dX5_comes_37 1 rfl rfl ?_
        refine xr_iload_n A dX5_comes_38 0 rfl rfl ?_
        refine xr_aload_n A dX5_comes_39 1 rfl rfl ?_
        revert hf; refine ab_bdI (fun v8 mv8 hf => ?_)
        refine xr_get A xc_X5 in_X5 19 (Nat.le_of_ble_eq_true rfl) q1317 rfl (ab_gIE mv8) dX5_comes_40 ?_
        revert hf; refine ab_bdI (fun h10 m9 hf => ?_)
        refine xr_V0 A bX5_goesAsDriven (wX5_goesAsDriven D m9).2 xc_X5 (wX5_goesAsDriven D m9).1 q1789 qs73 q1787 (av := [vI v7, vI v8]) (rest := []) rfl dX5_comes_43 (Nat.le_of_ble_eq_true rfl) (Nat.le_of_ble_eq_true rfl) rfl (Nat.le_of_ble_eq_true rfl) ?_
        refine xr_aload_n A dX5_comes_46 1 rfl rfl ?_
        refine xr_aload_n A dX5_comes_47 1 rfl rfl ?_
        refine xr_iload_n A dX5_comes_48 2 rfl rfl ?_
        revert hf; refine ab_b2I (fun v13 h12 m11 hf => ?_)
        refine xr_V A bX5_comesTo (wX5_comesTo D m11).2 xc_X5 (wX5_comesTo D m11).1 q1808 qs76 q1806 (av := [vI p1]) (rest := [vR (some x)]) rfl dX5_comes_49 (Nat.le_of_ble_eq_true rfl) (Nat.le_of_ble_eq_true rfl) rfl (Nat.le_of_ble_eq_true rfl) ?_
        revert hf; refine ab_b2I (fun v16 h15 m14 hf => ?_)
        refine xr_V A bX5_done (wX5_done D m14).2 xc_X5 (wX5_done D m14).1 q1749 qs69 q1747 (av := [vI v13]) (rest := []) rfl dX5_comes_52 (Nat.le_of_ble_eq_true rfl) (Nat.le_of_ble_eq_true rfl) rfl (Nat.le_of_ble_eq_true rfl) ?_
        exact xr_ireturn A rfl hf dX5_comes_55
      · replace hf := ab_ip c27 hf
        refine xr_aload_n A dX5_comes_30 1 rfl rfl ?_
        refine xr_bipush A (v := 6) dX5_comes_31 (by decide) ?_
        revert hf; refine ab_b2I (fun v19 h18 m17 hf => ?_)
        refine xr_V A bX5_refused (wX5_refused D m17).2 xc_X5 (wX5_refused D m17).1 q1451 qs44 q1449 (av := [vI (6 : Int32)]) (rest := []) rfl dX5_comes_33 (Nat.le_of_ble_eq_true rfl) (Nat.le_of_ble_eq_true rfl) rfl (Nat.le_of_ble_eq_true rfl) ?_
        exact xr_ireturn A rfl hf dX5_comes_36
    · replace hf := ab_ip c10 hf
      refine xr_aload_n A dX5_comes_13 0 rfl rfl ?_
      refine xr_iconst A (v := 1) dX5_comes_14 (by decide) ?_
      revert hf; refine ab_b2I (fun v22 h21 m20 hf => ?_)
      refine xr_V A bX5_refused (wX5_refused D m20).2 xc_X5 (wX5_refused D m20).1 q1451 qs44 q1449 (av := [vI (1 : Int32)]) (rest := []) rfl dX5_comes_15 (Nat.le_of_ble_eq_true rfl) (Nat.le_of_ble_eq_true rfl) rfl (Nat.le_of_ble_eq_true rfl) ?_
      exact xr_ireturn A rfl hf dX5_comes_18
/-! X5_lost -/
theorem bX5_lost : MB yX5_lost cX5_lost 2 (some FieldType.int) 1 := ⟨q1817, q99, by decide, by decide +kernel⟩
noncomputable def fX5_lost (x : Nat) (p1 : Int32) (h : Hp) : Option (Int32 × Hp) :=
  ab_ck h x 4 <|
  ab_b2 (fX5_refused x p1 h) fun v3 h2 =>
  some ((-1000 : Int32), h2)
theorem wX5_lost (D : Dd) {x : Nat} {p1 : Int32} {h : Hp} {r : Int32} {h' : Hp} (hf : fX5_lost x p1 h = some (r, h')) : ab_is h x 4 ∧ Ct D 2 41 yX5_lost cX5_lost 2 (some FieldType.int) [vR (some x), vI p1] h (.inl (some (vI r))) h' := by
    unfold fX5_lost at hf
    replace hf := ab_ckE hf; obtain ⟨i0, hf⟩ := hf
    refine ⟨i0, ?_⟩
    refine Ct.of (by decide) (L := [(0, vR (some x)), (1, vI p1)]) rfl (Nat.le_of_ble_eq_true rfl) (fun C A => ?_)
    refine xr_aload_n A dX5_lost_0 0 rfl rfl ?_
    refine xr_iload_n A dX5_lost_1 1 rfl rfl ?_
    revert hf; refine ab_b2I (fun v3 h2 m1 hf => ?_)
    refine xr_V A bX5_refused (wX5_refused D m1).2 xc_X5 (wX5_refused D m1).1 q1451 qs44 q1449 (av := [vI p1]) (rest := []) rfl dX5_lost_2 (Nat.le_of_ble_eq_true rfl) (Nat.le_of_ble_eq_true rfl) rfl (Nat.le_of_ble_eq_true rfl) ?_
    refine xr_pop A dX5_lost_5 rfl ?_
    refine xr_sipush A (v := (-1000)) dX5_lost_6 (by decide) ?_
    exact xr_ireturn A rfl hf dX5_lost_9
/-! X5_heat -/
theorem bX5_heat : MB yX5_heat cX5_heat 3 (some FieldType.int) 1 := ⟨q1813, q99, by decide, by decide +kernel⟩
noncomputable def fX5_heat (x : Nat) (p1 : Int32) (h : Hp) : Option (Int32 × Hp) :=
  ab_ck h x 4 <|
  ab_bd (ab_pI h x 4 0 (0 : Int32)) fun h1 =>
  ab_b2 (fX5_isHouse x p1 h1) fun v4 h3 =>
  if v4 = 0 then (
    ab_b2 (fX5_lost x (1 : Int32) h3) fun v25 h24 =>
    some (v25, h24))
  else (
    ab_b2 (fX5_carOf x p1 h3) fun v7 h6 =>
    if v7 = (-1 : Int32) then (
      ab_b2 (fX5_lost x (6 : Int32) h6) fun v22 h21 =>
      some (v22, h21))
    else (
      ab_bd (ab_gI h6 x 4 19) fun v8 =>
      ab_bd (fX5_goesAsDriven x v7 v8 h6) fun h10 =>
      ab_b2 (fX5_comesTo x p1 h10) fun v13 h12 =>
      ab_b2 (fX5_heatBy x v7 v13 h12) fun v16 h15 =>
      ab_b2 (fX5_done x v16 h15) fun v19 h18 =>
      some (v19, h18)))
theorem wX5_heat (D : Dd) {x : Nat} {p1 : Int32} {h : Hp} {r : Int32} {h' : Hp} (hf : fX5_heat x p1 h = some (r, h')) : ab_is h x 4 ∧ Ct D 4 95 yX5_heat cX5_heat 3 (some FieldType.int) [vR (some x), vI p1] h (.inl (some (vI r))) h' := by
    unfold fX5_heat at hf
    replace hf := ab_ckE hf; obtain ⟨i0, hf⟩ := hf
    refine ⟨i0, ?_⟩
    refine Ct.of (by decide) (L := [(0, vR (some x)), (1, vI p1)]) rfl (Nat.le_of_ble_eq_true rfl) (fun C A => ?_)
    refine xr_aload_n A dX5_heat_0 0 rfl rfl ?_
    refine xr_iconst A (v := 0) dX5_heat_1 (by decide) ?_
    revert hf; refine ab_bdI (fun h1 mh1 hf => ?_)
    refine xr_put A xc_X5 in_X5 tyX5_ok nmX5 0 (Nat.le_of_ble_eq_true rfl) q1298 rfl rfl (v := vI (0 : Int32)) rfl rfl mh1 dX5_heat_2 ?_
    refine xr_aload_n A dX5_heat_5 0 rfl rfl ?_
    refine xr_iload_n A dX5_heat_6 1 rfl rfl ?_
    revert hf; refine ab_b2I (fun v4 h3 m2 hf => ?_)
    refine xr_V A bX5_isHouse (wX5_isHouse D m2).2 xc_X5 (wX5_isHouse D m2).1 q1769 qs71 q1767 (av := [vI p1]) (rest := []) rfl dX5_heat_7 (Nat.le_of_ble_eq_true rfl) (Nat.le_of_ble_eq_true rfl) rfl (Nat.le_of_ble_eq_true rfl) ?_
    refine xr_if_ne A (tgt := 19) dX5_heat_10 (by decide) (fun c10 => ?_) (fun c10 => ?_)
    · replace hf := ab_in c10 hf
      refine xr_aload_n A dX5_heat_19 0 rfl rfl ?_
      refine xr_iload_n A dX5_heat_20 1 rfl rfl ?_
      revert hf; refine ab_b2I (fun v7 h6 m5 hf => ?_)
      refine xr_V A bX5_carOf (wX5_carOf D m5).2 xc_X5 (wX5_carOf D m5).1 q1773 qs72 q1771 (av := [vI p1]) (rest := []) rfl dX5_heat_21 (Nat.le_of_ble_eq_true rfl) (Nat.le_of_ble_eq_true rfl) rfl (Nat.le_of_ble_eq_true rfl) ?_
      refine xr_istore_n A dX5_heat_24 rfl (Nat.le_of_ble_eq_true rfl) (L' := [(2, vI v7), (0, vR (some x)), (1, vI p1)]) rfl ?_
      refine xr_iload_n A dX5_heat_25 0 rfl rfl ?_
      refine xr_iconst A (v := (-1)) dX5_heat_26 (by decide) ?_
      refine xr_icmp_ne A (tgt := 37) dX5_heat_27 (by decide) (fun c27 => ?_) (fun c27 => ?_)
      · replace hf := ab_in c27 hf
        refine xr_aload_n A dX5_heat_37 1 rfl rfl ?_
        refine xr_iload_n A dX5_heat_38 0 rfl rfl ?_
        refine xr_aload_n A dX5_heat_39 1 rfl rfl ?_
        revert hf; refine ab_bdI (fun v8 mv8 hf => ?_)
        refine xr_get A xc_X5 in_X5 19 (Nat.le_of_ble_eq_true rfl) q1317 rfl (ab_gIE mv8) dX5_heat_40 ?_
        revert hf; refine ab_bdI (fun h10 m9 hf => ?_)
        refine xr_V0 A bX5_goesAsDriven (wX5_goesAsDriven D m9).2 xc_X5 (wX5_goesAsDriven D m9).1 q1789 qs73 q1787 (av := [vI v7, vI v8]) (rest := []) rfl dX5_heat_43 (Nat.le_of_ble_eq_true rfl) (Nat.le_of_ble_eq_true rfl) rfl (Nat.le_of_ble_eq_true rfl) ?_
        refine xr_aload_n A dX5_heat_46 1 rfl rfl ?_
        refine xr_aload_n A dX5_heat_47 1 rfl rfl ?_
        refine xr_iload_n A dX5_heat_48 0 rfl rfl ?_
        refine xr_aload_n A dX5_heat_49 1 rfl rfl ?_
        refine xr_iload_n A dX5_heat_50 2 rfl rfl ?_
        revert hf; refine ab_b2I (fun v13 h12 m11 hf => ?_)
        refine xr_V A bX5_comesTo (wX5_comesTo D m11).2 xc_X5 (wX5_comesTo D m11).1 q1808 qs76 q1806 (av := [vI p1]) (rest := [vI v7, vR (some x), vR (some x)]) rfl dX5_heat_51 (Nat.le_of_ble_eq_true rfl) (Nat.le_of_ble_eq_true rfl) rfl (Nat.le_of_ble_eq_true rfl) ?_
        revert hf; refine ab_b2I (fun v16 h15 m14 hf => ?_)
        refine xr_V A bX5_heatBy (wX5_heatBy D m14).2 xc_X5 (wX5_heatBy D m14).1 q1801 qs75 q1799 (av := [vI v7, vI v13]) (rest := [vR (some x)]) rfl dX5_heat_54 (Nat.le_of_ble_eq_true rfl) (Nat.le_of_ble_eq_true rfl) rfl (Nat.le_of_ble_eq_true rfl) ?_
        revert hf; refine ab_b2I (fun v19 h18 m17 hf => ?_)
        refine xr_V A bX5_done (wX5_done D m17).2 xc_X5 (wX5_done D m17).1 q1749 qs69 q1747 (av := [vI v16]) (rest := []) rfl dX5_heat_57 (Nat.le_of_ble_eq_true rfl) (Nat.le_of_ble_eq_true rfl) rfl (Nat.le_of_ble_eq_true rfl) ?_
        exact xr_ireturn A rfl hf dX5_heat_60
      · replace hf := ab_ip c27 hf
        refine xr_aload_n A dX5_heat_30 1 rfl rfl ?_
        refine xr_bipush A (v := 6) dX5_heat_31 (by decide) ?_
        revert hf; refine ab_b2I (fun v22 h21 m20 hf => ?_)
        refine xr_V A bX5_lost (wX5_lost D m20).2 xc_X5 (wX5_lost D m20).1 q1816 qs77 q1814 (av := [vI (6 : Int32)]) (rest := []) rfl dX5_heat_33 (Nat.le_of_ble_eq_true rfl) (Nat.le_of_ble_eq_true rfl) rfl (Nat.le_of_ble_eq_true rfl) ?_
        exact xr_ireturn A rfl hf dX5_heat_36
    · replace hf := ab_ip c10 hf
      refine xr_aload_n A dX5_heat_13 0 rfl rfl ?_
      refine xr_iconst A (v := 1) dX5_heat_14 (by decide) ?_
      revert hf; refine ab_b2I (fun v25 h24 m23 hf => ?_)
      refine xr_V A bX5_lost (wX5_lost D m23).2 xc_X5 (wX5_lost D m23).1 q1816 qs77 q1814 (av := [vI (1 : Int32)]) (rest := []) rfl dX5_heat_15 (Nat.le_of_ble_eq_true rfl) (Nat.le_of_ble_eq_true rfl) rfl (Nat.le_of_ble_eq_true rfl) ?_
      exact xr_ireturn A rfl hf dX5_heat_18
/-! X5_bad -/
theorem bX5_bad : MB yX5_bad cX5_bad 2 (some FieldType.int) 1 := ⟨q1821, q99, by decide, by decide +kernel⟩
noncomputable def fX5_bad (x : Nat) (p1 : Int32) (h : Hp) : Option (Int32 × Hp) :=
  ab_ck h x 4 <|
  ab_bd (ab_pI h x 4 0 (0 : Int32)) fun h1 =>
  ab_b2 (fX5_isCar x p1 h1) fun v4 h3 =>
  if v4 = 0 then (
    ab_b2 (fX5_refused x (1 : Int32) h3) fun v14 h13 =>
    some (v14, h13))
  else (
    ab_bd (ab_gI h3 x 4 19) fun v5 =>
    ab_bd (fX5_goesAsDriven x p1 v5 h3) fun h7 =>
    ab_bd (ab_gI h7 x 4 21) fun v8 =>
    ab_b2 (fX5_done x v8 h7) fun v11 h10 =>
    some (v11, h10))
theorem wX5_bad (D : Dd) {x : Nat} {p1 : Int32} {h : Hp} {r : Int32} {h' : Hp} (hf : fX5_bad x p1 h = some (r, h')) : ab_is h x 4 ∧ Ct D 4 95 yX5_bad cX5_bad 2 (some FieldType.int) [vR (some x), vI p1] h (.inl (some (vI r))) h' := by
    unfold fX5_bad at hf
    replace hf := ab_ckE hf; obtain ⟨i0, hf⟩ := hf
    refine ⟨i0, ?_⟩
    refine Ct.of (by decide) (L := [(0, vR (some x)), (1, vI p1)]) rfl (Nat.le_of_ble_eq_true rfl) (fun C A => ?_)
    refine xr_aload_n A dX5_bad_0 0 rfl rfl ?_
    refine xr_iconst A (v := 0) dX5_bad_1 (by decide) ?_
    revert hf; refine ab_bdI (fun h1 mh1 hf => ?_)
    refine xr_put A xc_X5 in_X5 tyX5_ok nmX5 0 (Nat.le_of_ble_eq_true rfl) q1298 rfl rfl (v := vI (0 : Int32)) rfl rfl mh1 dX5_bad_2 ?_
    refine xr_aload_n A dX5_bad_5 0 rfl rfl ?_
    refine xr_iload_n A dX5_bad_6 1 rfl rfl ?_
    revert hf; refine ab_b2I (fun v4 h3 m2 hf => ?_)
    refine xr_V A bX5_isCar (wX5_isCar D m2).2 xc_X5 (wX5_isCar D m2).1 q1765 qs70 q1763 (av := [vI p1]) (rest := []) rfl dX5_bad_7 (Nat.le_of_ble_eq_true rfl) (Nat.le_of_ble_eq_true rfl) rfl (Nat.le_of_ble_eq_true rfl) ?_
    refine xr_if_ne A (tgt := 19) dX5_bad_10 (by decide) (fun c10 => ?_) (fun c10 => ?_)
    · replace hf := ab_in c10 hf
      refine xr_aload_n A dX5_bad_19 0 rfl rfl ?_
      refine xr_iload_n A dX5_bad_20 1 rfl rfl ?_
      refine xr_aload_n A dX5_bad_21 0 rfl rfl ?_
      revert hf; refine ab_bdI (fun v5 mv5 hf => ?_)
      refine xr_get A xc_X5 in_X5 19 (Nat.le_of_ble_eq_true rfl) q1317 rfl (ab_gIE mv5) dX5_bad_22 ?_
      revert hf; refine ab_bdI (fun h7 m6 hf => ?_)
      refine xr_V0 A bX5_goesAsDriven (wX5_goesAsDriven D m6).2 xc_X5 (wX5_goesAsDriven D m6).1 q1789 qs73 q1787 (av := [vI p1, vI v5]) (rest := []) rfl dX5_bad_25 (Nat.le_of_ble_eq_true rfl) (Nat.le_of_ble_eq_true rfl) rfl (Nat.le_of_ble_eq_true rfl) ?_
      refine xr_aload_n A dX5_bad_28 0 rfl rfl ?_
      refine xr_aload_n A dX5_bad_29 0 rfl rfl ?_
      revert hf; refine ab_bdI (fun v8 mv8 hf => ?_)
      refine xr_get A xc_X5 in_X5 21 (Nat.le_of_ble_eq_true rfl) q1319 rfl (ab_gIE mv8) dX5_bad_30 ?_
      revert hf; refine ab_b2I (fun v11 h10 m9 hf => ?_)
      refine xr_V A bX5_done (wX5_done D m9).2 xc_X5 (wX5_done D m9).1 q1749 qs69 q1747 (av := [vI v8]) (rest := []) rfl dX5_bad_33 (Nat.le_of_ble_eq_true rfl) (Nat.le_of_ble_eq_true rfl) rfl (Nat.le_of_ble_eq_true rfl) ?_
      exact xr_ireturn A rfl hf dX5_bad_36
    · replace hf := ab_ip c10 hf
      refine xr_aload_n A dX5_bad_13 0 rfl rfl ?_
      refine xr_iconst A (v := 1) dX5_bad_14 (by decide) ?_
      revert hf; refine ab_b2I (fun v14 h13 m12 hf => ?_)
      refine xr_V A bX5_refused (wX5_refused D m12).2 xc_X5 (wX5_refused D m12).1 q1451 qs44 q1449 (av := [vI (1 : Int32)]) (rest := []) rfl dX5_bad_15 (Nat.le_of_ble_eq_true rfl) (Nat.le_of_ble_eq_true rfl) rfl (Nat.le_of_ble_eq_true rfl) ?_
      exact xr_ireturn A rfl hf dX5_bad_18
/-! X5_way -/
theorem bX5_way : MB yX5_way cX5_way 3 (some FieldType.int) 2 := ⟨q1825, q99, by decide, by decide +kernel⟩
noncomputable def fX5_way (x : Nat) (p1 : Int32) (p2 : Int32) (h : Hp) : Option (Int32 × Hp) :=
  ab_ck h x 4 <|
  ab_bd (ab_pI h x 4 0 (0 : Int32)) fun h1 =>
  ab_bd (ab_gR h1 x 4 3) fun v2 =>
  ab_on v2 (
    ab_b2 (fX5_refused x (1 : Int32) h1) fun v6 h5 =>
    some (v6, h5)) fun a3 => (
    ab_b2 (fX5_in p1 (0 : Int32) (99 : Int32) h1) fun v9 h8 =>
    if v9 = 0 then (
      ab_b2 (fX5_refused x (2 : Int32) h8) fun v12 h11 =>
      some (v12, h11))
    else (
      ab_b2 (fX5_in p2 (0 : Int32) (99 : Int32) h8) fun v15 h14 =>
      if v15 = 0 then (
        ab_b2 (fX5_refused x (2 : Int32) h14) fun v18 h17 =>
        some (v18, h17))
      else (
        ab_bd (ab_gR h14 x 4 3) fun v19 =>
        ab_bd v19 fun a20 =>
        ab_b2 (fX15_way a20 p1 p2 h14) fun v23 h22 =>
        ab_b2 (fX5_done x v23 h22) fun v26 h25 =>
        some (v26, h25))))
theorem wX5_way (D : Dd) {x : Nat} {p1 : Int32} {p2 : Int32} {h : Hp} {r : Int32} {h' : Hp} (hf : fX5_way x p1 p2 h = some (r, h')) : ab_is h x 4 ∧ Ct D 2 46 yX5_way cX5_way 3 (some FieldType.int) [vR (some x), vI p1, vI p2] h (.inl (some (vI r))) h' := by
    unfold fX5_way at hf
    replace hf := ab_ckE hf; obtain ⟨i0, hf⟩ := hf
    refine ⟨i0, ?_⟩
    refine Ct.of (by decide) (L := [(0, vR (some x)), (1, vI p1), (2, vI p2)]) rfl (Nat.le_of_ble_eq_true rfl) (fun C A => ?_)
    refine xr_aload_n A dX5_way_0 0 rfl rfl ?_
    refine xr_iconst A (v := 0) dX5_way_1 (by decide) ?_
    revert hf; refine ab_bdI (fun h1 mh1 hf => ?_)
    refine xr_put A xc_X5 in_X5 tyX5_ok nmX5 0 (Nat.le_of_ble_eq_true rfl) q1298 rfl rfl (v := vI (0 : Int32)) rfl rfl mh1 dX5_way_2 ?_
    refine xr_aload_n A dX5_way_5 0 rfl rfl ?_
    revert hf; refine ab_bdI (fun v2 mv2 hf => ?_)
    refine xr_get A xc_X5 in_X5 3 (Nat.le_of_ble_eq_true rfl) q1301 rfl (ab_gRE mv2) dX5_way_6 ?_
    revert hf; refine ab_onI (fun e hf => ?_) (fun a3 e hf => ?_) <;> subst e
    · refine xr_ifnonnull A (tgt := 18) dX5_way_9 (by decide) (fun _ e => by cases e) (fun _ => ?_)
      refine xr_aload_n A dX5_way_12 0 rfl rfl ?_
      refine xr_iconst A (v := 1) dX5_way_13 (by decide) ?_
      revert hf; refine ab_b2I (fun v6 h5 m4 hf => ?_)
      refine xr_V A bX5_refused (wX5_refused D m4).2 xc_X5 (wX5_refused D m4).1 q1451 qs44 q1449 (av := [vI (1 : Int32)]) (rest := []) rfl dX5_way_14 (Nat.le_of_ble_eq_true rfl) (Nat.le_of_ble_eq_true rfl) rfl (Nat.le_of_ble_eq_true rfl) ?_
      exact xr_ireturn A rfl hf dX5_way_17
    · refine xr_ifnonnull A (tgt := 18) dX5_way_9 (by decide) (fun _ _ => ?_) (fun e => by cases e)
      refine xr_iload_n A dX5_way_18 1 rfl rfl ?_
      refine xr_iconst A (v := 0) dX5_way_19 (by decide) ?_
      refine xr_bipush A (v := 99) dX5_way_20 (by decide) ?_
      revert hf; refine ab_b2I (fun v9 h8 m7 hf => ?_)
      refine xr_S A bX5_in (wX5_in D m7) q1657 q1656 (av := [vI p1, vI (0 : Int32), vI (99 : Int32)]) (rest := []) rfl dX5_way_22 (Nat.le_of_ble_eq_true rfl) (Nat.le_of_ble_eq_true rfl) rfl (Nat.le_of_ble_eq_true rfl) ?_
      refine xr_if_eq A (tgt := 54) dX5_way_25 (by decide) (fun c25 => ?_) (fun c25 => ?_)
      · replace hf := ab_ip c25 hf
        refine xr_aload_n A dX5_way_54 0 rfl rfl ?_
        refine xr_iconst A (v := 2) dX5_way_55 (by decide) ?_
        revert hf; refine ab_b2I (fun v12 h11 m10 hf => ?_)
        refine xr_V A bX5_refused (wX5_refused D m10).2 xc_X5 (wX5_refused D m10).1 q1451 qs44 q1449 (av := [vI (2 : Int32)]) (rest := []) rfl dX5_way_56 (Nat.le_of_ble_eq_true rfl) (Nat.le_of_ble_eq_true rfl) rfl (Nat.le_of_ble_eq_true rfl) ?_
        exact xr_ireturn A rfl hf dX5_way_59
      · replace hf := ab_in c25 hf
        refine xr_iload_n A dX5_way_28 2 rfl rfl ?_
        refine xr_iconst A (v := 0) dX5_way_29 (by decide) ?_
        refine xr_bipush A (v := 99) dX5_way_30 (by decide) ?_
        revert hf; refine ab_b2I (fun v15 h14 m13 hf => ?_)
        refine xr_S A bX5_in (wX5_in D m13) q1657 q1656 (av := [vI p2, vI (0 : Int32), vI (99 : Int32)]) (rest := []) rfl dX5_way_32 (Nat.le_of_ble_eq_true rfl) (Nat.le_of_ble_eq_true rfl) rfl (Nat.le_of_ble_eq_true rfl) ?_
        refine xr_if_eq A (tgt := 54) dX5_way_35 (by decide) (fun c35 => ?_) (fun c35 => ?_)
        · replace hf := ab_ip c35 hf
          refine xr_aload_n A dX5_way_54 0 rfl rfl ?_
          refine xr_iconst A (v := 2) dX5_way_55 (by decide) ?_
          revert hf; refine ab_b2I (fun v18 h17 m16 hf => ?_)
          refine xr_V A bX5_refused (wX5_refused D m16).2 xc_X5 (wX5_refused D m16).1 q1451 qs44 q1449 (av := [vI (2 : Int32)]) (rest := []) rfl dX5_way_56 (Nat.le_of_ble_eq_true rfl) (Nat.le_of_ble_eq_true rfl) rfl (Nat.le_of_ble_eq_true rfl) ?_
          exact xr_ireturn A rfl hf dX5_way_59
        · replace hf := ab_in c35 hf
          refine xr_aload_n A dX5_way_38 0 rfl rfl ?_
          refine xr_aload_n A dX5_way_39 0 rfl rfl ?_
          revert hf; refine ab_bdI (fun v19 mv19 hf => ?_)
          refine xr_get A xc_X5 in_X5 3 (Nat.le_of_ble_eq_true rfl) q1301 rfl (ab_gRE mv19) dX5_way_40 ?_
          refine xr_iload_n A dX5_way_43 1 rfl rfl ?_
          refine xr_iload_n A dX5_way_44 2 rfl rfl ?_
          revert hf; refine ab_bdI (fun a20 e hf => ?_); subst e
          revert hf; refine ab_b2I (fun v23 h22 m21 hf => ?_)
          refine xr_V A bX15_way (wX15_way D m21).2 xc_X15 (wX15_way D m21).1 q1796 q1797 q1795 (av := [vI p1, vI p2]) (rest := [vR (some x)]) rfl dX5_way_45 (Nat.le_of_ble_eq_true rfl) (Nat.le_of_ble_eq_true rfl) rfl (Nat.le_of_ble_eq_true rfl) ?_
          revert hf; refine ab_b2I (fun v26 h25 m24 hf => ?_)
          refine xr_V A bX5_done (wX5_done D m24).2 xc_X5 (wX5_done D m24).1 q1749 qs69 q1747 (av := [vI v23]) (rest := []) rfl dX5_way_48 (Nat.le_of_ble_eq_true rfl) (Nat.le_of_ble_eq_true rfl) rfl (Nat.le_of_ble_eq_true rfl) ?_
          refine xr_goto A (tgt := 59) dX5_way_51 (by decide) ?_
          exact xr_ireturn A rfl hf dX5_way_59
/-! X5_bits -/
theorem bX5_bits : MB yX5_bits cX5_bits 3 (some FieldType.int) 1 := ⟨q1836, q99, by decide, by decide +kernel⟩
noncomputable def fX5_bits_l4 : Nat → Int32 → Int32 → Hp → Option (Int32 × Hp)
  | 0, _, _, _ => none
  | n + 1, l1, l2, h =>
  if l2 = 0 then (
    some (l1, h))
  else (
    fX5_bits_l4 n (l1 + (1 : Int32)) (l2 &&& (l2 - (1 : Int32))) h)
theorem wX5_bits_l4 {D : Dd} {C : Cx} {h0 h' : Hp} {r : Int32} (A : Act C D (h0, (.inl (some (vI r))), h') yX5_bits cX5_bits 3 (some FieldType.int) 1 20 []) : ∀ (n : Nat) {l1 : Int32} {l2 : Int32} {h : Hp}, fX5_bits_l4 n l1 l2 h = some (r, h') → X C D (h0, (.inl (some (vI r))), h') 3 4 [(1, vI l1), (2, vI l2)] [] h := by
  intro n
  induction n with
  | zero => intro l1 l2 h hf; exact ab_no hf
  | succ n ih =>
    intro l1 l2 h hf
    unfold fX5_bits_l4 at hf
    refine xr_iload_n A dX5_bits_4 1 rfl rfl ?_
    refine xr_if_eq A (tgt := 20) dX5_bits_5 (by decide) (fun c5 => ?_) (fun c5 => ?_)
    · replace hf := ab_ip c5 hf
      refine xr_iload_n A dX5_bits_20 0 rfl rfl ?_
      exact xr_ireturn A rfl hf dX5_bits_21
    · replace hf := ab_in c5 hf
      refine xr_iinc A dX5_bits_8 0 rfl (v := (l1 + (1 : Int32))) rfl (Nat.le_of_ble_eq_true rfl) (L' := [(1, vI (l1 + (1 : Int32))), (2, vI l2)]) rfl ?_
      refine xr_iload_n A dX5_bits_11 1 rfl rfl ?_
      refine xr_iload_n A dX5_bits_12 1 rfl rfl ?_
      refine xr_iconst A (v := 1) dX5_bits_13 (by decide) ?_
      refine xr_isub A dX5_bits_14 ?_
      refine xr_iand A dX5_bits_15 ?_
      refine xr_istore_n A dX5_bits_16 rfl (Nat.le_of_ble_eq_true rfl) (L' := [(2, vI (l2 &&& (l2 - (1 : Int32)))), (1, vI (l1 + (1 : Int32)))]) rfl ?_
      refine xr_goto A (tgt := 4) dX5_bits_17 (by decide) ?_
      refine X.sub [1, 0] rfl ?_
      exact ih hf
noncomputable def fX5_bits (p0 : Int32) (h : Hp) : Option (Int32 × Hp) :=
  fX5_bits_l4 (hfu h) (0 : Int32) p0 h
theorem wX5_bits (D : Dd) {p0 : Int32} {h : Hp} {r : Int32} {h' : Hp} (hf : fX5_bits p0 h = some (r, h')) : Ct D 1 20 yX5_bits cX5_bits 3 (some FieldType.int) [vI p0] h (.inl (some (vI r))) h' := by
    unfold fX5_bits at hf
    refine Ct.of (by decide) (L := [(0, vI p0)]) rfl (Nat.le_of_ble_eq_true rfl) (fun C A => ?_)
    refine xr_iconst A (v := 0) dX5_bits_0 (by decide) ?_
    refine xr_istore_n A dX5_bits_1 rfl (Nat.le_of_ble_eq_true rfl) (L' := [(1, vI (0 : Int32)), (0, vI p0)]) rfl ?_
    refine xr_iload_n A dX5_bits_2 1 rfl rfl ?_
    refine xr_istore_n A dX5_bits_3 rfl (Nat.le_of_ble_eq_true rfl) (L' := [(2, vI p0), (1, vI (0 : Int32)), (0, vI p0)]) rfl ?_
    refine X.sub [1, 0] rfl ?_
    exact wX5_bits_l4 A _ hf
/-! X5_refusesBest -/
theorem bX5_refusesBest : MB yX5_refusesBest cX5_refusesBest 3 (some FieldType.int) 2 := ⟨q1833, q99, by decide, by decide +kernel⟩
noncomputable def fX5_refusesBest (x : Nat) (p1 : Int32) (p2 : Int32) (h : Hp) : Option (Int32 × Hp) :=
  ab_ck h x 4 <|
  ab_b2 (fX5_isCar x p1 h) fun v3 h2 =>
  if v3 = 0 then (
    some ((1 : Int32), h2))
  else (
    if p2 < 0 then (
      some ((1 : Int32), h2))
    else (
      ab_bd (ab_gR h2 x 4 3) fun v4 =>
      ab_bd v4 fun a5 =>
      ab_bd (ab_gI h2 a5 13 5) fun v6 =>
      if p2 < ((1 : Int32) <<< (v6 &&& 31)) then (
        ab_b2 (fX5_bits p2 h2) fun v9 h8 =>
        ab_bd (ab_gR h8 x 4 3) fun v10 =>
        ab_bd v10 fun a11 =>
        ab_bd (ab_gR h8 a11 13 28) fun v12 =>
        ab_bd v12 fun a13 =>
        ab_bd (ab_aI h8 a13 0 p1) fun v14 =>
        if v9 ≤ v14 then (
          some ((0 : Int32), h8))
        else (
          some ((3 : Int32), h8)))
      else (
        some ((1 : Int32), h2))))
theorem wX5_refusesBest (D : Dd) {x : Nat} {p1 : Int32} {p2 : Int32} {h : Hp} {r : Int32} {h' : Hp} (hf : fX5_refusesBest x p1 p2 h = some (r, h')) : ab_is h x 4 ∧ Ct D 2 42 yX5_refusesBest cX5_refusesBest 3 (some FieldType.int) [vR (some x), vI p1, vI p2] h (.inl (some (vI r))) h' := by
    unfold fX5_refusesBest at hf
    replace hf := ab_ckE hf; obtain ⟨i0, hf⟩ := hf
    refine ⟨i0, ?_⟩
    refine Ct.of (by decide) (L := [(0, vR (some x)), (1, vI p1), (2, vI p2)]) rfl (Nat.le_of_ble_eq_true rfl) (fun C A => ?_)
    refine xr_aload_n A dX5_refusesBest_0 0 rfl rfl ?_
    refine xr_iload_n A dX5_refusesBest_1 1 rfl rfl ?_
    revert hf; refine ab_b2I (fun v3 h2 m1 hf => ?_)
    refine xr_V A bX5_isCar (wX5_isCar D m1).2 xc_X5 (wX5_isCar D m1).1 q1765 qs70 q1763 (av := [vI p1]) (rest := []) rfl dX5_refusesBest_2 (Nat.le_of_ble_eq_true rfl) (Nat.le_of_ble_eq_true rfl) rfl (Nat.le_of_ble_eq_true rfl) ?_
    refine xr_if_eq A (tgt := 25) dX5_refusesBest_5 (by decide) (fun c5 => ?_) (fun c5 => ?_)
    · replace hf := ab_ip c5 hf
      refine xr_iconst A (v := 1) dX5_refusesBest_25 (by decide) ?_
      exact xr_ireturn A rfl hf dX5_refusesBest_26
    · replace hf := ab_in c5 hf
      refine xr_iload_n A dX5_refusesBest_8 2 rfl rfl ?_
      refine xr_if_lt A (tgt := 25) dX5_refusesBest_9 (by decide) (fun c9 => ?_) (fun c9 => ?_)
      · replace hf := ab_ip c9 hf
        refine xr_iconst A (v := 1) dX5_refusesBest_25 (by decide) ?_
        exact xr_ireturn A rfl hf dX5_refusesBest_26
      · replace hf := ab_in c9 hf
        refine xr_iload_n A dX5_refusesBest_12 2 rfl rfl ?_
        refine xr_iconst A (v := 1) dX5_refusesBest_13 (by decide) ?_
        refine xr_aload_n A dX5_refusesBest_14 0 rfl rfl ?_
        revert hf; refine ab_bdI (fun v4 mv4 hf => ?_)
        refine xr_get A xc_X5 in_X5 3 (Nat.le_of_ble_eq_true rfl) q1301 rfl (ab_gRE mv4) dX5_refusesBest_15 ?_
        revert hf; refine ab_bdI (fun a5 e hf => ?_); subst e
        revert hf; refine ab_bdI (fun v6 mv6 hf => ?_)
        refine xr_getN A xc_X15 in_X15 5 (Nat.le_of_ble_eq_true rfl) n1465 rfl (ab_gIE mv6) dX5_refusesBest_18 ?_
        refine xr_ishl A dX5_refusesBest_21 ?_
        refine xr_icmp_lt A (tgt := 27) dX5_refusesBest_22 (by decide) (fun c22 => ?_) (fun c22 => ?_)
        · replace hf := ab_ip c22 hf
          refine xr_iload_n A dX5_refusesBest_27 2 rfl rfl ?_
          revert hf; refine ab_b2I (fun v9 h8 m7 hf => ?_)
          refine xr_S A bX5_bits (wX5_bits D m7) q1835 q1834 (av := [vI p2]) (rest := []) rfl dX5_refusesBest_28 (Nat.le_of_ble_eq_true rfl) (Nat.le_of_ble_eq_true rfl) rfl (Nat.le_of_ble_eq_true rfl) ?_
          refine xr_aload_n A dX5_refusesBest_31 0 rfl rfl ?_
          revert hf; refine ab_bdI (fun v10 mv10 hf => ?_)
          refine xr_get A xc_X5 in_X5 3 (Nat.le_of_ble_eq_true rfl) q1301 rfl (ab_gRE mv10) dX5_refusesBest_32 ?_
          revert hf; refine ab_bdI (fun a11 e hf => ?_); subst e
          revert hf; refine ab_bdI (fun v12 mv12 hf => ?_)
          refine xr_getN A xc_X15 in_X15 28 (Nat.le_of_ble_eq_true rfl) n1508 rfl (ab_gRE mv12) dX5_refusesBest_35 ?_
          refine xr_iload_n A dX5_refusesBest_38 1 rfl rfl ?_
          revert hf; refine ab_bdI (fun a13 e hf => ?_); subst e
          revert hf; refine ab_bdI (fun v14 mv14 hf => ?_)
          refine xr_iaload A mv14 dX5_refusesBest_39 ?_
          refine xr_icmp_le A (tgt := 47) dX5_refusesBest_40 (by decide) (fun c40 => ?_) (fun c40 => ?_)
          · replace hf := ab_ip c40 hf
            refine xr_iconst A (v := 0) dX5_refusesBest_47 (by decide) ?_
            exact xr_ireturn A rfl hf dX5_refusesBest_48
          · replace hf := ab_in c40 hf
            refine xr_iconst A (v := 3) dX5_refusesBest_43 (by decide) ?_
            refine xr_goto A (tgt := 48) dX5_refusesBest_44 (by decide) ?_
            exact xr_ireturn A rfl hf dX5_refusesBest_48
        · replace hf := ab_in c22 hf
          refine xr_iconst A (v := 1) dX5_refusesBest_25 (by decide) ?_
          exact xr_ireturn A rfl hf dX5_refusesBest_26
