set_option maxRecDepth 100000
/-! J3_init -/
theorem bJ3_init : MB yJ3_init cJ3_init 4 (none : Option FieldType) 3 := ⟨q544, q101, by decide, by decide +kernel⟩
noncomputable def fJ3_init (x : Nat) (p1 : Option Nat) (p2 : Int32) (p3 : Int32) (h : Hp) : Option Hp :=
  ab_b2 (fJ3_rangeCheck p1 p2 p3 h) fun v3 h2 =>
  ab_bd (fJ3_init_2 x p1 p2 p3 v3 h2) fun h5 =>
  some h5
theorem wJ3_init (D : Dd) {x : Nat} {p1 : Option Nat} {p2 : Int32} {p3 : Int32} {h : Hp} {h' : Hp} (hf : fJ3_init x p1 p2 p3 h = some h') : Ct D 4 96 yJ3_init cJ3_init 4 (none : Option FieldType) [vR (some x), vR p1, vI p2, vI p3] h (.inl none) h' := by
    unfold fJ3_init at hf
    refine Ct.of (by decide) (L := [(0, vR (some x)), (1, vR p1), (2, vI p2), (3, vI p3)]) rfl (Nat.le_of_ble_eq_true rfl) (fun C A => ?_)
    refine xr_aload_n A dJ3_init_0 0 rfl rfl ?_
    refine xr_aload_n A dJ3_init_1 1 rfl rfl ?_
    refine xr_iload_n A dJ3_init_2 2 rfl rfl ?_
    refine xr_iload_n A dJ3_init_3 3 rfl rfl ?_
    refine xr_aload_n A dJ3_init_4 1 rfl rfl ?_
    refine xr_iload_n A dJ3_init_5 2 rfl rfl ?_
    refine xr_iload_n A dJ3_init_6 3 rfl rfl ?_
    revert hf; refine ab_b2I (fun v3 h2 m1 hf => ?_)
    refine xr_S A bJ3_rangeCheck (wJ3_rangeCheck D m1) q546 q545 (av := [vR p1, vI p2, vI p3]) (rest := [vI p3, vI p2, vR p1, vR (some x)]) rfl dJ3_init_7 (Nat.le_of_ble_eq_true rfl) (Nat.le_of_ble_eq_true rfl) rfl (Nat.le_of_ble_eq_true rfl) ?_
    revert hf; refine ab_bdI (fun h5 m4 hf => ?_)
    refine xr_I0 A bJ3_init_2 (wJ3_init_2 D m4) rfl q557 q556 (av := [vR p1, vI p2, vI p3, vR v3]) (rest := []) rfl dJ3_init_10 (Nat.le_of_ble_eq_true rfl) (Nat.le_of_ble_eq_true rfl) rfl (Nat.le_of_ble_eq_true rfl) ?_
    exact xr_return A hf dJ3_init_13
/-! X2_isDigit -/
theorem bX2_isDigit : MB yX2_isDigit cX2_isDigit 1 (some FieldType.boolean) 1 := ⟨q621, q93, by decide, by decide +kernel⟩
noncomputable def fX2_isDigit (p0 : Int32) (h : Hp) : Option (Int32 × Hp) :=
  ab_b2 (fX1_in p0 (48 : Int32) (57 : Int32) h) fun v3 h2 =>
  ab_rq (v3 = 0 ∨ v3 = 1) <|
  some (v3, h2)
theorem wX2_isDigit (D : Dd) {p0 : Int32} {h : Hp} {r : Int32} {h' : Hp} (hf : fX2_isDigit p0 h = some (r, h')) : Ct D 2 42 yX2_isDigit cX2_isDigit 1 (some FieldType.boolean) [vI p0] h (.inl (some (vI r))) h' := by
    unfold fX2_isDigit at hf
    refine Ct.of (by decide) (L := [(0, vI p0)]) rfl (Nat.le_of_ble_eq_true rfl) (fun C A => ?_)
    refine xr_iload_n A dX2_isDigit_0 0 rfl rfl ?_
    refine xr_bipush A (v := 48) dX2_isDigit_1 (by decide) ?_
    refine xr_bipush A (v := 57) dX2_isDigit_3 (by decide) ?_
    revert hf; refine ab_b2I (fun v3 h2 m1 hf => ?_)
    refine xr_SN A bX1_in (wX1_in D m1) q405 n539 (av := [vI p0, vI (48 : Int32), vI (57 : Int32)]) (rest := []) rfl dX2_isDigit_5 (Nat.le_of_ble_eq_true rfl) (Nat.le_of_ble_eq_true rfl) rfl (Nat.le_of_ble_eq_true rfl) ?_
    replace hf := ab_rqE hf; obtain ⟨c8, hf⟩ := hf
    exact xr_ireturn A (ab_nZ c8) hf dX2_isDigit_8
/-! X2_next -/
theorem bX2_next : MB yX2_next cX2_next 3 (none : Option FieldType) 0 := ⟨q531, q93, by decide, by decide +kernel⟩
noncomputable def fX2_next_l202 (x : Nat) : Nat → Int32 → Hp → Option Hp
  | 0, _, _ => none
  | n + 1, l1, h =>
  ab_bd (ab_gI h x 1 4) fun v1 =>
  ab_b2 (fX2_see x v1 h) fun v4 h3 =>
  ab_b2 (fX2_isDigit v4 h3) fun v7 h6 =>
  if v7 = 0 then (
    ab_bd (ab_gI h6 x 1 4) fun v8 =>
    if (v8 - l1) ≤ (3 : Int32) then (
      ab_bd (ab_pI h6 x 1 5 (3 : Int32)) fun h9 =>
      some h9)
    else (
      ab_bd (ab_pI h6 x 1 5 (1 : Int32)) fun h10 =>
      some h10))
  else (
    ab_bd (ab_gI h6 x 1 4) fun v11 =>
    if (3 : Int32) ≤ (v11 - l1) then (
      ab_bd (ab_gI h6 x 1 4) fun v12 =>
      ab_bd (ab_pI h6 x 1 4 (v12 + (1 : Int32))) fun h13 =>
      fX2_next_l202 x n l1 h13)
    else (
      ab_bd (ab_gI h6 x 1 7) fun v14 =>
      ab_bd (ab_gI h6 x 1 4) fun v15 =>
      ab_b2 (fX2_see x v15 h6) fun v18 h17 =>
      ab_bd (ab_pI h17 x 1 7 ((((10 : Int32) * v14) + v18) - (48 : Int32))) fun h19 =>
      ab_bd (ab_gI h19 x 1 4) fun v20 =>
      ab_bd (ab_pI h19 x 1 4 (v20 + (1 : Int32))) fun h21 =>
      fX2_next_l202 x n l1 h21))
theorem wX2_next_l202 {D : Dd} {C : Cx} {h0 h' : Hp} (A : Act C D (h0, (.inl none), h') yX2_next cX2_next 3 (none : Option FieldType) 5 119 []) {x : Nat} : ∀ (n : Nat) {l1 : Int32} {h : Hp}, fX2_next_l202 x n l1 h = some h' → X C D (h0, (.inl none), h') 3 202 [(0, vR (some x)), (1, vI l1)] [] h := by
  intro n
  induction n with
  | zero => intro l1 h hf; exact ab_no hf
  | succ n ih =>
    intro l1 h hf
    unfold fX2_next_l202 at hf
    refine xr_aload_n A dX2_next_202 0 rfl rfl ?_
    refine xr_aload_n A dX2_next_203 0 rfl rfl ?_
    revert hf; refine ab_bdI (fun v1 mv1 hf => ?_)
    refine xr_get A xc_X2 in_X2 4 (Nat.le_of_ble_eq_true rfl) q210 rfl (ab_gIE mv1) dX2_next_204 ?_
    revert hf; refine ab_b2I (fun v4 h3 m2 hf => ?_)
    refine xr_V A bX2_see (wX2_see D m2).2 xc_X2 (wX2_see D m2).1 q534 qs5 q532 (av := [vI v1]) (rest := []) rfl dX2_next_207 (Nat.le_of_ble_eq_true rfl) (Nat.le_of_ble_eq_true rfl) rfl (Nat.le_of_ble_eq_true rfl) ?_
    revert hf; refine ab_b2I (fun v7 h6 m5 hf => ?_)
    refine xr_S A bX2_isDigit (wX2_isDigit D m5) q620 q619 (av := [vI v4]) (rest := []) rfl dX2_next_210 (Nat.le_of_ble_eq_true rfl) (Nat.le_of_ble_eq_true rfl) rfl (Nat.le_of_ble_eq_true rfl) ?_
    refine xr_if_eq A (tgt := 262) dX2_next_213 (by decide) (fun c213 => ?_) (fun c213 => ?_)
    · replace hf := ab_ip c213 hf
      refine xr_aload_n A dX2_next_262 0 rfl rfl ?_
      refine xr_aload_n A dX2_next_263 0 rfl rfl ?_
      revert hf; refine ab_bdI (fun v8 mv8 hf => ?_)
      refine xr_get A xc_X2 in_X2 4 (Nat.le_of_ble_eq_true rfl) q210 rfl (ab_gIE mv8) dX2_next_264 ?_
      refine xr_iload_n A dX2_next_267 1 rfl rfl ?_
      refine xr_isub A dX2_next_268 ?_
      refine xr_iconst A (v := 3) dX2_next_269 (by decide) ?_
      refine xr_icmp_le A (tgt := 277) dX2_next_270 (by decide) (fun c270 => ?_) (fun c270 => ?_)
      · replace hf := ab_ip c270 hf
        refine xr_iconst A (v := 3) dX2_next_277 (by decide) ?_
        revert hf; refine ab_bdI (fun h9 mh9 hf => ?_)
        refine xr_put A xc_X2 in_X2 tyX2_ok nmX2 5 (Nat.le_of_ble_eq_true rfl) q211 rfl rfl (v := vI (3 : Int32)) rfl rfl mh9 dX2_next_278 ?_
        refine xr_goto A (tgt := 305) dX2_next_281 (by decide) ?_
        exact xr_return A hf dX2_next_305
      · replace hf := ab_in c270 hf
        refine xr_iconst A (v := 1) dX2_next_273 (by decide) ?_
        refine xr_goto A (tgt := 278) dX2_next_274 (by decide) ?_
        revert hf; refine ab_bdI (fun h10 mh10 hf => ?_)
        refine xr_put A xc_X2 in_X2 tyX2_ok nmX2 5 (Nat.le_of_ble_eq_true rfl) q211 rfl rfl (v := vI (1 : Int32)) rfl rfl mh10 dX2_next_278 ?_
        refine xr_goto A (tgt := 305) dX2_next_281 (by decide) ?_
        exact xr_return A hf dX2_next_305
    · replace hf := ab_in c213 hf
      refine xr_aload_n A dX2_next_216 0 rfl rfl ?_
      revert hf; refine ab_bdI (fun v11 mv11 hf => ?_)
      refine xr_get A xc_X2 in_X2 4 (Nat.le_of_ble_eq_true rfl) q210 rfl (ab_gIE mv11) dX2_next_217 ?_
      refine xr_iload_n A dX2_next_220 1 rfl rfl ?_
      refine xr_isub A dX2_next_221 ?_
      refine xr_iconst A (v := 3) dX2_next_222 (by decide) ?_
      refine xr_icmp_ge A (tgt := 249) dX2_next_223 (by decide) (fun c223 => ?_) (fun c223 => ?_)
      · replace hf := ab_ip c223 hf
        refine xr_aload_n A dX2_next_249 0 rfl rfl ?_
        refine xr_dup A dX2_next_250 rfl ?_
        revert hf; refine ab_bdI (fun v12 mv12 hf => ?_)
        refine xr_get A xc_X2 in_X2 4 (Nat.le_of_ble_eq_true rfl) q210 rfl (ab_gIE mv12) dX2_next_251 ?_
        refine xr_iconst A (v := 1) dX2_next_254 (by decide) ?_
        refine xr_iadd A dX2_next_255 ?_
        revert hf; refine ab_bdI (fun h13 mh13 hf => ?_)
        refine xr_put A xc_X2 in_X2 tyX2_ok nmX2 4 (Nat.le_of_ble_eq_true rfl) q210 rfl rfl (v := vI (v12 + (1 : Int32))) rfl rfl mh13 dX2_next_256 ?_
        refine xr_goto A (tgt := 202) dX2_next_259 (by decide) ?_
        exact ih hf
      · replace hf := ab_in c223 hf
        refine xr_aload_n A dX2_next_226 0 rfl rfl ?_
        refine xr_bipush A (v := 10) dX2_next_227 (by decide) ?_
        refine xr_aload_n A dX2_next_229 0 rfl rfl ?_
        revert hf; refine ab_bdI (fun v14 mv14 hf => ?_)
        refine xr_get A xc_X2 in_X2 7 (Nat.le_of_ble_eq_true rfl) q213 rfl (ab_gIE mv14) dX2_next_230 ?_
        refine xr_imul A dX2_next_233 ?_
        refine xr_aload_n A dX2_next_234 0 rfl rfl ?_
        refine xr_aload_n A dX2_next_235 0 rfl rfl ?_
        revert hf; refine ab_bdI (fun v15 mv15 hf => ?_)
        refine xr_get A xc_X2 in_X2 4 (Nat.le_of_ble_eq_true rfl) q210 rfl (ab_gIE mv15) dX2_next_236 ?_
        revert hf; refine ab_b2I (fun v18 h17 m16 hf => ?_)
        refine xr_V A bX2_see (wX2_see D m16).2 xc_X2 (wX2_see D m16).1 q534 qs5 q532 (av := [vI v15]) (rest := [vI ((10 : Int32) * v14), vR (some x)]) rfl dX2_next_239 (Nat.le_of_ble_eq_true rfl) (Nat.le_of_ble_eq_true rfl) rfl (Nat.le_of_ble_eq_true rfl) ?_
        refine xr_iadd A dX2_next_242 ?_
        refine xr_bipush A (v := 48) dX2_next_243 (by decide) ?_
        refine xr_isub A dX2_next_245 ?_
        revert hf; refine ab_bdI (fun h19 mh19 hf => ?_)
        refine xr_put A xc_X2 in_X2 tyX2_ok nmX2 7 (Nat.le_of_ble_eq_true rfl) q213 rfl rfl (v := vI ((((10 : Int32) * v14) + v18) - (48 : Int32))) rfl rfl mh19 dX2_next_246 ?_
        refine xr_aload_n A dX2_next_249 0 rfl rfl ?_
        refine xr_dup A dX2_next_250 rfl ?_
        revert hf; refine ab_bdI (fun v20 mv20 hf => ?_)
        refine xr_get A xc_X2 in_X2 4 (Nat.le_of_ble_eq_true rfl) q210 rfl (ab_gIE mv20) dX2_next_251 ?_
        refine xr_iconst A (v := 1) dX2_next_254 (by decide) ?_
        refine xr_iadd A dX2_next_255 ?_
        revert hf; refine ab_bdI (fun h21 mh21 hf => ?_)
        refine xr_put A xc_X2 in_X2 tyX2_ok nmX2 4 (Nat.le_of_ble_eq_true rfl) q210 rfl rfl (v := vI (v20 + (1 : Int32))) rfl rfl mh21 dX2_next_256 ?_
        refine xr_goto A (tgt := 202) dX2_next_259 (by decide) ?_
        exact ih hf
noncomputable def fX2_next_b144 (x : Nat) (l1 : Int32) (s0 : Int32) (s1 : Nat) (h : Hp) : Option Hp :=
  ab_bd (ab_pI h s1 1 5 s0) fun h1 =>
  ab_bd (ab_gI h1 x 1 5) fun v2 =>
  if v2 = (2 : Int32) then (
    ab_b2 (ab_new h1 14 4 tyJ3) fun a4 h5 =>
    ab_bd (ab_gR h5 x 1 2) fun v6 =>
    ab_bd (ab_gI h5 x 1 4) fun v7 =>
    ab_bd (fJ3_init a4 v6 (0 : Int32) (v7 - l1) h5) fun h9 =>
    ab_bd (ab_pR h9 x 1 8 (some a4)) fun h10 =>
    some h10)
  else (
    ab_bd (ab_pR h1 x 1 8 (some (hstr h1 0))) fun h3 =>
    some h3)
theorem wX2_next_b144 {D : Dd} {C : Cx} {h0 h' : Hp} (A : Act C D (h0, (.inl none), h') yX2_next cX2_next 3 (none : Option FieldType) 5 119 []) {x : Nat} {l1 : Int32} {s0 : Int32} {s1 : Nat} {h : Hp} (hf : fX2_next_b144 x l1 s0 s1 h = some h') : X C D (h0, (.inl none), h') 3 144 [(0, vR (some x)), (1, vI l1)] [vI s0, vR (some s1)] h := by
  unfold fX2_next_b144 at hf
  revert hf; refine ab_bdI (fun h1 mh1 hf => ?_)
  refine xr_put A xc_X2 in_X2 tyX2_ok nmX2 5 (Nat.le_of_ble_eq_true rfl) q211 rfl rfl (v := vI s0) rfl rfl mh1 dX2_next_144 ?_
  refine xr_aload_n A dX2_next_147 0 rfl rfl ?_
  refine xr_aload_n A dX2_next_148 0 rfl rfl ?_
  revert hf; refine ab_bdI (fun v2 mv2 hf => ?_)
  refine xr_get A xc_X2 in_X2 5 (Nat.le_of_ble_eq_true rfl) q211 rfl (ab_gIE mv2) dX2_next_149 ?_
  refine xr_iconst A (v := 2) dX2_next_152 (by decide) ?_
  refine xr_icmp_ne A (tgt := 177) dX2_next_153 (by decide) (fun c153 => ?_) (fun c153 => ?_)
  · replace hf := ab_in c153 hf
    refine xr_ldcs A t618 dX2_next_177 ?_
    revert hf; refine ab_bdI (fun h3 mh3 hf => ?_)
    refine xr_put A xc_X2 in_X2 tyX2_ok nmX2 8 (Nat.le_of_ble_eq_true rfl) q214 rfl rfl (v := vR (some (hstr h1 0))) (ab_nR _ rfl) (ab_tR _ rfl) mh3 dX2_next_179 ?_
    refine xr_goto A (tgt := 305) dX2_next_182 (by decide) ?_
    exact xr_return A hf dX2_next_305
  · replace hf := ab_ip c153 hf
    revert hf; refine ab_b2I (fun a4 h5 mh5 hf => ?_)
    refine xr_new A xc_J3 in_J3 tyJ3_ok q540 q541 q101 mh5 dX2_next_156 ?_
    refine xr_dup A dX2_next_159 rfl ?_
    refine xr_aload_n A dX2_next_160 0 rfl rfl ?_
    revert hf; refine ab_bdI (fun v6 mv6 hf => ?_)
    refine xr_get A xc_X2 in_X2 2 (Nat.le_of_ble_eq_true rfl) q208 rfl (ab_gRE mv6) dX2_next_161 ?_
    refine xr_iconst A (v := 0) dX2_next_164 (by decide) ?_
    refine xr_aload_n A dX2_next_165 0 rfl rfl ?_
    revert hf; refine ab_bdI (fun v7 mv7 hf => ?_)
    refine xr_get A xc_X2 in_X2 4 (Nat.le_of_ble_eq_true rfl) q210 rfl (ab_gIE mv7) dX2_next_166 ?_
    refine xr_iload_n A dX2_next_169 1 rfl rfl ?_
    refine xr_isub A dX2_next_170 ?_
    revert hf; refine ab_bdI (fun h9 m8 hf => ?_)
    refine xr_I0 A bJ3_init (wJ3_init D m8) rfl q543 q542 (av := [vR v6, vI (0 : Int32), vI (v7 - l1)]) (rest := [vR (some a4), vR (some x)]) rfl dX2_next_171 (Nat.le_of_ble_eq_true rfl) (Nat.le_of_ble_eq_true rfl) rfl (Nat.le_of_ble_eq_true rfl) ?_
    refine xr_goto A (tgt := 179) dX2_next_174 (by decide) ?_
    revert hf; refine ab_bdI (fun h10 mh10 hf => ?_)
    refine xr_put A xc_X2 in_X2 tyX2_ok nmX2 8 (Nat.le_of_ble_eq_true rfl) q214 rfl rfl (v := vR (some a4)) (ab_nR _ rfl) (ab_tR _ rfl) mh10 dX2_next_179 ?_
    refine xr_goto A (tgt := 305) dX2_next_182 (by decide) ?_
    exact xr_return A hf dX2_next_305
noncomputable def fX2_next_l69 (x : Nat) : Nat → Int32 → Hp → Option Hp
  | 0, _, _ => none
  | n + 1, l1, h =>
  ab_bd (ab_gI h x 1 4) fun v1 =>
  ab_b2 (fX2_see x v1 h) fun v4 h3 =>
  ab_b2 (fX2_isSmall v4 h3) fun v7 h6 =>
  if v7 = 0 then (
    ab_bd (ab_gI h6 x 1 4) fun v8 =>
    if (v8 - l1) ≤ (8 : Int32) then (
      fX2_next_b144 x l1 (2 : Int32) x h6)
    else (
      fX2_next_b144 x l1 (1 : Int32) x h6))
  else (
    ab_bd (ab_gI h6 x 1 4) fun v9 =>
    if (8 : Int32) ≤ (v9 - l1) then (
      ab_bd (ab_gI h6 x 1 4) fun v10 =>
      ab_bd (ab_pI h6 x 1 4 (v10 + (1 : Int32))) fun h11 =>
      fX2_next_l69 x n l1 h11)
    else (
      ab_bd (ab_gR h6 x 1 2) fun v12 =>
      ab_bd (ab_gI h6 x 1 4) fun v13 =>
      ab_bd (ab_gI h6 x 1 4) fun v14 =>
      ab_b2 (fX2_see x v14 h6) fun v17 h16 =>
      ab_bd v12 fun a18 =>
      ab_bd (ab_sC h16 a18 (v13 - l1) (v17.toUInt32 % 65536).toInt32) fun h19 =>
      ab_bd (ab_gI h19 x 1 4) fun v20 =>
      ab_bd (ab_pI h19 x 1 4 (v20 + (1 : Int32))) fun h21 =>
      fX2_next_l69 x n l1 h21))
theorem wX2_next_l69 {D : Dd} {C : Cx} {h0 h' : Hp} (A : Act C D (h0, (.inl none), h') yX2_next cX2_next 3 (none : Option FieldType) 5 119 []) {x : Nat} : ∀ (n : Nat) {l1 : Int32} {h : Hp}, fX2_next_l69 x n l1 h = some h' → X C D (h0, (.inl none), h') 3 69 [(0, vR (some x)), (1, vI l1)] [] h := by
  intro n
  induction n with
  | zero => intro l1 h hf; exact ab_no hf
  | succ n ih =>
    intro l1 h hf
    unfold fX2_next_l69 at hf
    refine xr_aload_n A dX2_next_69 0 rfl rfl ?_
    refine xr_aload_n A dX2_next_70 0 rfl rfl ?_
    revert hf; refine ab_bdI (fun v1 mv1 hf => ?_)
    refine xr_get A xc_X2 in_X2 4 (Nat.le_of_ble_eq_true rfl) q210 rfl (ab_gIE mv1) dX2_next_71 ?_
    revert hf; refine ab_b2I (fun v4 h3 m2 hf => ?_)
    refine xr_V A bX2_see (wX2_see D m2).2 xc_X2 (wX2_see D m2).1 q534 qs5 q532 (av := [vI v1]) (rest := []) rfl dX2_next_74 (Nat.le_of_ble_eq_true rfl) (Nat.le_of_ble_eq_true rfl) rfl (Nat.le_of_ble_eq_true rfl) ?_
    revert hf; refine ab_b2I (fun v7 h6 m5 hf => ?_)
    refine xr_S A bX2_isSmall (wX2_isSmall D m5) q537 q536 (av := [vI v4]) (rest := []) rfl dX2_next_77 (Nat.le_of_ble_eq_true rfl) (Nat.le_of_ble_eq_true rfl) rfl (Nat.le_of_ble_eq_true rfl) ?_
    refine xr_if_eq A (tgt := 127) dX2_next_80 (by decide) (fun c80 => ?_) (fun c80 => ?_)
    · replace hf := ab_ip c80 hf
      refine xr_aload_n A dX2_next_127 0 rfl rfl ?_
      refine xr_aload_n A dX2_next_128 0 rfl rfl ?_
      revert hf; refine ab_bdI (fun v8 mv8 hf => ?_)
      refine xr_get A xc_X2 in_X2 4 (Nat.le_of_ble_eq_true rfl) q210 rfl (ab_gIE mv8) dX2_next_129 ?_
      refine xr_iload_n A dX2_next_132 1 rfl rfl ?_
      refine xr_isub A dX2_next_133 ?_
      refine xr_bipush A (v := 8) dX2_next_134 (by decide) ?_
      refine xr_icmp_le A (tgt := 143) dX2_next_136 (by decide) (fun c136 => ?_) (fun c136 => ?_)
      · replace hf := ab_ip c136 hf
        refine xr_iconst A (v := 2) dX2_next_143 (by decide) ?_
        exact wX2_next_b144 A hf
      · replace hf := ab_in c136 hf
        refine xr_iconst A (v := 1) dX2_next_139 (by decide) ?_
        refine xr_goto A (tgt := 144) dX2_next_140 (by decide) ?_
        exact wX2_next_b144 A hf
    · replace hf := ab_in c80 hf
      refine xr_aload_n A dX2_next_83 0 rfl rfl ?_
      revert hf; refine ab_bdI (fun v9 mv9 hf => ?_)
      refine xr_get A xc_X2 in_X2 4 (Nat.le_of_ble_eq_true rfl) q210 rfl (ab_gIE mv9) dX2_next_84 ?_
      refine xr_iload_n A dX2_next_87 1 rfl rfl ?_
      refine xr_isub A dX2_next_88 ?_
      refine xr_bipush A (v := 8) dX2_next_89 (by decide) ?_
      refine xr_icmp_ge A (tgt := 114) dX2_next_91 (by decide) (fun c91 => ?_) (fun c91 => ?_)
      · replace hf := ab_ip c91 hf
        refine xr_aload_n A dX2_next_114 0 rfl rfl ?_
        refine xr_dup A dX2_next_115 rfl ?_
        revert hf; refine ab_bdI (fun v10 mv10 hf => ?_)
        refine xr_get A xc_X2 in_X2 4 (Nat.le_of_ble_eq_true rfl) q210 rfl (ab_gIE mv10) dX2_next_116 ?_
        refine xr_iconst A (v := 1) dX2_next_119 (by decide) ?_
        refine xr_iadd A dX2_next_120 ?_
        revert hf; refine ab_bdI (fun h11 mh11 hf => ?_)
        refine xr_put A xc_X2 in_X2 tyX2_ok nmX2 4 (Nat.le_of_ble_eq_true rfl) q210 rfl rfl (v := vI (v10 + (1 : Int32))) rfl rfl mh11 dX2_next_121 ?_
        refine xr_goto A (tgt := 69) dX2_next_124 (by decide) ?_
        exact ih hf
      · replace hf := ab_in c91 hf
        refine xr_aload_n A dX2_next_94 0 rfl rfl ?_
        revert hf; refine ab_bdI (fun v12 mv12 hf => ?_)
        refine xr_get A xc_X2 in_X2 2 (Nat.le_of_ble_eq_true rfl) q208 rfl (ab_gRE mv12) dX2_next_95 ?_
        refine xr_aload_n A dX2_next_98 0 rfl rfl ?_
        revert hf; refine ab_bdI (fun v13 mv13 hf => ?_)
        refine xr_get A xc_X2 in_X2 4 (Nat.le_of_ble_eq_true rfl) q210 rfl (ab_gIE mv13) dX2_next_99 ?_
        refine xr_iload_n A dX2_next_102 1 rfl rfl ?_
        refine xr_isub A dX2_next_103 ?_
        refine xr_aload_n A dX2_next_104 0 rfl rfl ?_
        refine xr_aload_n A dX2_next_105 0 rfl rfl ?_
        revert hf; refine ab_bdI (fun v14 mv14 hf => ?_)
        refine xr_get A xc_X2 in_X2 4 (Nat.le_of_ble_eq_true rfl) q210 rfl (ab_gIE mv14) dX2_next_106 ?_
        revert hf; refine ab_b2I (fun v17 h16 m15 hf => ?_)
        refine xr_V A bX2_see (wX2_see D m15).2 xc_X2 (wX2_see D m15).1 q534 qs5 q532 (av := [vI v14]) (rest := [vI (v13 - l1), vR v12]) rfl dX2_next_109 (Nat.le_of_ble_eq_true rfl) (Nat.le_of_ble_eq_true rfl) rfl (Nat.le_of_ble_eq_true rfl) ?_
        refine xr_i2c A dX2_next_112 ?_
        revert hf; refine ab_bdI (fun a18 e hf => ?_); subst e
        revert hf; refine ab_bdI (fun h19 mh19 hf => ?_)
        refine xr_castore A mh19 dX2_next_113 ?_
        refine xr_aload_n A dX2_next_114 0 rfl rfl ?_
        refine xr_dup A dX2_next_115 rfl ?_
        revert hf; refine ab_bdI (fun v20 mv20 hf => ?_)
        refine xr_get A xc_X2 in_X2 4 (Nat.le_of_ble_eq_true rfl) q210 rfl (ab_gIE mv20) dX2_next_116 ?_
        refine xr_iconst A (v := 1) dX2_next_119 (by decide) ?_
        refine xr_iadd A dX2_next_120 ?_
        revert hf; refine ab_bdI (fun h21 mh21 hf => ?_)
        refine xr_put A xc_X2 in_X2 tyX2_ok nmX2 4 (Nat.le_of_ble_eq_true rfl) q210 rfl rfl (v := vI (v20 + (1 : Int32))) rfl rfl mh21 dX2_next_121 ?_
        refine xr_goto A (tgt := 69) dX2_next_124 (by decide) ?_
        exact ih hf
noncomputable def fX2_next_l5 (x : Nat) : Nat → Int32 → Hp → Option Hp
  | 0, _, _ => none
  | n + 1, l1, h =>
  ab_b2 (fX2_see x l1 h) fun v3 h2 =>
  if v3 = (32 : Int32) then (
    fX2_next_l5 x n (l1 + (1 : Int32)) h2)
  else (
    ab_bd (ab_pI h2 x 1 6 l1) fun h4 =>
    ab_bd (ab_pI h4 x 1 4 (l1 + (1 : Int32))) fun h5 =>
    ab_b2 (fX2_see x l1 h5) fun v8 h7 =>
    if v8 = (-1 : Int32) then (
      ab_bd (ab_pI h7 x 1 5 (0 : Int32)) fun h21 =>
      ab_bd (ab_pI h21 x 1 4 l1) fun h22 =>
      some h22)
    else (
      ab_b2 (fX2_isSmall v8 h7) fun v11 h10 =>
      if v11 = 0 then (
        ab_b2 (fX2_isDigit v8 h10) fun v14 h13 =>
        if v14 = 0 then (
          if v8 = (59 : Int32) then (
            ab_bd (ab_pI h13 x 1 5 v8) fun h15 =>
            some h15)
          else (
            if v8 = (44 : Int32) then (
              ab_bd (ab_pI h13 x 1 5 v8) fun h17 =>
              some h17)
            else (
              ab_bd (ab_pI h13 x 1 5 (1 : Int32)) fun h16 =>
              some h16)))
        else (
          ab_bd (ab_pI h13 x 1 7 (0 : Int32)) fun h18 =>
          ab_bd (ab_pI h18 x 1 4 l1) fun h19 =>
          fX2_next_l202 x (hfu h19) l1 h19))
      else (
        ab_bd (ab_pI h10 x 1 4 l1) fun h20 =>
        fX2_next_l69 x (hfu h20) l1 h20)))
theorem wX2_next_l5 {D : Dd} {C : Cx} {h0 h' : Hp} (A : Act C D (h0, (.inl none), h') yX2_next cX2_next 3 (none : Option FieldType) 5 119 []) {x : Nat} : ∀ (n : Nat) {l1 : Int32} {h : Hp}, fX2_next_l5 x n l1 h = some h' → X C D (h0, (.inl none), h') 3 5 [(0, vR (some x)), (1, vI l1)] [] h := by
  intro n
  induction n with
  | zero => intro l1 h hf; exact ab_no hf
  | succ n ih =>
    intro l1 h hf
    unfold fX2_next_l5 at hf
    refine xr_aload_n A dX2_next_5 0 rfl rfl ?_
    refine xr_iload_n A dX2_next_6 1 rfl rfl ?_
    revert hf; refine ab_b2I (fun v3 h2 m1 hf => ?_)
    refine xr_V A bX2_see (wX2_see D m1).2 xc_X2 (wX2_see D m1).1 q534 qs5 q532 (av := [vI l1]) (rest := []) rfl dX2_next_7 (Nat.le_of_ble_eq_true rfl) (Nat.le_of_ble_eq_true rfl) rfl (Nat.le_of_ble_eq_true rfl) ?_
    refine xr_bipush A (v := 32) dX2_next_10 (by decide) ?_
    refine xr_icmp_ne A (tgt := 21) dX2_next_12 (by decide) (fun c12 => ?_) (fun c12 => ?_)
    · replace hf := ab_in c12 hf
      refine xr_aload_n A dX2_next_21 0 rfl rfl ?_
      refine xr_iload_n A dX2_next_22 1 rfl rfl ?_
      revert hf; refine ab_bdI (fun h4 mh4 hf => ?_)
      refine xr_put A xc_X2 in_X2 tyX2_ok nmX2 6 (Nat.le_of_ble_eq_true rfl) q212 rfl rfl (v := vI l1) rfl rfl mh4 dX2_next_23 ?_
      refine xr_aload_n A dX2_next_26 0 rfl rfl ?_
      refine xr_iload_n A dX2_next_27 1 rfl rfl ?_
      refine xr_iconst A (v := 1) dX2_next_28 (by decide) ?_
      refine xr_iadd A dX2_next_29 ?_
      revert hf; refine ab_bdI (fun h5 mh5 hf => ?_)
      refine xr_put A xc_X2 in_X2 tyX2_ok nmX2 4 (Nat.le_of_ble_eq_true rfl) q210 rfl rfl (v := vI (l1 + (1 : Int32))) rfl rfl mh5 dX2_next_30 ?_
      refine xr_aload_n A dX2_next_33 0 rfl rfl ?_
      refine xr_iload_n A dX2_next_34 1 rfl rfl ?_
      revert hf; refine ab_b2I (fun v8 h7 m6 hf => ?_)
      refine xr_V A bX2_see (wX2_see D m6).2 xc_X2 (wX2_see D m6).1 q534 qs5 q532 (av := [vI l1]) (rest := []) rfl dX2_next_35 (Nat.le_of_ble_eq_true rfl) (Nat.le_of_ble_eq_true rfl) rfl (Nat.le_of_ble_eq_true rfl) ?_
      refine xr_istore_n A dX2_next_38 rfl (Nat.le_of_ble_eq_true rfl) (L' := [(2, vI v8), (0, vR (some x)), (1, vI l1)]) rfl ?_
      refine xr_iload_n A dX2_next_39 0 rfl rfl ?_
      refine xr_iconst A (v := (-1)) dX2_next_40 (by decide) ?_
      refine xr_icmp_ne A (tgt := 57) dX2_next_41 (by decide) (fun c41 => ?_) (fun c41 => ?_)
      · replace hf := ab_in c41 hf
        refine xr_iload_n A dX2_next_57 0 rfl rfl ?_
        revert hf; refine ab_b2I (fun v11 h10 m9 hf => ?_)
        refine xr_S A bX2_isSmall (wX2_isSmall D m9) q537 q536 (av := [vI v8]) (rest := []) rfl dX2_next_58 (Nat.le_of_ble_eq_true rfl) (Nat.le_of_ble_eq_true rfl) rfl (Nat.le_of_ble_eq_true rfl) ?_
        refine xr_if_eq A (tgt := 185) dX2_next_61 (by decide) (fun c61 => ?_) (fun c61 => ?_)
        · replace hf := ab_ip c61 hf
          refine xr_iload_n A dX2_next_185 0 rfl rfl ?_
          revert hf; refine ab_b2I (fun v14 h13 m12 hf => ?_)
          refine xr_S A bX2_isDigit (wX2_isDigit D m12) q620 q619 (av := [vI v8]) (rest := []) rfl dX2_next_186 (Nat.le_of_ble_eq_true rfl) (Nat.le_of_ble_eq_true rfl) rfl (Nat.le_of_ble_eq_true rfl) ?_
          refine xr_if_eq A (tgt := 284) dX2_next_189 (by decide) (fun c189 => ?_) (fun c189 => ?_)
          · replace hf := ab_ip c189 hf
            refine xr_aload_n A dX2_next_284 1 rfl rfl ?_
            refine xr_iload_n A dX2_next_285 0 rfl rfl ?_
            refine xr_bipush A (v := 59) dX2_next_286 (by decide) ?_
            refine xr_icmp_eq A (tgt := 297) dX2_next_288 (by decide) (fun c288 => ?_) (fun c288 => ?_)
            · replace hf := ab_ip c288 hf
              refine xr_iload_n A dX2_next_297 0 rfl rfl ?_
              refine xr_goto A (tgt := 302) dX2_next_298 (by decide) ?_
              revert hf; refine ab_bdI (fun h15 mh15 hf => ?_)
              refine xr_put A xc_X2 in_X2 tyX2_ok nmX2 5 (Nat.le_of_ble_eq_true rfl) q211 rfl rfl (v := vI v8) rfl rfl mh15 dX2_next_302 ?_
              exact xr_return A hf dX2_next_305
            · replace hf := ab_in c288 hf
              refine xr_iload_n A dX2_next_291 0 rfl rfl ?_
              refine xr_bipush A (v := 44) dX2_next_292 (by decide) ?_
              refine xr_icmp_ne A (tgt := 301) dX2_next_294 (by decide) (fun c294 => ?_) (fun c294 => ?_)
              · replace hf := ab_in c294 hf
                refine xr_iconst A (v := 1) dX2_next_301 (by decide) ?_
                revert hf; refine ab_bdI (fun h16 mh16 hf => ?_)
                refine xr_put A xc_X2 in_X2 tyX2_ok nmX2 5 (Nat.le_of_ble_eq_true rfl) q211 rfl rfl (v := vI (1 : Int32)) rfl rfl mh16 dX2_next_302 ?_
                exact xr_return A hf dX2_next_305
              · replace hf := ab_ip c294 hf
                refine xr_iload_n A dX2_next_297 0 rfl rfl ?_
                refine xr_goto A (tgt := 302) dX2_next_298 (by decide) ?_
                revert hf; refine ab_bdI (fun h17 mh17 hf => ?_)
                refine xr_put A xc_X2 in_X2 tyX2_ok nmX2 5 (Nat.le_of_ble_eq_true rfl) q211 rfl rfl (v := vI v8) rfl rfl mh17 dX2_next_302 ?_
                exact xr_return A hf dX2_next_305
          · replace hf := ab_in c189 hf
            refine xr_aload_n A dX2_next_192 1 rfl rfl ?_
            refine xr_iconst A (v := 0) dX2_next_193 (by decide) ?_
            revert hf; refine ab_bdI (fun h18 mh18 hf => ?_)
            refine xr_put A xc_X2 in_X2 tyX2_ok nmX2 7 (Nat.le_of_ble_eq_true rfl) q213 rfl rfl (v := vI (0 : Int32)) rfl rfl mh18 dX2_next_194 ?_
            refine xr_aload_n A dX2_next_197 1 rfl rfl ?_
            refine xr_iload_n A dX2_next_198 2 rfl rfl ?_
            revert hf; refine ab_bdI (fun h19 mh19 hf => ?_)
            refine xr_put A xc_X2 in_X2 tyX2_ok nmX2 4 (Nat.le_of_ble_eq_true rfl) q210 rfl rfl (v := vI l1) rfl rfl mh19 dX2_next_199 ?_
            refine X.sub [1, 2] rfl ?_
            exact wX2_next_l202 A _ hf
        · replace hf := ab_in c61 hf
          refine xr_aload_n A dX2_next_64 1 rfl rfl ?_
          refine xr_iload_n A dX2_next_65 2 rfl rfl ?_
          revert hf; refine ab_bdI (fun h20 mh20 hf => ?_)
          refine xr_put A xc_X2 in_X2 tyX2_ok nmX2 4 (Nat.le_of_ble_eq_true rfl) q210 rfl rfl (v := vI l1) rfl rfl mh20 dX2_next_66 ?_
          refine X.sub [1, 2] rfl ?_
          exact wX2_next_l69 A _ hf
      · replace hf := ab_ip c41 hf
        refine xr_aload_n A dX2_next_44 1 rfl rfl ?_
        refine xr_iconst A (v := 0) dX2_next_45 (by decide) ?_
        revert hf; refine ab_bdI (fun h21 mh21 hf => ?_)
        refine xr_put A xc_X2 in_X2 tyX2_ok nmX2 5 (Nat.le_of_ble_eq_true rfl) q211 rfl rfl (v := vI (0 : Int32)) rfl rfl mh21 dX2_next_46 ?_
        refine xr_aload_n A dX2_next_49 1 rfl rfl ?_
        refine xr_iload_n A dX2_next_50 2 rfl rfl ?_
        revert hf; refine ab_bdI (fun h22 mh22 hf => ?_)
        refine xr_put A xc_X2 in_X2 tyX2_ok nmX2 4 (Nat.le_of_ble_eq_true rfl) q210 rfl rfl (v := vI l1) rfl rfl mh22 dX2_next_51 ?_
        refine xr_goto A (tgt := 305) dX2_next_54 (by decide) ?_
        exact xr_return A hf dX2_next_305
    · replace hf := ab_ip c12 hf
      refine xr_iinc A dX2_next_15 1 rfl (v := (l1 + (1 : Int32))) rfl (Nat.le_of_ble_eq_true rfl) (L' := [(1, vI (l1 + (1 : Int32))), (0, vR (some x))]) rfl ?_
      refine xr_goto A (tgt := 5) dX2_next_18 (by decide) ?_
      refine X.sub [1, 0] rfl ?_
      exact ih hf
noncomputable def fX2_next (x : Nat) (h : Hp) : Option Hp :=
  ab_ck h x 1 <|
  ab_bd (ab_gI h x 1 4) fun v1 =>
  fX2_next_l5 x (hfu h) v1 h
theorem wX2_next (D : Dd) {x : Nat} {h : Hp} {h' : Hp} (hf : fX2_next x h = some h') : ab_is h x 1 ∧ Ct D 5 119 yX2_next cX2_next 3 (none : Option FieldType) [vR (some x)] h (.inl none) h' := by
    unfold fX2_next at hf
    replace hf := ab_ckE hf; obtain ⟨i0, hf⟩ := hf
    refine ⟨i0, ?_⟩
    refine Ct.of (by decide) (L := [(0, vR (some x))]) rfl (Nat.le_of_ble_eq_true rfl) (fun C A => ?_)
    refine xr_aload_n A dX2_next_0 0 rfl rfl ?_
    revert hf; refine ab_bdI (fun v1 mv1 hf => ?_)
    refine xr_get A xc_X2 in_X2 4 (Nat.le_of_ble_eq_true rfl) q210 rfl (ab_gIE mv1) dX2_next_1 ?_
    refine xr_istore_n A dX2_next_4 rfl (Nat.le_of_ble_eq_true rfl) (L' := [(1, vI v1), (0, vR (some x))]) rfl ?_
    refine X.sub [1, 0] rfl ?_
    exact wX2_next_l5 A _ hf
/-! X3_at -/
theorem bX3_at : MB yX3_at cX3_at 3 (some (FieldType.object "NoonMeals$Refused")) 2 := ⟨q633, q97, by decide, by decide +kernel⟩
noncomputable def fX3_at (x : Nat) (p1 : Int32) (p2 : Int32) (h : Hp) : Option ((Option Nat) × Hp) :=
  ab_ck h x 2 <|
  ab_bd (ab_pI h x 2 6 p1) fun h1 =>
  ab_bd (ab_pI h1 x 2 7 p2) fun h2 =>
  some ((some x), h2)
theorem wX3_at (D : Dd) {x : Nat} {p1 : Int32} {p2 : Int32} {h : Hp} {r : Option Nat} {h' : Hp} (hf : fX3_at x p1 p2 h = some (r, h')) : ab_is h x 2 ∧ Ct D 1 20 yX3_at cX3_at 3 (some (FieldType.object "NoonMeals$Refused")) [vR (some x), vI p1, vI p2] h (.inl (some (vR r))) h' := by
    unfold fX3_at at hf
    replace hf := ab_ckE hf; obtain ⟨i0, hf⟩ := hf
    refine ⟨i0, ?_⟩
    refine Ct.of (by decide) (L := [(0, vR (some x)), (1, vI p1), (2, vI p2)]) rfl (Nat.le_of_ble_eq_true rfl) (fun C A => ?_)
    refine xr_aload_n A dX3_at_0 0 rfl rfl ?_
    refine xr_iload_n A dX3_at_1 1 rfl rfl ?_
    revert hf; refine ab_bdI (fun h1 mh1 hf => ?_)
    refine xr_put A xc_X3 in_X3 tyX3_ok nmX3 6 (Nat.le_of_ble_eq_true rfl) q184 rfl rfl (v := vI p1) rfl rfl mh1 dX3_at_2 ?_
    refine xr_aload_n A dX3_at_5 0 rfl rfl ?_
    refine xr_iload_n A dX3_at_6 2 rfl rfl ?_
    revert hf; refine ab_bdI (fun h2 mh2 hf => ?_)
    refine xr_put A xc_X3 in_X3 tyX3_ok nmX3 7 (Nat.le_of_ble_eq_true rfl) q186 rfl rfl (v := vI p2) rfl rfl mh2 dX3_at_7 ?_
    refine xr_aload_n A dX3_at_10 0 rfl rfl ?_
    exact xr_areturn A (Or.inl ⟨_, rfl⟩) hf dX3_at_11
/-! X2_fail -/
theorem bX2_fail : MB yX2_fail cX2_fail 2 (some (FieldType.object "NoonMeals$Refused")) 1 := ⟨q629, q93, by decide, by decide +kernel⟩
noncomputable def fX2_fail (x : Nat) (p1 : Int32) (h : Hp) : Option ((Option Nat) × Hp) :=
  ab_ck h x 1 <|
  ab_bd (ab_gR h x 1 0) fun v1 =>
  ab_bd (ab_gI h x 1 6) fun v2 =>
  ab_bd v1 fun a3 =>
  ab_b2 (fX3_at a3 p1 v2 h) fun v6 h5 =>
  some (v6, h5)
theorem wX2_fail (D : Dd) {x : Nat} {p1 : Int32} {h : Hp} {r : Option Nat} {h' : Hp} (hf : fX2_fail x p1 h = some (r, h')) : ab_is h x 1 ∧ Ct D 2 42 yX2_fail cX2_fail 2 (some (FieldType.object "NoonMeals$Refused")) [vR (some x), vI p1] h (.inl (some (vR r))) h' := by
    unfold fX2_fail at hf
    replace hf := ab_ckE hf; obtain ⟨i0, hf⟩ := hf
    refine ⟨i0, ?_⟩
    refine Ct.of (by decide) (L := [(0, vR (some x)), (1, vI p1)]) rfl (Nat.le_of_ble_eq_true rfl) (fun C A => ?_)
    refine xr_aload_n A dX2_fail_0 0 rfl rfl ?_
    revert hf; refine ab_bdI (fun v1 mv1 hf => ?_)
    refine xr_get A xc_X2 in_X2 0 (Nat.le_of_ble_eq_true rfl) q206 rfl (ab_gRE mv1) dX2_fail_1 ?_
    refine xr_iload_n A dX2_fail_4 1 rfl rfl ?_
    refine xr_aload_n A dX2_fail_5 0 rfl rfl ?_
    revert hf; refine ab_bdI (fun v2 mv2 hf => ?_)
    refine xr_get A xc_X2 in_X2 6 (Nat.le_of_ble_eq_true rfl) q212 rfl (ab_gIE mv2) dX2_fail_6 ?_
    revert hf; refine ab_bdI (fun a3 e hf => ?_); subst e
    revert hf; refine ab_b2I (fun v6 h5 m4 hf => ?_)
    refine xr_V A bX3_at (wX3_at D m4).2 xc_X3 (wX3_at D m4).1 q631 q632 q630 (av := [vI p1, vI v2]) (rest := []) rfl dX2_fail_9 (Nat.le_of_ble_eq_true rfl) (Nat.le_of_ble_eq_true rfl) rfl (Nat.le_of_ble_eq_true rfl) ?_
    exact xr_areturn A (Or.inl ⟨_, rfl⟩) hf dX2_fail_12
/-! J3_isLatin1 -/
theorem bJ3_isLatin1 : MB yJ3_isLatin1 cJ3_isLatin1 1 (some FieldType.boolean) 0 := ⟨q641, q101, by decide, by decide +kernel⟩
noncomputable def fJ3_isLatin1 (x : Nat) (h : Hp) : Option (Int32 × Hp) :=
  ab_ck h x 14 <|
  ab_bd (ab_gI h x 14 1) fun v1 =>
  if v1 = 0 then (
    some ((1 : Int32), h))
  else (
    some ((0 : Int32), h))
theorem wJ3_isLatin1 (D : Dd) {x : Nat} {h : Hp} {r : Int32} {h' : Hp} (hf : fJ3_isLatin1 x h = some (r, h')) : ab_is h x 14 ∧ Ct D 1 20 yJ3_isLatin1 cJ3_isLatin1 1 (some FieldType.boolean) [vR (some x)] h (.inl (some (vI r))) h' := by
    unfold fJ3_isLatin1 at hf
    replace hf := ab_ckE hf; obtain ⟨i0, hf⟩ := hf
    refine ⟨i0, ?_⟩
    refine Ct.of (by decide) (L := [(0, vR (some x))]) rfl (Nat.le_of_ble_eq_true rfl) (fun C A => ?_)
    refine xr_gsI A q561 0 rfl dJ3_isLatin1_0 ?_
    refine xr_if_eq A (tgt := 17) dJ3_isLatin1_3 (by decide) (fun c3 => absurd c3 (by decide)) (fun _ => ?_)
    refine xr_aload_n A dJ3_isLatin1_6 0 rfl rfl ?_
    revert hf; refine ab_bdI (fun v1 mv1 hf => ?_)
    refine xr_get A xc_J3 in_J3 1 (Nat.le_of_ble_eq_true rfl) q606 rfl (ab_gIE mv1) dJ3_isLatin1_7 ?_
    refine xr_if_ne A (tgt := 17) dJ3_isLatin1_10 (by decide) (fun c10 => ?_) (fun c10 => ?_)
    · replace hf := ab_in c10 hf
      refine xr_iconst A (v := 0) dJ3_isLatin1_17 (by decide) ?_
      exact xr_ireturn A rfl hf dJ3_isLatin1_18
    · replace hf := ab_ip c10 hf
      refine xr_iconst A (v := 1) dJ3_isLatin1_13 (by decide) ?_
      refine xr_goto A (tgt := 18) dJ3_isLatin1_14 (by decide) ?_
      exact xr_ireturn A rfl hf dJ3_isLatin1_18
/-! J7_signedHashCode -/
theorem bJ7_signedHashCode : MB yJ7_signedHashCode cJ7_signedHashCode 6 (some FieldType.int) 4 := ⟨q651, q105, by decide, by decide +kernel⟩
noncomputable def fJ7_signedHashCode_l8 : Nat → Int32 → Option Nat → Int32 → Int32 → Hp → Option (Int32 × Hp)
  | 0, _, _, _, _, _ => none
  | n + 1, l0, l1, l4, l5, h =>
  if l4 ≤ l5 then (
    some (l0, h))
  else (
    ab_bd l1 fun a1 =>
    ab_bd (ab_aI h a1 1 l5) fun v2 =>
    fJ7_signedHashCode_l8 n (((31 : Int32) * l0) + (v2 &&& (255 : Int32))) (some a1) l4 (l5 + (1 : Int32)) h)
theorem wJ7_signedHashCode_l8 {D : Dd} {C : Cx} {h0 h' : Hp} {r : Int32} (A : Act C D (h0, (.inl (some (vI r))), h') yJ7_signedHashCode cJ7_signedHashCode 6 (some FieldType.int) 1 20 []) : ∀ (n : Nat) {l0 : Int32} {l1 : Option Nat} {l4 : Int32} {l5 : Int32} {h : Hp}, fJ7_signedHashCode_l8 n l0 l1 l4 l5 h = some (r, h') → X C D (h0, (.inl (some (vI r))), h') 6 8 [(0, vI l0), (1, vR l1), (4, vI l4), (5, vI l5)] [] h := by
  intro n
  induction n with
  | zero => intro l0 l1 l4 l5 h hf; exact ab_no hf
  | succ n ih =>
    intro l0 l1 l4 l5 h hf
    unfold fJ7_signedHashCode_l8 at hf
    refine xr_iload A dJ7_signedHashCode_8 3 rfl ?_
    refine xr_iload A dJ7_signedHashCode_10 2 rfl ?_
    refine xr_icmp_ge A (tgt := 35) dJ7_signedHashCode_12 (by decide) (fun c12 => ?_) (fun c12 => ?_)
    · replace hf := ab_ip c12 hf
      refine xr_iload_n A dJ7_signedHashCode_35 0 rfl rfl ?_
      exact xr_ireturn A rfl hf dJ7_signedHashCode_36
    · replace hf := ab_in c12 hf
      refine xr_bipush A (v := 31) dJ7_signedHashCode_15 (by decide) ?_
      refine xr_iload_n A dJ7_signedHashCode_17 0 rfl rfl ?_
      refine xr_imul A dJ7_signedHashCode_18 ?_
      refine xr_aload_n A dJ7_signedHashCode_19 1 rfl rfl ?_
      refine xr_iload A dJ7_signedHashCode_20 3 rfl ?_
      revert hf; refine ab_bdI (fun a1 e hf => ?_); subst e
      revert hf; refine ab_bdI (fun v2 mv2 hf => ?_)
      refine xr_baload A mv2 dJ7_signedHashCode_22 ?_
      refine xr_sipush A (v := 255) dJ7_signedHashCode_23 (by decide) ?_
      refine xr_iand A dJ7_signedHashCode_26 ?_
      refine xr_iadd A dJ7_signedHashCode_27 ?_
      refine xr_istore_n A dJ7_signedHashCode_28 rfl (Nat.le_of_ble_eq_true rfl) (L' := [(0, vI (((31 : Int32) * l0) + (v2 &&& (255 : Int32)))), (1, vR (some a1)), (4, vI l4), (5, vI l5)]) rfl ?_
      refine xr_iinc A dJ7_signedHashCode_29 3 rfl (v := (l5 + (1 : Int32))) rfl (Nat.le_of_ble_eq_true rfl) (L' := [(5, vI (l5 + (1 : Int32))), (0, vI (((31 : Int32) * l0) + (v2 &&& (255 : Int32)))), (1, vR (some a1)), (4, vI l4)]) rfl ?_
      refine xr_goto A (tgt := 8) dJ7_signedHashCode_32 (by decide) ?_
      refine X.sub [1, 2, 3, 0] rfl ?_
      exact ih hf
noncomputable def fJ7_signedHashCode (p0 : Int32) (p1 : Option Nat) (p2 : Int32) (p3 : Int32) (h : Hp) : Option (Int32 × Hp) :=
  fJ7_signedHashCode_l8 (hfu h) p0 p1 (p2 + p3) p2 h
theorem wJ7_signedHashCode (D : Dd) {p0 : Int32} {p1 : Option Nat} {p2 : Int32} {p3 : Int32} {h : Hp} {r : Int32} {h' : Hp} (hf : fJ7_signedHashCode p0 p1 p2 p3 h = some (r, h')) : Ct D 1 20 yJ7_signedHashCode cJ7_signedHashCode 6 (some FieldType.int) [vI p0, vR p1, vI p2, vI p3] h (.inl (some (vI r))) h' := by
    unfold fJ7_signedHashCode at hf
    refine Ct.of (by decide) (L := [(0, vI p0), (1, vR p1), (2, vI p2), (3, vI p3)]) rfl (Nat.le_of_ble_eq_true rfl) (fun C A => ?_)
    refine xr_iload_n A dJ7_signedHashCode_0 2 rfl rfl ?_
    refine xr_iload_n A dJ7_signedHashCode_1 3 rfl rfl ?_
    refine xr_iadd A dJ7_signedHashCode_2 ?_
    refine xr_istore A dJ7_signedHashCode_3 (Nat.le_of_ble_eq_true rfl) (L' := [(4, vI (p2 + p3)), (0, vI p0), (1, vR p1), (2, vI p2), (3, vI p3)]) rfl ?_
    refine xr_iload_n A dJ7_signedHashCode_5 3 rfl rfl ?_
    refine xr_istore A dJ7_signedHashCode_6 (Nat.le_of_ble_eq_true rfl) (L' := [(5, vI p2), (4, vI (p2 + p3)), (0, vI p0), (1, vR p1), (2, vI p2), (3, vI p3)]) rfl ?_
    refine X.sub [2, 3, 1, 0] rfl ?_
    exact wJ7_signedHashCode_l8 A _ hf
/-! J7_vectorizedHashCode -/
theorem bJ7_vectorizedHashCode : MB yJ7_vectorizedHashCode cJ7_vectorizedHashCode 5 (some FieldType.int) 5 := ⟨q647, q105, by decide, by decide +kernel⟩
noncomputable def fJ7_vectorizedHashCode (p0 : Option Nat) (p1 : Int32) (p2 : Int32) (p3 : Int32) (p4 : Int32) (h : Hp) : Option (Int32 × Hp) :=
  if p4 = (4 : Int32) then (
    ab_bd p0 fun a1 =>
    ab_ca h a1 1 <|
    ab_b2 (fJ7_signedHashCode p3 (some a1) p1 p2 h) fun v4 h3 =>
    some (v4, h3))
  else
  if p4 = (5 : Int32) then (
    none)
  else
  if p4 = (6 : Int32) then (
    none)
  else
  if p4 = (7 : Int32) then (
    none)
  else
  if p4 = (8 : Int32) then (
    ab_bd p0 fun a5 =>
    ab_ca h a5 1 <|
    none)
  else
  if p4 = (9 : Int32) then (
    none)
  else
  if p4 = (10 : Int32) then (
    none)
  else
  none
theorem wJ7_vectorizedHashCode (D : Dd) {p0 : Option Nat} {p1 : Int32} {p2 : Int32} {p3 : Int32} {p4 : Int32} {h : Hp} {r : Int32} {h' : Hp} (hf : fJ7_vectorizedHashCode p0 p1 p2 p3 p4 h = some (r, h')) : Ct D 2 45 yJ7_vectorizedHashCode cJ7_vectorizedHashCode 5 (some FieldType.int) [vR p0, vI p1, vI p2, vI p3, vI p4] h (.inl (some (vI r))) h' := by
    unfold fJ7_vectorizedHashCode at hf
    refine Ct.of (by decide) (L := [(0, vR p0), (1, vI p1), (2, vI p2), (3, vI p3), (4, vI p4)]) rfl (Nat.le_of_ble_eq_true rfl) (fun C A => ?_)
    refine xr_iload A dJ7_vectorizedHashCode_0 4 rfl ?_
    by_cases c2_4 : p4 = (4 : Int32)
    · replace hf := ab_ip c2_4 hf
      refine xr_tabIn A (tgt := 44) dJ7_vectorizedHashCode_2 (by rw [c2_4]; decide) (by rw [c2_4]; decide) (by rw [c2_4]; rfl) (by decide) ?_
      refine xr_iload_n A dJ7_vectorizedHashCode_44 3 rfl rfl ?_
      refine xr_aload_n A dJ7_vectorizedHashCode_45 0 rfl rfl ?_
      revert hf; refine ab_bdI (fun a1 e hf => ?_); subst e
      replace hf := ab_caE hf; obtain ⟨i46, hf⟩ := hf
      refine xr_castB A i46 q648 dJ7_vectorizedHashCode_46 ?_
      refine xr_iload_n A dJ7_vectorizedHashCode_49 1 rfl rfl ?_
      refine xr_iload_n A dJ7_vectorizedHashCode_50 2 rfl rfl ?_
      revert hf; refine ab_b2I (fun v4 h3 m2 hf => ?_)
      refine xr_S A bJ7_signedHashCode (wJ7_signedHashCode D m2) q650 q649 (av := [vI p3, vR (some a1), vI p1, vI p2]) (rest := []) rfl dJ7_vectorizedHashCode_51 (Nat.le_of_ble_eq_true rfl) (Nat.le_of_ble_eq_true rfl) rfl (Nat.le_of_ble_eq_true rfl) ?_
      refine xr_goto A (tgt := 157) dJ7_vectorizedHashCode_54 (by decide) ?_
      exact xr_ireturn A rfl hf dJ7_vectorizedHashCode_157
    replace hf := ab_in c2_4 hf
    by_cases c2_5 : p4 = (5 : Int32)
    · replace hf := ab_ip c2_5 hf
      refine xr_tabIn A (tgt := 57) dJ7_vectorizedHashCode_2 (by rw [c2_5]; decide) (by rw [c2_5]; decide) (by rw [c2_5]; rfl) (by decide) ?_
      refine xr_aload_n A dJ7_vectorizedHashCode_57 0 rfl rfl ?_
      exact ab_no hf
    replace hf := ab_in c2_5 hf
    by_cases c2_6 : p4 = (6 : Int32)
    · replace hf := ab_ip c2_6 hf
      refine xr_tabIn A (tgt := 129) dJ7_vectorizedHashCode_2 (by rw [c2_6]; decide) (by rw [c2_6]; decide) (by rw [c2_6]; rfl) (by decide) ?_
      exact ab_no hf
    replace hf := ab_in c2_6 hf
    by_cases c2_7 : p4 = (7 : Int32)
    · replace hf := ab_ip c2_7 hf
      refine xr_tabIn A (tgt := 129) dJ7_vectorizedHashCode_2 (by rw [c2_7]; decide) (by rw [c2_7]; decide) (by rw [c2_7]; rfl) (by decide) ?_
      exact ab_no hf
    replace hf := ab_in c2_7 hf
    by_cases c2_8 : p4 = (8 : Int32)
    · replace hf := ab_ip c2_8 hf
      refine xr_tabIn A (tgt := 90) dJ7_vectorizedHashCode_2 (by rw [c2_8]; decide) (by rw [c2_8]; decide) (by rw [c2_8]; rfl) (by decide) ?_
      refine xr_iload_n A dJ7_vectorizedHashCode_90 3 rfl rfl ?_
      refine xr_aload_n A dJ7_vectorizedHashCode_91 0 rfl rfl ?_
      revert hf; refine ab_bdI (fun a5 e hf => ?_); subst e
      replace hf := ab_caE hf; obtain ⟨i92, hf⟩ := hf
      refine xr_castB A i92 q648 dJ7_vectorizedHashCode_92 ?_
      refine xr_iload_n A dJ7_vectorizedHashCode_95 1 rfl rfl ?_
      refine xr_iload_n A dJ7_vectorizedHashCode_96 2 rfl rfl ?_
      exact ab_no hf
    replace hf := ab_in c2_8 hf
    by_cases c2_9 : p4 = (9 : Int32)
    · replace hf := ab_ip c2_9 hf
      refine xr_tabIn A (tgt := 103) dJ7_vectorizedHashCode_2 (by rw [c2_9]; decide) (by rw [c2_9]; decide) (by rw [c2_9]; rfl) (by decide) ?_
      refine xr_iload_n A dJ7_vectorizedHashCode_103 3 rfl rfl ?_
      refine xr_aload_n A dJ7_vectorizedHashCode_104 0 rfl rfl ?_
      exact ab_no hf
    replace hf := ab_in c2_9 hf
    by_cases c2_10 : p4 = (10 : Int32)
    · replace hf := ab_ip c2_10 hf
      refine xr_tabIn A (tgt := 116) dJ7_vectorizedHashCode_2 (by rw [c2_10]; decide) (by rw [c2_10]; decide) (by rw [c2_10]; rfl) (by decide) ?_
      refine xr_iload_n A dJ7_vectorizedHashCode_116 3 rfl rfl ?_
      refine xr_aload_n A dJ7_vectorizedHashCode_117 0 rfl rfl ?_
      exact ab_no hf
    replace hf := ab_in c2_10 hf
    refine xr_tabOut A (tgt := 129) dJ7_vectorizedHashCode_2 (ab_tab 4 10 (by decide) [(4 : Int32), (5 : Int32), (6 : Int32), (7 : Int32), (8 : Int32), (9 : Int32), (10 : Int32)] rfl (by simp only [List.forall_mem_cons]; exact ⟨c2_4, c2_5, c2_6, c2_7, c2_8, c2_9, c2_10, fun _ h => absurd h List.not_mem_nil⟩)) (by decide) ?_
    exact ab_no hf
/-! J6_hashCode -/
theorem bJ6_hashCode : MB yJ6_hashCode cJ6_hashCode 1 (some FieldType.int) 1 := ⟨q644, q104, by decide, by decide +kernel⟩
noncomputable def fJ6_hashCode (p0 : Option Nat) (h : Hp) : Option (Int32 × Hp) :=
  ab_bd p0 fun a1 =>
  ab_bd (ab_len h a1) fun v2 =>
  if v2 = (0 : Int32) then (
    some ((0 : Int32), h))
  else
  if v2 = (1 : Int32) then (
    ab_bd (ab_aI h a1 1 (0 : Int32)) fun v3 =>
    some ((v3 &&& (255 : Int32)), h))
  else
  ab_bd (ab_len h a1) fun v4 =>
  ab_b2 (fJ7_vectorizedHashCode (some a1) (0 : Int32) v4 (0 : Int32) (4 : Int32) h) fun v7 h6 =>
  some (v7, h6)
theorem wJ6_hashCode (D : Dd) {p0 : Option Nat} {h : Hp} {r : Int32} {h' : Hp} (hf : fJ6_hashCode p0 h = some (r, h')) : Ct D 3 69 yJ6_hashCode cJ6_hashCode 1 (some FieldType.int) [vR p0] h (.inl (some (vI r))) h' := by
    unfold fJ6_hashCode at hf
    refine Ct.of (by decide) (L := [(0, vR p0)]) rfl (Nat.le_of_ble_eq_true rfl) (fun C A => ?_)
    refine xr_aload_n A dJ6_hashCode_0 0 rfl rfl ?_
    revert hf; refine ab_bdI (fun a1 e hf => ?_); subst e
    revert hf; refine ab_bdI (fun v2 mv2 hf => ?_)
    refine xr_alen A mv2 dJ6_hashCode_1 ?_
    by_cases c2_0 : v2 = (0 : Int32)
    · replace hf := ab_ip c2_0 hf
      refine xr_lookup A (tgt := 28) dJ6_hashCode_2 (by decide) (off := 26) (by rw [c2_0] <;> rfl) (by decide) ?_
      refine xr_iconst A (v := 0) dJ6_hashCode_28 (by decide) ?_
      refine xr_goto A (tgt := 51) dJ6_hashCode_29 (by decide) ?_
      exact xr_ireturn A rfl hf dJ6_hashCode_51
    replace hf := ab_in c2_0 hf
    by_cases c2_1 : v2 = (1 : Int32)
    · replace hf := ab_ip c2_1 hf
      refine xr_lookup A (tgt := 32) dJ6_hashCode_2 (by decide) (off := 30) (by rw [c2_1] <;> rfl) (by decide) ?_
      refine xr_aload_n A dJ6_hashCode_32 0 rfl rfl ?_
      refine xr_iconst A (v := 0) dJ6_hashCode_33 (by decide) ?_
      revert hf; refine ab_bdI (fun v3 mv3 hf => ?_)
      refine xr_baload A mv3 dJ6_hashCode_34 ?_
      refine xr_sipush A (v := 255) dJ6_hashCode_35 (by decide) ?_
      refine xr_iand A dJ6_hashCode_38 ?_
      refine xr_goto A (tgt := 51) dJ6_hashCode_39 (by decide) ?_
      exact xr_ireturn A rfl hf dJ6_hashCode_51
    replace hf := ab_in c2_1 hf
    refine xr_lookup A (tgt := 42) dJ6_hashCode_2 (by decide) (off := 40) (by show Op.lookupswitch.offset [((0), (26)), ((1), (30))] (40) _ = _; rw [lv_osw c2_0 (by decide), lv_osw c2_1 (by decide)] <;> rfl) (by decide) ?_
    refine xr_aload_n A dJ6_hashCode_42 0 rfl rfl ?_
    refine xr_iconst A (v := 0) dJ6_hashCode_43 (by decide) ?_
    refine xr_aload_n A dJ6_hashCode_44 0 rfl rfl ?_
    revert hf; refine ab_bdI (fun v4 mv4 hf => ?_)
    refine xr_alen A mv4 dJ6_hashCode_45 ?_
    refine xr_iconst A (v := 0) dJ6_hashCode_46 (by decide) ?_
    refine xr_iconst A (v := 4) dJ6_hashCode_47 (by decide) ?_
    revert hf; refine ab_b2I (fun v7 h6 m5 hf => ?_)
    refine xr_S A bJ7_vectorizedHashCode (wJ7_vectorizedHashCode D m5) q646 q645 (av := [vR (some a1), vI (0 : Int32), vI v4, vI (0 : Int32), vI (4 : Int32)]) (rest := []) rfl dJ6_hashCode_48 (Nat.le_of_ble_eq_true rfl) (Nat.le_of_ble_eq_true rfl) rfl (Nat.le_of_ble_eq_true rfl) ?_
    exact xr_ireturn A rfl hf dJ6_hashCode_51
/-! J3_hashCode -/
theorem bJ3_hashCode : MB yJ3_hashCode cJ3_hashCode 2 (some FieldType.int) 0 := ⟨q637, q101, by decide, by decide +kernel⟩
noncomputable def fJ3_hashCode (x : Nat) (h : Hp) : Option (Int32 × Hp) :=
  ab_ck h x 14 <|
  ab_bd (ab_gI h x 14 2) fun v1 =>
  if v1 = 0 then (
    ab_bd (ab_gI h x 14 3) fun v2 =>
    if v2 = 0 then (
      ab_b2 (fJ3_isLatin1 x h) fun v5 h4 =>
      if v5 = 0 then (
        ab_bd (ab_gR h4 x 14 0) fun v6 =>
        none)
      else (
        ab_bd (ab_gR h4 x 14 0) fun v7 =>
        ab_b2 (fJ6_hashCode v7 h4) fun v10 h9 =>
        if v10 = 0 then (
          ab_bd (ab_pI h9 x 14 3 (1 : Int32)) fun h12 =>
          some (v10, h12))
        else (
          ab_bd (ab_pI h9 x 14 2 v10) fun h11 =>
          some (v10, h11))))
    else (
      some (v1, h)))
  else (
    some (v1, h))
theorem wJ3_hashCode (D : Dd) {x : Nat} {h : Hp} {r : Int32} {h' : Hp} (hf : fJ3_hashCode x h = some (r, h')) : ab_is h x 14 ∧ Ct D 4 89 yJ3_hashCode cJ3_hashCode 2 (some FieldType.int) [vR (some x)] h (.inl (some (vI r))) h' := by
    unfold fJ3_hashCode at hf
    replace hf := ab_ckE hf; obtain ⟨i0, hf⟩ := hf
    refine ⟨i0, ?_⟩
    refine Ct.of (by decide) (L := [(0, vR (some x))]) rfl (Nat.le_of_ble_eq_true rfl) (fun C A => ?_)
    refine xr_aload_n A dJ3_hashCode_0 0 rfl rfl ?_
    revert hf; refine ab_bdI (fun v1 mv1 hf => ?_)
    refine xr_get A xc_J3 in_J3 2 (Nat.le_of_ble_eq_true rfl) q607 rfl (ab_gIE mv1) dJ3_hashCode_1 ?_
    refine xr_istore_n A dJ3_hashCode_4 rfl (Nat.le_of_ble_eq_true rfl) (L' := [(1, vI v1), (0, vR (some x))]) rfl ?_
    refine xr_iload_n A dJ3_hashCode_5 0 rfl rfl ?_
    refine xr_if_ne A (tgt := 58) dJ3_hashCode_6 (by decide) (fun c6 => ?_) (fun c6 => ?_)
    · replace hf := ab_in c6 hf
      refine xr_iload_n A dJ3_hashCode_58 0 rfl rfl ?_
      exact xr_ireturn A rfl hf dJ3_hashCode_59
    · replace hf := ab_ip c6 hf
      refine xr_aload_n A dJ3_hashCode_9 1 rfl rfl ?_
      revert hf; refine ab_bdI (fun v2 mv2 hf => ?_)
      refine xr_get A xc_J3 in_J3 3 (Nat.le_of_ble_eq_true rfl) q608 rfl (ab_gIE mv2) dJ3_hashCode_10 ?_
      refine xr_if_ne A (tgt := 58) dJ3_hashCode_13 (by decide) (fun c13 => ?_) (fun c13 => ?_)
      · replace hf := ab_in c13 hf
        refine xr_iload_n A dJ3_hashCode_58 0 rfl rfl ?_
        exact xr_ireturn A rfl hf dJ3_hashCode_59
      · replace hf := ab_ip c13 hf
        refine xr_aload_n A dJ3_hashCode_16 1 rfl rfl ?_
        revert hf; refine ab_b2I (fun v5 h4 m3 hf => ?_)
        refine xr_V A bJ3_isLatin1 (wJ3_isLatin1 D m3).2 xc_J3 (wJ3_isLatin1 D m3).1 q639 q640 q638 (av := []) (rest := []) rfl dJ3_hashCode_17 (Nat.le_of_ble_eq_true rfl) (Nat.le_of_ble_eq_true rfl) rfl (Nat.le_of_ble_eq_true rfl) ?_
        refine xr_if_eq A (tgt := 33) dJ3_hashCode_20 (by decide) (fun c20 => ?_) (fun c20 => ?_)
        · replace hf := ab_ip c20 hf
          refine xr_aload_n A dJ3_hashCode_33 1 rfl rfl ?_
          revert hf; refine ab_bdI (fun v6 mv6 hf => ?_)
          refine xr_get A xc_J3 in_J3 0 (Nat.le_of_ble_eq_true rfl) q605 rfl (ab_gRE mv6) dJ3_hashCode_34 ?_
          exact ab_no hf
        · replace hf := ab_in c20 hf
          refine xr_aload_n A dJ3_hashCode_23 1 rfl rfl ?_
          revert hf; refine ab_bdI (fun v7 mv7 hf => ?_)
          refine xr_get A xc_J3 in_J3 0 (Nat.le_of_ble_eq_true rfl) q605 rfl (ab_gRE mv7) dJ3_hashCode_24 ?_
          revert hf; refine ab_b2I (fun v10 h9 m8 hf => ?_)
          refine xr_S A bJ6_hashCode (wJ6_hashCode D m8) q643 q642 (av := [vR v7]) (rest := []) rfl dJ3_hashCode_27 (Nat.le_of_ble_eq_true rfl) (Nat.le_of_ble_eq_true rfl) rfl (Nat.le_of_ble_eq_true rfl) ?_
          refine xr_goto A (tgt := 40) dJ3_hashCode_30 (by decide) ?_
          refine xr_istore_n A dJ3_hashCode_40 rfl (Nat.le_of_ble_eq_true rfl) (L' := [(1, vI v10), (0, vR (some x))]) rfl ?_
          refine xr_iload_n A dJ3_hashCode_41 0 rfl rfl ?_
          refine xr_if_ne A (tgt := 53) dJ3_hashCode_42 (by decide) (fun c42 => ?_) (fun c42 => ?_)
          · replace hf := ab_in c42 hf
            refine xr_aload_n A dJ3_hashCode_53 1 rfl rfl ?_
            refine xr_iload_n A dJ3_hashCode_54 0 rfl rfl ?_
            revert hf; refine ab_bdI (fun h11 mh11 hf => ?_)
            refine xr_put A xc_J3 in_J3 tyJ3_ok nmJ3 2 (Nat.le_of_ble_eq_true rfl) q607 rfl rfl (v := vI v10) rfl rfl mh11 dJ3_hashCode_55 ?_
            refine xr_iload_n A dJ3_hashCode_58 0 rfl rfl ?_
            exact xr_ireturn A rfl hf dJ3_hashCode_59
          · replace hf := ab_ip c42 hf
            refine xr_aload_n A dJ3_hashCode_45 1 rfl rfl ?_
            refine xr_iconst A (v := 1) dJ3_hashCode_46 (by decide) ?_
            revert hf; refine ab_bdI (fun h12 mh12 hf => ?_)
            refine xr_put A xc_J3 in_J3 tyJ3_ok nmJ3 3 (Nat.le_of_ble_eq_true rfl) q608 rfl rfl (v := vI (1 : Int32)) rfl rfl mh12 dJ3_hashCode_47 ?_
            refine xr_goto A (tgt := 58) dJ3_hashCode_50 (by decide) ?_
            refine xr_iload_n A dJ3_hashCode_58 0 rfl rfl ?_
            exact xr_ireturn A rfl hf dJ3_hashCode_59
/-! J6_equals -/
theorem bJ6_equals : MB yJ6_equals cJ6_equals 3 (some FieldType.boolean) 2 := ⟨q695, q104, by decide, by decide +kernel⟩
noncomputable def fJ6_equals_l9 : Nat → Nat → Nat → Int32 → Hp → Option (Int32 × Hp)
  | 0, _, _, _, _ => none
  | n + 1, l0, l1, l2, h =>
  ab_bd (ab_len h l0) fun v1 =>
  if v1 ≤ l2 then (
    some ((1 : Int32), h))
  else (
    ab_bd (ab_aI h l0 1 l2) fun v2 =>
    ab_bd (ab_aI h l1 1 l2) fun v3 =>
    if v2 = v3 then (
      fJ6_equals_l9 n l0 l1 (l2 + (1 : Int32)) h)
    else (
      some ((0 : Int32), h)))
theorem wJ6_equals_l9 {D : Dd} {C : Cx} {h0 h' : Hp} {r : Int32} (A : Act C D (h0, (.inl (some (vI r))), h') yJ6_equals cJ6_equals 3 (some FieldType.boolean) 1 20 []) : ∀ (n : Nat) {l0 : Nat} {l1 : Nat} {l2 : Int32} {h : Hp}, fJ6_equals_l9 n l0 l1 l2 h = some (r, h') → X C D (h0, (.inl (some (vI r))), h') 3 9 [(0, vR (some l0)), (1, vR (some l1)), (2, vI l2)] [] h := by
  intro n
  induction n with
  | zero => intro l0 l1 l2 h hf; exact ab_no hf
  | succ n ih =>
    intro l0 l1 l2 h hf
    unfold fJ6_equals_l9 at hf
    refine xr_iload_n A dJ6_equals_9 2 rfl rfl ?_
    refine xr_aload_n A dJ6_equals_10 0 rfl rfl ?_
    revert hf; refine ab_bdI (fun v1 mv1 hf => ?_)
    refine xr_alen A mv1 dJ6_equals_11 ?_
    refine xr_icmp_ge A (tgt := 32) dJ6_equals_12 (by decide) (fun c12 => ?_) (fun c12 => ?_)
    · replace hf := ab_ip c12 hf
      refine xr_iconst A (v := 1) dJ6_equals_32 (by decide) ?_
      exact xr_ireturn A rfl hf dJ6_equals_33
    · replace hf := ab_in c12 hf
      refine xr_aload_n A dJ6_equals_15 0 rfl rfl ?_
      refine xr_iload_n A dJ6_equals_16 2 rfl rfl ?_
      revert hf; refine ab_bdI (fun v2 mv2 hf => ?_)
      refine xr_baload A mv2 dJ6_equals_17 ?_
      refine xr_aload_n A dJ6_equals_18 1 rfl rfl ?_
      refine xr_iload_n A dJ6_equals_19 2 rfl rfl ?_
      revert hf; refine ab_bdI (fun v3 mv3 hf => ?_)
      refine xr_baload A mv3 dJ6_equals_20 ?_
      refine xr_icmp_eq A (tgt := 26) dJ6_equals_21 (by decide) (fun c21 => ?_) (fun c21 => ?_)
      · replace hf := ab_ip c21 hf
        refine xr_iinc A dJ6_equals_26 2 rfl (v := (l2 + (1 : Int32))) rfl (Nat.le_of_ble_eq_true rfl) (L' := [(2, vI (l2 + (1 : Int32))), (0, vR (some l0)), (1, vR (some l1))]) rfl ?_
        refine xr_goto A (tgt := 9) dJ6_equals_29 (by decide) ?_
        refine X.sub [1, 2, 0] rfl ?_
        exact ih hf
      · replace hf := ab_in c21 hf
        refine xr_iconst A (v := 0) dJ6_equals_24 (by decide) ?_
        exact xr_ireturn A rfl hf dJ6_equals_25
noncomputable def fJ6_equals (p0 : Option Nat) (p1 : Option Nat) (h : Hp) : Option (Int32 × Hp) :=
  ab_bd p0 fun a1 =>
  ab_bd (ab_len h a1) fun v2 =>
  ab_bd p1 fun a3 =>
  ab_bd (ab_len h a3) fun v4 =>
  if v2 = v4 then (
    fJ6_equals_l9 (hfu h) a1 a3 (0 : Int32) h)
  else (
    some ((0 : Int32), h))
theorem wJ6_equals (D : Dd) {p0 : Option Nat} {p1 : Option Nat} {h : Hp} {r : Int32} {h' : Hp} (hf : fJ6_equals p0 p1 h = some (r, h')) : Ct D 1 20 yJ6_equals cJ6_equals 3 (some FieldType.boolean) [vR p0, vR p1] h (.inl (some (vI r))) h' := by
    unfold fJ6_equals at hf
    refine Ct.of (by decide) (L := [(0, vR p0), (1, vR p1)]) rfl (Nat.le_of_ble_eq_true rfl) (fun C A => ?_)
    refine xr_aload_n A dJ6_equals_0 0 rfl rfl ?_
    revert hf; refine ab_bdI (fun a1 e hf => ?_); subst e
    revert hf; refine ab_bdI (fun v2 mv2 hf => ?_)
    refine xr_alen A mv2 dJ6_equals_1 ?_
    refine xr_aload_n A dJ6_equals_2 1 rfl rfl ?_
    revert hf; refine ab_bdI (fun a3 e hf => ?_); subst e
    revert hf; refine ab_bdI (fun v4 mv4 hf => ?_)
    refine xr_alen A mv4 dJ6_equals_3 ?_
    refine xr_icmp_ne A (tgt := 34) dJ6_equals_4 (by decide) (fun c4 => ?_) (fun c4 => ?_)
    · replace hf := ab_in c4 hf
      refine xr_iconst A (v := 0) dJ6_equals_34 (by decide) ?_
      exact xr_ireturn A rfl hf dJ6_equals_35
    · replace hf := ab_ip c4 hf
      refine xr_iconst A (v := 0) dJ6_equals_7 (by decide) ?_
      refine xr_istore_n A dJ6_equals_8 rfl (Nat.le_of_ble_eq_true rfl) (L' := [(2, vI (0 : Int32)), (0, vR (some a1)), (1, vR (some a3))]) rfl ?_
      refine X.sub [1, 2, 0] rfl ?_
      exact wJ6_equals_l9 A _ hf
/-! J3_equals -/
theorem bJ3_equals : MB yJ3_equals cJ3_equals 3 (some FieldType.boolean) 1 := ⟨q691, q101, by decide, by decide +kernel⟩
noncomputable def fJ3_equals (x : Nat) (p1 : Option Nat) (h : Hp) : Option (Int32 × Hp) :=
  ab_ck h x 14 <|
  if (some x) = p1 then (
    some ((1 : Int32), h))
  else (
    ab_bd (ab_inS h p1) fun v1 =>
    if v1 = 0 then (
      some ((0 : Int32), h))
    else (
      ab_bd p1 fun a2 =>
      ab_ck h a2 14 <|
      ab_bd (ab_gI h x 14 1) fun v3 =>
      ab_bd (ab_gI h a2 14 1) fun v4 =>
      if v3 = v4 then (
        ab_bd (ab_gR h x 14 0) fun v5 =>
        ab_bd (ab_gR h a2 14 0) fun v6 =>
        ab_b2 (fJ6_equals v5 v6 h) fun v9 h8 =>
        if v9 = 0 then (
          some ((0 : Int32), h8))
        else (
          some ((1 : Int32), h8)))
      else (
        some ((0 : Int32), h))))
theorem wJ3_equals (D : Dd) {x : Nat} {p1 : Option Nat} {h : Hp} {r : Int32} {h' : Hp} (hf : fJ3_equals x p1 h = some (r, h')) : ab_is h x 14 ∧ Ct D 2 42 yJ3_equals cJ3_equals 3 (some FieldType.boolean) [vR (some x), vR p1] h (.inl (some (vI r))) h' := by
    unfold fJ3_equals at hf
    replace hf := ab_ckE hf; obtain ⟨i0, hf⟩ := hf
    refine ⟨i0, ?_⟩
    refine Ct.of (by decide) (L := [(0, vR (some x)), (1, vR p1)]) rfl (Nat.le_of_ble_eq_true rfl) (fun C A => ?_)
    refine xr_aload_n A dJ3_equals_0 0 rfl rfl ?_
    refine xr_aload_n A dJ3_equals_1 1 rfl rfl ?_
    refine xr_acmp_ne A (tgt := 7) dJ3_equals_2 (by decide) (fun c2 => ?_) (fun c2 => ?_)
    · replace hf := ab_in c2 hf
      refine xr_aload_n A dJ3_equals_7 1 rfl rfl ?_
      revert hf; refine ab_bdI (fun v1 mv1 hf => ?_)
      refine xr_instS A mv1 q692 dJ3_equals_8 ?_
      refine xr_if_eq A (tgt := 54) dJ3_equals_11 (by decide) (fun c11 => ?_) (fun c11 => ?_)
      · replace hf := ab_ip c11 hf
        refine xr_iconst A (v := 0) dJ3_equals_54 (by decide) ?_
        exact xr_ireturn A rfl hf dJ3_equals_55
      · replace hf := ab_in c11 hf
        refine xr_aload_n A dJ3_equals_14 1 rfl rfl ?_
        revert hf; refine ab_bdI (fun a2 e hf => ?_); subst e
        replace hf := ab_ckE hf; obtain ⟨i15, hf⟩ := hf
        refine xr_cast A xc_J3 i15 q692 dJ3_equals_15 ?_
        refine xr_astore_n A dJ3_equals_18 rfl (Nat.le_of_ble_eq_true rfl) (L' := [(2, vR (some a2)), (0, vR (some x)), (1, vR (some a2))]) rfl ?_
        refine xr_gsI A q561 0 rfl dJ3_equals_19 ?_
        refine xr_if_eq A (tgt := 36) dJ3_equals_22 (by decide) (fun c22 => absurd c22 (by decide)) (fun _ => ?_)
        refine xr_aload_n A dJ3_equals_25 1 rfl rfl ?_
        revert hf; refine ab_bdI (fun v3 mv3 hf => ?_)
        refine xr_get A xc_J3 in_J3 1 (Nat.le_of_ble_eq_true rfl) q606 rfl (ab_gIE mv3) dJ3_equals_26 ?_
        refine xr_aload_n A dJ3_equals_29 0 rfl rfl ?_
        revert hf; refine ab_bdI (fun v4 mv4 hf => ?_)
        refine xr_get A xc_J3 in_J3 1 (Nat.le_of_ble_eq_true rfl) q606 rfl (ab_gIE mv4) dJ3_equals_30 ?_
        refine xr_icmp_ne A (tgt := 54) dJ3_equals_33 (by decide) (fun c33 => ?_) (fun c33 => ?_)
        · replace hf := ab_in c33 hf
          refine xr_iconst A (v := 0) dJ3_equals_54 (by decide) ?_
          exact xr_ireturn A rfl hf dJ3_equals_55
        · replace hf := ab_ip c33 hf
          refine xr_aload_n A dJ3_equals_36 1 rfl rfl ?_
          revert hf; refine ab_bdI (fun v5 mv5 hf => ?_)
          refine xr_get A xc_J3 in_J3 0 (Nat.le_of_ble_eq_true rfl) q605 rfl (ab_gRE mv5) dJ3_equals_37 ?_
          refine xr_aload_n A dJ3_equals_40 0 rfl rfl ?_
          revert hf; refine ab_bdI (fun v6 mv6 hf => ?_)
          refine xr_get A xc_J3 in_J3 0 (Nat.le_of_ble_eq_true rfl) q605 rfl (ab_gRE mv6) dJ3_equals_41 ?_
          revert hf; refine ab_b2I (fun v9 h8 m7 hf => ?_)
          refine xr_S A bJ6_equals (wJ6_equals D m7) q694 q693 (av := [vR v5, vR v6]) (rest := []) rfl dJ3_equals_44 (Nat.le_of_ble_eq_true rfl) (Nat.le_of_ble_eq_true rfl) rfl (Nat.le_of_ble_eq_true rfl) ?_
          refine xr_if_eq A (tgt := 54) dJ3_equals_47 (by decide) (fun c47 => ?_) (fun c47 => ?_)
          · replace hf := ab_ip c47 hf
            refine xr_iconst A (v := 0) dJ3_equals_54 (by decide) ?_
            exact xr_ireturn A rfl hf dJ3_equals_55
          · replace hf := ab_in c47 hf
            refine xr_iconst A (v := 1) dJ3_equals_50 (by decide) ?_
            refine xr_goto A (tgt := 55) dJ3_equals_51 (by decide) ?_
            exact xr_ireturn A rfl hf dJ3_equals_55
    · replace hf := ab_ip c2 hf
      refine xr_iconst A (v := 1) dJ3_equals_5 (by decide) ?_
      exact xr_ireturn A rfl hf dJ3_equals_6
/-! X2_begins -/
theorem bX2_begins : MB yX2_begins cX2_begins 3 (none : Option FieldType) 2 := ⟨q707, q93, by decide, by decide +kernel⟩
noncomputable def fX2_begins (x : Nat) (p1 : Int32) (p2 : Int32) (h : Hp) : Option ((Unit ⊕ Nat) × Hp) :=
  ab_ck h x 1 <|
  if p1 = 0 then (
    ab_b2 (fX2_fail x p2 h) fun v5 h4 =>
    ab_bd v5 fun a6 =>
    ab_cz h4 a6 2 <| some (.inr a6, h4))
  else (
    ab_bd (fX2_next x h) fun h2 =>
    some (.inl (), h2))
theorem wX2_begins (D : Dd) {x : Nat} {p1 : Int32} {p2 : Int32} {h : Hp} {ρ : Unit ⊕ Nat} {h' : Hp} (hf : fX2_begins x p1 p2 h = some (ρ, h')) : ab_is h x 1 ∧ Ct D 6 141 yX2_begins cX2_begins 3 (none : Option FieldType) [vR (some x), vI p1, vI p2] h (xoV ρ) h' := by
    unfold fX2_begins at hf
    replace hf := ab_ckE hf; obtain ⟨i0, hf⟩ := hf
    refine ⟨i0, ?_⟩
    refine Ct.of (by decide) (L := [(0, vR (some x)), (1, vI p1), (2, vI p2)]) rfl (Nat.le_of_ble_eq_true rfl) (fun C A => ?_)
    refine xr_iload_n A dX2_begins_0 1 rfl rfl ?_
    refine xr_if_ne A (tgt := 10) dX2_begins_1 (by decide) (fun c1 => ?_) (fun c1 => ?_)
    · replace hf := ab_in c1 hf
      refine xr_aload_n A dX2_begins_10 0 rfl rfl ?_
      revert hf; refine ab_bdI (fun h2 m1 hf => ?_)
      refine xr_V0 A bX2_next (wX2_next D m1).2 xc_X2 (wX2_next D m1).1 q530 qs4 q528 (av := []) (rest := []) rfl dX2_begins_11 (Nat.le_of_ble_eq_true rfl) (Nat.le_of_ble_eq_true rfl) rfl (Nat.le_of_ble_eq_true rfl) ?_
      obtain ⟨rfl, rfl⟩ := ab_pr hf
      exact xr_return A rfl dX2_begins_14
    · replace hf := ab_ip c1 hf
      refine xr_aload_n A dX2_begins_4 0 rfl rfl ?_
      refine xr_iload_n A dX2_begins_5 2 rfl rfl ?_
      revert hf; refine ab_b2I (fun v5 h4 m3 hf => ?_)
      refine xr_V A bX2_fail (wX2_fail D m3).2 xc_X2 (wX2_fail D m3).1 q628 qs7 q626 (av := [vI p2]) (rest := []) rfl dX2_begins_6 (Nat.le_of_ble_eq_true rfl) (Nat.le_of_ble_eq_true rfl) rfl (Nat.le_of_ble_eq_true rfl) ?_
      revert hf; refine ab_bdI (fun a6 e hf => ?_); subst e
      replace hf := ab_czE hf; obtain ⟨i9, hf⟩ := hf
      refine xr_athrow A i9 dX2_begins_9 ?_
      obtain ⟨rfl, rfl⟩ := ab_pr hf
      exact xr_out A rfl
/-! X2_isWord -/
theorem bX2_isWord : MB yX2_isWord cX2_isWord 2 (some FieldType.boolean) 1 := ⟨q724, q93, by decide, by decide +kernel⟩
noncomputable def fX2_isWord (x : Nat) (p1 : Option Nat) (h : Hp) : Option (Int32 × Hp) :=
  ab_ck h x 1 <|
  ab_bd (ab_gI h x 1 5) fun v1 =>
  if v1 = (2 : Int32) then (
    ab_bd (ab_gR h x 1 8) fun v2 =>
    ab_bd v2 fun a3 =>
    ab_b2 (fJ3_equals a3 p1 h) fun v6 h5 =>
    if v6 = 0 then (
      some ((0 : Int32), h5))
    else (
      some ((1 : Int32), h5)))
  else (
    some ((0 : Int32), h))
theorem wX2_isWord (D : Dd) {x : Nat} {p1 : Option Nat} {h : Hp} {r : Int32} {h' : Hp} (hf : fX2_isWord x p1 h = some (r, h')) : ab_is h x 1 ∧ Ct D 3 64 yX2_isWord cX2_isWord 2 (some FieldType.boolean) [vR (some x), vR p1] h (.inl (some (vI r))) h' := by
    unfold fX2_isWord at hf
    replace hf := ab_ckE hf; obtain ⟨i0, hf⟩ := hf
    refine ⟨i0, ?_⟩
    refine Ct.of (by decide) (L := [(0, vR (some x)), (1, vR p1)]) rfl (Nat.le_of_ble_eq_true rfl) (fun C A => ?_)
    refine xr_aload_n A dX2_isWord_0 0 rfl rfl ?_
    revert hf; refine ab_bdI (fun v1 mv1 hf => ?_)
    refine xr_get A xc_X2 in_X2 5 (Nat.le_of_ble_eq_true rfl) q211 rfl (ab_gIE mv1) dX2_isWord_1 ?_
    refine xr_iconst A (v := 2) dX2_isWord_4 (by decide) ?_
    refine xr_icmp_ne A (tgt := 23) dX2_isWord_5 (by decide) (fun c5 => ?_) (fun c5 => ?_)
    · replace hf := ab_in c5 hf
      refine xr_iconst A (v := 0) dX2_isWord_23 (by decide) ?_
      exact xr_ireturn A rfl hf dX2_isWord_24
    · replace hf := ab_ip c5 hf
      refine xr_aload_n A dX2_isWord_8 0 rfl rfl ?_
      revert hf; refine ab_bdI (fun v2 mv2 hf => ?_)
      refine xr_get A xc_X2 in_X2 8 (Nat.le_of_ble_eq_true rfl) q214 rfl (ab_gRE mv2) dX2_isWord_9 ?_
      refine xr_aload_n A dX2_isWord_12 1 rfl rfl ?_
      revert hf; refine ab_bdI (fun a3 e hf => ?_); subst e
      revert hf; refine ab_b2I (fun v6 h5 m4 hf => ?_)
      refine xr_V A bJ3_equals (wJ3_equals D m4).2 xc_J3 (wJ3_equals D m4).1 q689 q690 q688 (av := [vR p1]) (rest := []) rfl dX2_isWord_13 (Nat.le_of_ble_eq_true rfl) (Nat.le_of_ble_eq_true rfl) rfl (Nat.le_of_ble_eq_true rfl) ?_
      refine xr_if_eq A (tgt := 23) dX2_isWord_16 (by decide) (fun c16 => ?_) (fun c16 => ?_)
      · replace hf := ab_ip c16 hf
        refine xr_iconst A (v := 0) dX2_isWord_23 (by decide) ?_
        exact xr_ireturn A rfl hf dX2_isWord_24
      · replace hf := ab_in c16 hf
        refine xr_iconst A (v := 1) dX2_isWord_19 (by decide) ?_
        refine xr_goto A (tgt := 24) dX2_isWord_20 (by decide) ?_
        exact xr_ireturn A rfl hf dX2_isWord_24
/-! X2_takes -/
theorem bX2_takes : MB yX2_takes cX2_takes 2 (some FieldType.boolean) 1 := ⟨q720, q93, by decide, by decide +kernel⟩
noncomputable def fX2_takes (x : Nat) (p1 : Option Nat) (h : Hp) : Option (Int32 × Hp) :=
  ab_ck h x 1 <|
  ab_b2 (fX2_isWord x p1 h) fun v3 h2 =>
  if v3 = 0 then (
    some ((0 : Int32), h2))
  else (
    ab_bd (fX2_next x h2) fun h5 =>
    some ((1 : Int32), h5))
theorem wX2_takes (D : Dd) {x : Nat} {p1 : Option Nat} {h : Hp} {r : Int32} {h' : Hp} (hf : fX2_takes x p1 h = some (r, h')) : ab_is h x 1 ∧ Ct D 6 141 yX2_takes cX2_takes 2 (some FieldType.boolean) [vR (some x), vR p1] h (.inl (some (vI r))) h' := by
    unfold fX2_takes at hf
    replace hf := ab_ckE hf; obtain ⟨i0, hf⟩ := hf
    refine ⟨i0, ?_⟩
    refine Ct.of (by decide) (L := [(0, vR (some x)), (1, vR p1)]) rfl (Nat.le_of_ble_eq_true rfl) (fun C A => ?_)
    refine xr_aload_n A dX2_takes_0 0 rfl rfl ?_
    refine xr_aload_n A dX2_takes_1 1 rfl rfl ?_
    revert hf; refine ab_b2I (fun v3 h2 m1 hf => ?_)
    refine xr_V A bX2_isWord (wX2_isWord D m1).2 xc_X2 (wX2_isWord D m1).1 q723 qs12 q721 (av := [vR p1]) (rest := []) rfl dX2_takes_2 (Nat.le_of_ble_eq_true rfl) (Nat.le_of_ble_eq_true rfl) rfl (Nat.le_of_ble_eq_true rfl) ?_
    refine xr_if_ne A (tgt := 10) dX2_takes_5 (by decide) (fun c5 => ?_) (fun c5 => ?_)
    · replace hf := ab_in c5 hf
      refine xr_aload_n A dX2_takes_10 0 rfl rfl ?_
      revert hf; refine ab_bdI (fun h5 m4 hf => ?_)
      refine xr_V0 A bX2_next (wX2_next D m4).2 xc_X2 (wX2_next D m4).1 q530 qs4 q528 (av := []) (rest := []) rfl dX2_takes_11 (Nat.le_of_ble_eq_true rfl) (Nat.le_of_ble_eq_true rfl) rfl (Nat.le_of_ble_eq_true rfl) ?_
      refine xr_iconst A (v := 1) dX2_takes_14 (by decide) ?_
      exact xr_ireturn A rfl hf dX2_takes_15
    · replace hf := ab_ip c5 hf
      refine xr_iconst A (v := 0) dX2_takes_8 (by decide) ?_
      exact xr_ireturn A rfl hf dX2_takes_9
/-! X2_must -/
theorem bX2_must : MB yX2_must cX2_must 2 (none : Option FieldType) 1 := ⟨q716, q93, by decide, by decide +kernel⟩
noncomputable def fX2_must (x : Nat) (p1 : Option Nat) (h : Hp) : Option ((Unit ⊕ Nat) × Hp) :=
  ab_ck h x 1 <|
  ab_b2 (fX2_takes x p1 h) fun v3 h2 =>
  if v3 = 0 then (
    ab_b2 (fX2_fail x (1 : Int32) h2) fun v6 h5 =>
    ab_bd v6 fun a7 =>
    ab_cz h5 a7 2 <| some (.inr a7, h5))
  else (
    some (.inl (), h2))
theorem wX2_must (D : Dd) {x : Nat} {p1 : Option Nat} {h : Hp} {ρ : Unit ⊕ Nat} {h' : Hp} (hf : fX2_must x p1 h = some (ρ, h')) : ab_is h x 1 ∧ Ct D 7 162 yX2_must cX2_must 2 (none : Option FieldType) [vR (some x), vR p1] h (xoV ρ) h' := by
    unfold fX2_must at hf
    replace hf := ab_ckE hf; obtain ⟨i0, hf⟩ := hf
    refine ⟨i0, ?_⟩
    refine Ct.of (by decide) (L := [(0, vR (some x)), (1, vR p1)]) rfl (Nat.le_of_ble_eq_true rfl) (fun C A => ?_)
    refine xr_aload_n A dX2_must_0 0 rfl rfl ?_
    refine xr_aload_n A dX2_must_1 1 rfl rfl ?_
    revert hf; refine ab_b2I (fun v3 h2 m1 hf => ?_)
    refine xr_V A bX2_takes (wX2_takes D m1).2 xc_X2 (wX2_takes D m1).1 q719 qs11 q717 (av := [vR p1]) (rest := []) rfl dX2_must_2 (Nat.le_of_ble_eq_true rfl) (Nat.le_of_ble_eq_true rfl) rfl (Nat.le_of_ble_eq_true rfl) ?_
    refine xr_if_ne A (tgt := 14) dX2_must_5 (by decide) (fun c5 => ?_) (fun c5 => ?_)
    · replace hf := ab_in c5 hf
      obtain ⟨rfl, rfl⟩ := ab_pr hf
      exact xr_return A rfl dX2_must_14
    · replace hf := ab_ip c5 hf
      refine xr_aload_n A dX2_must_8 0 rfl rfl ?_
      refine xr_iconst A (v := 1) dX2_must_9 (by decide) ?_
      revert hf; refine ab_b2I (fun v6 h5 m4 hf => ?_)
      refine xr_V A bX2_fail (wX2_fail D m4).2 xc_X2 (wX2_fail D m4).1 q628 qs7 q626 (av := [vI (1 : Int32)]) (rest := []) rfl dX2_must_10 (Nat.le_of_ble_eq_true rfl) (Nat.le_of_ble_eq_true rfl) rfl (Nat.le_of_ble_eq_true rfl) ?_
      revert hf; refine ab_bdI (fun a7 e hf => ?_); subst e
      replace hf := ab_czE hf; obtain ⟨i13, hf⟩ := hf
      refine xr_athrow A i13 dX2_must_13 ?_
      obtain ⟨rfl, rfl⟩ := ab_pr hf
      exact xr_out A rfl
/-! X2_number -/
theorem bX2_number : MB yX2_number cX2_number 4 (some FieldType.int) 2 := ⟨q728, q93, by decide, by decide +kernel⟩
noncomputable def fX2_number (x : Nat) (p1 : Int32) (p2 : Int32) (h : Hp) : Option ((Int32 ⊕ Nat) × Hp) :=
  ab_ck h x 1 <|
  ab_bd (ab_gI h x 1 5) fun v1 =>
  if v1 = (3 : Int32) then (
    ab_bd (ab_gI h x 1 7) fun v2 =>
    ab_b2 (fX1_in v2 p1 p2 h) fun v5 h4 =>
    if v5 = 0 then (
      ab_b2 (fX2_fail x (4 : Int32) h4) fun v11 h10 =>
      ab_bd v11 fun a12 =>
      ab_cz h10 a12 2 <| some (.inr a12, h10))
    else (
      ab_bd (ab_gI h4 x 1 7) fun v6 =>
      ab_bd (fX2_next x h4) fun h8 =>
      some (.inl v6, h8)))
  else (
    ab_b2 (fX2_fail x (1 : Int32) h) fun v15 h14 =>
    ab_bd v15 fun a16 =>
    ab_cz h14 a16 2 <| some (.inr a16, h14))
theorem wX2_number (D : Dd) {x : Nat} {p1 : Int32} {p2 : Int32} {h : Hp} {ρ : Int32 ⊕ Nat} {h' : Hp} (hf : fX2_number x p1 p2 h = some (ρ, h')) : ab_is h x 1 ∧ Ct D 6 141 yX2_number cX2_number 4 (some FieldType.int) [vR (some x), vI p1, vI p2] h (xoI ρ) h' := by
    unfold fX2_number at hf
    replace hf := ab_ckE hf; obtain ⟨i0, hf⟩ := hf
    refine ⟨i0, ?_⟩
    refine Ct.of (by decide) (L := [(0, vR (some x)), (1, vI p1), (2, vI p2)]) rfl (Nat.le_of_ble_eq_true rfl) (fun C A => ?_)
    refine xr_aload_n A dX2_number_0 0 rfl rfl ?_
    revert hf; refine ab_bdI (fun v1 mv1 hf => ?_)
    refine xr_get A xc_X2 in_X2 5 (Nat.le_of_ble_eq_true rfl) q211 rfl (ab_gIE mv1) dX2_number_1 ?_
    refine xr_iconst A (v := 3) dX2_number_4 (by decide) ?_
    refine xr_icmp_eq A (tgt := 14) dX2_number_5 (by decide) (fun c5 => ?_) (fun c5 => ?_)
    · replace hf := ab_ip c5 hf
      refine xr_aload_n A dX2_number_14 0 rfl rfl ?_
      revert hf; refine ab_bdI (fun v2 mv2 hf => ?_)
      refine xr_get A xc_X2 in_X2 7 (Nat.le_of_ble_eq_true rfl) q213 rfl (ab_gIE mv2) dX2_number_15 ?_
      refine xr_iload_n A dX2_number_18 1 rfl rfl ?_
      refine xr_iload_n A dX2_number_19 2 rfl rfl ?_
      revert hf; refine ab_b2I (fun v5 h4 m3 hf => ?_)
      refine xr_SN A bX1_in (wX1_in D m3) q405 n539 (av := [vI v2, vI p1, vI p2]) (rest := []) rfl dX2_number_20 (Nat.le_of_ble_eq_true rfl) (Nat.le_of_ble_eq_true rfl) rfl (Nat.le_of_ble_eq_true rfl) ?_
      refine xr_if_ne A (tgt := 32) dX2_number_23 (by decide) (fun c23 => ?_) (fun c23 => ?_)
      · replace hf := ab_in c23 hf
        refine xr_aload_n A dX2_number_32 0 rfl rfl ?_
        revert hf; refine ab_bdI (fun v6 mv6 hf => ?_)
        refine xr_get A xc_X2 in_X2 7 (Nat.le_of_ble_eq_true rfl) q213 rfl (ab_gIE mv6) dX2_number_33 ?_
        refine xr_istore_n A dX2_number_36 rfl (Nat.le_of_ble_eq_true rfl) (L' := [(3, vI v6), (0, vR (some x)), (1, vI p1), (2, vI p2)]) rfl ?_
        refine xr_aload_n A dX2_number_37 1 rfl rfl ?_
        revert hf; refine ab_bdI (fun h8 m7 hf => ?_)
        refine xr_V0 A bX2_next (wX2_next D m7).2 xc_X2 (wX2_next D m7).1 q530 qs4 q528 (av := []) (rest := []) rfl dX2_number_38 (Nat.le_of_ble_eq_true rfl) (Nat.le_of_ble_eq_true rfl) rfl (Nat.le_of_ble_eq_true rfl) ?_
        refine xr_iload_n A dX2_number_41 0 rfl rfl ?_
        obtain ⟨rfl, rfl⟩ := ab_pr hf
        exact xr_ireturn A rfl rfl dX2_number_42
      · replace hf := ab_ip c23 hf
        refine xr_aload_n A dX2_number_26 0 rfl rfl ?_
        refine xr_iconst A (v := 4) dX2_number_27 (by decide) ?_
        revert hf; refine ab_b2I (fun v11 h10 m9 hf => ?_)
        refine xr_V A bX2_fail (wX2_fail D m9).2 xc_X2 (wX2_fail D m9).1 q628 qs7 q626 (av := [vI (4 : Int32)]) (rest := []) rfl dX2_number_28 (Nat.le_of_ble_eq_true rfl) (Nat.le_of_ble_eq_true rfl) rfl (Nat.le_of_ble_eq_true rfl) ?_
        revert hf; refine ab_bdI (fun a12 e hf => ?_); subst e
        replace hf := ab_czE hf; obtain ⟨i31, hf⟩ := hf
        refine xr_athrow A i31 dX2_number_31 ?_
        obtain ⟨rfl, rfl⟩ := ab_pr hf
        exact xr_out A rfl
    · replace hf := ab_in c5 hf
      refine xr_aload_n A dX2_number_8 0 rfl rfl ?_
      refine xr_iconst A (v := 1) dX2_number_9 (by decide) ?_
      revert hf; refine ab_b2I (fun v15 h14 m13 hf => ?_)
      refine xr_V A bX2_fail (wX2_fail D m13).2 xc_X2 (wX2_fail D m13).1 q628 qs7 q626 (av := [vI (1 : Int32)]) (rest := []) rfl dX2_number_10 (Nat.le_of_ble_eq_true rfl) (Nat.le_of_ble_eq_true rfl) rfl (Nat.le_of_ble_eq_true rfl) ?_
      revert hf; refine ab_bdI (fun a16 e hf => ?_); subst e
      replace hf := ab_czE hf; obtain ⟨i13, hf⟩ := hf
      refine xr_athrow A i13 dX2_number_13 ?_
      obtain ⟨rfl, rfl⟩ := ab_pr hf
      exact xr_out A rfl
/-! X2_told -/
theorem bX2_told : MB yX2_told cX2_told 4 (some FieldType.int) 3 := ⟨q712, q93, by decide, by decide +kernel⟩
noncomputable def fX2_told (x : Nat) (p1 : Option Nat) (p2 : Int32) (p3 : Int32) (h : Hp) : Option ((Int32 ⊕ Nat) × Hp) :=
  ab_ck h x 1 <|
  ab_bx (fX2_must x p1 h) (fun _ h2 =>
  ab_bx (fX2_number x p2 p3 h2) (fun v5 h4 =>
  some (.inl v5, h4)) fun qh4 gh4 => some (.inr qh4, gh4)) fun qh2 gh2 => some (.inr qh2, gh2)
theorem wX2_told (D : Dd) {x : Nat} {p1 : Option Nat} {p2 : Int32} {p3 : Int32} {h : Hp} {ρ : Int32 ⊕ Nat} {h' : Hp} (hf : fX2_told x p1 p2 p3 h = some (ρ, h')) : ab_is h x 1 ∧ Ct D 8 183 yX2_told cX2_told 4 (some FieldType.int) [vR (some x), vR p1, vI p2, vI p3] h (xoI ρ) h' := by
    unfold fX2_told at hf
    replace hf := ab_ckE hf; obtain ⟨i0, hf⟩ := hf
    refine ⟨i0, ?_⟩
    refine Ct.of (by decide) (L := [(0, vR (some x)), (1, vR p1), (2, vI p2), (3, vI p3)]) rfl (Nat.le_of_ble_eq_true rfl) (fun C A => ?_)
    refine xr_aload_n A dX2_told_0 0 rfl rfl ?_
    refine xr_aload_n A dX2_told_1 1 rfl rfl ?_
    revert hf; refine ab_bxI (fun uh2 h2 m1 hf => ?_) (fun qh2 gh2 m1 hf => ?_)
    · refine xr_V0 A bX2_must (wX2_must D m1).2 xc_X2 (wX2_must D m1).1 q715 qs10 q713 (av := [vR p1]) (rest := []) rfl dX2_told_2 (Nat.le_of_ble_eq_true rfl) (Nat.le_of_ble_eq_true rfl) rfl (Nat.le_of_ble_eq_true rfl) ?_
      refine xr_aload_n A dX2_told_5 0 rfl rfl ?_
      refine xr_iload_n A dX2_told_6 2 rfl rfl ?_
      refine xr_iload_n A dX2_told_7 3 rfl rfl ?_
      revert hf; refine ab_bxI (fun v5 h4 m3 hf => ?_) (fun qh4 gh4 m3 hf => ?_)
      · refine xr_V A bX2_number (wX2_number D m3).2 xc_X2 (wX2_number D m3).1 q727 qs13 q725 (av := [vI p2, vI p3]) (rest := []) rfl dX2_told_8 (Nat.le_of_ble_eq_true rfl) (Nat.le_of_ble_eq_true rfl) rfl (Nat.le_of_ble_eq_true rfl) ?_
        obtain ⟨rfl, rfl⟩ := ab_pr hf
        exact xr_ireturn A rfl rfl dX2_told_11
      · refine xr_VX A bX2_number (wX2_number D m3).2 xc_X2 (wX2_number D m3).1 q727 qs13 q725 (av := [vI p2, vI p3]) (rest := []) rfl dX2_told_8 (Nat.le_of_ble_eq_true rfl) (Nat.le_of_ble_eq_true rfl) rfl (Nat.le_of_ble_eq_true rfl) ?_
        obtain ⟨rfl, rfl⟩ := ab_pr hf
        exact xr_out A rfl
    · refine xr_VX A bX2_must (wX2_must D m1).2 xc_X2 (wX2_must D m1).1 q715 qs10 q713 (av := [vR p1]) (rest := []) rfl dX2_told_2 (Nat.le_of_ble_eq_true rfl) (Nat.le_of_ble_eq_true rfl) rfl (Nat.le_of_ble_eq_true rfl) ?_
      obtain ⟨rfl, rfl⟩ := ab_pr hf
      exact xr_out A rfl
/-! X2_mustName -/
theorem bX2_mustName : MB yX2_mustName cX2_mustName 3 (none : Option FieldType) 0 := ⟨q743, q93, by decide, by decide +kernel⟩
noncomputable def fX2_mustName_b280 (x : Nat) (l2 : Int32) (h : Hp) : Option ((Unit ⊕ Nat) × Hp) :=
  if l2 = (0 : Int32) then (
    ab_b2 (fX2_fail x (1 : Int32) h) fun v3 h2 =>
    ab_bd v3 fun a4 =>
    ab_cz h2 a4 2 <| some (.inr a4, h2))
  else
  if l2 = (1 : Int32) then (
    ab_b2 (fX2_fail x (1 : Int32) h) fun v7 h6 =>
    ab_bd v7 fun a8 =>
    ab_cz h6 a8 2 <| some (.inr a8, h6))
  else
  if l2 = (2 : Int32) then (
    ab_b2 (fX2_fail x (1 : Int32) h) fun v11 h10 =>
    ab_bd v11 fun a12 =>
    ab_cz h10 a12 2 <| some (.inr a12, h10))
  else
  if l2 = (3 : Int32) then (
    ab_b2 (fX2_fail x (1 : Int32) h) fun v15 h14 =>
    ab_bd v15 fun a16 =>
    ab_cz h14 a16 2 <| some (.inr a16, h14))
  else
  if l2 = (4 : Int32) then (
    ab_b2 (fX2_fail x (1 : Int32) h) fun v19 h18 =>
    ab_bd v19 fun a20 =>
    ab_cz h18 a20 2 <| some (.inr a20, h18))
  else
  if l2 = (5 : Int32) then (
    ab_b2 (fX2_fail x (1 : Int32) h) fun v23 h22 =>
    ab_bd v23 fun a24 =>
    ab_cz h22 a24 2 <| some (.inr a24, h22))
  else
  if l2 = (6 : Int32) then (
    ab_b2 (fX2_fail x (1 : Int32) h) fun v27 h26 =>
    ab_bd v27 fun a28 =>
    ab_cz h26 a28 2 <| some (.inr a28, h26))
  else
  if l2 = (7 : Int32) then (
    ab_b2 (fX2_fail x (1 : Int32) h) fun v31 h30 =>
    ab_bd v31 fun a32 =>
    ab_cz h30 a32 2 <| some (.inr a32, h30))
  else
  if l2 = (8 : Int32) then (
    ab_b2 (fX2_fail x (1 : Int32) h) fun v35 h34 =>
    ab_bd v35 fun a36 =>
    ab_cz h34 a36 2 <| some (.inr a36, h34))
  else
  if l2 = (9 : Int32) then (
    ab_b2 (fX2_fail x (1 : Int32) h) fun v39 h38 =>
    ab_bd v39 fun a40 =>
    ab_cz h38 a40 2 <| some (.inr a40, h38))
  else
  if l2 = (10 : Int32) then (
    ab_b2 (fX2_fail x (1 : Int32) h) fun v43 h42 =>
    ab_bd v43 fun a44 =>
    ab_cz h42 a44 2 <| some (.inr a44, h42))
  else
  some (.inl (), h)
theorem wX2_mustName_b280 {D : Dd} {C : Cx} {h0 h' : Hp} {ρ : Unit ⊕ Nat} (A : Act C D (h0, (xoV ρ), h') yX2_mustName cX2_mustName 3 (none : Option FieldType) 5 110 []) {x : Nat} {l2 : Int32} {h : Hp} (hf : fX2_mustName_b280 x l2 h = some (ρ, h')) : X C D (h0, (xoV ρ), h') 3 280 [(0, vR (some x)), (2, vI l2)] [] h := by
  unfold fX2_mustName_b280 at hf
  refine xr_iload_n A dX2_mustName_280 1 rfl rfl ?_
  by_cases c281_0 : l2 = (0 : Int32)
  · replace hf := ab_ip c281_0 hf
    refine xr_tabIn A (tgt := 340) dX2_mustName_281 (by rw [c281_0]; decide) (by rw [c281_0]; decide) (by rw [c281_0]; rfl) (by decide) ?_
    refine xr_aload_n A dX2_mustName_340 0 rfl rfl ?_
    refine xr_iconst A (v := 1) dX2_mustName_341 (by decide) ?_
    revert hf; refine ab_b2I (fun v3 h2 m1 hf => ?_)
    refine xr_V A bX2_fail (wX2_fail D m1).2 xc_X2 (wX2_fail D m1).1 q628 qs7 q626 (av := [vI (1 : Int32)]) (rest := []) rfl dX2_mustName_342 (Nat.le_of_ble_eq_true rfl) (Nat.le_of_ble_eq_true rfl) rfl (Nat.le_of_ble_eq_true rfl) ?_
    revert hf; refine ab_bdI (fun a4 e hf => ?_); subst e
    replace hf := ab_czE hf; obtain ⟨i345, hf⟩ := hf
    refine xr_athrow A i345 dX2_mustName_345 ?_
    obtain ⟨rfl, rfl⟩ := ab_pr hf
    exact xr_out A rfl
  replace hf := ab_in c281_0 hf
  by_cases c281_1 : l2 = (1 : Int32)
  · replace hf := ab_ip c281_1 hf
    refine xr_tabIn A (tgt := 340) dX2_mustName_281 (by rw [c281_1]; decide) (by rw [c281_1]; decide) (by rw [c281_1]; rfl) (by decide) ?_
    refine xr_aload_n A dX2_mustName_340 0 rfl rfl ?_
    refine xr_iconst A (v := 1) dX2_mustName_341 (by decide) ?_
    revert hf; refine ab_b2I (fun v7 h6 m5 hf => ?_)
    refine xr_V A bX2_fail (wX2_fail D m5).2 xc_X2 (wX2_fail D m5).1 q628 qs7 q626 (av := [vI (1 : Int32)]) (rest := []) rfl dX2_mustName_342 (Nat.le_of_ble_eq_true rfl) (Nat.le_of_ble_eq_true rfl) rfl (Nat.le_of_ble_eq_true rfl) ?_
    revert hf; refine ab_bdI (fun a8 e hf => ?_); subst e
    replace hf := ab_czE hf; obtain ⟨i345, hf⟩ := hf
    refine xr_athrow A i345 dX2_mustName_345 ?_
    obtain ⟨rfl, rfl⟩ := ab_pr hf
    exact xr_out A rfl
  replace hf := ab_in c281_1 hf
  by_cases c281_2 : l2 = (2 : Int32)
  · replace hf := ab_ip c281_2 hf
    refine xr_tabIn A (tgt := 340) dX2_mustName_281 (by rw [c281_2]; decide) (by rw [c281_2]; decide) (by rw [c281_2]; rfl) (by decide) ?_
    refine xr_aload_n A dX2_mustName_340 0 rfl rfl ?_
    refine xr_iconst A (v := 1) dX2_mustName_341 (by decide) ?_
    revert hf; refine ab_b2I (fun v11 h10 m9 hf => ?_)
    refine xr_V A bX2_fail (wX2_fail D m9).2 xc_X2 (wX2_fail D m9).1 q628 qs7 q626 (av := [vI (1 : Int32)]) (rest := []) rfl dX2_mustName_342 (Nat.le_of_ble_eq_true rfl) (Nat.le_of_ble_eq_true rfl) rfl (Nat.le_of_ble_eq_true rfl) ?_
    revert hf; refine ab_bdI (fun a12 e hf => ?_); subst e
    replace hf := ab_czE hf; obtain ⟨i345, hf⟩ := hf
    refine xr_athrow A i345 dX2_mustName_345 ?_
    obtain ⟨rfl, rfl⟩ := ab_pr hf
    exact xr_out A rfl
  replace hf := ab_in c281_2 hf
  by_cases c281_3 : l2 = (3 : Int32)
  · replace hf := ab_ip c281_3 hf
    refine xr_tabIn A (tgt := 340) dX2_mustName_281 (by rw [c281_3]; decide) (by rw [c281_3]; decide) (by rw [c281_3]; rfl) (by decide) ?_
    refine xr_aload_n A dX2_mustName_340 0 rfl rfl ?_
    refine xr_iconst A (v := 1) dX2_mustName_341 (by decide) ?_
    revert hf; refine ab_b2I (fun v15 h14 m13 hf => ?_)
    refine xr_V A bX2_fail (wX2_fail D m13).2 xc_X2 (wX2_fail D m13).1 q628 qs7 q626 (av := [vI (1 : Int32)]) (rest := []) rfl dX2_mustName_342 (Nat.le_of_ble_eq_true rfl) (Nat.le_of_ble_eq_true rfl) rfl (Nat.le_of_ble_eq_true rfl) ?_
    revert hf; refine ab_bdI (fun a16 e hf => ?_); subst e
    replace hf := ab_czE hf; obtain ⟨i345, hf⟩ := hf
    refine xr_athrow A i345 dX2_mustName_345 ?_
    obtain ⟨rfl, rfl⟩ := ab_pr hf
    exact xr_out A rfl
  replace hf := ab_in c281_3 hf
  by_cases c281_4 : l2 = (4 : Int32)
  · replace hf := ab_ip c281_4 hf
    refine xr_tabIn A (tgt := 340) dX2_mustName_281 (by rw [c281_4]; decide) (by rw [c281_4]; decide) (by rw [c281_4]; rfl) (by decide) ?_
    refine xr_aload_n A dX2_mustName_340 0 rfl rfl ?_
    refine xr_iconst A (v := 1) dX2_mustName_341 (by decide) ?_
    revert hf; refine ab_b2I (fun v19 h18 m17 hf => ?_)
    refine xr_V A bX2_fail (wX2_fail D m17).2 xc_X2 (wX2_fail D m17).1 q628 qs7 q626 (av := [vI (1 : Int32)]) (rest := []) rfl dX2_mustName_342 (Nat.le_of_ble_eq_true rfl) (Nat.le_of_ble_eq_true rfl) rfl (Nat.le_of_ble_eq_true rfl) ?_
    revert hf; refine ab_bdI (fun a20 e hf => ?_); subst e
    replace hf := ab_czE hf; obtain ⟨i345, hf⟩ := hf
    refine xr_athrow A i345 dX2_mustName_345 ?_
    obtain ⟨rfl, rfl⟩ := ab_pr hf
    exact xr_out A rfl
  replace hf := ab_in c281_4 hf
  by_cases c281_5 : l2 = (5 : Int32)
  · replace hf := ab_ip c281_5 hf
    refine xr_tabIn A (tgt := 340) dX2_mustName_281 (by rw [c281_5]; decide) (by rw [c281_5]; decide) (by rw [c281_5]; rfl) (by decide) ?_
    refine xr_aload_n A dX2_mustName_340 0 rfl rfl ?_
    refine xr_iconst A (v := 1) dX2_mustName_341 (by decide) ?_
    revert hf; refine ab_b2I (fun v23 h22 m21 hf => ?_)
    refine xr_V A bX2_fail (wX2_fail D m21).2 xc_X2 (wX2_fail D m21).1 q628 qs7 q626 (av := [vI (1 : Int32)]) (rest := []) rfl dX2_mustName_342 (Nat.le_of_ble_eq_true rfl) (Nat.le_of_ble_eq_true rfl) rfl (Nat.le_of_ble_eq_true rfl) ?_
    revert hf; refine ab_bdI (fun a24 e hf => ?_); subst e
    replace hf := ab_czE hf; obtain ⟨i345, hf⟩ := hf
    refine xr_athrow A i345 dX2_mustName_345 ?_
    obtain ⟨rfl, rfl⟩ := ab_pr hf
    exact xr_out A rfl
  replace hf := ab_in c281_5 hf
  by_cases c281_6 : l2 = (6 : Int32)
  · replace hf := ab_ip c281_6 hf
    refine xr_tabIn A (tgt := 340) dX2_mustName_281 (by rw [c281_6]; decide) (by rw [c281_6]; decide) (by rw [c281_6]; rfl) (by decide) ?_
    refine xr_aload_n A dX2_mustName_340 0 rfl rfl ?_
    refine xr_iconst A (v := 1) dX2_mustName_341 (by decide) ?_
    revert hf; refine ab_b2I (fun v27 h26 m25 hf => ?_)
    refine xr_V A bX2_fail (wX2_fail D m25).2 xc_X2 (wX2_fail D m25).1 q628 qs7 q626 (av := [vI (1 : Int32)]) (rest := []) rfl dX2_mustName_342 (Nat.le_of_ble_eq_true rfl) (Nat.le_of_ble_eq_true rfl) rfl (Nat.le_of_ble_eq_true rfl) ?_
    revert hf; refine ab_bdI (fun a28 e hf => ?_); subst e
    replace hf := ab_czE hf; obtain ⟨i345, hf⟩ := hf
    refine xr_athrow A i345 dX2_mustName_345 ?_
    obtain ⟨rfl, rfl⟩ := ab_pr hf
    exact xr_out A rfl
  replace hf := ab_in c281_6 hf
  by_cases c281_7 : l2 = (7 : Int32)
  · replace hf := ab_ip c281_7 hf
    refine xr_tabIn A (tgt := 340) dX2_mustName_281 (by rw [c281_7]; decide) (by rw [c281_7]; decide) (by rw [c281_7]; rfl) (by decide) ?_
    refine xr_aload_n A dX2_mustName_340 0 rfl rfl ?_
    refine xr_iconst A (v := 1) dX2_mustName_341 (by decide) ?_
    revert hf; refine ab_b2I (fun v31 h30 m29 hf => ?_)
    refine xr_V A bX2_fail (wX2_fail D m29).2 xc_X2 (wX2_fail D m29).1 q628 qs7 q626 (av := [vI (1 : Int32)]) (rest := []) rfl dX2_mustName_342 (Nat.le_of_ble_eq_true rfl) (Nat.le_of_ble_eq_true rfl) rfl (Nat.le_of_ble_eq_true rfl) ?_
    revert hf; refine ab_bdI (fun a32 e hf => ?_); subst e
    replace hf := ab_czE hf; obtain ⟨i345, hf⟩ := hf
    refine xr_athrow A i345 dX2_mustName_345 ?_
    obtain ⟨rfl, rfl⟩ := ab_pr hf
    exact xr_out A rfl
  replace hf := ab_in c281_7 hf
  by_cases c281_8 : l2 = (8 : Int32)
  · replace hf := ab_ip c281_8 hf
    refine xr_tabIn A (tgt := 340) dX2_mustName_281 (by rw [c281_8]; decide) (by rw [c281_8]; decide) (by rw [c281_8]; rfl) (by decide) ?_
    refine xr_aload_n A dX2_mustName_340 0 rfl rfl ?_
    refine xr_iconst A (v := 1) dX2_mustName_341 (by decide) ?_
    revert hf; refine ab_b2I (fun v35 h34 m33 hf => ?_)
    refine xr_V A bX2_fail (wX2_fail D m33).2 xc_X2 (wX2_fail D m33).1 q628 qs7 q626 (av := [vI (1 : Int32)]) (rest := []) rfl dX2_mustName_342 (Nat.le_of_ble_eq_true rfl) (Nat.le_of_ble_eq_true rfl) rfl (Nat.le_of_ble_eq_true rfl) ?_
    revert hf; refine ab_bdI (fun a36 e hf => ?_); subst e
    replace hf := ab_czE hf; obtain ⟨i345, hf⟩ := hf
    refine xr_athrow A i345 dX2_mustName_345 ?_
    obtain ⟨rfl, rfl⟩ := ab_pr hf
    exact xr_out A rfl
  replace hf := ab_in c281_8 hf
  by_cases c281_9 : l2 = (9 : Int32)
  · replace hf := ab_ip c281_9 hf
    refine xr_tabIn A (tgt := 340) dX2_mustName_281 (by rw [c281_9]; decide) (by rw [c281_9]; decide) (by rw [c281_9]; rfl) (by decide) ?_
    refine xr_aload_n A dX2_mustName_340 0 rfl rfl ?_
    refine xr_iconst A (v := 1) dX2_mustName_341 (by decide) ?_
    revert hf; refine ab_b2I (fun v39 h38 m37 hf => ?_)
    refine xr_V A bX2_fail (wX2_fail D m37).2 xc_X2 (wX2_fail D m37).1 q628 qs7 q626 (av := [vI (1 : Int32)]) (rest := []) rfl dX2_mustName_342 (Nat.le_of_ble_eq_true rfl) (Nat.le_of_ble_eq_true rfl) rfl (Nat.le_of_ble_eq_true rfl) ?_
    revert hf; refine ab_bdI (fun a40 e hf => ?_); subst e
    replace hf := ab_czE hf; obtain ⟨i345, hf⟩ := hf
    refine xr_athrow A i345 dX2_mustName_345 ?_
    obtain ⟨rfl, rfl⟩ := ab_pr hf
    exact xr_out A rfl
  replace hf := ab_in c281_9 hf
  by_cases c281_10 : l2 = (10 : Int32)
  · replace hf := ab_ip c281_10 hf
    refine xr_tabIn A (tgt := 340) dX2_mustName_281 (by rw [c281_10]; decide) (by rw [c281_10]; decide) (by rw [c281_10]; rfl) (by decide) ?_
    refine xr_aload_n A dX2_mustName_340 0 rfl rfl ?_
    refine xr_iconst A (v := 1) dX2_mustName_341 (by decide) ?_
    revert hf; refine ab_b2I (fun v43 h42 m41 hf => ?_)
    refine xr_V A bX2_fail (wX2_fail D m41).2 xc_X2 (wX2_fail D m41).1 q628 qs7 q626 (av := [vI (1 : Int32)]) (rest := []) rfl dX2_mustName_342 (Nat.le_of_ble_eq_true rfl) (Nat.le_of_ble_eq_true rfl) rfl (Nat.le_of_ble_eq_true rfl) ?_
    revert hf; refine ab_bdI (fun a44 e hf => ?_); subst e
    replace hf := ab_czE hf; obtain ⟨i345, hf⟩ := hf
    refine xr_athrow A i345 dX2_mustName_345 ?_
    obtain ⟨rfl, rfl⟩ := ab_pr hf
    exact xr_out A rfl
  replace hf := ab_in c281_10 hf
  refine xr_tabOut A (tgt := 346) dX2_mustName_281 (ab_tab 0 10 (by decide) [(0 : Int32), (1 : Int32), (2 : Int32), (3 : Int32), (4 : Int32), (5 : Int32), (6 : Int32), (7 : Int32), (8 : Int32), (9 : Int32), (10 : Int32)] rfl (by simp only [List.forall_mem_cons]; exact ⟨c281_0, c281_1, c281_2, c281_3, c281_4, c281_5, c281_6, c281_7, c281_8, c281_9, c281_10, fun _ h => absurd h List.not_mem_nil⟩)) (by decide) ?_
  obtain ⟨rfl, rfl⟩ := ab_pr hf
  exact xr_return A rfl dX2_mustName_346
noncomputable def fX2_mustName (x : Nat) (h : Hp) : Option ((Unit ⊕ Nat) × Hp) :=
  ab_ck h x 1 <|
  ab_bd (ab_gI h x 1 5) fun v1 =>
  if v1 = (2 : Int32) then (
    ab_bd (ab_gR h x 1 8) fun v2 =>
    ab_bd v2 fun a3 =>
    ab_b2 (fJ3_hashCode a3 h) fun v6 h5 =>
    if v6 = (-1420247761 : Int32) then (
      ab_b2 (fJ3_equals a3 (some (hstr h5 13)) h5) fun v9 h8 =>
      if v9 = 0 then (
        fX2_mustName_b280 x (-1 : Int32) h8)
      else (
        fX2_mustName_b280 x (10 : Int32) h8))
    else
    if v6 = (-1220931666 : Int32) then (
      ab_b2 (fJ3_equals a3 (some (hstr h5 9)) h5) fun v12 h11 =>
      if v12 = 0 then (
        fX2_mustName_b280 x (-1 : Int32) h11)
      else (
        fX2_mustName_b280 x (8 : Int32) h11))
    else
    if v6 = (-705112156 : Int32) then (
      ab_b2 (fJ3_equals a3 (some (hstr h5 2)) h5) fun v15 h14 =>
      if v15 = 0 then (
        fX2_mustName_b280 x (-1 : Int32) h14)
      else (
        fX2_mustName_b280 x (1 : Int32) h14))
    else
    if v6 = (98260 : Int32) then (
      ab_b2 (fJ3_equals a3 (some (hstr h5 7)) h5) fun v18 h17 =>
      if v18 = 0 then (
        fX2_mustName_b280 x (-1 : Int32) h17)
      else (
        fX2_mustName_b280 x (6 : Int32) h17))
    else
    if v6 = (99644 : Int32) then (
      ab_b2 (fJ3_equals a3 (some (hstr h5 12)) h5) fun v21 h20 =>
      if v21 = 0 then (
        fX2_mustName_b280 x (-1 : Int32) h20)
      else (
        fX2_mustName_b280 x (9 : Int32) h20))
    else
    if v6 = (106914 : Int32) then (
      ab_b2 (fJ3_equals a3 (some (hstr h5 1)) h5) fun v24 h23 =>
      if v24 = 0 then (
        fX2_mustName_b280 x (-1 : Int32) h23)
      else (
        fX2_mustName_b280 x (0 : Int32) h23))
    else
    if v6 = (3045982 : Int32) then (
      ab_b2 (fJ3_equals a3 (some (hstr h5 8)) h5) fun v27 h26 =>
      if v27 = 0 then (
        fX2_mustName_b280 x (-1 : Int32) h26)
      else (
        fX2_mustName_b280 x (7 : Int32) h26))
    else
    if v6 = (3083252 : Int32) then (
      ab_b2 (fJ3_equals a3 (some (hstr h5 5)) h5) fun v30 h29 =>
      if v30 = 0 then (
        fX2_mustName_b280 x (-1 : Int32) h29)
      else (
        fX2_mustName_b280 x (4 : Int32) h29))
    else
    if v6 = (3083674 : Int32) then (
      ab_b2 (fJ3_equals a3 (some (hstr h5 4)) h5) fun v33 h32 =>
      if v33 = 0 then (
        fX2_mustName_b280 x (-1 : Int32) h32)
      else (
        fX2_mustName_b280 x (3 : Int32) h32))
    else
    if v6 = (97526782 : Int32) then (
      ab_b2 (fJ3_equals a3 (some (hstr h5 3)) h5) fun v36 h35 =>
      if v36 = 0 then (
        fX2_mustName_b280 x (-1 : Int32) h35)
      else (
        fX2_mustName_b280 x (2 : Int32) h35))
    else
    if v6 = (99469088 : Int32) then (
      ab_b2 (fJ3_equals a3 (some (hstr h5 6)) h5) fun v39 h38 =>
      if v39 = 0 then (
        fX2_mustName_b280 x (-1 : Int32) h38)
      else (
        fX2_mustName_b280 x (5 : Int32) h38))
    else
    fX2_mustName_b280 x (-1 : Int32) h5)
  else (
    ab_b2 (fX2_fail x (1 : Int32) h) fun v42 h41 =>
    ab_bd v42 fun a43 =>
    ab_cz h41 a43 2 <| some (.inr a43, h41))
theorem wX2_mustName (D : Dd) {x : Nat} {h : Hp} {ρ : Unit ⊕ Nat} {h' : Hp} (hf : fX2_mustName x h = some (ρ, h')) : ab_is h x 1 ∧ Ct D 5 110 yX2_mustName cX2_mustName 3 (none : Option FieldType) [vR (some x)] h (xoV ρ) h' := by
    unfold fX2_mustName at hf
    replace hf := ab_ckE hf; obtain ⟨i0, hf⟩ := hf
    refine ⟨i0, ?_⟩
    refine Ct.of (by decide) (L := [(0, vR (some x))]) rfl (Nat.le_of_ble_eq_true rfl) (fun C A => ?_)
    refine xr_aload_n A dX2_mustName_0 0 rfl rfl ?_
    revert hf; refine ab_bdI (fun v1 mv1 hf => ?_)
    refine xr_get A xc_X2 in_X2 5 (Nat.le_of_ble_eq_true rfl) q211 rfl (ab_gIE mv1) dX2_mustName_1 ?_
    refine xr_iconst A (v := 2) dX2_mustName_4 (by decide) ?_
    refine xr_icmp_eq A (tgt := 14) dX2_mustName_5 (by decide) (fun c5 => ?_) (fun c5 => ?_)
    · replace hf := ab_ip c5 hf
      refine xr_aload_n A dX2_mustName_14 0 rfl rfl ?_
      revert hf; refine ab_bdI (fun v2 mv2 hf => ?_)
      refine xr_get A xc_X2 in_X2 8 (Nat.le_of_ble_eq_true rfl) q214 rfl (ab_gRE mv2) dX2_mustName_15 ?_
      refine xr_astore_n A dX2_mustName_18 rfl (Nat.le_of_ble_eq_true rfl) (L' := [(1, vR v2), (0, vR (some x))]) rfl ?_
      refine xr_iconst A (v := (-1)) dX2_mustName_19 (by decide) ?_
      refine xr_istore_n A dX2_mustName_20 rfl (Nat.le_of_ble_eq_true rfl) (L' := [(2, vI (-1 : Int32)), (1, vR v2), (0, vR (some x))]) rfl ?_
      refine xr_aload_n A dX2_mustName_21 1 rfl rfl ?_
      revert hf; refine ab_bdI (fun a3 e hf => ?_); subst e
      revert hf; refine ab_b2I (fun v6 h5 m4 hf => ?_)
      refine xr_V A bJ3_hashCode (wJ3_hashCode D m4).2 xc_J3 (wJ3_hashCode D m4).1 q635 q636 q634 (av := []) (rest := []) rfl dX2_mustName_22 (Nat.le_of_ble_eq_true rfl) (Nat.le_of_ble_eq_true rfl) rfl (Nat.le_of_ble_eq_true rfl) ?_
      by_cases c25_m1420247761 : v6 = (-1420247761 : Int32)
      · replace hf := ab_ip c25_m1420247761 hf
        refine xr_lookup A (tgt := 268) dX2_mustName_25 (by decide) (off := 243) (by rw [c25_m1420247761] <;> rfl) (by decide) ?_
        refine xr_aload_n A dX2_mustName_268 1 rfl rfl ?_
        refine xr_ldcs A t745 dX2_mustName_269 ?_
        revert hf; refine ab_b2I (fun v9 h8 m7 hf => ?_)
        refine xr_V A bJ3_equals (wJ3_equals D m7).2 xc_J3 (wJ3_equals D m7).1 q689 q690 q688 (av := [vR (some (hstr h5 13))]) (rest := []) rfl dX2_mustName_271 (Nat.le_of_ble_eq_true rfl) (Nat.le_of_ble_eq_true rfl) rfl (Nat.le_of_ble_eq_true rfl) ?_
        refine xr_if_eq A (tgt := 280) dX2_mustName_274 (by decide) (fun c274 => ?_) (fun c274 => ?_)
        · replace hf := ab_ip c274 hf
          refine X.sub [2, 0] rfl ?_
          exact wX2_mustName_b280 A hf
        · replace hf := ab_in c274 hf
          refine xr_bipush A (v := 10) dX2_mustName_277 (by decide) ?_
          refine xr_istore_n A dX2_mustName_279 rfl (Nat.le_of_ble_eq_true rfl) (L' := [(2, vI (10 : Int32)), (1, vR (some a3)), (0, vR (some x))]) rfl ?_
          refine X.sub [2, 0] rfl ?_
          exact wX2_mustName_b280 A hf
      replace hf := ab_in c25_m1420247761 hf
      by_cases c25_m1220931666 : v6 = (-1220931666 : Int32)
      · replace hf := ab_ip c25_m1220931666 hf
        refine xr_lookup A (tgt := 238) dX2_mustName_25 (by decide) (off := 213) (by rw [c25_m1220931666] <;> rfl) (by decide) ?_
        refine xr_aload_n A dX2_mustName_238 1 rfl rfl ?_
        refine xr_ldcs A t703 dX2_mustName_239 ?_
        revert hf; refine ab_b2I (fun v12 h11 m10 hf => ?_)
        refine xr_V A bJ3_equals (wJ3_equals D m10).2 xc_J3 (wJ3_equals D m10).1 q689 q690 q688 (av := [vR (some (hstr h5 9))]) (rest := []) rfl dX2_mustName_241 (Nat.le_of_ble_eq_true rfl) (Nat.le_of_ble_eq_true rfl) rfl (Nat.le_of_ble_eq_true rfl) ?_
        refine xr_if_eq A (tgt := 280) dX2_mustName_244 (by decide) (fun c244 => ?_) (fun c244 => ?_)
        · replace hf := ab_ip c244 hf
          refine X.sub [2, 0] rfl ?_
          exact wX2_mustName_b280 A hf
        · replace hf := ab_in c244 hf
          refine xr_bipush A (v := 8) dX2_mustName_247 (by decide) ?_
          refine xr_istore_n A dX2_mustName_249 rfl (Nat.le_of_ble_eq_true rfl) (L' := [(2, vI (8 : Int32)), (1, vR (some a3)), (0, vR (some x))]) rfl ?_
          refine xr_goto A (tgt := 280) dX2_mustName_250 (by decide) ?_
          refine X.sub [2, 0] rfl ?_
          exact wX2_mustName_b280 A hf
      replace hf := ab_in c25_m1220931666 hf
      by_cases c25_m705112156 : v6 = (-705112156 : Int32)
      · replace hf := ab_ip c25_m705112156 hf
        refine xr_lookup A (tgt := 138) dX2_mustName_25 (by decide) (off := 113) (by rw [c25_m705112156] <;> rfl) (by decide) ?_
        refine xr_aload_n A dX2_mustName_138 1 rfl rfl ?_
        refine xr_ldcs A t696 dX2_mustName_139 ?_
        revert hf; refine ab_b2I (fun v15 h14 m13 hf => ?_)
        refine xr_V A bJ3_equals (wJ3_equals D m13).2 xc_J3 (wJ3_equals D m13).1 q689 q690 q688 (av := [vR (some (hstr h5 2))]) (rest := []) rfl dX2_mustName_141 (Nat.le_of_ble_eq_true rfl) (Nat.le_of_ble_eq_true rfl) rfl (Nat.le_of_ble_eq_true rfl) ?_
        refine xr_if_eq A (tgt := 280) dX2_mustName_144 (by decide) (fun c144 => ?_) (fun c144 => ?_)
        · replace hf := ab_ip c144 hf
          refine X.sub [2, 0] rfl ?_
          exact wX2_mustName_b280 A hf
        · replace hf := ab_in c144 hf
          refine xr_iconst A (v := 1) dX2_mustName_147 (by decide) ?_
          refine xr_istore_n A dX2_mustName_148 rfl (Nat.le_of_ble_eq_true rfl) (L' := [(2, vI (1 : Int32)), (1, vR (some a3)), (0, vR (some x))]) rfl ?_
          refine xr_goto A (tgt := 280) dX2_mustName_149 (by decide) ?_
          refine X.sub [2, 0] rfl ?_
          exact wX2_mustName_b280 A hf
      replace hf := ab_in c25_m705112156 hf
      by_cases c25_98260 : v6 = (98260 : Int32)
      · replace hf := ab_ip c25_98260 hf
        refine xr_lookup A (tgt := 208) dX2_mustName_25 (by decide) (off := 183) (by rw [c25_98260] <;> rfl) (by decide) ?_
        refine xr_aload_n A dX2_mustName_208 1 rfl rfl ?_
        refine xr_ldcs A t701 dX2_mustName_209 ?_
        revert hf; refine ab_b2I (fun v18 h17 m16 hf => ?_)
        refine xr_V A bJ3_equals (wJ3_equals D m16).2 xc_J3 (wJ3_equals D m16).1 q689 q690 q688 (av := [vR (some (hstr h5 7))]) (rest := []) rfl dX2_mustName_211 (Nat.le_of_ble_eq_true rfl) (Nat.le_of_ble_eq_true rfl) rfl (Nat.le_of_ble_eq_true rfl) ?_
        refine xr_if_eq A (tgt := 280) dX2_mustName_214 (by decide) (fun c214 => ?_) (fun c214 => ?_)
        · replace hf := ab_ip c214 hf
          refine X.sub [2, 0] rfl ?_
          exact wX2_mustName_b280 A hf
        · replace hf := ab_in c214 hf
          refine xr_bipush A (v := 6) dX2_mustName_217 (by decide) ?_
          refine xr_istore_n A dX2_mustName_219 rfl (Nat.le_of_ble_eq_true rfl) (L' := [(2, vI (6 : Int32)), (1, vR (some a3)), (0, vR (some x))]) rfl ?_
          refine xr_goto A (tgt := 280) dX2_mustName_220 (by decide) ?_
          refine X.sub [2, 0] rfl ?_
          exact wX2_mustName_b280 A hf
      replace hf := ab_in c25_98260 hf
      by_cases c25_99644 : v6 = (99644 : Int32)
      · replace hf := ab_ip c25_99644 hf
        refine xr_lookup A (tgt := 253) dX2_mustName_25 (by decide) (off := 228) (by rw [c25_99644] <;> rfl) (by decide) ?_
        refine xr_aload_n A dX2_mustName_253 1 rfl rfl ?_
        refine xr_ldcs A t744 dX2_mustName_254 ?_
        revert hf; refine ab_b2I (fun v21 h20 m19 hf => ?_)
        refine xr_V A bJ3_equals (wJ3_equals D m19).2 xc_J3 (wJ3_equals D m19).1 q689 q690 q688 (av := [vR (some (hstr h5 12))]) (rest := []) rfl dX2_mustName_256 (Nat.le_of_ble_eq_true rfl) (Nat.le_of_ble_eq_true rfl) rfl (Nat.le_of_ble_eq_true rfl) ?_
        refine xr_if_eq A (tgt := 280) dX2_mustName_259 (by decide) (fun c259 => ?_) (fun c259 => ?_)
        · replace hf := ab_ip c259 hf
          refine X.sub [2, 0] rfl ?_
          exact wX2_mustName_b280 A hf
        · replace hf := ab_in c259 hf
          refine xr_bipush A (v := 9) dX2_mustName_262 (by decide) ?_
          refine xr_istore_n A dX2_mustName_264 rfl (Nat.le_of_ble_eq_true rfl) (L' := [(2, vI (9 : Int32)), (1, vR (some a3)), (0, vR (some x))]) rfl ?_
          refine xr_goto A (tgt := 280) dX2_mustName_265 (by decide) ?_
          refine X.sub [2, 0] rfl ?_
          exact wX2_mustName_b280 A hf
      replace hf := ab_in c25_99644 hf
      by_cases c25_106914 : v6 = (106914 : Int32)
      · replace hf := ab_ip c25_106914 hf
        refine xr_lookup A (tgt := 124) dX2_mustName_25 (by decide) (off := 99) (by rw [c25_106914] <;> rfl) (by decide) ?_
        refine xr_aload_n A dX2_mustName_124 1 rfl rfl ?_
        refine xr_ldcs A t687 dX2_mustName_125 ?_
        revert hf; refine ab_b2I (fun v24 h23 m22 hf => ?_)
        refine xr_V A bJ3_equals (wJ3_equals D m22).2 xc_J3 (wJ3_equals D m22).1 q689 q690 q688 (av := [vR (some (hstr h5 1))]) (rest := []) rfl dX2_mustName_127 (Nat.le_of_ble_eq_true rfl) (Nat.le_of_ble_eq_true rfl) rfl (Nat.le_of_ble_eq_true rfl) ?_
        refine xr_if_eq A (tgt := 280) dX2_mustName_130 (by decide) (fun c130 => ?_) (fun c130 => ?_)
        · replace hf := ab_ip c130 hf
          refine X.sub [2, 0] rfl ?_
          exact wX2_mustName_b280 A hf
        · replace hf := ab_in c130 hf
          refine xr_iconst A (v := 0) dX2_mustName_133 (by decide) ?_
          refine xr_istore_n A dX2_mustName_134 rfl (Nat.le_of_ble_eq_true rfl) (L' := [(2, vI (0 : Int32)), (1, vR (some a3)), (0, vR (some x))]) rfl ?_
          refine xr_goto A (tgt := 280) dX2_mustName_135 (by decide) ?_
          refine X.sub [2, 0] rfl ?_
          exact wX2_mustName_b280 A hf
      replace hf := ab_in c25_106914 hf
      by_cases c25_3045982 : v6 = (3045982 : Int32)
      · replace hf := ab_ip c25_3045982 hf
        refine xr_lookup A (tgt := 223) dX2_mustName_25 (by decide) (off := 198) (by rw [c25_3045982] <;> rfl) (by decide) ?_
        refine xr_aload_n A dX2_mustName_223 1 rfl rfl ?_
        refine xr_ldcs A t702 dX2_mustName_224 ?_
        revert hf; refine ab_b2I (fun v27 h26 m25 hf => ?_)
        refine xr_V A bJ3_equals (wJ3_equals D m25).2 xc_J3 (wJ3_equals D m25).1 q689 q690 q688 (av := [vR (some (hstr h5 8))]) (rest := []) rfl dX2_mustName_226 (Nat.le_of_ble_eq_true rfl) (Nat.le_of_ble_eq_true rfl) rfl (Nat.le_of_ble_eq_true rfl) ?_
        refine xr_if_eq A (tgt := 280) dX2_mustName_229 (by decide) (fun c229 => ?_) (fun c229 => ?_)
        · replace hf := ab_ip c229 hf
          refine X.sub [2, 0] rfl ?_
          exact wX2_mustName_b280 A hf
        · replace hf := ab_in c229 hf
          refine xr_bipush A (v := 7) dX2_mustName_232 (by decide) ?_
          refine xr_istore_n A dX2_mustName_234 rfl (Nat.le_of_ble_eq_true rfl) (L' := [(2, vI (7 : Int32)), (1, vR (some a3)), (0, vR (some x))]) rfl ?_
          refine xr_goto A (tgt := 280) dX2_mustName_235 (by decide) ?_
          refine X.sub [2, 0] rfl ?_
          exact wX2_mustName_b280 A hf
      replace hf := ab_in c25_3045982 hf
      by_cases c25_3083252 : v6 = (3083252 : Int32)
      · replace hf := ab_ip c25_3083252 hf
        refine xr_lookup A (tgt := 180) dX2_mustName_25 (by decide) (off := 155) (by rw [c25_3083252] <;> rfl) (by decide) ?_
        refine xr_aload_n A dX2_mustName_180 1 rfl rfl ?_
        refine xr_ldcs A t699 dX2_mustName_181 ?_
        revert hf; refine ab_b2I (fun v30 h29 m28 hf => ?_)
        refine xr_V A bJ3_equals (wJ3_equals D m28).2 xc_J3 (wJ3_equals D m28).1 q689 q690 q688 (av := [vR (some (hstr h5 5))]) (rest := []) rfl dX2_mustName_183 (Nat.le_of_ble_eq_true rfl) (Nat.le_of_ble_eq_true rfl) rfl (Nat.le_of_ble_eq_true rfl) ?_
        refine xr_if_eq A (tgt := 280) dX2_mustName_186 (by decide) (fun c186 => ?_) (fun c186 => ?_)
        · replace hf := ab_ip c186 hf
          refine X.sub [2, 0] rfl ?_
          exact wX2_mustName_b280 A hf
        · replace hf := ab_in c186 hf
          refine xr_iconst A (v := 4) dX2_mustName_189 (by decide) ?_
          refine xr_istore_n A dX2_mustName_190 rfl (Nat.le_of_ble_eq_true rfl) (L' := [(2, vI (4 : Int32)), (1, vR (some a3)), (0, vR (some x))]) rfl ?_
          refine xr_goto A (tgt := 280) dX2_mustName_191 (by decide) ?_
          refine X.sub [2, 0] rfl ?_
          exact wX2_mustName_b280 A hf
      replace hf := ab_in c25_3083252 hf
      by_cases c25_3083674 : v6 = (3083674 : Int32)
      · replace hf := ab_ip c25_3083674 hf
        refine xr_lookup A (tgt := 166) dX2_mustName_25 (by decide) (off := 141) (by rw [c25_3083674] <;> rfl) (by decide) ?_
        refine xr_aload_n A dX2_mustName_166 1 rfl rfl ?_
        refine xr_ldcs A t698 dX2_mustName_167 ?_
        revert hf; refine ab_b2I (fun v33 h32 m31 hf => ?_)
        refine xr_V A bJ3_equals (wJ3_equals D m31).2 xc_J3 (wJ3_equals D m31).1 q689 q690 q688 (av := [vR (some (hstr h5 4))]) (rest := []) rfl dX2_mustName_169 (Nat.le_of_ble_eq_true rfl) (Nat.le_of_ble_eq_true rfl) rfl (Nat.le_of_ble_eq_true rfl) ?_
        refine xr_if_eq A (tgt := 280) dX2_mustName_172 (by decide) (fun c172 => ?_) (fun c172 => ?_)
        · replace hf := ab_ip c172 hf
          refine X.sub [2, 0] rfl ?_
          exact wX2_mustName_b280 A hf
        · replace hf := ab_in c172 hf
          refine xr_iconst A (v := 3) dX2_mustName_175 (by decide) ?_
          refine xr_istore_n A dX2_mustName_176 rfl (Nat.le_of_ble_eq_true rfl) (L' := [(2, vI (3 : Int32)), (1, vR (some a3)), (0, vR (some x))]) rfl ?_
          refine xr_goto A (tgt := 280) dX2_mustName_177 (by decide) ?_
          refine X.sub [2, 0] rfl ?_
          exact wX2_mustName_b280 A hf
      replace hf := ab_in c25_3083674 hf
      by_cases c25_97526782 : v6 = (97526782 : Int32)
      · replace hf := ab_ip c25_97526782 hf
        refine xr_lookup A (tgt := 152) dX2_mustName_25 (by decide) (off := 127) (by rw [c25_97526782] <;> rfl) (by decide) ?_
        refine xr_aload_n A dX2_mustName_152 1 rfl rfl ?_
        refine xr_ldcs A t697 dX2_mustName_153 ?_
        revert hf; refine ab_b2I (fun v36 h35 m34 hf => ?_)
        refine xr_V A bJ3_equals (wJ3_equals D m34).2 xc_J3 (wJ3_equals D m34).1 q689 q690 q688 (av := [vR (some (hstr h5 3))]) (rest := []) rfl dX2_mustName_155 (Nat.le_of_ble_eq_true rfl) (Nat.le_of_ble_eq_true rfl) rfl (Nat.le_of_ble_eq_true rfl) ?_
        refine xr_if_eq A (tgt := 280) dX2_mustName_158 (by decide) (fun c158 => ?_) (fun c158 => ?_)
        · replace hf := ab_ip c158 hf
          refine X.sub [2, 0] rfl ?_
          exact wX2_mustName_b280 A hf
        · replace hf := ab_in c158 hf
          refine xr_iconst A (v := 2) dX2_mustName_161 (by decide) ?_
          refine xr_istore_n A dX2_mustName_162 rfl (Nat.le_of_ble_eq_true rfl) (L' := [(2, vI (2 : Int32)), (1, vR (some a3)), (0, vR (some x))]) rfl ?_
          refine xr_goto A (tgt := 280) dX2_mustName_163 (by decide) ?_
          refine X.sub [2, 0] rfl ?_
          exact wX2_mustName_b280 A hf
      replace hf := ab_in c25_97526782 hf
      by_cases c25_99469088 : v6 = (99469088 : Int32)
      · replace hf := ab_ip c25_99469088 hf
        refine xr_lookup A (tgt := 194) dX2_mustName_25 (by decide) (off := 169) (by rw [c25_99469088] <;> rfl) (by decide) ?_
        refine xr_aload_n A dX2_mustName_194 1 rfl rfl ?_
        refine xr_ldcs A t700 dX2_mustName_195 ?_
        revert hf; refine ab_b2I (fun v39 h38 m37 hf => ?_)
        refine xr_V A bJ3_equals (wJ3_equals D m37).2 xc_J3 (wJ3_equals D m37).1 q689 q690 q688 (av := [vR (some (hstr h5 6))]) (rest := []) rfl dX2_mustName_197 (Nat.le_of_ble_eq_true rfl) (Nat.le_of_ble_eq_true rfl) rfl (Nat.le_of_ble_eq_true rfl) ?_
        refine xr_if_eq A (tgt := 280) dX2_mustName_200 (by decide) (fun c200 => ?_) (fun c200 => ?_)
        · replace hf := ab_ip c200 hf
          refine X.sub [2, 0] rfl ?_
          exact wX2_mustName_b280 A hf
        · replace hf := ab_in c200 hf
          refine xr_iconst A (v := 5) dX2_mustName_203 (by decide) ?_
          refine xr_istore_n A dX2_mustName_204 rfl (Nat.le_of_ble_eq_true rfl) (L' := [(2, vI (5 : Int32)), (1, vR (some a3)), (0, vR (some x))]) rfl ?_
          refine xr_goto A (tgt := 280) dX2_mustName_205 (by decide) ?_
          refine X.sub [2, 0] rfl ?_
          exact wX2_mustName_b280 A hf
      replace hf := ab_in c25_99469088 hf
      refine xr_lookup A (tgt := 280) dX2_mustName_25 (by decide) (off := 255) (by show Op.lookupswitch.offset [((-1420247761), (243)), ((-1220931666), (213)), ((-705112156), (113)), ((98260), (183)), ((99644), (228)), ((106914), (99)), ((3045982), (198)), ((3083252), (155)), ((3083674), (141)), ((97526782), (127)), ((99469088), (169))] (255) _ = _; rw [lv_osw c25_m1420247761 (by decide), lv_osw c25_m1220931666 (by decide), lv_osw c25_m705112156 (by decide), lv_osw c25_98260 (by decide), lv_osw c25_99644 (by decide), lv_osw c25_106914 (by decide), lv_osw c25_3045982 (by decide), lv_osw c25_3083252 (by decide), lv_osw c25_3083674 (by decide), lv_osw c25_97526782 (by decide), lv_osw c25_99469088 (by decide)] <;> rfl) (by decide) ?_
      refine X.sub [2, 0] rfl ?_
      exact wX2_mustName_b280 A hf
    · replace hf := ab_in c5 hf
      refine xr_aload_n A dX2_mustName_8 0 rfl rfl ?_
      refine xr_iconst A (v := 1) dX2_mustName_9 (by decide) ?_
      revert hf; refine ab_b2I (fun v42 h41 m40 hf => ?_)
      refine xr_V A bX2_fail (wX2_fail D m40).2 xc_X2 (wX2_fail D m40).1 q628 qs7 q626 (av := [vI (1 : Int32)]) (rest := []) rfl dX2_mustName_10 (Nat.le_of_ble_eq_true rfl) (Nat.le_of_ble_eq_true rfl) rfl (Nat.le_of_ble_eq_true rfl) ?_
      revert hf; refine ab_bdI (fun a43 e hf => ?_); subst e
      replace hf := ab_czE hf; obtain ⟨i13, hf⟩ := hf
      refine xr_athrow A i13 dX2_mustName_13 ?_
      obtain ⟨rfl, rfl⟩ := ab_pr hf
      exact xr_out A rfl
/-! X6_among -/
theorem bX6_among : MB yX6_among cX6_among 4 (some (FieldType.object "NoonMeals$Named")) 3 := ⟨q752, q100, by decide, by decide +kernel⟩
noncomputable def fX6_among_l2 : Nat → Option Nat → Int32 → Option Nat → Int32 → Hp → Option ((Option Nat) × Hp)
  | 0, _, _, _, _, _ => none
  | n + 1, l0, l1, l2, l3, h =>
  if l1 ≤ l3 then (
    some (none, h))
  else (
    ab_bd l0 fun a1 =>
    ab_bd (ab_aRN h a1 l3) fun v2 =>
    ab_bd v2 fun a3 =>
    ab_bd (ab_gN h a3) fun v4 =>
    ab_bd v4 fun a5 =>
    ab_b2 (fJ3_equals a5 l2 h) fun v8 h7 =>
    if v8 = 0 then (
      fX6_among_l2 n (some a1) l1 l2 (l3 + (1 : Int32)) h7)
    else (
      ab_bd (ab_aRN h7 a1 l3) fun v9 =>
      some (v9, h7)))
theorem wX6_among_l2 {D : Dd} {C : Cx} {h0 h' : Hp} {r : Option Nat} (A : Act C D (h0, (.inl (some (vR r))), h') yX6_among cX6_among 4 (some (FieldType.object "NoonMeals$Named")) 3 64 []) : ∀ (n : Nat) {l0 : Option Nat} {l1 : Int32} {l2 : Option Nat} {l3 : Int32} {h : Hp}, fX6_among_l2 n l0 l1 l2 l3 h = some (r, h') → X C D (h0, (.inl (some (vR r))), h') 4 2 [(0, vR l0), (1, vI l1), (2, vR l2), (3, vI l3)] [] h := by
  intro n
  induction n with
  | zero => intro l0 l1 l2 l3 h hf; exact ab_no hf
  | succ n ih =>
    intro l0 l1 l2 l3 h hf
    unfold fX6_among_l2 at hf
    refine xr_iload_n A dX6_among_2 3 rfl rfl ?_
    refine xr_iload_n A dX6_among_3 1 rfl rfl ?_
    refine xr_icmp_ge A (tgt := 30) dX6_among_4 (by decide) (fun c4 => ?_) (fun c4 => ?_)
    · replace hf := ab_ip c4 hf
      refine xr_null A dX6_among_30 ?_
      exact xr_areturn A (Or.inl ⟨_, rfl⟩) hf dX6_among_31
    · replace hf := ab_in c4 hf
      refine xr_aload_n A dX6_among_7 0 rfl rfl ?_
      refine xr_iload_n A dX6_among_8 3 rfl rfl ?_
      revert hf; refine ab_bdI (fun a1 e hf => ?_); subst e
      revert hf; refine ab_bdI (fun v2 mv2 hf => ?_)
      refine xr_aaloadN A mv2 dX6_among_9 ?_
      revert hf; refine ab_bdI (fun a3 e hf => ?_); subst e
      revert hf; refine ab_bdI (fun v4 mv4 hf => ?_)
      refine xr_gNm A q766 mv4 dX6_among_10 ?_
      refine xr_aload_n A dX6_among_13 2 rfl rfl ?_
      revert hf; refine ab_bdI (fun a5 e hf => ?_); subst e
      revert hf; refine ab_b2I (fun v8 h7 m6 hf => ?_)
      refine xr_V A bJ3_equals (wJ3_equals D m6).2 xc_J3 (wJ3_equals D m6).1 q689 q690 q753 (av := [vR l2]) (rest := []) rfl dX6_among_14 (Nat.le_of_ble_eq_true rfl) (Nat.le_of_ble_eq_true rfl) rfl (Nat.le_of_ble_eq_true rfl) ?_
      refine xr_if_eq A (tgt := 24) dX6_among_17 (by decide) (fun c17 => ?_) (fun c17 => ?_)
      · replace hf := ab_ip c17 hf
        refine xr_iinc A dX6_among_24 3 rfl (v := (l3 + (1 : Int32))) rfl (Nat.le_of_ble_eq_true rfl) (L' := [(3, vI (l3 + (1 : Int32))), (0, vR (some a1)), (1, vI l1), (2, vR l2)]) rfl ?_
        refine xr_goto A (tgt := 2) dX6_among_27 (by decide) ?_
        refine X.sub [1, 2, 3, 0] rfl ?_
        exact ih hf
      · replace hf := ab_in c17 hf
        refine xr_aload_n A dX6_among_20 0 rfl rfl ?_
        refine xr_iload_n A dX6_among_21 3 rfl rfl ?_
        revert hf; refine ab_bdI (fun v9 mv9 hf => ?_)
        refine xr_aaloadN A mv9 dX6_among_22 ?_
        exact xr_areturn A (Or.inl ⟨_, rfl⟩) hf dX6_among_23
noncomputable def fX6_among (p0 : Option Nat) (p1 : Int32) (p2 : Option Nat) (h : Hp) : Option ((Option Nat) × Hp) :=
  fX6_among_l2 (hfu h) p0 p1 p2 (0 : Int32) h
theorem wX6_among (D : Dd) {p0 : Option Nat} {p1 : Int32} {p2 : Option Nat} {h : Hp} {r : Option Nat} {h' : Hp} (hf : fX6_among p0 p1 p2 h = some (r, h')) : Ct D 3 64 yX6_among cX6_among 4 (some (FieldType.object "NoonMeals$Named")) [vR p0, vI p1, vR p2] h (.inl (some (vR r))) h' := by
    unfold fX6_among at hf
    refine Ct.of (by decide) (L := [(0, vR p0), (1, vI p1), (2, vR p2)]) rfl (Nat.le_of_ble_eq_true rfl) (fun C A => ?_)
    refine xr_iconst A (v := 0) dX6_among_0 (by decide) ?_
    refine xr_istore_n A dX6_among_1 rfl (Nat.le_of_ble_eq_true rfl) (L' := [(3, vI (0 : Int32)), (0, vR p0), (1, vI p1), (2, vR p2)]) rfl ?_
    refine X.sub [1, 2, 3, 0] rfl ?_
    exact wX6_among_l2 A _ hf
/-! X6_find -/
theorem bX6_find : MB yX6_find cX6_find 3 (some (FieldType.object "NoonMeals$Named")) 1 := ⟨q749, q100, by decide, by decide +kernel⟩
noncomputable def fX6_find_b117 (x : Nat) (l1 : Option Nat) (s0 : Option Nat) (h : Hp) : Option ((Option Nat) × Hp) :=
  ab_on s0 (
    ab_bd (ab_gR h x 5 6) fun v2 =>
    ab_bd (ab_gI h x 5 15) fun v3 =>
    ab_b2 (fX6_among v2 v3 l1 h) fun v6 h5 =>
    some (v6, h5)) fun a1 => (
    some ((some a1), h))
theorem wX6_find_b117 {D : Dd} {C : Cx} {h0 h' : Hp} {r : Option Nat} (A : Act C D (h0, (.inl (some (vR r))), h') yX6_find cX6_find 3 (some (FieldType.object "NoonMeals$Named")) 4 87 []) {x : Nat} {l1 : Option Nat} {s0 : Option Nat} {h : Hp} (hf : fX6_find_b117 x l1 s0 h = some (r, h')) : X C D (h0, (.inl (some (vR r))), h') 3 117 [(0, vR (some x)), (1, vR l1)] [vR s0] h := by
  unfold fX6_find_b117 at hf
  refine xr_astore_n A dX6_find_117 rfl (Nat.le_of_ble_eq_true rfl) (L' := [(2, vR s0), (0, vR (some x)), (1, vR l1)]) rfl ?_
  refine xr_aload_n A dX6_find_118 0 rfl rfl ?_
  revert hf; refine ab_onI (fun e hf => ?_) (fun a1 e hf => ?_) <;> subst e
  · refine xr_ifnonnull A (tgt := 137) dX6_find_119 (by decide) (fun _ e => by cases e) (fun _ => ?_)
    refine xr_aload_n A dX6_find_122 1 rfl rfl ?_
    revert hf; refine ab_bdI (fun v2 mv2 hf => ?_)
    refine xr_get A xc_X6 in_X6 6 (Nat.le_of_ble_eq_true rfl) q453 rfl (ab_gRE mv2) dX6_find_123 ?_
    refine xr_aload_n A dX6_find_126 1 rfl rfl ?_
    revert hf; refine ab_bdI (fun v3 mv3 hf => ?_)
    refine xr_get A xc_X6 in_X6 15 (Nat.le_of_ble_eq_true rfl) q478 rfl (ab_gIE mv3) dX6_find_127 ?_
    refine xr_aload_n A dX6_find_130 2 rfl rfl ?_
    revert hf; refine ab_b2I (fun v6 h5 m4 hf => ?_)
    refine xr_S A bX6_among (wX6_among D m4) q751 q750 (av := [vR v2, vI v3, vR l1]) (rest := []) rfl dX6_find_131 (Nat.le_of_ble_eq_true rfl) (Nat.le_of_ble_eq_true rfl) rfl (Nat.le_of_ble_eq_true rfl) ?_
    refine xr_goto A (tgt := 138) dX6_find_134 (by decide) ?_
    exact xr_areturn A (Or.inl ⟨_, rfl⟩) hf dX6_find_138
  · refine xr_ifnonnull A (tgt := 137) dX6_find_119 (by decide) (fun _ _ => ?_) (fun e => by cases e)
    refine xr_aload_n A dX6_find_137 0 rfl rfl ?_
    exact xr_areturn A (Or.inl ⟨_, rfl⟩) hf dX6_find_138
noncomputable def fX6_find_b96 (x : Nat) (l1 : Option Nat) (s0 : Option Nat) (h : Hp) : Option ((Option Nat) × Hp) :=
  ab_on s0 (
    ab_bd (ab_gR h x 5 5) fun v2 =>
    ab_bd (ab_gI h x 5 14) fun v3 =>
    ab_b2 (fX6_among v2 v3 l1 h) fun v6 h5 =>
    fX6_find_b117 x l1 v6 h5) fun a1 => (
    fX6_find_b117 x l1 (some a1) h)
theorem wX6_find_b96 {D : Dd} {C : Cx} {h0 h' : Hp} {r : Option Nat} (A : Act C D (h0, (.inl (some (vR r))), h') yX6_find cX6_find 3 (some (FieldType.object "NoonMeals$Named")) 4 87 []) {x : Nat} {l1 : Option Nat} {s0 : Option Nat} {h : Hp} (hf : fX6_find_b96 x l1 s0 h = some (r, h')) : X C D (h0, (.inl (some (vR r))), h') 3 96 [(0, vR (some x)), (1, vR l1)] [vR s0] h := by
  unfold fX6_find_b96 at hf
  refine xr_astore_n A dX6_find_96 rfl (Nat.le_of_ble_eq_true rfl) (L' := [(2, vR s0), (0, vR (some x)), (1, vR l1)]) rfl ?_
  refine xr_aload_n A dX6_find_97 0 rfl rfl ?_
  revert hf; refine ab_onI (fun e hf => ?_) (fun a1 e hf => ?_) <;> subst e
  · refine xr_ifnonnull A (tgt := 116) dX6_find_98 (by decide) (fun _ e => by cases e) (fun _ => ?_)
    refine xr_aload_n A dX6_find_101 1 rfl rfl ?_
    revert hf; refine ab_bdI (fun v2 mv2 hf => ?_)
    refine xr_get A xc_X6 in_X6 5 (Nat.le_of_ble_eq_true rfl) q450 rfl (ab_gRE mv2) dX6_find_102 ?_
    refine xr_aload_n A dX6_find_105 1 rfl rfl ?_
    revert hf; refine ab_bdI (fun v3 mv3 hf => ?_)
    refine xr_get A xc_X6 in_X6 14 (Nat.le_of_ble_eq_true rfl) q475 rfl (ab_gIE mv3) dX6_find_106 ?_
    refine xr_aload_n A dX6_find_109 2 rfl rfl ?_
    revert hf; refine ab_b2I (fun v6 h5 m4 hf => ?_)
    refine xr_S A bX6_among (wX6_among D m4) q751 q750 (av := [vR v2, vI v3, vR l1]) (rest := []) rfl dX6_find_110 (Nat.le_of_ble_eq_true rfl) (Nat.le_of_ble_eq_true rfl) rfl (Nat.le_of_ble_eq_true rfl) ?_
    refine xr_goto A (tgt := 117) dX6_find_113 (by decide) ?_
    refine X.sub [1, 2] rfl ?_
    exact wX6_find_b117 A hf
  · refine xr_ifnonnull A (tgt := 116) dX6_find_98 (by decide) (fun _ _ => ?_) (fun e => by cases e)
    refine xr_aload_n A dX6_find_116 0 rfl rfl ?_
    refine X.sub [1, 2] rfl ?_
    exact wX6_find_b117 A hf
noncomputable def fX6_find_b75 (x : Nat) (l1 : Option Nat) (s0 : Option Nat) (h : Hp) : Option ((Option Nat) × Hp) :=
  ab_on s0 (
    ab_bd (ab_gR h x 5 4) fun v2 =>
    ab_bd (ab_gI h x 5 13) fun v3 =>
    ab_b2 (fX6_among v2 v3 l1 h) fun v6 h5 =>
    fX6_find_b96 x l1 v6 h5) fun a1 => (
    fX6_find_b96 x l1 (some a1) h)
theorem wX6_find_b75 {D : Dd} {C : Cx} {h0 h' : Hp} {r : Option Nat} (A : Act C D (h0, (.inl (some (vR r))), h') yX6_find cX6_find 3 (some (FieldType.object "NoonMeals$Named")) 4 87 []) {x : Nat} {l1 : Option Nat} {s0 : Option Nat} {h : Hp} (hf : fX6_find_b75 x l1 s0 h = some (r, h')) : X C D (h0, (.inl (some (vR r))), h') 3 75 [(0, vR (some x)), (1, vR l1)] [vR s0] h := by
  unfold fX6_find_b75 at hf
  refine xr_astore_n A dX6_find_75 rfl (Nat.le_of_ble_eq_true rfl) (L' := [(2, vR s0), (0, vR (some x)), (1, vR l1)]) rfl ?_
  refine xr_aload_n A dX6_find_76 0 rfl rfl ?_
  revert hf; refine ab_onI (fun e hf => ?_) (fun a1 e hf => ?_) <;> subst e
  · refine xr_ifnonnull A (tgt := 95) dX6_find_77 (by decide) (fun _ e => by cases e) (fun _ => ?_)
    refine xr_aload_n A dX6_find_80 1 rfl rfl ?_
    revert hf; refine ab_bdI (fun v2 mv2 hf => ?_)
    refine xr_get A xc_X6 in_X6 4 (Nat.le_of_ble_eq_true rfl) q447 rfl (ab_gRE mv2) dX6_find_81 ?_
    refine xr_aload_n A dX6_find_84 1 rfl rfl ?_
    revert hf; refine ab_bdI (fun v3 mv3 hf => ?_)
    refine xr_get A xc_X6 in_X6 13 (Nat.le_of_ble_eq_true rfl) q472 rfl (ab_gIE mv3) dX6_find_85 ?_
    refine xr_aload_n A dX6_find_88 2 rfl rfl ?_
    revert hf; refine ab_b2I (fun v6 h5 m4 hf => ?_)
    refine xr_S A bX6_among (wX6_among D m4) q751 q750 (av := [vR v2, vI v3, vR l1]) (rest := []) rfl dX6_find_89 (Nat.le_of_ble_eq_true rfl) (Nat.le_of_ble_eq_true rfl) rfl (Nat.le_of_ble_eq_true rfl) ?_
    refine xr_goto A (tgt := 96) dX6_find_92 (by decide) ?_
    refine X.sub [1, 2] rfl ?_
    exact wX6_find_b96 A hf
  · refine xr_ifnonnull A (tgt := 95) dX6_find_77 (by decide) (fun _ _ => ?_) (fun e => by cases e)
    refine xr_aload_n A dX6_find_95 0 rfl rfl ?_
    refine X.sub [1, 2] rfl ?_
    exact wX6_find_b96 A hf
noncomputable def fX6_find_b54 (x : Nat) (l1 : Option Nat) (s0 : Option Nat) (h : Hp) : Option ((Option Nat) × Hp) :=
  ab_on s0 (
    ab_bd (ab_gR h x 5 3) fun v2 =>
    ab_bd (ab_gI h x 5 12) fun v3 =>
    ab_b2 (fX6_among v2 v3 l1 h) fun v6 h5 =>
    fX6_find_b75 x l1 v6 h5) fun a1 => (
    fX6_find_b75 x l1 (some a1) h)
theorem wX6_find_b54 {D : Dd} {C : Cx} {h0 h' : Hp} {r : Option Nat} (A : Act C D (h0, (.inl (some (vR r))), h') yX6_find cX6_find 3 (some (FieldType.object "NoonMeals$Named")) 4 87 []) {x : Nat} {l1 : Option Nat} {s0 : Option Nat} {h : Hp} (hf : fX6_find_b54 x l1 s0 h = some (r, h')) : X C D (h0, (.inl (some (vR r))), h') 3 54 [(0, vR (some x)), (1, vR l1)] [vR s0] h := by
  unfold fX6_find_b54 at hf
  refine xr_astore_n A dX6_find_54 rfl (Nat.le_of_ble_eq_true rfl) (L' := [(2, vR s0), (0, vR (some x)), (1, vR l1)]) rfl ?_
  refine xr_aload_n A dX6_find_55 0 rfl rfl ?_
  revert hf; refine ab_onI (fun e hf => ?_) (fun a1 e hf => ?_) <;> subst e
  · refine xr_ifnonnull A (tgt := 74) dX6_find_56 (by decide) (fun _ e => by cases e) (fun _ => ?_)
    refine xr_aload_n A dX6_find_59 1 rfl rfl ?_
    revert hf; refine ab_bdI (fun v2 mv2 hf => ?_)
    refine xr_get A xc_X6 in_X6 3 (Nat.le_of_ble_eq_true rfl) q443 rfl (ab_gRE mv2) dX6_find_60 ?_
    refine xr_aload_n A dX6_find_63 1 rfl rfl ?_
    revert hf; refine ab_bdI (fun v3 mv3 hf => ?_)
    refine xr_get A xc_X6 in_X6 12 (Nat.le_of_ble_eq_true rfl) q469 rfl (ab_gIE mv3) dX6_find_64 ?_
    refine xr_aload_n A dX6_find_67 2 rfl rfl ?_
    revert hf; refine ab_b2I (fun v6 h5 m4 hf => ?_)
    refine xr_S A bX6_among (wX6_among D m4) q751 q750 (av := [vR v2, vI v3, vR l1]) (rest := []) rfl dX6_find_68 (Nat.le_of_ble_eq_true rfl) (Nat.le_of_ble_eq_true rfl) rfl (Nat.le_of_ble_eq_true rfl) ?_
    refine xr_goto A (tgt := 75) dX6_find_71 (by decide) ?_
    refine X.sub [1, 2] rfl ?_
    exact wX6_find_b75 A hf
  · refine xr_ifnonnull A (tgt := 74) dX6_find_56 (by decide) (fun _ _ => ?_) (fun e => by cases e)
    refine xr_aload_n A dX6_find_74 0 rfl rfl ?_
    refine X.sub [1, 2] rfl ?_
    exact wX6_find_b75 A hf
noncomputable def fX6_find_b33 (x : Nat) (l1 : Option Nat) (s0 : Option Nat) (h : Hp) : Option ((Option Nat) × Hp) :=
  ab_on s0 (
    ab_bd (ab_gR h x 5 2) fun v2 =>
    ab_bd (ab_gI h x 5 11) fun v3 =>
    ab_b2 (fX6_among v2 v3 l1 h) fun v6 h5 =>
    fX6_find_b54 x l1 v6 h5) fun a1 => (
    fX6_find_b54 x l1 (some a1) h)
theorem wX6_find_b33 {D : Dd} {C : Cx} {h0 h' : Hp} {r : Option Nat} (A : Act C D (h0, (.inl (some (vR r))), h') yX6_find cX6_find 3 (some (FieldType.object "NoonMeals$Named")) 4 87 []) {x : Nat} {l1 : Option Nat} {s0 : Option Nat} {h : Hp} (hf : fX6_find_b33 x l1 s0 h = some (r, h')) : X C D (h0, (.inl (some (vR r))), h') 3 33 [(0, vR (some x)), (1, vR l1)] [vR s0] h := by
  unfold fX6_find_b33 at hf
  refine xr_astore_n A dX6_find_33 rfl (Nat.le_of_ble_eq_true rfl) (L' := [(2, vR s0), (0, vR (some x)), (1, vR l1)]) rfl ?_
  refine xr_aload_n A dX6_find_34 0 rfl rfl ?_
  revert hf; refine ab_onI (fun e hf => ?_) (fun a1 e hf => ?_) <;> subst e
  · refine xr_ifnonnull A (tgt := 53) dX6_find_35 (by decide) (fun _ e => by cases e) (fun _ => ?_)
    refine xr_aload_n A dX6_find_38 1 rfl rfl ?_
    revert hf; refine ab_bdI (fun v2 mv2 hf => ?_)
    refine xr_get A xc_X6 in_X6 2 (Nat.le_of_ble_eq_true rfl) q440 rfl (ab_gRE mv2) dX6_find_39 ?_
    refine xr_aload_n A dX6_find_42 1 rfl rfl ?_
    revert hf; refine ab_bdI (fun v3 mv3 hf => ?_)
    refine xr_get A xc_X6 in_X6 11 (Nat.le_of_ble_eq_true rfl) q466 rfl (ab_gIE mv3) dX6_find_43 ?_
    refine xr_aload_n A dX6_find_46 2 rfl rfl ?_
    revert hf; refine ab_b2I (fun v6 h5 m4 hf => ?_)
    refine xr_S A bX6_among (wX6_among D m4) q751 q750 (av := [vR v2, vI v3, vR l1]) (rest := []) rfl dX6_find_47 (Nat.le_of_ble_eq_true rfl) (Nat.le_of_ble_eq_true rfl) rfl (Nat.le_of_ble_eq_true rfl) ?_
    refine xr_goto A (tgt := 54) dX6_find_50 (by decide) ?_
    refine X.sub [1, 2] rfl ?_
    exact wX6_find_b54 A hf
  · refine xr_ifnonnull A (tgt := 53) dX6_find_35 (by decide) (fun _ _ => ?_) (fun e => by cases e)
    refine xr_aload_n A dX6_find_53 0 rfl rfl ?_
    refine X.sub [1, 2] rfl ?_
    exact wX6_find_b54 A hf
noncomputable def fX6_find (x : Nat) (p1 : Option Nat) (h : Hp) : Option ((Option Nat) × Hp) :=
  ab_ck h x 5 <|
  ab_bd (ab_gR h x 5 0) fun v1 =>
  ab_bd (ab_gI h x 5 9) fun v2 =>
  ab_b2 (fX6_among v1 v2 p1 h) fun v5 h4 =>
  ab_on v5 (
    ab_bd (ab_gR h4 x 5 1) fun v7 =>
    ab_bd (ab_gI h4 x 5 10) fun v8 =>
    ab_b2 (fX6_among v7 v8 p1 h4) fun v11 h10 =>
    fX6_find_b33 x p1 v11 h10) fun a6 => (
    fX6_find_b33 x p1 (some a6) h4)
theorem wX6_find (D : Dd) {x : Nat} {p1 : Option Nat} {h : Hp} {r : Option Nat} {h' : Hp} (hf : fX6_find x p1 h = some (r, h')) : ab_is h x 5 ∧ Ct D 4 87 yX6_find cX6_find 3 (some (FieldType.object "NoonMeals$Named")) [vR (some x), vR p1] h (.inl (some (vR r))) h' := by
    unfold fX6_find at hf
    replace hf := ab_ckE hf; obtain ⟨i0, hf⟩ := hf
    refine ⟨i0, ?_⟩
    refine Ct.of (by decide) (L := [(0, vR (some x)), (1, vR p1)]) rfl (Nat.le_of_ble_eq_true rfl) (fun C A => ?_)
    refine xr_aload_n A dX6_find_0 0 rfl rfl ?_
    revert hf; refine ab_bdI (fun v1 mv1 hf => ?_)
    refine xr_get A xc_X6 in_X6 0 (Nat.le_of_ble_eq_true rfl) q435 rfl (ab_gRE mv1) dX6_find_1 ?_
    refine xr_aload_n A dX6_find_4 0 rfl rfl ?_
    revert hf; refine ab_bdI (fun v2 mv2 hf => ?_)
    refine xr_get A xc_X6 in_X6 9 (Nat.le_of_ble_eq_true rfl) q460 rfl (ab_gIE mv2) dX6_find_5 ?_
    refine xr_aload_n A dX6_find_8 1 rfl rfl ?_
    revert hf; refine ab_b2I (fun v5 h4 m3 hf => ?_)
    refine xr_S A bX6_among (wX6_among D m3) q751 q750 (av := [vR v1, vI v2, vR p1]) (rest := []) rfl dX6_find_9 (Nat.le_of_ble_eq_true rfl) (Nat.le_of_ble_eq_true rfl) rfl (Nat.le_of_ble_eq_true rfl) ?_
    refine xr_astore_n A dX6_find_12 rfl (Nat.le_of_ble_eq_true rfl) (L' := [(2, vR v5), (0, vR (some x)), (1, vR p1)]) rfl ?_
    refine xr_aload_n A dX6_find_13 0 rfl rfl ?_
    revert hf; refine ab_onI (fun e hf => ?_) (fun a6 e hf => ?_) <;> subst e
    · refine xr_ifnonnull A (tgt := 32) dX6_find_14 (by decide) (fun _ e => by cases e) (fun _ => ?_)
      refine xr_aload_n A dX6_find_17 1 rfl rfl ?_
      revert hf; refine ab_bdI (fun v7 mv7 hf => ?_)
      refine xr_get A xc_X6 in_X6 1 (Nat.le_of_ble_eq_true rfl) q437 rfl (ab_gRE mv7) dX6_find_18 ?_
      refine xr_aload_n A dX6_find_21 1 rfl rfl ?_
      revert hf; refine ab_bdI (fun v8 mv8 hf => ?_)
      refine xr_get A xc_X6 in_X6 10 (Nat.le_of_ble_eq_true rfl) q463 rfl (ab_gIE mv8) dX6_find_22 ?_
      refine xr_aload_n A dX6_find_25 2 rfl rfl ?_
      revert hf; refine ab_b2I (fun v11 h10 m9 hf => ?_)
      refine xr_S A bX6_among (wX6_among D m9) q751 q750 (av := [vR v7, vI v8, vR p1]) (rest := []) rfl dX6_find_26 (Nat.le_of_ble_eq_true rfl) (Nat.le_of_ble_eq_true rfl) rfl (Nat.le_of_ble_eq_true rfl) ?_
      refine xr_goto A (tgt := 33) dX6_find_29 (by decide) ?_
      refine X.sub [1, 2] rfl ?_
      exact wX6_find_b33 A hf
    · refine xr_ifnonnull A (tgt := 32) dX6_find_14 (by decide) (fun _ _ => ?_) (fun e => by cases e)
      refine xr_aload_n A dX6_find_32 0 rfl rfl ?_
      refine X.sub [1, 2] rfl ?_
      exact wX6_find_b33 A hf
/-! X2_newName -/
theorem bX2_newName : MB yX2_newName cX2_newName 2 (some (FieldType.object "java/lang/String")) 0 := ⟨q739, q93, by decide, by decide +kernel⟩
noncomputable def fX2_newName (x : Nat) (h : Hp) : Option (((Option Nat) ⊕ Nat) × Hp) :=
  ab_ck h x 1 <|
  ab_bx (fX2_mustName x h) (fun _ h2 =>
  ab_bd (ab_gR h2 x 1 9) fun v3 =>
  ab_bd (ab_gR h2 x 1 8) fun v4 =>
  ab_bd v3 fun a5 =>
  ab_b2 (fX6_find a5 v4 h2) fun v8 h7 =>
  ab_on v8 (
    ab_bd (ab_gR h7 x 1 8) fun v10 =>
    ab_bd (fX2_next x h7) fun h12 =>
    some (.inl v10, h12)) fun a9 => (
    ab_b2 (fX2_fail x (3 : Int32) h7) fun v15 h14 =>
    ab_bd v15 fun a16 =>
    ab_cz h14 a16 2 <| some (.inr a16, h14))) fun qh2 gh2 => some (.inr qh2, gh2)
theorem wX2_newName (D : Dd) {x : Nat} {h : Hp} {ρ : (Option Nat) ⊕ Nat} {h' : Hp} (hf : fX2_newName x h = some (ρ, h')) : ab_is h x 1 ∧ Ct D 6 141 yX2_newName cX2_newName 2 (some (FieldType.object "java/lang/String")) [vR (some x)] h (xoR ρ) h' := by
    unfold fX2_newName at hf
    replace hf := ab_ckE hf; obtain ⟨i0, hf⟩ := hf
    refine ⟨i0, ?_⟩
    refine Ct.of (by decide) (L := [(0, vR (some x))]) rfl (Nat.le_of_ble_eq_true rfl) (fun C A => ?_)
    refine xr_aload_n A dX2_newName_0 0 rfl rfl ?_
    revert hf; refine ab_bxI (fun uh2 h2 m1 hf => ?_) (fun qh2 gh2 m1 hf => ?_)
    · refine xr_V0 A bX2_mustName (wX2_mustName D m1).2 xc_X2 (wX2_mustName D m1).1 q742 qs16 q740 (av := []) (rest := []) rfl dX2_newName_1 (Nat.le_of_ble_eq_true rfl) (Nat.le_of_ble_eq_true rfl) rfl (Nat.le_of_ble_eq_true rfl) ?_
      refine xr_aload_n A dX2_newName_4 0 rfl rfl ?_
      revert hf; refine ab_bdI (fun v3 mv3 hf => ?_)
      refine xr_get A xc_X2 in_X2 9 (Nat.le_of_ble_eq_true rfl) q215 rfl (ab_gRE mv3) dX2_newName_5 ?_
      refine xr_aload_n A dX2_newName_8 0 rfl rfl ?_
      revert hf; refine ab_bdI (fun v4 mv4 hf => ?_)
      refine xr_get A xc_X2 in_X2 8 (Nat.le_of_ble_eq_true rfl) q214 rfl (ab_gRE mv4) dX2_newName_9 ?_
      revert hf; refine ab_bdI (fun a5 e hf => ?_); subst e
      revert hf; refine ab_b2I (fun v8 h7 m6 hf => ?_)
      refine xr_V A bX6_find (wX6_find D m6).2 xc_X6 (wX6_find D m6).1 q747 q748 q746 (av := [vR v4]) (rest := []) rfl dX2_newName_12 (Nat.le_of_ble_eq_true rfl) (Nat.le_of_ble_eq_true rfl) rfl (Nat.le_of_ble_eq_true rfl) ?_
      revert hf; refine ab_onI (fun e hf => ?_) (fun a9 e hf => ?_) <;> subst e
      · refine xr_ifnull A (tgt := 24) dX2_newName_15 (by decide) (fun _ => ?_) (fun _ e => by cases e)
        refine xr_aload_n A dX2_newName_24 0 rfl rfl ?_
        revert hf; refine ab_bdI (fun v10 mv10 hf => ?_)
        refine xr_get A xc_X2 in_X2 8 (Nat.le_of_ble_eq_true rfl) q214 rfl (ab_gRE mv10) dX2_newName_25 ?_
        refine xr_astore_n A dX2_newName_28 rfl (Nat.le_of_ble_eq_true rfl) (L' := [(1, vR v10), (0, vR (some x))]) rfl ?_
        refine xr_aload_n A dX2_newName_29 1 rfl rfl ?_
        revert hf; refine ab_bdI (fun h12 m11 hf => ?_)
        refine xr_V0 A bX2_next (wX2_next D m11).2 xc_X2 (wX2_next D m11).1 q530 qs4 q528 (av := []) (rest := []) rfl dX2_newName_30 (Nat.le_of_ble_eq_true rfl) (Nat.le_of_ble_eq_true rfl) rfl (Nat.le_of_ble_eq_true rfl) ?_
        refine xr_aload_n A dX2_newName_33 0 rfl rfl ?_
        obtain ⟨rfl, rfl⟩ := ab_pr hf
        exact xr_areturn A (Or.inl ⟨_, rfl⟩) rfl dX2_newName_34
      · refine xr_ifnull A (tgt := 24) dX2_newName_15 (by decide) (fun e => by cases e) (fun _ _ => ?_)
        refine xr_aload_n A dX2_newName_18 0 rfl rfl ?_
        refine xr_iconst A (v := 3) dX2_newName_19 (by decide) ?_
        revert hf; refine ab_b2I (fun v15 h14 m13 hf => ?_)
        refine xr_V A bX2_fail (wX2_fail D m13).2 xc_X2 (wX2_fail D m13).1 q628 qs7 q626 (av := [vI (3 : Int32)]) (rest := []) rfl dX2_newName_20 (Nat.le_of_ble_eq_true rfl) (Nat.le_of_ble_eq_true rfl) rfl (Nat.le_of_ble_eq_true rfl) ?_
        revert hf; refine ab_bdI (fun a16 e hf => ?_); subst e
        replace hf := ab_czE hf; obtain ⟨i23, hf⟩ := hf
        refine xr_athrow A i23 dX2_newName_23 ?_
        obtain ⟨rfl, rfl⟩ := ab_pr hf
        exact xr_out A rfl
    · refine xr_VX A bX2_mustName (wX2_mustName D m1).2 xc_X2 (wX2_mustName D m1).1 q742 qs16 q740 (av := []) (rest := []) rfl dX2_newName_1 (Nat.le_of_ble_eq_true rfl) (Nat.le_of_ble_eq_true rfl) rfl (Nat.le_of_ble_eq_true rfl) ?_
      obtain ⟨rfl, rfl⟩ := ab_pr hf
      exact xr_out A rfl
/-! X7_init -/
theorem bX7_init : MB yX7_init cX7_init 3 (none : Option FieldType) 2 := ⟨q759, q106, by decide, by decide +kernel⟩
noncomputable def fX7_init (x : Nat) (p1 : Option Nat) (p2 : Int32) (h : Hp) : Option Hp :=
  ab_bd (ab_pN h x 0 (va_rf p1)) fun h1 =>
  ab_bd (ab_pN h1 x 1 (.int p2)) fun h2 =>
  some h2
theorem wX7_init (D : Dd) {x : Nat} {p1 : Option Nat} {p2 : Int32} {h : Hp} {h' : Hp} (hf : fX7_init x p1 p2 h = some h') : Ct D 1 20 yX7_init cX7_init 3 (none : Option FieldType) [vR (some x), vR p1, vI p2] h (.inl none) h' := by
    unfold fX7_init at hf
    refine Ct.of (by decide) (L := [(0, vR (some x)), (1, vR p1), (2, vI p2)]) rfl (Nat.le_of_ble_eq_true rfl) (fun C A => ?_)
    refine xr_aload_n A dX7_init_0 0 rfl rfl ?_
    refine xr_objInit A q760 q_oi1 q_oi2 dX7_init_1 (by omega) (by omega) (Nat.le_of_ble_eq_true rfl) ?_
    refine xr_aload_n A dX7_init_4 0 rfl rfl ?_
    refine xr_aload_n A dX7_init_5 1 rfl rfl ?_
    revert hf; refine ab_bdI (fun h1 mh1 hf => ?_)
    refine xr_pN0 A q765 rfl rfl mh1 dX7_init_6 ?_
    refine xr_aload_n A dX7_init_9 0 rfl rfl ?_
    refine xr_iload_n A dX7_init_10 2 rfl rfl ?_
    revert hf; refine ab_bdI (fun h2 mh2 hf => ?_)
    refine xr_pN1 A q767 rfl rfl mh2 dX7_init_11 ?_
    exact xr_return A hf dX7_init_14
/-! X8_init -/
theorem bX8_init : MB yX8_init cX8_init 3 (none : Option FieldType) 2 := ⟨q756, q107, by decide, by decide +kernel⟩
noncomputable def fX8_init (x : Nat) (p1 : Option Nat) (p2 : Int32) (h : Hp) : Option Hp :=
  ab_bd (fX7_init x p1 p2 h) fun h2 =>
  some h2
theorem wX8_init (D : Dd) {x : Nat} {p1 : Option Nat} {p2 : Int32} {h : Hp} {h' : Hp} (hf : fX8_init x p1 p2 h = some h') : Ct D 2 42 yX8_init cX8_init 3 (none : Option FieldType) [vR (some x), vR p1, vI p2] h (.inl none) h' := by
    unfold fX8_init at hf
    refine Ct.of (by decide) (L := [(0, vR (some x)), (1, vR p1), (2, vI p2)]) rfl (Nat.le_of_ble_eq_true rfl) (fun C A => ?_)
    refine xr_aload_n A dX8_init_0 0 rfl rfl ?_
    refine xr_aload_n A dX8_init_1 1 rfl rfl ?_
    refine xr_iload_n A dX8_init_2 2 rfl rfl ?_
    revert hf; refine ab_bdI (fun h2 m1 hf => ?_)
    refine xr_I0 A bX7_init (wX7_init D m1) rfl q758 q757 (av := [vR p1, vI p2]) (rest := []) rfl dX8_init_3 (Nat.le_of_ble_eq_true rfl) (Nat.le_of_ble_eq_true rfl) rfl (Nat.le_of_ble_eq_true rfl) ?_
    exact xr_return A hf dX8_init_6
