/-! EncoresModel: a text's steps -/
set_option maxRecDepth 100000
def b2i (P : Prop) [Decidable P] : Int32 := if P then nI 1 else nI 0
def opM (q : Nat) (a b : Int32) : Int32 := if q = 23 then a + b else if q = 24 then a - b else if q = 25 then a * b else if q = 27 then b2i (a < b) else if q = 28 then b2i (a = b) else if q = 29 then b2i (b < a) else if q = 31 then a &&& b else a ||| b
def isOp (q : Nat) : Prop := q = 23 ∨ q = 24 ∨ q = 25 ∨ q = 27 ∨ q = 28 ∨ q = 29 ∨ q = 31 ∨ q = 32
def isOpB (q : Nat) : Bool := [23, 24, 25, 27, 28, 29, 31, 32].contains q
theorem isOpB_eq {q : Nat} (h : isOpB q = true) : isOp q := by
  unfold isOpB at h; unfold isOp; simpa using h
theorem x_95 (d q : Nat) (a b : Int32) (h : mH) (hq : isOp q) : cal d 95 [.int (nI q), .int a, .int b] h = some (.inl (some (.int (opM q a b))), h) := by
  rcases hq with rfl | rfl | rfl | rfl | rfl | rfl | rfl | rfl <;> (rw [ke_95]; simp (disch := omega) only [ks_95, r_ic, r_lc, r_gc, r_null, r_iload, r_lload, r_aload, r_istore, r_lstore, r_astore, r_iinc, r_bin, r_un, r_div, r_rem, r_i2l, r_l2i, r_lmul, r_lrem, r_dup, r_dup2, r_pop, r_goto, r_ifeq, r_ifne, r_iflt, r_ifge, r_ifgt, r_ifle, r_ceq, r_cne, r_clt, r_cge, r_cgt, r_cle, r_aeq, r_ane, r_ifnull, r_ifnullN, r_ifnn, r_ifnnN, r_ifnullq, r_ifnnq, r_sw, r_getI, r_getP, r_putI, r_putZ, r_putC, r_putP, r_newo, r_newa, r_alen, r_ald, r_ast, r_bst, r_aald, r_aast, r_gsc, r_gsv, r_slen, r_gvb, r_aastS, r_obj, r_mx, r_mn, r_lam, c_S0, c_S1, c_S2, c_S3, c_S4, c_V0, c_V1, c_V2, c_V3, c_V4, c_V5, c_Tg, c_T0, c_T1, c_T2, c_I0, c_I1, c_I2, c_I3, c_I4, k_some, k_void, k_ite, e_i, e_z, e_c, e_b, e_a, e_v, g_I, g_O, g_L0, g_L1, g_L2, g_L3, g_L4, l_I, l_J, l_Rr, l_Rn, l_Rq, b_G, isRv_ref, isRv_null, isC1_int, isC1_ref, isC1_null, rfo_ref, rfo_null, kil_int, kil_ref, kil_null, kil_long, kil_none, s_nil, s_cons, lg_0, lg_1, lg_2, lg_3, lg_4, lg_s, ls_0, ls_1, ls_2, ls_3, ls_4, ls_5, ls_6, ls_7, ls_8, S_sI, V_sI, S_sP, V_sP, S_nw, V_nw, S_cI, V_cI, S_cP, V_cP, b2_eq0, b2_01, va_rf_some, va_rf_none, isRv_rf, isC1_rf, kil2_rf, rfo_rf, Nat.reduceAdd, true_or, or_true, ↓reduceIte, ↓lzI_0, ↓lzI_1, ↓lzI_2, ↓lzI_3, ↓lzI_4, ↓lzI_5, ↓lzI_6, ↓lzI_7, ↓lzI_8, ↓lzI_9, ↓lzI_10, ↓lzI_11, ↓lzI_12, ↓lzR_0, ↓lzR_1, ↓lzR_2, ↓lzR_3, ↓lzR_4, ↓lzR_5, ↓lzR_6, ↓lzR_7, ↓lzR_8, ↓lzR_9, ↓lzR_10, ↓lzR_11, ↓lzR_12, ↓lzN_0, ↓lzN_1, ↓lzN_2, ↓lzN_3, ↓lzN_4, ↓lzN_5, ↓lzN_6, ↓lzN_7, ↓lzN_8, ↓lzN_9, ↓lzN_10, ↓lzN_11, ↓lzN_12, ↓lzQ_0, ↓lzQ_1, ↓lzQ_2, ↓lzQ_3, ↓lzQ_4, ↓lzQ_5, ↓lzQ_6, ↓lzQ_7, ↓lzQ_8, ↓lzQ_9, ↓lzQ_10, ↓lzQ_11, ↓lzQ_12, if_true, if_false, a_ofI1, a_add, g_AL, a_clamp, a_mul, a_ofIm1, a_sub, Nat.mul_zero, Nat.add_zero, Nat.zero_add, Nat.add_sub_cancel, b2_eq1, b2_z, a_eq0, a_eqT, a_eqF, a_ltT, a_ltF, g_N20, g_N21, g_N22, g_N23, g_N24, g_N25, g_N26, g_N27, g_N28, g_N29, g_N40, g_R22, g_R23, g_R24, g_R25, g_R26, g_R27, g_R28, g_R29, g_E24_8, g_E24_9, g_E24_10, g_E24_11, g_E25_5, g_E26_6, g_E27_2, g_E28_12, g_E23_22, g_E29_20]) <;> first | rfl | (show _ = some (Sum.inl (some (Value.int (if a < b then nI 1 else nI 0))), h); split <;> rfl) | (show _ = some (Sum.inl (some (Value.int (if a = b then nI 1 else nI 0))), h); split <;> rfl) | (show _ = some (Sum.inl (some (Value.int (if b < a then nI 1 else nI 0))), h); split <;> rfl)
/-- one step of a text -/
def ev1 (w f : Nat → Int32) (i : Nat) (st : List Int32) : Option (List Int32) :=
  if w (887 + 2 * i) = nI (w (887 + 2 * i)).toNatClampNeg ∧ (w (887 + 2 * i)).toNatClampNeg ≤ 32 then
    (if (w (887 + 2 * i)).toNatClampNeg = 0 then some (w (887 + 2 * i + 1) :: st)
    else if (w (887 + 2 * i)).toNatClampNeg < 11 then some (f (w (887 + 2 * i)).toNatClampNeg :: st)
    else if (w (887 + 2 * i)).toNatClampNeg = 26 then (match st with
      | x :: r => if w (887 + 2 * i + 1) = nI 0 then none else some (x / w (887 + 2 * i + 1) :: r)
      | _ => none)
    else if (w (887 + 2 * i)).toNatClampNeg = 30 then (match st with
      | x :: r => some ((nI 1 - x) :: r)
      | _ => none)
    else if isOpB (w (887 + 2 * i)).toNatClampNeg = true then (match st with
      | y :: x :: r => some (opM (w (887 + 2 * i)).toNatClampNeg x y :: r)
      | _ => none)
    else none)
  else none
def evN (w f : Nat → Int32) : Nat → Nat → List Int32 → Option (List Int32)
  | 0, _, st => some st
  | n + 1, i, st => match ev1 w f i st with
    | some st' => evN w f n (i + 1) st'
    | none => none
/-- the pile holds the list, its head on top -/
def pil (p : Nat → Int32) (st : List Int32) : Prop := ∀ j, j < st.length → st[j]? = some (p (st.length - 1 - j))
theorem pil_nil (p : Nat → Int32) : pil p [] := fun j hj => absurd hj (by simp)
theorem pil_top {p : Nat → Int32} {x : Int32} {r : List Int32} (h : pil p (x :: r)) : p r.length = x := by
  have := h 0 (by simp)
  simpa using this.symm
theorem pil_tl {p : Nat → Int32} {x : Int32} {r : List Int32} (h : pil p (x :: r)) : pil p r := by
  intro j hj
  have := h (j + 1) (by simpa using hj)
  rw [List.getElem?_cons_succ] at this
  rw [this]
  congr 2
  simp only [List.length_cons]
  omega
theorem pil_cons {p : Nat → Int32} {x : Int32} {r : List Int32} (h : pil p r) (hx : p r.length = x) : pil p (x :: r) := by
  intro j hj
  cases j with
  | zero => simp [hx]
  | succ j =>
    have hj' : j < r.length := by simpa using hj
    rw [List.getElem?_cons_succ, h j hj']
    congr 2
    simp only [List.length_cons]
    omega
theorem pil_up {p : Nat → Int32} {k : Nat} {v : Int32} {r : List Int32} (h : pil p r) (hk : r.length ≤ k) : pil (up p k v) r := by
  intro j hj
  rw [h j hj, up_ne (by omega)]
theorem pil_push {p : Nat → Int32} {x : Int32} {r : List Int32} (h : pil p r) : pil (up p r.length x) (x :: r) := pil_cons (pil_up h (Nat.le_refl _)) (up_eq _ _ _)
section
variable {h0 : mH} {m : Nat}
theorem l_96 (M : MS h0 m) (d : Nat) (b : Int32) : ∀ (n i : Nat) (st st' : List Int32) (h : mH) (o6 o7 : Option Value), fr [m + 9] h0 h → evN (hI h0 (m + 1)) (hI h0 (m + 10)) n i st = some st' → i + n ≤ 410 → st.length + n ≤ 420 → pil (hI h (m + 9)) st →
    ∃ (h2 : mH) (o6' o7' : Option Value), fr [m + 9] h0 h2 ∧ pil (hI h2 (m + 9)) st' ∧ res (d + 1) 96 (6, [some (.ref m), some (.int (nI 0)), some (.int b), some (.int (nI (i + n))), some (.int (nI st.length)), some (.int (nI i)), o6, o7], [], h) = res (d + 1) 96 (186, [some (.ref m), some (.int (nI 0)), some (.int b), some (.int (nI (i + n))), some (.int (nI st'.length)), some (.int (nI (i + n))), o6', o7'], [], h2) := by
  intro n
  induction n with
  | zero =>
    intro i st st' h o6 o7 f0 he hi hs hp
    cases he
    have M := ss_MS f0.1 M
    obtain ⟨⟨t0, p0, p1, p2, p3, p6, p7, p8, p9, p10, p11, p27, p32, p33, p34⟩, t1, t2, t3, t4, t5, t6, t7, t8, t9, t10, t11, t12, t13, t14⟩ := M
    refine ⟨h, o6, o7, f0, hp, ?_⟩
    rw [kh_96_6]; simp (disch := omega) only [ks_96, r_ic, r_lc, r_gc, r_null, r_iload, r_lload, r_aload, r_istore, r_lstore, r_astore, r_iinc, r_bin, r_un, r_div, r_rem, r_i2l, r_l2i, r_lmul, r_lrem, r_dup, r_dup2, r_pop, r_goto, r_ifeq, r_ifne, r_iflt, r_ifge, r_ifgt, r_ifle, r_ceq, r_cne, r_clt, r_cge, r_cgt, r_cle, r_aeq, r_ane, r_ifnull, r_ifnullN, r_ifnn, r_ifnnN, r_ifnullq, r_ifnnq, r_sw, r_getI, r_getP, r_putI, r_putZ, r_putC, r_putP, r_newo, r_newa, r_alen, r_ald, r_ast, r_bst, r_aald, r_aast, r_gsc, r_gsv, r_slen, r_gvb, r_aastS, r_obj, r_mx, r_mn, r_lam, c_S0, c_S1, c_S2, c_S3, c_S4, c_V0, c_V1, c_V2, c_V3, c_V4, c_V5, c_Tg, c_T0, c_T1, c_T2, c_I0, c_I1, c_I2, c_I3, c_I4, k_some, k_void, k_ite, e_i, e_z, e_c, e_b, e_a, e_v, g_I, g_O, g_L0, g_L1, g_L2, g_L3, g_L4, l_I, l_J, l_Rr, l_Rn, l_Rq, b_G, isRv_ref, isRv_null, isC1_int, isC1_ref, isC1_null, rfo_ref, rfo_null, kil_int, kil_ref, kil_null, kil_long, kil_none, s_nil, s_cons, lg_0, lg_1, lg_2, lg_3, lg_4, lg_s, ls_0, ls_1, ls_2, ls_3, ls_4, ls_5, ls_6, ls_7, ls_8, S_sI, V_sI, S_sP, V_sP, S_nw, V_nw, S_cI, V_cI, S_cP, V_cP, b2_eq0, b2_01, va_rf_some, va_rf_none, isRv_rf, isC1_rf, kil2_rf, rfo_rf, Nat.reduceAdd, true_or, or_true, ↓reduceIte, ↓lzI_0, ↓lzI_1, ↓lzI_2, ↓lzI_3, ↓lzI_4, ↓lzI_5, ↓lzI_6, ↓lzI_7, ↓lzI_8, ↓lzI_9, ↓lzI_10, ↓lzI_11, ↓lzI_12, ↓lzR_0, ↓lzR_1, ↓lzR_2, ↓lzR_3, ↓lzR_4, ↓lzR_5, ↓lzR_6, ↓lzR_7, ↓lzR_8, ↓lzR_9, ↓lzR_10, ↓lzR_11, ↓lzR_12, ↓lzN_0, ↓lzN_1, ↓lzN_2, ↓lzN_3, ↓lzN_4, ↓lzN_5, ↓lzN_6, ↓lzN_7, ↓lzN_8, ↓lzN_9, ↓lzN_10, ↓lzN_11, ↓lzN_12, ↓lzQ_0, ↓lzQ_1, ↓lzQ_2, ↓lzQ_3, ↓lzQ_4, ↓lzQ_5, ↓lzQ_6, ↓lzQ_7, ↓lzQ_8, ↓lzQ_9, ↓lzQ_10, ↓lzQ_11, ↓lzQ_12, if_true, if_false, a_ofI1, a_add, g_AL, a_clamp, a_mul, a_ofIm1, a_sub, Nat.mul_zero, Nat.add_zero, Nat.zero_add, Nat.add_sub_cancel, b2_eq1, b2_z, a_eq0, a_eqT, a_eqF, a_ltT, a_ltF, g_N20, g_N21, g_N22, g_N23, g_N24, g_N25, g_N26, g_N27, g_N28, g_N29, g_N40, g_R22, g_R23, g_R24, g_R25, g_R26, g_R27, g_R28, g_R29, g_E24_8, g_E24_9, g_E24_10, g_E24_11, g_E25_5, g_E26_6, g_E27_2, g_E28_12, g_E23_22, g_E29_20, T_sI, P_sI, N_sI, G_sI, T_sP, I_sP, P_sP, N_sP, G_sP, T_nw, I_nw, P_nw, N_nw, G_nw, T_cI, I_cI, P_cI, N_cI, G_cI, T_cP, I_cP, P_cP, N_cP, G_cP, R_eq, R_ne, up_eq, up_ne, t0, t1, t2, t3, t4, t5, t6, t7, t8, t9, t10, t11, t12, t13, t14, p0, p1, p2, p3, p6, p7, p8, p9, p10, p11, p27, p32, p33, p34]
  | succ n ih =>
    intro i st st' h o6 o7 f0 he hi hs hp
    have hw : hI h (m + 1) = hI h0 (m + 1) := f0.2 _ (by simp)
    have hf : hI h (m + 10) = hI h0 (m + 10) := f0.2 _ (by simp)
    have M := ss_MS f0.1 M
    obtain ⟨⟨t0, p0, p1, p2, p3, p6, p7, p8, p9, p10, p11, p27, p32, p33, p34⟩, t1, t2, t3, t4, t5, t6, t7, t8, t9, t10, t11, t12, t13, t14⟩ := M
    have he : (match ev1 (hI h0 (m + 1)) (hI h0 (m + 10)) i st with | some st' => evN (hI h0 (m + 1)) (hI h0 (m + 10)) n (i + 1) st' | none => none) = some st' := he
    cases h1 : ev1 (hI h0 (m + 1)) (hI h0 (m + 10)) i st with
    | none => rw [h1] at he; cases he
    | some st1 =>
      rw [h1] at he
      dsimp only at he
      unfold ev1 at h1
      generalize hq : (hI h0 (m + 1) (887 + 2 * i)).toNatClampNeg = q at h1
      obtain ⟨⟨hqw, hq32⟩, h1⟩ : (hI h0 (m + 1) (887 + 2 * i) = nI q ∧ q ≤ 32) ∧ _ := by
        by_cases z : hI h0 (m + 1) (887 + 2 * i) = nI q ∧ q ≤ 32
        · rw [if_pos z] at h1; exact ⟨z, h1⟩
        · rw [if_neg z] at h1; cases h1
      have e0 : i + (n + 1) = i + 1 + n := by omega
      by_cases c0 : q = 0
      · subst c0
        rw [if_pos rfl] at h1
        cases h1
        obtain ⟨h2, o6', o7', f2, p2', r2⟩ := ih (i + 1) _ st' (sI h (m + 9) st.length (hI h0 (m + 1) (887 + 2 * i + 1))) (some (.int (nI 0))) (some (.int (hI h0 (m + 1) (887 + 2 * i + 1)))) (fr_sI f0 (by simp)) he (by omega) (by simp only [List.length_cons]; omega) (by rw [R_eq]; exact pil_push hp)
        refine ⟨h2, o6', o7', f2, p2', ?_⟩
        rw [e0, ← r2, kh_96_6]; simp (disch := omega) only [ks_96, r_ic, r_lc, r_gc, r_null, r_iload, r_lload, r_aload, r_istore, r_lstore, r_astore, r_iinc, r_bin, r_un, r_div, r_rem, r_i2l, r_l2i, r_lmul, r_lrem, r_dup, r_dup2, r_pop, r_goto, r_ifeq, r_ifne, r_iflt, r_ifge, r_ifgt, r_ifle, r_ceq, r_cne, r_clt, r_cge, r_cgt, r_cle, r_aeq, r_ane, r_ifnull, r_ifnullN, r_ifnn, r_ifnnN, r_ifnullq, r_ifnnq, r_sw, r_getI, r_getP, r_putI, r_putZ, r_putC, r_putP, r_newo, r_newa, r_alen, r_ald, r_ast, r_bst, r_aald, r_aast, r_gsc, r_gsv, r_slen, r_gvb, r_aastS, r_obj, r_mx, r_mn, r_lam, c_S0, c_S1, c_S2, c_S3, c_S4, c_V0, c_V1, c_V2, c_V3, c_V4, c_V5, c_Tg, c_T0, c_T1, c_T2, c_I0, c_I1, c_I2, c_I3, c_I4, k_some, k_void, k_ite, e_i, e_z, e_c, e_b, e_a, e_v, g_I, g_O, g_L0, g_L1, g_L2, g_L3, g_L4, l_I, l_J, l_Rr, l_Rn, l_Rq, b_G, isRv_ref, isRv_null, isC1_int, isC1_ref, isC1_null, rfo_ref, rfo_null, kil_int, kil_ref, kil_null, kil_long, kil_none, s_nil, s_cons, lg_0, lg_1, lg_2, lg_3, lg_4, lg_s, ls_0, ls_1, ls_2, ls_3, ls_4, ls_5, ls_6, ls_7, ls_8, S_sI, V_sI, S_sP, V_sP, S_nw, V_nw, S_cI, V_cI, S_cP, V_cP, b2_eq0, b2_01, va_rf_some, va_rf_none, isRv_rf, isC1_rf, kil2_rf, rfo_rf, Nat.reduceAdd, true_or, or_true, ↓reduceIte, ↓lzI_0, ↓lzI_1, ↓lzI_2, ↓lzI_3, ↓lzI_4, ↓lzI_5, ↓lzI_6, ↓lzI_7, ↓lzI_8, ↓lzI_9, ↓lzI_10, ↓lzI_11, ↓lzI_12, ↓lzR_0, ↓lzR_1, ↓lzR_2, ↓lzR_3, ↓lzR_4, ↓lzR_5, ↓lzR_6, ↓lzR_7, ↓lzR_8, ↓lzR_9, ↓lzR_10, ↓lzR_11, ↓lzR_12, ↓lzN_0, ↓lzN_1, ↓lzN_2, ↓lzN_3, ↓lzN_4, ↓lzN_5, ↓lzN_6, ↓lzN_7, ↓lzN_8, ↓lzN_9, ↓lzN_10, ↓lzN_11, ↓lzN_12, ↓lzQ_0, ↓lzQ_1, ↓lzQ_2, ↓lzQ_3, ↓lzQ_4, ↓lzQ_5, ↓lzQ_6, ↓lzQ_7, ↓lzQ_8, ↓lzQ_9, ↓lzQ_10, ↓lzQ_11, ↓lzQ_12, if_true, if_false, a_ofI1, a_add, g_AL, a_clamp, a_mul, a_ofIm1, a_sub, Nat.mul_zero, Nat.add_zero, Nat.zero_add, Nat.add_sub_cancel, b2_eq1, b2_z, a_eq0, a_eqT, a_eqF, a_ltT, a_ltF, g_N20, g_N21, g_N22, g_N23, g_N24, g_N25, g_N26, g_N27, g_N28, g_N29, g_N40, g_R22, g_R23, g_R24, g_R25, g_R26, g_R27, g_R28, g_R29, g_E24_8, g_E24_9, g_E24_10, g_E24_11, g_E25_5, g_E26_6, g_E27_2, g_E28_12, g_E23_22, g_E29_20, T_sI, P_sI, N_sI, G_sI, T_sP, I_sP, P_sP, N_sP, G_sP, T_nw, I_nw, P_nw, N_nw, G_nw, T_cI, I_cI, P_cI, N_cI, G_cI, T_cP, I_cP, P_cP, N_cP, G_cP, R_eq, R_ne, up_eq, up_ne, t0, t1, t2, t3, t4, t5, t6, t7, t8, t9, t10, t11, t12, t13, t14, p0, p1, p2, p3, p6, p7, p8, p9, p10, p11, p27, p32, p33, p34, hw, hf, hqw, List.length_cons]
      rw [if_neg c0] at h1
      by_cases c1 : q < 11
      · rw [if_pos c1] at h1
        cases h1
        obtain ⟨h2, o6', o7', f2, p2', r2⟩ := ih (i + 1) _ st' (sI h (m + 9) st.length (hI h0 (m + 10) q)) (some (.int (nI q))) (some (.int (hI h0 (m + 1) (887 + 2 * i + 1)))) (fr_sI f0 (by simp)) he (by omega) (by simp only [List.length_cons]; omega) (by rw [R_eq]; exact pil_push hp)
        refine ⟨h2, o6', o7', f2, p2', ?_⟩
        rw [e0, ← r2, kh_96_6]; simp (disch := omega) only [ks_96, r_ic, r_lc, r_gc, r_null, r_iload, r_lload, r_aload, r_istore, r_lstore, r_astore, r_iinc, r_bin, r_un, r_div, r_rem, r_i2l, r_l2i, r_lmul, r_lrem, r_dup, r_dup2, r_pop, r_goto, r_ifeq, r_ifne, r_iflt, r_ifge, r_ifgt, r_ifle, r_ceq, r_cne, r_clt, r_cge, r_cgt, r_cle, r_aeq, r_ane, r_ifnull, r_ifnullN, r_ifnn, r_ifnnN, r_ifnullq, r_ifnnq, r_sw, r_getI, r_getP, r_putI, r_putZ, r_putC, r_putP, r_newo, r_newa, r_alen, r_ald, r_ast, r_bst, r_aald, r_aast, r_gsc, r_gsv, r_slen, r_gvb, r_aastS, r_obj, r_mx, r_mn, r_lam, c_S0, c_S1, c_S2, c_S3, c_S4, c_V0, c_V1, c_V2, c_V3, c_V4, c_V5, c_Tg, c_T0, c_T1, c_T2, c_I0, c_I1, c_I2, c_I3, c_I4, k_some, k_void, k_ite, e_i, e_z, e_c, e_b, e_a, e_v, g_I, g_O, g_L0, g_L1, g_L2, g_L3, g_L4, l_I, l_J, l_Rr, l_Rn, l_Rq, b_G, isRv_ref, isRv_null, isC1_int, isC1_ref, isC1_null, rfo_ref, rfo_null, kil_int, kil_ref, kil_null, kil_long, kil_none, s_nil, s_cons, lg_0, lg_1, lg_2, lg_3, lg_4, lg_s, ls_0, ls_1, ls_2, ls_3, ls_4, ls_5, ls_6, ls_7, ls_8, S_sI, V_sI, S_sP, V_sP, S_nw, V_nw, S_cI, V_cI, S_cP, V_cP, b2_eq0, b2_01, va_rf_some, va_rf_none, isRv_rf, isC1_rf, kil2_rf, rfo_rf, Nat.reduceAdd, true_or, or_true, ↓reduceIte, ↓lzI_0, ↓lzI_1, ↓lzI_2, ↓lzI_3, ↓lzI_4, ↓lzI_5, ↓lzI_6, ↓lzI_7, ↓lzI_8, ↓lzI_9, ↓lzI_10, ↓lzI_11, ↓lzI_12, ↓lzR_0, ↓lzR_1, ↓lzR_2, ↓lzR_3, ↓lzR_4, ↓lzR_5, ↓lzR_6, ↓lzR_7, ↓lzR_8, ↓lzR_9, ↓lzR_10, ↓lzR_11, ↓lzR_12, ↓lzN_0, ↓lzN_1, ↓lzN_2, ↓lzN_3, ↓lzN_4, ↓lzN_5, ↓lzN_6, ↓lzN_7, ↓lzN_8, ↓lzN_9, ↓lzN_10, ↓lzN_11, ↓lzN_12, ↓lzQ_0, ↓lzQ_1, ↓lzQ_2, ↓lzQ_3, ↓lzQ_4, ↓lzQ_5, ↓lzQ_6, ↓lzQ_7, ↓lzQ_8, ↓lzQ_9, ↓lzQ_10, ↓lzQ_11, ↓lzQ_12, if_true, if_false, a_ofI1, a_add, g_AL, a_clamp, a_mul, a_ofIm1, a_sub, Nat.mul_zero, Nat.add_zero, Nat.zero_add, Nat.add_sub_cancel, b2_eq1, b2_z, a_eq0, a_eqT, a_eqF, a_ltT, a_ltF, g_N20, g_N21, g_N22, g_N23, g_N24, g_N25, g_N26, g_N27, g_N28, g_N29, g_N40, g_R22, g_R23, g_R24, g_R25, g_R26, g_R27, g_R28, g_R29, g_E24_8, g_E24_9, g_E24_10, g_E24_11, g_E25_5, g_E26_6, g_E27_2, g_E28_12, g_E23_22, g_E29_20, T_sI, P_sI, N_sI, G_sI, T_sP, I_sP, P_sP, N_sP, G_sP, T_nw, I_nw, P_nw, N_nw, G_nw, T_cI, I_cI, P_cI, N_cI, G_cI, T_cP, I_cP, P_cP, N_cP, G_cP, R_eq, R_ne, up_eq, up_ne, t0, t1, t2, t3, t4, t5, t6, t7, t8, t9, t10, t11, t12, t13, t14, p0, p1, p2, p3, p6, p7, p8, p9, p10, p11, p27, p32, p33, p34, hw, hf, hqw, List.length_cons]
      rw [if_neg c1] at h1
      by_cases c2 : q = 26
      · subst c2
        rw [if_pos rfl] at h1
        match st, h1 with
        | x :: r, h1 =>
          by_cases hv : hI h0 (m + 1) (887 + 2 * i + 1) = nI 0
          · dsimp only at h1; rw [if_pos hv] at h1; cases h1
          · dsimp only at h1
            rw [if_neg hv] at h1
            cases h1
            have hx := pil_top hp
            obtain ⟨h2, o6', o7', f2, p2', r2⟩ := ih (i + 1) _ st' (sI h (m + 9) r.length (x / hI h0 (m + 1) (887 + 2 * i + 1))) (some (.int (nI 26))) (some (.int (hI h0 (m + 1) (887 + 2 * i + 1)))) (fr_sI f0 (by simp)) he (by omega) (by simp only [List.length_cons] at hs ⊢; omega) (by rw [R_eq]; exact pil_push (pil_tl hp))
            refine ⟨h2, o6', o7', f2, p2', ?_⟩
            simp only [List.length_cons] at hs
            rw [e0, ← r2, kh_96_6]; simp (disch := omega) only [ks_96, r_ic, r_lc, r_gc, r_null, r_iload, r_lload, r_aload, r_istore, r_lstore, r_astore, r_iinc, r_bin, r_un, r_div, r_rem, r_i2l, r_l2i, r_lmul, r_lrem, r_dup, r_dup2, r_pop, r_goto, r_ifeq, r_ifne, r_iflt, r_ifge, r_ifgt, r_ifle, r_ceq, r_cne, r_clt, r_cge, r_cgt, r_cle, r_aeq, r_ane, r_ifnull, r_ifnullN, r_ifnn, r_ifnnN, r_ifnullq, r_ifnnq, r_sw, r_getI, r_getP, r_putI, r_putZ, r_putC, r_putP, r_newo, r_newa, r_alen, r_ald, r_ast, r_bst, r_aald, r_aast, r_gsc, r_gsv, r_slen, r_gvb, r_aastS, r_obj, r_mx, r_mn, r_lam, c_S0, c_S1, c_S2, c_S3, c_S4, c_V0, c_V1, c_V2, c_V3, c_V4, c_V5, c_Tg, c_T0, c_T1, c_T2, c_I0, c_I1, c_I2, c_I3, c_I4, k_some, k_void, k_ite, e_i, e_z, e_c, e_b, e_a, e_v, g_I, g_O, g_L0, g_L1, g_L2, g_L3, g_L4, l_I, l_J, l_Rr, l_Rn, l_Rq, b_G, isRv_ref, isRv_null, isC1_int, isC1_ref, isC1_null, rfo_ref, rfo_null, kil_int, kil_ref, kil_null, kil_long, kil_none, s_nil, s_cons, lg_0, lg_1, lg_2, lg_3, lg_4, lg_s, ls_0, ls_1, ls_2, ls_3, ls_4, ls_5, ls_6, ls_7, ls_8, S_sI, V_sI, S_sP, V_sP, S_nw, V_nw, S_cI, V_cI, S_cP, V_cP, b2_eq0, b2_01, va_rf_some, va_rf_none, isRv_rf, isC1_rf, kil2_rf, rfo_rf, Nat.reduceAdd, true_or, or_true, ↓reduceIte, ↓lzI_0, ↓lzI_1, ↓lzI_2, ↓lzI_3, ↓lzI_4, ↓lzI_5, ↓lzI_6, ↓lzI_7, ↓lzI_8, ↓lzI_9, ↓lzI_10, ↓lzI_11, ↓lzI_12, ↓lzR_0, ↓lzR_1, ↓lzR_2, ↓lzR_3, ↓lzR_4, ↓lzR_5, ↓lzR_6, ↓lzR_7, ↓lzR_8, ↓lzR_9, ↓lzR_10, ↓lzR_11, ↓lzR_12, ↓lzN_0, ↓lzN_1, ↓lzN_2, ↓lzN_3, ↓lzN_4, ↓lzN_5, ↓lzN_6, ↓lzN_7, ↓lzN_8, ↓lzN_9, ↓lzN_10, ↓lzN_11, ↓lzN_12, ↓lzQ_0, ↓lzQ_1, ↓lzQ_2, ↓lzQ_3, ↓lzQ_4, ↓lzQ_5, ↓lzQ_6, ↓lzQ_7, ↓lzQ_8, ↓lzQ_9, ↓lzQ_10, ↓lzQ_11, ↓lzQ_12, if_true, if_false, a_ofI1, a_add, g_AL, a_clamp, a_mul, a_ofIm1, a_sub, Nat.mul_zero, Nat.add_zero, Nat.zero_add, Nat.add_sub_cancel, b2_eq1, b2_z, a_eq0, a_eqT, a_eqF, a_ltT, a_ltF, g_N20, g_N21, g_N22, g_N23, g_N24, g_N25, g_N26, g_N27, g_N28, g_N29, g_N40, g_R22, g_R23, g_R24, g_R25, g_R26, g_R27, g_R28, g_R29, g_E24_8, g_E24_9, g_E24_10, g_E24_11, g_E25_5, g_E26_6, g_E27_2, g_E28_12, g_E23_22, g_E29_20, T_sI, P_sI, N_sI, G_sI, T_sP, I_sP, P_sP, N_sP, G_sP, T_nw, I_nw, P_nw, N_nw, G_nw, T_cI, I_cI, P_cI, N_cI, G_cI, T_cP, I_cP, P_cP, N_cP, G_cP, R_eq, R_ne, up_eq, up_ne, t0, t1, t2, t3, t4, t5, t6, t7, t8, t9, t10, t11, t12, t13, t14, p0, p1, p2, p3, p6, p7, p8, p9, p10, p11, p27, p32, p33, p34, hw, hf, hqw, List.length_cons, hx, hv]
      rw [if_neg c2] at h1
      by_cases c3 : q = 30
      · subst c3
        rw [if_pos rfl] at h1
        match st, h1 with
        | x :: r, h1 =>
          cases h1
          have hx := pil_top hp
          obtain ⟨h2, o6', o7', f2, p2', r2⟩ := ih (i + 1) _ st' (sI h (m + 9) r.length (nI 1 - x)) (some (.int (nI 30))) (some (.int (hI h0 (m + 1) (887 + 2 * i + 1)))) (fr_sI f0 (by simp)) he (by omega) (by simp only [List.length_cons] at hs ⊢; omega) (by rw [R_eq]; exact pil_push (pil_tl hp))
          refine ⟨h2, o6', o7', f2, p2', ?_⟩
          simp only [List.length_cons] at hs
          rw [e0, ← r2, kh_96_6]; simp (disch := omega) only [ks_96, r_ic, r_lc, r_gc, r_null, r_iload, r_lload, r_aload, r_istore, r_lstore, r_astore, r_iinc, r_bin, r_un, r_div, r_rem, r_i2l, r_l2i, r_lmul, r_lrem, r_dup, r_dup2, r_pop, r_goto, r_ifeq, r_ifne, r_iflt, r_ifge, r_ifgt, r_ifle, r_ceq, r_cne, r_clt, r_cge, r_cgt, r_cle, r_aeq, r_ane, r_ifnull, r_ifnullN, r_ifnn, r_ifnnN, r_ifnullq, r_ifnnq, r_sw, r_getI, r_getP, r_putI, r_putZ, r_putC, r_putP, r_newo, r_newa, r_alen, r_ald, r_ast, r_bst, r_aald, r_aast, r_gsc, r_gsv, r_slen, r_gvb, r_aastS, r_obj, r_mx, r_mn, r_lam, c_S0, c_S1, c_S2, c_S3, c_S4, c_V0, c_V1, c_V2, c_V3, c_V4, c_V5, c_Tg, c_T0, c_T1, c_T2, c_I0, c_I1, c_I2, c_I3, c_I4, k_some, k_void, k_ite, e_i, e_z, e_c, e_b, e_a, e_v, g_I, g_O, g_L0, g_L1, g_L2, g_L3, g_L4, l_I, l_J, l_Rr, l_Rn, l_Rq, b_G, isRv_ref, isRv_null, isC1_int, isC1_ref, isC1_null, rfo_ref, rfo_null, kil_int, kil_ref, kil_null, kil_long, kil_none, s_nil, s_cons, lg_0, lg_1, lg_2, lg_3, lg_4, lg_s, ls_0, ls_1, ls_2, ls_3, ls_4, ls_5, ls_6, ls_7, ls_8, S_sI, V_sI, S_sP, V_sP, S_nw, V_nw, S_cI, V_cI, S_cP, V_cP, b2_eq0, b2_01, va_rf_some, va_rf_none, isRv_rf, isC1_rf, kil2_rf, rfo_rf, Nat.reduceAdd, true_or, or_true, ↓reduceIte, ↓lzI_0, ↓lzI_1, ↓lzI_2, ↓lzI_3, ↓lzI_4, ↓lzI_5, ↓lzI_6, ↓lzI_7, ↓lzI_8, ↓lzI_9, ↓lzI_10, ↓lzI_11, ↓lzI_12, ↓lzR_0, ↓lzR_1, ↓lzR_2, ↓lzR_3, ↓lzR_4, ↓lzR_5, ↓lzR_6, ↓lzR_7, ↓lzR_8, ↓lzR_9, ↓lzR_10, ↓lzR_11, ↓lzR_12, ↓lzN_0, ↓lzN_1, ↓lzN_2, ↓lzN_3, ↓lzN_4, ↓lzN_5, ↓lzN_6, ↓lzN_7, ↓lzN_8, ↓lzN_9, ↓lzN_10, ↓lzN_11, ↓lzN_12, ↓lzQ_0, ↓lzQ_1, ↓lzQ_2, ↓lzQ_3, ↓lzQ_4, ↓lzQ_5, ↓lzQ_6, ↓lzQ_7, ↓lzQ_8, ↓lzQ_9, ↓lzQ_10, ↓lzQ_11, ↓lzQ_12, if_true, if_false, a_ofI1, a_add, g_AL, a_clamp, a_mul, a_ofIm1, a_sub, Nat.mul_zero, Nat.add_zero, Nat.zero_add, Nat.add_sub_cancel, b2_eq1, b2_z, a_eq0, a_eqT, a_eqF, a_ltT, a_ltF, g_N20, g_N21, g_N22, g_N23, g_N24, g_N25, g_N26, g_N27, g_N28, g_N29, g_N40, g_R22, g_R23, g_R24, g_R25, g_R26, g_R27, g_R28, g_R29, g_E24_8, g_E24_9, g_E24_10, g_E24_11, g_E25_5, g_E26_6, g_E27_2, g_E28_12, g_E23_22, g_E29_20, T_sI, P_sI, N_sI, G_sI, T_sP, I_sP, P_sP, N_sP, G_sP, T_nw, I_nw, P_nw, N_nw, G_nw, T_cI, I_cI, P_cI, N_cI, G_cI, T_cP, I_cP, P_cP, N_cP, G_cP, R_eq, R_ne, up_eq, up_ne, t0, t1, t2, t3, t4, t5, t6, t7, t8, t9, t10, t11, t12, t13, t14, p0, p1, p2, p3, p6, p7, p8, p9, p10, p11, p27, p32, p33, p34, hw, hf, hqw, List.length_cons, hx]
      rw [if_neg c3] at h1
      by_cases c4 : isOpB q = true
      · rw [if_pos c4] at h1
        match st, h1 with
        | y :: x :: r, h1 =>
          cases h1
          have hop := isOpB_eq c4
          have hx := pil_top (pil_tl hp)
          have hy : hI h (m + 9) (r.length + 1) = y := pil_top hp
          obtain ⟨h2, o6', o7', f2, p2', r2⟩ := ih (i + 1) _ st' (sI h (m + 9) r.length (opM q x y)) (some (.int (nI q))) (some (.int (hI h0 (m + 1) (887 + 2 * i + 1)))) (fr_sI f0 (by simp)) he (by omega) (by simp only [List.length_cons] at hs ⊢; omega) (by rw [R_eq]; exact pil_push (pil_tl (pil_tl hp)))
          refine ⟨h2, o6', o7', f2, p2', ?_⟩
          simp only [List.length_cons] at hs
          have hq23 : 23 ≤ q := by unfold isOp at hop; omega
          rw [e0, ← r2, kh_96_6]; simp (disch := omega) only [ks_96, r_ic, r_lc, r_gc, r_null, r_iload, r_lload, r_aload, r_istore, r_lstore, r_astore, r_iinc, r_bin, r_un, r_div, r_rem, r_i2l, r_l2i, r_lmul, r_lrem, r_dup, r_dup2, r_pop, r_goto, r_ifeq, r_ifne, r_iflt, r_ifge, r_ifgt, r_ifle, r_ceq, r_cne, r_clt, r_cge, r_cgt, r_cle, r_aeq, r_ane, r_ifnull, r_ifnullN, r_ifnn, r_ifnnN, r_ifnullq, r_ifnnq, r_sw, r_getI, r_getP, r_putI, r_putZ, r_putC, r_putP, r_newo, r_newa, r_alen, r_ald, r_ast, r_bst, r_aald, r_aast, r_gsc, r_gsv, r_slen, r_gvb, r_aastS, r_obj, r_mx, r_mn, r_lam, c_S0, c_S1, c_S2, c_S3, c_S4, c_V0, c_V1, c_V2, c_V3, c_V4, c_V5, c_Tg, c_T0, c_T1, c_T2, c_I0, c_I1, c_I2, c_I3, c_I4, k_some, k_void, k_ite, e_i, e_z, e_c, e_b, e_a, e_v, g_I, g_O, g_L0, g_L1, g_L2, g_L3, g_L4, l_I, l_J, l_Rr, l_Rn, l_Rq, b_G, isRv_ref, isRv_null, isC1_int, isC1_ref, isC1_null, rfo_ref, rfo_null, kil_int, kil_ref, kil_null, kil_long, kil_none, s_nil, s_cons, lg_0, lg_1, lg_2, lg_3, lg_4, lg_s, ls_0, ls_1, ls_2, ls_3, ls_4, ls_5, ls_6, ls_7, ls_8, S_sI, V_sI, S_sP, V_sP, S_nw, V_nw, S_cI, V_cI, S_cP, V_cP, b2_eq0, b2_01, va_rf_some, va_rf_none, isRv_rf, isC1_rf, kil2_rf, rfo_rf, Nat.reduceAdd, true_or, or_true, ↓reduceIte, ↓lzI_0, ↓lzI_1, ↓lzI_2, ↓lzI_3, ↓lzI_4, ↓lzI_5, ↓lzI_6, ↓lzI_7, ↓lzI_8, ↓lzI_9, ↓lzI_10, ↓lzI_11, ↓lzI_12, ↓lzR_0, ↓lzR_1, ↓lzR_2, ↓lzR_3, ↓lzR_4, ↓lzR_5, ↓lzR_6, ↓lzR_7, ↓lzR_8, ↓lzR_9, ↓lzR_10, ↓lzR_11, ↓lzR_12, ↓lzN_0, ↓lzN_1, ↓lzN_2, ↓lzN_3, ↓lzN_4, ↓lzN_5, ↓lzN_6, ↓lzN_7, ↓lzN_8, ↓lzN_9, ↓lzN_10, ↓lzN_11, ↓lzN_12, ↓lzQ_0, ↓lzQ_1, ↓lzQ_2, ↓lzQ_3, ↓lzQ_4, ↓lzQ_5, ↓lzQ_6, ↓lzQ_7, ↓lzQ_8, ↓lzQ_9, ↓lzQ_10, ↓lzQ_11, ↓lzQ_12, if_true, if_false, a_ofI1, a_add, g_AL, a_clamp, a_mul, a_ofIm1, a_sub, Nat.mul_zero, Nat.add_zero, Nat.zero_add, Nat.add_sub_cancel, b2_eq1, b2_z, a_eq0, a_eqT, a_eqF, a_ltT, a_ltF, g_N20, g_N21, g_N22, g_N23, g_N24, g_N25, g_N26, g_N27, g_N28, g_N29, g_N40, g_R22, g_R23, g_R24, g_R25, g_R26, g_R27, g_R28, g_R29, g_E24_8, g_E24_9, g_E24_10, g_E24_11, g_E25_5, g_E26_6, g_E27_2, g_E28_12, g_E23_22, g_E29_20, T_sI, P_sI, N_sI, G_sI, T_sP, I_sP, P_sP, N_sP, G_sP, T_nw, I_nw, P_nw, N_nw, G_nw, T_cI, I_cI, P_cI, N_cI, G_cI, T_cP, I_cP, P_cP, N_cP, G_cP, R_eq, R_ne, up_eq, up_ne, t0, t1, t2, t3, t4, t5, t6, t7, t8, t9, t10, t11, t12, t13, t14, p0, p1, p2, p3, p6, p7, p8, p9, p10, p11, p27, p32, p33, p34, hw, hf, hqw, List.length_cons, hx, hy, x_95 _ _ _ _ _ hop]
      · rw [if_neg c4] at h1; cases h1
end
