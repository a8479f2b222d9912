/-! EncoresModel: what the law tells of a deed and a hearer; the statute -/
set_option maxRecDepth 100000
/-- told of a word, in a law -/
def tell (ls : List LL) (word : Nat) (f : Nat → Int32) (without most : Int32) : Int32 := clp most ((saysL word f ls).getD without)
def loudS (ls : List LL) (w : Nat → Int32) (e : Nat) : Int32 := tell ls 0 (fD w e) (w (81 + e) / nI 3) (nI 99)
def wearS (ls : List LL) (w : Nat → Int32) (e : Nat) : Int32 := tell ls 2 (fD w e) (nI 2) (nI 99)
/-- what is told of a hearer j at a deed e, b clapping beside him -/
def fH (w : Nat → Int32) (j e : Nat) (b : Int32) : Nat → Int32 := fun k => if k = 1 then nI j else if k = 2 then w (45 + j) else if k = 3 then w (57 + j) else if k = 4 then w (69 + j) else if k = 5 then w (9 + j) else if k = 9 then b else fD w e k
def clapS (ls : List LL) (w : Nat → Int32) (j e : Nat) (b : Int32) : Int32 := tell ls 1 (fH w j e b) (nI 100 * w (57 + j)) (nI 1000)
theorem fD_hi (w : Nat → Int32) (e j : Nat) (hj : ¬ j < 11) : fD w e j = nI 0 := by
  unfold fD
  rw [if_neg (by omega), if_neg (by omega), if_neg (by omega), if_neg (by omega)]
theorem tr_fD (w : Nat → Int32) (e : Nat) : tr (fD w e) = fD w e := by
  funext j
  unfold tr
  by_cases hj : j < 11
  · rw [if_pos hj]
  · rw [if_neg hj, fD_hi w e j hj]
theorem tr_fH (w : Nat → Int32) (j e : Nat) (b : Int32) : tr (fH w j e b) = fH w j e b := by
  funext k
  unfold tr
  by_cases hk : k < 11
  · rw [if_pos hk]
  · rw [if_neg hk]
    unfold fH
    rw [if_neg (by omega), if_neg (by omega), if_neg (by omega), if_neg (by omega), if_neg (by omega), if_neg (by omega), fD_hi w e k hk]
section
variable {h : mH} {m : Nat} {ls : List LL}
theorem x_100 (M : MS h m) (hL : ML (hI h (m + 1)) ls) (d e : Nat) (he : e < 8) : ∃ h', fr [m + 9, m + 10] h h' ∧ cal (d + 4) 100 [.ref m, .int (nI e)] h = some (.inl (some (.int (loudS ls (hI h (m + 1)) e))), h') := by
  obtain ⟨h1, f1, g1, e1⟩ := x_99 M (d + 3) e he
  have hw : hI h1 (m + 1) = hI h (m + 1) := f1.2 _ (by simp)
  have M1 := ss_MS f1.1 M
  obtain ⟨h2, f2, e2⟩ := x_98 M1 d 0 (by omega) (hI h (m + 1) (81 + e) / nI 3) (nI 99) ls (by rw [hw]; exact hL)
  rw [tr_e g1, tr_fD] at e2
  refine ⟨h2, fr_tr (fr_sub f1 (by simp)) (fr_sub f2 (by simp)), ?_⟩
  have u0 : hT h m = some (3, 35) := M.1.1
  have M := M1
  obtain ⟨⟨t0, p0, p1, p2, p3, p6, p7, p8, p9, p10, p11, p27, p32, p33, p34⟩, t1, t2, t3, t4, t5, t6, t7, t8, t9, t10, t11, t12, t13, t14⟩ := M
  rw [ke_100]; simp (disch := omega) only [ks_100, r_ic, r_lc, r_gc, r_null, r_iload, r_lload, r_aload, r_istore, r_lstore, r_astore, r_iinc, r_bin, r_un, r_div, r_rem, r_i2l, r_l2i, r_lmul, r_lrem, r_dup, r_dup2, r_pop, r_goto, r_ifeq, r_ifne, r_iflt, r_ifge, r_ifgt, r_ifle, r_ceq, r_cne, r_clt, r_cge, r_cgt, r_cle, r_aeq, r_ane, r_ifnull, r_ifnullN, r_ifnn, r_ifnnN, r_ifnullq, r_ifnnq, r_sw, r_getI, r_getP, r_putI, r_putZ, r_putC, r_putP, r_newo, r_newa, r_alen, r_ald, r_ast, r_bst, r_aald, r_aast, r_gsc, r_gsv, r_slen, r_gvb, r_aastS, r_obj, r_mx, r_mn, r_lam, c_S0, c_S1, c_S2, c_S3, c_S4, c_V0, c_V1, c_V2, c_V3, c_V4, c_V5, c_Tg, c_T0, c_T1, c_T2, c_I0, c_I1, c_I2, c_I3, c_I4, k_some, k_void, k_ite, e_i, e_z, e_c, e_b, e_a, e_v, g_I, g_O, g_L0, g_L1, g_L2, g_L3, g_L4, l_I, l_J, l_Rr, l_Rn, l_Rq, b_G, isRv_ref, isRv_null, isC1_int, isC1_ref, isC1_null, rfo_ref, rfo_null, kil_int, kil_ref, kil_null, kil_long, kil_none, s_nil, s_cons, lg_0, lg_1, lg_2, lg_3, lg_4, lg_s, ls_0, ls_1, ls_2, ls_3, ls_4, ls_5, ls_6, ls_7, ls_8, S_sI, V_sI, S_sP, V_sP, S_nw, V_nw, S_cI, V_cI, S_cP, V_cP, b2_eq0, b2_01, va_rf_some, va_rf_none, isRv_rf, isC1_rf, kil2_rf, rfo_rf, Nat.reduceAdd, true_or, not_true_eq_false, not_false_eq_true, Bool.false_eq_true, eq_self, or_true, ↓reduceIte, ↓lzI_0, ↓lzI_1, ↓lzI_2, ↓lzI_3, ↓lzI_4, ↓lzI_5, ↓lzI_6, ↓lzI_7, ↓lzI_8, ↓lzI_9, ↓lzI_10, ↓lzI_11, ↓lzI_12, ↓lzR_0, ↓lzR_1, ↓lzR_2, ↓lzR_3, ↓lzR_4, ↓lzR_5, ↓lzR_6, ↓lzR_7, ↓lzR_8, ↓lzR_9, ↓lzR_10, ↓lzR_11, ↓lzR_12, ↓lzN_0, ↓lzN_1, ↓lzN_2, ↓lzN_3, ↓lzN_4, ↓lzN_5, ↓lzN_6, ↓lzN_7, ↓lzN_8, ↓lzN_9, ↓lzN_10, ↓lzN_11, ↓lzN_12, ↓lzQ_0, ↓lzQ_1, ↓lzQ_2, ↓lzQ_3, ↓lzQ_4, ↓lzQ_5, ↓lzQ_6, ↓lzQ_7, ↓lzQ_8, ↓lzQ_9, ↓lzQ_10, ↓lzQ_11, ↓lzQ_12, if_true, if_false, a_ofI1, a_add, g_AL, a_clamp, a_mul, a_ofIm1, a_sub, Nat.mul_zero, Nat.add_zero, Nat.zero_add, Nat.add_sub_cancel, b2_eq1, b2_z, a_eq0, a_eqT, a_eqF, a_ltT, a_ltF, g_N20, g_N21, g_N22, g_N23, g_N24, g_N25, g_N26, g_N27, g_N28, g_N29, g_N40, g_R22, g_R23, g_R24, g_R25, g_R26, g_R27, g_R28, g_R29, g_E24_8, g_E24_9, g_E24_10, g_E24_11, g_E25_5, g_E26_6, g_E27_2, g_E28_12, g_E23_22, g_E29_20, T_sI, P_sI, N_sI, G_sI, T_sP, I_sP, P_sP, N_sP, G_sP, T_nw, I_nw, P_nw, N_nw, G_nw, T_cI, I_cI, P_cI, N_cI, G_cI, T_cP, I_cP, P_cP, N_cP, G_cP, R_eq, R_ne, up_eq, up_ne, t0, t1, t2, t3, t4, t5, t6, t7, t8, t9, t10, t11, t12, t13, t14, p0, p1, p2, p3, p6, p7, p8, p9, p10, p11, p27, p32, p33, p34, u0, e1, hw, e2]
  rfl
theorem x_101 (M : MS h m) (hL : ML (hI h (m + 1)) ls) (d e : Nat) (he : e < 8) : ∃ h', fr [m + 9, m + 10] h h' ∧ cal (d + 4) 101 [.ref m, .int (nI e)] h = some (.inl (some (.int (wearS ls (hI h (m + 1)) e))), h') := by
  obtain ⟨h1, f1, g1, e1⟩ := x_99 M (d + 3) e he
  have hw : hI h1 (m + 1) = hI h (m + 1) := f1.2 _ (by simp)
  have M1 := ss_MS f1.1 M
  obtain ⟨h2, f2, e2⟩ := x_98 M1 d 2 (by omega) (nI 2) (nI 99) ls (by rw [hw]; exact hL)
  rw [tr_e g1, tr_fD] at e2
  refine ⟨h2, fr_tr (fr_sub f1 (by simp)) (fr_sub f2 (by simp)), ?_⟩
  have u0 : hT h m = some (3, 35) := M.1.1
  have M := M1
  obtain ⟨⟨t0, p0, p1, p2, p3, p6, p7, p8, p9, p10, p11, p27, p32, p33, p34⟩, t1, t2, t3, t4, t5, t6, t7, t8, t9, t10, t11, t12, t13, t14⟩ := M
  rw [ke_101]; simp (disch := omega) only [ks_101, r_ic, r_lc, r_gc, r_null, r_iload, r_lload, r_aload, r_istore, r_lstore, r_astore, r_iinc, r_bin, r_un, r_div, r_rem, r_i2l, r_l2i, r_lmul, r_lrem, r_dup, r_dup2, r_pop, r_goto, r_ifeq, r_ifne, r_iflt, r_ifge, r_ifgt, r_ifle, r_ceq, r_cne, r_clt, r_cge, r_cgt, r_cle, r_aeq, r_ane, r_ifnull, r_ifnullN, r_ifnn, r_ifnnN, r_ifnullq, r_ifnnq, r_sw, r_getI, r_getP, r_putI, r_putZ, r_putC, r_putP, r_newo, r_newa, r_alen, r_ald, r_ast, r_bst, r_aald, r_aast, r_gsc, r_gsv, r_slen, r_gvb, r_aastS, r_obj, r_mx, r_mn, r_lam, c_S0, c_S1, c_S2, c_S3, c_S4, c_V0, c_V1, c_V2, c_V3, c_V4, c_V5, c_Tg, c_T0, c_T1, c_T2, c_I0, c_I1, c_I2, c_I3, c_I4, k_some, k_void, k_ite, e_i, e_z, e_c, e_b, e_a, e_v, g_I, g_O, g_L0, g_L1, g_L2, g_L3, g_L4, l_I, l_J, l_Rr, l_Rn, l_Rq, b_G, isRv_ref, isRv_null, isC1_int, isC1_ref, isC1_null, rfo_ref, rfo_null, kil_int, kil_ref, kil_null, kil_long, kil_none, s_nil, s_cons, lg_0, lg_1, lg_2, lg_3, lg_4, lg_s, ls_0, ls_1, ls_2, ls_3, ls_4, ls_5, ls_6, ls_7, ls_8, S_sI, V_sI, S_sP, V_sP, S_nw, V_nw, S_cI, V_cI, S_cP, V_cP, b2_eq0, b2_01, va_rf_some, va_rf_none, isRv_rf, isC1_rf, kil2_rf, rfo_rf, Nat.reduceAdd, true_or, not_true_eq_false, not_false_eq_true, Bool.false_eq_true, eq_self, or_true, ↓reduceIte, ↓lzI_0, ↓lzI_1, ↓lzI_2, ↓lzI_3, ↓lzI_4, ↓lzI_5, ↓lzI_6, ↓lzI_7, ↓lzI_8, ↓lzI_9, ↓lzI_10, ↓lzI_11, ↓lzI_12, ↓lzR_0, ↓lzR_1, ↓lzR_2, ↓lzR_3, ↓lzR_4, ↓lzR_5, ↓lzR_6, ↓lzR_7, ↓lzR_8, ↓lzR_9, ↓lzR_10, ↓lzR_11, ↓lzR_12, ↓lzN_0, ↓lzN_1, ↓lzN_2, ↓lzN_3, ↓lzN_4, ↓lzN_5, ↓lzN_6, ↓lzN_7, ↓lzN_8, ↓lzN_9, ↓lzN_10, ↓lzN_11, ↓lzN_12, ↓lzQ_0, ↓lzQ_1, ↓lzQ_2, ↓lzQ_3, ↓lzQ_4, ↓lzQ_5, ↓lzQ_6, ↓lzQ_7, ↓lzQ_8, ↓lzQ_9, ↓lzQ_10, ↓lzQ_11, ↓lzQ_12, if_true, if_false, a_ofI1, a_add, g_AL, a_clamp, a_mul, a_ofIm1, a_sub, Nat.mul_zero, Nat.add_zero, Nat.zero_add, Nat.add_sub_cancel, b2_eq1, b2_z, a_eq0, a_eqT, a_eqF, a_ltT, a_ltF, g_N20, g_N21, g_N22, g_N23, g_N24, g_N25, g_N26, g_N27, g_N28, g_N29, g_N40, g_R22, g_R23, g_R24, g_R25, g_R26, g_R27, g_R28, g_R29, g_E24_8, g_E24_9, g_E24_10, g_E24_11, g_E25_5, g_E26_6, g_E27_2, g_E28_12, g_E23_22, g_E29_20, T_sI, P_sI, N_sI, G_sI, T_sP, I_sP, P_sP, N_sP, G_sP, T_nw, I_nw, P_nw, N_nw, G_nw, T_cI, I_cI, P_cI, N_cI, G_cI, T_cP, I_cP, P_cP, N_cP, G_cP, R_eq, R_ne, up_eq, up_ne, t0, t1, t2, t3, t4, t5, t6, t7, t8, t9, t10, t11, t12, t13, t14, p0, p1, p2, p3, p6, p7, p8, p9, p10, p11, p27, p32, p33, p34, u0, e1, hw, e2]
  rfl
theorem x_102 (M : MS h m) (hL : ML (hI h (m + 1)) ls) (d j e : Nat) (b : Int32) (hj : j < 12) (he : e < 8) : ∃ h', fr [m + 9, m + 10] h h' ∧ cal (d + 4) 102 [.ref m, .int (nI j), .int (nI e), .int b] h = some (.inl (some (.int (clapS ls (hI h (m + 1)) j e b))), h') := by
  obtain ⟨h1, f1, g1, e1⟩ := x_99 M (d + 3) e he
  have hw : hI h1 (m + 1) = hI h (m + 1) := f1.2 _ (by simp)
  have M1 := ss_MS f1.1 M
  have f2 : fr [m + 10] h1 (sI (sI (sI (sI (sI (sI h1 (m + 10) 1 (nI j)) (m + 10) 2 (hI h (m + 1) (45 + j))) (m + 10) 3 (hI h (m + 1) (57 + j))) (m + 10) 4 (hI h (m + 1) (69 + j))) (m + 10) 5 (hI h (m + 1) (9 + j))) (m + 10) 9 b) := fr_sI (fr_sI (fr_sI (fr_sI (fr_sI (fr_sI fr_refl (by simp)) (by simp)) (by simp)) (by simp)) (by simp)) (by simp)
  have g2 : ∀ k, k < 11 → hI (sI (sI (sI (sI (sI (sI h1 (m + 10) 1 (nI j)) (m + 10) 2 (hI h (m + 1) (45 + j))) (m + 10) 3 (hI h (m + 1) (57 + j))) (m + 10) 4 (hI h (m + 1) (69 + j))) (m + 10) 5 (hI h (m + 1) (9 + j))) (m + 10) 9 b) (m + 10) k = fH (hI h (m + 1)) j e b k := by
    intro k hk
    simp only [R_eq, up, fH]
    have := g1 k hk
    by_cases q1 : k = 1 <;> by_cases q2 : k = 2 <;> by_cases q3 : k = 3 <;> by_cases q4 : k = 4 <;> by_cases q5 : k = 5 <;> by_cases q9 : k = 9 <;> simp_all <;> omega
  generalize hh2 : sI (sI (sI (sI (sI (sI h1 (m + 10) 1 (nI j)) (m + 10) 2 (hI h (m + 1) (45 + j))) (m + 10) 3 (hI h (m + 1) (57 + j))) (m + 10) 4 (hI h (m + 1) (69 + j))) (m + 10) 5 (hI h (m + 1) (9 + j))) (m + 10) 9 b = h2 at f2 g2
  have hw2 : hI h2 (m + 1) = hI h (m + 1) := (f2.2 _ (by simp)).trans hw
  have M2 := ss_MS f2.1 M1
  obtain ⟨h3, f3, e3⟩ := x_98 M2 d 1 (by omega) (nI 100 * hI h (m + 1) (57 + j)) (nI 1000) ls (by rw [hw2]; exact hL)
  rw [tr_e g2, tr_fH] at e3
  refine ⟨h3, fr_tr (fr_sub f1 (by simp)) (fr_tr (fr_sub f2 (by simp)) (fr_sub f3 (by simp))), ?_⟩
  have u0 : hT h m = some (3, 35) := M.1.1
  have M := M1
  obtain ⟨⟨t0, p0, p1, p2, p3, p6, p7, p8, p9, p10, p11, p27, p32, p33, p34⟩, t1, t2, t3, t4, t5, t6, t7, t8, t9, t10, t11, t12, t13, t14⟩ := M
  subst hh2
  rw [ke_102]; simp (disch := omega) only [ks_102, r_ic, r_lc, r_gc, r_null, r_iload, r_lload, r_aload, r_istore, r_lstore, r_astore, r_iinc, r_bin, r_un, r_div, r_rem, r_i2l, r_l2i, r_lmul, r_lrem, r_dup, r_dup2, r_pop, r_goto, r_ifeq, r_ifne, r_iflt, r_ifge, r_ifgt, r_ifle, r_ceq, r_cne, r_clt, r_cge, r_cgt, r_cle, r_aeq, r_ane, r_ifnull, r_ifnullN, r_ifnn, r_ifnnN, r_ifnullq, r_ifnnq, r_sw, r_getI, r_getP, r_putI, r_putZ, r_putC, r_putP, r_newo, r_newa, r_alen, r_ald, r_ast, r_bst, r_aald, r_aast, r_gsc, r_gsv, r_slen, r_gvb, r_aastS, r_obj, r_mx, r_mn, r_lam, c_S0, c_S1, c_S2, c_S3, c_S4, c_V0, c_V1, c_V2, c_V3, c_V4, c_V5, c_Tg, c_T0, c_T1, c_T2, c_I0, c_I1, c_I2, c_I3, c_I4, k_some, k_void, k_ite, e_i, e_z, e_c, e_b, e_a, e_v, g_I, g_O, g_L0, g_L1, g_L2, g_L3, g_L4, l_I, l_J, l_Rr, l_Rn, l_Rq, b_G, isRv_ref, isRv_null, isC1_int, isC1_ref, isC1_null, rfo_ref, rfo_null, kil_int, kil_ref, kil_null, kil_long, kil_none, s_nil, s_cons, lg_0, lg_1, lg_2, lg_3, lg_4, lg_s, ls_0, ls_1, ls_2, ls_3, ls_4, ls_5, ls_6, ls_7, ls_8, S_sI, V_sI, S_sP, V_sP, S_nw, V_nw, S_cI, V_cI, S_cP, V_cP, b2_eq0, b2_01, va_rf_some, va_rf_none, isRv_rf, isC1_rf, kil2_rf, rfo_rf, Nat.reduceAdd, true_or, not_true_eq_false, not_false_eq_true, Bool.false_eq_true, eq_self, or_true, ↓reduceIte, ↓lzI_0, ↓lzI_1, ↓lzI_2, ↓lzI_3, ↓lzI_4, ↓lzI_5, ↓lzI_6, ↓lzI_7, ↓lzI_8, ↓lzI_9, ↓lzI_10, ↓lzI_11, ↓lzI_12, ↓lzR_0, ↓lzR_1, ↓lzR_2, ↓lzR_3, ↓lzR_4, ↓lzR_5, ↓lzR_6, ↓lzR_7, ↓lzR_8, ↓lzR_9, ↓lzR_10, ↓lzR_11, ↓lzR_12, ↓lzN_0, ↓lzN_1, ↓lzN_2, ↓lzN_3, ↓lzN_4, ↓lzN_5, ↓lzN_6, ↓lzN_7, ↓lzN_8, ↓lzN_9, ↓lzN_10, ↓lzN_11, ↓lzN_12, ↓lzQ_0, ↓lzQ_1, ↓lzQ_2, ↓lzQ_3, ↓lzQ_4, ↓lzQ_5, ↓lzQ_6, ↓lzQ_7, ↓lzQ_8, ↓lzQ_9, ↓lzQ_10, ↓lzQ_11, ↓lzQ_12, if_true, if_false, a_ofI1, a_add, g_AL, a_clamp, a_mul, a_ofIm1, a_sub, Nat.mul_zero, Nat.add_zero, Nat.zero_add, Nat.add_sub_cancel, b2_eq1, b2_z, a_eq0, a_eqT, a_eqF, a_ltT, a_ltF, g_N20, g_N21, g_N22, g_N23, g_N24, g_N25, g_N26, g_N27, g_N28, g_N29, g_N40, g_R22, g_R23, g_R24, g_R25, g_R26, g_R27, g_R28, g_R29, g_E24_8, g_E24_9, g_E24_10, g_E24_11, g_E25_5, g_E26_6, g_E27_2, g_E28_12, g_E23_22, g_E29_20, T_sI, P_sI, N_sI, G_sI, T_sP, I_sP, P_sP, N_sP, G_sP, T_nw, I_nw, P_nw, N_nw, G_nw, T_cI, I_cI, P_cI, N_cI, G_cI, T_cP, I_cP, P_cP, N_cP, G_cP, R_eq, R_ne, up_eq, up_ne, t0, t1, t2, t3, t4, t5, t6, t7, t8, t9, t10, t11, t12, t13, t14, p0, p1, p2, p3, p6, p7, p8, p9, p10, p11, p27, p32, p33, p34, u0, e1, hw, e3]
  rfl
end
