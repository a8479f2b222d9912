/-! EncoresModel: claps are drawn, rounds go on till nobody begins -/
set_option maxRecDepth 100000
theorem up_up (f : Nat → Int32) (k : Nat) (v u : Int32) : up (up f k v) k u = up f k u := by
  funext j
  unfold up
  by_cases hj : j = k
  · rw [if_pos hj, if_pos hj]
  · rw [if_neg hj, if_neg hj, if_neg hj]
theorem up_id (f : Nat → Int32) (k : Nat) : up f k (f k) = f := by
  funext j
  unfold up
  by_cases hj : j = k
  · rw [if_pos hj, hj]
  · rw [if_neg hj]
theorem up_sw {f : Nat → Int32} {k l : Nat} {v u : Int32} (h : k ≠ l) : up (up f k v) l u = up (up f l u) k v := by
  funext j
  unfold up
  by_cases hj : j = k
  · rw [if_pos hj, if_neg (fun q => h (hj.symm.trans q)), if_pos hj]
  · rw [if_neg hj, if_neg hj]
/-- who is there: his clap is drawn, or, in thought, 500 -/
def drwS (w : Nat → Int32) (t : Int32) (k : Nat) (z : Int32 × (Nat → Int32)) : Int32 × (Nat → Int32) :=
  if bitP (w 7) k then (if t = nI 0 then (z.1, up z.2 k (nI 500)) else (dr1 z.1, up z.2 k (drv (dr1 z.1) (nI 1000)))) else z
/-- a round: who claps then, and whether somebody began -/
def rnd (ls : List LL) (w dr : Nat → Int32) (e n : Nat) (cl : Int32) : Int32 × Int32 := fo (rndS ls w dr e) n 0 (cl, nI 0)
def rloop (ls : List LL) (w dr : Nat → Int32) (e n : Nat) : Nat → Int32 × Int32 → Option (Int32 × Int32)
  | 0, _ => none
  | f + 1, z => if (rnd ls w dr e n z.1).2 = nI 0 then some ((rnd ls w dr e n z.1).1, z.2) else rloop ls w dr e n f ((rnd ls w dr e n z.1).1, z.2 + nI 1)
section
variable {h : mH} {m : Nat} {ls : List LL} {rs : List RR}
theorem l_114a (M : MS h m) (d n : Nat) (x1 : Int32) (hn : hI h (m + 1) 37 = nI n) (hn2 : n ≤ 12) : ∀ (r k : Nat) (z : Int32 × (Nat → Int32)) (h' : mH), k + r = n → fr [m + 1, m + 11] h h' → hI h' (m + 1) = up (hI h (m + 1)) 5 z.1 → hI h' (m + 11) = z.2 →
    ∃ h2, fr [m + 1, m + 11] h h2 ∧ hI h2 (m + 1) = up (hI h (m + 1)) 5 (fo (drwS (hI h (m + 1)) (hI h m 26)) r k z).1 ∧ hI h2 (m + 11) = (fo (drwS (hI h (m + 1)) (hI h m 26)) r k z).2 ∧
      res (d + 1) 114 (2, [some (.ref m), some (.int x1), some (.int (nI k))], [], h') = res (d + 1) 114 (53, [some (.ref m), some (.int x1), some (.int (nI n))], [], h2) := by
  intro r
  induction r with
  | zero =>
    intro k z h' hk f0 hw hd
    have hn' : hI h' (m + 1) 37 = nI n := by rw [hw, up_ne (by omega)]; exact hn
    have M := ss_MS f0.1 M
    obtain ⟨⟨t0, p0, p1, p2, p3, p6, p7, p8, p9, p10, p11, p27, p32, p33, p34⟩, t1, t2, t3, t4, t5, t6, t7, t8, t9, t10, t11, t12, t13, t14⟩ := M
    refine ⟨h', f0, hw, hd, ?_⟩
    obtain rfl : k = n := by omega
    rw [kh_114_2]; simp (disch := omega) only [ks_114, r_ic, r_lc, r_gc, r_null, r_iload, r_lload, r_aload, r_istore, r_lstore, r_astore, r_iinc, r_bin, r_un, r_div, r_rem, r_i2l, r_l2i, r_lmul, r_lrem, r_dup, r_dup2, r_pop, r_goto, r_ifeq, r_ifne, r_iflt, r_ifge, r_ifgt, r_ifle, r_ceq, r_cne, r_clt, r_cge, r_cgt, r_cle, r_aeq, r_ane, r_ifnull, r_ifnullN, r_ifnn, r_ifnnN, r_ifnullq, r_ifnnq, r_sw, r_getI, r_getP, r_putI, r_putZ, r_putC, r_putP, r_newo, r_newa, r_alen, r_ald, r_ast, r_bst, r_aald, r_aast, r_gsc, r_gsv, r_slen, r_gvb, r_aastS, r_obj, r_mx, r_mn, r_lam, c_S0, c_S1, c_S2, c_S3, c_S4, c_V0, c_V1, c_V2, c_V3, c_V4, c_V5, c_Tg, c_T0, c_T1, c_T2, c_I0, c_I1, c_I2, c_I3, c_I4, k_some, k_void, k_ite, e_i, e_z, e_c, e_b, e_a, e_v, g_I, g_O, g_L0, g_L1, g_L2, g_L3, g_L4, l_I, l_J, l_Rr, l_Rn, l_Rq, b_G, isRv_ref, isRv_null, isC1_int, isC1_ref, isC1_null, rfo_ref, rfo_null, kil_int, kil_ref, kil_null, kil_long, kil_none, s_nil, s_cons, lg_0, lg_1, lg_2, lg_3, lg_4, lg_s, ls_0, ls_1, ls_2, ls_3, ls_4, ls_5, ls_6, ls_7, ls_8, S_sI, V_sI, S_sP, V_sP, S_nw, V_nw, S_cI, V_cI, S_cP, V_cP, b2_eq0, b2_01, va_rf_some, va_rf_none, isRv_rf, isC1_rf, kil2_rf, rfo_rf, Nat.reduceAdd, true_or, not_true_eq_false, not_false_eq_true, Bool.false_eq_true, eq_self, or_true, ↓reduceIte, ↓lzI_0, ↓lzI_1, ↓lzI_2, ↓lzI_3, ↓lzI_4, ↓lzI_5, ↓lzI_6, ↓lzI_7, ↓lzI_8, ↓lzI_9, ↓lzI_10, ↓lzI_11, ↓lzI_12, ↓lzR_0, ↓lzR_1, ↓lzR_2, ↓lzR_3, ↓lzR_4, ↓lzR_5, ↓lzR_6, ↓lzR_7, ↓lzR_8, ↓lzR_9, ↓lzR_10, ↓lzR_11, ↓lzR_12, ↓lzN_0, ↓lzN_1, ↓lzN_2, ↓lzN_3, ↓lzN_4, ↓lzN_5, ↓lzN_6, ↓lzN_7, ↓lzN_8, ↓lzN_9, ↓lzN_10, ↓lzN_11, ↓lzN_12, ↓lzQ_0, ↓lzQ_1, ↓lzQ_2, ↓lzQ_3, ↓lzQ_4, ↓lzQ_5, ↓lzQ_6, ↓lzQ_7, ↓lzQ_8, ↓lzQ_9, ↓lzQ_10, ↓lzQ_11, ↓lzQ_12, if_true, if_false, a_ofI1, a_add, g_AL, a_clamp, a_mul, a_ofIm1, a_sub, Nat.mul_zero, Nat.add_zero, Nat.zero_add, Nat.add_sub_cancel, b2_eq1, b2_z, a_eq0, a_eqT, a_eqF, a_ltT, a_ltF, g_N20, g_N21, g_N22, g_N23, g_N24, g_N25, g_N26, g_N27, g_N28, g_N29, g_N40, g_R22, g_R23, g_R24, g_R25, g_R26, g_R27, g_R28, g_R29, g_E24_8, g_E24_9, g_E24_10, g_E24_11, g_E25_5, g_E26_6, g_E27_2, g_E28_12, g_E23_22, g_E29_20, T_sI, P_sI, N_sI, G_sI, T_sP, I_sP, P_sP, N_sP, G_sP, T_nw, I_nw, P_nw, N_nw, G_nw, T_cI, I_cI, P_cI, N_cI, G_cI, T_cP, I_cP, P_cP, N_cP, G_cP, R_eq, R_ne, up_eq, up_ne, t0, t1, t2, t3, t4, t5, t6, t7, t8, t9, t10, t11, t12, t13, t14, p0, p1, p2, p3, p6, p7, p8, p9, p10, p11, p27, p32, p33, p34, hn']
  | succ r ih =>
    intro k z h' hk f0 hw hd
    have hn' : hI h' (m + 1) 37 = nI n := by rw [hw, up_ne (by omega)]; exact hn
    have h7 : hI h' (m + 1) 7 = hI h (m + 1) 7 := by rw [hw, up_ne (by omega)]
    have h5 : hI h' (m + 1) 5 = z.1 := by rw [hw, up_eq]
    have hm : hI h' m = hI h m := f0.2 _ (by simp)
    have M1 := ss_MS f0.1 M
    have e47 := fun d => x_47 M1 d (nI k)
    rw [h7] at e47
    have e53 := fun d => x_53 M1 d 1000 (by omega) (by omega)
    rw [h5] at e53
    obtain ⟨z1, z2⟩ := z
    have M := M1
    obtain ⟨⟨t0, p0, p1, p2, p3, p6, p7, p8, p9, p10, p11, p27, p32, p33, p34⟩, t1, t2, t3, t4, t5, t6, t7, t8, t9, t10, t11, t12, t13, t14⟩ := M
    by_cases c1 : bitP (hI h (m + 1) 7) k
    · by_cases c2 : hI h m 26 = nI 0
      · obtain ⟨h2, i1, i2, i3, i4⟩ := ih (k + 1) (z1, up z2 k (nI 500)) (sI h' (m + 11) k (nI 500)) (by omega) (fr_sI f0 (by simp)) (by rw [R_ne (by omega)]; exact hw) (by rw [R_eq, hd])
        have e : fo (drwS (hI h (m + 1)) (hI h m 26)) (r + 1) k (z1, z2) = fo (drwS (hI h (m + 1)) (hI h m 26)) r (k + 1) (z1, up z2 k (nI 500)) := by
          rw [fo_s]
          show fo _ r (k + 1) (if bitP (hI h (m + 1) 7) k then (if hI h m 26 = nI 0 then _ else _) else _) = _
          rw [if_pos c1, if_pos c2]
        rw [← e] at i2 i3
        refine ⟨h2, i1, i2, i3, ?_⟩
        rw [kh_114_2]; simp (disch := omega) only [ks_114, r_ic, r_lc, r_gc, r_null, r_iload, r_lload, r_aload, r_istore, r_lstore, r_astore, r_iinc, r_bin, r_un, r_div, r_rem, r_i2l, r_l2i, r_lmul, r_lrem, r_dup, r_dup2, r_pop, r_goto, r_ifeq, r_ifne, r_iflt, r_ifge, r_ifgt, r_ifle, r_ceq, r_cne, r_clt, r_cge, r_cgt, r_cle, r_aeq, r_ane, r_ifnull, r_ifnullN, r_ifnn, r_ifnnN, r_ifnullq, r_ifnnq, r_sw, r_getI, r_getP, r_putI, r_putZ, r_putC, r_putP, r_newo, r_newa, r_alen, r_ald, r_ast, r_bst, r_aald, r_aast, r_gsc, r_gsv, r_slen, r_gvb, r_aastS, r_obj, r_mx, r_mn, r_lam, c_S0, c_S1, c_S2, c_S3, c_S4, c_V0, c_V1, c_V2, c_V3, c_V4, c_V5, c_Tg, c_T0, c_T1, c_T2, c_I0, c_I1, c_I2, c_I3, c_I4, k_some, k_void, k_ite, e_i, e_z, e_c, e_b, e_a, e_v, g_I, g_O, g_L0, g_L1, g_L2, g_L3, g_L4, l_I, l_J, l_Rr, l_Rn, l_Rq, b_G, isRv_ref, isRv_null, isC1_int, isC1_ref, isC1_null, rfo_ref, rfo_null, kil_int, kil_ref, kil_null, kil_long, kil_none, s_nil, s_cons, lg_0, lg_1, lg_2, lg_3, lg_4, lg_s, ls_0, ls_1, ls_2, ls_3, ls_4, ls_5, ls_6, ls_7, ls_8, S_sI, V_sI, S_sP, V_sP, S_nw, V_nw, S_cI, V_cI, S_cP, V_cP, b2_eq0, b2_01, va_rf_some, va_rf_none, isRv_rf, isC1_rf, kil2_rf, rfo_rf, Nat.reduceAdd, true_or, not_true_eq_false, not_false_eq_true, Bool.false_eq_true, eq_self, or_true, ↓reduceIte, ↓lzI_0, ↓lzI_1, ↓lzI_2, ↓lzI_3, ↓lzI_4, ↓lzI_5, ↓lzI_6, ↓lzI_7, ↓lzI_8, ↓lzI_9, ↓lzI_10, ↓lzI_11, ↓lzI_12, ↓lzR_0, ↓lzR_1, ↓lzR_2, ↓lzR_3, ↓lzR_4, ↓lzR_5, ↓lzR_6, ↓lzR_7, ↓lzR_8, ↓lzR_9, ↓lzR_10, ↓lzR_11, ↓lzR_12, ↓lzN_0, ↓lzN_1, ↓lzN_2, ↓lzN_3, ↓lzN_4, ↓lzN_5, ↓lzN_6, ↓lzN_7, ↓lzN_8, ↓lzN_9, ↓lzN_10, ↓lzN_11, ↓lzN_12, ↓lzQ_0, ↓lzQ_1, ↓lzQ_2, ↓lzQ_3, ↓lzQ_4, ↓lzQ_5, ↓lzQ_6, ↓lzQ_7, ↓lzQ_8, ↓lzQ_9, ↓lzQ_10, ↓lzQ_11, ↓lzQ_12, if_true, if_false, a_ofI1, a_add, g_AL, a_clamp, a_mul, a_ofIm1, a_sub, Nat.mul_zero, Nat.add_zero, Nat.zero_add, Nat.add_sub_cancel, b2_eq1, b2_z, a_eq0, a_eqT, a_eqF, a_ltT, a_ltF, g_N20, g_N21, g_N22, g_N23, g_N24, g_N25, g_N26, g_N27, g_N28, g_N29, g_N40, g_R22, g_R23, g_R24, g_R25, g_R26, g_R27, g_R28, g_R29, g_E24_8, g_E24_9, g_E24_10, g_E24_11, g_E25_5, g_E26_6, g_E27_2, g_E28_12, g_E23_22, g_E29_20, T_sI, P_sI, N_sI, G_sI, T_sP, I_sP, P_sP, N_sP, G_sP, T_nw, I_nw, P_nw, N_nw, G_nw, T_cI, I_cI, P_cI, N_cI, G_cI, T_cP, I_cP, P_cP, N_cP, G_cP, R_eq, R_ne, up_eq, up_ne, t0, t1, t2, t3, t4, t5, t6, t7, t8, t9, t10, t11, t12, t13, t14, p0, p1, p2, p3, p6, p7, p8, p9, p10, p11, p27, p32, p33, p34, hn', e47, c1, hm, c2]
        exact i4
      · obtain ⟨h2, i1, i2, i3, i4⟩ := ih (k + 1) (dr1 z1, up z2 k (drv (dr1 z1) (nI 1000))) (sI (sI h' (m + 1) 5 (dr1 z1)) (m + 11) k (drv (dr1 z1) (nI 1000))) (by omega) (fr_sI (fr_sI f0 (by simp)) (by simp)) (by rw [R_ne (by omega), R_eq, hw, up_up]) (by rw [R_eq, R_ne (by omega), hd])
        have e : fo (drwS (hI h (m + 1)) (hI h m 26)) (r + 1) k (z1, z2) = fo (drwS (hI h (m + 1)) (hI h m 26)) r (k + 1) (dr1 z1, up z2 k (drv (dr1 z1) (nI 1000))) := by
          rw [fo_s]
          show fo _ r (k + 1) (if bitP (hI h (m + 1) 7) k then (if hI h m 26 = nI 0 then _ else _) else _) = _
          rw [if_pos c1, if_neg c2]
        rw [← e] at i2 i3
        refine ⟨h2, i1, i2, i3, ?_⟩
        rw [kh_114_2]; simp (disch := omega) only [ks_114, r_ic, r_lc, r_gc, r_null, r_iload, r_lload, r_aload, r_istore, r_lstore, r_astore, r_iinc, r_bin, r_un, r_div, r_rem, r_i2l, r_l2i, r_lmul, r_lrem, r_dup, r_dup2, r_pop, r_goto, r_ifeq, r_ifne, r_iflt, r_ifge, r_ifgt, r_ifle, r_ceq, r_cne, r_clt, r_cge, r_cgt, r_cle, r_aeq, r_ane, r_ifnull, r_ifnullN, r_ifnn, r_ifnnN, r_ifnullq, r_ifnnq, r_sw, r_getI, r_getP, r_putI, r_putZ, r_putC, r_putP, r_newo, r_newa, r_alen, r_ald, r_ast, r_bst, r_aald, r_aast, r_gsc, r_gsv, r_slen, r_gvb, r_aastS, r_obj, r_mx, r_mn, r_lam, c_S0, c_S1, c_S2, c_S3, c_S4, c_V0, c_V1, c_V2, c_V3, c_V4, c_V5, c_Tg, c_T0, c_T1, c_T2, c_I0, c_I1, c_I2, c_I3, c_I4, k_some, k_void, k_ite, e_i, e_z, e_c, e_b, e_a, e_v, g_I, g_O, g_L0, g_L1, g_L2, g_L3, g_L4, l_I, l_J, l_Rr, l_Rn, l_Rq, b_G, isRv_ref, isRv_null, isC1_int, isC1_ref, isC1_null, rfo_ref, rfo_null, kil_int, kil_ref, kil_null, kil_long, kil_none, s_nil, s_cons, lg_0, lg_1, lg_2, lg_3, lg_4, lg_s, ls_0, ls_1, ls_2, ls_3, ls_4, ls_5, ls_6, ls_7, ls_8, S_sI, V_sI, S_sP, V_sP, S_nw, V_nw, S_cI, V_cI, S_cP, V_cP, b2_eq0, b2_01, va_rf_some, va_rf_none, isRv_rf, isC1_rf, kil2_rf, rfo_rf, Nat.reduceAdd, true_or, not_true_eq_false, not_false_eq_true, Bool.false_eq_true, eq_self, or_true, ↓reduceIte, ↓lzI_0, ↓lzI_1, ↓lzI_2, ↓lzI_3, ↓lzI_4, ↓lzI_5, ↓lzI_6, ↓lzI_7, ↓lzI_8, ↓lzI_9, ↓lzI_10, ↓lzI_11, ↓lzI_12, ↓lzR_0, ↓lzR_1, ↓lzR_2, ↓lzR_3, ↓lzR_4, ↓lzR_5, ↓lzR_6, ↓lzR_7, ↓lzR_8, ↓lzR_9, ↓lzR_10, ↓lzR_11, ↓lzR_12, ↓lzN_0, ↓lzN_1, ↓lzN_2, ↓lzN_3, ↓lzN_4, ↓lzN_5, ↓lzN_6, ↓lzN_7, ↓lzN_8, ↓lzN_9, ↓lzN_10, ↓lzN_11, ↓lzN_12, ↓lzQ_0, ↓lzQ_1, ↓lzQ_2, ↓lzQ_3, ↓lzQ_4, ↓lzQ_5, ↓lzQ_6, ↓lzQ_7, ↓lzQ_8, ↓lzQ_9, ↓lzQ_10, ↓lzQ_11, ↓lzQ_12, if_true, if_false, a_ofI1, a_add, g_AL, a_clamp, a_mul, a_ofIm1, a_sub, Nat.mul_zero, Nat.add_zero, Nat.zero_add, Nat.add_sub_cancel, b2_eq1, b2_z, a_eq0, a_eqT, a_eqF, a_ltT, a_ltF, g_N20, g_N21, g_N22, g_N23, g_N24, g_N25, g_N26, g_N27, g_N28, g_N29, g_N40, g_R22, g_R23, g_R24, g_R25, g_R26, g_R27, g_R28, g_R29, g_E24_8, g_E24_9, g_E24_10, g_E24_11, g_E25_5, g_E26_6, g_E27_2, g_E28_12, g_E23_22, g_E29_20, T_sI, P_sI, N_sI, G_sI, T_sP, I_sP, P_sP, N_sP, G_sP, T_nw, I_nw, P_nw, N_nw, G_nw, T_cI, I_cI, P_cI, N_cI, G_cI, T_cP, I_cP, P_cP, N_cP, G_cP, R_eq, R_ne, up_eq, up_ne, t0, t1, t2, t3, t4, t5, t6, t7, t8, t9, t10, t11, t12, t13, t14, p0, p1, p2, p3, p6, p7, p8, p9, p10, p11, p27, p32, p33, p34, hn', e47, c1, hm, c2, e53]
        exact i4
    · obtain ⟨h2, i1, i2, i3, i4⟩ := ih (k + 1) (z1, z2) h' (by omega) f0 hw hd
      have e : fo (drwS (hI h (m + 1)) (hI h m 26)) (r + 1) k (z1, z2) = fo (drwS (hI h (m + 1)) (hI h m 26)) r (k + 1) (z1, z2) := by
        rw [fo_s]
        show fo _ r (k + 1) (if bitP (hI h (m + 1) 7) k then (if hI h m 26 = nI 0 then _ else _) else _) = _
        rw [if_neg c1]
      rw [← e] at i2 i3
      refine ⟨h2, i1, i2, i3, ?_⟩
      rw [kh_114_2]; simp (disch := omega) only [ks_114, r_ic, r_lc, r_gc, r_null, r_iload, r_lload, r_aload, r_istore, r_lstore, r_astore, r_iinc, r_bin, r_un, r_div, r_rem, r_i2l, r_l2i, r_lmul, r_lrem, r_dup, r_dup2, r_pop, r_goto, r_ifeq, r_ifne, r_iflt, r_ifge, r_ifgt, r_ifle, r_ceq, r_cne, r_clt, r_cge, r_cgt, r_cle, r_aeq, r_ane, r_ifnull, r_ifnullN, r_ifnn, r_ifnnN, r_ifnullq, r_ifnnq, r_sw, r_getI, r_getP, r_putI, r_putZ, r_putC, r_putP, r_newo, r_newa, r_alen, r_ald, r_ast, r_bst, r_aald, r_aast, r_gsc, r_gsv, r_slen, r_gvb, r_aastS, r_obj, r_mx, r_mn, r_lam, c_S0, c_S1, c_S2, c_S3, c_S4, c_V0, c_V1, c_V2, c_V3, c_V4, c_V5, c_Tg, c_T0, c_T1, c_T2, c_I0, c_I1, c_I2, c_I3, c_I4, k_some, k_void, k_ite, e_i, e_z, e_c, e_b, e_a, e_v, g_I, g_O, g_L0, g_L1, g_L2, g_L3, g_L4, l_I, l_J, l_Rr, l_Rn, l_Rq, b_G, isRv_ref, isRv_null, isC1_int, isC1_ref, isC1_null, rfo_ref, rfo_null, kil_int, kil_ref, kil_null, kil_long, kil_none, s_nil, s_cons, lg_0, lg_1, lg_2, lg_3, lg_4, lg_s, ls_0, ls_1, ls_2, ls_3, ls_4, ls_5, ls_6, ls_7, ls_8, S_sI, V_sI, S_sP, V_sP, S_nw, V_nw, S_cI, V_cI, S_cP, V_cP, b2_eq0, b2_01, va_rf_some, va_rf_none, isRv_rf, isC1_rf, kil2_rf, rfo_rf, Nat.reduceAdd, true_or, not_true_eq_false, not_false_eq_true, Bool.false_eq_true, eq_self, or_true, ↓reduceIte, ↓lzI_0, ↓lzI_1, ↓lzI_2, ↓lzI_3, ↓lzI_4, ↓lzI_5, ↓lzI_6, ↓lzI_7, ↓lzI_8, ↓lzI_9, ↓lzI_10, ↓lzI_11, ↓lzI_12, ↓lzR_0, ↓lzR_1, ↓lzR_2, ↓lzR_3, ↓lzR_4, ↓lzR_5, ↓lzR_6, ↓lzR_7, ↓lzR_8, ↓lzR_9, ↓lzR_10, ↓lzR_11, ↓lzR_12, ↓lzN_0, ↓lzN_1, ↓lzN_2, ↓lzN_3, ↓lzN_4, ↓lzN_5, ↓lzN_6, ↓lzN_7, ↓lzN_8, ↓lzN_9, ↓lzN_10, ↓lzN_11, ↓lzN_12, ↓lzQ_0, ↓lzQ_1, ↓lzQ_2, ↓lzQ_3, ↓lzQ_4, ↓lzQ_5, ↓lzQ_6, ↓lzQ_7, ↓lzQ_8, ↓lzQ_9, ↓lzQ_10, ↓lzQ_11, ↓lzQ_12, if_true, if_false, a_ofI1, a_add, g_AL, a_clamp, a_mul, a_ofIm1, a_sub, Nat.mul_zero, Nat.add_zero, Nat.zero_add, Nat.add_sub_cancel, b2_eq1, b2_z, a_eq0, a_eqT, a_eqF, a_ltT, a_ltF, g_N20, g_N21, g_N22, g_N23, g_N24, g_N25, g_N26, g_N27, g_N28, g_N29, g_N40, g_R22, g_R23, g_R24, g_R25, g_R26, g_R27, g_R28, g_R29, g_E24_8, g_E24_9, g_E24_10, g_E24_11, g_E25_5, g_E26_6, g_E27_2, g_E28_12, g_E23_22, g_E29_20, T_sI, P_sI, N_sI, G_sI, T_sP, I_sP, P_sP, N_sP, G_sP, T_nw, I_nw, P_nw, N_nw, G_nw, T_cI, I_cI, P_cI, N_cI, G_cI, T_cP, I_cP, P_cP, N_cP, G_cP, R_eq, R_ne, up_eq, up_ne, t0, t1, t2, t3, t4, t5, t6, t7, t8, t9, t10, t11, t12, t13, t14, p0, p1, p2, p3, p6, p7, p8, p9, p10, p11, p27, p32, p33, p34, hn', e47, c1]
      exact i4
theorem l_114b (M : MS h m) (hL : ML (hI h (m + 1)) ls) (d n e : Nat) (x2 : Option Value) (he : e < 8) (hn : hI h (m + 1) 37 = nI n) (hn2 : n ≤ 12) : ∀ (f : Nat) (z z' : Int32 × Int32) (h' : mH), rloop ls (hI h (m + 1)) (hI h (m + 11)) e n f z = some z' → fr [m, m + 9, m + 10] h h' → hI h' m = up (up (hI h m) 28 z.1) 29 z.2 →
    ∃ h2, fr [m, m + 9, m + 10] h h2 ∧ hI h2 m = up (up (hI h m) 28 z'.1) 29 z'.2 ∧ res (d + 6) 114 (63, [some (.ref m), some (.int (nI e)), x2], [], h') = res (d + 6) 114 (84, [some (.ref m), some (.int (nI e)), x2], [], h2) := by
  intro f
  induction f with
  | zero => intro z z' h' hz; cases hz
  | succ f ih =>
    intro z z' h' hz f0 hm
    have hw : hI h' (m + 1) = hI h (m + 1) := f0.2 _ (by simp)
    have hdr : hI h' (m + 11) = hI h (m + 11) := f0.2 _ (by simp)
    have M1 := ss_MS f0.1 M
    obtain ⟨h1, f1, g1, e1⟩ := x_112 M1 (by rw [hw]; exact hL) d n e he (by rw [hw]; exact hn) hn2
    have h28 : hI h' m 28 = z.1 := by rw [hm, up_ne (by omega), up_eq]
    rw [hw, hdr, h28] at g1 e1
    have hz : (if (rnd ls (hI h (m + 1)) (hI h (m + 11)) e n z.1).2 = nI 0 then some ((rnd ls (hI h (m + 1)) (hI h (m + 11)) e n z.1).1, z.2) else rloop ls (hI h (m + 1)) (hI h (m + 11)) e n f ((rnd ls (hI h (m + 1)) (hI h (m + 11)) e n z.1).1, z.2 + nI 1)) = some z' := hz
    have g1 : hI h1 m = up (up (up (hI h m) 28 z.1) 29 z.2) 28 (rnd ls (hI h (m + 1)) (hI h (m + 11)) e n z.1).1 := by rw [← hm]; exact g1
    have g1 : hI h1 m = up (up (hI h m) 28 (rnd ls (hI h (m + 1)) (hI h (m + 11)) e n z.1).1) 29 z.2 := by rw [g1, up_sw (k := 29) (l := 28) (by omega), up_up]
    have e1 : cal (d + 5) 112 [.ref m, .int (nI e)] h' = some (.inl (some (.int (rnd ls (hI h (m + 1)) (hI h (m + 11)) e n z.1).2)), h1) := e1
    generalize rnd ls (hI h (m + 1)) (hI h (m + 11)) e n z.1 = q at hz g1 e1
    have f2 : fr [m, m + 9, m + 10] h h1 := fr_tr f0 f1
    have M2 := ss_MS f1.1 M1
    have u0 : hT h' m = some (3, 35) := M1.1.1
    have M := M2
    obtain ⟨⟨t0, p0, p1, p2, p3, p6, p7, p8, p9, p10, p11, p27, p32, p33, p34⟩, t1, t2, t3, t4, t5, t6, t7, t8, t9, t10, t11, t12, t13, t14⟩ := M
    by_cases c : q.2 = nI 0
    · rw [if_pos c] at hz
      cases hz
      refine ⟨h1, f2, g1, ?_⟩
      rw [kh_114_63]; simp (disch := omega) only [ks_114, r_ic, r_lc, r_gc, r_null, r_iload, r_lload, r_aload, r_istore, r_lstore, r_astore, r_iinc, r_bin, r_un, r_div, r_rem, r_i2l, r_l2i, r_lmul, r_lrem, r_dup, r_dup2, r_pop, r_goto, r_ifeq, r_ifne, r_iflt, r_ifge, r_ifgt, r_ifle, r_ceq, r_cne, r_clt, r_cge, r_cgt, r_cle, r_aeq, r_ane, r_ifnull, r_ifnullN, r_ifnn, r_ifnnN, r_ifnullq, r_ifnnq, r_sw, r_getI, r_getP, r_putI, r_putZ, r_putC, r_putP, r_newo, r_newa, r_alen, r_ald, r_ast, r_bst, r_aald, r_aast, r_gsc, r_gsv, r_slen, r_gvb, r_aastS, r_obj, r_mx, r_mn, r_lam, c_S0, c_S1, c_S2, c_S3, c_S4, c_V0, c_V1, c_V2, c_V3, c_V4, c_V5, c_Tg, c_T0, c_T1, c_T2, c_I0, c_I1, c_I2, c_I3, c_I4, k_some, k_void, k_ite, e_i, e_z, e_c, e_b, e_a, e_v, g_I, g_O, g_L0, g_L1, g_L2, g_L3, g_L4, l_I, l_J, l_Rr, l_Rn, l_Rq, b_G, isRv_ref, isRv_null, isC1_int, isC1_ref, isC1_null, rfo_ref, rfo_null, kil_int, kil_ref, kil_null, kil_long, kil_none, s_nil, s_cons, lg_0, lg_1, lg_2, lg_3, lg_4, lg_s, ls_0, ls_1, ls_2, ls_3, ls_4, ls_5, ls_6, ls_7, ls_8, S_sI, V_sI, S_sP, V_sP, S_nw, V_nw, S_cI, V_cI, S_cP, V_cP, b2_eq0, b2_01, va_rf_some, va_rf_none, isRv_rf, isC1_rf, kil2_rf, rfo_rf, Nat.reduceAdd, true_or, not_true_eq_false, not_false_eq_true, Bool.false_eq_true, eq_self, or_true, ↓reduceIte, ↓lzI_0, ↓lzI_1, ↓lzI_2, ↓lzI_3, ↓lzI_4, ↓lzI_5, ↓lzI_6, ↓lzI_7, ↓lzI_8, ↓lzI_9, ↓lzI_10, ↓lzI_11, ↓lzI_12, ↓lzR_0, ↓lzR_1, ↓lzR_2, ↓lzR_3, ↓lzR_4, ↓lzR_5, ↓lzR_6, ↓lzR_7, ↓lzR_8, ↓lzR_9, ↓lzR_10, ↓lzR_11, ↓lzR_12, ↓lzN_0, ↓lzN_1, ↓lzN_2, ↓lzN_3, ↓lzN_4, ↓lzN_5, ↓lzN_6, ↓lzN_7, ↓lzN_8, ↓lzN_9, ↓lzN_10, ↓lzN_11, ↓lzN_12, ↓lzQ_0, ↓lzQ_1, ↓lzQ_2, ↓lzQ_3, ↓lzQ_4, ↓lzQ_5, ↓lzQ_6, ↓lzQ_7, ↓lzQ_8, ↓lzQ_9, ↓lzQ_10, ↓lzQ_11, ↓lzQ_12, if_true, if_false, a_ofI1, a_add, g_AL, a_clamp, a_mul, a_ofIm1, a_sub, Nat.mul_zero, Nat.add_zero, Nat.zero_add, Nat.add_sub_cancel, b2_eq1, b2_z, a_eq0, a_eqT, a_eqF, a_ltT, a_ltF, g_N20, g_N21, g_N22, g_N23, g_N24, g_N25, g_N26, g_N27, g_N28, g_N29, g_N40, g_R22, g_R23, g_R24, g_R25, g_R26, g_R27, g_R28, g_R29, g_E24_8, g_E24_9, g_E24_10, g_E24_11, g_E25_5, g_E26_6, g_E27_2, g_E28_12, g_E23_22, g_E29_20, T_sI, P_sI, N_sI, G_sI, T_sP, I_sP, P_sP, N_sP, G_sP, T_nw, I_nw, P_nw, N_nw, G_nw, T_cI, I_cI, P_cI, N_cI, G_cI, T_cP, I_cP, P_cP, N_cP, G_cP, R_eq, R_ne, up_eq, up_ne, t0, t1, t2, t3, t4, t5, t6, t7, t8, t9, t10, t11, t12, t13, t14, p0, p1, p2, p3, p6, p7, p8, p9, p10, p11, p27, p32, p33, p34, u0, e1, c]
    · rw [if_neg c] at hz
      have h29 : hI h1 m 29 = z.2 := by rw [g1, up_eq]
      obtain ⟨h2, i1, i2, i3⟩ := ih _ z' (sI h1 m 29 (z.2 + nI 1)) hz (fr_sI f2 (by simp)) (by rw [R_eq, g1, up_up])
      refine ⟨h2, i1, i2, ?_⟩
      rw [kh_114_63]; simp (disch := omega) only [ks_114, r_ic, r_lc, r_gc, r_null, r_iload, r_lload, r_aload, r_istore, r_lstore, r_astore, r_iinc, r_bin, r_un, r_div, r_rem, r_i2l, r_l2i, r_lmul, r_lrem, r_dup, r_dup2, r_pop, r_goto, r_ifeq, r_ifne, r_iflt, r_ifge, r_ifgt, r_ifle, r_ceq, r_cne, r_clt, r_cge, r_cgt, r_cle, r_aeq, r_ane, r_ifnull, r_ifnullN, r_ifnn, r_ifnnN, r_ifnullq, r_ifnnq, r_sw, r_getI, r_getP, r_putI, r_putZ, r_putC, r_putP, r_newo, r_newa, r_alen, r_ald, r_ast, r_bst, r_aald, r_aast, r_gsc, r_gsv, r_slen, r_gvb, r_aastS, r_obj, r_mx, r_mn, r_lam, c_S0, c_S1, c_S2, c_S3, c_S4, c_V0, c_V1, c_V2, c_V3, c_V4, c_V5, c_Tg, c_T0, c_T1, c_T2, c_I0, c_I1, c_I2, c_I3, c_I4, k_some, k_void, k_ite, e_i, e_z, e_c, e_b, e_a, e_v, g_I, g_O, g_L0, g_L1, g_L2, g_L3, g_L4, l_I, l_J, l_Rr, l_Rn, l_Rq, b_G, isRv_ref, isRv_null, isC1_int, isC1_ref, isC1_null, rfo_ref, rfo_null, kil_int, kil_ref, kil_null, kil_long, kil_none, s_nil, s_cons, lg_0, lg_1, lg_2, lg_3, lg_4, lg_s, ls_0, ls_1, ls_2, ls_3, ls_4, ls_5, ls_6, ls_7, ls_8, S_sI, V_sI, S_sP, V_sP, S_nw, V_nw, S_cI, V_cI, S_cP, V_cP, b2_eq0, b2_01, va_rf_some, va_rf_none, isRv_rf, isC1_rf, kil2_rf, rfo_rf, Nat.reduceAdd, true_or, not_true_eq_false, not_false_eq_true, Bool.false_eq_true, eq_self, or_true, ↓reduceIte, ↓lzI_0, ↓lzI_1, ↓lzI_2, ↓lzI_3, ↓lzI_4, ↓lzI_5, ↓lzI_6, ↓lzI_7, ↓lzI_8, ↓lzI_9, ↓lzI_10, ↓lzI_11, ↓lzI_12, ↓lzR_0, ↓lzR_1, ↓lzR_2, ↓lzR_3, ↓lzR_4, ↓lzR_5, ↓lzR_6, ↓lzR_7, ↓lzR_8, ↓lzR_9, ↓lzR_10, ↓lzR_11, ↓lzR_12, ↓lzN_0, ↓lzN_1, ↓lzN_2, ↓lzN_3, ↓lzN_4, ↓lzN_5, ↓lzN_6, ↓lzN_7, ↓lzN_8, ↓lzN_9, ↓lzN_10, ↓lzN_11, ↓lzN_12, ↓lzQ_0, ↓lzQ_1, ↓lzQ_2, ↓lzQ_3, ↓lzQ_4, ↓lzQ_5, ↓lzQ_6, ↓lzQ_7, ↓lzQ_8, ↓lzQ_9, ↓lzQ_10, ↓lzQ_11, ↓lzQ_12, if_true, if_false, a_ofI1, a_add, g_AL, a_clamp, a_mul, a_ofIm1, a_sub, Nat.mul_zero, Nat.add_zero, Nat.zero_add, Nat.add_sub_cancel, b2_eq1, b2_z, a_eq0, a_eqT, a_eqF, a_ltT, a_ltF, g_N20, g_N21, g_N22, g_N23, g_N24, g_N25, g_N26, g_N27, g_N28, g_N29, g_N40, g_R22, g_R23, g_R24, g_R25, g_R26, g_R27, g_R28, g_R29, g_E24_8, g_E24_9, g_E24_10, g_E24_11, g_E25_5, g_E26_6, g_E27_2, g_E28_12, g_E23_22, g_E29_20, T_sI, P_sI, N_sI, G_sI, T_sP, I_sP, P_sP, N_sP, G_sP, T_nw, I_nw, P_nw, N_nw, G_nw, T_cI, I_cI, P_cI, N_cI, G_cI, T_cP, I_cP, P_cP, N_cP, G_cP, R_eq, R_ne, up_eq, up_ne, t0, t1, t2, t3, t4, t5, t6, t7, t8, t9, t10, t11, t12, t13, t14, p0, p1, p2, p3, p6, p7, p8, p9, p10, p11, p27, p32, p33, p34, u0, e1, c, h29]
      exact i3
end
