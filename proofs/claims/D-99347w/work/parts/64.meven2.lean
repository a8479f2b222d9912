/-! EncoresModel.anEvening: its loop -/
set_option maxRecDepth 100000
/-- what a doing leaves of the row -/
theorem doesR_keep {ls : List LL} {rs : List RR} {t : Int32} {n e : Nat} (he : e < 8) : ∀ (k : Nat) (w dr : Nat → Int32) (x : Int32) (q : Int32 × Int32) (w' dr' : Nat → Int32), doesR ls rs t n e k w dr x q w' dr' → ∀ j, 37 ≤ j → j < 223 ∨ 823 ≤ j → w' j = w j := by
  have one : ∀ (w dr : Nat → Int32) (v x : Int32) (q : Int32 × Int32) (w' dr' : Nat → Int32), oneR ls rs t n e w dr v x q w' dr' → ∀ j, 37 ≤ j → j < 223 ∨ 823 ≤ j → w' j = w j := by
    intro w dr v x q w' dr' h j hj hj2
    obtain ⟨f, b, h1, h2, h3, h4, h5⟩ := h
    obtain ⟨k1, -, -⟩ := endP_keep h3 (by rw [up_ne (by omega)]; exact h2) h4
    rw [k1 j (by omega) (by omega) hj2, up_ne (by omega), begS_ne ls w e he (by omega) (by omega) (by omega) (by omega) (by omega)]
  intro k
  induction k with
  | zero => intro w dr x q w' dr' h; exact h.elim
  | succ k ih =>
    intro w dr x q w' dr' h j hj hj2
    rcases h with ⟨h, -⟩ | ⟨x1, q1, w1, d1, h, hk⟩
    · exact one _ _ _ _ _ _ _ h j hj hj2
    · exact (ih _ _ _ _ _ _ hk j hj hj2).trans (one _ _ _ _ _ _ _ h j hj hj2)
theorem MW_0 {ls : List LL} {rs : List RR} {n : Nat} {w : Nat → Int32} {v : Int32} {k : Nat} (hk : k < 6) (W : MW ls rs n w) : MW ls rs n (up w k v) := by
  obtain ⟨h1, h2, h3, h4, b, h5, h6⟩ := W
  exact ⟨ML_w (fun j hj => up_ne (by omega)) h1, MR_w (fun j hj => up_ne (by omega)) h2, by rw [up_ne (by omega)]; exact h3, h4, b, h5, by rw [up_ne (by omega)]; exact h6⟩
section
variable {ls : List LL} {rs : List RR} {ts0 : List TT}
theorem l_120 (d n : Nat) (hA : lastR 1 rs (nI 9) ≤ nI 20) (m : Nat) : ∀ (ts : List TT) (h : mH) (a k K : Nat), MS h m → MW ls rs n (hI h (m + 1)) → MT2 (hI h (m + 1)) ts0 → ts0.drop k = ts → k ≤ ts0.length → hI h (m + 1) 4 = nI a → a ≤ 1000000 + 30 * k → K ≤ 30 * k →
    ∃ (K' : Nat) (h2 : mH) (w' dr' : Nat → Int32), K' ≤ 30 * ts.length ∧ turnsR ls rs (hI h m 26) n ts (hI h (m + 1)) (hI h (m + 11)) K' w' dr' ∧ fr [m, m + 1, m + 9, m + 10, m + 11] h h2 ∧ hI h2 (m + 1) = w' ∧ hI h2 (m + 11) = dr' ∧ (∀ i, i ≠ 28 → i ≠ 29 → i ≠ 30 → i ≠ 31 → hI h2 m i = hI h m i) ∧ MW ls rs n w' ∧ MT2 w' ts0 ∧ (∃ a', w' 4 = nI a' ∧ a' ≤ a + 30 * ts.length) ∧
      res (d + 8) 120 (25, [some (.ref m), some (.int (nI K)), some (.int (nI k))], [], h) = res (d + 8) 120 (103, [some (.ref m), some (.int (nI (K + K'))), some (.int (nI ts0.length))], [], h2) := by
  intro ts
  induction ts with
  | nil =>
    intro h a k K M W T hk hkl ha ha2 hK
    obtain rfl := drop_nil hk hkl
    obtain ⟨y1, y2, y3⟩ := id T
    refine ⟨0, h, _, _, by omega, ⟨rfl, rfl, rfl⟩, fr_refl, rfl, rfl, fun _ _ _ _ _ => rfl, W, T, ⟨a, ha, by omega⟩, ?_⟩
    obtain ⟨⟨t0, p0, p1, p2, p3, p6, p7, p8, p9, p10, p11, p27, p32, p33, p34⟩, t1, t2, t3, t4, t5, t6, t7, t8, t9, t10, t11, t12, t13, t14⟩ := M
    rw [kh_120_25]; simp (disch := omega) only [ks_120, r_ic, r_lc, r_gc, r_null, r_iload, r_lload, r_aload, r_istore, r_lstore, r_astore, r_iinc, r_bin, r_un, r_div, r_rem, r_i2l, r_l2i, r_lmul, r_lrem, r_dup, r_dup2, r_pop, r_goto, r_ifeq, r_ifne, r_iflt, r_ifge, r_ifgt, r_ifle, r_ceq, r_cne, r_clt, r_cge, r_cgt, r_cle, r_aeq, r_ane, r_ifnull, r_ifnullN, r_ifnn, r_ifnnN, r_ifnullq, r_ifnnq, r_sw, r_getI, r_getP, r_putI, r_putZ, r_putC, r_putP, r_newo, r_newa, r_alen, r_ald, r_ast, r_bst, r_aald, r_aast, r_gsc, r_gsv, r_slen, r_gvb, r_aastS, r_obj, r_mx, r_mn, r_lam, c_S0, c_S1, c_S2, c_S3, c_S4, c_V0, c_V1, c_V2, c_V3, c_V4, c_V5, c_Tg, c_T0, c_T1, c_T2, c_I0, c_I1, c_I2, c_I3, c_I4, k_some, k_void, k_ite, e_i, e_z, e_c, e_b, e_a, e_v, g_I, g_O, g_L0, g_L1, g_L2, g_L3, g_L4, l_I, l_J, l_Rr, l_Rn, l_Rq, b_G, isRv_ref, isRv_null, isC1_int, isC1_ref, isC1_null, rfo_ref, rfo_null, kil_int, kil_ref, kil_null, kil_long, kil_none, s_nil, s_cons, lg_0, lg_1, lg_2, lg_3, lg_4, lg_s, ls_0, ls_1, ls_2, ls_3, ls_4, ls_5, ls_6, ls_7, ls_8, S_sI, V_sI, S_sP, V_sP, S_nw, V_nw, S_cI, V_cI, S_cP, V_cP, b2_eq0, b2_01, va_rf_some, va_rf_none, isRv_rf, isC1_rf, kil2_rf, rfo_rf, Nat.reduceAdd, true_or, not_true_eq_false, not_false_eq_true, Bool.false_eq_true, eq_self, or_true, ↓reduceIte, ↓lzI_0, ↓lzI_1, ↓lzI_2, ↓lzI_3, ↓lzI_4, ↓lzI_5, ↓lzI_6, ↓lzI_7, ↓lzI_8, ↓lzI_9, ↓lzI_10, ↓lzI_11, ↓lzI_12, ↓lzR_0, ↓lzR_1, ↓lzR_2, ↓lzR_3, ↓lzR_4, ↓lzR_5, ↓lzR_6, ↓lzR_7, ↓lzR_8, ↓lzR_9, ↓lzR_10, ↓lzR_11, ↓lzR_12, ↓lzN_0, ↓lzN_1, ↓lzN_2, ↓lzN_3, ↓lzN_4, ↓lzN_5, ↓lzN_6, ↓lzN_7, ↓lzN_8, ↓lzN_9, ↓lzN_10, ↓lzN_11, ↓lzN_12, ↓lzQ_0, ↓lzQ_1, ↓lzQ_2, ↓lzQ_3, ↓lzQ_4, ↓lzQ_5, ↓lzQ_6, ↓lzQ_7, ↓lzQ_8, ↓lzQ_9, ↓lzQ_10, ↓lzQ_11, ↓lzQ_12, if_true, if_false, a_ofI1, a_add, g_AL, a_clamp, a_mul, a_ofIm1, a_sub, Nat.mul_zero, Nat.add_zero, Nat.zero_add, Nat.add_sub_cancel, b2_eq1, b2_z, a_eq0, a_eqT, a_eqF, a_ltT, a_ltF, g_N20, g_N21, g_N22, g_N23, g_N24, g_N25, g_N26, g_N27, g_N28, g_N29, g_N40, g_R22, g_R23, g_R24, g_R25, g_R26, g_R27, g_R28, g_R29, g_E24_8, g_E24_9, g_E24_10, g_E24_11, g_E25_5, g_E26_6, g_E27_2, g_E28_12, g_E23_22, g_E29_20, T_sI, P_sI, N_sI, G_sI, T_sP, I_sP, P_sP, N_sP, G_sP, T_nw, I_nw, P_nw, N_nw, G_nw, T_cI, I_cI, P_cI, N_cI, G_cI, T_cP, I_cP, P_cP, N_cP, G_cP, R_eq, R_ne, up_eq, up_ne, t0, t1, t2, t3, t4, t5, t6, t7, t8, t9, t10, t11, t12, t13, t14, p0, p1, p2, p3, p6, p7, p8, p9, p10, p11, p27, p32, p33, p34, y1]
  | cons p ts ih =>
    intro h a k K M W T hk hkl ha ha2 hK
    obtain ⟨g1, g2, g3⟩ := drop_at hk
    obtain ⟨y1, y2, y3⟩ := id T
    obtain ⟨z1, z2, z3⟩ := y3 k p g1
    have M1 : MS (sI h (m + 1) 0 (if p.1 < hI h (m + 1) 0 then hI h (m + 1) 0 else p.1)) m := ss_MS (ss_sI (ss_refl h)) M
    have r1 : hI (sI h (m + 1) 0 (if p.1 < hI h (m + 1) 0 then hI h (m + 1) 0 else p.1)) (m + 1) = atS (hI h (m + 1)) p := R_eq _ _ _ _
    have r11 : hI (sI h (m + 1) 0 (if p.1 < hI h (m + 1) 0 then hI h (m + 1) 0 else p.1)) (m + 11) = hI h (m + 11) := R_ne (by omega)
    have rm : hI (sI h (m + 1) 0 (if p.1 < hI h (m + 1) 0 then hI h (m + 1) 0 else p.1)) m = hI h m := R_ne (by omega)
    have W1 : MW ls rs n (atS (hI h (m + 1)) p) := MW_0 (by omega) W
    have T1 : MT2 (atS (hI h (m + 1)) p) ts0 := MT2_w (up_ne (by omega)) (fun j h1 h2 => up_ne (by omega)) T
    have a1 : atS (hI h (m + 1)) p 4 = nI a := (up_ne (by omega)).trans ha
    have f1 : fr [m, m + 1, m + 9, m + 10, m + 11] h (sI h (m + 1) 0 (if p.1 < hI h (m + 1) 0 then hI h (m + 1) 0 else p.1)) := fr_sI fr_refl (by simp)
    have e44 := fun d => x_44 d (hI h (m + 1) 0) p.1 h
    have c6 := fun d => x_106 M1 (rs := rs) (by rw [r1]; exact W1.2.1) d
    have e0 : hI (sI h (m + 1) 0 (if p.1 < hI h (m + 1) 0 then hI h (m + 1) 0 else p.1)) (m + 1) 0 = atS (hI h (m + 1)) p 0 := by rw [r1]
    by_cases c : atS (hI h (m + 1)) p 0 < lastR 3 rs (nI 300)
    · obtain ⟨q, h2, x, z, w2, d2, b1, b2', b3, b4, b5, b6, b7, -, -, -, b11, b12, ⟨a', b13, b14⟩, b15⟩ := x_115 M1 d n p.2 a z3 hA (by rw [r1]; exact W1) (by rw [r1]; exact a1) (by omega)
      rw [rm, r1, r11] at b3
      have T2 : MT2 w2 ts0 := MT2_w (doesR_keep z3 _ _ _ _ _ _ _ b3 42 (by omega) (by omega)) (fun j h1 h2 => doesR_keep z3 _ _ _ _ _ _ _ b3 j (by omega) (by omega)) T1
      have M2 := ss_MS b4.1 M1
      have k2 : ∀ i, i ≠ 28 → i ≠ 29 → i ≠ 30 → i ≠ 31 → hI h2 m i = hI h m i := fun i i1 i2 i3 i4 => (b7 i i1 i2 i3 i4).trans (by rw [rm])
      obtain ⟨K', h3, w3, d3, v1, v2, v3, v4, v5, v6, v7, v8, ⟨a3, v9, v10⟩, v11⟩ := ih h2 a' (k + 1) (K + q) M2 (by rw [b5]; exact b11) (by rw [b5]; exact T2) g2 (by omega) (by rw [b5]; exact b13) (by omega) (by omega)
      rw [k2 26 (by omega) (by omega) (by omega) (by omega), b5, b6] at v2
      refine ⟨q + K', h3, w3, d3, by simp only [List.length_cons]; omega, Or.inr ⟨c, q, K', x, z, w2, d2, b3, v2, rfl⟩, fr_tr f1 (fr_tr b4 v3), v4, v5, fun i i1 i2 i3 i4 => (v6 i i1 i2 i3 i4).trans (k2 i i1 i2 i3 i4), v7, v8, ⟨a3, v9, by simp only [List.length_cons]; omega⟩, ?_⟩
      rw [show K + (q + K') = K + q + K' by omega, ← v11]
      obtain ⟨⟨t0, p0, p1, p2, p3, p6, p7, p8, p9, p10, p11, p27, p32, p33, p34⟩, t1, t2, t3, t4, t5, t6, t7, t8, t9, t10, t11, t12, t13, t14⟩ := M
      rw [kh_120_25]; simp (disch := omega) only [ks_120, r_ic, r_lc, r_gc, r_null, r_iload, r_lload, r_aload, r_istore, r_lstore, r_astore, r_iinc, r_bin, r_un, r_div, r_rem, r_i2l, r_l2i, r_lmul, r_lrem, r_dup, r_dup2, r_pop, r_goto, r_ifeq, r_ifne, r_iflt, r_ifge, r_ifgt, r_ifle, r_ceq, r_cne, r_clt, r_cge, r_cgt, r_cle, r_aeq, r_ane, r_ifnull, r_ifnullN, r_ifnn, r_ifnnN, r_ifnullq, r_ifnnq, r_sw, r_getI, r_getP, r_putI, r_putZ, r_putC, r_putP, r_newo, r_newa, r_alen, r_ald, r_ast, r_bst, r_aald, r_aast, r_gsc, r_gsv, r_slen, r_gvb, r_aastS, r_obj, r_mx, r_mn, r_lam, c_S0, c_S1, c_S2, c_S3, c_S4, c_V0, c_V1, c_V2, c_V3, c_V4, c_V5, c_Tg, c_T0, c_T1, c_T2, c_I0, c_I1, c_I2, c_I3, c_I4, k_some, k_void, k_ite, e_i, e_z, e_c, e_b, e_a, e_v, g_I, g_O, g_L0, g_L1, g_L2, g_L3, g_L4, l_I, l_J, l_Rr, l_Rn, l_Rq, b_G, isRv_ref, isRv_null, isC1_int, isC1_ref, isC1_null, rfo_ref, rfo_null, kil_int, kil_ref, kil_null, kil_long, kil_none, s_nil, s_cons, lg_0, lg_1, lg_2, lg_3, lg_4, lg_s, ls_0, ls_1, ls_2, ls_3, ls_4, ls_5, ls_6, ls_7, ls_8, S_sI, V_sI, S_sP, V_sP, S_nw, V_nw, S_cI, V_cI, S_cP, V_cP, b2_eq0, b2_01, va_rf_some, va_rf_none, isRv_rf, isC1_rf, kil2_rf, rfo_rf, Nat.reduceAdd, true_or, not_true_eq_false, not_false_eq_true, Bool.false_eq_true, eq_self, or_true, ↓reduceIte, ↓lzI_0, ↓lzI_1, ↓lzI_2, ↓lzI_3, ↓lzI_4, ↓lzI_5, ↓lzI_6, ↓lzI_7, ↓lzI_8, ↓lzI_9, ↓lzI_10, ↓lzI_11, ↓lzI_12, ↓lzR_0, ↓lzR_1, ↓lzR_2, ↓lzR_3, ↓lzR_4, ↓lzR_5, ↓lzR_6, ↓lzR_7, ↓lzR_8, ↓lzR_9, ↓lzR_10, ↓lzR_11, ↓lzR_12, ↓lzN_0, ↓lzN_1, ↓lzN_2, ↓lzN_3, ↓lzN_4, ↓lzN_5, ↓lzN_6, ↓lzN_7, ↓lzN_8, ↓lzN_9, ↓lzN_10, ↓lzN_11, ↓lzN_12, ↓lzQ_0, ↓lzQ_1, ↓lzQ_2, ↓lzQ_3, ↓lzQ_4, ↓lzQ_5, ↓lzQ_6, ↓lzQ_7, ↓lzQ_8, ↓lzQ_9, ↓lzQ_10, ↓lzQ_11, ↓lzQ_12, if_true, if_false, a_ofI1, a_add, g_AL, a_clamp, a_mul, a_ofIm1, a_sub, Nat.mul_zero, Nat.add_zero, Nat.zero_add, Nat.add_sub_cancel, b2_eq1, b2_z, a_eq0, a_eqT, a_eqF, a_ltT, a_ltF, g_N20, g_N21, g_N22, g_N23, g_N24, g_N25, g_N26, g_N27, g_N28, g_N29, g_N40, g_R22, g_R23, g_R24, g_R25, g_R26, g_R27, g_R28, g_R29, g_E24_8, g_E24_9, g_E24_10, g_E24_11, g_E25_5, g_E26_6, g_E27_2, g_E28_12, g_E23_22, g_E29_20, T_sI, P_sI, N_sI, G_sI, T_sP, I_sP, P_sP, N_sP, G_sP, T_nw, I_nw, P_nw, N_nw, G_nw, T_cI, I_cI, P_cI, N_cI, G_cI, T_cP, I_cP, P_cP, N_cP, G_cP, R_eq, R_ne, up_eq, up_ne, t0, t1, t2, t3, t4, t5, t6, t7, t8, t9, t10, t11, t12, t13, t14, p0, p1, p2, p3, p6, p7, p8, p9, p10, p11, p27, p32, p33, p34, y1, z1, z2, e44, c6, e0, c, b15]
    · obtain ⟨K', h3, w3, d3, v1, v2, v3, v4, v5, v6, v7, v8, ⟨a3, v9, v10⟩, v11⟩ := ih _ a (k + 1) K M1 (by rw [r1]; exact W1) (by rw [r1]; exact T1) g2 (by omega) (by rw [r1]; exact a1) (by omega) (by omega)
      rw [rm, r1, r11] at v2
      refine ⟨K', h3, w3, d3, by simp only [List.length_cons]; omega, Or.inl ⟨c, v2⟩, fr_tr f1 v3, v4, v5, fun i i1 i2 i3 i4 => (v6 i i1 i2 i3 i4).trans (by rw [rm]), v7, v8, ⟨a3, v9, by simp only [List.length_cons]; omega⟩, ?_⟩
      rw [← v11]
      obtain ⟨⟨t0, p0, p1, p2, p3, p6, p7, p8, p9, p10, p11, p27, p32, p33, p34⟩, t1, t2, t3, t4, t5, t6, t7, t8, t9, t10, t11, t12, t13, t14⟩ := M
      rw [kh_120_25]; simp (disch := omega) only [ks_120, r_ic, r_lc, r_gc, r_null, r_iload, r_lload, r_aload, r_istore, r_lstore, r_astore, r_iinc, r_bin, r_un, r_div, r_rem, r_i2l, r_l2i, r_lmul, r_lrem, r_dup, r_dup2, r_pop, r_goto, r_ifeq, r_ifne, r_iflt, r_ifge, r_ifgt, r_ifle, r_ceq, r_cne, r_clt, r_cge, r_cgt, r_cle, r_aeq, r_ane, r_ifnull, r_ifnullN, r_ifnn, r_ifnnN, r_ifnullq, r_ifnnq, r_sw, r_getI, r_getP, r_putI, r_putZ, r_putC, r_putP, r_newo, r_newa, r_alen, r_ald, r_ast, r_bst, r_aald, r_aast, r_gsc, r_gsv, r_slen, r_gvb, r_aastS, r_obj, r_mx, r_mn, r_lam, c_S0, c_S1, c_S2, c_S3, c_S4, c_V0, c_V1, c_V2, c_V3, c_V4, c_V5, c_Tg, c_T0, c_T1, c_T2, c_I0, c_I1, c_I2, c_I3, c_I4, k_some, k_void, k_ite, e_i, e_z, e_c, e_b, e_a, e_v, g_I, g_O, g_L0, g_L1, g_L2, g_L3, g_L4, l_I, l_J, l_Rr, l_Rn, l_Rq, b_G, isRv_ref, isRv_null, isC1_int, isC1_ref, isC1_null, rfo_ref, rfo_null, kil_int, kil_ref, kil_null, kil_long, kil_none, s_nil, s_cons, lg_0, lg_1, lg_2, lg_3, lg_4, lg_s, ls_0, ls_1, ls_2, ls_3, ls_4, ls_5, ls_6, ls_7, ls_8, S_sI, V_sI, S_sP, V_sP, S_nw, V_nw, S_cI, V_cI, S_cP, V_cP, b2_eq0, b2_01, va_rf_some, va_rf_none, isRv_rf, isC1_rf, kil2_rf, rfo_rf, Nat.reduceAdd, true_or, not_true_eq_false, not_false_eq_true, Bool.false_eq_true, eq_self, or_true, ↓reduceIte, ↓lzI_0, ↓lzI_1, ↓lzI_2, ↓lzI_3, ↓lzI_4, ↓lzI_5, ↓lzI_6, ↓lzI_7, ↓lzI_8, ↓lzI_9, ↓lzI_10, ↓lzI_11, ↓lzI_12, ↓lzR_0, ↓lzR_1, ↓lzR_2, ↓lzR_3, ↓lzR_4, ↓lzR_5, ↓lzR_6, ↓lzR_7, ↓lzR_8, ↓lzR_9, ↓lzR_10, ↓lzR_11, ↓lzR_12, ↓lzN_0, ↓lzN_1, ↓lzN_2, ↓lzN_3, ↓lzN_4, ↓lzN_5, ↓lzN_6, ↓lzN_7, ↓lzN_8, ↓lzN_9, ↓lzN_10, ↓lzN_11, ↓lzN_12, ↓lzQ_0, ↓lzQ_1, ↓lzQ_2, ↓lzQ_3, ↓lzQ_4, ↓lzQ_5, ↓lzQ_6, ↓lzQ_7, ↓lzQ_8, ↓lzQ_9, ↓lzQ_10, ↓lzQ_11, ↓lzQ_12, if_true, if_false, a_ofI1, a_add, g_AL, a_clamp, a_mul, a_ofIm1, a_sub, Nat.mul_zero, Nat.add_zero, Nat.zero_add, Nat.add_sub_cancel, b2_eq1, b2_z, a_eq0, a_eqT, a_eqF, a_ltT, a_ltF, g_N20, g_N21, g_N22, g_N23, g_N24, g_N25, g_N26, g_N27, g_N28, g_N29, g_N40, g_R22, g_R23, g_R24, g_R25, g_R26, g_R27, g_R28, g_R29, g_E24_8, g_E24_9, g_E24_10, g_E24_11, g_E25_5, g_E26_6, g_E27_2, g_E28_12, g_E23_22, g_E29_20, T_sI, P_sI, N_sI, G_sI, T_sP, I_sP, P_sP, N_sP, G_sP, T_nw, I_nw, P_nw, N_nw, G_nw, T_cI, I_cI, P_cI, N_cI, G_cI, T_cP, I_cP, P_cP, N_cP, G_cP, R_eq, R_ne, up_eq, up_ne, t0, t1, t2, t3, t4, t5, t6, t7, t8, t9, t10, t11, t12, t13, t14, p0, p1, p2, p3, p6, p7, p8, p9, p10, p11, p27, p32, p33, p34, y1, z1, z2, e44, c6, e0, c]
end
