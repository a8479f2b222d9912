/-! EncoresModel: coughing, hands, the end of a doing -/
set_option maxRecDepth 100000
theorem evN_w2 {w w' : Nat → Int32} (h : ∀ j, 823 ≤ j → w' j = w j) (f : Nat → Int32) : ∀ (n i : Nat) (st : List Int32), evN w' f n i st = evN w f n i st := by
  intro n
  induction n with
  | zero => intro i st; rfl
  | succ n ih =>
    intro i st
    have e : ev1 w' f i st = ev1 w f i st := by
      unfold ev1
      rw [h (887 + 2 * i) (by omega), h (887 + 2 * i + 1) (by omega)]
    show (match ev1 w' f i st with | some st' => evN w' f n (i + 1) st' | none => none) = (match ev1 w f i st with | some st' => evN w f n (i + 1) st' | none => none)
    rw [e]
    cases ev1 w f i st with
    | none => rfl
    | some st' => exact ih _ _
theorem ML_w2 {w w' : Nat → Int32} {ls : List LL} (h40 : w' 40 = w 40) (h : ∀ j, 823 ≤ j → w' j = w j) (L : ML w ls) : ML w' ls := by
  obtain ⟨h1, h2, h3⟩ := L
  refine ⟨h40.trans h1, h2, fun k l hl => ?_⟩
  obtain ⟨g1, g2, a, b, c, g3, g4, g5, g6, g7, g8⟩ := h3 k l hl
  refine ⟨(h _ (by omega)).trans g1, g2, a, b, c, (h _ (by omega)).trans g3, (h _ (by omega)).trans g4, (h _ (by omega)).trans g5, g6, fun f st => (evN_w2 h f _ _ _).trans (g7 f st), ?_⟩
  rcases g8 with g | ⟨C, c1, c2, c3⟩
  · exact Or.inl g
  · exact Or.inr ⟨C, c1, c2, fun f st => (evN_w2 h f _ _ _).trans (c3 f st)⟩
theorem MR_w2 {w w' : Nat → Int32} {rs : List RR} (h41 : w' 41 = w 41) (h : ∀ j, 105 ≤ j → j < 153 → w' j = w j) (L : MR w rs) : MR w' rs := by
  obtain ⟨h1, h2, h3⟩ := L
  refine ⟨h41.trans h1, h2, fun k l hl => ?_⟩
  obtain ⟨g1, g2, g3, g4⟩ := h3 k l hl
  have hk := (List.getElem?_eq_some_iff.mp hl).1
  exact ⟨(h _ (by omega) (by omega)).trans g1, g2, (h _ (by omega) (by omega)).trans g3, (h _ (by omega) (by omega)).trans g4⟩
theorem noteS_ne (w : Nat → Int32) (t : Int32) {b : Nat} (hb : b ≤ 150) (a c u : Int32) {j : Nat} (h6 : j ≠ 6) (hj : j < 223 ∨ 823 ≤ j) : noteS w t b a c u j = w j := by
  unfold noteS
  by_cases q : t = nI 0 ∨ b = 150
  · rw [if_pos q]
  · rw [if_neg q]
    have : b ≠ 150 := fun z => q (Or.inr z)
    rw [up_ne h6, up_ne (by omega), up_ne (by omega), up_ne (by omega), up_ne (by omega)]
section
variable {h : mH} {m : Nat} {ls : List LL} {rs : List RR}
/-- nobody coughs -/
theorem t_135a (M : MS h m) (hL : ML (hI h (m + 1)) ls) (hR : MR (hI h (m + 1)) rs) (d b e n : Nat) (he : e < 8) (hn : hI h (m + 1) 37 = nI n) (hn2 : n ≤ 12) (hb : hI h (m + 1) 6 = nI b) (hb2 : b ≤ 150) : ∃ (h' : mH) (v : Int32), fr [m, m + 1, m + 9, m + 10] h h' ∧
    (v = nI 1 ∧ goesP rs (hI h (m + 1)) (nI 0) (loudS ls (hI h (m + 1)) e + handS rs (hI h (m + 1)) (hI h m 28) n) ∨ v = nI 0 ∧ ¬ goesP rs (hI h (m + 1)) (nI 0) (loudS ls (hI h (m + 1)) e + handS rs (hI h (m + 1)) (hI h m 28) n)) ∧
    hI h' m = up (up (hI h m) 30 (loudS ls (hI h (m + 1)) e + handS rs (hI h (m + 1)) (hI h m 28) n)) 31 v ∧ hI h' (m + 1) = endW (hI h (m + 1)) (hI h m 26) b e (loudS ls (hI h (m + 1)) e + handS rs (hI h (m + 1)) (hI h m 28) n) ∧ res (d + 6) 114 (135, [some (.ref m), some (.int (nI e)), some (.int (nI 0))], [], h) = some (.inl none, h') := by
  obtain ⟨h1, f1, e1⟩ := x_100 M hL (d + 1) e he
  have M1 := ss_MS f1.1 M
  have hw1 : hI h1 (m + 1) = hI h (m + 1) := f1.2 _ (by simp)
  have hm1 : hI h1 m = hI h m := f1.2 _ (by simp)
  have e2 := x_113 M1 (rs := rs) (by rw [hw1]; exact hR) (d + 4) n (by rw [hw1]; exact hn) hn2
  rw [hw1, hm1] at e2
  generalize hx : loudS ls (hI h (m + 1)) e + handS rs (hI h (m + 1)) (hI h m 28) n = x
  have r1 : hI (sI h1 m 30 x) (m + 1) = hI h (m + 1) := (R_ne (by omega)).trans hw1
  have r2 : hI (sI h1 m 30 x) m = up (hI h m) 30 x := by rw [R_eq, hm1]
  obtain ⟨h2, v, f2, g1, g2, g3, g4⟩ := t_157 (ss_MS (ss_sI (ss_refl h1)) M1 : MS (sI h1 m 30 x) m) (rs := rs) (by rw [r1]; exact hR) d b e (nI 0) (Or.inl rfl) (by rw [r1]; exact hb) hb2
  rw [r1, r2, up_eq] at g1
  rw [r2] at g2
  rw [r1, r2, up_eq, up_ne (by omega)] at g3
  refine ⟨h2, v, fr_tr (fr_sub f1 (by simp)) (fr_tr (fr_sI fr_refl (by simp)) (fr_sub f2 (by simp))), g1, g2, g3, ?_⟩
  have u0 : hT h m = some (3, 35) := M.1.1
  have M := M1
  obtain ⟨⟨t0, p0, p1, p2, p3, p6, p7, p8, p9, p10, p11, p27, p32, p33, p34⟩, t1, t2, t3, t4, t5, t6, t7, t8, t9, t10, t11, t12, t13, t14⟩ := M
  simp (disch := omega) only [↓g4, ks_114, r_ic, r_lc, r_gc, r_null, r_iload, r_lload, r_aload, r_istore, r_lstore, r_astore, r_iinc, r_bin, r_un, r_div, r_rem, r_i2l, r_l2i, r_lmul, r_lrem, r_dup, r_dup2, r_pop, r_goto, r_ifeq, r_ifne, r_iflt, r_ifge, r_ifgt, r_ifle, r_ceq, r_cne, r_clt, r_cge, r_cgt, r_cle, r_aeq, r_ane, r_ifnull, r_ifnullN, r_ifnn, r_ifnnN, r_ifnullq, r_ifnnq, r_sw, r_getI, r_getP, r_putI, r_putZ, r_putC, r_putP, r_newo, r_newa, r_alen, r_ald, r_ast, r_bst, r_aald, r_aast, r_gsc, r_gsv, r_slen, r_gvb, r_aastS, r_obj, r_mx, r_mn, r_lam, c_S0, c_S1, c_S2, c_S3, c_S4, c_V0, c_V1, c_V2, c_V3, c_V4, c_V5, c_Tg, c_T0, c_T1, c_T2, c_I0, c_I1, c_I2, c_I3, c_I4, k_some, k_void, k_ite, e_i, e_z, e_c, e_b, e_a, e_v, g_I, g_O, g_L0, g_L1, g_L2, g_L3, g_L4, l_I, l_J, l_Rr, l_Rn, l_Rq, b_G, isRv_ref, isRv_null, isC1_int, isC1_ref, isC1_null, rfo_ref, rfo_null, kil_int, kil_ref, kil_null, kil_long, kil_none, s_nil, s_cons, lg_0, lg_1, lg_2, lg_3, lg_4, lg_s, ls_0, ls_1, ls_2, ls_3, ls_4, ls_5, ls_6, ls_7, ls_8, S_sI, V_sI, S_sP, V_sP, S_nw, V_nw, S_cI, V_cI, S_cP, V_cP, b2_eq0, b2_01, va_rf_some, va_rf_none, isRv_rf, isC1_rf, kil2_rf, rfo_rf, Nat.reduceAdd, true_or, not_true_eq_false, not_false_eq_true, Bool.false_eq_true, eq_self, or_true, ↓reduceIte, ↓lzI_0, ↓lzI_1, ↓lzI_2, ↓lzI_3, ↓lzI_4, ↓lzI_5, ↓lzI_6, ↓lzI_7, ↓lzI_8, ↓lzI_9, ↓lzI_10, ↓lzI_11, ↓lzI_12, ↓lzR_0, ↓lzR_1, ↓lzR_2, ↓lzR_3, ↓lzR_4, ↓lzR_5, ↓lzR_6, ↓lzR_7, ↓lzR_8, ↓lzR_9, ↓lzR_10, ↓lzR_11, ↓lzR_12, ↓lzN_0, ↓lzN_1, ↓lzN_2, ↓lzN_3, ↓lzN_4, ↓lzN_5, ↓lzN_6, ↓lzN_7, ↓lzN_8, ↓lzN_9, ↓lzN_10, ↓lzN_11, ↓lzN_12, ↓lzQ_0, ↓lzQ_1, ↓lzQ_2, ↓lzQ_3, ↓lzQ_4, ↓lzQ_5, ↓lzQ_6, ↓lzQ_7, ↓lzQ_8, ↓lzQ_9, ↓lzQ_10, ↓lzQ_11, ↓lzQ_12, if_true, if_false, a_ofI1, a_add, g_AL, a_clamp, a_mul, a_ofIm1, a_sub, Nat.mul_zero, Nat.add_zero, Nat.zero_add, Nat.add_sub_cancel, b2_eq1, b2_z, a_eq0, a_eqT, a_eqF, a_ltT, a_ltF, g_N20, g_N21, g_N22, g_N23, g_N24, g_N25, g_N26, g_N27, g_N28, g_N29, g_N40, g_R22, g_R23, g_R24, g_R25, g_R26, g_R27, g_R28, g_R29, g_E24_8, g_E24_9, g_E24_10, g_E24_11, g_E25_5, g_E26_6, g_E27_2, g_E28_12, g_E23_22, g_E29_20, T_sI, P_sI, N_sI, G_sI, T_sP, I_sP, P_sP, N_sP, G_sP, T_nw, I_nw, P_nw, N_nw, G_nw, T_cI, I_cI, P_cI, N_cI, G_cI, T_cP, I_cP, P_cP, N_cP, G_cP, R_eq, R_ne, up_eq, up_ne, t0, t1, t2, t3, t4, t5, t6, t7, t8, t9, t10, t11, t12, t13, t14, p0, p1, p2, p3, p6, p7, p8, p9, p10, p11, p27, p32, p33, p34, u0, e1, e2, hx]
/-- somebody coughs -/
theorem t_135b (M : MS h m) (hR : MR (hI h (m + 1)) rs) (d b e : Nat) (hb : hI h (m + 1) 6 = nI b) (hb2 : b ≤ 150) : ∃ (h' : mH), fr [m, m + 1, m + 9, m + 10] h h' ∧
    hI h' m = up (up (hI h m) 30 (nI 0)) 31 (nI 0) ∧ hI h' (m + 1) = endW (hI h (m + 1)) (hI h m 26) b e (nI 0) ∧ res (d + 6) 114 (135, [some (.ref m), some (.int (nI e)), some (.int (nI 1))], [], h) = some (.inl none, h') := by
  have r1 : hI (sI h m 30 (nI 0)) (m + 1) = hI h (m + 1) := R_ne (by omega)
  have r2 : hI (sI h m 30 (nI 0)) m = up (hI h m) 30 (nI 0) := R_eq _ _ _ _
  obtain ⟨h2, v, f2, g1, g2, g3, g4⟩ := t_157 (ss_MS (ss_sI (ss_refl h)) M : MS (sI h m 30 (nI 0)) m) (rs := rs) (by rw [r1]; exact hR) d b e (nI 1) (Or.inr rfl) (by rw [r1]; exact hb) hb2
  have hv : v = nI 0 := by
    rcases g1 with ⟨-, q, -⟩ | ⟨q, -⟩
    · rw [a_eq (by omega) (by omega)] at q; omega
    · exact q
  subst hv
  rw [r2] at g2
  rw [r1, r2, up_eq, up_ne (by omega)] at g3
  refine ⟨h2, fr_tr (fr_sI fr_refl (by simp)) (fr_sub f2 (by simp)), g2, g3, ?_⟩
  obtain ⟨⟨t0, p0, p1, p2, p3, p6, p7, p8, p9, p10, p11, p27, p32, p33, p34⟩, t1, t2, t3, t4, t5, t6, t7, t8, t9, t10, t11, t12, t13, t14⟩ := M
  simp (disch := omega) only [↓g4, ks_114, r_ic, r_lc, r_gc, r_null, r_iload, r_lload, r_aload, r_istore, r_lstore, r_astore, r_iinc, r_bin, r_un, r_div, r_rem, r_i2l, r_l2i, r_lmul, r_lrem, r_dup, r_dup2, r_pop, r_goto, r_ifeq, r_ifne, r_iflt, r_ifge, r_ifgt, r_ifle, r_ceq, r_cne, r_clt, r_cge, r_cgt, r_cle, r_aeq, r_ane, r_ifnull, r_ifnullN, r_ifnn, r_ifnnN, r_ifnullq, r_ifnnq, r_sw, r_getI, r_getP, r_putI, r_putZ, r_putC, r_putP, r_newo, r_newa, r_alen, r_ald, r_ast, r_bst, r_aald, r_aast, r_gsc, r_gsv, r_slen, r_gvb, r_aastS, r_obj, r_mx, r_mn, r_lam, c_S0, c_S1, c_S2, c_S3, c_S4, c_V0, c_V1, c_V2, c_V3, c_V4, c_V5, c_Tg, c_T0, c_T1, c_T2, c_I0, c_I1, c_I2, c_I3, c_I4, k_some, k_void, k_ite, e_i, e_z, e_c, e_b, e_a, e_v, g_I, g_O, g_L0, g_L1, g_L2, g_L3, g_L4, l_I, l_J, l_Rr, l_Rn, l_Rq, b_G, isRv_ref, isRv_null, isC1_int, isC1_ref, isC1_null, rfo_ref, rfo_null, kil_int, kil_ref, kil_null, kil_long, kil_none, s_nil, s_cons, lg_0, lg_1, lg_2, lg_3, lg_4, lg_s, ls_0, ls_1, ls_2, ls_3, ls_4, ls_5, ls_6, ls_7, ls_8, S_sI, V_sI, S_sP, V_sP, S_nw, V_nw, S_cI, V_cI, S_cP, V_cP, b2_eq0, b2_01, va_rf_some, va_rf_none, isRv_rf, isC1_rf, kil2_rf, rfo_rf, Nat.reduceAdd, true_or, not_true_eq_false, not_false_eq_true, Bool.false_eq_true, eq_self, or_true, ↓reduceIte, ↓lzI_0, ↓lzI_1, ↓lzI_2, ↓lzI_3, ↓lzI_4, ↓lzI_5, ↓lzI_6, ↓lzI_7, ↓lzI_8, ↓lzI_9, ↓lzI_10, ↓lzI_11, ↓lzI_12, ↓lzR_0, ↓lzR_1, ↓lzR_2, ↓lzR_3, ↓lzR_4, ↓lzR_5, ↓lzR_6, ↓lzR_7, ↓lzR_8, ↓lzR_9, ↓lzR_10, ↓lzR_11, ↓lzR_12, ↓lzN_0, ↓lzN_1, ↓lzN_2, ↓lzN_3, ↓lzN_4, ↓lzN_5, ↓lzN_6, ↓lzN_7, ↓lzN_8, ↓lzN_9, ↓lzN_10, ↓lzN_11, ↓lzN_12, ↓lzQ_0, ↓lzQ_1, ↓lzQ_2, ↓lzQ_3, ↓lzQ_4, ↓lzQ_5, ↓lzQ_6, ↓lzQ_7, ↓lzQ_8, ↓lzQ_9, ↓lzQ_10, ↓lzQ_11, ↓lzQ_12, if_true, if_false, a_ofI1, a_add, g_AL, a_clamp, a_mul, a_ofIm1, a_sub, Nat.mul_zero, Nat.add_zero, Nat.zero_add, Nat.add_sub_cancel, b2_eq1, b2_z, a_eq0, a_eqT, a_eqF, a_ltT, a_ltF, g_N20, g_N21, g_N22, g_N23, g_N24, g_N25, g_N26, g_N27, g_N28, g_N29, g_N40, g_R22, g_R23, g_R24, g_R25, g_R26, g_R27, g_R28, g_R29, g_E24_8, g_E24_9, g_E24_10, g_E24_11, g_E25_5, g_E26_6, g_E27_2, g_E28_12, g_E23_22, g_E29_20, T_sI, P_sI, N_sI, G_sI, T_sP, I_sP, P_sP, N_sP, G_sP, T_nw, I_nw, P_nw, N_nw, G_nw, T_cI, I_cI, P_cI, N_cI, G_cI, T_cP, I_cP, P_cP, N_cP, G_cP, R_eq, R_ne, up_eq, up_ne, t0, t1, t2, t3, t4, t5, t6, t7, t8, t9, t10, t11, t12, t13, t14, p0, p1, p2, p3, p6, p7, p8, p9, p10, p11, p27, p32, p33, p34]
end
