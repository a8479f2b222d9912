/-! rows of validity (printed by gen/valid.py) -/
set_option maxRecDepth 100000
theorem fa_c {y a : Nat} {i : mI} {l : List (Nat × mI)} (h : VI y a i) (t : ∀ z ∈ l, VI y z.1 z.2) : ∀ z ∈ (a, i) :: l, VI y z.1 z.2 := by
  intro z hz
  rcases List.mem_cons.mp hz with e | e
  · rw [e]; exact h
  · exact t z e
theorem vi_2_0 : VI 2 0 (kN (i_iload 0 1)) := (sp_iload_n (kd mk_2 dJ2_numberOfTrailingZeros_0)).sn
theorem vi_2_1 : VI 2 1 (kN (i_ic (-1) 1)) := (sp_iconst (kd mk_2 dJ2_numberOfTrailingZeros_1) (by decide +kernel)).sn
theorem vi_2_2 : VI 2 2 (kN (i_bin (fun x y => x ^^^ y))) := (sp_ixor (kd mk_2 dJ2_numberOfTrailingZeros_2)).sn
theorem vi_2_3 : VI 2 3 (kN (i_iload 0 1)) := (sp_iload_n (kd mk_2 dJ2_numberOfTrailingZeros_3)).sn
theorem vi_2_4 : VI 2 4 (kN (i_ic (nI 1) 1)) := (sp_iconst (kd mk_2 dJ2_numberOfTrailingZeros_4) (by decide +kernel)).sn
theorem vi_2_5 : VI 2 5 (kN (i_bin (fun x y => x - y))) := (sp_isub (kd mk_2 dJ2_numberOfTrailingZeros_5)).sn
theorem vi_2_6 : VI 2 6 (kN (i_bin (fun x y => x &&& y))) := (sp_iand (kd mk_2 dJ2_numberOfTrailingZeros_6)).sn
theorem vi_2_7 : VI 2 7 (kN (i_istore 0 1)) := (sp_istore_n (kd mk_2 dJ2_numberOfTrailingZeros_7) (kl mk_2 (by decide))).sn
theorem vi_2_8 : VI 2 8 (kN (i_iload 0 1)) := (sp_iload_n (kd mk_2 dJ2_numberOfTrailingZeros_8)).sn
theorem vi_2_9 : VI 2 9 (kN (i_ifgt 17)) := (sp_ifgt (kd mk_2 dJ2_numberOfTrailingZeros_9) (by decide)).sn
theorem vi_2_12 : VI 2 12 (kN (i_iload 0 1)) := (sp_iload_n (kd mk_2 dJ2_numberOfTrailingZeros_12)).sn
theorem vi_2_13 : VI 2 13 (kN (i_ic (nI 32) 2)) := (sp_bipush (kd mk_2 dJ2_numberOfTrailingZeros_13) (by decide +kernel)).sn
theorem vi_2_15 : VI 2 15 (kN (i_bin (fun x y => x &&& y))) := (sp_iand (kd mk_2 dJ2_numberOfTrailingZeros_15)).sn
theorem vi_2_16 : VI 2 16 (kR i_iret) := sr_i (kd mk_2 dJ2_numberOfTrailingZeros_16) mk_2.2.2.2
theorem vi_2_17 : VI 2 17 (kN (i_ic (nI 1) 1)) := (sp_iconst (kd mk_2 dJ2_numberOfTrailingZeros_17) (by decide +kernel)).sn
theorem vi_2_18 : VI 2 18 (kN (i_istore 1 1)) := (sp_istore_n (kd mk_2 dJ2_numberOfTrailingZeros_18) (kl mk_2 (by decide))).sn
theorem vi_2_19 : VI 2 19 (kN (i_iload 0 1)) := (sp_iload_n (kd mk_2 dJ2_numberOfTrailingZeros_19)).sn
theorem vi_2_20 : VI 2 20 (kN (i_ic (nI 65536) 3)) := (sp_ldcw (kd mk_2 dJ2_numberOfTrailingZeros_20) (kc mk_2 q1211)).sn
theorem vi_2_23 : VI 2 23 (kN (i_cle 34)) := (sp_cle (kd mk_2 dJ2_numberOfTrailingZeros_23) (by decide)).sn
theorem vi_2_26 : VI 2 26 (kN (i_iinc 1 16)) := (sp_iinc (kd mk_2 dJ2_numberOfTrailingZeros_26) (kl mk_2 (by decide))).sn
theorem vi_2_29 : VI 2 29 (kN (i_iload 0 1)) := (sp_iload_n (kd mk_2 dJ2_numberOfTrailingZeros_29)).sn
theorem vi_2_30 : VI 2 30 (kN (i_ic (nI 16) 2)) := (sp_bipush (kd mk_2 dJ2_numberOfTrailingZeros_30) (by decide +kernel)).sn
theorem vi_2_32 : VI 2 32 (kN (i_bin (fun x y => (x.toUInt32 >>> (y.toUInt32 &&& Int32.toUInt32 31)).toInt32))) := (sp_iushr (kd mk_2 dJ2_numberOfTrailingZeros_32)).sn
theorem vi_2_33 : VI 2 33 (kN (i_istore 0 1)) := (sp_istore_n (kd mk_2 dJ2_numberOfTrailingZeros_33) (kl mk_2 (by decide))).sn
theorem vi_2_34 : VI 2 34 (kN (i_iload 0 1)) := (sp_iload_n (kd mk_2 dJ2_numberOfTrailingZeros_34)).sn
theorem vi_2_35 : VI 2 35 (kN (i_ic (nI 256) 3)) := (sp_sipush (kd mk_2 dJ2_numberOfTrailingZeros_35) (by decide +kernel)).sn
theorem vi_2_38 : VI 2 38 (kN (i_cle 49)) := (sp_cle (kd mk_2 dJ2_numberOfTrailingZeros_38) (by decide)).sn
theorem vi_2_41 : VI 2 41 (kN (i_iinc 1 8)) := (sp_iinc (kd mk_2 dJ2_numberOfTrailingZeros_41) (kl mk_2 (by decide))).sn
theorem vi_2_44 : VI 2 44 (kN (i_iload 0 1)) := (sp_iload_n (kd mk_2 dJ2_numberOfTrailingZeros_44)).sn
theorem vi_2_45 : VI 2 45 (kN (i_ic (nI 8) 2)) := (sp_bipush (kd mk_2 dJ2_numberOfTrailingZeros_45) (by decide +kernel)).sn
theorem vi_2_47 : VI 2 47 (kN (i_bin (fun x y => (x.toUInt32 >>> (y.toUInt32 &&& Int32.toUInt32 31)).toInt32))) := (sp_iushr (kd mk_2 dJ2_numberOfTrailingZeros_47)).sn
theorem vi_2_48 : VI 2 48 (kN (i_istore 0 1)) := (sp_istore_n (kd mk_2 dJ2_numberOfTrailingZeros_48) (kl mk_2 (by decide))).sn
theorem vi_2_49 : VI 2 49 (kN (i_iload 0 1)) := (sp_iload_n (kd mk_2 dJ2_numberOfTrailingZeros_49)).sn
theorem vi_2_50 : VI 2 50 (kN (i_ic (nI 16) 2)) := (sp_bipush (kd mk_2 dJ2_numberOfTrailingZeros_50) (by decide +kernel)).sn
theorem vi_2_52 : VI 2 52 (kN (i_cle 62)) := (sp_cle (kd mk_2 dJ2_numberOfTrailingZeros_52) (by decide)).sn
theorem vi_2_55 : VI 2 55 (kN (i_iinc 1 4)) := (sp_iinc (kd mk_2 dJ2_numberOfTrailingZeros_55) (kl mk_2 (by decide))).sn
theorem vi_2_58 : VI 2 58 (kN (i_iload 0 1)) := (sp_iload_n (kd mk_2 dJ2_numberOfTrailingZeros_58)).sn
theorem vi_2_59 : VI 2 59 (kN (i_ic (nI 4) 1)) := (sp_iconst (kd mk_2 dJ2_numberOfTrailingZeros_59) (by decide +kernel)).sn
theorem vi_2_60 : VI 2 60 (kN (i_bin (fun x y => (x.toUInt32 >>> (y.toUInt32 &&& Int32.toUInt32 31)).toInt32))) := (sp_iushr (kd mk_2 dJ2_numberOfTrailingZeros_60)).sn
theorem vi_2_61 : VI 2 61 (kN (i_istore 0 1)) := (sp_istore_n (kd mk_2 dJ2_numberOfTrailingZeros_61) (kl mk_2 (by decide))).sn
theorem vi_2_62 : VI 2 62 (kN (i_iload 0 1)) := (sp_iload_n (kd mk_2 dJ2_numberOfTrailingZeros_62)).sn
theorem vi_2_63 : VI 2 63 (kN (i_ic (nI 4) 1)) := (sp_iconst (kd mk_2 dJ2_numberOfTrailingZeros_63) (by decide +kernel)).sn
theorem vi_2_64 : VI 2 64 (kN (i_cle 74)) := (sp_cle (kd mk_2 dJ2_numberOfTrailingZeros_64) (by decide)).sn
theorem vi_2_67 : VI 2 67 (kN (i_iinc 1 2)) := (sp_iinc (kd mk_2 dJ2_numberOfTrailingZeros_67) (kl mk_2 (by decide))).sn
theorem vi_2_70 : VI 2 70 (kN (i_iload 0 1)) := (sp_iload_n (kd mk_2 dJ2_numberOfTrailingZeros_70)).sn
theorem vi_2_71 : VI 2 71 (kN (i_ic (nI 2) 1)) := (sp_iconst (kd mk_2 dJ2_numberOfTrailingZeros_71) (by decide +kernel)).sn
theorem vi_2_72 : VI 2 72 (kN (i_bin (fun x y => (x.toUInt32 >>> (y.toUInt32 &&& Int32.toUInt32 31)).toInt32))) := (sp_iushr (kd mk_2 dJ2_numberOfTrailingZeros_72)).sn
theorem vi_2_73 : VI 2 73 (kN (i_istore 0 1)) := (sp_istore_n (kd mk_2 dJ2_numberOfTrailingZeros_73) (kl mk_2 (by decide))).sn
theorem vi_2_74 : VI 2 74 (kN (i_iload 1 1)) := (sp_iload_n (kd mk_2 dJ2_numberOfTrailingZeros_74)).sn
theorem vi_2_75 : VI 2 75 (kN (i_iload 0 1)) := (sp_iload_n (kd mk_2 dJ2_numberOfTrailingZeros_75)).sn
theorem vi_2_76 : VI 2 76 (kN (i_ic (nI 1) 1)) := (sp_iconst (kd mk_2 dJ2_numberOfTrailingZeros_76) (by decide +kernel)).sn
theorem vi_2_77 : VI 2 77 (kN (i_bin (fun x y => (x.toUInt32 >>> (y.toUInt32 &&& Int32.toUInt32 31)).toInt32))) := (sp_iushr (kd mk_2 dJ2_numberOfTrailingZeros_77)).sn
theorem vi_2_78 : VI 2 78 (kN (i_bin (fun x y => x + y))) := (sp_iadd (kd mk_2 dJ2_numberOfTrailingZeros_78)).sn
theorem vi_2_79 : VI 2 79 (kR i_iret) := sr_i (kd mk_2 dJ2_numberOfTrailingZeros_79) mk_2.2.2.2
theorem va_2 : ∀ z ∈ cl_2, VI 2 z.1 z.2 := (fa_c vi_2_0 (fa_c vi_2_1 (fa_c vi_2_2 (fa_c vi_2_3 (fa_c vi_2_4 (fa_c vi_2_5 (fa_c vi_2_6 (fa_c vi_2_7 (fa_c vi_2_8 (fa_c vi_2_9 (fa_c vi_2_12 (fa_c vi_2_13 (fa_c vi_2_15 (fa_c vi_2_16 (fa_c vi_2_17 (fa_c vi_2_18 (fa_c vi_2_19 (fa_c vi_2_20 (fa_c vi_2_23 (fa_c vi_2_26 (fa_c vi_2_29 (fa_c vi_2_30 (fa_c vi_2_32 (fa_c vi_2_33 (fa_c vi_2_34 (fa_c vi_2_35 (fa_c vi_2_38 (fa_c vi_2_41 (fa_c vi_2_44 (fa_c vi_2_45 (fa_c vi_2_47 (fa_c vi_2_48 (fa_c vi_2_49 (fa_c vi_2_50 (fa_c vi_2_52 (fa_c vi_2_55 (fa_c vi_2_58 (fa_c vi_2_59 (fa_c vi_2_60 (fa_c vi_2_61 (fa_c vi_2_62 (fa_c vi_2_63 (fa_c vi_2_64 (fa_c vi_2_67 (fa_c vi_2_70 (fa_c vi_2_71 (fa_c vi_2_72 (fa_c vi_2_73 (fa_c vi_2_74 (fa_c vi_2_75 (fa_c vi_2_76 (fa_c vi_2_77 (fa_c vi_2_78 (fa_c vi_2_79 (fun _ h => absurd h List.not_mem_nil)))))))))))))))))))))))))))))))))))))))))))))))))))))))
theorem vi_3_0 : VI 3 0 (kN (i_iload 0 1)) := (sp_iload_n (kd mk_3 dJ2_bitCount_0)).sn
theorem vi_3_1 : VI 3 1 (kN (i_iload 0 1)) := (sp_iload_n (kd mk_3 dJ2_bitCount_1)).sn
theorem vi_3_2 : VI 3 2 (kN (i_ic (nI 1) 1)) := (sp_iconst (kd mk_3 dJ2_bitCount_2) (by decide +kernel)).sn
theorem vi_3_3 : VI 3 3 (kN (i_bin (fun x y => (x.toUInt32 >>> (y.toUInt32 &&& Int32.toUInt32 31)).toInt32))) := (sp_iushr (kd mk_3 dJ2_bitCount_3)).sn
theorem vi_3_4 : VI 3 4 (kN (i_ic (nI 1431655765) 3)) := (sp_ldcw (kd mk_3 dJ2_bitCount_4) (kc mk_3 q993)).sn
theorem vi_3_7 : VI 3 7 (kN (i_bin (fun x y => x &&& y))) := (sp_iand (kd mk_3 dJ2_bitCount_7)).sn
theorem vi_3_8 : VI 3 8 (kN (i_bin (fun x y => x - y))) := (sp_isub (kd mk_3 dJ2_bitCount_8)).sn
theorem vi_3_9 : VI 3 9 (kN (i_istore 0 1)) := (sp_istore_n (kd mk_3 dJ2_bitCount_9) (kl mk_3 (by decide))).sn
theorem vi_3_10 : VI 3 10 (kN (i_iload 0 1)) := (sp_iload_n (kd mk_3 dJ2_bitCount_10)).sn
theorem vi_3_11 : VI 3 11 (kN (i_ic (nI 858993459) 3)) := (sp_ldcw (kd mk_3 dJ2_bitCount_11) (kc mk_3 q994)).sn
theorem vi_3_14 : VI 3 14 (kN (i_bin (fun x y => x &&& y))) := (sp_iand (kd mk_3 dJ2_bitCount_14)).sn
theorem vi_3_15 : VI 3 15 (kN (i_iload 0 1)) := (sp_iload_n (kd mk_3 dJ2_bitCount_15)).sn
theorem vi_3_16 : VI 3 16 (kN (i_ic (nI 2) 1)) := (sp_iconst (kd mk_3 dJ2_bitCount_16) (by decide +kernel)).sn
theorem vi_3_17 : VI 3 17 (kN (i_bin (fun x y => (x.toUInt32 >>> (y.toUInt32 &&& Int32.toUInt32 31)).toInt32))) := (sp_iushr (kd mk_3 dJ2_bitCount_17)).sn
theorem vi_3_18 : VI 3 18 (kN (i_ic (nI 858993459) 3)) := (sp_ldcw (kd mk_3 dJ2_bitCount_18) (kc mk_3 q994)).sn
theorem vi_3_21 : VI 3 21 (kN (i_bin (fun x y => x &&& y))) := (sp_iand (kd mk_3 dJ2_bitCount_21)).sn
theorem vi_3_22 : VI 3 22 (kN (i_bin (fun x y => x + y))) := (sp_iadd (kd mk_3 dJ2_bitCount_22)).sn
theorem vi_3_23 : VI 3 23 (kN (i_istore 0 1)) := (sp_istore_n (kd mk_3 dJ2_bitCount_23) (kl mk_3 (by decide))).sn
theorem vi_3_24 : VI 3 24 (kN (i_iload 0 1)) := (sp_iload_n (kd mk_3 dJ2_bitCount_24)).sn
theorem vi_3_25 : VI 3 25 (kN (i_iload 0 1)) := (sp_iload_n (kd mk_3 dJ2_bitCount_25)).sn
theorem vi_3_26 : VI 3 26 (kN (i_ic (nI 4) 1)) := (sp_iconst (kd mk_3 dJ2_bitCount_26) (by decide +kernel)).sn
theorem vi_3_27 : VI 3 27 (kN (i_bin (fun x y => (x.toUInt32 >>> (y.toUInt32 &&& Int32.toUInt32 31)).toInt32))) := (sp_iushr (kd mk_3 dJ2_bitCount_27)).sn
theorem vi_3_28 : VI 3 28 (kN (i_bin (fun x y => x + y))) := (sp_iadd (kd mk_3 dJ2_bitCount_28)).sn
theorem vi_3_29 : VI 3 29 (kN (i_ic (nI 252645135) 3)) := (sp_ldcw (kd mk_3 dJ2_bitCount_29) (kc mk_3 q995)).sn
theorem vi_3_32 : VI 3 32 (kN (i_bin (fun x y => x &&& y))) := (sp_iand (kd mk_3 dJ2_bitCount_32)).sn
theorem vi_3_33 : VI 3 33 (kN (i_istore 0 1)) := (sp_istore_n (kd mk_3 dJ2_bitCount_33) (kl mk_3 (by decide))).sn
theorem vi_3_34 : VI 3 34 (kN (i_iload 0 1)) := (sp_iload_n (kd mk_3 dJ2_bitCount_34)).sn
theorem vi_3_35 : VI 3 35 (kN (i_iload 0 1)) := (sp_iload_n (kd mk_3 dJ2_bitCount_35)).sn
theorem vi_3_36 : VI 3 36 (kN (i_ic (nI 8) 2)) := (sp_bipush (kd mk_3 dJ2_bitCount_36) (by decide +kernel)).sn
theorem vi_3_38 : VI 3 38 (kN (i_bin (fun x y => (x.toUInt32 >>> (y.toUInt32 &&& Int32.toUInt32 31)).toInt32))) := (sp_iushr (kd mk_3 dJ2_bitCount_38)).sn
theorem vi_3_39 : VI 3 39 (kN (i_bin (fun x y => x + y))) := (sp_iadd (kd mk_3 dJ2_bitCount_39)).sn
theorem vi_3_40 : VI 3 40 (kN (i_istore 0 1)) := (sp_istore_n (kd mk_3 dJ2_bitCount_40) (kl mk_3 (by decide))).sn
theorem vi_3_41 : VI 3 41 (kN (i_iload 0 1)) := (sp_iload_n (kd mk_3 dJ2_bitCount_41)).sn
theorem vi_3_42 : VI 3 42 (kN (i_iload 0 1)) := (sp_iload_n (kd mk_3 dJ2_bitCount_42)).sn
theorem vi_3_43 : VI 3 43 (kN (i_ic (nI 16) 2)) := (sp_bipush (kd mk_3 dJ2_bitCount_43) (by decide +kernel)).sn
theorem vi_3_45 : VI 3 45 (kN (i_bin (fun x y => (x.toUInt32 >>> (y.toUInt32 &&& Int32.toUInt32 31)).toInt32))) := (sp_iushr (kd mk_3 dJ2_bitCount_45)).sn
theorem vi_3_46 : VI 3 46 (kN (i_bin (fun x y => x + y))) := (sp_iadd (kd mk_3 dJ2_bitCount_46)).sn
theorem vi_3_47 : VI 3 47 (kN (i_istore 0 1)) := (sp_istore_n (kd mk_3 dJ2_bitCount_47) (kl mk_3 (by decide))).sn
theorem vi_3_48 : VI 3 48 (kN (i_iload 0 1)) := (sp_iload_n (kd mk_3 dJ2_bitCount_48)).sn
theorem vi_3_49 : VI 3 49 (kN (i_ic (nI 63) 2)) := (sp_bipush (kd mk_3 dJ2_bitCount_49) (by decide +kernel)).sn
theorem vi_3_51 : VI 3 51 (kN (i_bin (fun x y => x &&& y))) := (sp_iand (kd mk_3 dJ2_bitCount_51)).sn
theorem vi_3_52 : VI 3 52 (kR i_iret) := sr_i (kd mk_3 dJ2_bitCount_52) mk_3.2.2.2
theorem va_3 : ∀ z ∈ cl_3, VI 3 z.1 z.2 := (fa_c vi_3_0 (fa_c vi_3_1 (fa_c vi_3_2 (fa_c vi_3_3 (fa_c vi_3_4 (fa_c vi_3_7 (fa_c vi_3_8 (fa_c vi_3_9 (fa_c vi_3_10 (fa_c vi_3_11 (fa_c vi_3_14 (fa_c vi_3_15 (fa_c vi_3_16 (fa_c vi_3_17 (fa_c vi_3_18 (fa_c vi_3_21 (fa_c vi_3_22 (fa_c vi_3_23 (fa_c vi_3_24 (fa_c vi_3_25 (fa_c vi_3_26 (fa_c vi_3_27 (fa_c vi_3_28 (fa_c vi_3_29 (fa_c vi_3_32 (fa_c vi_3_33 (fa_c vi_3_34 (fa_c vi_3_35 (fa_c vi_3_36 (fa_c vi_3_38 (fa_c vi_3_39 (fa_c vi_3_40 (fa_c vi_3_41 (fa_c vi_3_42 (fa_c vi_3_43 (fa_c vi_3_45 (fa_c vi_3_46 (fa_c vi_3_47 (fa_c vi_3_48 (fa_c vi_3_49 (fa_c vi_3_51 (fa_c vi_3_52 (fun _ h => absurd h List.not_mem_nil)))))))))))))))))))))))))))))))))))))))))))
theorem vi_4_0 : VI 4 0 (kN (i_ic (nI 0) 1)) := (sp_iconst (kd mk_4 dJ0_fill_0) (by decide +kernel)).sn
theorem vi_4_1 : VI 4 1 (kN (i_istore 2 1)) := (sp_istore_n (kd mk_4 dJ0_fill_1) (kl mk_4 (by decide))).sn
theorem vi_4_2 : VI 4 2 (kN (i_aload 0 1)) := (sp_aload_n (kd mk_4 dJ0_fill_2)).sn
theorem vi_4_3 : VI 4 3 (kN (i_alen)) := (sp_alen (kd mk_4 dJ0_fill_3)).sn
theorem vi_4_4 : VI 4 4 (kN (i_istore 3 1)) := (sp_istore_n (kd mk_4 dJ0_fill_4) (kl mk_4 (by decide))).sn
theorem vi_4_5 : VI 4 5 (kN (i_iload 2 1)) := (sp_iload_n (kd mk_4 dJ0_fill_5)).sn
theorem vi_4_6 : VI 4 6 (kN (i_iload 3 1)) := (sp_iload_n (kd mk_4 dJ0_fill_6)).sn
theorem vi_4_7 : VI 4 7 (kN (i_cge 20)) := (sp_cge (kd mk_4 dJ0_fill_7) (by decide)).sn
theorem vi_4_10 : VI 4 10 (kN (i_aload 0 1)) := (sp_aload_n (kd mk_4 dJ0_fill_10)).sn
theorem vi_4_11 : VI 4 11 (kN (i_iload 2 1)) := (sp_iload_n (kd mk_4 dJ0_fill_11)).sn
theorem vi_4_12 : VI 4 12 (kN (i_iload 1 1)) := (sp_iload_n (kd mk_4 dJ0_fill_12)).sn
theorem vi_4_13 : VI 4 13 (kN (i_ast)) := sn_ast (kd mk_4 dJ0_fill_13)
theorem vi_4_14 : VI 4 14 (kN (i_iinc 2 1)) := (sp_iinc (kd mk_4 dJ0_fill_14) (kl mk_4 (by decide))).sn
theorem vi_4_17 : VI 4 17 (kN (i_goto 5)) := (sp_goto (kd mk_4 dJ0_fill_17) (by decide)).sn
theorem vi_4_20 : VI 4 20 (kR i_vret) := sr_v (kd mk_4 dJ0_fill_20) mk_4.2.2.2
theorem va_4 : ∀ z ∈ cl_4, VI 4 z.1 z.2 := (fa_c vi_4_0 (fa_c vi_4_1 (fa_c vi_4_2 (fa_c vi_4_3 (fa_c vi_4_4 (fa_c vi_4_5 (fa_c vi_4_6 (fa_c vi_4_7 (fa_c vi_4_10 (fa_c vi_4_11 (fa_c vi_4_12 (fa_c vi_4_13 (fa_c vi_4_14 (fa_c vi_4_17 (fa_c vi_4_20 (fun _ h => absurd h List.not_mem_nil))))))))))))))))
theorem vi_5_0 : VI 5 0 (kN (i_aload 0 1)) := (sp_aload_n (kd mk_5 dJ3_length_0)).sn
theorem vi_5_1 : VI 5 1 (kN (i_gsv)) := (sp_gsv (kd mk_5 dJ3_length_1) (kf mk_5 q1931)).sn
theorem vi_5_4 : VI 5 4 (kN (i_slen)) := (sp_slen (kd mk_5 dJ3_length_4)).sn
theorem vi_5_5 : VI 5 5 (kN (i_aload 0 1)) := (sp_aload_n (kd mk_5 dJ3_length_5)).sn
theorem vi_5_6 : VI 5 6 (kC (i_inT 9 0)) := v_T mk_5 mk_9 ck_9 ci_9 dJ3_length_6 q532
theorem vi_5_9 : VI 5 9 (kN (i_bin (fun x y => x >>> (y &&& 31)))) := (sp_ishr (kd mk_5 dJ3_length_9)).sn
theorem vi_5_10 : VI 5 10 (kR i_iret) := sr_i (kd mk_5 dJ3_length_10) mk_5.2.2.2
theorem va_5 : ∀ z ∈ cl_5, VI 5 z.1 z.2 := (fa_c vi_5_0 (fa_c vi_5_1 (fa_c vi_5_4 (fa_c vi_5_5 (fa_c vi_5_6 (fa_c vi_5_9 (fa_c vi_5_10 (fun _ h => absurd h List.not_mem_nil))))))))
theorem vi_6_0 : VI 6 0 (kN (i_aload 0 1)) := (sp_aload_n (kd mk_6 dJ3_charAt_0)).sn
theorem vi_6_1 : VI 6 1 (kC (i_inT 10 0)) := v_T mk_6 mk_10 ck_10 ci_10 dJ3_charAt_1 q542
theorem vi_6_4 : VI 6 4 (kN (i_ifeq 16)) := (sp_ifeq (kd mk_6 dJ3_charAt_4) (by decide)).sn
theorem vi_6_7 : VI 6 7 (kN (i_aload 0 1)) := (sp_aload_n (kd mk_6 dJ3_charAt_7)).sn
theorem vi_6_8 : VI 6 8 (kN (i_gsv)) := (sp_gsv (kd mk_6 dJ3_charAt_8) (kf mk_6 q1931)).sn
theorem vi_6_11 : VI 6 11 (kN (i_iload 1 1)) := (sp_iload_n (kd mk_6 dJ3_charAt_11)).sn
theorem vi_6_12 : VI 6 12 (kC (i_inS 12 2)) := v_S mk_6 mk_12 ck_12 cs_12 dJ3_charAt_12 q546
theorem vi_6_15 : VI 6 15 (kR i_cret) := sr_c (kd mk_6 dJ3_charAt_15) mk_6.2.2.2
theorem vi_6_16 : VI 6 16 (kN (i_aload 0 1)) := (sp_aload_n (kd mk_6 dJ3_charAt_16)).sn
theorem vi_6_17 : VI 6 17 (kN (i_gsv)) := (sp_gsv (kd mk_6 dJ3_charAt_17) (kf mk_6 q1931)).sn
theorem vi_6_20 : VI 6 20 (kN (i_iload 1 1)) := (sp_iload_n (kd mk_6 dJ3_charAt_20)).sn
theorem vi_6_21 : VI 6 21 (kN (fun _ => none)) := SN.none _ _
theorem vi_6_24 : VI 6 24 (kR i_cret) := sr_c (kd mk_6 dJ3_charAt_24) mk_6.2.2.2
theorem va_6 : ∀ z ∈ cl_6, VI 6 z.1 z.2 := (fa_c vi_6_0 (fa_c vi_6_1 (fa_c vi_6_4 (fa_c vi_6_7 (fa_c vi_6_8 (fa_c vi_6_11 (fa_c vi_6_12 (fa_c vi_6_15 (fa_c vi_6_16 (fa_c vi_6_17 (fa_c vi_6_20 (fa_c vi_6_21 (fa_c vi_6_24 (fun _ h => absurd h List.not_mem_nil))))))))))))))
theorem vi_7_0 : VI 7 0 (kN (i_aload 0 1)) := (sp_aload_n (kd mk_7 dJ3_indexOf_0)).sn
theorem vi_7_1 : VI 7 1 (kN (i_iload 1 1)) := (sp_iload_n (kd mk_7 dJ3_indexOf_1)).sn
theorem vi_7_2 : VI 7 2 (kN (i_ic (nI 0) 1)) := (sp_iconst (kd mk_7 dJ3_indexOf_2) (by decide +kernel)).sn
theorem vi_7_3 : VI 7 3 (kC (i_inT 8 2)) := v_T mk_7 mk_8 ck_8 ci_8 dJ3_indexOf_3 q590
theorem vi_7_6 : VI 7 6 (kR i_iret) := sr_i (kd mk_7 dJ3_indexOf_6) mk_7.2.2.2
theorem va_7 : ∀ z ∈ cl_7, VI 7 z.1 z.2 := (fa_c vi_7_0 (fa_c vi_7_1 (fa_c vi_7_2 (fa_c vi_7_3 (fa_c vi_7_6 (fun _ h => absurd h List.not_mem_nil))))))
theorem vi_8_0 : VI 8 0 (kN (i_aload 0 1)) := (sp_aload_n (kd mk_8 dJ3_indexOf_2_0)).sn
theorem vi_8_1 : VI 8 1 (kC (i_inT 10 0)) := v_T mk_8 mk_10 ck_10 ci_10 dJ3_indexOf_2_1 q542
theorem vi_8_4 : VI 8 4 (kN (i_ifeq 23)) := (sp_ifeq (kd mk_8 dJ3_indexOf_2_4) (by decide)).sn
theorem vi_8_7 : VI 8 7 (kN (i_aload 0 1)) := (sp_aload_n (kd mk_8 dJ3_indexOf_2_7)).sn
theorem vi_8_8 : VI 8 8 (kN (i_gsv)) := (sp_gsv (kd mk_8 dJ3_indexOf_2_8) (kf mk_8 q1931)).sn
theorem vi_8_11 : VI 8 11 (kN (i_iload 1 1)) := (sp_iload_n (kd mk_8 dJ3_indexOf_2_11)).sn
theorem vi_8_12 : VI 8 12 (kN (i_iload 2 1)) := (sp_iload_n (kd mk_8 dJ3_indexOf_2_12)).sn
theorem vi_8_13 : VI 8 13 (kN (i_aload 0 1)) := (sp_aload_n (kd mk_8 dJ3_indexOf_2_13)).sn
theorem vi_8_14 : VI 8 14 (kC (i_inT 5 0)) := v_T mk_8 mk_5 ck_5 ci_5 dJ3_indexOf_2_14 q594
theorem vi_8_17 : VI 8 17 (kC (i_inS 14 4)) := v_S mk_8 mk_14 ck_14 cs_14 dJ3_indexOf_2_17 q595
theorem vi_8_20 : VI 8 20 (kN (i_goto 36)) := (sp_goto (kd mk_8 dJ3_indexOf_2_20) (by decide)).sn
theorem vi_8_23 : VI 8 23 (kN (i_aload 0 1)) := (sp_aload_n (kd mk_8 dJ3_indexOf_2_23)).sn
theorem vi_8_24 : VI 8 24 (kN (i_gsv)) := (sp_gsv (kd mk_8 dJ3_indexOf_2_24) (kf mk_8 q1931)).sn
theorem vi_8_27 : VI 8 27 (kN (i_iload 1 1)) := (sp_iload_n (kd mk_8 dJ3_indexOf_2_27)).sn
theorem vi_8_28 : VI 8 28 (kN (i_iload 2 1)) := (sp_iload_n (kd mk_8 dJ3_indexOf_2_28)).sn
theorem vi_8_29 : VI 8 29 (kN (i_aload 0 1)) := (sp_aload_n (kd mk_8 dJ3_indexOf_2_29)).sn
theorem vi_8_30 : VI 8 30 (kC (i_inT 5 0)) := v_T mk_8 mk_5 ck_5 ci_5 dJ3_indexOf_2_30 q594
theorem vi_8_33 : VI 8 33 (kN (fun _ => none)) := SN.none _ _
theorem vi_8_36 : VI 8 36 (kR i_iret) := sr_i (kd mk_8 dJ3_indexOf_2_36) mk_8.2.2.2
theorem va_8 : ∀ z ∈ cl_8, VI 8 z.1 z.2 := (fa_c vi_8_0 (fa_c vi_8_1 (fa_c vi_8_4 (fa_c vi_8_7 (fa_c vi_8_8 (fa_c vi_8_11 (fa_c vi_8_12 (fa_c vi_8_13 (fa_c vi_8_14 (fa_c vi_8_17 (fa_c vi_8_20 (fa_c vi_8_23 (fa_c vi_8_24 (fa_c vi_8_27 (fa_c vi_8_28 (fa_c vi_8_29 (fa_c vi_8_30 (fa_c vi_8_33 (fa_c vi_8_36 (fun _ h => absurd h List.not_mem_nil))))))))))))))))))))
theorem vi_9_0 : VI 9 0 (kN (i_ic (nI 1) 3)) := (sp_getsC (kd mk_9 dJ3_coder_0) (kf mk_9 q536)).sn
theorem vi_9_3 : VI 9 3 (kN (i_ifeq 13)) := (sp_ifeq (kd mk_9 dJ3_coder_3) (by decide)).sn
theorem vi_9_6 : VI 9 6 (kN (i_aload 0 1)) := (sp_aload_n (kd mk_9 dJ3_coder_6)).sn
theorem vi_9_7 : VI 9 7 (kN (i_gsc)) := (sp_gsc (kd mk_9 dJ3_coder_7) (kf mk_9 q1932)).sn
theorem vi_9_10 : VI 9 10 (kN (i_goto 14)) := (sp_goto (kd mk_9 dJ3_coder_10) (by decide)).sn
theorem vi_9_13 : VI 9 13 (kN (i_ic (nI 1) 1)) := (sp_iconst (kd mk_9 dJ3_coder_13) (by decide +kernel)).sn
theorem vi_9_14 : VI 9 14 (kR i_bret) := sr_b (kd mk_9 dJ3_coder_14) mk_9.2.2.2
theorem va_9 : ∀ z ∈ cl_9, VI 9 z.1 z.2 := (fa_c vi_9_0 (fa_c vi_9_3 (fa_c vi_9_6 (fa_c vi_9_7 (fa_c vi_9_10 (fa_c vi_9_13 (fa_c vi_9_14 (fun _ h => absurd h List.not_mem_nil))))))))
theorem vi_10_0 : VI 10 0 (kN (i_ic (nI 1) 3)) := (sp_getsC (kd mk_10 dJ3_isLatin1_0) (kf mk_10 q536)).sn
theorem vi_10_3 : VI 10 3 (kN (i_ifeq 17)) := (sp_ifeq (kd mk_10 dJ3_isLatin1_3) (by decide)).sn
theorem vi_10_6 : VI 10 6 (kN (i_aload 0 1)) := (sp_aload_n (kd mk_10 dJ3_isLatin1_6)).sn
theorem vi_10_7 : VI 10 7 (kN (i_gsc)) := (sp_gsc (kd mk_10 dJ3_isLatin1_7) (kf mk_10 q1932)).sn
theorem vi_10_10 : VI 10 10 (kN (i_ifne 17)) := (sp_ifne (kd mk_10 dJ3_isLatin1_10) (by decide)).sn
theorem vi_10_13 : VI 10 13 (kN (i_ic (nI 1) 1)) := (sp_iconst (kd mk_10 dJ3_isLatin1_13) (by decide +kernel)).sn
theorem vi_10_14 : VI 10 14 (kN (i_goto 18)) := (sp_goto (kd mk_10 dJ3_isLatin1_14) (by decide)).sn
theorem vi_10_17 : VI 10 17 (kN (i_ic (nI 0) 1)) := (sp_iconst (kd mk_10 dJ3_isLatin1_17) (by decide +kernel)).sn
theorem vi_10_18 : VI 10 18 (kR i_zret) := sr_z (kd mk_10 dJ3_isLatin1_18) mk_10.2.2.2
theorem va_10 : ∀ z ∈ cl_10, VI 10 z.1 z.2 := (fa_c vi_10_0 (fa_c vi_10_3 (fa_c vi_10_6 (fa_c vi_10_7 (fa_c vi_10_10 (fa_c vi_10_13 (fa_c vi_10_14 (fa_c vi_10_17 (fa_c vi_10_18 (fun _ h => absurd h List.not_mem_nil))))))))))
theorem vi_11_0 : VI 11 0 (kN (i_iload 0 1)) := (sp_iload_n (kd mk_11 dJ3_checkIndex_0)).sn
theorem vi_11_1 : VI 11 1 (kN (i_iload 1 1)) := (sp_iload_n (kd mk_11 dJ3_checkIndex_1)).sn
theorem vi_11_2 : VI 11 2 (kN (i_gc 60 3)) := (sp_gets (kd mk_11 dJ3_checkIndex_2) (List.mem_of_getElem? (i := 5) rfl) (kf mk_11 q552)).sn
theorem vi_11_5 : VI 11 5 (kC (i_inS 16 3)) := v_S mk_11 mk_16 ck_16 cs_16 dJ3_checkIndex_5 q554
theorem vi_11_8 : VI 11 8 (kN (i_pop)) := (sp_pop (kd mk_11 dJ3_checkIndex_8)).sn
theorem vi_11_9 : VI 11 9 (kR i_vret) := sr_v (kd mk_11 dJ3_checkIndex_9) mk_11.2.2.2
theorem va_11 : ∀ z ∈ cl_11, VI 11 z.1 z.2 := (fa_c vi_11_0 (fa_c vi_11_1 (fa_c vi_11_2 (fa_c vi_11_5 (fa_c vi_11_8 (fa_c vi_11_9 (fun _ h => absurd h List.not_mem_nil)))))))
theorem vi_12_0 : VI 12 0 (kN (i_iload 1 1)) := (sp_iload_n (kd mk_12 dJ4_charAt_0)).sn
theorem vi_12_1 : VI 12 1 (kN (i_aload 0 1)) := (sp_aload_n (kd mk_12 dJ4_charAt_1)).sn
theorem vi_12_2 : VI 12 2 (kN (i_slen)) := (sp_slen (kd mk_12 dJ4_charAt_2)).sn
theorem vi_12_3 : VI 12 3 (kC (i_inS 11 2)) := v_S mk_12 mk_11 ck_11 cs_11 dJ4_charAt_3 q549
theorem vi_12_6 : VI 12 6 (kN (i_aload 0 1)) := (sp_aload_n (kd mk_12 dJ4_charAt_6)).sn
theorem vi_12_7 : VI 12 7 (kN (i_iload 1 1)) := (sp_iload_n (kd mk_12 dJ4_charAt_7)).sn
theorem vi_12_8 : VI 12 8 (kN (i_gvb)) := (sp_gvb (kd mk_12 dJ4_charAt_8)).sn
theorem vi_12_9 : VI 12 9 (kN (i_ic (nI 255) 3)) := (sp_sipush (kd mk_12 dJ4_charAt_9) (by decide +kernel)).sn
theorem vi_12_12 : VI 12 12 (kN (i_bin (fun x y => x &&& y))) := (sp_iand (kd mk_12 dJ4_charAt_12)).sn
theorem vi_12_13 : VI 12 13 (kN (i_un (fun x => (x.toUInt32 % 65536).toInt32))) := (sp_i2c (kd mk_12 dJ4_charAt_13)).sn
theorem vi_12_14 : VI 12 14 (kR i_cret) := sr_c (kd mk_12 dJ4_charAt_14) mk_12.2.2.2
theorem va_12 : ∀ z ∈ cl_12, VI 12 z.1 z.2 := (fa_c vi_12_0 (fa_c vi_12_1 (fa_c vi_12_2 (fa_c vi_12_3 (fa_c vi_12_6 (fa_c vi_12_7 (fa_c vi_12_8 (fa_c vi_12_9 (fa_c vi_12_12 (fa_c vi_12_13 (fa_c vi_12_14 (fun _ h => absurd h List.not_mem_nil))))))))))))
theorem vi_13_0 : VI 13 0 (kN (i_iload 0 1)) := (sp_iload_n (kd mk_13 dJ4_canEncode_0)).sn
theorem vi_13_1 : VI 13 1 (kN (i_iflt 15)) := (sp_iflt (kd mk_13 dJ4_canEncode_1) (by decide)).sn
theorem vi_13_4 : VI 13 4 (kN (i_iload 0 1)) := (sp_iload_n (kd mk_13 dJ4_canEncode_4)).sn
theorem vi_13_5 : VI 13 5 (kN (i_ic (nI 255) 3)) := (sp_sipush (kd mk_13 dJ4_canEncode_5) (by decide +kernel)).sn
theorem vi_13_8 : VI 13 8 (kN (i_cgt 15)) := (sp_cgt (kd mk_13 dJ4_canEncode_8) (by decide)).sn
theorem vi_13_11 : VI 13 11 (kN (i_ic (nI 1) 1)) := (sp_iconst (kd mk_13 dJ4_canEncode_11) (by decide +kernel)).sn
theorem vi_13_12 : VI 13 12 (kN (i_goto 16)) := (sp_goto (kd mk_13 dJ4_canEncode_12) (by decide)).sn
theorem vi_13_15 : VI 13 15 (kN (i_ic (nI 0) 1)) := (sp_iconst (kd mk_13 dJ4_canEncode_15) (by decide +kernel)).sn
theorem vi_13_16 : VI 13 16 (kR i_zret) := sr_z (kd mk_13 dJ4_canEncode_16) mk_13.2.2.2
theorem va_13 : ∀ z ∈ cl_13, VI 13 z.1 z.2 := (fa_c vi_13_0 (fa_c vi_13_1 (fa_c vi_13_4 (fa_c vi_13_5 (fa_c vi_13_8 (fa_c vi_13_11 (fa_c vi_13_12 (fa_c vi_13_15 (fa_c vi_13_16 (fun _ h => absurd h List.not_mem_nil))))))))))
theorem vi_14_0 : VI 14 0 (kN (i_iload 1 1)) := (sp_iload_n (kd mk_14 dJ4_indexOf_0)).sn
theorem vi_14_1 : VI 14 1 (kC (i_inS 13 1)) := v_S mk_14 mk_13 ck_13 cs_13 dJ4_indexOf_1 q598
theorem vi_14_4 : VI 14 4 (kN (i_ifne 9)) := (sp_ifne (kd mk_14 dJ4_indexOf_4) (by decide)).sn
theorem vi_14_7 : VI 14 7 (kN (i_ic (-1) 1)) := (sp_iconst (kd mk_14 dJ4_indexOf_7) (by decide +kernel)).sn
theorem vi_14_8 : VI 14 8 (kR i_iret) := sr_i (kd mk_14 dJ4_indexOf_8) mk_14.2.2.2
theorem vi_14_9 : VI 14 9 (kN (i_iload 2 1)) := (sp_iload_n (kd mk_14 dJ4_indexOf_9)).sn
theorem vi_14_10 : VI 14 10 (kN (i_ic (nI 0) 1)) := (sp_iconst (kd mk_14 dJ4_indexOf_10) (by decide +kernel)).sn
theorem vi_14_11 : VI 14 11 (kN (i_mx)) := sn_mx (kd mk_14 dJ4_indexOf_11) (km mk_14 q601) q602 q140 q603
theorem vi_14_14 : VI 14 14 (kN (i_istore 2 1)) := (sp_istore_n (kd mk_14 dJ4_indexOf_14) (kl mk_14 (by decide))).sn
theorem vi_14_15 : VI 14 15 (kN (i_iload 3 1)) := (sp_iload_n (kd mk_14 dJ4_indexOf_15)).sn
theorem vi_14_16 : VI 14 16 (kN (i_aload 0 1)) := (sp_aload_n (kd mk_14 dJ4_indexOf_16)).sn
theorem vi_14_17 : VI 14 17 (kN (i_slen)) := (sp_slen (kd mk_14 dJ4_indexOf_17)).sn
theorem vi_14_18 : VI 14 18 (kN (i_mn)) := sn_mn (kd mk_14 dJ4_indexOf_18) (km mk_14 q604) q581 q140 q582
theorem vi_14_21 : VI 14 21 (kN (i_istore 3 1)) := (sp_istore_n (kd mk_14 dJ4_indexOf_21) (kl mk_14 (by decide))).sn
theorem vi_14_22 : VI 14 22 (kN (i_iload 2 1)) := (sp_iload_n (kd mk_14 dJ4_indexOf_22)).sn
theorem vi_14_23 : VI 14 23 (kN (i_iload 3 1)) := (sp_iload_n (kd mk_14 dJ4_indexOf_23)).sn
theorem vi_14_24 : VI 14 24 (kN (i_clt 29)) := (sp_clt (kd mk_14 dJ4_indexOf_24) (by decide)).sn
theorem vi_14_27 : VI 14 27 (kN (i_ic (-1) 1)) := (sp_iconst (kd mk_14 dJ4_indexOf_27) (by decide +kernel)).sn
theorem vi_14_28 : VI 14 28 (kR i_iret) := sr_i (kd mk_14 dJ4_indexOf_28) mk_14.2.2.2
theorem vi_14_29 : VI 14 29 (kN (i_aload 0 1)) := (sp_aload_n (kd mk_14 dJ4_indexOf_29)).sn
theorem vi_14_30 : VI 14 30 (kN (i_iload 1 1)) := (sp_iload_n (kd mk_14 dJ4_indexOf_30)).sn
theorem vi_14_31 : VI 14 31 (kN (i_iload 2 1)) := (sp_iload_n (kd mk_14 dJ4_indexOf_31)).sn
theorem vi_14_32 : VI 14 32 (kN (i_iload 3 1)) := (sp_iload_n (kd mk_14 dJ4_indexOf_32)).sn
theorem vi_14_33 : VI 14 33 (kC (i_inS 15 4)) := v_S mk_14 mk_15 ck_15 cs_15 dJ4_indexOf_33 q605
theorem vi_14_36 : VI 14 36 (kR i_iret) := sr_i (kd mk_14 dJ4_indexOf_36) mk_14.2.2.2
theorem va_14 : ∀ z ∈ cl_14, VI 14 z.1 z.2 := (fa_c vi_14_0 (fa_c vi_14_1 (fa_c vi_14_4 (fa_c vi_14_7 (fa_c vi_14_8 (fa_c vi_14_9 (fa_c vi_14_10 (fa_c vi_14_11 (fa_c vi_14_14 (fa_c vi_14_15 (fa_c vi_14_16 (fa_c vi_14_17 (fa_c vi_14_18 (fa_c vi_14_21 (fa_c vi_14_22 (fa_c vi_14_23 (fa_c vi_14_24 (fa_c vi_14_27 (fa_c vi_14_28 (fa_c vi_14_29 (fa_c vi_14_30 (fa_c vi_14_31 (fa_c vi_14_32 (fa_c vi_14_33 (fa_c vi_14_36 (fun _ h => absurd h List.not_mem_nil))))))))))))))))))))))))))
theorem vi_15_0 : VI 15 0 (kN (i_iload 1 1)) := (sp_iload_n (kd mk_15 dJ4_indexOfChar_0)).sn
theorem vi_15_1 : VI 15 1 (kN (i_un (fun x => x.toInt8.toInt32))) := (sp_i2b (kd mk_15 dJ4_indexOfChar_1)).sn
theorem vi_15_2 : VI 15 2 (kN (i_istore 4 2)) := (sp_istore (kd mk_15 dJ4_indexOfChar_2) (kl mk_15 (by decide))).sn
theorem vi_15_4 : VI 15 4 (kN (i_iload 2 1)) := (sp_iload_n (kd mk_15 dJ4_indexOfChar_4)).sn
theorem vi_15_5 : VI 15 5 (kN (i_istore 5 2)) := (sp_istore (kd mk_15 dJ4_indexOfChar_5) (kl mk_15 (by decide))).sn
theorem vi_15_7 : VI 15 7 (kN (i_iload 5 2)) := (sp_iload (kd mk_15 dJ4_indexOfChar_7)).sn
theorem vi_15_9 : VI 15 9 (kN (i_iload 3 1)) := (sp_iload_n (kd mk_15 dJ4_indexOfChar_9)).sn
theorem vi_15_10 : VI 15 10 (kN (i_cge 31)) := (sp_cge (kd mk_15 dJ4_indexOfChar_10) (by decide)).sn
theorem vi_15_13 : VI 15 13 (kN (i_aload 0 1)) := (sp_aload_n (kd mk_15 dJ4_indexOfChar_13)).sn
theorem vi_15_14 : VI 15 14 (kN (i_iload 5 2)) := (sp_iload (kd mk_15 dJ4_indexOfChar_14)).sn
theorem vi_15_16 : VI 15 16 (kN (i_gvb)) := (sp_gvb (kd mk_15 dJ4_indexOfChar_16)).sn
theorem vi_15_17 : VI 15 17 (kN (i_iload 4 2)) := (sp_iload (kd mk_15 dJ4_indexOfChar_17)).sn
theorem vi_15_19 : VI 15 19 (kN (i_cne 25)) := (sp_cne (kd mk_15 dJ4_indexOfChar_19) (by decide)).sn
theorem vi_15_22 : VI 15 22 (kN (i_iload 5 2)) := (sp_iload (kd mk_15 dJ4_indexOfChar_22)).sn
theorem vi_15_24 : VI 15 24 (kR i_iret) := sr_i (kd mk_15 dJ4_indexOfChar_24) mk_15.2.2.2
theorem vi_15_25 : VI 15 25 (kN (i_iinc 5 1)) := (sp_iinc (kd mk_15 dJ4_indexOfChar_25) (kl mk_15 (by decide))).sn
theorem vi_15_28 : VI 15 28 (kN (i_goto 7)) := (sp_goto (kd mk_15 dJ4_indexOfChar_28) (by decide)).sn
theorem vi_15_31 : VI 15 31 (kN (i_ic (-1) 1)) := (sp_iconst (kd mk_15 dJ4_indexOfChar_31) (by decide +kernel)).sn
theorem vi_15_32 : VI 15 32 (kR i_iret) := sr_i (kd mk_15 dJ4_indexOfChar_32) mk_15.2.2.2
theorem va_15 : ∀ z ∈ cl_15, VI 15 z.1 z.2 := (fa_c vi_15_0 (fa_c vi_15_1 (fa_c vi_15_2 (fa_c vi_15_4 (fa_c vi_15_5 (fa_c vi_15_7 (fa_c vi_15_9 (fa_c vi_15_10 (fa_c vi_15_13 (fa_c vi_15_14 (fa_c vi_15_16 (fa_c vi_15_17 (fa_c vi_15_19 (fa_c vi_15_22 (fa_c vi_15_24 (fa_c vi_15_25 (fa_c vi_15_28 (fa_c vi_15_31 (fa_c vi_15_32 (fun _ h => absurd h List.not_mem_nil))))))))))))))))))))
theorem vi_16_0 : VI 16 0 (kN (i_iload 0 1)) := (sp_iload_n (kd mk_16 dJ5_checkIndex_0)).sn
theorem vi_16_1 : VI 16 1 (kN (i_iflt 9)) := (sp_iflt (kd mk_16 dJ5_checkIndex_1) (by decide)).sn
theorem vi_16_4 : VI 16 4 (kN (i_iload 0 1)) := (sp_iload_n (kd mk_16 dJ5_checkIndex_4)).sn
theorem vi_16_5 : VI 16 5 (kN (i_iload 1 1)) := (sp_iload_n (kd mk_16 dJ5_checkIndex_5)).sn
theorem vi_16_6 : VI 16 6 (kN (i_clt 16)) := (sp_clt (kd mk_16 dJ5_checkIndex_6) (by decide)).sn
theorem vi_16_9 : VI 16 9 (kN (i_aload 2 1)) := (sp_aload_n (kd mk_16 dJ5_checkIndex_9)).sn
theorem vi_16_10 : VI 16 10 (kN (i_iload 0 1)) := (sp_iload_n (kd mk_16 dJ5_checkIndex_10)).sn
theorem vi_16_11 : VI 16 11 (kN (i_iload 1 1)) := (sp_iload_n (kd mk_16 dJ5_checkIndex_11)).sn
theorem vi_16_12 : VI 16 12 (kN (fun _ => none)) := SN.none _ _
theorem vi_16_15 : VI 16 15 (kT) := (kd mk_16 dJ5_checkIndex_15)
theorem vi_16_16 : VI 16 16 (kN (i_iload 0 1)) := (sp_iload_n (kd mk_16 dJ5_checkIndex_16)).sn
theorem vi_16_17 : VI 16 17 (kR i_iret) := sr_i (kd mk_16 dJ5_checkIndex_17) mk_16.2.2.2
theorem va_16 : ∀ z ∈ cl_16, VI 16 z.1 z.2 := (fa_c vi_16_0 (fa_c vi_16_1 (fa_c vi_16_4 (fa_c vi_16_5 (fa_c vi_16_6 (fa_c vi_16_9 (fa_c vi_16_10 (fa_c vi_16_11 (fa_c vi_16_12 (fa_c vi_16_15 (fa_c vi_16_16 (fa_c vi_16_17 (fun _ h => absurd h List.not_mem_nil)))))))))))))
theorem vi_17_0 : VI 17 0 (kN (i_aload 0 1)) := (sp_aload_n (kd mk_17 dJ10_init_0)).sn
theorem vi_17_1 : VI 17 1 (kN (i_obj)) := (sp_obj (kd mk_17 dJ10_init_1) (km mk_17 q750) q167 q168).sn
theorem vi_17_4 : VI 17 4 (kR i_vret) := sr_v (kd mk_17 dJ10_init_4) mk_17.2.2.2
theorem va_17 : ∀ z ∈ cl_17, VI 17 z.1 z.2 := (fa_c vi_17_0 (fa_c vi_17_1 (fa_c vi_17_4 (fun _ h => absurd h List.not_mem_nil))))
theorem vi_18_0 : VI 18 0 (kN (i_aload 0 1)) := (sp_aload_n (kd mk_18 dJ8_init_2_0)).sn
theorem vi_18_1 : VI 18 1 (kN (i_obj)) := (sp_obj (kd mk_18 dJ8_init_2_1) (km mk_18 q679) q167 q168).sn
theorem vi_18_4 : VI 18 4 (kN (i_aload 0 1)) := (sp_aload_n (kd mk_18 dJ8_init_2_4)).sn
theorem vi_18_5 : VI 18 5 (kN (i_aload 0 1)) := (sp_aload_n (kd mk_18 dJ8_init_2_5)).sn
theorem vi_18_6 : VI 18 6 (kN (i_putP 4 0)) := v_putP_4 mk_18 (by decide) dJ8_init_2_6 rfl rfl (Or.inl rfl) q708
theorem vi_18_9 : VI 18 9 (kN (i_aload 0 1)) := (sp_aload_n (kd mk_18 dJ8_init_2_9)).sn
theorem vi_18_10 : VI 18 10 (kN (i_gc 61 3)) := (sp_gets (kd mk_18 dJ8_init_2_10) (List.mem_of_getElem? (i := 6) rfl) (kf mk_18 q680)).sn
theorem vi_18_13 : VI 18 13 (kN (i_putP 4 1)) := v_putP_4 mk_18 (by decide) dJ8_init_2_13 rfl rfl (Or.inl rfl) q709
theorem vi_18_16 : VI 18 16 (kN (i_aload 0 1)) := (sp_aload_n (kd mk_18 dJ8_init_2_16)).sn
theorem vi_18_17 : VI 18 17 (kN (i_gc 62 3)) := (sp_gets (kd mk_18 dJ8_init_2_17) (List.mem_of_getElem? (i := 7) rfl) (kf mk_18 q682)).sn
theorem vi_18_20 : VI 18 20 (kN (i_putP 4 2)) := v_putP_4 mk_18 (by decide) dJ8_init_2_20 rfl rfl (Or.inl rfl) q710
theorem vi_18_23 : VI 18 23 (kN (i_iload 4 2)) := (sp_iload (kd mk_18 dJ8_init_2_23)).sn
theorem vi_18_25 : VI 18 25 (kN (i_ifeq 36)) := (sp_ifeq (kd mk_18 dJ8_init_2_25) (by decide)).sn
theorem vi_18_28 : VI 18 28 (kN (i_aload 0 1)) := (sp_aload_n (kd mk_18 dJ8_init_2_28)).sn
theorem vi_18_29 : VI 18 29 (kN (fun _ => none)) := SN.none _ _
theorem vi_18_32 : VI 18 32 (kN (i_pop)) := (sp_pop (kd mk_18 dJ8_init_2_32)).sn
theorem vi_18_33 : VI 18 33 (kN (i_goto 41)) := (sp_goto (kd mk_18 dJ8_init_2_33) (by decide)).sn
theorem vi_18_36 : VI 18 36 (kN (i_aload 0 1)) := (sp_aload_n (kd mk_18 dJ8_init_2_36)).sn
theorem vi_18_37 : VI 18 37 (kN (i_null)) := (sp_null (kd mk_18 dJ8_init_2_37)).sn
theorem vi_18_38 : VI 18 38 (kN (i_putP 4 1)) := v_putP_4 mk_18 (by decide) dJ8_init_2_38 rfl rfl (Or.inl rfl) q709
theorem vi_18_41 : VI 18 41 (kN (i_aload 0 1)) := (sp_aload_n (kd mk_18 dJ8_init_2_41)).sn
theorem vi_18_42 : VI 18 42 (kN (i_aload 1 1)) := (sp_aload_n (kd mk_18 dJ8_init_2_42)).sn
theorem vi_18_43 : VI 18 43 (kN (i_putP 4 3)) := v_putP_4 mk_18 (by decide) dJ8_init_2_43 rfl rfl (Or.inl rfl) q707
theorem vi_18_46 : VI 18 46 (kN (i_aload 0 1)) := (sp_aload_n (kd mk_18 dJ8_init_2_46)).sn
theorem vi_18_47 : VI 18 47 (kN (i_aload 2 1)) := (sp_aload_n (kd mk_18 dJ8_init_2_47)).sn
theorem vi_18_48 : VI 18 48 (kN (i_putP 4 0)) := v_putP_4 mk_18 (by decide) dJ8_init_2_48 rfl rfl (Or.inl rfl) q708
theorem vi_18_51 : VI 18 51 (kN (i_iload 3 1)) := (sp_iload_n (kd mk_18 dJ8_init_2_51)).sn
theorem vi_18_52 : VI 18 52 (kN (i_ifne 60)) := (sp_ifne (kd mk_18 dJ8_init_2_52) (by decide)).sn
theorem vi_18_55 : VI 18 55 (kN (i_aload 0 1)) := (sp_aload_n (kd mk_18 dJ8_init_2_55)).sn
theorem vi_18_56 : VI 18 56 (kN (i_null)) := (sp_null (kd mk_18 dJ8_init_2_56)).sn
theorem vi_18_57 : VI 18 57 (kN (i_putP 4 2)) := v_putP_4 mk_18 (by decide) dJ8_init_2_57 rfl rfl (Or.inl rfl) q710
theorem vi_18_60 : VI 18 60 (kR i_vret) := sr_v (kd mk_18 dJ8_init_2_60) mk_18.2.2.2
theorem va_18 : ∀ z ∈ cl_18, VI 18 z.1 z.2 := (fa_c vi_18_0 (fa_c vi_18_1 (fa_c vi_18_4 (fa_c vi_18_5 (fa_c vi_18_6 (fa_c vi_18_9 (fa_c vi_18_10 (fa_c vi_18_13 (fa_c vi_18_16 (fa_c vi_18_17 (fa_c vi_18_20 (fa_c vi_18_23 (fa_c vi_18_25 (fa_c vi_18_28 (fa_c vi_18_29 (fa_c vi_18_32 (fa_c vi_18_33 (fa_c vi_18_36 (fa_c vi_18_37 (fa_c vi_18_38 (fa_c vi_18_41 (fa_c vi_18_42 (fa_c vi_18_43 (fa_c vi_18_46 (fa_c vi_18_47 (fa_c vi_18_48 (fa_c vi_18_51 (fa_c vi_18_52 (fa_c vi_18_55 (fa_c vi_18_56 (fa_c vi_18_57 (fa_c vi_18_60 (fun _ h => absurd h List.not_mem_nil)))))))))))))))))))))))))))))))))
theorem vi_19_0 : VI 19 0 (kN (i_aload 0 1)) := (sp_aload_n (kd mk_19 dJ9_init_0)).sn
theorem vi_19_1 : VI 19 1 (kN (i_aload 1 1)) := (sp_aload_n (kd mk_19 dJ9_init_1)).sn
theorem vi_19_2 : VI 19 2 (kN (i_aload 2 1)) := (sp_aload_n (kd mk_19 dJ9_init_2)).sn
theorem vi_19_3 : VI 19 3 (kN (i_iload 3 1)) := (sp_iload_n (kd mk_19 dJ9_init_3)).sn
theorem vi_19_4 : VI 19 4 (kN (i_iload 4 2)) := (sp_iload (kd mk_19 dJ9_init_4)).sn
theorem vi_19_6 : VI 19 6 (kC (i_inI 18 4)) := v_I mk_19 mk_18 ck_18 cc_18 dJ9_init_6 q699
theorem vi_19_9 : VI 19 9 (kR i_vret) := sr_v (kd mk_19 dJ9_init_9) mk_19.2.2.2
theorem va_19 : ∀ z ∈ cl_19, VI 19 z.1 z.2 := (fa_c vi_19_0 (fa_c vi_19_1 (fa_c vi_19_2 (fa_c vi_19_3 (fa_c vi_19_4 (fa_c vi_19_6 (fa_c vi_19_9 (fun _ h => absurd h List.not_mem_nil))))))))
