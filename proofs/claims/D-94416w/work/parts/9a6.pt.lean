/-! CALLS of the component: a place more -/
section
variable {d : Nat} {h : xH} {P : sS} {w : Nat} {a b c e : Int32}
theorem nX0_place (X : XR h P) (W : WF P) (hw : w ≤ 1) : XG (d + 6) h mX0_place [.ref 64, .int (nI w), .int a, .int b, .int c, .int e] (q_place P w a b c e) := by
  have T := XR_T X
  have no := fun k : Int32 => kX0_no (d := d + 5) T (k := k)
  have W1 := W.1.2.2.1
  have h12 := W.1.2.2.2.1
  obtain ⟨ow, s, X1⟩ := id X
  have x0 := X1.1.1.1
  have x2 := X1.2.1
  have X3 := X1.2.2.1
  have x12 := X1.2.2.2.2.2.2.2.2.2.2.2.1
  have X30 := X3
  obtain ⟨y1, y2, -, -, ⟨p, p1, p2⟩, -⟩ := X30
  obtain ⟨g1, g2, g3, g4, g5, g6⟩ := p2
  have tp := g3.1
  have SZ := kJ2_size (d := d + 5) g3
  unfold q_place
  rw [W1]
  by_cases h0 : sP_ (pA P) = 12
  · rw [h0, decide_eq_true rfl]
    rw [h0] at SZ
    refine XG_nn X ?_
    simp (disch := first | assumption | exact nI_ne0 (by decide) (by decide) | exact zb_01 | exact Or.inl rfl | exact Or.inr rfl | with_unfolding_all exact id (by assumption) | with_unfolding_all exact id (xix_8 (by assumption) (by omega) (by omega)) | omega) only [wX0_place_e, wX0_place_0, wX0_place_1, wX0_place_4, wX0_place_7, wX0_place_10, wX0_place_12, wX0_place_15, wX0_place_16, wX0_place_18, wX0_place_21, wX0_place_22, wX0_place_23, wX0_place_24, wX0_place_25, wX0_place_28, wX0_place_31, wX0_place_34, wX0_place_35, wX0_place_36, wX0_place_37, wX0_place_40, wX0_place_43, wX0_place_46, wX0_place_48, wX0_place_49, wX0_place_50, wX0_place_51, wX0_place_52, wX0_place_55, wX0_place_58, wX0_place_60, wX0_place_61, wX0_place_62, wX0_place_63, wX0_place_64, wX0_place_67, wX0_place_70, wX0_place_71, wX0_place_73, wX0_place_76, wX0_place_77, wX0_place_78, wX0_place_81, wX0_place_84, wX0_place_87, wX0_place_88, wX0_place_89, wX0_place_90, wX0_place_91, wX0_place_93, wX0_place_95, wX0_place_98, wX0_place_101, wX0_place_102, wX0_place_103, wX0_place_106, wX0_place_109, wX0_place_112, wX0_place_113, wX0_place_114, if_true, if_false, ↓reduceIte, xpu_s, xpu_n, Option.bind_some, xk_i, xk_r, xk_0, xk_u, xk_l, xk_k, xk_q, rf_s, rf_n, o_TI, o_TL, o_TR, o_NI, o_NL, o_NR, o_XI, o_XL, o_XR, o_RI, o_RL, o_LI, o_LR, o_IL, o_IR, o_II, o_LL, o_RR, o_pII, o_pLL, up_s, q_e1, q_e2, Nat.zero_add, Nat.reduceEqDiff, Nat.reduceAdd, Nat.reduceMul, Nat.reduceSub, Nat.reduceLT, Nat.reduceLeDiff, Nat.reduceDiv, Nat.reduceMod, nI_c, nI_add, up_ne, kX0_in, l6a_0, l6b_0, l6a_1, l6b_1, l6a_2, l6b_2, l6a_3, l6b_3, l6a_4, l6b_4, l6a_5, l6b_5, l6a_7, l6b_7, l6a_20, l6b_20, l6a_30, l6b_30, l6a_39, l6b_39, l6a_40, l6b_40, l6a_60, l6b_60, l6a_99, l6b_99, l6a_100, l6b_100, l6a_200, l6b_200, l6a_300, l6b_300, l6a_600, l6b_600, l6a_999, l6b_999, l6a_1000, l6b_1000, l6a_9999, l6b_9999, l6a_1000000, l6b_1000000, l6a_12, l6b_12, l64_xx, wi_d, one_ne0, zb_0, not_true_eq_false, not_false_eq_true, and_self, and_true, true_and, and_false, false_and, or_true, true_or, or_false, false_or, decide_true, decide_false, zb_t, zb_f, zb_0, zb_1, eq_self, cond_true, cond_false, Bool.true_eq_false, Bool.false_eq_true, Bool.and_true, Bool.true_and, Bool.and_false, Bool.false_and, Bool.or_true, Bool.true_or, Bool.or_false, Bool.false_or, nx_2, nx_3, nx_5, nx_6, nx_7, nx_f, nx_s, nx_w, ns_2, ns_3, ns_5, ns_6, ns_7, no, x2, p1, SZ]
  · have n12 : (nI (sP_ (pA P)) = nI 12) = False := by rw [nI_eqI (by omega) (by omega)]; exact eq_false h0
    rw [decide_eq_false (fun z => by rw [n12] at z; exact z)]
    cases h1 : wi a (nI 0) (nI 300) with
    | false =>
      refine XG_nn X ?_
      simp (disch := first | assumption | exact nI_ne0 (by decide) (by decide) | exact zb_01 | exact Or.inl rfl | exact Or.inr rfl | with_unfolding_all exact id (by assumption) | with_unfolding_all exact id (xix_8 (by assumption) (by omega) (by omega)) | omega) only [wX0_place_e, wX0_place_0, wX0_place_1, wX0_place_4, wX0_place_7, wX0_place_10, wX0_place_12, wX0_place_15, wX0_place_16, wX0_place_18, wX0_place_21, wX0_place_22, wX0_place_23, wX0_place_24, wX0_place_25, wX0_place_28, wX0_place_31, wX0_place_34, wX0_place_35, wX0_place_36, wX0_place_37, wX0_place_40, wX0_place_43, wX0_place_46, wX0_place_48, wX0_place_49, wX0_place_50, wX0_place_51, wX0_place_52, wX0_place_55, wX0_place_58, wX0_place_60, wX0_place_61, wX0_place_62, wX0_place_63, wX0_place_64, wX0_place_67, wX0_place_70, wX0_place_71, wX0_place_73, wX0_place_76, wX0_place_77, wX0_place_78, wX0_place_81, wX0_place_84, wX0_place_87, wX0_place_88, wX0_place_89, wX0_place_90, wX0_place_91, wX0_place_93, wX0_place_95, wX0_place_98, wX0_place_101, wX0_place_102, wX0_place_103, wX0_place_106, wX0_place_109, wX0_place_112, wX0_place_113, wX0_place_114, if_true, if_false, ↓reduceIte, xpu_s, xpu_n, Option.bind_some, xk_i, xk_r, xk_0, xk_u, xk_l, xk_k, xk_q, rf_s, rf_n, o_TI, o_TL, o_TR, o_NI, o_NL, o_NR, o_XI, o_XL, o_XR, o_RI, o_RL, o_LI, o_LR, o_IL, o_IR, o_II, o_LL, o_RR, o_pII, o_pLL, up_s, q_e1, q_e2, Nat.zero_add, Nat.reduceEqDiff, Nat.reduceAdd, Nat.reduceMul, Nat.reduceSub, Nat.reduceLT, Nat.reduceLeDiff, Nat.reduceDiv, Nat.reduceMod, nI_c, nI_add, up_ne, kX0_in, l6a_0, l6b_0, l6a_1, l6b_1, l6a_2, l6b_2, l6a_3, l6b_3, l6a_4, l6b_4, l6a_5, l6b_5, l6a_7, l6b_7, l6a_20, l6b_20, l6a_30, l6b_30, l6a_39, l6b_39, l6a_40, l6b_40, l6a_60, l6b_60, l6a_99, l6b_99, l6a_100, l6b_100, l6a_200, l6b_200, l6a_300, l6b_300, l6a_600, l6b_600, l6a_999, l6b_999, l6a_1000, l6b_1000, l6a_9999, l6b_9999, l6a_1000000, l6b_1000000, l6a_12, l6b_12, l64_xx, wi_d, one_ne0, zb_0, not_true_eq_false, not_false_eq_true, and_self, and_true, true_and, and_false, false_and, or_true, true_or, or_false, false_or, decide_true, decide_false, zb_t, zb_f, zb_0, zb_1, eq_self, cond_true, cond_false, Bool.true_eq_false, Bool.false_eq_true, Bool.and_true, Bool.true_and, Bool.and_false, Bool.false_and, Bool.or_true, Bool.true_or, Bool.or_false, Bool.false_or, nx_2, nx_3, nx_5, nx_6, nx_7, nx_f, nx_s, nx_w, ns_2, ns_3, ns_5, ns_6, ns_7, no, x2, p1, SZ, n12, h1]
    | true =>
      cases h2 : wi b (nI 0) (nI 300) with
      | false =>
        refine XG_nn X ?_
        simp (disch := first | assumption | exact nI_ne0 (by decide) (by decide) | exact zb_01 | exact Or.inl rfl | exact Or.inr rfl | with_unfolding_all exact id (by assumption) | with_unfolding_all exact id (xix_8 (by assumption) (by omega) (by omega)) | omega) only [wX0_place_e, wX0_place_0, wX0_place_1, wX0_place_4, wX0_place_7, wX0_place_10, wX0_place_12, wX0_place_15, wX0_place_16, wX0_place_18, wX0_place_21, wX0_place_22, wX0_place_23, wX0_place_24, wX0_place_25, wX0_place_28, wX0_place_31, wX0_place_34, wX0_place_35, wX0_place_36, wX0_place_37, wX0_place_40, wX0_place_43, wX0_place_46, wX0_place_48, wX0_place_49, wX0_place_50, wX0_place_51, wX0_place_52, wX0_place_55, wX0_place_58, wX0_place_60, wX0_place_61, wX0_place_62, wX0_place_63, wX0_place_64, wX0_place_67, wX0_place_70, wX0_place_71, wX0_place_73, wX0_place_76, wX0_place_77, wX0_place_78, wX0_place_81, wX0_place_84, wX0_place_87, wX0_place_88, wX0_place_89, wX0_place_90, wX0_place_91, wX0_place_93, wX0_place_95, wX0_place_98, wX0_place_101, wX0_place_102, wX0_place_103, wX0_place_106, wX0_place_109, wX0_place_112, wX0_place_113, wX0_place_114, if_true, if_false, ↓reduceIte, xpu_s, xpu_n, Option.bind_some, xk_i, xk_r, xk_0, xk_u, xk_l, xk_k, xk_q, rf_s, rf_n, o_TI, o_TL, o_TR, o_NI, o_NL, o_NR, o_XI, o_XL, o_XR, o_RI, o_RL, o_LI, o_LR, o_IL, o_IR, o_II, o_LL, o_RR, o_pII, o_pLL, up_s, q_e1, q_e2, Nat.zero_add, Nat.reduceEqDiff, Nat.reduceAdd, Nat.reduceMul, Nat.reduceSub, Nat.reduceLT, Nat.reduceLeDiff, Nat.reduceDiv, Nat.reduceMod, nI_c, nI_add, up_ne, kX0_in, l6a_0, l6b_0, l6a_1, l6b_1, l6a_2, l6b_2, l6a_3, l6b_3, l6a_4, l6b_4, l6a_5, l6b_5, l6a_7, l6b_7, l6a_20, l6b_20, l6a_30, l6b_30, l6a_39, l6b_39, l6a_40, l6b_40, l6a_60, l6b_60, l6a_99, l6b_99, l6a_100, l6b_100, l6a_200, l6b_200, l6a_300, l6b_300, l6a_600, l6b_600, l6a_999, l6b_999, l6a_1000, l6b_1000, l6a_9999, l6b_9999, l6a_1000000, l6b_1000000, l6a_12, l6b_12, l64_xx, wi_d, one_ne0, zb_0, not_true_eq_false, not_false_eq_true, and_self, and_true, true_and, and_false, false_and, or_true, true_or, or_false, false_or, decide_true, decide_false, zb_t, zb_f, zb_0, zb_1, eq_self, cond_true, cond_false, Bool.true_eq_false, Bool.false_eq_true, Bool.and_true, Bool.true_and, Bool.and_false, Bool.false_and, Bool.or_true, Bool.true_or, Bool.or_false, Bool.false_or, nx_2, nx_3, nx_5, nx_6, nx_7, nx_f, nx_s, nx_w, ns_2, ns_3, ns_5, ns_6, ns_7, no, x2, p1, SZ, n12, h1, h2]
      | true =>
        cases h3 : wi c (nI 0) a with
        | false =>
          refine XG_nn X ?_
          simp (disch := first | assumption | exact nI_ne0 (by decide) (by decide) | exact zb_01 | exact Or.inl rfl | exact Or.inr rfl | with_unfolding_all exact id (by assumption) | with_unfolding_all exact id (xix_8 (by assumption) (by omega) (by omega)) | omega) only [wX0_place_e, wX0_place_0, wX0_place_1, wX0_place_4, wX0_place_7, wX0_place_10, wX0_place_12, wX0_place_15, wX0_place_16, wX0_place_18, wX0_place_21, wX0_place_22, wX0_place_23, wX0_place_24, wX0_place_25, wX0_place_28, wX0_place_31, wX0_place_34, wX0_place_35, wX0_place_36, wX0_place_37, wX0_place_40, wX0_place_43, wX0_place_46, wX0_place_48, wX0_place_49, wX0_place_50, wX0_place_51, wX0_place_52, wX0_place_55, wX0_place_58, wX0_place_60, wX0_place_61, wX0_place_62, wX0_place_63, wX0_place_64, wX0_place_67, wX0_place_70, wX0_place_71, wX0_place_73, wX0_place_76, wX0_place_77, wX0_place_78, wX0_place_81, wX0_place_84, wX0_place_87, wX0_place_88, wX0_place_89, wX0_place_90, wX0_place_91, wX0_place_93, wX0_place_95, wX0_place_98, wX0_place_101, wX0_place_102, wX0_place_103, wX0_place_106, wX0_place_109, wX0_place_112, wX0_place_113, wX0_place_114, if_true, if_false, ↓reduceIte, xpu_s, xpu_n, Option.bind_some, xk_i, xk_r, xk_0, xk_u, xk_l, xk_k, xk_q, rf_s, rf_n, o_TI, o_TL, o_TR, o_NI, o_NL, o_NR, o_XI, o_XL, o_XR, o_RI, o_RL, o_LI, o_LR, o_IL, o_IR, o_II, o_LL, o_RR, o_pII, o_pLL, up_s, q_e1, q_e2, Nat.zero_add, Nat.reduceEqDiff, Nat.reduceAdd, Nat.reduceMul, Nat.reduceSub, Nat.reduceLT, Nat.reduceLeDiff, Nat.reduceDiv, Nat.reduceMod, nI_c, nI_add, up_ne, kX0_in, l6a_0, l6b_0, l6a_1, l6b_1, l6a_2, l6b_2, l6a_3, l6b_3, l6a_4, l6b_4, l6a_5, l6b_5, l6a_7, l6b_7, l6a_20, l6b_20, l6a_30, l6b_30, l6a_39, l6b_39, l6a_40, l6b_40, l6a_60, l6b_60, l6a_99, l6b_99, l6a_100, l6b_100, l6a_200, l6b_200, l6a_300, l6b_300, l6a_600, l6b_600, l6a_999, l6b_999, l6a_1000, l6b_1000, l6a_9999, l6b_9999, l6a_1000000, l6b_1000000, l6a_12, l6b_12, l64_xx, wi_d, one_ne0, zb_0, not_true_eq_false, not_false_eq_true, and_self, and_true, true_and, and_false, false_and, or_true, true_or, or_false, false_or, decide_true, decide_false, zb_t, zb_f, zb_0, zb_1, eq_self, cond_true, cond_false, Bool.true_eq_false, Bool.false_eq_true, Bool.and_true, Bool.true_and, Bool.and_false, Bool.false_and, Bool.or_true, Bool.true_or, Bool.or_false, Bool.false_or, nx_2, nx_3, nx_5, nx_6, nx_7, nx_f, nx_s, nx_w, ns_2, ns_3, ns_5, ns_6, ns_7, no, x2, p1, SZ, n12, h1, h2, h3]
        | true =>
          cases h4 : wi e (nI 0) b with
          | false =>
            refine XG_nn X ?_
            simp (disch := first | assumption | exact nI_ne0 (by decide) (by decide) | exact zb_01 | exact Or.inl rfl | exact Or.inr rfl | with_unfolding_all exact id (by assumption) | with_unfolding_all exact id (xix_8 (by assumption) (by omega) (by omega)) | omega) only [wX0_place_e, wX0_place_0, wX0_place_1, wX0_place_4, wX0_place_7, wX0_place_10, wX0_place_12, wX0_place_15, wX0_place_16, wX0_place_18, wX0_place_21, wX0_place_22, wX0_place_23, wX0_place_24, wX0_place_25, wX0_place_28, wX0_place_31, wX0_place_34, wX0_place_35, wX0_place_36, wX0_place_37, wX0_place_40, wX0_place_43, wX0_place_46, wX0_place_48, wX0_place_49, wX0_place_50, wX0_place_51, wX0_place_52, wX0_place_55, wX0_place_58, wX0_place_60, wX0_place_61, wX0_place_62, wX0_place_63, wX0_place_64, wX0_place_67, wX0_place_70, wX0_place_71, wX0_place_73, wX0_place_76, wX0_place_77, wX0_place_78, wX0_place_81, wX0_place_84, wX0_place_87, wX0_place_88, wX0_place_89, wX0_place_90, wX0_place_91, wX0_place_93, wX0_place_95, wX0_place_98, wX0_place_101, wX0_place_102, wX0_place_103, wX0_place_106, wX0_place_109, wX0_place_112, wX0_place_113, wX0_place_114, if_true, if_false, ↓reduceIte, xpu_s, xpu_n, Option.bind_some, xk_i, xk_r, xk_0, xk_u, xk_l, xk_k, xk_q, rf_s, rf_n, o_TI, o_TL, o_TR, o_NI, o_NL, o_NR, o_XI, o_XL, o_XR, o_RI, o_RL, o_LI, o_LR, o_IL, o_IR, o_II, o_LL, o_RR, o_pII, o_pLL, up_s, q_e1, q_e2, Nat.zero_add, Nat.reduceEqDiff, Nat.reduceAdd, Nat.reduceMul, Nat.reduceSub, Nat.reduceLT, Nat.reduceLeDiff, Nat.reduceDiv, Nat.reduceMod, nI_c, nI_add, up_ne, kX0_in, l6a_0, l6b_0, l6a_1, l6b_1, l6a_2, l6b_2, l6a_3, l6b_3, l6a_4, l6b_4, l6a_5, l6b_5, l6a_7, l6b_7, l6a_20, l6b_20, l6a_30, l6b_30, l6a_39, l6b_39, l6a_40, l6b_40, l6a_60, l6b_60, l6a_99, l6b_99, l6a_100, l6b_100, l6a_200, l6b_200, l6a_300, l6b_300, l6a_600, l6b_600, l6a_999, l6b_999, l6a_1000, l6b_1000, l6a_9999, l6b_9999, l6a_1000000, l6b_1000000, l6a_12, l6b_12, l64_xx, wi_d, one_ne0, zb_0, not_true_eq_false, not_false_eq_true, and_self, and_true, true_and, and_false, false_and, or_true, true_or, or_false, false_or, decide_true, decide_false, zb_t, zb_f, zb_0, zb_1, eq_self, cond_true, cond_false, Bool.true_eq_false, Bool.false_eq_true, Bool.and_true, Bool.true_and, Bool.and_false, Bool.false_and, Bool.or_true, Bool.true_or, Bool.or_false, Bool.false_or, nx_2, nx_3, nx_5, nx_6, nx_7, nx_f, nx_s, nx_w, ns_2, ns_3, ns_5, ns_6, ns_7, no, x2, p1, SZ, n12, h1, h2, h3, h4]
          | true =>
            have TX1 := XR_TX X1
            obtain ⟨z, ez, n1, n2, n3, n4, n5, n6, n7, gz, oz⟩ := kX19_new (d := d + 5) (a := a) (b := b) (c := c) (e := e) TX1 hw
            have TZ := TX_G TX1 gz
            have px := TX_lt TX1 (a := p) (by rw [tp]; decide)
            have qx := TX_lt TX1 (a := rq h p 1) (by rw [g3.2.2.2.1]; decide)
            have s0 : ∀ y, y < oX h → sm h z y := fun y hy => gz.2.2.2.2.2 y hy (fun q => q)
            have t19 : ∀ k, k < sP_ (pA P) → oT h (li h p k) = 19 := fun k hk => (g5 k hk).2.1
            obtain ⟨G, lz_, rz⟩ := sm_LG (Q := fun y => y < oX h) (t := 19) ⟨g3, g4.1, g4.2, t19⟩ s0 px qx (fun k hk => TX_lt TX1 (by rw [t19 k hk]; decide))
            obtain ⟨z1, e1, G1, l1, l2, r1, gx, ox1⟩ := kJ2_add (d := d + 1) TZ G (by omega) (by omega) n1
            have tpz : oT z p = 4 := G.1.1
            have so : ∀ y, oX h ≤ y → y < oX z → sm z z1 y := fun y hy hy2 => gx.2.2.2.2.2 y hy2 (fun q => by rcases q with q | q <;> omega)
            have m0 := so (oX h) (by omega) (by omega)
            have m1 := so (oX h + 1) (by omega) (by omega)
            have m2 := so (oX h + 2) (by omega) (by omega)
            have gt : GX (fun y => y = p ∨ y = rq h p 1) h z1 4 48 := GX_le (GX_trans (GX_W gz (fun _ _ q => q.elim)) gx (fun y hy q => by rw [rz] at q; exact q)) (by omega) (by omega)
            obtain ⟨ow1, ho⟩ : ∃ ow1 : Nat → Nat, ow1 = fun y => if y = oX h then 4 else if y = oX h + 1 ∨ y = oX h + 2 then 101 else if y = oX h + 3 ∧ y < oX z1 then 3 else ow y := ⟨_, rfl⟩
            have w1 : ∀ y, y < oX h → ow1 y = ow y := fun y hy => by rw [ho]; dsimp only; rw [if_neg (by omega), if_neg (by omega), if_neg (by omega)]
            have wa : ow1 (oX h) = 4 := by rw [ho]; dsimp only; rw [if_pos rfl]
            have wb : ow1 (oX h + 1) = 101 := by rw [ho]; dsimp only; rw [if_neg (by omega), if_pos (Or.inl rfl)]
            have wc : ow1 (oX h + 2) = 101 := by rw [ho]; dsimp only; rw [if_neg (by omega), if_pos (Or.inr rfl)]
            have wd : ow1 (rq z1 p 1) = 3 := by
              rcases r1 with q | ⟨q, q2⟩
              · rw [q, rz, w1 _ qx]; exact g2
              · rw [q, oz, ho]; dsimp only; rw [if_neg (by omega), if_neg (by omega), if_pos (by omega)]
            have w2 : ∀ y, oX z1 ≤ y → ow1 y = 100 := fun y hy => by
              have := gx.1
              rw [ho]; dsimp only
              rw [if_neg (by omega), if_neg (by omega), if_neg (by omega)]
              exact (x12 y (by omega)).2
            have Y := XS_place (x := nI w) (a := a) (b := b) (c := c) (e := e) W.1 TX1 X3 p1 (by omega) gt G1 (fun k hk => (l1 k hk).trans (lz_ k)) l2 w1 wa wb wc wd (m0.1.trans n1) (by rw [m0.2.2.1]; exact n2) (by rw [m0.2.2.1]; exact n3) (by rw [m0.2.2.2.1]; exact n4) (by rw [m0.2.2.2.1]; exact n5) (by rw [m1.1, m1.2.1, m1.2.2.1]; exact n6) (by rw [m2.1, m2.2.1, m2.2.2.1]; exact n7)
            have hW : ∀ y, y < oX h → (y = p ∨ y = rq h p 1) → ow y < 20 ∧ ¬ (9 ≤ oT h y ∧ oT h y ≤ 18) := fun y _ q => by
              have t45 := g3.2.2.2.1
              rcases q with q | q
              · rw [q]; omega
              · rw [q]; omega
            obtain ⟨Xn, kn⟩ := XR_g0 X1 gt hW w1 w2 (fun i => by funext j; exact plA_o (by omega) (by omega)) Y
            have SZ1 := kJ2_size (d := d + 5) G1.1
            have i64 := gt.2.2.2.2.2
            have x13 := X1.2.2.2.2.2.2.2.2.2.2.2.2
            have x11 := X1.2.2.2.2.2.2.2.2.2.2.1
            have f0 : oT z 64 = 1 := by rw [(s0 64 (by omega)).1]; exact x0
            have f1 : oT z1 64 = 1 := Xn.1.1.1
            have f2 := Xn.2.1
            have f3 : oT z1 s = 2 := Xn.2.2.1.2.1
            have f4 : oR z1 s 2 = some p := by
              obtain ⟨-, -, -, -, ⟨p', q1, q2⟩, -⟩ := Y
              have sx := TX_lt TX1 (a := s) (by rw [y2]; decide)
              rw [(i64 s sx (fun q => by rcases q with q | q <;> rw [q] at y1 <;> omega)).2.2.2.1]
              exact p1
            have f5 : oT z1 p = 4 := G1.1.1
            have nm : nI (sP_ (pA P) + 1) - nI 1 = nI (sP_ (pA P)) := pk_sub (by omega)
            refine ⟨z1, ?_, ⟨ow1, s, Xn⟩, kn, ?_, ?_⟩
            · simp (disch := first | assumption | exact nI_ne0 (by decide) (by decide) | exact zb_01 | exact Or.inl rfl | exact Or.inr rfl | with_unfolding_all exact id (by assumption) | with_unfolding_all exact id (xix_8 (by assumption) (by omega) (by omega)) | omega) only [wX0_place_e, wX0_place_0, wX0_place_1, wX0_place_4, wX0_place_7, wX0_place_10, wX0_place_12, wX0_place_15, wX0_place_16, wX0_place_18, wX0_place_21, wX0_place_22, wX0_place_23, wX0_place_24, wX0_place_25, wX0_place_28, wX0_place_31, wX0_place_34, wX0_place_35, wX0_place_36, wX0_place_37, wX0_place_40, wX0_place_43, wX0_place_46, wX0_place_48, wX0_place_49, wX0_place_50, wX0_place_51, wX0_place_52, wX0_place_55, wX0_place_58, wX0_place_60, wX0_place_61, wX0_place_62, wX0_place_63, wX0_place_64, wX0_place_67, wX0_place_70, wX0_place_71, wX0_place_73, wX0_place_76, wX0_place_77, wX0_place_78, wX0_place_81, wX0_place_84, wX0_place_87, wX0_place_88, wX0_place_89, wX0_place_90, wX0_place_91, wX0_place_93, wX0_place_95, wX0_place_98, wX0_place_101, wX0_place_102, wX0_place_103, wX0_place_106, wX0_place_109, wX0_place_112, wX0_place_113, wX0_place_114, if_true, if_false, ↓reduceIte, xpu_s, xpu_n, Option.bind_some, xk_i, xk_r, xk_0, xk_u, xk_l, xk_k, xk_q, rf_s, rf_n, o_TI, o_TL, o_TR, o_NI, o_NL, o_NR, o_XI, o_XL, o_XR, o_RI, o_RL, o_LI, o_LR, o_IL, o_IR, o_II, o_LL, o_RR, o_pII, o_pLL, up_s, q_e1, q_e2, Nat.zero_add, Nat.reduceEqDiff, Nat.reduceAdd, Nat.reduceMul, Nat.reduceSub, Nat.reduceLT, Nat.reduceLeDiff, Nat.reduceDiv, Nat.reduceMod, nI_c, nI_add, up_ne, kX0_in, l6a_0, l6b_0, l6a_1, l6b_1, l6a_2, l6b_2, l6a_3, l6b_3, l6a_4, l6b_4, l6a_5, l6b_5, l6a_7, l6b_7, l6a_20, l6b_20, l6a_30, l6b_30, l6a_39, l6b_39, l6a_40, l6b_40, l6a_60, l6b_60, l6a_99, l6b_99, l6a_100, l6b_100, l6a_200, l6b_200, l6a_300, l6b_300, l6a_600, l6b_600, l6a_999, l6b_999, l6a_1000, l6b_1000, l6a_9999, l6b_9999, l6a_1000000, l6b_1000000, l6a_12, l6b_12, l64_xx, wi_d, one_ne0, zb_0, not_true_eq_false, not_false_eq_true, and_self, and_true, true_and, and_false, false_and, or_true, true_or, or_false, false_or, decide_true, decide_false, zb_t, zb_f, zb_0, zb_1, eq_self, cond_true, cond_false, Bool.true_eq_false, Bool.false_eq_true, Bool.and_true, Bool.true_and, Bool.and_false, Bool.false_and, Bool.or_true, Bool.true_or, Bool.or_false, Bool.false_or, nx_2, nx_3, nx_5, nx_6, nx_7, nx_f, nx_s, nx_w, ns_2, ns_3, ns_5, ns_6, ns_7, no, x2, p1, SZ, n12, h1, h2, h3, h4, ez, e1, f2, f4, SZ1, nm]
            · have := gt.2.1
              omega
            · have := gt.2.2.1
              omega
end
