/-! CALLS over rows of numbers: numbers, write -/
section
variable {d : Nat} {h h1 : xH} {P : sS} {A : rI} {x y z v : Int32} {s i q p n m k r j t : Nat} {f g : rI} {u w : Int64} {l : rL} {ow : Nat → Nat}
def q_numbers (P : sS) (x y z : Int32) : sV := bif wi x (nI 0) (nI 3) && wi y (nI 0) (nI 3) then (bif wi z (nI 0) (nI 40) then (.int (nI 0), qS P (va_up (pS P) x.toNatClampNeg y) (va_up (pM P) x.toNatClampNeg z) (nz (pN P) x.toNatClampNeg z.toNatClampNeg)) else nn P (-3)) else nn P (-2)
/-- the second object's rows of numbers -/
def HNu (h : xH) (f g : rI) (l : rL) : xH := pL (pI (pI (R0 h) 167 f) 168 g) 169 l
theorem HNu_T : oT (HNu h f g l) = oT h := rfl
theorem HNu_N : oN (HNu h f g l) = oN h := rfl
theorem HNu_R : oR (HNu h f g l) = oR h := rfl
theorem HNu_169 : oL (HNu h f g l) 169 = l := rfl
theorem HNu_w9 {l2 : rL} : pL (HNu h f g l) 169 l2 = HNu h f g l2 := by
  unfold HNu
  rw [o_pLL]
theorem HNu_0 : pI (pI (R0 h) 167 f) 168 g = HNu h f g (oL h 169) := by
  unfold HNu
  rw [show oL h 169 = oL (pI (pI (R0 h) 167 f) 168 g) 169 from rfl, pL_self]
theorem MR_HNu (M : MR h P) : MR (HNu h f g l) (qS P f g l) := by
  obtain ⟨H, a1, a2, a3, a4, a5, a6, a7, a8, a9, a10, a11, a12⟩ := MR_0 M
  exact ⟨H, a1, a2, a3, a4, rfl, rfl, rfl, a8, a9, a10, a11, a12⟩
theorem nz_0 : nz l r 0 = l := by
  funext j
  unfold nz
  rw [if_neg (by omega)]
theorem nz_up : va_up (nz l r k) (40 * r + k) 0 = nz l r (k + 1) := by
  funext j
  unfold va_up nz
  by_cases q : j = 40 * r + k
  · rw [if_pos q, if_pos (by omega)]
  · rw [if_neg q]
    by_cases q2 : 40 * r ≤ j ∧ j < 40 * r + k
    · rw [if_pos q2, if_pos (by omega)]
    · rw [if_neg q2, if_neg (by omega)]
theorem nX5_numbers (M : MR h P) : MG (d + 1) h mX5_numbers [.ref 150, .int x, .int y, .int z] (q_numbers P x y z) := by
  obtain ⟨H, m152, m154, m151, m153, m167, m168, m169, m6, m16, m17, m21, m22⟩ := id M
  have no := fun k : Int32 => nX5_no (d := d) k M
  unfold q_numbers
  cases h1 : wi x (nI 0) (nI 3) with
  | false =>
    refine MG_nn M ?_
    simp (disch := first | with_unfolding_all exact id (mok_t H rfl) | exact Or.inr (by with_unfolding_all exact mok_t H rfl) | exact nI_ne0 (by decide) (by decide) | with_unfolding_all exact id (m_x152 H (by omega)) | with_unfolding_all exact id (m_x156 H (by omega)) | with_unfolding_all exact id (m_x158 H (by omega)) | with_unfolding_all exact id (m_x159 H (by omega)) | with_unfolding_all exact id (m_x160 H (by omega)) | exact zb_01 | exact Or.inl rfl | exact Or.inr rfl | omega) only [wX5_numbers_e, wX5_numbers_0, wX5_numbers_1, wX5_numbers_2, wX5_numbers_5, wX5_numbers_6, wX5_numbers_7, wX5_numbers_8, wX5_numbers_11, wX5_numbers_14, wX5_numbers_17, wX5_numbers_18, wX5_numbers_19, wX5_numbers_20, wX5_numbers_23, wX5_numbers_26, wX5_numbers_29, wX5_numbers_30, wX5_numbers_32, wX5_numbers_35, wX5_numbers_36, wX5_numbers_37, wX5_numbers_38, wX5_numbers_39, wX5_numbers_42, wX5_numbers_45, wX5_numbers_48, wX5_numbers_49, wX5_numbers_51, wX5_numbers_54, wX5_numbers_55, wX5_numbers_56, wX5_numbers_59, wX5_numbers_60, wX5_numbers_61, wX5_numbers_62, wX5_numbers_63, wX5_numbers_66, wX5_numbers_67, wX5_numbers_68, wX5_numbers_69, wX5_numbers_70, wX5_numbers_74, wX5_numbers_75, wX5_numbers_78, wX5_numbers_79, wX5_numbers_82, wX5_numbers_84, wX5_numbers_85, wX5_numbers_86, wX5_numbers_88, wX5_numbers_89, wX5_numbers_90, wX5_numbers_91, wX5_numbers_94, wX5_numbers_97, wX5_numbers_98, if_true, if_false, ↓reduceIte, xpu_s, xpu_n, Option.bind_some, xk_i, xk_r, xk_0, xk_u, xk_l, xk_k, xk_q, rf_s, rf_n, R0_p, R0_L, R0_T, R0_N, R0_R, R0_r, R0_6, o_TI, o_TL, o_TR, o_NI, o_NL, o_NR, o_XI, o_XL, o_XR, o_RI, o_RL, o_LI, o_LR, o_IL, o_IR, o_II, o_LL, o_RR, o_pII, o_pLL, up_s, q_e1, q_e2, Nat.zero_add, Nat.reduceEqDiff, Nat.reduceAdd, Nat.reduceMul, Nat.reduceSub, Nat.reduceLT, Nat.reduceLeDiff, Nat.reduceDiv, Nat.reduceMod, m_r1 H, m_r2 H, m_r3 H, m_r4 H, m_r5 H, m_r18 H, m_r19 H, m_r20 H, m_r24 H, m_r25 H, m_r27 H, m_r28 H, m_r29 H, m_r30 H, m_r31 H, m_r32 H, m_r33 H, m_r34 H, m_r35 H, m_n150 H, m_n151 H, m_n152 H, m_n153 H, m_n154 H, m_n155 H, m_n156 H, m_n157 H, m_n158 H, m_n159 H, m_n160 H, m_n161 H, m_n162 H, m_n163 H, m_n164 H, m_n165 H, m_n166 H, m_n167 H, m_n168 H, m_n169 H, nI_c, nI_add, up_ne, kX5_within, l6a_0, l6b_0, l6a_1, l6b_1, l6a_2, l6b_2, l6a_3, l6b_3, l6a_4, l6b_4, l6a_5, l6b_5, l6a_7, l6b_7, l6a_20, l6b_20, l6a_30, l6b_30, l6a_39, l6b_39, l6a_40, l6b_40, l6a_60, l6b_60, l6a_99, l6b_99, l6a_100, l6b_100, l6a_200, l6b_200, l6a_300, l6b_300, l6a_600, l6b_600, l6a_999, l6b_999, l6a_1000, l6b_1000, l6a_9999, l6b_9999, l6a_1000000, l6b_1000000, l6a_12, l6b_12, l64_xx, wi_d, one_ne0, zb_0, not_true_eq_false, not_false_eq_true, and_self, and_true, true_and, and_false, false_and, or_true, true_or, or_false, false_or, decide_true, decide_false, zb_t, zb_f, zb_0, zb_1, eq_self, cond_true, cond_false, Bool.true_eq_false, Bool.false_eq_true, Bool.and_true, Bool.true_and, Bool.and_false, Bool.false_and, Bool.or_true, Bool.true_or, Bool.or_false, Bool.false_or, no, h1]
  | true =>
    cases h2 : wi y (nI 0) (nI 3) with
    | false =>
      refine MG_nn M ?_
      simp (disch := first | with_unfolding_all exact id (mok_t H rfl) | exact Or.inr (by with_unfolding_all exact mok_t H rfl) | exact nI_ne0 (by decide) (by decide) | with_unfolding_all exact id (m_x152 H (by omega)) | with_unfolding_all exact id (m_x156 H (by omega)) | with_unfolding_all exact id (m_x158 H (by omega)) | with_unfolding_all exact id (m_x159 H (by omega)) | with_unfolding_all exact id (m_x160 H (by omega)) | exact zb_01 | exact Or.inl rfl | exact Or.inr rfl | omega) only [wX5_numbers_e, wX5_numbers_0, wX5_numbers_1, wX5_numbers_2, wX5_numbers_5, wX5_numbers_6, wX5_numbers_7, wX5_numbers_8, wX5_numbers_11, wX5_numbers_14, wX5_numbers_17, wX5_numbers_18, wX5_numbers_19, wX5_numbers_20, wX5_numbers_23, wX5_numbers_26, wX5_numbers_29, wX5_numbers_30, wX5_numbers_32, wX5_numbers_35, wX5_numbers_36, wX5_numbers_37, wX5_numbers_38, wX5_numbers_39, wX5_numbers_42, wX5_numbers_45, wX5_numbers_48, wX5_numbers_49, wX5_numbers_51, wX5_numbers_54, wX5_numbers_55, wX5_numbers_56, wX5_numbers_59, wX5_numbers_60, wX5_numbers_61, wX5_numbers_62, wX5_numbers_63, wX5_numbers_66, wX5_numbers_67, wX5_numbers_68, wX5_numbers_69, wX5_numbers_70, wX5_numbers_74, wX5_numbers_75, wX5_numbers_78, wX5_numbers_79, wX5_numbers_82, wX5_numbers_84, wX5_numbers_85, wX5_numbers_86, wX5_numbers_88, wX5_numbers_89, wX5_numbers_90, wX5_numbers_91, wX5_numbers_94, wX5_numbers_97, wX5_numbers_98, if_true, if_false, ↓reduceIte, xpu_s, xpu_n, Option.bind_some, xk_i, xk_r, xk_0, xk_u, xk_l, xk_k, xk_q, rf_s, rf_n, R0_p, R0_L, R0_T, R0_N, R0_R, R0_r, R0_6, o_TI, o_TL, o_TR, o_NI, o_NL, o_NR, o_XI, o_XL, o_XR, o_RI, o_RL, o_LI, o_LR, o_IL, o_IR, o_II, o_LL, o_RR, o_pII, o_pLL, up_s, q_e1, q_e2, Nat.zero_add, Nat.reduceEqDiff, Nat.reduceAdd, Nat.reduceMul, Nat.reduceSub, Nat.reduceLT, Nat.reduceLeDiff, Nat.reduceDiv, Nat.reduceMod, m_r1 H, m_r2 H, m_r3 H, m_r4 H, m_r5 H, m_r18 H, m_r19 H, m_r20 H, m_r24 H, m_r25 H, m_r27 H, m_r28 H, m_r29 H, m_r30 H, m_r31 H, m_r32 H, m_r33 H, m_r34 H, m_r35 H, m_n150 H, m_n151 H, m_n152 H, m_n153 H, m_n154 H, m_n155 H, m_n156 H, m_n157 H, m_n158 H, m_n159 H, m_n160 H, m_n161 H, m_n162 H, m_n163 H, m_n164 H, m_n165 H, m_n166 H, m_n167 H, m_n168 H, m_n169 H, nI_c, nI_add, up_ne, kX5_within, l6a_0, l6b_0, l6a_1, l6b_1, l6a_2, l6b_2, l6a_3, l6b_3, l6a_4, l6b_4, l6a_5, l6b_5, l6a_7, l6b_7, l6a_20, l6b_20, l6a_30, l6b_30, l6a_39, l6b_39, l6a_40, l6b_40, l6a_60, l6b_60, l6a_99, l6b_99, l6a_100, l6b_100, l6a_200, l6b_200, l6a_300, l6b_300, l6a_600, l6b_600, l6a_999, l6b_999, l6a_1000, l6b_1000, l6a_9999, l6b_9999, l6a_1000000, l6b_1000000, l6a_12, l6b_12, l64_xx, wi_d, one_ne0, zb_0, not_true_eq_false, not_false_eq_true, and_self, and_true, true_and, and_false, false_and, or_true, true_or, or_false, false_or, decide_true, decide_false, zb_t, zb_f, zb_0, zb_1, eq_self, cond_true, cond_false, Bool.true_eq_false, Bool.false_eq_true, Bool.and_true, Bool.true_and, Bool.and_false, Bool.false_and, Bool.or_true, Bool.true_or, Bool.or_false, Bool.false_or, no, h1, h2]
    | true =>
      cases h3 : wi z (nI 0) (nI 40) with
      | false =>
        refine MG_nn M ?_
        simp (disch := first | with_unfolding_all exact id (mok_t H rfl) | exact Or.inr (by with_unfolding_all exact mok_t H rfl) | exact nI_ne0 (by decide) (by decide) | with_unfolding_all exact id (m_x152 H (by omega)) | with_unfolding_all exact id (m_x156 H (by omega)) | with_unfolding_all exact id (m_x158 H (by omega)) | with_unfolding_all exact id (m_x159 H (by omega)) | with_unfolding_all exact id (m_x160 H (by omega)) | exact zb_01 | exact Or.inl rfl | exact Or.inr rfl | omega) only [wX5_numbers_e, wX5_numbers_0, wX5_numbers_1, wX5_numbers_2, wX5_numbers_5, wX5_numbers_6, wX5_numbers_7, wX5_numbers_8, wX5_numbers_11, wX5_numbers_14, wX5_numbers_17, wX5_numbers_18, wX5_numbers_19, wX5_numbers_20, wX5_numbers_23, wX5_numbers_26, wX5_numbers_29, wX5_numbers_30, wX5_numbers_32, wX5_numbers_35, wX5_numbers_36, wX5_numbers_37, wX5_numbers_38, wX5_numbers_39, wX5_numbers_42, wX5_numbers_45, wX5_numbers_48, wX5_numbers_49, wX5_numbers_51, wX5_numbers_54, wX5_numbers_55, wX5_numbers_56, wX5_numbers_59, wX5_numbers_60, wX5_numbers_61, wX5_numbers_62, wX5_numbers_63, wX5_numbers_66, wX5_numbers_67, wX5_numbers_68, wX5_numbers_69, wX5_numbers_70, wX5_numbers_74, wX5_numbers_75, wX5_numbers_78, wX5_numbers_79, wX5_numbers_82, wX5_numbers_84, wX5_numbers_85, wX5_numbers_86, wX5_numbers_88, wX5_numbers_89, wX5_numbers_90, wX5_numbers_91, wX5_numbers_94, wX5_numbers_97, wX5_numbers_98, if_true, if_false, ↓reduceIte, xpu_s, xpu_n, Option.bind_some, xk_i, xk_r, xk_0, xk_u, xk_l, xk_k, xk_q, rf_s, rf_n, R0_p, R0_L, R0_T, R0_N, R0_R, R0_r, R0_6, o_TI, o_TL, o_TR, o_NI, o_NL, o_NR, o_XI, o_XL, o_XR, o_RI, o_RL, o_LI, o_LR, o_IL, o_IR, o_II, o_LL, o_RR, o_pII, o_pLL, up_s, q_e1, q_e2, Nat.zero_add, Nat.reduceEqDiff, Nat.reduceAdd, Nat.reduceMul, Nat.reduceSub, Nat.reduceLT, Nat.reduceLeDiff, Nat.reduceDiv, Nat.reduceMod, m_r1 H, m_r2 H, m_r3 H, m_r4 H, m_r5 H, m_r18 H, m_r19 H, m_r20 H, m_r24 H, m_r25 H, m_r27 H, m_r28 H, m_r29 H, m_r30 H, m_r31 H, m_r32 H, m_r33 H, m_r34 H, m_r35 H, m_n150 H, m_n151 H, m_n152 H, m_n153 H, m_n154 H, m_n155 H, m_n156 H, m_n157 H, m_n158 H, m_n159 H, m_n160 H, m_n161 H, m_n162 H, m_n163 H, m_n164 H, m_n165 H, m_n166 H, m_n167 H, m_n168 H, m_n169 H, nI_c, nI_add, up_ne, kX5_within, l6a_0, l6b_0, l6a_1, l6b_1, l6a_2, l6b_2, l6a_3, l6b_3, l6a_4, l6b_4, l6a_5, l6b_5, l6a_7, l6b_7, l6a_20, l6b_20, l6a_30, l6b_30, l6a_39, l6b_39, l6a_40, l6b_40, l6a_60, l6b_60, l6a_99, l6b_99, l6a_100, l6b_100, l6a_200, l6b_200, l6a_300, l6b_300, l6a_600, l6b_600, l6a_999, l6b_999, l6a_1000, l6b_1000, l6a_9999, l6b_9999, l6a_1000000, l6b_1000000, l6a_12, l6b_12, l64_xx, wi_d, one_ne0, zb_0, not_true_eq_false, not_false_eq_true, and_self, and_true, true_and, and_false, false_and, or_true, true_or, or_false, false_or, decide_true, decide_false, zb_t, zb_f, zb_0, zb_1, eq_self, cond_true, cond_false, Bool.true_eq_false, Bool.false_eq_true, Bool.and_true, Bool.true_and, Bool.and_false, Bool.false_and, Bool.or_true, Bool.true_or, Bool.or_false, Bool.false_or, no, h1, h2, h3]
      | true =>
        obtain ⟨r, hr, rfl⟩ := wi_of (by decide) h1
        obtain ⟨n, hn, rfl⟩ := wi_of (by decide) h3
        rw [nI_clamp (by omega), nI_clamp (by omega)]
        have x7 : xix (nI r) (oN h 167) = true := m_x167 H (by omega)
        have x8 : xix (nI r) (oN h 168) = true := m_x168 H (by omega)
        refine ⟨HNu h (va_up (pS P) r y) (va_up (pM P) r (nI n)) (nz (pN P) r n), ?_, MR_HNu M, KX_L (KX_I (KX_I KX_0 (by omega) (by omega)) (by omega) (by omega)) (by omega) (by omega)⟩
        have e0 : C_ (d + 1) mX5_numbers [.ref 150, .int (nI r), .int y, .int (nI n)] h = E_ (d + 1) mX5_numbers 72 [.val (.ref 150), .val (.int (nI r)), .val (.int y), .val (.int (nI n)), .val (.int (nI 0))] [] (HNu h (va_up (pS P) r y) (va_up (pM P) r (nI n)) (nz (pN P) r 0)) := by
          rw [nz_0, ← m169, ← HNu_0]
          simp (disch := first | with_unfolding_all exact id x7 | with_unfolding_all exact id x8 | first | with_unfolding_all exact id (mok_t H rfl) | exact Or.inr (by with_unfolding_all exact mok_t H rfl) | exact nI_ne0 (by decide) (by decide) | with_unfolding_all exact id (m_x152 H (by omega)) | with_unfolding_all exact id (m_x156 H (by omega)) | with_unfolding_all exact id (m_x158 H (by omega)) | with_unfolding_all exact id (m_x159 H (by omega)) | with_unfolding_all exact id (m_x160 H (by omega)) | exact zb_01 | exact Or.inl rfl | exact Or.inr rfl | omega) only [wX5_numbers_e, wX5_numbers_0, wX5_numbers_1, wX5_numbers_2, wX5_numbers_5, wX5_numbers_6, wX5_numbers_7, wX5_numbers_8, wX5_numbers_11, wX5_numbers_14, wX5_numbers_17, wX5_numbers_18, wX5_numbers_19, wX5_numbers_20, wX5_numbers_23, wX5_numbers_26, wX5_numbers_29, wX5_numbers_30, wX5_numbers_32, wX5_numbers_35, wX5_numbers_36, wX5_numbers_37, wX5_numbers_38, wX5_numbers_39, wX5_numbers_42, wX5_numbers_45, wX5_numbers_48, wX5_numbers_49, wX5_numbers_51, wX5_numbers_54, wX5_numbers_55, wX5_numbers_56, wX5_numbers_59, wX5_numbers_60, wX5_numbers_61, wX5_numbers_62, wX5_numbers_63, wX5_numbers_66, wX5_numbers_67, wX5_numbers_68, wX5_numbers_69, wX5_numbers_70, wX5_numbers_74, wX5_numbers_75, wX5_numbers_78, wX5_numbers_79, wX5_numbers_82, wX5_numbers_84, wX5_numbers_85, wX5_numbers_86, wX5_numbers_88, wX5_numbers_89, wX5_numbers_90, wX5_numbers_91, wX5_numbers_94, wX5_numbers_97, wX5_numbers_98, if_true, if_false, ↓reduceIte, xpu_s, xpu_n, Option.bind_some, xk_i, xk_r, xk_0, xk_u, xk_l, xk_k, xk_q, rf_s, rf_n, R0_p, R0_L, R0_T, R0_N, R0_R, R0_r, R0_6, o_TI, o_TL, o_TR, o_NI, o_NL, o_NR, o_XI, o_XL, o_XR, o_RI, o_RL, o_LI, o_LR, o_IL, o_IR, o_II, o_LL, o_RR, o_pII, o_pLL, up_s, q_e1, q_e2, Nat.zero_add, Nat.reduceEqDiff, Nat.reduceAdd, Nat.reduceMul, Nat.reduceSub, Nat.reduceLT, Nat.reduceLeDiff, Nat.reduceDiv, Nat.reduceMod, m_r1 H, m_r2 H, m_r3 H, m_r4 H, m_r5 H, m_r18 H, m_r19 H, m_r20 H, m_r24 H, m_r25 H, m_r27 H, m_r28 H, m_r29 H, m_r30 H, m_r31 H, m_r32 H, m_r33 H, m_r34 H, m_r35 H, m_n150 H, m_n151 H, m_n152 H, m_n153 H, m_n154 H, m_n155 H, m_n156 H, m_n157 H, m_n158 H, m_n159 H, m_n160 H, m_n161 H, m_n162 H, m_n163 H, m_n164 H, m_n165 H, m_n166 H, m_n167 H, m_n168 H, m_n169 H, nI_c, nI_add, up_ne, kX5_within, l6a_0, l6b_0, l6a_1, l6b_1, l6a_2, l6b_2, l6a_3, l6b_3, l6a_4, l6b_4, l6a_5, l6b_5, l6a_7, l6b_7, l6a_20, l6b_20, l6a_30, l6b_30, l6a_39, l6b_39, l6a_40, l6b_40, l6a_60, l6b_60, l6a_99, l6b_99, l6a_100, l6b_100, l6a_200, l6b_200, l6a_300, l6b_300, l6a_600, l6b_600, l6a_999, l6b_999, l6a_1000, l6b_1000, l6a_9999, l6b_9999, l6a_1000000, l6b_1000000, l6a_12, l6b_12, l64_xx, wi_d, one_ne0, zb_0, not_true_eq_false, not_false_eq_true, and_self, and_true, true_and, and_false, false_and, or_true, true_or, or_false, false_or, decide_true, decide_false, zb_t, zb_f, zb_0, zb_1, eq_self, cond_true, cond_false, Bool.true_eq_false, Bool.false_eq_true, Bool.and_true, Bool.true_and, Bool.and_false, Bool.false_and, Bool.or_true, Bool.true_or, Bool.or_false, Bool.false_or, h1, h2, h3, m167, m168]
        rw [e0]
        have m1 : nI 40 * nI r = nI (40 * r) := pk_mul _ _
        have x9 : ∀ k, k < 40 → xix (nI (40 * r + k)) (oN h 169) = true := fun k hk => m_x169 H (by omega)
        refine lpe_st (n := n) (s := ()) (z := ()) (f := fun _ u => u) (P := fun _ _ _ => True) (Q := fun _ e => e = some (some (.int (nI 0)), HNu h (va_up (pS P) r y) (va_up (pM P) r (nI n)) (nz (pN P) r n))) (F := fun k _ _ => E_ (d + 1) mX5_numbers 72 [.val (.ref 150), .val (.int (nI r)), .val (.int y), .val (.int (nI n)), .val (.int (nI k))] [] (HNu h (va_up (pS P) r y) (va_up (pM P) r (nI n)) (nz (pN P) r k))) trivial (fun k _ _ hk _ => ⟨(), ?_, trivial⟩) (fun _ _ _ => ?_)
        · refine wX5_numbers_72.trans ?_
          have lt : (nI k < nI n) = True := eq_true (nI_lt hk (by omega))
          have x9 := x9 k (by omega)
          have fu := nz_up (l := pN P) (r := r) (k := k)
          simp (disch := first | with_unfolding_all exact id x9 | with_unfolding_all exact id (mok_t H rfl) | omega) only [wX5_numbers_e, wX5_numbers_0, wX5_numbers_1, wX5_numbers_2, wX5_numbers_5, wX5_numbers_6, wX5_numbers_7, wX5_numbers_8, wX5_numbers_11, wX5_numbers_14, wX5_numbers_17, wX5_numbers_18, wX5_numbers_19, wX5_numbers_20, wX5_numbers_23, wX5_numbers_26, wX5_numbers_29, wX5_numbers_30, wX5_numbers_32, wX5_numbers_35, wX5_numbers_36, wX5_numbers_37, wX5_numbers_38, wX5_numbers_39, wX5_numbers_42, wX5_numbers_45, wX5_numbers_48, wX5_numbers_49, wX5_numbers_51, wX5_numbers_54, wX5_numbers_55, wX5_numbers_56, wX5_numbers_59, wX5_numbers_60, wX5_numbers_61, wX5_numbers_62, wX5_numbers_63, wX5_numbers_66, wX5_numbers_67, wX5_numbers_68, wX5_numbers_69, wX5_numbers_70, wX5_numbers_74, wX5_numbers_75, wX5_numbers_78, wX5_numbers_79, wX5_numbers_82, wX5_numbers_84, wX5_numbers_85, wX5_numbers_86, wX5_numbers_88, wX5_numbers_89, wX5_numbers_90, wX5_numbers_91, wX5_numbers_94, wX5_numbers_97, wX5_numbers_98, if_true, if_false, ↓reduceIte, xpu_s, xpu_n, Option.bind_some, xk_i, xk_r, xk_0, xk_u, xk_l, xk_k, xk_q, rf_s, rf_n, q_e1, q_e2, Nat.zero_add, Nat.reduceEqDiff, Nat.reduceAdd, Nat.reduceMul, Nat.reduceSub, Nat.reduceLT, Nat.reduceLeDiff, Nat.reduceDiv, Nat.reduceMod, m_r1 H, m_r2 H, m_r3 H, m_r4 H, m_r5 H, m_r18 H, m_r19 H, m_r20 H, m_r24 H, m_r25 H, m_r27 H, m_r28 H, m_r29 H, m_r30 H, m_r31 H, m_r32 H, m_r33 H, m_r34 H, m_r35 H, m_n150 H, m_n151 H, m_n152 H, m_n153 H, m_n154 H, m_n155 H, m_n156 H, m_n157 H, m_n158 H, m_n159 H, m_n160 H, m_n161 H, m_n162 H, m_n163 H, m_n164 H, m_n165 H, m_n166 H, m_n167 H, m_n168 H, m_n169 H, HNu_T, HNu_N, HNu_R, HNu_169, HNu_w9, lt, m1, fu, nI_c, nI_add, not_true_eq_false, not_false_eq_true, and_self, and_true, true_and, and_false, false_and, or_true, true_or, or_false, false_or, decide_true, decide_false, zb_t, zb_f, zb_0, zb_1, eq_self]
        · refine wX5_numbers_72.trans ?_
          simp (disch := first | assumption | exact nI_ne0 (by decide) (by decide) | exact zb_01 | exact Or.inl rfl | exact Or.inr rfl | with_unfolding_all exact id (by assumption) | with_unfolding_all exact id (xix_8 (by assumption) (by omega) (by omega)) | omega) only [wX5_numbers_74, wX5_numbers_75, wX5_numbers_97, wX5_numbers_98, if_true, if_false, ↓reduceIte, xpu_s, xpu_n, Option.bind_some, xk_i, xk_r, xk_0, xk_u, xk_l, xk_k, xk_q, rf_s, rf_n, q_e1, q_e2, Nat.zero_add, Nat.reduceEqDiff, Nat.reduceAdd, Nat.reduceMul, Nat.reduceSub, Nat.reduceLT, Nat.reduceLeDiff, Nat.reduceDiv, Nat.reduceMod, i_irr, not_true_eq_false, not_false_eq_true, and_self, and_true, true_and, and_false, false_and, or_true, true_or, or_false, false_or, decide_true, decide_false, zb_t, zb_f, zb_0, zb_1, eq_self]
theorem nX0_numbers (X : XR h P) : XG (d + 2) h mX0_numbers [.ref 64, .int x, .int y, .int z] (q_numbers P x y z) := by
  have T := XR_T X
  have x0 := T.1.1
  have no := fun k : Int32 => kX0_no (d := d + 1) T (k := k)
  have IR : C_ (d + 1) mX0_isRow [.int x] h = some (some (.int (zb (wi x (nI 0) (nI 3)))), h) := kX0_isRow
  unfold q_numbers
  cases h1 : wi x (nI 0) (nI 3) with
  | false =>
    rw [h1] at IR
    refine XG_nn X ?_
    simp (disch := first | assumption | exact nI_ne0 (by decide) (by decide) | exact zb_01 | exact Or.inl rfl | exact Or.inr rfl | with_unfolding_all exact id (by assumption) | with_unfolding_all exact id (xix_8 (by assumption) (by omega) (by omega)) | omega) only [wX0_numbers_e, wX0_numbers_0, wX0_numbers_1, wX0_numbers_4, wX0_numbers_7, wX0_numbers_8, wX0_numbers_9, wX0_numbers_10, wX0_numbers_13, wX0_numbers_16, wX0_numbers_19, wX0_numbers_20, wX0_numbers_22, wX0_numbers_25, wX0_numbers_26, wX0_numbers_27, wX0_numbers_29, wX0_numbers_32, wX0_numbers_33, wX0_numbers_35, wX0_numbers_38, wX0_numbers_39, wX0_numbers_40, wX0_numbers_43, wX0_numbers_44, wX0_numbers_45, wX0_numbers_46, wX0_numbers_47, wX0_numbers_50, wX0_numbers_53, wX0_numbers_54, wX0_numbers_57, wX0_numbers_58, wX0_numbers_60, wX0_numbers_63, if_true, if_false, ↓reduceIte, xpu_s, xpu_n, Option.bind_some, xk_i, xk_r, xk_0, xk_u, xk_l, xk_k, xk_q, rf_s, rf_n, o_TI, o_TL, o_TR, o_NI, o_NL, o_NR, o_XI, o_XL, o_XR, o_RI, o_RL, o_LI, o_LR, o_IL, o_IR, o_II, o_LL, o_RR, o_pII, o_pLL, up_s, q_e1, q_e2, Nat.zero_add, Nat.reduceEqDiff, Nat.reduceAdd, Nat.reduceMul, Nat.reduceSub, Nat.reduceLT, Nat.reduceLeDiff, Nat.reduceDiv, Nat.reduceMod, nI_c, nI_add, up_ne, kX0_in, l6a_0, l6b_0, l6a_1, l6b_1, l6a_2, l6b_2, l6a_3, l6b_3, l6a_4, l6b_4, l6a_5, l6b_5, l6a_7, l6b_7, l6a_20, l6b_20, l6a_30, l6b_30, l6a_39, l6b_39, l6a_40, l6b_40, l6a_60, l6b_60, l6a_99, l6b_99, l6a_100, l6b_100, l6a_200, l6b_200, l6a_300, l6b_300, l6a_600, l6b_600, l6a_999, l6b_999, l6a_1000, l6b_1000, l6a_9999, l6b_9999, l6a_1000000, l6b_1000000, l6a_12, l6b_12, l64_xx, wi_d, one_ne0, zb_0, not_true_eq_false, not_false_eq_true, and_self, and_true, true_and, and_false, false_and, or_true, true_or, or_false, false_or, decide_true, decide_false, zb_t, zb_f, zb_0, zb_1, eq_self, cond_true, cond_false, Bool.true_eq_false, Bool.false_eq_true, Bool.and_true, Bool.true_and, Bool.and_false, Bool.false_and, Bool.or_true, Bool.true_or, Bool.or_false, Bool.false_or, nx_2, nx_3, nx_5, nx_6, nx_7, nx_f, nx_s, nx_w, ns_2, ns_3, ns_5, ns_6, ns_7, no, IR]
  | true =>
    rw [h1] at IR
    cases h2 : wi y (nI 0) (nI 3) with
    | false =>
      refine XG_nn X ?_
      simp (disch := first | assumption | exact nI_ne0 (by decide) (by decide) | exact zb_01 | exact Or.inl rfl | exact Or.inr rfl | with_unfolding_all exact id (by assumption) | with_unfolding_all exact id (xix_8 (by assumption) (by omega) (by omega)) | omega) only [wX0_numbers_e, wX0_numbers_0, wX0_numbers_1, wX0_numbers_4, wX0_numbers_7, wX0_numbers_8, wX0_numbers_9, wX0_numbers_10, wX0_numbers_13, wX0_numbers_16, wX0_numbers_19, wX0_numbers_20, wX0_numbers_22, wX0_numbers_25, wX0_numbers_26, wX0_numbers_27, wX0_numbers_29, wX0_numbers_32, wX0_numbers_33, wX0_numbers_35, wX0_numbers_38, wX0_numbers_39, wX0_numbers_40, wX0_numbers_43, wX0_numbers_44, wX0_numbers_45, wX0_numbers_46, wX0_numbers_47, wX0_numbers_50, wX0_numbers_53, wX0_numbers_54, wX0_numbers_57, wX0_numbers_58, wX0_numbers_60, wX0_numbers_63, if_true, if_false, ↓reduceIte, xpu_s, xpu_n, Option.bind_some, xk_i, xk_r, xk_0, xk_u, xk_l, xk_k, xk_q, rf_s, rf_n, o_TI, o_TL, o_TR, o_NI, o_NL, o_NR, o_XI, o_XL, o_XR, o_RI, o_RL, o_LI, o_LR, o_IL, o_IR, o_II, o_LL, o_RR, o_pII, o_pLL, up_s, q_e1, q_e2, Nat.zero_add, Nat.reduceEqDiff, Nat.reduceAdd, Nat.reduceMul, Nat.reduceSub, Nat.reduceLT, Nat.reduceLeDiff, Nat.reduceDiv, Nat.reduceMod, nI_c, nI_add, up_ne, kX0_in, l6a_0, l6b_0, l6a_1, l6b_1, l6a_2, l6b_2, l6a_3, l6b_3, l6a_4, l6b_4, l6a_5, l6b_5, l6a_7, l6b_7, l6a_20, l6b_20, l6a_30, l6b_30, l6a_39, l6b_39, l6a_40, l6b_40, l6a_60, l6b_60, l6a_99, l6b_99, l6a_100, l6b_100, l6a_200, l6b_200, l6a_300, l6b_300, l6a_600, l6b_600, l6a_999, l6b_999, l6a_1000, l6b_1000, l6a_9999, l6b_9999, l6a_1000000, l6b_1000000, l6a_12, l6b_12, l64_xx, wi_d, one_ne0, zb_0, not_true_eq_false, not_false_eq_true, and_self, and_true, true_and, and_false, false_and, or_true, true_or, or_false, false_or, decide_true, decide_false, zb_t, zb_f, zb_0, zb_1, eq_self, cond_true, cond_false, Bool.true_eq_false, Bool.false_eq_true, Bool.and_true, Bool.true_and, Bool.and_false, Bool.false_and, Bool.or_true, Bool.true_or, Bool.or_false, Bool.false_or, nx_2, nx_3, nx_5, nx_6, nx_7, nx_f, nx_s, nx_w, ns_2, ns_3, ns_5, ns_6, ns_7, no, IR, h2]
    | true =>
      obtain ⟨r, hr, rfl⟩ := wi_of (by decide) h1
      obtain ⟨t17, t45, n45, r45, t6, -⟩ := XR_nq X (show r < 4 by omega)
      rw [nI_clamp (by omega)]
      cases h3 : wi z (nI 0) (nI 40) with
      | false =>
        by_cases q : nI 40 < z
        · refine XG_nn X ?_
          simp (disch := first | assumption | exact nI_ne0 (by decide) (by decide) | exact zb_01 | exact Or.inl rfl | exact Or.inr rfl | with_unfolding_all exact id (by assumption) | with_unfolding_all exact id (xix_8 (by assumption) (by omega) (by omega)) | omega) only [wX0_numbers_e, wX0_numbers_0, wX0_numbers_1, wX0_numbers_4, wX0_numbers_7, wX0_numbers_8, wX0_numbers_9, wX0_numbers_10, wX0_numbers_13, wX0_numbers_16, wX0_numbers_19, wX0_numbers_20, wX0_numbers_22, wX0_numbers_25, wX0_numbers_26, wX0_numbers_27, wX0_numbers_29, wX0_numbers_32, wX0_numbers_33, wX0_numbers_35, wX0_numbers_38, wX0_numbers_39, wX0_numbers_40, wX0_numbers_43, wX0_numbers_44, wX0_numbers_45, wX0_numbers_46, wX0_numbers_47, wX0_numbers_50, wX0_numbers_53, wX0_numbers_54, wX0_numbers_57, wX0_numbers_58, wX0_numbers_60, wX0_numbers_63, if_true, if_false, ↓reduceIte, xpu_s, xpu_n, Option.bind_some, xk_i, xk_r, xk_0, xk_u, xk_l, xk_k, xk_q, rf_s, rf_n, o_TI, o_TL, o_TR, o_NI, o_NL, o_NR, o_XI, o_XL, o_XR, o_RI, o_RL, o_LI, o_LR, o_IL, o_IR, o_II, o_LL, o_RR, o_pII, o_pLL, up_s, q_e1, q_e2, Nat.zero_add, Nat.reduceEqDiff, Nat.reduceAdd, Nat.reduceMul, Nat.reduceSub, Nat.reduceLT, Nat.reduceLeDiff, Nat.reduceDiv, Nat.reduceMod, nI_c, nI_add, up_ne, kX0_in, l6a_0, l6b_0, l6a_1, l6b_1, l6a_2, l6b_2, l6a_3, l6b_3, l6a_4, l6b_4, l6a_5, l6b_5, l6a_7, l6b_7, l6a_20, l6b_20, l6a_30, l6b_30, l6a_39, l6b_39, l6a_40, l6b_40, l6a_60, l6b_60, l6a_99, l6b_99, l6a_100, l6b_100, l6a_200, l6b_200, l6a_300, l6b_300, l6a_600, l6b_600, l6a_999, l6b_999, l6a_1000, l6b_1000, l6a_9999, l6b_9999, l6a_1000000, l6b_1000000, l6a_12, l6b_12, l64_xx, wi_d, one_ne0, zb_0, not_true_eq_false, not_false_eq_true, and_self, and_true, true_and, and_false, false_and, or_true, true_or, or_false, false_or, decide_true, decide_false, zb_t, zb_f, zb_0, zb_1, eq_self, cond_true, cond_false, Bool.true_eq_false, Bool.false_eq_true, Bool.and_true, Bool.true_and, Bool.and_false, Bool.false_and, Bool.or_true, Bool.true_or, Bool.or_false, Bool.false_or, nx_2, nx_3, nx_5, nx_6, nx_7, nx_f, nx_s, nx_w, ns_2, ns_3, ns_5, ns_6, ns_7, no, IR, h2, q]
        · have q2 : z.toInt < 0 := by
            rcases wi_sw (by decide) h3 with y | y
            · exact y
            · rw [Int32.lt_iff_toInt_lt, nI_toInt (by decide)] at q
              omega
          have xp : xP 4 [.ref (146 + r), .int y, .int z] h = some (some (.int 0), pC h 64 4096) := by
            show (if oT h (146 + r) = 6 then (if z.toInt < 0 then some (some (Value.int 0), pC h 64 4096) else _) else none) = _
            rw [if_pos t6, if_pos q2]
          have no2 : ∀ k : Int32, C_ (d + 1) mX0_no [.ref 64, .int k] (pC h 64 4096) = some (some (.int k), XF (pC h 64 4096) (nsx k)) := fun k => kX0_no (h := pC h 64 4096) T
          refine ⟨XF (pC h 64 4096) 1, ?_, XR_XF (by omega) (XR_C X), fun a ha => sm_trans sm_C (KM_XF a ha), show oC h + 64 ≤ _ by omega, show oS h + 4096 ≤ _ by omega⟩
          have x0' : oT (pC h 64 4096) 64 = 1 := x0
          simp (disch := first | exact xix_8 n45 (by omega) (by omega) | first | assumption | exact nI_ne0 (by decide) (by decide) | exact zb_01 | exact Or.inl rfl | exact Or.inr rfl | with_unfolding_all exact id (by assumption) | with_unfolding_all exact id (xix_8 (by assumption) (by omega) (by omega)) | omega) only [wX0_numbers_e, wX0_numbers_0, wX0_numbers_1, wX0_numbers_4, wX0_numbers_7, wX0_numbers_8, wX0_numbers_9, wX0_numbers_10, wX0_numbers_13, wX0_numbers_16, wX0_numbers_19, wX0_numbers_20, wX0_numbers_22, wX0_numbers_25, wX0_numbers_26, wX0_numbers_27, wX0_numbers_29, wX0_numbers_32, wX0_numbers_33, wX0_numbers_35, wX0_numbers_38, wX0_numbers_39, wX0_numbers_40, wX0_numbers_43, wX0_numbers_44, wX0_numbers_45, wX0_numbers_46, wX0_numbers_47, wX0_numbers_50, wX0_numbers_53, wX0_numbers_54, wX0_numbers_57, wX0_numbers_58, wX0_numbers_60, wX0_numbers_63, if_true, if_false, ↓reduceIte, xpu_s, xpu_n, Option.bind_some, xk_i, xk_r, xk_0, xk_u, xk_l, xk_k, xk_q, rf_s, rf_n, o_TI, o_TL, o_TR, o_NI, o_NL, o_NR, o_XI, o_XL, o_XR, o_RI, o_RL, o_LI, o_LR, o_IL, o_IR, o_II, o_LL, o_RR, o_pII, o_pLL, up_s, q_e1, q_e2, Nat.zero_add, Nat.reduceEqDiff, Nat.reduceAdd, Nat.reduceMul, Nat.reduceSub, Nat.reduceLT, Nat.reduceLeDiff, Nat.reduceDiv, Nat.reduceMod, nI_c, nI_add, up_ne, kX0_in, l6a_0, l6b_0, l6a_1, l6b_1, l6a_2, l6b_2, l6a_3, l6b_3, l6a_4, l6b_4, l6a_5, l6b_5, l6a_7, l6b_7, l6a_20, l6b_20, l6a_30, l6b_30, l6a_39, l6b_39, l6a_40, l6b_40, l6a_60, l6b_60, l6a_99, l6b_99, l6a_100, l6b_100, l6a_200, l6b_200, l6a_300, l6b_300, l6a_600, l6b_600, l6a_999, l6b_999, l6a_1000, l6b_1000, l6a_9999, l6b_9999, l6a_1000000, l6b_1000000, l6a_12, l6b_12, l64_xx, wi_d, one_ne0, zb_0, not_true_eq_false, not_false_eq_true, and_self, and_true, true_and, and_false, false_and, or_true, true_or, or_false, false_or, decide_true, decide_false, zb_t, zb_f, zb_0, zb_1, eq_self, cond_true, cond_false, Bool.true_eq_false, Bool.false_eq_true, Bool.and_true, Bool.true_and, Bool.and_false, Bool.false_and, Bool.or_true, Bool.true_or, Bool.or_false, Bool.false_or, nx_2, nx_3, nx_5, nx_6, nx_7, nx_f, nx_s, nx_w, ns_2, ns_3, ns_5, ns_6, ns_7, IR, h2, q, t17, r45, xp, no2]
          rfl
      | true =>
        obtain ⟨n, hn, rfl⟩ := wi_of (by decide) h3
        obtain ⟨s, hs, rfl⟩ := wi_of (by decide) h2
        rw [nI_clamp (by omega)]
        have q : (nI 40 < nI n) = False := eq_false (nI_nlt hn (by omega))
        have xp : xP 4 [.ref (146 + r), .int (nI s), .int (nI n)] h = some (some (.int 1), hNu h (xsort (nI s)) n r) := by
          have t1 : (nI n).toInt = (n : Int) := nI_toInt (by omega)
          have t2 : (nI n).toNatClampNeg = n := nI_clamp (by omega)
          show (if oT h (146 + r) = 6 then (if (nI n).toInt < 0 then _ else if (nI n).toInt ≤ 65536 then some (some (Value.int 1), pR (pO h (xsort (nI s)) (nI n).toNatClampNeg) (146 + r) (va_up (oR h (146 + r)) 0 (some (oX h)))) else none) else none) = _
          rw [if_pos t6, if_neg (by omega), if_pos (by omega), t2]
          rfl
        have h170 : 170 ≤ oX h := by
          obtain ⟨ow, s0, X1⟩ := id X
          exact X1.2.2.2.2.2.2.2.2.2.2.1
        refine ⟨hNu h (xsort (nI s)) n r, ?_, XR_num X (by omega) (by omega) hn, KM_num h170 (by omega), show oC h + 1 ≤ _ by omega, show oS h + n ≤ _ by omega⟩
        simp (disch := first | exact xix_8 n45 (by omega) (by omega) | first | assumption | exact nI_ne0 (by decide) (by decide) | exact zb_01 | exact Or.inl rfl | exact Or.inr rfl | with_unfolding_all exact id (by assumption) | with_unfolding_all exact id (xix_8 (by assumption) (by omega) (by omega)) | omega) only [wX0_numbers_e, wX0_numbers_0, wX0_numbers_1, wX0_numbers_4, wX0_numbers_7, wX0_numbers_8, wX0_numbers_9, wX0_numbers_10, wX0_numbers_13, wX0_numbers_16, wX0_numbers_19, wX0_numbers_20, wX0_numbers_22, wX0_numbers_25, wX0_numbers_26, wX0_numbers_27, wX0_numbers_29, wX0_numbers_32, wX0_numbers_33, wX0_numbers_35, wX0_numbers_38, wX0_numbers_39, wX0_numbers_40, wX0_numbers_43, wX0_numbers_44, wX0_numbers_45, wX0_numbers_46, wX0_numbers_47, wX0_numbers_50, wX0_numbers_53, wX0_numbers_54, wX0_numbers_57, wX0_numbers_58, wX0_numbers_60, wX0_numbers_63, if_true, if_false, ↓reduceIte, xpu_s, xpu_n, Option.bind_some, xk_i, xk_r, xk_0, xk_u, xk_l, xk_k, xk_q, rf_s, rf_n, o_TI, o_TL, o_TR, o_NI, o_NL, o_NR, o_XI, o_XL, o_XR, o_RI, o_RL, o_LI, o_LR, o_IL, o_IR, o_II, o_LL, o_RR, o_pII, o_pLL, up_s, q_e1, q_e2, Nat.zero_add, Nat.reduceEqDiff, Nat.reduceAdd, Nat.reduceMul, Nat.reduceSub, Nat.reduceLT, Nat.reduceLeDiff, Nat.reduceDiv, Nat.reduceMod, nI_c, nI_add, up_ne, kX0_in, l6a_0, l6b_0, l6a_1, l6b_1, l6a_2, l6b_2, l6a_3, l6b_3, l6a_4, l6b_4, l6a_5, l6b_5, l6a_7, l6b_7, l6a_20, l6b_20, l6a_30, l6b_30, l6a_39, l6b_39, l6a_40, l6b_40, l6a_60, l6b_60, l6a_99, l6b_99, l6a_100, l6b_100, l6a_200, l6b_200, l6a_300, l6b_300, l6a_600, l6b_600, l6a_999, l6b_999, l6a_1000, l6b_1000, l6a_9999, l6b_9999, l6a_1000000, l6b_1000000, l6a_12, l6b_12, l64_xx, wi_d, one_ne0, zb_0, not_true_eq_false, not_false_eq_true, and_self, and_true, true_and, and_false, false_and, or_true, true_or, or_false, false_or, decide_true, decide_false, zb_t, zb_f, zb_0, zb_1, eq_self, cond_true, cond_false, Bool.true_eq_false, Bool.false_eq_true, Bool.and_true, Bool.true_and, Bool.and_false, Bool.false_and, Bool.or_true, Bool.true_or, Bool.or_false, Bool.false_or, nx_2, nx_3, nx_5, nx_6, nx_7, nx_f, nx_s, nx_w, ns_2, ns_3, ns_5, ns_6, ns_7, IR, h2, q, t17, r45, xp, one_ne0]
/-- what a number becomes in a row of a sort -/
def ctv (s : Nat) (u : Int64) : Int64 := if s = 3 then u else (xcut (xsort (nI s)) u).toInt64
def q_write (P : sS) (x y : Int32) (u : Int64) : sV := bif wi x (nI 0) (nI 3) then (if pS P x.toNatClampNeg = -1 then nl P (-6) else (bif wi y (nI 0) (pM P x.toNatClampNeg - nI 1) then (.long (ctv (pS P x.toNatClampNeg).toNatClampNeg u), qN P (va_up (pN P) (40 * x.toNatClampNeg + y.toNatClampNeg) (ctv (pS P x.toNatClampNeg).toNatClampNeg u))) else nl P (-7))) else nl P (-2)
theorem i8_id (x : Int8) : x.toInt32.toInt8 = x := by simp
theorem i16_id (x : Int16) : x.toInt32.toInt16 = x := by simp
theorem kX5_cut (hs : s < 4) : C_ d mX5_cut [.long u, .int (nI s)] h = some (some (.long (ctv s u)), h) := by
  rcases (show s = 0 ∨ s = 1 ∨ s = 2 ∨ s = 3 by omega) with rfl | rfl | rfl | rfl
  · have e : ctv 0 u = u.toInt32.toInt8.toInt32.toInt64 := by
      unfold ctv
      rw [if_neg (by decide), xso_0]
      show (u.toInt32.toInt8.toInt32).toInt8.toInt32.toInt64 = _
      rw [i8_id]
    rw [e]
    simp (disch := first | assumption | exact nI_ne0 (by decide) (by decide) | exact zb_01 | exact Or.inl rfl | exact Or.inr rfl | with_unfolding_all exact id (by assumption) | with_unfolding_all exact id (xix_8 (by assumption) (by omega) (by omega)) | omega) only [wX5_cut_e, wX5_cut_0, wX5_cut_1, wX5_cut_4, wX5_cut_5, wX5_cut_6, wX5_cut_7, wX5_cut_8, wX5_cut_11, wX5_cut_12, wX5_cut_13, wX5_cut_16, wX5_cut_17, wX5_cut_18, wX5_cut_19, wX5_cut_20, wX5_cut_23, wX5_cut_24, wX5_cut_25, wX5_cut_28, wX5_cut_29, wX5_cut_30, wX5_cut_31, wX5_cut_34, wX5_cut_35, if_true, if_false, ↓reduceIte, xpu_s, xpu_n, Option.bind_some, xk_i, xk_r, xk_0, xk_u, xk_l, xk_k, xk_q, rf_s, rf_n, q_e1, q_e2, Nat.zero_add, Nat.reduceEqDiff, Nat.reduceAdd, Nat.reduceMul, Nat.reduceSub, Nat.reduceLT, Nat.reduceLeDiff, Nat.reduceDiv, Nat.reduceMod, nI_00, nI_ne1, not_true_eq_false, not_false_eq_true, and_self, and_true, true_and, and_false, false_and, or_true, true_or, or_false, false_or, decide_true, decide_false, zb_t, zb_f, zb_0, zb_1, eq_self]
  · have e : ctv 1 u = u.toInt32.toInt16.toInt32.toInt64 := by
      unfold ctv
      rw [if_neg (by decide), xso_1]
      show (u.toInt32.toInt16.toInt32).toInt16.toInt32.toInt64 = _
      rw [i16_id]
    rw [e]
    simp (disch := first | assumption | exact nI_ne0 (by decide) (by decide) | exact zb_01 | exact Or.inl rfl | exact Or.inr rfl | with_unfolding_all exact id (by assumption) | with_unfolding_all exact id (xix_8 (by assumption) (by omega) (by omega)) | omega) only [wX5_cut_e, wX5_cut_0, wX5_cut_1, wX5_cut_4, wX5_cut_5, wX5_cut_6, wX5_cut_7, wX5_cut_8, wX5_cut_11, wX5_cut_12, wX5_cut_13, wX5_cut_16, wX5_cut_17, wX5_cut_18, wX5_cut_19, wX5_cut_20, wX5_cut_23, wX5_cut_24, wX5_cut_25, wX5_cut_28, wX5_cut_29, wX5_cut_30, wX5_cut_31, wX5_cut_34, wX5_cut_35, if_true, if_false, ↓reduceIte, xpu_s, xpu_n, Option.bind_some, xk_i, xk_r, xk_0, xk_u, xk_l, xk_k, xk_q, rf_s, rf_n, q_e1, q_e2, Nat.zero_add, Nat.reduceEqDiff, Nat.reduceAdd, Nat.reduceMul, Nat.reduceSub, Nat.reduceLT, Nat.reduceLeDiff, Nat.reduceDiv, Nat.reduceMod, nI_ne1, not_true_eq_false, not_false_eq_true, and_self, and_true, true_and, and_false, false_and, or_true, true_or, or_false, false_or, decide_true, decide_false, zb_t, zb_f, zb_0, zb_1, eq_self]
  · have e : ctv 2 u = u.toInt32.toInt64 := by
      unfold ctv
      rw [if_neg (by decide), xso_2]
      rfl
    rw [e]
    simp (disch := first | assumption | exact nI_ne0 (by decide) (by decide) | exact zb_01 | exact Or.inl rfl | exact Or.inr rfl | with_unfolding_all exact id (by assumption) | with_unfolding_all exact id (xix_8 (by assumption) (by omega) (by omega)) | omega) only [wX5_cut_e, wX5_cut_0, wX5_cut_1, wX5_cut_4, wX5_cut_5, wX5_cut_6, wX5_cut_7, wX5_cut_8, wX5_cut_11, wX5_cut_12, wX5_cut_13, wX5_cut_16, wX5_cut_17, wX5_cut_18, wX5_cut_19, wX5_cut_20, wX5_cut_23, wX5_cut_24, wX5_cut_25, wX5_cut_28, wX5_cut_29, wX5_cut_30, wX5_cut_31, wX5_cut_34, wX5_cut_35, if_true, if_false, ↓reduceIte, xpu_s, xpu_n, Option.bind_some, xk_i, xk_r, xk_0, xk_u, xk_l, xk_k, xk_q, rf_s, rf_n, q_e1, q_e2, Nat.zero_add, Nat.reduceEqDiff, Nat.reduceAdd, Nat.reduceMul, Nat.reduceSub, Nat.reduceLT, Nat.reduceLeDiff, Nat.reduceDiv, Nat.reduceMod, nI_3d.1, nI_3d.2.1, nI_3d.2.2.1, nI_3d.2.2.2.1, nI_3d.2.2.2.2.1, nI_3d.2.2.2.2.2.1, nI_3d.2.2.2.2.2.2.1, nI_3d.2.2.2.2.2.2.2.1, nI_3d.2.2.2.2.2.2.2.2, nI_00, not_true_eq_false, not_false_eq_true, and_self, and_true, true_and, and_false, false_and, or_true, true_or, or_false, false_or, decide_true, decide_false, zb_t, zb_f, zb_0, zb_1, eq_self, if_true, if_false]
  · have e : ctv 3 u = u := if_pos rfl
    rw [e]
    simp (disch := first | assumption | exact nI_ne0 (by decide) (by decide) | exact zb_01 | exact Or.inl rfl | exact Or.inr rfl | with_unfolding_all exact id (by assumption) | with_unfolding_all exact id (xix_8 (by assumption) (by omega) (by omega)) | omega) only [wX5_cut_e, wX5_cut_0, wX5_cut_1, wX5_cut_4, wX5_cut_5, wX5_cut_6, wX5_cut_7, wX5_cut_8, wX5_cut_11, wX5_cut_12, wX5_cut_13, wX5_cut_16, wX5_cut_17, wX5_cut_18, wX5_cut_19, wX5_cut_20, wX5_cut_23, wX5_cut_24, wX5_cut_25, wX5_cut_28, wX5_cut_29, wX5_cut_30, wX5_cut_31, wX5_cut_34, wX5_cut_35, if_true, if_false, ↓reduceIte, xpu_s, xpu_n, Option.bind_some, xk_i, xk_r, xk_0, xk_u, xk_l, xk_k, xk_q, rf_s, rf_n, q_e1, q_e2, Nat.zero_add, Nat.reduceEqDiff, Nat.reduceAdd, Nat.reduceMul, Nat.reduceSub, Nat.reduceLT, Nat.reduceLeDiff, Nat.reduceDiv, Nat.reduceMod, nI_3d.1, nI_3d.2.1, nI_3d.2.2.1, nI_3d.2.2.2.1, nI_3d.2.2.2.2.1, nI_3d.2.2.2.2.2.1, nI_3d.2.2.2.2.2.2.1, nI_3d.2.2.2.2.2.2.2.1, nI_3d.2.2.2.2.2.2.2.2, nI_00, not_true_eq_false, not_false_eq_true, and_self, and_true, true_and, and_false, false_and, or_true, true_or, or_false, false_or, decide_true, decide_false, zb_t, zb_f, zb_0, zb_1, eq_self, if_true, if_false]
theorem nX5_write (M : MR h P) (W : WF P) : MG (d + 1) h mX5_write [.ref 150, .int x, .int y, .long u] (q_write P x y u) := by
  obtain ⟨H, m152, m154, m151, m153, m167, m168, m169, m6, m16, m17, m21, m22⟩ := id M
  have no := fun k : Int32 => nX5_no (d := d) k M
  unfold q_write
  cases h1 : wi x (nI 0) (nI 3) with
  | false =>
    refine MG_nl M ?_
    simp (disch := first | with_unfolding_all exact id (mok_t H rfl) | exact Or.inr (by with_unfolding_all exact mok_t H rfl) | exact nI_ne0 (by decide) (by decide) | with_unfolding_all exact id (m_x152 H (by omega)) | with_unfolding_all exact id (m_x156 H (by omega)) | with_unfolding_all exact id (m_x158 H (by omega)) | with_unfolding_all exact id (m_x159 H (by omega)) | with_unfolding_all exact id (m_x160 H (by omega)) | exact zb_01 | exact Or.inl rfl | exact Or.inr rfl | omega) only [wX5_write_e, wX5_write_0, wX5_write_1, wX5_write_2, wX5_write_5, wX5_write_6, wX5_write_7, wX5_write_8, wX5_write_11, wX5_write_14, wX5_write_17, wX5_write_18, wX5_write_20, wX5_write_23, wX5_write_24, wX5_write_25, wX5_write_26, wX5_write_29, wX5_write_30, wX5_write_31, wX5_write_32, wX5_write_35, wX5_write_36, wX5_write_38, wX5_write_41, wX5_write_42, wX5_write_43, wX5_write_44, wX5_write_45, wX5_write_46, wX5_write_47, wX5_write_50, wX5_write_51, wX5_write_52, wX5_write_53, wX5_write_54, wX5_write_55, wX5_write_58, wX5_write_61, wX5_write_62, wX5_write_64, wX5_write_67, wX5_write_68, wX5_write_69, wX5_write_70, wX5_write_73, wX5_write_75, wX5_write_76, wX5_write_77, wX5_write_78, wX5_write_79, wX5_write_80, wX5_write_81, wX5_write_84, wX5_write_85, wX5_write_86, wX5_write_89, wX5_write_90, wX5_write_91, wX5_write_94, wX5_write_96, wX5_write_97, wX5_write_98, wX5_write_99, wX5_write_100, wX5_write_101, if_true, if_false, ↓reduceIte, xpu_s, xpu_n, Option.bind_some, xk_i, xk_r, xk_0, xk_u, xk_l, xk_k, xk_q, rf_s, rf_n, R0_p, R0_L, R0_T, R0_N, R0_R, R0_r, R0_6, o_TI, o_TL, o_TR, o_NI, o_NL, o_NR, o_XI, o_XL, o_XR, o_RI, o_RL, o_LI, o_LR, o_IL, o_IR, o_II, o_LL, o_RR, o_pII, o_pLL, up_s, q_e1, q_e2, Nat.zero_add, Nat.reduceEqDiff, Nat.reduceAdd, Nat.reduceMul, Nat.reduceSub, Nat.reduceLT, Nat.reduceLeDiff, Nat.reduceDiv, Nat.reduceMod, m_r1 H, m_r2 H, m_r3 H, m_r4 H, m_r5 H, m_r18 H, m_r19 H, m_r20 H, m_r24 H, m_r25 H, m_r27 H, m_r28 H, m_r29 H, m_r30 H, m_r31 H, m_r32 H, m_r33 H, m_r34 H, m_r35 H, m_n150 H, m_n151 H, m_n152 H, m_n153 H, m_n154 H, m_n155 H, m_n156 H, m_n157 H, m_n158 H, m_n159 H, m_n160 H, m_n161 H, m_n162 H, m_n163 H, m_n164 H, m_n165 H, m_n166 H, m_n167 H, m_n168 H, m_n169 H, nI_c, nI_add, up_ne, kX5_within, l6a_0, l6b_0, l6a_1, l6b_1, l6a_2, l6b_2, l6a_3, l6b_3, l6a_4, l6b_4, l6a_5, l6b_5, l6a_7, l6b_7, l6a_20, l6b_20, l6a_30, l6b_30, l6a_39, l6b_39, l6a_40, l6b_40, l6a_60, l6b_60, l6a_99, l6b_99, l6a_100, l6b_100, l6a_200, l6b_200, l6a_300, l6b_300, l6a_600, l6b_600, l6a_999, l6b_999, l6a_1000, l6b_1000, l6a_9999, l6b_9999, l6a_1000000, l6b_1000000, l6a_12, l6b_12, l64_xx, wi_d, one_ne0, zb_0, not_true_eq_false, not_false_eq_true, and_self, and_true, true_and, and_false, false_and, or_true, true_or, or_false, false_or, decide_true, decide_false, zb_t, zb_f, zb_0, zb_1, eq_self, cond_true, cond_false, Bool.true_eq_false, Bool.false_eq_true, Bool.and_true, Bool.true_and, Bool.and_false, Bool.false_and, Bool.or_true, Bool.true_or, Bool.or_false, Bool.false_or, no, h1]
  | true =>
    obtain ⟨r, hr, rfl⟩ := wi_of (by decide) h1
    rw [nI_clamp (by omega)]
    have x7 : xix (nI r) (oN h 167) = true := m_x167 H (by omega)
    have x8 : xix (nI r) (oN h 168) = true := m_x168 H (by omega)
    have m1 : nI 40 * nI r = nI (40 * r) := pk_mul _ _
    rcases W.2.2.2.1 r (by omega) with w1 | ⟨s, n, w1, w2, w3, w4⟩
    · rw [if_pos w1]
      refine MG_nl M ?_
      simp (disch := first | with_unfolding_all exact id x7 | with_unfolding_all exact id x8 | first | with_unfolding_all exact id (mok_t H rfl) | exact Or.inr (by with_unfolding_all exact mok_t H rfl) | exact nI_ne0 (by decide) (by decide) | with_unfolding_all exact id (m_x152 H (by omega)) | with_unfolding_all exact id (m_x156 H (by omega)) | with_unfolding_all exact id (m_x158 H (by omega)) | with_unfolding_all exact id (m_x159 H (by omega)) | with_unfolding_all exact id (m_x160 H (by omega)) | exact zb_01 | exact Or.inl rfl | exact Or.inr rfl | omega) only [wX5_write_e, wX5_write_0, wX5_write_1, wX5_write_2, wX5_write_5, wX5_write_6, wX5_write_7, wX5_write_8, wX5_write_11, wX5_write_14, wX5_write_17, wX5_write_18, wX5_write_20, wX5_write_23, wX5_write_24, wX5_write_25, wX5_write_26, wX5_write_29, wX5_write_30, wX5_write_31, wX5_write_32, wX5_write_35, wX5_write_36, wX5_write_38, wX5_write_41, wX5_write_42, wX5_write_43, wX5_write_44, wX5_write_45, wX5_write_46, wX5_write_47, wX5_write_50, wX5_write_51, wX5_write_52, wX5_write_53, wX5_write_54, wX5_write_55, wX5_write_58, wX5_write_61, wX5_write_62, wX5_write_64, wX5_write_67, wX5_write_68, wX5_write_69, wX5_write_70, wX5_write_73, wX5_write_75, wX5_write_76, wX5_write_77, wX5_write_78, wX5_write_79, wX5_write_80, wX5_write_81, wX5_write_84, wX5_write_85, wX5_write_86, wX5_write_89, wX5_write_90, wX5_write_91, wX5_write_94, wX5_write_96, wX5_write_97, wX5_write_98, wX5_write_99, wX5_write_100, wX5_write_101, if_true, if_false, ↓reduceIte, xpu_s, xpu_n, Option.bind_some, xk_i, xk_r, xk_0, xk_u, xk_l, xk_k, xk_q, rf_s, rf_n, R0_p, R0_L, R0_T, R0_N, R0_R, R0_r, R0_6, o_TI, o_TL, o_TR, o_NI, o_NL, o_NR, o_XI, o_XL, o_XR, o_RI, o_RL, o_LI, o_LR, o_IL, o_IR, o_II, o_LL, o_RR, o_pII, o_pLL, up_s, q_e1, q_e2, Nat.zero_add, Nat.reduceEqDiff, Nat.reduceAdd, Nat.reduceMul, Nat.reduceSub, Nat.reduceLT, Nat.reduceLeDiff, Nat.reduceDiv, Nat.reduceMod, m_r1 H, m_r2 H, m_r3 H, m_r4 H, m_r5 H, m_r18 H, m_r19 H, m_r20 H, m_r24 H, m_r25 H, m_r27 H, m_r28 H, m_r29 H, m_r30 H, m_r31 H, m_r32 H, m_r33 H, m_r34 H, m_r35 H, m_n150 H, m_n151 H, m_n152 H, m_n153 H, m_n154 H, m_n155 H, m_n156 H, m_n157 H, m_n158 H, m_n159 H, m_n160 H, m_n161 H, m_n162 H, m_n163 H, m_n164 H, m_n165 H, m_n166 H, m_n167 H, m_n168 H, m_n169 H, nI_c, nI_add, up_ne, kX5_within, l6a_0, l6b_0, l6a_1, l6b_1, l6a_2, l6b_2, l6a_3, l6b_3, l6a_4, l6b_4, l6a_5, l6b_5, l6a_7, l6b_7, l6a_20, l6b_20, l6a_30, l6b_30, l6a_39, l6b_39, l6a_40, l6b_40, l6a_60, l6b_60, l6a_99, l6b_99, l6a_100, l6b_100, l6a_200, l6b_200, l6a_300, l6b_300, l6a_600, l6b_600, l6a_999, l6b_999, l6a_1000, l6b_1000, l6a_9999, l6b_9999, l6a_1000000, l6b_1000000, l6a_12, l6b_12, l64_xx, wi_d, one_ne0, zb_0, not_true_eq_false, not_false_eq_true, and_self, and_true, true_and, and_false, false_and, or_true, true_or, or_false, false_or, decide_true, decide_false, zb_t, zb_f, zb_0, zb_1, eq_self, cond_true, cond_false, Bool.true_eq_false, Bool.false_eq_true, Bool.and_true, Bool.true_and, Bool.and_false, Bool.false_and, Bool.or_true, Bool.true_or, Bool.or_false, Bool.false_or, no, h1, m167, w1]
    · have n1 : (nI s = -1) = False := nI_nm1 (by omega)
      rw [w1, if_neg (by rw [n1]; exact fun y => y), nI_clamp (show s < 2147483648 by omega)]
      cases h2 : wi y (nI 0) (pM P r - nI 1) with
      | false =>
        refine MG_nl M ?_
        simp (disch := first | with_unfolding_all exact id x7 | with_unfolding_all exact id x8 | first | with_unfolding_all exact id (mok_t H rfl) | exact Or.inr (by with_unfolding_all exact mok_t H rfl) | exact nI_ne0 (by decide) (by decide) | with_unfolding_all exact id (m_x152 H (by omega)) | with_unfolding_all exact id (m_x156 H (by omega)) | with_unfolding_all exact id (m_x158 H (by omega)) | with_unfolding_all exact id (m_x159 H (by omega)) | with_unfolding_all exact id (m_x160 H (by omega)) | exact zb_01 | exact Or.inl rfl | exact Or.inr rfl | omega) only [wX5_write_e, wX5_write_0, wX5_write_1, wX5_write_2, wX5_write_5, wX5_write_6, wX5_write_7, wX5_write_8, wX5_write_11, wX5_write_14, wX5_write_17, wX5_write_18, wX5_write_20, wX5_write_23, wX5_write_24, wX5_write_25, wX5_write_26, wX5_write_29, wX5_write_30, wX5_write_31, wX5_write_32, wX5_write_35, wX5_write_36, wX5_write_38, wX5_write_41, wX5_write_42, wX5_write_43, wX5_write_44, wX5_write_45, wX5_write_46, wX5_write_47, wX5_write_50, wX5_write_51, wX5_write_52, wX5_write_53, wX5_write_54, wX5_write_55, wX5_write_58, wX5_write_61, wX5_write_62, wX5_write_64, wX5_write_67, wX5_write_68, wX5_write_69, wX5_write_70, wX5_write_73, wX5_write_75, wX5_write_76, wX5_write_77, wX5_write_78, wX5_write_79, wX5_write_80, wX5_write_81, wX5_write_84, wX5_write_85, wX5_write_86, wX5_write_89, wX5_write_90, wX5_write_91, wX5_write_94, wX5_write_96, wX5_write_97, wX5_write_98, wX5_write_99, wX5_write_100, wX5_write_101, if_true, if_false, ↓reduceIte, xpu_s, xpu_n, Option.bind_some, xk_i, xk_r, xk_0, xk_u, xk_l, xk_k, xk_q, rf_s, rf_n, R0_p, R0_L, R0_T, R0_N, R0_R, R0_r, R0_6, o_TI, o_TL, o_TR, o_NI, o_NL, o_NR, o_XI, o_XL, o_XR, o_RI, o_RL, o_LI, o_LR, o_IL, o_IR, o_II, o_LL, o_RR, o_pII, o_pLL, up_s, q_e1, q_e2, Nat.zero_add, Nat.reduceEqDiff, Nat.reduceAdd, Nat.reduceMul, Nat.reduceSub, Nat.reduceLT, Nat.reduceLeDiff, Nat.reduceDiv, Nat.reduceMod, m_r1 H, m_r2 H, m_r3 H, m_r4 H, m_r5 H, m_r18 H, m_r19 H, m_r20 H, m_r24 H, m_r25 H, m_r27 H, m_r28 H, m_r29 H, m_r30 H, m_r31 H, m_r32 H, m_r33 H, m_r34 H, m_r35 H, m_n150 H, m_n151 H, m_n152 H, m_n153 H, m_n154 H, m_n155 H, m_n156 H, m_n157 H, m_n158 H, m_n159 H, m_n160 H, m_n161 H, m_n162 H, m_n163 H, m_n164 H, m_n165 H, m_n166 H, m_n167 H, m_n168 H, m_n169 H, nI_c, nI_add, up_ne, kX5_within, l6a_0, l6b_0, l6a_1, l6b_1, l6a_2, l6b_2, l6a_3, l6b_3, l6a_4, l6b_4, l6a_5, l6b_5, l6a_7, l6b_7, l6a_20, l6b_20, l6a_30, l6b_30, l6a_39, l6b_39, l6a_40, l6b_40, l6a_60, l6b_60, l6a_99, l6b_99, l6a_100, l6b_100, l6a_200, l6b_200, l6a_300, l6b_300, l6a_600, l6b_600, l6a_999, l6b_999, l6a_1000, l6b_1000, l6a_9999, l6b_9999, l6a_1000000, l6b_1000000, l6a_12, l6b_12, l64_xx, wi_d, one_ne0, zb_0, not_true_eq_false, not_false_eq_true, and_self, and_true, true_and, and_false, false_and, or_true, true_or, or_false, false_or, decide_true, decide_false, zb_t, zb_f, zb_0, zb_1, eq_self, cond_true, cond_false, Bool.true_eq_false, Bool.false_eq_true, Bool.and_true, Bool.true_and, Bool.and_false, Bool.false_and, Bool.or_true, Bool.true_or, Bool.or_false, Bool.false_or, no, h1, m167, m168, w1, n1, h2]
      | true =>
        rw [w3] at h2
        obtain ⟨i, hi, rfl⟩ := (wi_ix (n := n) (by omega)).mp (of_decide_eq_true h2)
        have CU := kX5_cut (d := d) (h := R0 h) (u := u) w2
        have x9 : xix (nI (40 * r + i)) (oN h 169) = true := m_x169 H (by omega)
        rw [nI_clamp (show i < 2147483648 by omega)]
        refine ⟨pL (R0 h) 169 (va_up (pN P) (40 * r + i) (ctv s u)), ?_, MR_N (MR_0 M), KX_L KX_0 (by omega) (by omega)⟩
        simp (disch := first | with_unfolding_all exact id x7 | with_unfolding_all exact id x8 | with_unfolding_all exact id x9 | first | with_unfolding_all exact id (mok_t H rfl) | exact Or.inr (by with_unfolding_all exact mok_t H rfl) | exact nI_ne0 (by decide) (by decide) | with_unfolding_all exact id (m_x152 H (by omega)) | with_unfolding_all exact id (m_x156 H (by omega)) | with_unfolding_all exact id (m_x158 H (by omega)) | with_unfolding_all exact id (m_x159 H (by omega)) | with_unfolding_all exact id (m_x160 H (by omega)) | exact zb_01 | exact Or.inl rfl | exact Or.inr rfl | omega) only [wX5_write_e, wX5_write_0, wX5_write_1, wX5_write_2, wX5_write_5, wX5_write_6, wX5_write_7, wX5_write_8, wX5_write_11, wX5_write_14, wX5_write_17, wX5_write_18, wX5_write_20, wX5_write_23, wX5_write_24, wX5_write_25, wX5_write_26, wX5_write_29, wX5_write_30, wX5_write_31, wX5_write_32, wX5_write_35, wX5_write_36, wX5_write_38, wX5_write_41, wX5_write_42, wX5_write_43, wX5_write_44, wX5_write_45, wX5_write_46, wX5_write_47, wX5_write_50, wX5_write_51, wX5_write_52, wX5_write_53, wX5_write_54, wX5_write_55, wX5_write_58, wX5_write_61, wX5_write_62, wX5_write_64, wX5_write_67, wX5_write_68, wX5_write_69, wX5_write_70, wX5_write_73, wX5_write_75, wX5_write_76, wX5_write_77, wX5_write_78, wX5_write_79, wX5_write_80, wX5_write_81, wX5_write_84, wX5_write_85, wX5_write_86, wX5_write_89, wX5_write_90, wX5_write_91, wX5_write_94, wX5_write_96, wX5_write_97, wX5_write_98, wX5_write_99, wX5_write_100, wX5_write_101, if_true, if_false, ↓reduceIte, xpu_s, xpu_n, Option.bind_some, xk_i, xk_r, xk_0, xk_u, xk_l, xk_k, xk_q, rf_s, rf_n, R0_p, R0_L, R0_T, R0_N, R0_R, R0_r, R0_6, o_TI, o_TL, o_TR, o_NI, o_NL, o_NR, o_XI, o_XL, o_XR, o_RI, o_RL, o_LI, o_LR, o_IL, o_IR, o_II, o_LL, o_RR, o_pII, o_pLL, up_s, q_e1, q_e2, Nat.zero_add, Nat.reduceEqDiff, Nat.reduceAdd, Nat.reduceMul, Nat.reduceSub, Nat.reduceLT, Nat.reduceLeDiff, Nat.reduceDiv, Nat.reduceMod, m_r1 H, m_r2 H, m_r3 H, m_r4 H, m_r5 H, m_r18 H, m_r19 H, m_r20 H, m_r24 H, m_r25 H, m_r27 H, m_r28 H, m_r29 H, m_r30 H, m_r31 H, m_r32 H, m_r33 H, m_r34 H, m_r35 H, m_n150 H, m_n151 H, m_n152 H, m_n153 H, m_n154 H, m_n155 H, m_n156 H, m_n157 H, m_n158 H, m_n159 H, m_n160 H, m_n161 H, m_n162 H, m_n163 H, m_n164 H, m_n165 H, m_n166 H, m_n167 H, m_n168 H, m_n169 H, nI_c, nI_add, up_ne, kX5_within, l6a_0, l6b_0, l6a_1, l6b_1, l6a_2, l6b_2, l6a_3, l6b_3, l6a_4, l6b_4, l6a_5, l6b_5, l6a_7, l6b_7, l6a_20, l6b_20, l6a_30, l6b_30, l6a_39, l6b_39, l6a_40, l6b_40, l6a_60, l6b_60, l6a_99, l6b_99, l6a_100, l6b_100, l6a_200, l6b_200, l6a_300, l6b_300, l6a_600, l6b_600, l6a_999, l6b_999, l6a_1000, l6b_1000, l6a_9999, l6b_9999, l6a_1000000, l6b_1000000, l6a_12, l6b_12, l64_xx, wi_d, one_ne0, zb_0, not_true_eq_false, not_false_eq_true, and_self, and_true, true_and, and_false, false_and, or_true, true_or, or_false, false_or, decide_true, decide_false, zb_t, zb_f, zb_0, zb_1, eq_self, cond_true, cond_false, Bool.true_eq_false, Bool.false_eq_true, Bool.and_true, Bool.true_and, Bool.and_false, Bool.false_and, Bool.or_true, Bool.true_or, Bool.or_false, Bool.false_or, h1, m167, m168, m169, w1, w3, n1, h2, m1, CU]
/-- a call of FootOut.write is taken as one step -/
def XGp (p : Nat) (h : xH) (as : List Value) (q : sV) : Prop := ∃ h1, xP p as h = some (some q.1, h1) ∧ XR h1 q.2 ∧ KM h h1 ∧ oC h1 ≤ oC h + 15000 ∧ oS h1 ≤ oS h + 60000
theorem xno_e {j k m : Nat} : xno h 77 j k m = XF (pC h k m) j := rfl
theorem nX0_write (X : XR h P) : XGp 5 h [.ref 64, .int x, .int y, .long u] (q_write P x y u) := by
  have T := XR_T X
  have x0 := T.1.1
  obtain ⟨-, -, -, -, x2, -, -, -, -, x17, -, -, t77, n77, -, -, -, -, -, -, t145, n145, -⟩ := T
  have XN : ∀ j k m, j < 6 → k ≤ 15000 → m ≤ 60000 → XR (xno h 77 j k m) (qR P j) ∧ KM h (xno h 77 j k m) ∧ oC (xno h 77 j k m) ≤ oC h + 15000 ∧ oS (xno h 77 j k m) ≤ oS h + 60000 := fun j k m hj hk hm => ⟨XR_XF hj (XR_C X), fun a ha => sm_trans sm_C (KM_XF a ha), show oC h + k ≤ _ by omega, show oS h + m ≤ _ by omega⟩
  have e0 : ∀ x : Int32, xP 5 [.ref 64, .int x, .int y, .long u] h = (if 0 ≤ x.toInt ∧ x.toInt ≤ 3 then (match oR h 145 x.toNatClampNeg with
          | some q => if oT h q = 6 then (match oR h q 0 with
            | none => some (some (.long (-6)), xno h 77 3 64 4096)
            | some a => if 40 ≤ oT h a ∧ oT h a ≤ 44 ∧ ¬ oT h a = 42 then (if xin_ y (oN h a) = true then (if oT h a = 44 then some (some (.long u), pL h a (va_up (oL h a) y.toNatClampNeg u)) else some (some (.long (xcut (oT h a) u).toInt64), pI h a (va_up (oI h a) y.toNatClampNeg (xcut (oT h a) u)))) else some (some (.long (-7)), xno h 77 4 64 4096)) else none) else none
          | none => none)
        else some (some (.long (-2)), xno h 77 0 0 0)) := fun x => by
    show (match oR h 64 2, oR h 64 17 with
      | some rf, some rw => _
      | _, _ => _) = _
    rw [x2, x17]
    show (if oT h 64 = 1 ∧ oT h 77 = 40 ∧ oN h 77 = 6 ∧ oT h 145 = 47 ∧ oN h 145 = 4 then _ else none) = _
    rw [if_pos ⟨x0, t77, n77, t145, n145⟩]
    rfl
  unfold XGp q_write
  rw [e0]
  cases h1 : wi x (nI 0) (nI 3) with
  | false =>
    have := wi_sw (by decide) h1
    rw [if_neg (by omega)]
    exact ⟨_, rfl, XN 0 0 0 (by omega) (by omega) (by omega)⟩
  | true =>
    obtain ⟨r, hr, rfl⟩ := wi_of (by decide) h1
    obtain ⟨-, -, -, r45, t6, N⟩ := XR_nq X (show r < 4 by omega)
    rw [if_pos (by rw [nI_toInt (by omega)]; omega), nI_clamp (show r < 2147483648 by omega), r45]
    show ∃ h1, (if oT h (146 + r) = 6 then _ else none) = _ ∧ _
    rw [if_pos t6]
    rcases N with ⟨n1, n2⟩ | ⟨q, s, n, N, n1, n2⟩
    · rw [n2, if_pos n1]
      exact ⟨_, rfl, XN 3 64 4096 (by omega) (by omega) (by omega)⟩
    · obtain ⟨a1, a2, a3, a4, a5, a6, a7⟩ := N
      have xs := xso_r a3
      have nm : (nI s = -1) = False := nI_nm1 (by omega)
      rw [a1, n1, if_neg (by rw [nm]; exact fun y => y), nI_clamp (show s < 2147483648 by omega)]
      show ∃ h1, (if 40 ≤ oT h q ∧ oT h q ≤ 44 ∧ ¬ oT h q = 42 then _ else none) = _ ∧ _
      rw [if_pos (by rw [a5]; exact xs), n2]
      cases h2 : wi y (nI 0) (nI n - nI 1) with
      | false =>
        have yi : xin_ y (oN h q) = false := by
          rw [a6]
          cases z : xin_ y n with
          | false => rfl
          | true =>
            exfalso
            unfold xin_ at z
            rw [Bool.and_eq_true, decide_eq_true_iff, decide_eq_true_iff] at z
            have ey : y = nI y.toNatClampNeg := by
              apply Int32.toInt_inj.mp
              rw [nI_toInt (by unfold Int32.toNatClampNeg; omega)]
              unfold Int32.toNatClampNeg
              omega
            have := of_decide_eq_false h2
            exact this ((wi_ix (n := n) (by omega)).mpr ⟨y.toNatClampNeg, by unfold Int32.toNatClampNeg; omega, ey⟩)
        rw [yi, if_neg (by decide)]
        exact ⟨_, rfl, XN 4 64 4096 (by omega) (by omega) (by omega)⟩
      | true =>
        obtain ⟨i, hi, rfl⟩ := (wi_ix (n := n) (by omega)).mp (of_decide_eq_true h2)
        have yi : xin_ (nI i) (oN h q) = true := by
          rw [a6]
          unfold xin_
          rw [nI_toInt (by omega), decide_eq_true (by omega), decide_eq_true (by omega)]
          rfl
        rw [yi, if_pos rfl, nI_clamp (show i < 2147483648 by omega)]
        obtain ⟨ow, s0, X1⟩ := X
        have N0 := X1.2.2.2.2.2.2.2.2.2.1 r (by omega)
        rcases N0 with ⟨b1, b2⟩ | ⟨q', s', n', b1, b2, b3, b4, b5, b6, b7, b8, b9⟩
        · rw [a1] at b2; cases b2
        · cases Option.some.inj (b1.symm.trans a1)
          have es : s' = s := (nI_eq (by omega) (by omega)).mp (b3.symm.trans n1)
          have en : n' = n := (nI_eq (by omega) (by omega)).mp (b5.symm.trans n2)
          subst es en
          by_cases s3 : s' = 3
          · have t44 : oT h q = 44 := by rw [a5, s3]; exact xso_3
            rw [if_pos t44]
            have ec : ctv s' u = u := if_pos s3
            have K := XR_nw (h1 := pL h q (va_up (oL h q) i u)) (l := va_up (pN P) (40 * r + i) u) X1 (by omega) b1 b2 (by omega) (fun a ha => sm_L sm_refl ha) rfl rfl rfl rfl (Or.inr ⟨q, s', n', b1, b2, b3, b4, b5, b6, b7, b8, fun j hj => ?_⟩) (fun r' hr' k hk => up_ne (by omega))
            · rw [ec]
              exact ⟨_, rfl, K.1, K.2, Nat.le_add_right _ _, Nat.le_add_right _ _⟩
            · show va_up (pN P) _ _ _ = _
              rw [if_pos s3, o_LL, if_pos rfl]
              by_cases y : j = i
              · rw [y, up_s, up_s]
              · rw [up_ne (by omega), up_ne y]
                have := b9 j hj
                rw [if_pos s3] at this
                exact this
          · have t44 : ¬ oT h q = 44 := by
              rw [a5]
              rcases (show s' = 0 ∨ s' = 1 ∨ s' = 2 by omega) with rfl | rfl | rfl
              · rw [xso_0]; omega
              · rw [xso_1]; omega
              · rw [xso_2]; omega
            rw [if_neg t44]
            have ec : ctv s' u = (xcut (oT h q) u).toInt64 := by rw [a5]; exact if_neg s3
            have K := XR_nw (h1 := pI h q (va_up (oI h q) i (xcut (oT h q) u))) (l := va_up (pN P) (40 * r + i) (xcut (oT h q) u).toInt64) X1 (by omega) b1 b2 (by omega) (fun a ha => sm_I sm_refl ha) rfl rfl rfl rfl (Or.inr ⟨q, s', n', b1, b2, b3, b4, b5, b6, b7, b8, fun j hj => ?_⟩) (fun r' hr' k hk => up_ne (by omega))
            · rw [ec]
              exact ⟨_, rfl, K.1, K.2, Nat.le_add_right _ _, Nat.le_add_right _ _⟩
            · show va_up (pN P) _ _ _ = _
              rw [if_neg s3, o_II, if_pos rfl]
              by_cases y : j = i
              · rw [y, up_s, up_s]
              · rw [up_ne (by omega), up_ne y]
                have := b9 j hj
                rw [if_neg s3] at this
                exact this
theorem WF_numbers (W : WF P) : WF (q_numbers P x y z).2 := by
  unfold q_numbers
  cases h1 : wi x (nI 0) (nI 3) <;> cases h2 : wi y (nI 0) (nI 3) <;> cases h3 : wi z (nI 0) (nI 40)
  case true.true.true =>
    obtain ⟨r, hr, rfl⟩ := wi_of (by decide) h1
    obtain ⟨s, hs, rfl⟩ := wi_of (by decide) h2
    obtain ⟨n, hn, rfl⟩ := wi_of (by decide) h3
    obtain ⟨w1, w2, w3, w4, w5⟩ := W
    refine ⟨w1, w2, w3, fun r' hr' => ?_, w5⟩
    rw [nI_clamp (by omega)]
    by_cases e : r' = r
    · subst e
      exact Or.inr ⟨s, n, up_s, by omega, up_s, hn⟩
    · have := w4 r' hr'
      unfold WFn at *
      show va_up (pS P) r _ r' = -1 ∨ ∃ s' n', va_up (pS P) r _ r' = nI s' ∧ s' < 4 ∧ va_up (pM P) r _ r' = nI n' ∧ n' ≤ 40
      rw [up_ne e, up_ne e]
      exact this
  all_goals exact W
theorem WF_write (W : WF P) : WF (q_write P x y u).2 := by
  unfold q_write
  cases wi x (nI 0) (nI 3)
  · exact W
  · show WF (if pS P x.toNatClampNeg = -1 then nl P (-6) else _).2
    split
    · exact W
    · cases wi y (nI 0) (pM P x.toNatClampNeg - nI 1)
      · exact W
      · exact W
end
