/-! ROWS OF NUMBERS -/
section
variable {d : Nat} {h h1 : xH} {P : sS} {A : rI} {x y v : Int32} {s s' i q p n m k r j t : Nat} {f g : rI} {u : Int64} {l : rL} {ow : Nat → Nat}
theorem xso_0 : xsort (nI 0) = 41 := by decide
theorem xso_1 : xsort (nI 1) = 43 := by decide
theorem xso_2 : xsort (nI 2) = 40 := by decide
theorem xso_3 : xsort (nI 3) = 44 := by decide
theorem xso_r (hs : s < 4) : 40 ≤ xsort (nI s) ∧ xsort (nI s) ≤ 44 ∧ ¬ xsort (nI s) = 42 := by
  rcases (show s = 0 ∨ s = 1 ∨ s = 2 ∨ s = 3 by omega) with rfl | rfl | rfl | rfl
  · rw [xso_0]; omega
  · rw [xso_1]; omega
  · rw [xso_2]; omega
  · rw [xso_3]; omega
/-- a row that holds something -/
def NQ (h : xH) (r q s n : Nat) (P : sS) : Prop := oR h (146 + r) 0 = some q ∧ oT h (146 + r) = 6 ∧ s < 4 ∧ n ≤ 40 ∧ oT h q = xsort (nI s) ∧ oN h q = n ∧ ∀ i, i < n → pN P (40 * r + i) = if s = 3 then oL h q i else (oI h q i).toInt64
theorem kX4_many (N : NQ h r q s n P) : C_ d mX4_many [.ref (146 + r)] h = some (some (.int (nI n)), h) := by
  obtain ⟨n1, n2, n3, n4, n5, n6, n7⟩ := N
  rcases (show s = 0 ∨ s = 1 ∨ s = 2 ∨ s = 3 by omega) with rfl | rfl | rfl | rfl
  · rw [xso_0] at n5
    simp (disch := first | assumption | exact nI_ne0 (by decide) (by decide) | exact zb_01 | exact Or.inl rfl | exact Or.inr rfl | with_unfolding_all exact id (by assumption) | with_unfolding_all exact id (xix_8 (by assumption) (by omega) (by omega)) | omega) only [wX4_many_e, wX4_many_0, wX4_many_0q, wX4_many_0n, wX4_many_1, wX4_many_4, wX4_many_4n, wX4_many_7, wX4_many_10, wX4_many_10q, wX4_many_10n, wX4_many_11, wX4_many_14, wX4_many_14n, wX4_many_17, wX4_many_18, wX4_many_19, wX4_many_19q, wX4_many_19n, wX4_many_20, wX4_many_23, wX4_many_23n, wX4_many_26, wX4_many_29, wX4_many_29q, wX4_many_29n, wX4_many_30, wX4_many_33, wX4_many_33n, wX4_many_36, wX4_many_37, wX4_many_38, wX4_many_38q, wX4_many_38n, wX4_many_39, wX4_many_42, wX4_many_42n, wX4_many_45, wX4_many_48, wX4_many_48q, wX4_many_48n, wX4_many_49, wX4_many_52, wX4_many_52n, wX4_many_55, wX4_many_56, wX4_many_59, wX4_many_59q, wX4_many_59n, wX4_many_60, wX4_many_63, wX4_many_63n, wX4_many_66, wX4_many_67, if_true, if_false, ↓reduceIte, xpu_s, xpu_n, Option.bind_some, xk_i, xk_r, xk_0, xk_u, xk_l, xk_k, xk_q, rf_s, rf_n, q_e1, q_e2, Nat.zero_add, Nat.reduceEqDiff, Nat.reduceAdd, Nat.reduceMul, Nat.reduceSub, Nat.reduceLT, Nat.reduceLeDiff, Nat.reduceDiv, Nat.reduceMod, n1, n5, n6, one_ne0, eq_self]
  · rw [xso_1] at n5
    simp (disch := first | assumption | exact nI_ne0 (by decide) (by decide) | exact zb_01 | exact Or.inl rfl | exact Or.inr rfl | with_unfolding_all exact id (by assumption) | with_unfolding_all exact id (xix_8 (by assumption) (by omega) (by omega)) | omega) only [wX4_many_e, wX4_many_0, wX4_many_0q, wX4_many_0n, wX4_many_1, wX4_many_4, wX4_many_4n, wX4_many_7, wX4_many_10, wX4_many_10q, wX4_many_10n, wX4_many_11, wX4_many_14, wX4_many_14n, wX4_many_17, wX4_many_18, wX4_many_19, wX4_many_19q, wX4_many_19n, wX4_many_20, wX4_many_23, wX4_many_23n, wX4_many_26, wX4_many_29, wX4_many_29q, wX4_many_29n, wX4_many_30, wX4_many_33, wX4_many_33n, wX4_many_36, wX4_many_37, wX4_many_38, wX4_many_38q, wX4_many_38n, wX4_many_39, wX4_many_42, wX4_many_42n, wX4_many_45, wX4_many_48, wX4_many_48q, wX4_many_48n, wX4_many_49, wX4_many_52, wX4_many_52n, wX4_many_55, wX4_many_56, wX4_many_59, wX4_many_59q, wX4_many_59n, wX4_many_60, wX4_many_63, wX4_many_63n, wX4_many_66, wX4_many_67, if_true, if_false, ↓reduceIte, xpu_s, xpu_n, Option.bind_some, xk_i, xk_r, xk_0, xk_u, xk_l, xk_k, xk_q, rf_s, rf_n, q_e1, q_e2, Nat.zero_add, Nat.reduceEqDiff, Nat.reduceAdd, Nat.reduceMul, Nat.reduceSub, Nat.reduceLT, Nat.reduceLeDiff, Nat.reduceDiv, Nat.reduceMod, n1, n5, n6, one_ne0, eq_self]
  · rw [xso_2] at n5
    simp (disch := first | assumption | exact nI_ne0 (by decide) (by decide) | exact zb_01 | exact Or.inl rfl | exact Or.inr rfl | with_unfolding_all exact id (by assumption) | with_unfolding_all exact id (xix_8 (by assumption) (by omega) (by omega)) | omega) only [wX4_many_e, wX4_many_0, wX4_many_0q, wX4_many_0n, wX4_many_1, wX4_many_4, wX4_many_4n, wX4_many_7, wX4_many_10, wX4_many_10q, wX4_many_10n, wX4_many_11, wX4_many_14, wX4_many_14n, wX4_many_17, wX4_many_18, wX4_many_19, wX4_many_19q, wX4_many_19n, wX4_many_20, wX4_many_23, wX4_many_23n, wX4_many_26, wX4_many_29, wX4_many_29q, wX4_many_29n, wX4_many_30, wX4_many_33, wX4_many_33n, wX4_many_36, wX4_many_37, wX4_many_38, wX4_many_38q, wX4_many_38n, wX4_many_39, wX4_many_42, wX4_many_42n, wX4_many_45, wX4_many_48, wX4_many_48q, wX4_many_48n, wX4_many_49, wX4_many_52, wX4_many_52n, wX4_many_55, wX4_many_56, wX4_many_59, wX4_many_59q, wX4_many_59n, wX4_many_60, wX4_many_63, wX4_many_63n, wX4_many_66, wX4_many_67, if_true, if_false, ↓reduceIte, xpu_s, xpu_n, Option.bind_some, xk_i, xk_r, xk_0, xk_u, xk_l, xk_k, xk_q, rf_s, rf_n, q_e1, q_e2, Nat.zero_add, Nat.reduceEqDiff, Nat.reduceAdd, Nat.reduceMul, Nat.reduceSub, Nat.reduceLT, Nat.reduceLeDiff, Nat.reduceDiv, Nat.reduceMod, n1, n5, n6, one_ne0, eq_self]
  · rw [xso_3] at n5
    simp (disch := first | assumption | exact nI_ne0 (by decide) (by decide) | exact zb_01 | exact Or.inl rfl | exact Or.inr rfl | with_unfolding_all exact id (by assumption) | with_unfolding_all exact id (xix_8 (by assumption) (by omega) (by omega)) | omega) only [wX4_many_e, wX4_many_0, wX4_many_0q, wX4_many_0n, wX4_many_1, wX4_many_4, wX4_many_4n, wX4_many_7, wX4_many_10, wX4_many_10q, wX4_many_10n, wX4_many_11, wX4_many_14, wX4_many_14n, wX4_many_17, wX4_many_18, wX4_many_19, wX4_many_19q, wX4_many_19n, wX4_many_20, wX4_many_23, wX4_many_23n, wX4_many_26, wX4_many_29, wX4_many_29q, wX4_many_29n, wX4_many_30, wX4_many_33, wX4_many_33n, wX4_many_36, wX4_many_37, wX4_many_38, wX4_many_38q, wX4_many_38n, wX4_many_39, wX4_many_42, wX4_many_42n, wX4_many_45, wX4_many_48, wX4_many_48q, wX4_many_48n, wX4_many_49, wX4_many_52, wX4_many_52n, wX4_many_55, wX4_many_56, wX4_many_59, wX4_many_59q, wX4_many_59n, wX4_many_60, wX4_many_63, wX4_many_63n, wX4_many_66, wX4_many_67, if_true, if_false, ↓reduceIte, xpu_s, xpu_n, Option.bind_some, xk_i, xk_r, xk_0, xk_u, xk_l, xk_k, xk_q, rf_s, rf_n, q_e1, q_e2, Nat.zero_add, Nat.reduceEqDiff, Nat.reduceAdd, Nat.reduceMul, Nat.reduceSub, Nat.reduceLT, Nat.reduceLeDiff, Nat.reduceDiv, Nat.reduceMod, n1, n5, n6, one_ne0, eq_self]
theorem kX4_number (N : NQ h r q s n P) (hi : i < n) : C_ d mX4_number [.ref (146 + r), .int (nI i)] h = some (some (.long (pN P (40 * r + i))), h) := by
  obtain ⟨n1, n2, n3, n4, n5, n6, n7⟩ := N
  have n7 := n7 i hi
  rcases (show s = 0 ∨ s = 1 ∨ s = 2 ∨ s = 3 by omega) with rfl | rfl | rfl | rfl
  · rw [xso_0] at n5
    rw [if_neg (by decide)] at n7
    simp (disch := first | exact Or.inl n5 | exact xix_8 n6 (by omega) (by omega) | first | assumption | exact nI_ne0 (by decide) (by decide) | exact zb_01 | exact Or.inl rfl | exact Or.inr rfl | with_unfolding_all exact id (by assumption) | with_unfolding_all exact id (xix_8 (by assumption) (by omega) (by omega)) | omega) only [wX4_number_e, wX4_number_0, wX4_number_0q, wX4_number_0n, wX4_number_1, wX4_number_4, wX4_number_4n, wX4_number_7, wX4_number_10, wX4_number_10q, wX4_number_10n, wX4_number_11, wX4_number_14, wX4_number_14n, wX4_number_17, wX4_number_18, wX4_number_19, wX4_number_20, wX4_number_21, wX4_number_21q, wX4_number_21n, wX4_number_22, wX4_number_25, wX4_number_25n, wX4_number_28, wX4_number_31, wX4_number_31q, wX4_number_31n, wX4_number_32, wX4_number_35, wX4_number_35n, wX4_number_38, wX4_number_39, wX4_number_40, wX4_number_41, wX4_number_42, wX4_number_42q, wX4_number_42n, wX4_number_43, wX4_number_46, wX4_number_46n, wX4_number_49, wX4_number_52, wX4_number_52q, wX4_number_52n, wX4_number_53, wX4_number_56, wX4_number_56n, wX4_number_59, wX4_number_60, wX4_number_61, wX4_number_62, wX4_number_65, wX4_number_65q, wX4_number_65n, wX4_number_66, wX4_number_69, wX4_number_69n, wX4_number_72, wX4_number_73, wX4_number_74, if_true, if_false, ↓reduceIte, xpu_s, xpu_n, Option.bind_some, xk_i, xk_r, xk_0, xk_u, xk_l, xk_k, xk_q, rf_s, rf_n, q_e1, q_e2, Nat.zero_add, Nat.reduceEqDiff, Nat.reduceAdd, Nat.reduceMul, Nat.reduceSub, Nat.reduceLT, Nat.reduceLeDiff, Nat.reduceDiv, Nat.reduceMod, nI_c, n1, n5, n7, one_ne0, eq_self]
  · rw [xso_1] at n5
    rw [if_neg (by decide)] at n7
    simp (disch := first | exact xix_8 n6 (by omega) (by omega) | first | assumption | exact nI_ne0 (by decide) (by decide) | exact zb_01 | exact Or.inl rfl | exact Or.inr rfl | with_unfolding_all exact id (by assumption) | with_unfolding_all exact id (xix_8 (by assumption) (by omega) (by omega)) | omega) only [wX4_number_e, wX4_number_0, wX4_number_0q, wX4_number_0n, wX4_number_1, wX4_number_4, wX4_number_4n, wX4_number_7, wX4_number_10, wX4_number_10q, wX4_number_10n, wX4_number_11, wX4_number_14, wX4_number_14n, wX4_number_17, wX4_number_18, wX4_number_19, wX4_number_20, wX4_number_21, wX4_number_21q, wX4_number_21n, wX4_number_22, wX4_number_25, wX4_number_25n, wX4_number_28, wX4_number_31, wX4_number_31q, wX4_number_31n, wX4_number_32, wX4_number_35, wX4_number_35n, wX4_number_38, wX4_number_39, wX4_number_40, wX4_number_41, wX4_number_42, wX4_number_42q, wX4_number_42n, wX4_number_43, wX4_number_46, wX4_number_46n, wX4_number_49, wX4_number_52, wX4_number_52q, wX4_number_52n, wX4_number_53, wX4_number_56, wX4_number_56n, wX4_number_59, wX4_number_60, wX4_number_61, wX4_number_62, wX4_number_65, wX4_number_65q, wX4_number_65n, wX4_number_66, wX4_number_69, wX4_number_69n, wX4_number_72, wX4_number_73, wX4_number_74, if_true, if_false, ↓reduceIte, xpu_s, xpu_n, Option.bind_some, xk_i, xk_r, xk_0, xk_u, xk_l, xk_k, xk_q, rf_s, rf_n, q_e1, q_e2, Nat.zero_add, Nat.reduceEqDiff, Nat.reduceAdd, Nat.reduceMul, Nat.reduceSub, Nat.reduceLT, Nat.reduceLeDiff, Nat.reduceDiv, Nat.reduceMod, nI_c, n1, n5, n7, one_ne0, eq_self]
  · rw [xso_2] at n5
    rw [if_neg (by decide)] at n7
    simp (disch := first | exact xix_8 n6 (by omega) (by omega) | first | assumption | exact nI_ne0 (by decide) (by decide) | exact zb_01 | exact Or.inl rfl | exact Or.inr rfl | with_unfolding_all exact id (by assumption) | with_unfolding_all exact id (xix_8 (by assumption) (by omega) (by omega)) | omega) only [wX4_number_e, wX4_number_0, wX4_number_0q, wX4_number_0n, wX4_number_1, wX4_number_4, wX4_number_4n, wX4_number_7, wX4_number_10, wX4_number_10q, wX4_number_10n, wX4_number_11, wX4_number_14, wX4_number_14n, wX4_number_17, wX4_number_18, wX4_number_19, wX4_number_20, wX4_number_21, wX4_number_21q, wX4_number_21n, wX4_number_22, wX4_number_25, wX4_number_25n, wX4_number_28, wX4_number_31, wX4_number_31q, wX4_number_31n, wX4_number_32, wX4_number_35, wX4_number_35n, wX4_number_38, wX4_number_39, wX4_number_40, wX4_number_41, wX4_number_42, wX4_number_42q, wX4_number_42n, wX4_number_43, wX4_number_46, wX4_number_46n, wX4_number_49, wX4_number_52, wX4_number_52q, wX4_number_52n, wX4_number_53, wX4_number_56, wX4_number_56n, wX4_number_59, wX4_number_60, wX4_number_61, wX4_number_62, wX4_number_65, wX4_number_65q, wX4_number_65n, wX4_number_66, wX4_number_69, wX4_number_69n, wX4_number_72, wX4_number_73, wX4_number_74, if_true, if_false, ↓reduceIte, xpu_s, xpu_n, Option.bind_some, xk_i, xk_r, xk_0, xk_u, xk_l, xk_k, xk_q, rf_s, rf_n, q_e1, q_e2, Nat.zero_add, Nat.reduceEqDiff, Nat.reduceAdd, Nat.reduceMul, Nat.reduceSub, Nat.reduceLT, Nat.reduceLeDiff, Nat.reduceDiv, Nat.reduceMod, nI_c, n1, n5, n7, one_ne0, eq_self]
  · rw [xso_3] at n5
    rw [if_pos rfl] at n7
    simp (disch := first | exact xix_8 n6 (by omega) (by omega) | first | assumption | exact nI_ne0 (by decide) (by decide) | exact zb_01 | exact Or.inl rfl | exact Or.inr rfl | with_unfolding_all exact id (by assumption) | with_unfolding_all exact id (xix_8 (by assumption) (by omega) (by omega)) | omega) only [wX4_number_e, wX4_number_0, wX4_number_0q, wX4_number_0n, wX4_number_1, wX4_number_4, wX4_number_4n, wX4_number_7, wX4_number_10, wX4_number_10q, wX4_number_10n, wX4_number_11, wX4_number_14, wX4_number_14n, wX4_number_17, wX4_number_18, wX4_number_19, wX4_number_20, wX4_number_21, wX4_number_21q, wX4_number_21n, wX4_number_22, wX4_number_25, wX4_number_25n, wX4_number_28, wX4_number_31, wX4_number_31q, wX4_number_31n, wX4_number_32, wX4_number_35, wX4_number_35n, wX4_number_38, wX4_number_39, wX4_number_40, wX4_number_41, wX4_number_42, wX4_number_42q, wX4_number_42n, wX4_number_43, wX4_number_46, wX4_number_46n, wX4_number_49, wX4_number_52, wX4_number_52q, wX4_number_52n, wX4_number_53, wX4_number_56, wX4_number_56n, wX4_number_59, wX4_number_60, wX4_number_61, wX4_number_62, wX4_number_65, wX4_number_65q, wX4_number_65n, wX4_number_66, wX4_number_69, wX4_number_69n, wX4_number_72, wX4_number_73, wX4_number_74, if_true, if_false, ↓reduceIte, xpu_s, xpu_n, Option.bind_some, xk_i, xk_r, xk_0, xk_u, xk_l, xk_k, xk_q, rf_s, rf_n, q_e1, q_e2, Nat.zero_add, Nat.reduceEqDiff, Nat.reduceAdd, Nat.reduceMul, Nat.reduceSub, Nat.reduceLT, Nat.reduceLeDiff, Nat.reduceDiv, Nat.reduceMod, nI_c, n1, n5, n7, one_ne0, eq_self]
theorem kX0_isRow : C_ (d + 1) mX0_isRow [.int x] h = some (some (.int (zb (wi x (nI 0) (nI 3)))), h) := by
  simp (disch := first | assumption | exact nI_ne0 (by decide) (by decide) | exact zb_01 | exact Or.inl rfl | exact Or.inr rfl | with_unfolding_all exact id (by assumption) | with_unfolding_all exact id (xix_8 (by assumption) (by omega) (by omega)) | omega) only [wX0_isRow_e, wX0_isRow_0, wX0_isRow_1, wX0_isRow_2, wX0_isRow_3, wX0_isRow_6, wX0_isRow_9, if_true, if_false, ↓reduceIte, xpu_s, xpu_n, Option.bind_some, xk_i, xk_r, xk_0, xk_u, xk_l, xk_k, xk_q, rf_s, rf_n, o_TI, o_TL, o_TR, o_NI, o_NL, o_NR, o_XI, o_XL, o_XR, o_RI, o_RL, o_LI, o_LR, o_IL, o_IR, o_II, o_LL, o_RR, o_pII, o_pLL, up_s, q_e1, q_e2, Nat.zero_add, Nat.reduceEqDiff, Nat.reduceAdd, Nat.reduceMul, Nat.reduceSub, Nat.reduceLT, Nat.reduceLeDiff, Nat.reduceDiv, Nat.reduceMod, nI_c, nI_add, up_ne, kX0_in, l6a_0, l6b_0, l6a_1, l6b_1, l6a_2, l6b_2, l6a_3, l6b_3, l6a_4, l6b_4, l6a_5, l6b_5, l6a_7, l6b_7, l6a_20, l6b_20, l6a_30, l6b_30, l6a_39, l6b_39, l6a_40, l6b_40, l6a_60, l6b_60, l6a_99, l6b_99, l6a_100, l6b_100, l6a_200, l6b_200, l6a_300, l6b_300, l6a_600, l6b_600, l6a_999, l6b_999, l6a_1000, l6b_1000, l6a_9999, l6b_9999, l6a_1000000, l6b_1000000, l6a_12, l6b_12, l64_xx, wi_d, one_ne0, zb_0]
/-- a row of the component: nothing, or something -/
theorem XR_nq (X : XR h P) (hr : r < 4) : oR h 64 17 = some 145 ∧ oT h 145 = 47 ∧ oN h 145 = 4 ∧ oR h 145 r = some (146 + r) ∧ oT h (146 + r) = 6 ∧ ((pS P r = -1 ∧ oR h (146 + r) 0 = none) ∨ ∃ q s n, NQ h r q s n P ∧ pS P r = nI s ∧ pM P r = nI n) := by
  obtain ⟨ow, s, X⟩ := X
  have x10 := X.2.2.2.2.2.2.2.2.2.1 r hr
  obtain ⟨x1, x2, x3, x4, x5, x6, x7, x8, x9, x10', x11, x12, x13, x14, x15, x16, x17, x18, x19, x20, x21, x22, x23, x24⟩ := X.1
  refine ⟨x10', x21, x22, (x23 r hr).1, (x23 r hr).2, ?_⟩
  rcases x10 with q | ⟨q, s, n, n1, n2, n3, n4, n5, n6, n7, n8, n9⟩
  · exact Or.inl q
  · exact Or.inr ⟨q, s, n, ⟨n1, (x23 r hr).2, n4, n6, n7, n8, n9⟩, n3, n5⟩
theorem sm_C {a : Nat} : sm h (pC h k m) a := ⟨rfl, rfl, rfl, rfl, rfl⟩
theorem XR_C (X : XR h P) : XR (pC h k m) P := by
  obtain ⟨ow, s, X⟩ := X
  have X0 := X
  obtain ⟨x1, x2, x3, x4, x5, x6, x7, x8, x9, x10, x11, x12, x13⟩ := X0
  exact ⟨ow, s, qF_self (P := P) ▸ XR_fr (F := pF P) X (XT_fr (h := h) (fun a ha => ⟨rfl, rfl⟩) (fun j _ => rfl) rfl rfl (fun a j _ _ _ => rfl) (fun a ha => rfl) x1) rfl rfl rfl rfl rfl x5 rfl (fun r _ => rfl) (fun a ha => sm_C) (fun a h1 h2 => sm_C) (Nat.le_refl _) (fun a ha => (x12 a ha).1) (fun a _ => rfl)⟩
/-- the numbers a row begins with -/
def nz (l : rL) (r n : Nat) : rL := fun j => if 40 * r ≤ j ∧ j < 40 * r + n then 0 else l j
def hNu (h : xH) (t n r : Nat) : xH := pR (pO h t n) (146 + r) (va_up (oR h (146 + r)) 0 (some (oX h)))
theorem XR_num (X : XR h P) (hr : r < 4) (hs : s < 4) (hn : n ≤ 40) : XR (hNu h (xsort (nI s)) n r) (qS P (va_up (pS P) r (nI s)) (va_up (pM P) r (nI n)) (nz (pN P) r n)) := by
  obtain ⟨ow, s0, x1, x2, x3, x4, x5, x6, x7, x8, x9, x10, x11, x12, x13⟩ := X
  have xs := xso_r hs
  have sN : ∀ a, ¬ a = oX h → ¬ a = 146 + r → sm h (hNu h (xsort (nI s)) n r) a := fun a h1 h2 => sm_R (sm_O h1) h2
  have oN_ : ow (oX h) = 100 := (x12 _ (Nat.le_refl _)).2
  have o146 : ow (146 + r) = 100 := (x13 _ (by omega)).1
  have nx : ∀ a, ¬ ow a = 100 → ¬ a = oX h ∧ ¬ a = 146 + r := fun a ha => ⟨fun z => ha (by rw [z]; exact oN_), fun z => ha (by rw [z]; exact o146)⟩
  have nt : ∀ a, 9 ≤ oT h a → oT h a ≤ 18 → sm h (hNu h (xsort (nI s)) n r) a := fun a h1 h2 => sN a (fun z => by rw [z, (x12 _ (Nat.le_refl _)).1] at h1; omega) (fun z => (x13 (146 + r) (by omega)).2 (by rw [z] at h1 h2; exact ⟨h1, h2⟩))
  have eT : ∀ a, ¬ a = oX h → oT (hNu h (xsort (nI s)) n r) a = oT h a := fun a ha => by
    show oT (pO h (xsort (nI s)) n) a = _
    rw [o_TO, if_neg ha]
  have eN : ∀ a, ¬ a = oX h → oN (hNu h (xsort (nI s)) n r) a = oN h a := fun a ha => by
    show oN (pO h (xsort (nI s)) n) a = _
    rw [o_NO, if_neg ha]
  have eR : ∀ a, ¬ a = oX h → ¬ a = 146 + r → oR (hNu h (xsort (nI s)) n r) a = oR h a := fun a h1 h2 => (sN a h1 h2).2.2.2.1
  have eI : ∀ a, ¬ a = oX h → oI (hNu h (xsort (nI s)) n r) a = oI h a := fun a ha => by
    show oI (pO h (xsort (nI s)) n) a = _
    rw [o_IO, if_neg ha]
  obtain ⟨ow1, hw⟩ : ∃ ow1 : Nat → Nat, ow1 = fun a => if a = oX h then 110 + r else if ow a = 110 + r then 100 else ow a := ⟨_, rfl⟩
  have wk : ∀ a, ¬ a = oX h → ¬ ow a = 110 + r → ow1 a = ow a := fun a h1 h2 => by
    rw [hw]
    show (if a = oX h then 110 + r else if ow a = 110 + r then 100 else ow a) = _
    rw [if_neg h1, if_neg h2]
  have fr : ∀ k, k < 3 → ∀ t A, XS ow k h t A → XS ow1 k (hNu h (xsort (nI s)) n r) t A := fun k hk t A q => XS_m hk (fun a ha => sN a (nx a (by omega)).1 (nx a (by omega)).2) nt (fun a ha => wk a (nx a (by omega)).1 (by omega)) q
  refine ⟨ow1, s0, XT_fr (h := h) (fun a ha => ⟨eT a (by omega), eN a (by omega)⟩) (fun j _ => by rw [eR 64 (by omega) (by omega)]) (eR 85 (by omega) (by omega)) (eR 145 (by omega) (by omega)) (fun a j _ _ _ => by rw [eR a (by omega) (by omega)]) (fun a ha => eI a (by omega)) x1, ?_, fr 0 (by omega) _ _ x3, fun i hi => ?_, ?_, ?_, ?_, ?_, ?_, fun r' hr' => ?_, ?_, fun a ha => ?_, fun a ha => ?_⟩
  · rw [eR 64 (by omega) (by omega)]; exact x2
  · rcases x4 i hi with ⟨y1, y2⟩ | ⟨y1, t, y2, y3⟩
    · exact Or.inl ⟨y1, by rw [eR 76 (by omega) (by omega)]; exact y2⟩
    · exact Or.inr ⟨y1, t, by rw [eR 76 (by omega) (by omega)]; exact y2, fr (i + 1) (by omega) _ _ y3⟩
  · rw [eI 77 (by omega)]; exact x5
  · rw [eI 78 (by omega)]; exact x6
  · rw [eI 64 (by omega)]; exact x7
  · rw [eI 64 (by omega)]; exact x8
  · rw [eI 64 (by omega)]; exact x9
  · by_cases e : r' = r
    · subst e
      refine Or.inr ⟨oX h, s, n, ?_, ?_, up_s, hs, up_s, hn, ?_, ?_, fun i hi => ?_⟩
      · show oR (pR (pO h (xsort (nI s)) n) (146 + r') (va_up (oR h (146 + r')) 0 (some (oX h)))) (146 + r') 0 = _
        rw [o_RR, if_pos rfl, up_s]
      · rw [hw]; exact if_pos rfl
      · show oT (pO h (xsort (nI s)) n) (oX h) = _
        rw [o_TO, if_pos rfl]
      · show oN (pO h (xsort (nI s)) n) (oX h) = _
        rw [o_NO, if_pos rfl]
      · show (if 40 * r' ≤ 40 * r' + i ∧ 40 * r' + i < 40 * r' + n then (0 : Int64) else pN P (40 * r' + i)) = if s = 3 then oL (pO h (xsort (nI s)) n) (oX h) i else (oI (pO h (xsort (nI s)) n) (oX h) i).toInt64
        rw [if_pos (by omega), o_LO, if_pos rfl, o_IO, if_pos rfl]
        split <;> rfl
    · rcases x10 r' hr' with ⟨n1, n2⟩ | ⟨q, s', n', n1, n2, n3, n4, n5, n6, n7, n8, n9⟩
      · refine Or.inl ⟨?_, ?_⟩
        · show va_up (pS P) r _ r' = _
          rw [up_ne e]; exact n1
        · rw [eR _ (by omega) (by omega)]; exact n2
      · have nq := nx q (by omega)
        have sq := sN q nq.1 nq.2
        refine Or.inr ⟨q, s', n', ?_, ?_, ?_, n4, ?_, n6, ?_, ?_, fun i hi => ?_⟩
        · rw [eR _ (by omega) (by omega)]; exact n1
        · rw [wk q nq.1 (by omega)]; exact n2
        · show va_up (pS P) r _ r' = _
          rw [up_ne e]; exact n3
        · show va_up (pM P) r _ r' = _
          rw [up_ne e]; exact n5
        · rw [sq.1]; exact n7
        · rw [sq.2.1]; exact n8
        · show (if 40 * r ≤ 40 * r' + i ∧ 40 * r' + i < 40 * r + n then (0 : Int64) else pN P (40 * r' + i)) = _
          rw [if_neg (by omega), sq.2.2.1, sq.2.2.2.2]
          exact n9 i hi
  · show 170 ≤ oX h + 1
    omega
  · have ha : oX h + 1 ≤ a := ha
    rw [eT a (by omega), wk a (by omega) (by rw [(x12 a (by omega)).2]; omega)]
    exact x12 a (by omega)
  · rw [eT a (by omega), wk a (by omega) (by rw [(x13 a ha).1]; omega)]
    exact x13 a ha
theorem KM_num (h170 : 170 ≤ oX h) (hr : r < 4) : KM h (hNu h t n r) := fun a ha => sm_R (sm_O (by omega)) (by omega)
/-- a number of a row is written -/
theorem XR_nw (X : XRo ow s h P) (hr : r < 4) (hq : oR h (146 + r) 0 = some q) (oq : ow q = 110 + r) (tq : 40 ≤ oT h q) (s0 : ∀ a, ¬ a = q → sm h h1 a) (eT : oT h1 = oT h) (eN : oN h1 = oN h) (eR : oR h1 = oR h) (eX : oX h1 = oX h) (hv : NR ow h1 r (qN P l)) (hg : ∀ r', ¬ r' = r → ∀ i, i < 40 → l (40 * r' + i) = pN P (40 * r' + i)) : XR h1 (qN P l) ∧ KM h h1 := by
  obtain ⟨x1, x2, x3, x4, x5, x6, x7, x8, x9, x10, x11, x12, x13⟩ := X
  have nq : ¬ (q < 65 ∨ (76 ≤ q ∧ q < 170)) := fun z => by have := (x13 q z).1; omega
  have nt : ∀ a, 9 ≤ oT h a → oT h a ≤ 18 → sm h h1 a := fun a h1 h2 => s0 a (fun z => by rw [z] at h2; omega)
  have so : ∀ a, ¬ ow a = 110 + r → sm h h1 a := fun a ha => s0 a (fun z => ha (by rw [z]; exact oq))
  have fr : ∀ k, k < 3 → ∀ t A, XS ow k h t A → XS ow k h1 t A := fun k hk t A q => XS_m hk (fun a ha => so a (by omega)) nt (fun a _ => rfl) q
  have eI : ∀ a, (a < 65 ∨ (76 ≤ a ∧ a < 170)) → oI h1 a = oI h a := fun a ha => (s0 a (fun z => nq (by rw [← z]; exact ha))).2.2.1
  refine ⟨⟨ow, s, XT_fr (h := h) (fun a ha => ⟨by rw [eT], by rw [eN]⟩) (fun j _ => by rw [eR]) (by rw [eR]) (by rw [eR]) (fun a j _ _ _ => by rw [eR]) (fun a ha => eI a (by omega)) x1, by rw [eR]; exact x2, fr 0 (by omega) _ _ x3, fun i hi => ?_, ?_, ?_, ?_, ?_, ?_, fun r' hr' => ?_, by rw [eX]; exact x11, fun a ha => ?_, fun a ha => ?_⟩, fun a ha => s0 a (fun z => nq (by rw [← z]; omega))⟩
  · rcases x4 i hi with ⟨y1, y2⟩ | ⟨y1, t, y2, y3⟩
    · exact Or.inl ⟨y1, by rw [eR]; exact y2⟩
    · exact Or.inr ⟨y1, t, by rw [eR]; exact y2, fr (i + 1) (by omega) _ _ y3⟩
  · rw [eI 77 (by omega)]; exact x5
  · rw [eI 78 (by omega)]; exact x6
  · rw [eI 64 (by omega)]; exact x7
  · rw [eI 64 (by omega)]; exact x8
  · rw [eI 64 (by omega)]; exact x9
  · by_cases e : r' = r
    · subst e; exact hv
    · rcases x10 r' hr' with ⟨n1, n2⟩ | ⟨q', s', n', n1, n2, n3, n4, n5, n6, n7, n8, n9⟩
      · exact Or.inl ⟨n1, by rw [eR]; exact n2⟩
      · have sq := so q' (by omega)
        refine Or.inr ⟨q', s', n', by rw [eR]; exact n1, n2, n3, n4, n5, n6, by rw [eT]; exact n7, by rw [eN]; exact n8, fun i hi => ?_⟩
        show l (40 * r' + i) = _
        rw [hg r' e i (by omega), sq.2.2.1, sq.2.2.2.2]
        exact n9 i hi
  · rw [eT]; rw [eX] at ha; exact x12 a ha
  · rw [eT]; exact x13 a ha
end
