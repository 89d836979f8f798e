/-! CALLS: image, restore -/
section
variable {d : Nat} {h g z z1 : xH} {P : sS} {A B : rI} {x : Int32} {ow nw ow1 : Nat → Nat} {s o i j k n t p l c a m b : Nat}
def imA (A : rI) (b m : Nat) : rI := fun j => if b ≤ j ∧ j < b + m then A (j - b) else A j
def reA (A : rI) (b m : Nat) : rI := fun j => if j < m then A (b + j) else A j
def q_image (P : sS) (x : Int32) : sV := bif wi x (nI 0) (nI 1) then (.int (nI 0), qB (qA P (imA (pA P) (578 * (x.toNatClampNeg + 1)) 578)) (va_up (pB P) x.toNatClampNeg (nI 1))) else nn P (-2)
def q_restore (P : sS) (x : Int32) : sV := bif wi x (nI 0) (nI 1) then (if pB P x.toNatClampNeg = 0 then nn P (-5) else (.int (nI 0), qA P (reA (pA P) (578 * (x.toNatClampNeg + 1)) 578))) else nn P (-2)
theorem imA_0 : imA A b 0 = A := by
  funext j
  unfold imA
  rw [if_neg (by omega)]
theorem imA_up : va_up (imA A b m) (b + m) (A m) = imA A b (m + 1) := by
  funext j
  unfold va_up imA
  by_cases q : j = b + m
  · rw [if_pos q, if_pos (by omega), show j - b = m by omega]
  · rw [if_neg q]
    by_cases q2 : b ≤ j ∧ j < b + m
    · rw [if_pos q2, if_pos (by omega)]
    · rw [if_neg q2, if_neg (by omega)]
theorem imA_lo (h : j < b) : imA A b m j = A j := if_neg (by omega)
theorem reA_0 : reA A b 0 = A := by
  funext j
  unfold reA
  rw [if_neg (by omega)]
theorem reA_up : va_up (reA A b m) m (A (b + m)) = reA A b (m + 1) := by
  funext j
  unfold va_up reA
  by_cases q : j = m
  · rw [if_pos q, if_pos (by omega), q]
  · rw [if_neg q]
    by_cases q2 : j < m
    · rw [if_pos q2, if_pos (by omega)]
    · rw [if_neg q2, if_neg (by omega)]
theorem reA_hi (h : m ≤ j) : reA A b m j = A j := if_neg (by omega)
/-! the second object -/
def HA (h : xH) (f : rI) : xH := pI (R0 h) 152 f
theorem HA_ok {f : rI} (H : MOK h) : MOK (HA h f) := H
theorem HA_T {f : rI} : oT (HA h f) = oT h := rfl
theorem HA_N {f : rI} : oN (HA h f) = oN h := rfl
theorem HA_R {f : rI} : oR (HA h f) = oR h := rfl
theorem HA_152 {f : rI} : oI (HA h f) 152 = f := rfl
theorem HA_153 {f : rI} : oI (HA h f) 153 = oI h 153 := rfl
theorem HA_w {f f2 : rI} : pI (HA h f) 152 f2 = HA h f2 := by
  unfold HA
  rw [o_pII]
theorem HA_0 : HA h (oI h 152) = R0 h := by
  unfold HA
  rw [show oI h 152 = oI (R0 h) 152 from rfl, pI_self]
theorem nX5_image (M : MR h P) : MG (d + 1) h mX5_image [.ref 150, .int x] (q_image P x) := by
  obtain ⟨H, m152, m154, m151, m153, m167, m168, m169, m6, m16, m17, m21, m22⟩ := id M
  have no := fun k : Int32 => nX5_no (d := d) k M
  unfold q_image
  cases h1 : wi x (nI 0) (nI 1) with
  | false =>
    refine MG_nn M ?_
    simp (disch := first | with_unfolding_all exact id (mok_t H rfl) | exact Or.inr (by with_unfolding_all exact mok_t H rfl) | exact nI_ne0 (by decide) (by decide) | with_unfolding_all exact id (m_x152 H (by omega)) | with_unfolding_all exact id (m_x156 H (by omega)) | with_unfolding_all exact id (m_x158 H (by omega)) | with_unfolding_all exact id (m_x159 H (by omega)) | with_unfolding_all exact id (m_x160 H (by omega)) | exact zb_01 | exact Or.inl rfl | exact Or.inr rfl | omega) only [wX5_image_e, wX5_image_0, wX5_image_1, wX5_image_2, wX5_image_5, wX5_image_6, wX5_image_7, wX5_image_8, wX5_image_9, wX5_image_12, wX5_image_15, wX5_image_16, wX5_image_18, wX5_image_21, wX5_image_22, wX5_image_23, wX5_image_25, wX5_image_28, wX5_image_31, wX5_image_32, wX5_image_35, wX5_image_38, wX5_image_39, wX5_image_40, wX5_image_41, wX5_image_42, wX5_image_43, wX5_image_44, wX5_image_45, wX5_image_48, wX5_image_49, wX5_image_50, wX5_image_51, wX5_image_54, wX5_image_57, wX5_image_58, wX5_image_61, wX5_image_62, wX5_image_63, wX5_image_63z, wX5_image_64, wX5_image_65, if_true, if_false, ↓reduceIte, xpu_s, xpu_n, Option.bind_some, xk_i, xk_r, xk_0, xk_u, xk_l, xk_k, xk_q, rf_s, rf_n, R0_p, R0_L, R0_T, R0_N, R0_R, R0_r, R0_6, o_TI, o_TL, o_TR, o_NI, o_NL, o_NR, o_XI, o_XL, o_XR, o_RI, o_RL, o_LI, o_LR, o_IL, o_IR, o_II, o_LL, o_RR, o_pII, o_pLL, up_s, q_e1, q_e2, Nat.zero_add, Nat.reduceEqDiff, Nat.reduceAdd, Nat.reduceMul, Nat.reduceSub, Nat.reduceLT, Nat.reduceLeDiff, Nat.reduceDiv, Nat.reduceMod, m_r1 H, m_r2 H, m_r3 H, m_r4 H, m_r5 H, m_r18 H, m_r19 H, m_r20 H, m_r24 H, m_r25 H, m_r27 H, m_r28 H, m_r29 H, m_r30 H, m_r31 H, m_r32 H, m_r33 H, m_r34 H, m_r35 H, m_n150 H, m_n151 H, m_n152 H, m_n153 H, m_n154 H, m_n155 H, m_n156 H, m_n157 H, m_n158 H, m_n159 H, m_n160 H, m_n161 H, m_n162 H, m_n163 H, m_n164 H, m_n165 H, m_n166 H, m_n167 H, m_n168 H, m_n169 H, nI_c, nI_add, up_ne, kX5_within, l6a_0, l6b_0, l6a_1, l6b_1, l6a_2, l6b_2, l6a_3, l6b_3, l6a_4, l6b_4, l6a_5, l6b_5, l6a_7, l6b_7, l6a_20, l6b_20, l6a_30, l6b_30, l6a_39, l6b_39, l6a_40, l6b_40, l6a_60, l6b_60, l6a_99, l6b_99, l6a_100, l6b_100, l6a_200, l6b_200, l6a_300, l6b_300, l6a_600, l6b_600, l6a_999, l6b_999, l6a_1000, l6b_1000, l6a_9999, l6b_9999, l6a_1000000, l6b_1000000, l6a_12, l6b_12, l64_xx, wi_d, one_ne0, zb_0, not_true_eq_false, not_false_eq_true, and_self, and_true, true_and, and_false, false_and, or_true, true_or, or_false, false_or, decide_true, decide_false, zb_t, zb_f, zb_0, zb_1, eq_self, cond_true, cond_false, Bool.true_eq_false, Bool.false_eq_true, Bool.and_true, Bool.true_and, Bool.and_false, Bool.false_and, Bool.or_true, Bool.true_or, Bool.or_false, Bool.false_or, no, h1]
  | true =>
    obtain ⟨i, hi, rfl⟩ := wi_of (by decide) h1
    rw [nI_clamp (by omega)]
    have e0 : C_ (d + 1) mX5_image [.ref 150, .int (nI i)] h = E_ (d + 1) mX5_image 24 [.val (.ref 150), .val (.int (nI i)), .val (.int (nI 0))] [] (HA h (imA (pA P) (578 * (i + 1)) 0)) := by
      rw [imA_0, ← m152, HA_0]
      simp (disch := first | with_unfolding_all exact id (mok_t H rfl) | exact Or.inr (by with_unfolding_all exact mok_t H rfl) | exact nI_ne0 (by decide) (by decide) | with_unfolding_all exact id (m_x152 H (by omega)) | with_unfolding_all exact id (m_x156 H (by omega)) | with_unfolding_all exact id (m_x158 H (by omega)) | with_unfolding_all exact id (m_x159 H (by omega)) | with_unfolding_all exact id (m_x160 H (by omega)) | exact zb_01 | exact Or.inl rfl | exact Or.inr rfl | omega) only [wX5_image_e, wX5_image_0, wX5_image_1, wX5_image_2, wX5_image_5, wX5_image_6, wX5_image_7, wX5_image_8, wX5_image_9, wX5_image_12, wX5_image_15, wX5_image_16, wX5_image_18, wX5_image_21, wX5_image_22, wX5_image_23, wX5_image_25, wX5_image_28, wX5_image_31, wX5_image_32, wX5_image_35, wX5_image_38, wX5_image_39, wX5_image_40, wX5_image_41, wX5_image_42, wX5_image_43, wX5_image_44, wX5_image_45, wX5_image_48, wX5_image_49, wX5_image_50, wX5_image_51, wX5_image_54, wX5_image_57, wX5_image_58, wX5_image_61, wX5_image_62, wX5_image_63, wX5_image_63z, wX5_image_64, wX5_image_65, if_true, if_false, ↓reduceIte, xpu_s, xpu_n, Option.bind_some, xk_i, xk_r, xk_0, xk_u, xk_l, xk_k, xk_q, rf_s, rf_n, R0_p, R0_L, R0_T, R0_N, R0_R, R0_r, R0_6, o_TI, o_TL, o_TR, o_NI, o_NL, o_NR, o_XI, o_XL, o_XR, o_RI, o_RL, o_LI, o_LR, o_IL, o_IR, o_II, o_LL, o_RR, o_pII, o_pLL, up_s, q_e1, q_e2, Nat.zero_add, Nat.reduceEqDiff, Nat.reduceAdd, Nat.reduceMul, Nat.reduceSub, Nat.reduceLT, Nat.reduceLeDiff, Nat.reduceDiv, Nat.reduceMod, m_r1 H, m_r2 H, m_r3 H, m_r4 H, m_r5 H, m_r18 H, m_r19 H, m_r20 H, m_r24 H, m_r25 H, m_r27 H, m_r28 H, m_r29 H, m_r30 H, m_r31 H, m_r32 H, m_r33 H, m_r34 H, m_r35 H, m_n150 H, m_n151 H, m_n152 H, m_n153 H, m_n154 H, m_n155 H, m_n156 H, m_n157 H, m_n158 H, m_n159 H, m_n160 H, m_n161 H, m_n162 H, m_n163 H, m_n164 H, m_n165 H, m_n166 H, m_n167 H, m_n168 H, m_n169 H, nI_c, nI_add, up_ne, kX5_within, l6a_0, l6b_0, l6a_1, l6b_1, l6a_2, l6b_2, l6a_3, l6b_3, l6a_4, l6b_4, l6a_5, l6b_5, l6a_7, l6b_7, l6a_20, l6b_20, l6a_30, l6b_30, l6a_39, l6b_39, l6a_40, l6b_40, l6a_60, l6b_60, l6a_99, l6b_99, l6a_100, l6b_100, l6a_200, l6b_200, l6a_300, l6b_300, l6a_600, l6b_600, l6a_999, l6b_999, l6a_1000, l6b_1000, l6a_9999, l6b_9999, l6a_1000000, l6b_1000000, l6a_12, l6b_12, l64_xx, wi_d, one_ne0, zb_0, not_true_eq_false, not_false_eq_true, and_self, and_true, true_and, and_false, false_and, or_true, true_or, or_false, false_or, decide_true, decide_false, zb_t, zb_f, zb_0, zb_1, eq_self, cond_true, cond_false, Bool.true_eq_false, Bool.false_eq_true, Bool.and_true, Bool.true_and, Bool.and_false, Bool.false_and, Bool.or_true, Bool.true_or, Bool.or_false, Bool.false_or, h1]
    refine ⟨pI (HA h (imA (pA P) (578 * (i + 1)) 578)) 153 (va_up (pB P) i (nI 1)), ?_, MR_B (MR_A (MR_0 M)), KX_I (KX_I KX_0 (by omega) (by omega)) (by omega) (by omega)⟩
    rw [e0]
    have x3 : ∀ f, xix (nI i) (oN (HA h f) 153) = true := fun f => m_x153 (h := HA h f) H (by omega)
    have t3 : ∀ f, oT (HA h f) 153 = 42 := fun f => mok_t (h := HA h f) H rfl
    have m1 : nI 578 * nI (i + 1) = nI (578 * (i + 1)) := pk_mul _ _
    refine lpe_st (n := 578) (s := ()) (z := ()) (f := fun _ u => u) (P := fun _ _ _ => True) (Q := fun _ e => e = some (some (.int (nI 0)), pI (HA h (imA (pA P) (578 * (i + 1)) 578)) 153 (va_up (pB P) i (nI 1)))) (F := fun k _ _ => E_ (d + 1) mX5_image 24 [.val (.ref 150), .val (.int (nI i)), .val (.int (nI k))] [] (HA h (imA (pA P) (578 * (i + 1)) k))) trivial (fun k _ _ hk _ => ⟨(), ?_, trivial⟩) (fun _ _ _ => ?_)
    · have lt : (nI k < nI 578) = True := eq_true (nI_lt hk (by omega))
      have lo : imA (pA P) (578 * (i + 1)) k k = pA P k := imA_lo (by omega)
      have up := imA_up (A := pA P) (b := 578 * (i + 1)) (m := k)
      refine wX5_image_24.trans ?_
      simp (disch := first | exact mok_t (HA_ok H) rfl | exact m_x152 (HA_ok H) (by omega) | omega) only [wX5_image_e, wX5_image_0, wX5_image_1, wX5_image_2, wX5_image_5, wX5_image_6, wX5_image_7, wX5_image_8, wX5_image_9, wX5_image_12, wX5_image_15, wX5_image_16, wX5_image_18, wX5_image_21, wX5_image_22, wX5_image_23, wX5_image_25, wX5_image_28, wX5_image_31, wX5_image_32, wX5_image_35, wX5_image_38, wX5_image_39, wX5_image_40, wX5_image_41, wX5_image_42, wX5_image_43, wX5_image_44, wX5_image_45, wX5_image_48, wX5_image_49, wX5_image_50, wX5_image_51, wX5_image_54, wX5_image_57, wX5_image_58, wX5_image_61, wX5_image_62, wX5_image_63, wX5_image_63z, wX5_image_64, wX5_image_65, if_true, if_false, ↓reduceIte, xpu_s, xpu_n, Option.bind_some, xk_i, xk_r, xk_0, xk_u, xk_l, xk_k, xk_q, rf_s, rf_n, q_e1, q_e2, Nat.zero_add, Nat.reduceEqDiff, Nat.reduceAdd, Nat.reduceMul, Nat.reduceSub, Nat.reduceLT, Nat.reduceLeDiff, Nat.reduceDiv, Nat.reduceMod, m_r1 H, m_r2 H, m_r3 H, m_r4 H, m_r5 H, m_r18 H, m_r19 H, m_r20 H, m_r24 H, m_r25 H, m_r27 H, m_r28 H, m_r29 H, m_r30 H, m_r31 H, m_r32 H, m_r33 H, m_r34 H, m_r35 H, m_n150 H, m_n151 H, m_n152 H, m_n153 H, m_n154 H, m_n155 H, m_n156 H, m_n157 H, m_n158 H, m_n159 H, m_n160 H, m_n161 H, m_n162 H, m_n163 H, m_n164 H, m_n165 H, m_n166 H, m_n167 H, m_n168 H, m_n169 H, HA_R, HA_152, HA_w, lt, m1, lo, up, nI_c, nI_add, not_true_eq_false, not_false_eq_true, and_self, and_true, true_and, and_false, false_and, or_true, true_or, or_false, false_or, decide_true, decide_false, zb_t, zb_f, zb_0, zb_1, eq_self]
    · refine wX5_image_24.trans ?_
      simp (disch := first | exact x3 _ | exact t3 _ | exact mok_t (HA_ok H) rfl | omega) only [wX5_image_25, wX5_image_28, wX5_image_57, wX5_image_58, wX5_image_61, wX5_image_62, wX5_image_63, wX5_image_63z, wX5_image_64, wX5_image_65, if_true, if_false, ↓reduceIte, xpu_s, xpu_n, Option.bind_some, xk_i, xk_r, xk_0, xk_u, xk_l, xk_k, xk_q, rf_s, rf_n, q_e1, q_e2, Nat.zero_add, Nat.reduceEqDiff, Nat.reduceAdd, Nat.reduceMul, Nat.reduceSub, Nat.reduceLT, Nat.reduceLeDiff, Nat.reduceDiv, Nat.reduceMod, m_r1 H, m_r2 H, m_r3 H, m_r4 H, m_r5 H, m_r18 H, m_r19 H, m_r20 H, m_r24 H, m_r25 H, m_r27 H, m_r28 H, m_r29 H, m_r30 H, m_r31 H, m_r32 H, m_r33 H, m_r34 H, m_r35 H, m_n150 H, m_n151 H, m_n152 H, m_n153 H, m_n154 H, m_n155 H, m_n156 H, m_n157 H, m_n158 H, m_n159 H, m_n160 H, m_n161 H, m_n162 H, m_n163 H, m_n164 H, m_n165 H, m_n166 H, m_n167 H, m_n168 H, m_n169 H, HA_R, HA_153, m153, i_irr, nI_c, nar_1, not_true_eq_false, not_false_eq_true, and_self, and_true, true_and, and_false, false_and, or_true, true_or, or_false, false_or, decide_true, decide_false, zb_t, zb_f, zb_0, zb_1, eq_self]
theorem nX5_restore (M : MR h P) (W : WF P) : MG (d + 1) h mX5_restore [.ref 150, .int x] (q_restore P x) := by
  obtain ⟨H, m152, m154, m151, m153, m167, m168, m169, m6, m16, m17, m21, m22⟩ := id M
  have no := fun k : Int32 => nX5_no (d := d) k M
  unfold q_restore
  cases h1 : wi x (nI 0) (nI 1) with
  | false =>
    refine MG_nn M ?_
    simp (disch := first | with_unfolding_all exact id (mok_t H rfl) | exact Or.inr (by with_unfolding_all exact mok_t H rfl) | exact nI_ne0 (by decide) (by decide) | with_unfolding_all exact id (m_x152 H (by omega)) | with_unfolding_all exact id (m_x156 H (by omega)) | with_unfolding_all exact id (m_x158 H (by omega)) | with_unfolding_all exact id (m_x159 H (by omega)) | with_unfolding_all exact id (m_x160 H (by omega)) | exact zb_01 | exact Or.inl rfl | exact Or.inr rfl | omega) only [wX5_restore_e, wX5_restore_0, wX5_restore_1, wX5_restore_2, wX5_restore_5, wX5_restore_6, wX5_restore_7, wX5_restore_8, wX5_restore_9, wX5_restore_12, wX5_restore_15, wX5_restore_16, wX5_restore_18, wX5_restore_21, wX5_restore_22, wX5_restore_23, wX5_restore_26, wX5_restore_27, wX5_restore_28, wX5_restore_31, wX5_restore_32, wX5_restore_34, wX5_restore_37, wX5_restore_38, wX5_restore_39, wX5_restore_41, wX5_restore_44, wX5_restore_47, wX5_restore_48, wX5_restore_51, wX5_restore_52, wX5_restore_53, wX5_restore_56, wX5_restore_59, wX5_restore_60, wX5_restore_61, wX5_restore_62, wX5_restore_63, wX5_restore_64, wX5_restore_65, wX5_restore_66, wX5_restore_67, wX5_restore_70, wX5_restore_73, wX5_restore_74, if_true, if_false, ↓reduceIte, xpu_s, xpu_n, Option.bind_some, xk_i, xk_r, xk_0, xk_u, xk_l, xk_k, xk_q, rf_s, rf_n, R0_p, R0_L, R0_T, R0_N, R0_R, R0_r, R0_6, o_TI, o_TL, o_TR, o_NI, o_NL, o_NR, o_XI, o_XL, o_XR, o_RI, o_RL, o_LI, o_LR, o_IL, o_IR, o_II, o_LL, o_RR, o_pII, o_pLL, up_s, q_e1, q_e2, Nat.zero_add, Nat.reduceEqDiff, Nat.reduceAdd, Nat.reduceMul, Nat.reduceSub, Nat.reduceLT, Nat.reduceLeDiff, Nat.reduceDiv, Nat.reduceMod, m_r1 H, m_r2 H, m_r3 H, m_r4 H, m_r5 H, m_r18 H, m_r19 H, m_r20 H, m_r24 H, m_r25 H, m_r27 H, m_r28 H, m_r29 H, m_r30 H, m_r31 H, m_r32 H, m_r33 H, m_r34 H, m_r35 H, m_n150 H, m_n151 H, m_n152 H, m_n153 H, m_n154 H, m_n155 H, m_n156 H, m_n157 H, m_n158 H, m_n159 H, m_n160 H, m_n161 H, m_n162 H, m_n163 H, m_n164 H, m_n165 H, m_n166 H, m_n167 H, m_n168 H, m_n169 H, nI_c, nI_add, up_ne, kX5_within, l6a_0, l6b_0, l6a_1, l6b_1, l6a_2, l6b_2, l6a_3, l6b_3, l6a_4, l6b_4, l6a_5, l6b_5, l6a_7, l6b_7, l6a_20, l6b_20, l6a_30, l6b_30, l6a_39, l6b_39, l6a_40, l6b_40, l6a_60, l6b_60, l6a_99, l6b_99, l6a_100, l6b_100, l6a_200, l6b_200, l6a_300, l6b_300, l6a_600, l6b_600, l6a_999, l6b_999, l6a_1000, l6b_1000, l6a_9999, l6b_9999, l6a_1000000, l6b_1000000, l6a_12, l6b_12, l64_xx, wi_d, one_ne0, zb_0, not_true_eq_false, not_false_eq_true, and_self, and_true, true_and, and_false, false_and, or_true, true_or, or_false, false_or, decide_true, decide_false, zb_t, zb_f, zb_0, zb_1, eq_self, cond_true, cond_false, Bool.true_eq_false, Bool.false_eq_true, Bool.and_true, Bool.true_and, Bool.and_false, Bool.false_and, Bool.or_true, Bool.true_or, Bool.or_false, Bool.false_or, no, h1]
  | true =>
    obtain ⟨i, hi, rfl⟩ := wi_of (by decide) h1
    rw [nI_clamp (by omega)]
    have x3 : xix (nI i) (oN (R0 h) 153) = true := m_x153 (h := R0 h) H (by omega)
    have t3 : oT (R0 h) 153 = 41 ∨ oT (R0 h) 153 = 42 := Or.inr (mok_t (h := R0 h) H rfl)
    by_cases g : pB P i = 0
    · rw [if_pos g]
      refine MG_nn M ?_
      simp (disch := first | exact x3 | exact t3 | first | with_unfolding_all exact id (mok_t H rfl) | exact Or.inr (by with_unfolding_all exact mok_t H rfl) | exact nI_ne0 (by decide) (by decide) | with_unfolding_all exact id (m_x152 H (by omega)) | with_unfolding_all exact id (m_x156 H (by omega)) | with_unfolding_all exact id (m_x158 H (by omega)) | with_unfolding_all exact id (m_x159 H (by omega)) | with_unfolding_all exact id (m_x160 H (by omega)) | exact zb_01 | exact Or.inl rfl | exact Or.inr rfl | omega) only [wX5_restore_e, wX5_restore_0, wX5_restore_1, wX5_restore_2, wX5_restore_5, wX5_restore_6, wX5_restore_7, wX5_restore_8, wX5_restore_9, wX5_restore_12, wX5_restore_15, wX5_restore_16, wX5_restore_18, wX5_restore_21, wX5_restore_22, wX5_restore_23, wX5_restore_26, wX5_restore_27, wX5_restore_28, wX5_restore_31, wX5_restore_32, wX5_restore_34, wX5_restore_37, wX5_restore_38, wX5_restore_39, wX5_restore_41, wX5_restore_44, wX5_restore_47, wX5_restore_48, wX5_restore_51, wX5_restore_52, wX5_restore_53, wX5_restore_56, wX5_restore_59, wX5_restore_60, wX5_restore_61, wX5_restore_62, wX5_restore_63, wX5_restore_64, wX5_restore_65, wX5_restore_66, wX5_restore_67, wX5_restore_70, wX5_restore_73, wX5_restore_74, if_true, if_false, ↓reduceIte, xpu_s, xpu_n, Option.bind_some, xk_i, xk_r, xk_0, xk_u, xk_l, xk_k, xk_q, rf_s, rf_n, R0_p, R0_L, R0_T, R0_N, R0_R, R0_r, R0_6, o_TI, o_TL, o_TR, o_NI, o_NL, o_NR, o_XI, o_XL, o_XR, o_RI, o_RL, o_LI, o_LR, o_IL, o_IR, o_II, o_LL, o_RR, o_pII, o_pLL, up_s, q_e1, q_e2, Nat.zero_add, Nat.reduceEqDiff, Nat.reduceAdd, Nat.reduceMul, Nat.reduceSub, Nat.reduceLT, Nat.reduceLeDiff, Nat.reduceDiv, Nat.reduceMod, m_r1 H, m_r2 H, m_r3 H, m_r4 H, m_r5 H, m_r18 H, m_r19 H, m_r20 H, m_r24 H, m_r25 H, m_r27 H, m_r28 H, m_r29 H, m_r30 H, m_r31 H, m_r32 H, m_r33 H, m_r34 H, m_r35 H, m_n150 H, m_n151 H, m_n152 H, m_n153 H, m_n154 H, m_n155 H, m_n156 H, m_n157 H, m_n158 H, m_n159 H, m_n160 H, m_n161 H, m_n162 H, m_n163 H, m_n164 H, m_n165 H, m_n166 H, m_n167 H, m_n168 H, m_n169 H, nI_c, nI_add, up_ne, kX5_within, l6a_0, l6b_0, l6a_1, l6b_1, l6a_2, l6b_2, l6a_3, l6b_3, l6a_4, l6b_4, l6a_5, l6b_5, l6a_7, l6b_7, l6a_20, l6b_20, l6a_30, l6b_30, l6a_39, l6b_39, l6a_40, l6b_40, l6a_60, l6b_60, l6a_99, l6b_99, l6a_100, l6b_100, l6a_200, l6b_200, l6a_300, l6b_300, l6a_600, l6b_600, l6a_999, l6b_999, l6a_1000, l6b_1000, l6a_9999, l6b_9999, l6a_1000000, l6b_1000000, l6a_12, l6b_12, l64_xx, wi_d, one_ne0, zb_0, not_true_eq_false, not_false_eq_true, and_self, and_true, true_and, and_false, false_and, or_true, true_or, or_false, false_or, decide_true, decide_false, zb_t, zb_f, zb_0, zb_1, eq_self, cond_true, cond_false, Bool.true_eq_false, Bool.false_eq_true, Bool.and_true, Bool.true_and, Bool.and_false, Bool.false_and, Bool.or_true, Bool.true_or, Bool.or_false, Bool.false_or, no, h1, m153, g]
    · rw [if_neg g]
      have e0 : C_ (d + 1) mX5_restore [.ref 150, .int (nI i)] h = E_ (d + 1) mX5_restore 40 [.val (.ref 150), .val (.int (nI i)), .val (.int (nI 0))] [] (HA h (reA (pA P) (578 * (i + 1)) 0)) := by
        rw [reA_0, ← m152, HA_0]
        simp (disch := first | exact x3 | exact t3 | first | with_unfolding_all exact id (mok_t H rfl) | exact Or.inr (by with_unfolding_all exact mok_t H rfl) | exact nI_ne0 (by decide) (by decide) | with_unfolding_all exact id (m_x152 H (by omega)) | with_unfolding_all exact id (m_x156 H (by omega)) | with_unfolding_all exact id (m_x158 H (by omega)) | with_unfolding_all exact id (m_x159 H (by omega)) | with_unfolding_all exact id (m_x160 H (by omega)) | exact zb_01 | exact Or.inl rfl | exact Or.inr rfl | omega) only [wX5_restore_e, wX5_restore_0, wX5_restore_1, wX5_restore_2, wX5_restore_5, wX5_restore_6, wX5_restore_7, wX5_restore_8, wX5_restore_9, wX5_restore_12, wX5_restore_15, wX5_restore_16, wX5_restore_18, wX5_restore_21, wX5_restore_22, wX5_restore_23, wX5_restore_26, wX5_restore_27, wX5_restore_28, wX5_restore_31, wX5_restore_32, wX5_restore_34, wX5_restore_37, wX5_restore_38, wX5_restore_39, wX5_restore_41, wX5_restore_44, wX5_restore_47, wX5_restore_48, wX5_restore_51, wX5_restore_52, wX5_restore_53, wX5_restore_56, wX5_restore_59, wX5_restore_60, wX5_restore_61, wX5_restore_62, wX5_restore_63, wX5_restore_64, wX5_restore_65, wX5_restore_66, wX5_restore_67, wX5_restore_70, wX5_restore_73, wX5_restore_74, if_true, if_false, ↓reduceIte, xpu_s, xpu_n, Option.bind_some, xk_i, xk_r, xk_0, xk_u, xk_l, xk_k, xk_q, rf_s, rf_n, R0_p, R0_L, R0_T, R0_N, R0_R, R0_r, R0_6, o_TI, o_TL, o_TR, o_NI, o_NL, o_NR, o_XI, o_XL, o_XR, o_RI, o_RL, o_LI, o_LR, o_IL, o_IR, o_II, o_LL, o_RR, o_pII, o_pLL, up_s, q_e1, q_e2, Nat.zero_add, Nat.reduceEqDiff, Nat.reduceAdd, Nat.reduceMul, Nat.reduceSub, Nat.reduceLT, Nat.reduceLeDiff, Nat.reduceDiv, Nat.reduceMod, m_r1 H, m_r2 H, m_r3 H, m_r4 H, m_r5 H, m_r18 H, m_r19 H, m_r20 H, m_r24 H, m_r25 H, m_r27 H, m_r28 H, m_r29 H, m_r30 H, m_r31 H, m_r32 H, m_r33 H, m_r34 H, m_r35 H, m_n150 H, m_n151 H, m_n152 H, m_n153 H, m_n154 H, m_n155 H, m_n156 H, m_n157 H, m_n158 H, m_n159 H, m_n160 H, m_n161 H, m_n162 H, m_n163 H, m_n164 H, m_n165 H, m_n166 H, m_n167 H, m_n168 H, m_n169 H, nI_c, nI_add, up_ne, kX5_within, l6a_0, l6b_0, l6a_1, l6b_1, l6a_2, l6b_2, l6a_3, l6b_3, l6a_4, l6b_4, l6a_5, l6b_5, l6a_7, l6b_7, l6a_20, l6b_20, l6a_30, l6b_30, l6a_39, l6b_39, l6a_40, l6b_40, l6a_60, l6b_60, l6a_99, l6b_99, l6a_100, l6b_100, l6a_200, l6b_200, l6a_300, l6b_300, l6a_600, l6b_600, l6a_999, l6b_999, l6a_1000, l6b_1000, l6a_9999, l6b_9999, l6a_1000000, l6b_1000000, l6a_12, l6b_12, l64_xx, wi_d, one_ne0, zb_0, not_true_eq_false, not_false_eq_true, and_self, and_true, true_and, and_false, false_and, or_true, true_or, or_false, false_or, decide_true, decide_false, zb_t, zb_f, zb_0, zb_1, eq_self, cond_true, cond_false, Bool.true_eq_false, Bool.false_eq_true, Bool.and_true, Bool.true_and, Bool.and_false, Bool.false_and, Bool.or_true, Bool.true_or, Bool.or_false, Bool.false_or, h1, m153, g]
      refine ⟨HA h (reA (pA P) (578 * (i + 1)) 578), ?_, MR_A (MR_0 M), KX_I KX_0 (by omega) (by omega)⟩
      rw [e0]
      have m1 : nI 578 * nI (i + 1) = nI (578 * (i + 1)) := pk_mul _ _
      refine lpe_st (n := 578) (s := ()) (z := ()) (f := fun _ u => u) (P := fun _ _ _ => True) (Q := fun _ e => e = some (some (.int (nI 0)), HA h (reA (pA P) (578 * (i + 1)) 578))) (F := fun k _ _ => E_ (d + 1) mX5_restore 40 [.val (.ref 150), .val (.int (nI i)), .val (.int (nI k))] [] (HA h (reA (pA P) (578 * (i + 1)) k))) trivial (fun k _ _ hk _ => ⟨(), ?_, trivial⟩) (fun _ _ _ => ?_)
      · have lt : (nI k < nI 578) = True := eq_true (nI_lt hk (by omega))
        have lo : reA (pA P) (578 * (i + 1)) k (578 * (i + 1) + k) = pA P (578 * (i + 1) + k) := reA_hi (by omega)
        have up := reA_up (A := pA P) (b := 578 * (i + 1)) (m := k)
        refine wX5_restore_40.trans ?_
        simp (disch := first | exact mok_t (HA_ok H) rfl | exact m_x152 (HA_ok H) (by omega) | omega) only [wX5_restore_e, wX5_restore_0, wX5_restore_1, wX5_restore_2, wX5_restore_5, wX5_restore_6, wX5_restore_7, wX5_restore_8, wX5_restore_9, wX5_restore_12, wX5_restore_15, wX5_restore_16, wX5_restore_18, wX5_restore_21, wX5_restore_22, wX5_restore_23, wX5_restore_26, wX5_restore_27, wX5_restore_28, wX5_restore_31, wX5_restore_32, wX5_restore_34, wX5_restore_37, wX5_restore_38, wX5_restore_39, wX5_restore_41, wX5_restore_44, wX5_restore_47, wX5_restore_48, wX5_restore_51, wX5_restore_52, wX5_restore_53, wX5_restore_56, wX5_restore_59, wX5_restore_60, wX5_restore_61, wX5_restore_62, wX5_restore_63, wX5_restore_64, wX5_restore_65, wX5_restore_66, wX5_restore_67, wX5_restore_70, wX5_restore_73, wX5_restore_74, if_true, if_false, ↓reduceIte, xpu_s, xpu_n, Option.bind_some, xk_i, xk_r, xk_0, xk_u, xk_l, xk_k, xk_q, rf_s, rf_n, q_e1, q_e2, Nat.zero_add, Nat.reduceEqDiff, Nat.reduceAdd, Nat.reduceMul, Nat.reduceSub, Nat.reduceLT, Nat.reduceLeDiff, Nat.reduceDiv, Nat.reduceMod, m_r1 H, m_r2 H, m_r3 H, m_r4 H, m_r5 H, m_r18 H, m_r19 H, m_r20 H, m_r24 H, m_r25 H, m_r27 H, m_r28 H, m_r29 H, m_r30 H, m_r31 H, m_r32 H, m_r33 H, m_r34 H, m_r35 H, m_n150 H, m_n151 H, m_n152 H, m_n153 H, m_n154 H, m_n155 H, m_n156 H, m_n157 H, m_n158 H, m_n159 H, m_n160 H, m_n161 H, m_n162 H, m_n163 H, m_n164 H, m_n165 H, m_n166 H, m_n167 H, m_n168 H, m_n169 H, HA_R, HA_152, HA_w, lt, m1, lo, up, nI_c, nI_add, not_true_eq_false, not_false_eq_true, and_self, and_true, true_and, and_false, false_and, or_true, true_or, or_false, false_or, decide_true, decide_false, zb_t, zb_f, zb_0, zb_1, eq_self]
      · refine wX5_restore_40.trans ?_
        simp (disch := omega) only [wX5_restore_e, wX5_restore_0, wX5_restore_1, wX5_restore_2, wX5_restore_5, wX5_restore_6, wX5_restore_7, wX5_restore_8, wX5_restore_9, wX5_restore_12, wX5_restore_15, wX5_restore_16, wX5_restore_18, wX5_restore_21, wX5_restore_22, wX5_restore_23, wX5_restore_26, wX5_restore_27, wX5_restore_28, wX5_restore_31, wX5_restore_32, wX5_restore_34, wX5_restore_37, wX5_restore_38, wX5_restore_39, wX5_restore_41, wX5_restore_44, wX5_restore_47, wX5_restore_48, wX5_restore_51, wX5_restore_52, wX5_restore_53, wX5_restore_56, wX5_restore_59, wX5_restore_60, wX5_restore_61, wX5_restore_62, wX5_restore_63, wX5_restore_64, wX5_restore_65, wX5_restore_66, wX5_restore_67, wX5_restore_70, wX5_restore_73, wX5_restore_74, if_true, if_false, ↓reduceIte, xpu_s, xpu_n, Option.bind_some, xk_i, xk_r, xk_0, xk_u, xk_l, xk_k, xk_q, rf_s, rf_n, q_e1, q_e2, Nat.zero_add, Nat.reduceEqDiff, Nat.reduceAdd, Nat.reduceMul, Nat.reduceSub, Nat.reduceLT, Nat.reduceLeDiff, Nat.reduceDiv, Nat.reduceMod, i_irr, not_true_eq_false, not_false_eq_true, and_self, and_true, true_and, and_false, false_and, or_true, true_or, or_false, false_or, decide_true, decide_false, zb_t, zb_f, zb_0, zb_1, eq_self]
/-! the component -/
theorem XS_AB (W : WFa A) (e : ∀ k, k < 578 → B k = A k) (X : XS ow k h s A) : XS ow k h s B := by
  obtain ⟨x1, x2, ⟨c, c1, c2, c3, c4, c5⟩, ⟨l, l1, l2, l3, l4⟩, ⟨p, p1, p2⟩, ⟨q3, a1, a2, a3⟩, ⟨q4, b1, b2, b3⟩, ⟨q5, d1, d2, d3⟩⟩ := X
  exact ⟨x1, x2, ⟨c, c1, c2, SC_A (fun k hk => e k (by omega)) W.1.2.1 c3, c4, c5⟩, ⟨l, l1, l2, l3, LW_A (fun k _ h2 => e k (by omega)) W.2.1 l4⟩, ⟨p, p1, PL_A (fun k _ h2 => e k (by omega)) W.2.2.2.1 p2⟩, ⟨q3, a1, a2, AR_A (fun i hi => e _ (by omega)) a3⟩, ⟨q4, b1, b2, AR_A (fun i hi => e _ (by omega)) b3⟩, ⟨q5, d1, d2, AR_A (fun i hi => e _ (by omega)) d3⟩⟩
/-- the classes when a state is dropped for a fresh copy -/
def ncw (ow : Nat → Nat) (o m j : Nat) (tg : Nat → Nat) (a : Nat) : Nat := if a < o then (if 20 * j ≤ ow a ∧ ow a < 20 * j + 20 then 100 else ow a) else if ncl ow o m tg a < 20 then 20 * j + ncl ow o m tg a else ncl ow o m tg a
theorem ncw_lo {tg : Nat → Nat} (ha : a < o) (hn : ¬ (20 * j ≤ ow a ∧ ow a < 20 * j + 20)) : ncw ow o m j tg a = ow a := by
  unfold ncw
  rw [if_pos ha, if_neg hn]
theorem ncw_e {tg : Nat → Nat} (hj : j < 3) : (∀ a, ncl ow o m tg a < 20 → ncw ow o m j tg a = 20 * j + ncl ow o m tg a) ∧ ∀ a, ncl ow o m tg a = 101 → ncw ow o m j tg a = 101 := by
  refine ⟨fun a ha => ?_, fun a ha => ?_⟩
  · unfold ncw
    rcases Nat.lt_or_ge a o with y | y
    · rw [ncl_lo y] at ha
      split at ha <;> omega
    · rw [if_neg (by omega), if_pos ha]
  · unfold ncw
    rcases Nat.lt_or_ge a o with y | y
    · rw [ncl_lo y] at ha
      split at ha
      · rename_i q
        rw [if_pos y, if_neg (by omega), q]
      · omega
    · rw [if_neg (by omega), if_neg (by omega), ha]
theorem ncw_hi {tg : Nat → Nat} (h1 : o + 11 ≤ m) (h2 : m ≤ a) (ht : tg a = 0) : ncw ow o m j tg a = 100 := by
  unfold ncw
  rw [if_neg (by omega), ncl_h h1 h2, ht, if_neg (by decide), if_neg (by decide), if_neg (by decide), if_neg (by decide)]
/-- a copy is laid at a place: what stays -/
theorem XR_cp {b q : Nat} {Bn : rI} (X : XRo ow s h P) (hj : j < 3) (gx : GX (fun _ => False) h z k n) (hm : oX h + 11 ≤ m) (hm2 : m ≤ oX z) (hb : b = 64 ∧ q = 0 ∨ b = 76) (x2 : oR (pR z b (va_up (oR z b) q (some (oX h)))) 64 0 = some t) (x3 : XS (ncw ow (oX h) m j (oT z)) 0 (pR z b (va_up (oR z b) q (some (oX h)))) t B) (x4 : ∀ i, i < 2 → (Bn i = nI 0 ∧ oR (pR z b (va_up (oR z b) q (some (oX h)))) 76 i = none) ∨ (Bn i = nI 1 ∧ ∃ t, oR (pR z b (va_up (oR z b) q (some (oX h)))) 76 i = some t ∧ XS (ncw ow (oX h) m j (oT z)) (i + 1) (pR z b (va_up (oR z b) q (some (oX h)))) t (sh B i))) : XR (pR z b (va_up (oR z b) q (some (oX h)))) (qB (qA P B) Bn) ∧ KM h (pR z b (va_up (oR z b) q (some (oX h)))) := by
  have T := XR_TX X
  obtain ⟨y1, y2, y3, y4, y5, y6, y7, y8, y9, y10, y11, y12, y13⟩ := X
  have T1 := TX_G T gx
  have gx1 := gx.1
  have s0 : ∀ a, a < oX h → ¬ a = b → sm h (pR z b (va_up (oR z b) q (some (oX h)))) a := fun a ha hn => sm_trans (gx.2.2.2.2.2 a ha (fun y => y)) (sm_R sm_refl hn)
  have lt : ∀ a, ¬ ow a = 100 → a < oX h := fun a ha => by
    rcases Nat.lt_or_ge a (oX h) with z | z
    · exact z
    · exact absurd (y12 a z).2 ha
  have nb : ∀ a, ¬ ow a = 100 → ¬ a = b := fun a ha y => ha (by rw [y]; exact (y13 b (by omega)).1)
  have sI : ∀ a, a < oX h → oI (pR z b (va_up (oR z b) q (some (oX h)))) a = oI h a := fun a ha => (gx.2.2.2.2.2 a ha (fun y => y)).2.2.1
  have sT : ∀ a, a < oX h → oT (pR z b (va_up (oR z b) q (some (oX h)))) a = oT h a ∧ oN (pR z b (va_up (oR z b) q (some (oX h)))) a = oN h a := fun a ha => ⟨(gx.2.2.2.2.2 a ha (fun y => y)).1, (gx.2.2.2.2.2 a ha (fun y => y)).2.1⟩
  have r64 : ∀ j, j ≠ 0 → oR (pR z b (va_up (oR z b) q (some (oX h)))) 64 j = oR h 64 j := fun j hj0 => by
    rcases hb with ⟨e1, e2⟩ | e1
    · subst e1 e2
      rw [o_RR, if_pos rfl, up_ne hj0, (gx.2.2.2.2.2 64 (by omega) (fun y => y)).2.2.2.1]
    · rw [(s0 64 (by omega) (by omega)).2.2.2.1]
  refine ⟨⟨ncw ow (oX h) m j (oT z), t, XT_fr (fun a ha => sT a (by omega)) r64 (s0 85 (by omega) (by omega)).2.2.2.1 (s0 145 (by omega) (by omega)).2.2.2.1 (fun a j _ _ _ => by rw [(s0 a (by omega) (by omega)).2.2.2.1]) (fun a ha => sI a (by omega)) y1, x2, x3, x4, ?_, ?_, ?_, ?_, ?_, fun r hr => NR_m (h := h) (P := P) (s0 _ (by omega) (by omega)).2.2.2.1 (fun a ha => ⟨s0 a (lt a (by omega)) (nb a (by omega)), ncw_lo (lt a (by omega)) (by omega)⟩) (y10 r hr), Nat.le_trans y11 gx1, fun a ha => ⟨T1 a ha, ncw_hi hm (Nat.le_trans hm2 ha) (T1 a ha)⟩, fun a ha => ?_⟩, fun a ha => s0 a (by omega) (by omega)⟩
  · rw [sI 77 (by omega)]; exact y5
  · rw [sI 78 (by omega)]; exact y6
  · rw [sI 64 (by omega)]; exact y7
  · rw [sI 64 (by omega)]; exact y8
  · rw [sI 64 (by omega)]; exact y9
  · have := (y13 a ha).1
    rw [(sT a (by omega)).1, ncw_lo (by omega) (by omega)]; exact y13 a ha
/-- the other states stay -/
theorem XS_cp {b q i : Nat} (X : XRo ow s h P) (hj : j < 3) (gx : GX (fun _ => False) h z k n) (hb : b = 64 ∨ b = 76) (hi : i < 3) (ne : ¬ i = j) (Y : XS ow i h t A) : XS (ncw ow (oX h) m j (oT z)) i (pR z b (va_up (oR z b) q (some (oX h)))) t A := by
  have T := XR_TX X
  obtain ⟨y1, y2, y3, y4, y5, y6, y7, y8, y9, y10, y11, y12, y13⟩ := X
  have s0 : ∀ a, a < oX h → ¬ a = b → sm h (pR z b (va_up (oR z b) q (some (oX h)))) a := fun a ha hn => sm_trans (gx.2.2.2.2.2 a ha (fun y => y)) (sm_R sm_refl hn)
  have lt : ∀ a, ¬ ow a = 100 → a < oX h := fun a ha => by
    rcases Nat.lt_or_ge a (oX h) with z | z
    · exact z
    · exact absurd (y12 a z).2 ha
  have nb : ∀ a, ¬ ow a = 100 → ¬ a = b := fun a ha y => ha (by rw [y]; exact (y13 b (by omega)).1)
  exact XS_m hi (fun a ha => s0 a (lt a (by omega)) (nb a (by omega))) (fun a h1 h2 => s0 a (TX_lt T (by omega)) (fun y => (y13 b (by omega)).2 (by rw [← y]; exact ⟨h1, h2⟩))) (fun a ha => ncw_lo (lt a (by omega)) (by omega)) Y
/-- the fresh copy itself -/
theorem XS_cn {b q : Nat} (hj : j < 3) (hb : b < oX h) (Y : XS (ncl ow (oX h) m (oT z)) 0 z t A) (tb : ¬ (9 ≤ oT z b ∧ oT z b ≤ 18)) (nb : ¬ ow b = 101) : XS (ncw ow (oX h) m j (oT z)) j (pR z b (va_up (oR z b) q (some (oX h)))) t A := by
  have E := ncw_e (ow := ow) (o := oX h) (m := m) (j := j) (tg := oT z) hj
  have Y2 : XS (ncl ow (oX h) m (oT z)) 0 (pR z b (va_up (oR z b) q (some (oX h)))) t A := XS_m (by omega) (fun a ha => sm_R sm_refl (fun y => by
    rw [y, ncl_lo hb, if_neg nb] at ha
    omega)) (fun a h1 h2 => sm_R sm_refl (fun y => tb (by rw [← y]; exact ⟨h1, h2⟩))) (fun _ _ => rfl) Y
  exact XS_sh E.1 E.2 Y2
theorem nX0_image (X : XR h P) (W : WF P) : XG (d + 12) h mX0_image [.ref 64, .int x] (q_image P x) := by
  have T := XR_T X
  have x0 := T.1.1
  have no := fun k : Int32 => kX0_no (d := d + 11) T (k := k)
  unfold q_image
  cases h1 : wi x (nI 0) (nI 1) with
  | false =>
    refine XG_nn X ?_
    simp (disch := first | assumption | exact nI_ne0 (by decide) (by decide) | exact zb_01 | exact Or.inl rfl | exact Or.inr rfl | with_unfolding_all exact id (by assumption) | with_unfolding_all exact id (xix_8 (by assumption) (by omega) (by omega)) | omega) only [wX0_image_e, wX0_image_0, wX0_image_1, wX0_image_2, wX0_image_3, wX0_image_4, wX0_image_7, wX0_image_10, wX0_image_11, wX0_image_13, wX0_image_16, wX0_image_17, wX0_image_18, wX0_image_21, wX0_image_22, wX0_image_23, wX0_image_26, wX0_image_29, wX0_image_29n, wX0_image_30, wX0_image_31, if_true, if_false, ↓reduceIte, xpu_s, xpu_n, Option.bind_some, xk_i, xk_r, xk_0, xk_u, xk_l, xk_k, xk_q, rf_s, rf_n, o_TI, o_TL, o_TR, o_NI, o_NL, o_NR, o_XI, o_XL, o_XR, o_RI, o_RL, o_LI, o_LR, o_IL, o_IR, o_II, o_LL, o_RR, o_pII, o_pLL, up_s, q_e1, q_e2, Nat.zero_add, Nat.reduceEqDiff, Nat.reduceAdd, Nat.reduceMul, Nat.reduceSub, Nat.reduceLT, Nat.reduceLeDiff, Nat.reduceDiv, Nat.reduceMod, nI_c, nI_add, up_ne, kX0_in, l6a_0, l6b_0, l6a_1, l6b_1, l6a_2, l6b_2, l6a_3, l6b_3, l6a_4, l6b_4, l6a_5, l6b_5, l6a_7, l6b_7, l6a_20, l6b_20, l6a_30, l6b_30, l6a_39, l6b_39, l6a_40, l6b_40, l6a_60, l6b_60, l6a_99, l6b_99, l6a_100, l6b_100, l6a_200, l6b_200, l6a_300, l6b_300, l6a_600, l6b_600, l6a_999, l6b_999, l6a_1000, l6b_1000, l6a_9999, l6b_9999, l6a_1000000, l6b_1000000, l6a_12, l6b_12, l64_xx, wi_d, one_ne0, zb_0, not_true_eq_false, not_false_eq_true, and_self, and_true, true_and, and_false, false_and, or_true, true_or, or_false, false_or, decide_true, decide_false, zb_t, zb_f, zb_0, zb_1, eq_self, cond_true, cond_false, Bool.true_eq_false, Bool.false_eq_true, Bool.and_true, Bool.true_and, Bool.and_false, Bool.false_and, Bool.or_true, Bool.true_or, Bool.or_false, Bool.false_or, nx_2, nx_3, nx_5, nx_6, nx_7, nx_f, nx_s, nx_w, ns_2, ns_3, ns_5, ns_6, ns_7, no, h1]
  | true =>
    obtain ⟨i, hi, rfl⟩ := wi_of (by decide) h1
    rw [nI_clamp (by omega)]
    obtain ⟨ow, s, X1⟩ := X
    have TX1 := XR_TX X1
    obtain ⟨y1, y2, y3, y4, y5, y6, y7, y8, y9, y10, y11, y12, y13⟩ := id X1
    obtain ⟨z, m, e, gx, hm, hm2, Y⟩ := kX1_copy (d := d) TX1 y3 W.1
    have t76 : oT h 76 = 48 ∧ oN h 76 = 2 ∧ oR h 64 1 = some 76 := by
      obtain ⟨-, -, -, x4, -, -, -, -, -, -, x11, x12, -⟩ := T
      exact ⟨x11, x12, x4⟩
    have s64 := gx.2.2.2.2.2 64 (by omega) (fun y => y)
    have s76 := gx.2.2.2.2.2 76 (by omega) (fun y => y)
    have ts : oT h s = 2 := y3.2.1
    have xe : xel (oT z 76) (oT z (oX h)) = true := by
      rw [s76.1, t76.1, Y.2.1]
      decide
    have n76 : oN z 76 = 2 := s76.2.1.trans t76.2.1
    have E : C_ (d + 12) mX0_image [.ref 64, .int (nI i)] h = some (some (.int (nI 0)), pR z 76 (va_up (oR z 76) i (some (oX h)))) := by
      have r64 := t76.2.2
      simp (disch := first | exact xe | exact xix_8 n76 (by omega) (by omega) | first | assumption | exact nI_ne0 (by decide) (by decide) | exact zb_01 | exact Or.inl rfl | exact Or.inr rfl | with_unfolding_all exact id (by assumption) | with_unfolding_all exact id (xix_8 (by assumption) (by omega) (by omega)) | omega) only [wX0_image_e, wX0_image_0, wX0_image_1, wX0_image_2, wX0_image_3, wX0_image_4, wX0_image_7, wX0_image_10, wX0_image_11, wX0_image_13, wX0_image_16, wX0_image_17, wX0_image_18, wX0_image_21, wX0_image_22, wX0_image_23, wX0_image_26, wX0_image_29, wX0_image_29n, wX0_image_30, wX0_image_31, if_true, if_false, ↓reduceIte, xpu_s, xpu_n, Option.bind_some, xk_i, xk_r, xk_0, xk_u, xk_l, xk_k, xk_q, rf_s, rf_n, o_TI, o_TL, o_TR, o_NI, o_NL, o_NR, o_XI, o_XL, o_XR, o_RI, o_RL, o_LI, o_LR, o_IL, o_IR, o_II, o_LL, o_RR, o_pII, o_pLL, up_s, q_e1, q_e2, Nat.zero_add, Nat.reduceEqDiff, Nat.reduceAdd, Nat.reduceMul, Nat.reduceSub, Nat.reduceLT, Nat.reduceLeDiff, Nat.reduceDiv, Nat.reduceMod, nI_c, nI_add, up_ne, kX0_in, l6a_0, l6b_0, l6a_1, l6b_1, l6a_2, l6b_2, l6a_3, l6b_3, l6a_4, l6b_4, l6a_5, l6b_5, l6a_7, l6b_7, l6a_20, l6b_20, l6a_30, l6b_30, l6a_39, l6b_39, l6a_40, l6b_40, l6a_60, l6b_60, l6a_99, l6b_99, l6a_100, l6b_100, l6a_200, l6b_200, l6a_300, l6b_300, l6a_600, l6b_600, l6a_999, l6b_999, l6a_1000, l6b_1000, l6a_9999, l6b_9999, l6a_1000000, l6b_1000000, l6a_12, l6b_12, l64_xx, wi_d, one_ne0, zb_0, not_true_eq_false, not_false_eq_true, and_self, and_true, true_and, and_false, false_and, or_true, true_or, or_false, false_or, decide_true, decide_false, zb_t, zb_f, zb_0, zb_1, eq_self, cond_true, cond_false, Bool.true_eq_false, Bool.false_eq_true, Bool.and_true, Bool.true_and, Bool.and_false, Bool.false_and, Bool.or_true, Bool.true_or, Bool.or_false, Bool.false_or, h1, r64, y2, e]
    have A1 : ∀ k, k < 578 → imA (pA P) (578 * (i + 1)) 578 k = pA P k := fun k hk => imA_lo (by omega)
    have o76 := y13 76 (by omega)
    have K := XR_cp (Bn := va_up (pB P) i (nI 1)) (B := imA (pA P) (578 * (i + 1)) 578) (q := i) (t := s) (j := i + 1) X1 (by omega) gx hm hm2 (Or.inr rfl) ?_ (XS_AB W.1 A1 (XS_cp (j := i + 1) (b := 76) X1 (by omega) gx (Or.inr rfl) (by omega) (by omega) y3)) (fun k hk => ?_)
    · exact ⟨_, E, K.1, K.2, by have := gx.2.1; show oC z ≤ _; omega, by have := gx.2.2.1; show oS z ≤ _; omega⟩
    · rw [(sm_R (h := z) (h1 := z) (b := 76) (f := va_up (oR z 76) i (some (oX h))) sm_refl (show ¬ 64 = 76 by omega)).2.2.2.1, s64.2.2.2.1]; exact y2
    · by_cases ek : k = i
      · subst ek
        refine Or.inr ⟨up_s, oX h, by rw [o_RR, if_pos rfl, up_s], ?_⟩
        refine XS_AB W.1 (fun j hj => ?_) (XS_cn (b := 76) (by omega) (by omega) Y (by rw [s76.1]; exact o76.2) (by rw [o76.1]; decide))
        show imA (pA P) (578 * (k + 1)) 578 (578 * (k + 1) + j) = _
        unfold imA
        rw [if_pos (by omega), show 578 * (k + 1) + j - 578 * (k + 1) = j by omega]
      · rcases y4 k hk with ⟨v1, v2⟩ | ⟨v1, t, v2, v3⟩
        · refine Or.inl ⟨(up_ne ek).trans v1, ?_⟩
          rw [o_RR, if_pos rfl, up_ne ek, s76.2.2.2.1]; exact v2
        · refine Or.inr ⟨(up_ne ek).trans v1, t, ?_, ?_⟩
          · rw [o_RR, if_pos rfl, up_ne ek, s76.2.2.2.1]; exact v2
          · have Wk : WFa (sh (pA P) k) := by
              rcases W.2.1 k hk with u | u
              · rw [u] at v1; exact absurd v1 (by decide)
              · exact u.2
            refine XS_AB Wk (fun j hj => ?_) (XS_cp (j := i + 1) (b := 76) X1 (by omega) gx (Or.inr rfl) (by omega) (by omega) v3)
            show imA (pA P) (578 * (i + 1)) 578 (578 * (k + 1) + j) = pA P (578 * (k + 1) + j)
            unfold imA
            rw [if_neg (by omega)]
theorem nX0_restore (X : XR h P) (W : WF P) : XG (d + 12) h mX0_restore [.ref 64, .int x] (q_restore P x) := by
  have T := XR_T X
  have x0 := T.1.1
  have no := fun k : Int32 => kX0_no (d := d + 11) T (k := k)
  have t76 : oT h 76 = 48 ∧ oN h 76 = 2 ∧ oR h 64 1 = some 76 := by
    obtain ⟨-, -, -, x4, -, -, -, -, -, -, x11, x12, -⟩ := T
    exact ⟨x11, x12, x4⟩
  obtain ⟨u76, n76, r64⟩ := t76
  unfold q_restore
  cases h1 : wi x (nI 0) (nI 1) with
  | false =>
    refine XG_nn X ?_
    simp (disch := first | assumption | exact nI_ne0 (by decide) (by decide) | exact zb_01 | exact Or.inl rfl | exact Or.inr rfl | with_unfolding_all exact id (by assumption) | with_unfolding_all exact id (xix_8 (by assumption) (by omega) (by omega)) | omega) only [wX0_restore_e, wX0_restore_0, wX0_restore_1, wX0_restore_2, wX0_restore_3, wX0_restore_4, wX0_restore_7, wX0_restore_10, wX0_restore_11, wX0_restore_13, wX0_restore_16, wX0_restore_17, wX0_restore_18, wX0_restore_21, wX0_restore_22, wX0_restore_23, wX0_restore_23n, wX0_restore_26, wX0_restore_27, wX0_restore_29, wX0_restore_32, wX0_restore_33, wX0_restore_34, wX0_restore_35, wX0_restore_38, wX0_restore_39, wX0_restore_40, wX0_restore_43, wX0_restore_46, wX0_restore_47, if_true, if_false, ↓reduceIte, xpu_s, xpu_n, Option.bind_some, xk_i, xk_r, xk_0, xk_u, xk_l, xk_k, xk_q, rf_s, rf_n, o_TI, o_TL, o_TR, o_NI, o_NL, o_NR, o_XI, o_XL, o_XR, o_RI, o_RL, o_LI, o_LR, o_IL, o_IR, o_II, o_LL, o_RR, o_pII, o_pLL, up_s, q_e1, q_e2, Nat.zero_add, Nat.reduceEqDiff, Nat.reduceAdd, Nat.reduceMul, Nat.reduceSub, Nat.reduceLT, Nat.reduceLeDiff, Nat.reduceDiv, Nat.reduceMod, nI_c, nI_add, up_ne, kX0_in, l6a_0, l6b_0, l6a_1, l6b_1, l6a_2, l6b_2, l6a_3, l6b_3, l6a_4, l6b_4, l6a_5, l6b_5, l6a_7, l6b_7, l6a_20, l6b_20, l6a_30, l6b_30, l6a_39, l6b_39, l6a_40, l6b_40, l6a_60, l6b_60, l6a_99, l6b_99, l6a_100, l6b_100, l6a_200, l6b_200, l6a_300, l6b_300, l6a_600, l6b_600, l6a_999, l6b_999, l6a_1000, l6b_1000, l6a_9999, l6b_9999, l6a_1000000, l6b_1000000, l6a_12, l6b_12, l64_xx, wi_d, one_ne0, zb_0, not_true_eq_false, not_false_eq_true, and_self, and_true, true_and, and_false, false_and, or_true, true_or, or_false, false_or, decide_true, decide_false, zb_t, zb_f, zb_0, zb_1, eq_self, cond_true, cond_false, Bool.true_eq_false, Bool.false_eq_true, Bool.and_true, Bool.true_and, Bool.and_false, Bool.false_and, Bool.or_true, Bool.true_or, Bool.or_false, Bool.false_or, nx_2, nx_3, nx_5, nx_6, nx_7, nx_f, nx_s, nx_w, ns_2, ns_3, ns_5, ns_6, ns_7, no, h1]
  | true =>
    obtain ⟨i, hi, rfl⟩ := wi_of (by decide) h1
    rw [nI_clamp (by omega)]
    obtain ⟨ow, s, X1⟩ := id X
    have TX1 := XR_TX X1
    obtain ⟨y1, y2, y3, y4, y5, y6, y7, y8, y9, y10, y11, y12, y13⟩ := id X1
    rcases y4 i (by omega) with ⟨v1, v2⟩ | ⟨v1, t, v2, v3⟩
    · rw [if_pos (v1.trans nI_0)]
      refine XG_nn X ?_
      simp (disch := first | exact xix_8 n76 (by omega) (by omega) | first | assumption | exact nI_ne0 (by decide) (by decide) | exact zb_01 | exact Or.inl rfl | exact Or.inr rfl | with_unfolding_all exact id (by assumption) | with_unfolding_all exact id (xix_8 (by assumption) (by omega) (by omega)) | omega) only [wX0_restore_e, wX0_restore_0, wX0_restore_1, wX0_restore_2, wX0_restore_3, wX0_restore_4, wX0_restore_7, wX0_restore_10, wX0_restore_11, wX0_restore_13, wX0_restore_16, wX0_restore_17, wX0_restore_18, wX0_restore_21, wX0_restore_22, wX0_restore_23, wX0_restore_23n, wX0_restore_26, wX0_restore_27, wX0_restore_29, wX0_restore_32, wX0_restore_33, wX0_restore_34, wX0_restore_35, wX0_restore_38, wX0_restore_39, wX0_restore_40, wX0_restore_43, wX0_restore_46, wX0_restore_47, if_true, if_false, ↓reduceIte, xpu_s, xpu_n, Option.bind_some, xk_i, xk_r, xk_0, xk_u, xk_l, xk_k, xk_q, rf_s, rf_n, o_TI, o_TL, o_TR, o_NI, o_NL, o_NR, o_XI, o_XL, o_XR, o_RI, o_RL, o_LI, o_LR, o_IL, o_IR, o_II, o_LL, o_RR, o_pII, o_pLL, up_s, q_e1, q_e2, Nat.zero_add, Nat.reduceEqDiff, Nat.reduceAdd, Nat.reduceMul, Nat.reduceSub, Nat.reduceLT, Nat.reduceLeDiff, Nat.reduceDiv, Nat.reduceMod, nI_c, nI_add, up_ne, kX0_in, l6a_0, l6b_0, l6a_1, l6b_1, l6a_2, l6b_2, l6a_3, l6b_3, l6a_4, l6b_4, l6a_5, l6b_5, l6a_7, l6b_7, l6a_20, l6b_20, l6a_30, l6b_30, l6a_39, l6b_39, l6a_40, l6b_40, l6a_60, l6b_60, l6a_99, l6b_99, l6a_100, l6b_100, l6a_200, l6b_200, l6a_300, l6b_300, l6a_600, l6b_600, l6a_999, l6b_999, l6a_1000, l6b_1000, l6a_9999, l6b_9999, l6a_1000000, l6b_1000000, l6a_12, l6b_12, l64_xx, wi_d, one_ne0, zb_0, not_true_eq_false, not_false_eq_true, and_self, and_true, true_and, and_false, false_and, or_true, true_or, or_false, false_or, decide_true, decide_false, zb_t, zb_f, zb_0, zb_1, eq_self, cond_true, cond_false, Bool.true_eq_false, Bool.false_eq_true, Bool.and_true, Bool.true_and, Bool.and_false, Bool.false_and, Bool.or_true, Bool.true_or, Bool.or_false, Bool.false_or, nx_2, nx_3, nx_5, nx_6, nx_7, nx_f, nx_s, nx_w, ns_2, ns_3, ns_5, ns_6, ns_7, no, h1, r64, v2]
    · rw [if_neg (by rw [v1]; decide)]
      have Wk : WFa (sh (pA P) i) := by
        rcases W.2.1 i (by omega) with u | u
        · rw [u] at v1; exact absurd v1 (by decide)
        · exact u.2
      obtain ⟨z, m, e, gx, hm, hm2, Y⟩ := kX1_copy (d := d) TX1 v3 Wk
      have s64 := gx.2.2.2.2.2 64 (by omega) (fun y => y)
      have s76 := gx.2.2.2.2.2 76 (by omega) (fun y => y)
      have tt : oT h t = 2 := v3.2.1
      have z64 : oT z 64 = 1 := s64.1.trans x0
      have E : C_ (d + 12) mX0_restore [.ref 64, .int (nI i)] h = some (some (.int (nI 0)), pR z 64 (va_up (oR z 64) 0 (some (oX h)))) := by
        simp (disch := first | exact z64 | exact xix_8 n76 (by omega) (by omega) | first | assumption | exact nI_ne0 (by decide) (by decide) | exact zb_01 | exact Or.inl rfl | exact Or.inr rfl | with_unfolding_all exact id (by assumption) | with_unfolding_all exact id (xix_8 (by assumption) (by omega) (by omega)) | omega) only [wX0_restore_e, wX0_restore_0, wX0_restore_1, wX0_restore_2, wX0_restore_3, wX0_restore_4, wX0_restore_7, wX0_restore_10, wX0_restore_11, wX0_restore_13, wX0_restore_16, wX0_restore_17, wX0_restore_18, wX0_restore_21, wX0_restore_22, wX0_restore_23, wX0_restore_23n, wX0_restore_26, wX0_restore_27, wX0_restore_29, wX0_restore_32, wX0_restore_33, wX0_restore_34, wX0_restore_35, wX0_restore_38, wX0_restore_39, wX0_restore_40, wX0_restore_43, wX0_restore_46, wX0_restore_47, if_true, if_false, ↓reduceIte, xpu_s, xpu_n, Option.bind_some, xk_i, xk_r, xk_0, xk_u, xk_l, xk_k, xk_q, rf_s, rf_n, o_TI, o_TL, o_TR, o_NI, o_NL, o_NR, o_XI, o_XL, o_XR, o_RI, o_RL, o_LI, o_LR, o_IL, o_IR, o_II, o_LL, o_RR, o_pII, o_pLL, up_s, q_e1, q_e2, Nat.zero_add, Nat.reduceEqDiff, Nat.reduceAdd, Nat.reduceMul, Nat.reduceSub, Nat.reduceLT, Nat.reduceLeDiff, Nat.reduceDiv, Nat.reduceMod, nI_c, nI_add, up_ne, kX0_in, l6a_0, l6b_0, l6a_1, l6b_1, l6a_2, l6b_2, l6a_3, l6b_3, l6a_4, l6b_4, l6a_5, l6b_5, l6a_7, l6b_7, l6a_20, l6b_20, l6a_30, l6b_30, l6a_39, l6b_39, l6a_40, l6b_40, l6a_60, l6b_60, l6a_99, l6b_99, l6a_100, l6b_100, l6a_200, l6b_200, l6a_300, l6b_300, l6a_600, l6b_600, l6a_999, l6b_999, l6a_1000, l6b_1000, l6a_9999, l6b_9999, l6a_1000000, l6b_1000000, l6a_12, l6b_12, l64_xx, wi_d, one_ne0, zb_0, not_true_eq_false, not_false_eq_true, and_self, and_true, true_and, and_false, false_and, or_true, true_or, or_false, false_or, decide_true, decide_false, zb_t, zb_f, zb_0, zb_1, eq_self, cond_true, cond_false, Bool.true_eq_false, Bool.false_eq_true, Bool.and_true, Bool.true_and, Bool.and_false, Bool.false_and, Bool.or_true, Bool.true_or, Bool.or_false, Bool.false_or, h1, r64, v2, e]
      have o64 := y13 64 (by omega)
      have n76' : ¬ (76 : Nat) = 64 := by decide
      have K := XR_cp (Bn := pB P) (B := reA (pA P) (578 * (i + 1)) 578) (b := 64) (q := 0) (t := oX h) (j := 0) X1 (by omega) gx hm hm2 (Or.inl ⟨rfl, rfl⟩) (by rw [o_RR, if_pos rfl, up_s]) (XS_AB Wk (fun k hk => if_pos hk) (XS_cn (j := 0) (b := 64) (by omega) (by omega) Y (by rw [s64.1]; exact o64.2) (by rw [o64.1]; decide))) (fun k hk => ?_)
      · exact ⟨_, E, K.1, K.2, by have := gx.2.1; show oC z ≤ _; omega, by have := gx.2.2.1; show oS z ≤ _; omega⟩
      · have e76 : oR (pR z 64 (va_up (oR z 64) 0 (some (oX h)))) 76 = oR h 76 := by rw [o_RR, if_neg n76', s76.2.2.2.1]
        have esh : ∀ j, sh (reA (pA P) (578 * (i + 1)) 578) k j = sh (pA P) k j := fun j => if_neg (by omega)
        rw [e76]
        rcases y4 k hk with ⟨w1, w2⟩ | ⟨w1, t', w2, w3⟩
        · exact Or.inl ⟨w1, w2⟩
        · refine Or.inr ⟨w1, t', w2, ?_⟩
          have Wk2 : WFa (sh (pA P) k) := by
            rcases W.2.1 k hk with u | u
            · rw [u] at w1; exact absurd w1 (by decide)
            · exact u.2
          exact XS_AB Wk2 (fun j _ => esh j) (XS_cp (j := 0) (b := 64) X1 (by omega) gx (Or.inl rfl) (by omega) (by omega) w3)
theorem WF_image (W : WF P) : WF (q_image P x).2 := by
  unfold q_image
  cases h1 : wi x (nI 0) (nI 1) with
  | false => exact W
  | true =>
    obtain ⟨i, hi, rfl⟩ := wi_of (by decide) h1
    rw [nI_clamp (by omega)]
    obtain ⟨w1, w2, w3, w4, w5⟩ := W
    refine ⟨WFa_A (fun k hk => imA_lo (by omega)) w1, fun k hk => ?_, w3, w4, w5⟩
    show va_up (pB P) i (nI 1) k = nI 0 ∨ (va_up (pB P) i (nI 1) k = nI 1 ∧ WFa (sh (imA (pA P) (578 * (i + 1)) 578) k))
    by_cases e : k = i
    · subst e
      refine Or.inr ⟨up_s, WFa_A (fun j hj => ?_) w1⟩
      show imA (pA P) (578 * (k + 1)) 578 (578 * (k + 1) + j) = _
      unfold imA
      rw [if_pos (by omega), show 578 * (k + 1) + j - 578 * (k + 1) = j by omega]
    · rw [up_ne e]
      rcases w2 k hk with u | ⟨u1, u2⟩
      · exact Or.inl u
      · refine Or.inr ⟨u1, WFa_A (fun j hj => ?_) u2⟩
        show imA (pA P) (578 * (i + 1)) 578 (578 * (k + 1) + j) = pA P (578 * (k + 1) + j)
        unfold imA
        rw [if_neg (by omega)]
theorem WF_restore (W : WF P) : WF (q_restore P x).2 := by
  unfold q_restore
  cases h1 : wi x (nI 0) (nI 1) with
  | false => exact W
  | true =>
    obtain ⟨i, hi, rfl⟩ := wi_of (by decide) h1
    rw [nI_clamp (by omega)]
    show WF (if pB P i = 0 then nn P (-5) else _).2
    split
    · exact W
    · rename_i g
      obtain ⟨w1, w2, w3, w4, w5⟩ := W
      have u : WFa (sh (pA P) i) := by
        rcases w2 i (by omega) with u | u
        · exact absurd (u.trans nI_0) g
        · exact u.2
      refine ⟨WFa_A (fun k hk => if_pos (by omega)) u, fun k hk => ?_, w3, w4, w5⟩
      rcases w2 k hk with v | ⟨v1, v2⟩
      · exact Or.inl v
      · exact Or.inr ⟨v1, WFa_A (fun j hj => if_neg (by omega)) v2⟩
end
