/-! CONTRACTS of the component: a tick behind its decisions, whole -/
section
variable {d : Nat} {h : xH} {q c : Nat} {A w : rI}
/-- the arrays stay, the fields are others -/
theorem WR_f {f w' : rI} (R : WR h q A w) (hlo : ∀ k, k < 32 → w' k = w k) (W2 : sN A ≤ 8) (f6 : f 6 = w' 32) (f7 : f 7 = (if w' 33 = nI 1 then sO A - w' 34 else nI 0)) (f8 : f 8 = w' 35) (f9 : f 9 = w' 36) (f10 : f 10 = w' 37) (f11 : f 11 = w' 39) (f12 : f 12 = w' 38) : WR (pI h q f) q A w' := by
  obtain ⟨r1, r2, r3, r4, r5, r6, r7, r8, r9, r10, r11⟩ := R
  refine ⟨fun k hk => ?_, fun k hk => ?_, fun k hk => ?_, fun k hk => ?_, ?_, ?_, ?_, ?_, ?_, ?_, ?_⟩
  · rw [o_II, if_neg (by omega), hlo k (by omega)]; exact r1 k hk
  · rw [o_II, if_neg (by omega), hlo (8 + k) (by omega)]; exact r2 k hk
  · rw [o_II, if_neg (by omega), hlo (16 + k) (by omega)]; exact r3 k hk
  · rw [o_II, if_neg (by omega), hlo (24 + k) (by omega)]; exact r4 k hk
  all_goals rw [o_II, if_pos rfl]; assumption
theorem zn01 : ((0 : Int32) = nI 1) = False := eq_false (by decide)
theorem nI_s11 : nI 1 - nI 1 = nI 0 := by decide
theorem nI_s21 : nI 2 - nI 1 = nI 1 := by decide
theorem nI_s10 : nI 1 - nI 0 = nI 1 := by decide
theorem nI_s20 : nI 2 - nI 0 = nI 2 := by decide
theorem nI_a01 : nI 0 + nI 1 = nI 1 := by decide
theorem nI_a11 : nI 1 + nI 1 = nI 2 := by decide
theorem nI_l11 : (nI 1 < nI 1) = False := by simp [i_irr]
theorem nI_l12 : (nI 1 < nI 2) = True := by simp; decide
theorem nI_l21 : (nI 2 < nI 1) = False := by simp; decide
theorem nI_l22 : (nI 2 < nI 2) = False := by simp [i_irr]
theorem kX3_crosses (O : WO h q) (hs : oR h q 5 = some c) (S : SCo h c A) (R : WR h q A w) (W : WFs A) (f1 : w 33 = nI 1) (f2 : w 34 = nI 0 ∨ (w 34 = nI 1 ∧ sO A = nI 2)) (hp : ∃ p, w 32 = nI p ∧ p < sL A) (h37 : w 37 = 0) {kn : Option Nat} (hk : ∀ j, kn = some j → j < sN A) : ∃ f, C_ (d + 1) mX3_crosses [.ref q, .int (oe kn)] h = some (none, pI h q f) ∧ WR (pI h q f) q A (sE1 A w kn) := by
  have W2 := W.2.1
  have W3 := W.2.2.1
  have hR := R
  obtain ⟨p, p1, p2⟩ := hp
  have W5 : sL A ≤ 4 := W.2.2.2.2.1
  obtain ⟨o1, o2, o3, o4, o5, o6, o7, o8, o9, o10, o11, o12, o13, o14, o15, o16⟩ := O
  obtain ⟨c1, c2, c3, c4, c5, c6, c7, c8, c9, c10, c11⟩ := S; have c12 := c10.1
  obtain ⟨r1, r2, r3, r4, r5, r6, r7, r8, r9, r10, r11⟩ := R
  rw [if_pos f1] at r6
  have cq : (c = q) = False := eq_false (fun e => by rw [e] at c1; omega)
  cases kn with
  | some j =>
    have hj := hk j rfl
    have nj : (nI j = -1) = False := nI_nm1 (by omega)
    have a2 := r2 j hj
    have e1 : sE1 A w (some j) = va_up (va_up (va_up w 37 (nI 2)) 39 (nI j)) 38 (w (8 + j) * w (8 + j) * sO A) := rfl
    refine ⟨va_up (va_up (va_up (oI h q) 10 (nI 2)) 11 (nI j)) 12 (w (8 + j) * w (8 + j) * sO A), ?_, WR_f hR (fun k hk => sE1_lo hk) W2 ?_ ?_ ?_ ?_ ?_ ?_ ?_⟩
    · unfold sO
      cases z : sT A (nI 0) with
      | true =>
        have z' := of_decide_eq_true z
        simp (disch := first | exact xix_k (by omega) (by omega) | first | assumption | exact nI_ne0 (by decide) (by decide) | exact zb_01 | exact Or.inl rfl | exact Or.inr rfl | with_unfolding_all exact id (by assumption) | with_unfolding_all exact id (xix_8 (by assumption) (by omega) (by omega)) | omega) only [wX3_crosses_e, wX3_crosses_0, wX3_crosses_1, wX3_crosses_2, wX3_crosses_5, wX3_crosses_6, wX3_crosses_7, wX3_crosses_10, wX3_crosses_11, wX3_crosses_12, wX3_crosses_15, wX3_crosses_16, wX3_crosses_17, wX3_crosses_20, wX3_crosses_21, wX3_crosses_22, wX3_crosses_23, wX3_crosses_26, wX3_crosses_27, wX3_crosses_28, wX3_crosses_29, wX3_crosses_30, wX3_crosses_33, wX3_crosses_36, wX3_crosses_37, wX3_crosses_40, wX3_crosses_43, wX3_crosses_44, wX3_crosses_47, wX3_crosses_48, wX3_crosses_49, wX3_crosses_52, wX3_crosses_53, wX3_crosses_54, wX3_crosses_55, wX3_crosses_58, wX3_crosses_59, wX3_crosses_60, wX3_crosses_63, wX3_crosses_64, wX3_crosses_65, wX3_crosses_68, wX3_crosses_69, wX3_crosses_72, wX3_crosses_75, wX3_crosses_76, wX3_crosses_79, wX3_crosses_80, wX3_crosses_81, wX3_crosses_84, wX3_crosses_85, wX3_crosses_88, wX3_crosses_89, wX3_crosses_92, wX3_crosses_95, wX3_crosses_98, wX3_crosses_99, wX3_crosses_100, wX3_crosses_103, if_true, if_false, ↓reduceIte, xpu_s, xpu_n, Option.bind_some, xk_i, xk_r, xk_0, xk_u, xk_l, xk_k, xk_q, rf_s, rf_n, o_TI, o_TL, o_TR, o_NI, o_NL, o_NR, o_XI, o_XL, o_XR, o_RI, o_RL, o_LI, o_LR, o_IL, o_IR, o_II, o_LL, o_RR, o_pII, o_pLL, up_s, q_e1, q_e2, Nat.zero_add, Nat.reduceEqDiff, Nat.reduceAdd, Nat.reduceMul, Nat.reduceSub, Nat.reduceLT, Nat.reduceLeDiff, Nat.reduceDiv, Nat.reduceMod, nI_c, nI_add, up_ne, cq, hs, o2, o3, o4, o5, o6, o12, o13, o14, o15, o16, oe, nj, a2, c3, kX0_has, z', decide_true, zb_t, one_ne0]
      | false =>
        have z' : ((A 34 >>> (nI 0 &&& 31)) &&& nI 1 = nI 1) = False := eq_false (of_decide_eq_false z)
        simp (disch := first | exact xix_k (by omega) (by omega) | first | assumption | exact nI_ne0 (by decide) (by decide) | exact zb_01 | exact Or.inl rfl | exact Or.inr rfl | with_unfolding_all exact id (by assumption) | with_unfolding_all exact id (xix_8 (by assumption) (by omega) (by omega)) | omega) only [wX3_crosses_e, wX3_crosses_0, wX3_crosses_1, wX3_crosses_2, wX3_crosses_5, wX3_crosses_6, wX3_crosses_7, wX3_crosses_10, wX3_crosses_11, wX3_crosses_12, wX3_crosses_15, wX3_crosses_16, wX3_crosses_17, wX3_crosses_20, wX3_crosses_21, wX3_crosses_22, wX3_crosses_23, wX3_crosses_26, wX3_crosses_27, wX3_crosses_28, wX3_crosses_29, wX3_crosses_30, wX3_crosses_33, wX3_crosses_36, wX3_crosses_37, wX3_crosses_40, wX3_crosses_43, wX3_crosses_44, wX3_crosses_47, wX3_crosses_48, wX3_crosses_49, wX3_crosses_52, wX3_crosses_53, wX3_crosses_54, wX3_crosses_55, wX3_crosses_58, wX3_crosses_59, wX3_crosses_60, wX3_crosses_63, wX3_crosses_64, wX3_crosses_65, wX3_crosses_68, wX3_crosses_69, wX3_crosses_72, wX3_crosses_75, wX3_crosses_76, wX3_crosses_79, wX3_crosses_80, wX3_crosses_81, wX3_crosses_84, wX3_crosses_85, wX3_crosses_88, wX3_crosses_89, wX3_crosses_92, wX3_crosses_95, wX3_crosses_98, wX3_crosses_99, wX3_crosses_100, wX3_crosses_103, if_true, if_false, ↓reduceIte, xpu_s, xpu_n, Option.bind_some, xk_i, xk_r, xk_0, xk_u, xk_l, xk_k, xk_q, rf_s, rf_n, o_TI, o_TL, o_TR, o_NI, o_NL, o_NR, o_XI, o_XL, o_XR, o_RI, o_RL, o_LI, o_LR, o_IL, o_IR, o_II, o_LL, o_RR, o_pII, o_pLL, up_s, q_e1, q_e2, Nat.zero_add, Nat.reduceEqDiff, Nat.reduceAdd, Nat.reduceMul, Nat.reduceSub, Nat.reduceLT, Nat.reduceLeDiff, Nat.reduceDiv, Nat.reduceMod, nI_c, nI_add, up_ne, cq, hs, o2, o3, o4, o5, o6, o12, o13, o14, o15, o16, oe, nj, a2, c3, kX0_has, z', decide_false, zb_f, Bool.false_eq_true]
    all_goals rw [e1]
    all_goals simp (disch := first | assumption | exact nI_ne0 (by decide) (by decide) | exact zb_01 | exact Or.inl rfl | exact Or.inr rfl | with_unfolding_all exact id (by assumption) | with_unfolding_all exact id (xix_8 (by assumption) (by omega) (by omega)) | omega) only [up_ne, up_s, r5, r6, r7, r8, r9, r10, r11, f1, if_true]
  | none =>
    have e0 : sE1 A w none = if w 34 + nI 1 < sO A then va_up w 34 (w 34 + nI 1) else va_up (va_up (va_up (va_up w 34 (w 34 + nI 1)) 33 (nI 0)) 32 (w 32 + nI 1)) 37 (if w 32 + nI 1 = A 0 then nI 1 else nI 0) := if_pos f1
    have pl : ¬ nI p = A 0 := by rw [W3, nI_eqI (by omega) (by omega)]; omega
    have pl0 : ¬ nI (p + 0) = A 0 := pl
    have fin : ∀ e, sE1 A w none = va_up (va_up (va_up (va_up w 34 e) 33 (nI 0)) 32 (nI (p + 1))) 37 (if nI (p + 1) = A 0 then nI 1 else nI 0) → oI h q 7 = nI 1 → ∃ f, C_ (d + 1) mX3_crosses [.ref q, .int (oe none)] h = some (none, pI h q f) ∧ WR (pI h q f) q A (sE1 A w none) := by
      intro e e1 r6
      by_cases z : nI (p + 1) = A 0
      · rw [if_pos z] at e1
        refine ⟨va_up (va_up (va_up (oI h q) 7 (nI 0)) 6 (nI (p + 1))) 10 (nI 1), ?_, WR_f hR (fun k hk => sE1_lo hk) W2 ?_ ?_ ?_ ?_ ?_ ?_ ?_⟩
        · simp (disch := first | assumption | exact nI_ne0 (by decide) (by decide) | exact zb_01 | exact Or.inl rfl | exact Or.inr rfl | with_unfolding_all exact id (by assumption) | with_unfolding_all exact id (xix_8 (by assumption) (by omega) (by omega)) | omega) only [wX3_crosses_e, wX3_crosses_0, wX3_crosses_1, wX3_crosses_2, wX3_crosses_5, wX3_crosses_6, wX3_crosses_7, wX3_crosses_10, wX3_crosses_11, wX3_crosses_12, wX3_crosses_15, wX3_crosses_16, wX3_crosses_17, wX3_crosses_20, wX3_crosses_21, wX3_crosses_22, wX3_crosses_23, wX3_crosses_26, wX3_crosses_27, wX3_crosses_28, wX3_crosses_29, wX3_crosses_30, wX3_crosses_33, wX3_crosses_36, wX3_crosses_37, wX3_crosses_40, wX3_crosses_43, wX3_crosses_44, wX3_crosses_47, wX3_crosses_48, wX3_crosses_49, wX3_crosses_52, wX3_crosses_53, wX3_crosses_54, wX3_crosses_55, wX3_crosses_58, wX3_crosses_59, wX3_crosses_60, wX3_crosses_63, wX3_crosses_64, wX3_crosses_65, wX3_crosses_68, wX3_crosses_69, wX3_crosses_72, wX3_crosses_75, wX3_crosses_76, wX3_crosses_79, wX3_crosses_80, wX3_crosses_81, wX3_crosses_84, wX3_crosses_85, wX3_crosses_88, wX3_crosses_89, wX3_crosses_92, wX3_crosses_95, wX3_crosses_98, wX3_crosses_99, wX3_crosses_100, wX3_crosses_103, if_true, if_false, ↓reduceIte, xpu_s, xpu_n, Option.bind_some, xk_i, xk_r, xk_0, xk_u, xk_l, xk_k, xk_q, rf_s, rf_n, o_TI, o_TL, o_TR, o_NI, o_NL, o_NR, o_XI, o_XL, o_XR, o_RI, o_RL, o_LI, o_LR, o_IL, o_IR, o_II, o_LL, o_RR, o_pII, o_pLL, up_s, q_e1, q_e2, Nat.zero_add, Nat.reduceEqDiff, Nat.reduceAdd, Nat.reduceMul, Nat.reduceSub, Nat.reduceLT, Nat.reduceLeDiff, Nat.reduceDiv, Nat.reduceMod, nI_c, nI_add, up_ne, cq, hs, o2, o3, o4, o5, o6, o12, o13, o14, o15, o16, oe, r5, r6, p1, c2, nI_s11, nI_0, z]
        all_goals rw [e1]
        all_goals simp (disch := first | assumption | exact nI_ne0 (by decide) (by decide) | exact zb_01 | exact Or.inl rfl | exact Or.inr rfl | with_unfolding_all exact id (by assumption) | with_unfolding_all exact id (xix_8 (by assumption) (by omega) (by omega)) | omega) only [up_ne, up_s, r5, r6, r7, r8, r9, r10, r11, f1, nI_01, if_false]
      · rw [if_neg z] at e1
        refine ⟨va_up (va_up (oI h q) 7 (nI 0)) 6 (nI (p + 1)), ?_, WR_f hR (fun k hk => sE1_lo hk) W2 ?_ ?_ ?_ ?_ ?_ ?_ ?_⟩
        · simp (disch := first | assumption | exact nI_ne0 (by decide) (by decide) | exact zb_01 | exact Or.inl rfl | exact Or.inr rfl | with_unfolding_all exact id (by assumption) | with_unfolding_all exact id (xix_8 (by assumption) (by omega) (by omega)) | omega) only [wX3_crosses_e, wX3_crosses_0, wX3_crosses_1, wX3_crosses_2, wX3_crosses_5, wX3_crosses_6, wX3_crosses_7, wX3_crosses_10, wX3_crosses_11, wX3_crosses_12, wX3_crosses_15, wX3_crosses_16, wX3_crosses_17, wX3_crosses_20, wX3_crosses_21, wX3_crosses_22, wX3_crosses_23, wX3_crosses_26, wX3_crosses_27, wX3_crosses_28, wX3_crosses_29, wX3_crosses_30, wX3_crosses_33, wX3_crosses_36, wX3_crosses_37, wX3_crosses_40, wX3_crosses_43, wX3_crosses_44, wX3_crosses_47, wX3_crosses_48, wX3_crosses_49, wX3_crosses_52, wX3_crosses_53, wX3_crosses_54, wX3_crosses_55, wX3_crosses_58, wX3_crosses_59, wX3_crosses_60, wX3_crosses_63, wX3_crosses_64, wX3_crosses_65, wX3_crosses_68, wX3_crosses_69, wX3_crosses_72, wX3_crosses_75, wX3_crosses_76, wX3_crosses_79, wX3_crosses_80, wX3_crosses_81, wX3_crosses_84, wX3_crosses_85, wX3_crosses_88, wX3_crosses_89, wX3_crosses_92, wX3_crosses_95, wX3_crosses_98, wX3_crosses_99, wX3_crosses_100, wX3_crosses_103, if_true, if_false, ↓reduceIte, xpu_s, xpu_n, Option.bind_some, xk_i, xk_r, xk_0, xk_u, xk_l, xk_k, xk_q, rf_s, rf_n, o_TI, o_TL, o_TR, o_NI, o_NL, o_NR, o_XI, o_XL, o_XR, o_RI, o_RL, o_LI, o_LR, o_IL, o_IR, o_II, o_LL, o_RR, o_pII, o_pLL, up_s, q_e1, q_e2, Nat.zero_add, Nat.reduceEqDiff, Nat.reduceAdd, Nat.reduceMul, Nat.reduceSub, Nat.reduceLT, Nat.reduceLeDiff, Nat.reduceDiv, Nat.reduceMod, nI_c, nI_add, up_ne, cq, hs, o2, o3, o4, o5, o6, o12, o13, o14, o15, o16, oe, r5, r6, p1, c2, nI_s11, nI_0, z]
        all_goals rw [e1]
        all_goals simp (disch := first | assumption | exact nI_ne0 (by decide) (by decide) | exact zb_01 | exact Or.inl rfl | exact Or.inr rfl | with_unfolding_all exact id (by assumption) | with_unfolding_all exact id (xix_8 (by assumption) (by omega) (by omega)) | omega) only [up_ne, up_s, r5, r6, r7, r8, r9, r10, r11, f1, nI_01, zn01, if_false, h37, nI_0]
    rcases f2 with f2 | ⟨f2, f3⟩
    · rcases sO_12 A with o | o
      · refine fin (nI 1) ?_ (by rw [r6, f2, o]; exact nI_s10)
        rw [e0, o, f2, nI_a01, if_neg (by rw [nI_l11]; exact fun z => z), p1, nI_add]
      · rw [f2, o, nI_s20] at r6
        have e0 : sE1 A w none = va_up w 34 (nI 1) := by
          rw [e0, o, f2, nI_a01]
          exact if_pos (by rw [nI_l12]; trivial)
        refine ⟨va_up (va_up (oI h q) 7 (nI 1)) 6 (nI p), ?_, WR_f hR (fun k hk => sE1_lo hk) W2 ?_ ?_ ?_ ?_ ?_ ?_ ?_⟩
        · simp (disch := first | assumption | exact nI_ne0 (by decide) (by decide) | exact zb_01 | exact Or.inl rfl | exact Or.inr rfl | with_unfolding_all exact id (by assumption) | with_unfolding_all exact id (xix_8 (by assumption) (by omega) (by omega)) | omega) only [wX3_crosses_e, wX3_crosses_0, wX3_crosses_1, wX3_crosses_2, wX3_crosses_5, wX3_crosses_6, wX3_crosses_7, wX3_crosses_10, wX3_crosses_11, wX3_crosses_12, wX3_crosses_15, wX3_crosses_16, wX3_crosses_17, wX3_crosses_20, wX3_crosses_21, wX3_crosses_22, wX3_crosses_23, wX3_crosses_26, wX3_crosses_27, wX3_crosses_28, wX3_crosses_29, wX3_crosses_30, wX3_crosses_33, wX3_crosses_36, wX3_crosses_37, wX3_crosses_40, wX3_crosses_43, wX3_crosses_44, wX3_crosses_47, wX3_crosses_48, wX3_crosses_49, wX3_crosses_52, wX3_crosses_53, wX3_crosses_54, wX3_crosses_55, wX3_crosses_58, wX3_crosses_59, wX3_crosses_60, wX3_crosses_63, wX3_crosses_64, wX3_crosses_65, wX3_crosses_68, wX3_crosses_69, wX3_crosses_72, wX3_crosses_75, wX3_crosses_76, wX3_crosses_79, wX3_crosses_80, wX3_crosses_81, wX3_crosses_84, wX3_crosses_85, wX3_crosses_88, wX3_crosses_89, wX3_crosses_92, wX3_crosses_95, wX3_crosses_98, wX3_crosses_99, wX3_crosses_100, wX3_crosses_103, if_true, if_false, ↓reduceIte, xpu_s, xpu_n, Option.bind_some, xk_i, xk_r, xk_0, xk_u, xk_l, xk_k, xk_q, rf_s, rf_n, o_TI, o_TL, o_TR, o_NI, o_NL, o_NR, o_XI, o_XL, o_XR, o_RI, o_RL, o_LI, o_LR, o_IL, o_IR, o_II, o_LL, o_RR, o_pII, o_pLL, up_s, q_e1, q_e2, Nat.zero_add, Nat.reduceEqDiff, Nat.reduceAdd, Nat.reduceMul, Nat.reduceSub, Nat.reduceLT, Nat.reduceLeDiff, Nat.reduceDiv, Nat.reduceMod, nI_c, nI_add, up_ne, cq, hs, o2, o3, o4, o5, o6, o12, o13, o14, o15, o16, oe, r5, r6, p1, c2, nI_s21, nI_ne1, Nat.add_zero, pl]
        all_goals rw [e0]
        all_goals simp (disch := first | assumption | exact nI_ne0 (by decide) (by decide) | exact zb_01 | exact Or.inl rfl | exact Or.inr rfl | with_unfolding_all exact id (by assumption) | with_unfolding_all exact id (xix_8 (by assumption) (by omega) (by omega)) | omega) only [up_ne, up_s, r5, r6, r7, r8, r9, r10, r11, f1, o, p1, if_true, nI_s21]
    · refine fin (nI 2) ?_ (by rw [r6, f2, f3]; exact nI_s21)
      rw [e0, f3, f2, nI_a11, if_neg (by rw [nI_l22]; exact fun z => z), p1, nI_add]
end
