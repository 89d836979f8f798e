section
variable {d : Nat} {h : xH} {q c : Nat} {A w : rI}
/-- the lights: whether she begins to cross a lane -/
theorem goesOn_0 (O : WO h q) (hs : oR h q 5 = some c) (S : SCo h c A) (R : WR h q A w) (W2 : sN A ≤ 8) (I : WI A w) {z1 z2 z3 z4 : Slot} : ∃ f, E_ (d + 6) mX3_goesOn 0 [.val (.ref q), z1, z2, z3, z4] [] h = E_ (d + 6) mX3_goesOn 58 [.val (.ref q), z1, z2, z3, z4] [] (pI h q f) ∧ WR (pI h q f) q A (sIn A w) := by
  have FR := kX3_isFree (d := d) O hs S R W2 (WI_h I) (WI_p0 I)
  have sf := sF_0 I.1
  have KB := kX3_isAtKerb (d := d + 5) O R sf.1
  have hR := R
  have hO := O
  obtain ⟨o1, o2, o3, o4, o5, o6, o7, o8, o9, o10, o11, o12, o13, o14, o15, o16⟩ := O
  obtain ⟨c1, c2, c3, c4, c5, c6, c7, c8, c9, c10, c11⟩ := S; have c12 := c10.1
  obtain ⟨r1, r2, r3, r4, r5, r6, r7, r8, r9, r10, r11⟩ := R
  have same : ∃ f, E_ (d + 6) mX3_goesOn 58 [.val (.ref q), z1, z2, z3, z4] [] h = E_ (d + 6) mX3_goesOn 58 [.val (.ref q), z1, z2, z3, z4] [] (pI h q f) ∧ WR (pI h q f) q A w := ⟨oI h q, by rw [o_pIi], by rw [o_pIi]; exact hR⟩
  have go : E_ (d + 6) mX3_goesOn 0 [.val (.ref q), z1, z2, z3, z4] [] h = E_ (d + 6) mX3_goesOn 35 [.val (.ref q), z1, z2, z3, z4] [] h → w 33 = 0 → sIn A w = va_up (va_up w 33 (nI 1)) 34 (nI 0) → ∃ f, E_ (d + 6) mX3_goesOn 0 [.val (.ref q), z1, z2, z3, z4] [] h = E_ (d + 6) mX3_goesOn 58 [.val (.ref q), z1, z2, z3, z4] [] (pI h q f) ∧ WR (pI h q f) q A (sIn A w) := by
    intro g1 g2 g3
    rw [g1, g3]
    refine ⟨va_up (oI h q) 7 (sO A), ?_, WR_f hR (fun k hk => ?_) W2 ?_ ?_ ?_ ?_ ?_ ?_ ?_⟩
    · unfold sO
      cases z : sT A (nI 0) with
      | true =>
        have z' := of_decide_eq_true z
        simp (disch := first | assumption | exact nI_ne0 (by decide) (by decide) | exact zb_01 | exact Or.inl rfl | exact Or.inr rfl | with_unfolding_all exact id (by assumption) | with_unfolding_all exact id (xix_8 (by assumption) (by omega) (by omega)) | omega) only [wX3_goesOn_35, wX3_goesOn_36, wX3_goesOn_37, wX3_goesOn_40, wX3_goesOn_43, wX3_goesOn_44, wX3_goesOn_47, wX3_goesOn_50, wX3_goesOn_51, wX3_goesOn_54, wX3_goesOn_55, if_true, if_false, ↓reduceIte, xpu_s, xpu_n, Option.bind_some, xk_i, xk_r, xk_0, xk_u, xk_l, xk_k, xk_q, rf_s, rf_n, o_TI, o_TL, o_TR, o_NI, o_NL, o_NR, o_XI, o_XL, o_XR, o_RI, o_RL, o_LI, o_LR, o_IL, o_IR, o_II, o_LL, o_RR, o_pII, o_pLL, up_s, q_e1, q_e2, Nat.zero_add, Nat.reduceEqDiff, Nat.reduceAdd, Nat.reduceMul, Nat.reduceSub, Nat.reduceLT, Nat.reduceLeDiff, Nat.reduceDiv, Nat.reduceMod, nI_c, nI_add, up_ne, hs, c3, kX0_has, z', decide_true, zb_t, one_ne0]
      | false =>
        have z' : ((A 34 >>> (nI 0 &&& 31)) &&& nI 1 = nI 1) = False := eq_false (of_decide_eq_false z)
        simp (disch := first | assumption | exact nI_ne0 (by decide) (by decide) | exact zb_01 | exact Or.inl rfl | exact Or.inr rfl | with_unfolding_all exact id (by assumption) | with_unfolding_all exact id (xix_8 (by assumption) (by omega) (by omega)) | omega) only [wX3_goesOn_35, wX3_goesOn_36, wX3_goesOn_37, wX3_goesOn_40, wX3_goesOn_43, wX3_goesOn_44, wX3_goesOn_47, wX3_goesOn_50, wX3_goesOn_51, wX3_goesOn_54, wX3_goesOn_55, if_true, if_false, ↓reduceIte, xpu_s, xpu_n, Option.bind_some, xk_i, xk_r, xk_0, xk_u, xk_l, xk_k, xk_q, rf_s, rf_n, o_TI, o_TL, o_TR, o_NI, o_NL, o_NR, o_XI, o_XL, o_XR, o_RI, o_RL, o_LI, o_LR, o_IL, o_IR, o_II, o_LL, o_RR, o_pII, o_pLL, up_s, q_e1, q_e2, Nat.zero_add, Nat.reduceEqDiff, Nat.reduceAdd, Nat.reduceMul, Nat.reduceSub, Nat.reduceLT, Nat.reduceLeDiff, Nat.reduceDiv, Nat.reduceMod, nI_c, nI_add, up_ne, hs, c3, kX0_has, z', decide_false, zb_f, Bool.false_eq_true]
    · rw [up_ne (by omega), up_ne (by omega)]
    all_goals simp (disch := first | assumption | exact nI_ne0 (by decide) (by decide) | exact zb_01 | exact Or.inl rfl | exact Or.inr rfl | with_unfolding_all exact id (by assumption) | with_unfolding_all exact id (xix_8 (by assumption) (by omega) (by omega)) | omega) only [up_ne, up_s, r5, r6, r7, r8, r9, r10, r11, if_true]
    rcases sO_12 A with o | o <;> rw [o] <;> decide
  have skip : E_ (d + 6) mX3_goesOn 0 [.val (.ref q), z1, z2, z3, z4] [] h = E_ (d + 6) mX3_goesOn 58 [.val (.ref q), z1, z2, z3, z4] [] h → sIn A w = w → ∃ f, E_ (d + 6) mX3_goesOn 0 [.val (.ref q), z1, z2, z3, z4] [] h = E_ (d + 6) mX3_goesOn 58 [.val (.ref q), z1, z2, z3, z4] [] (pI h q f) ∧ WR (pI h q f) q A (sIn A w) := by
    intro g1 g2
    rw [g1, g2]
    exact same
  by_cases q1 : w 33 = 0
  · have q1' : oI h q 7 = 0 := by rw [r6]; exact sf.1.mpr q1
    cases q2 : sFr A w (w 32) with
    | true =>
      rw [q2] at FR
      refine go ?_ q1 (if_pos ⟨q1, Or.inl q2⟩)
      simp (disch := first | assumption | exact nI_ne0 (by decide) (by decide) | exact zb_01 | exact Or.inl rfl | exact Or.inr rfl | with_unfolding_all exact id (by assumption) | with_unfolding_all exact id (xix_8 (by assumption) (by omega) (by omega)) | omega) only [wX3_goesOn_0, wX3_goesOn_1, wX3_goesOn_4, wX3_goesOn_7, wX3_goesOn_8, wX3_goesOn_11, if_true, if_false, ↓reduceIte, xpu_s, xpu_n, Option.bind_some, xk_i, xk_r, xk_0, xk_u, xk_l, xk_k, xk_q, rf_s, rf_n, q_e1, q_e2, Nat.zero_add, Nat.reduceEqDiff, Nat.reduceAdd, Nat.reduceMul, Nat.reduceSub, Nat.reduceLT, Nat.reduceLeDiff, Nat.reduceDiv, Nat.reduceMod, q1', FR, zb_t, one_ne0]
    | false =>
      rw [q2] at FR
      by_cases q3 : w 32 = 0
      · have KB1 : C_ (d + 5) mX3_isAtKerb [.ref q] h = some (some (.int 1), h) := by
          rw [KB]; simp only [q1, q3, and_self, decide_true, zb_t]
        by_cases q4 : w 35 < A 37
        · refine skip ?_ (if_neg (fun z => z.2.elim (fun y => by rw [q2] at y; exact Bool.false_ne_true y) (fun y => y.2 q4)))
          simp (disch := first | assumption | exact nI_ne0 (by decide) (by decide) | exact zb_01 | exact Or.inl rfl | exact Or.inr rfl | with_unfolding_all exact id (by assumption) | with_unfolding_all exact id (xix_8 (by assumption) (by omega) (by omega)) | omega) only [wX3_goesOn_0, wX3_goesOn_1, wX3_goesOn_4, wX3_goesOn_7, wX3_goesOn_8, wX3_goesOn_11, wX3_goesOn_14, wX3_goesOn_15, wX3_goesOn_18, wX3_goesOn_21, wX3_goesOn_22, wX3_goesOn_25, wX3_goesOn_26, wX3_goesOn_29, wX3_goesOn_32, if_true, if_false, ↓reduceIte, xpu_s, xpu_n, Option.bind_some, xk_i, xk_r, xk_0, xk_u, xk_l, xk_k, xk_q, rf_s, rf_n, q_e1, q_e2, Nat.zero_add, Nat.reduceEqDiff, Nat.reduceAdd, Nat.reduceMul, Nat.reduceSub, Nat.reduceLT, Nat.reduceLeDiff, Nat.reduceDiv, Nat.reduceMod, hs, r7, c6, q1', FR, zb_f, KB1, one_ne0, q4]
        · refine go ?_ q1 (if_pos ⟨q1, Or.inr ⟨q3, q4⟩⟩)
          simp (disch := first | assumption | exact nI_ne0 (by decide) (by decide) | exact zb_01 | exact Or.inl rfl | exact Or.inr rfl | with_unfolding_all exact id (by assumption) | with_unfolding_all exact id (xix_8 (by assumption) (by omega) (by omega)) | omega) only [wX3_goesOn_0, wX3_goesOn_1, wX3_goesOn_4, wX3_goesOn_7, wX3_goesOn_8, wX3_goesOn_11, wX3_goesOn_14, wX3_goesOn_15, wX3_goesOn_18, wX3_goesOn_21, wX3_goesOn_22, wX3_goesOn_25, wX3_goesOn_26, wX3_goesOn_29, wX3_goesOn_32, if_true, if_false, ↓reduceIte, xpu_s, xpu_n, Option.bind_some, xk_i, xk_r, xk_0, xk_u, xk_l, xk_k, xk_q, rf_s, rf_n, q_e1, q_e2, Nat.zero_add, Nat.reduceEqDiff, Nat.reduceAdd, Nat.reduceMul, Nat.reduceSub, Nat.reduceLT, Nat.reduceLeDiff, Nat.reduceDiv, Nat.reduceMod, hs, r7, c6, q1', FR, zb_f, KB1, one_ne0, q4]
      · have KB1 : C_ (d + 5) mX3_isAtKerb [.ref q] h = some (some (.int 0), h) := by
          rw [KB]; simp only [q3, false_and, decide_false, zb_f]
        refine skip ?_ (if_neg (fun z => z.2.elim (fun y => by rw [q2] at y; exact Bool.false_ne_true y) (fun y => q3 y.1)))
        simp (disch := first | assumption | exact nI_ne0 (by decide) (by decide) | exact zb_01 | exact Or.inl rfl | exact Or.inr rfl | with_unfolding_all exact id (by assumption) | with_unfolding_all exact id (xix_8 (by assumption) (by omega) (by omega)) | omega) only [wX3_goesOn_0, wX3_goesOn_1, wX3_goesOn_4, wX3_goesOn_7, wX3_goesOn_8, wX3_goesOn_11, wX3_goesOn_14, wX3_goesOn_15, wX3_goesOn_18, if_true, if_false, ↓reduceIte, xpu_s, xpu_n, Option.bind_some, xk_i, xk_r, xk_0, xk_u, xk_l, xk_k, xk_q, rf_s, rf_n, q_e1, q_e2, Nat.zero_add, Nat.reduceEqDiff, Nat.reduceAdd, Nat.reduceMul, Nat.reduceSub, Nat.reduceLT, Nat.reduceLeDiff, Nat.reduceDiv, Nat.reduceMod, q1', FR, zb_f, KB1]
  · have q1' : ¬ oI h q 7 = 0 := by rw [r6]; exact fun z => q1 (sf.1.mp z)
    refine skip ?_ (if_neg (fun z => q1 z.1))
    simp (disch := first | assumption | exact nI_ne0 (by decide) (by decide) | exact zb_01 | exact Or.inl rfl | exact Or.inr rfl | with_unfolding_all exact id (by assumption) | with_unfolding_all exact id (xix_8 (by assumption) (by omega) (by omega)) | omega) only [wX3_goesOn_0, wX3_goesOn_1, wX3_goesOn_4, if_true, if_false, ↓reduceIte, xpu_s, xpu_n, Option.bind_some, xk_i, xk_r, xk_0, xk_u, xk_l, xk_k, xk_q, rf_s, rf_n, q_e1, q_e2, Nat.zero_add, Nat.reduceEqDiff, Nat.reduceAdd, Nat.reduceMul, Nat.reduceSub, Nat.reduceLT, Nat.reduceLeDiff, Nat.reduceDiv, Nat.reduceMod, q1']
/-- what stands at the end of a tick -/
theorem goesOn_9 (O : WO h q) (R : WR h q A w) (W2 : sN A ≤ 8) (hI : w 33 = 0 ∨ (w 33 = nI 1 ∧ (w 34 = nI 0 ∨ (w 34 = nI 1 ∧ sO A = nI 2)))) {z1 z2 z3 z4 : Slot} : ∃ f, E_ (d + 1) mX3_goesOn 126 [.val (.ref q), z1, z2, z3, z4] [] h = some (none, pI h q f) ∧ WR (pI h q f) q A (sE3 (sE2 w)) := by
  have KB := kX3_isAtKerb (d := d) O R (sF_0 hI).1
  have hR := R
  obtain ⟨o1, o2, o3, o4, o5, o6, o7, o8, o9, o10, o11, o12, o13, o14, o15, o16⟩ := O
  obtain ⟨r1, r2, r3, r4, r5, r6, r7, r8, r9, r10, r11⟩ := R
  have lo : ∀ k, k < 32 → sE3 (sE2 w) k = w k := fun k hk => (sE3_lo (by omega) (by omega)).trans (sE2_lo (by omega) (by omega))
  have key : ∀ b : Int32, C_ d mX3_isAtKerb [.ref q] h = some (some (.int (if b = nI 1 then 1 else 0)), h) → (b = nI 1 ∨ b = nI 0) → sE2 w = va_up (va_up w 35 (w 35 + b)) 36 (w 36 + nI 1) → ∃ f, E_ (d + 1) mX3_goesOn 126 [.val (.ref q), z1, z2, z3, z4] [] h = some (none, pI h q f) ∧ WR (pI h q f) q A (sE3 (sE2 w)) := by
    intro b g1 g2 g3
    by_cases q1 : w 37 = 0
    · by_cases q2 : w 36 + nI 1 = nI 99
      · have e : sE3 (sE2 w) = va_up (va_up (sE2 w) 37 (nI 3)) 41 (nI 0) := by
          unfold sE3; rw [if_pos]; rw [g3, up_ne (by omega), up_ne (by omega), up_s]; exact ⟨q1, q2⟩
        refine ⟨va_up (va_up (va_up (oI h q) 8 (w 35 + b)) 9 (w 36 + nI 1)) 10 (nI 3), ?_, WR_f hR lo W2 ?_ ?_ ?_ ?_ ?_ ?_ ?_⟩
        · rcases g2 with rfl | rfl
          · simp (disch := first | assumption | exact nI_ne0 (by decide) (by decide) | exact zb_01 | exact Or.inl rfl | exact Or.inr rfl | with_unfolding_all exact id (by assumption) | with_unfolding_all exact id (xix_8 (by assumption) (by omega) (by omega)) | omega) only [wX3_goesOn_126, wX3_goesOn_127, wX3_goesOn_128, wX3_goesOn_131, wX3_goesOn_132, wX3_goesOn_135, wX3_goesOn_138, wX3_goesOn_139, wX3_goesOn_142, wX3_goesOn_143, wX3_goesOn_144, wX3_goesOn_147, wX3_goesOn_148, wX3_goesOn_149, wX3_goesOn_152, wX3_goesOn_153, wX3_goesOn_154, wX3_goesOn_157, wX3_goesOn_158, wX3_goesOn_161, wX3_goesOn_164, wX3_goesOn_165, wX3_goesOn_168, wX3_goesOn_170, wX3_goesOn_173, wX3_goesOn_174, wX3_goesOn_175, wX3_goesOn_178, if_true, if_false, ↓reduceIte, xpu_s, xpu_n, Option.bind_some, xk_i, xk_r, xk_0, xk_u, xk_l, xk_k, xk_q, rf_s, rf_n, o_TI, o_TL, o_TR, o_NI, o_NL, o_NR, o_XI, o_XL, o_XR, o_RI, o_RL, o_LI, o_LR, o_IL, o_IR, o_II, o_LL, o_RR, o_pII, o_pLL, up_s, q_e1, q_e2, Nat.zero_add, Nat.reduceEqDiff, Nat.reduceAdd, Nat.reduceMul, Nat.reduceSub, Nat.reduceLT, Nat.reduceLeDiff, Nat.reduceDiv, Nat.reduceMod, nI_c, nI_add, up_ne, g1, one_ne0, r7, r8, r9, q1, q2]
          · simp (disch := first | assumption | exact nI_ne0 (by decide) (by decide) | exact zb_01 | exact Or.inl rfl | exact Or.inr rfl | with_unfolding_all exact id (by assumption) | with_unfolding_all exact id (xix_8 (by assumption) (by omega) (by omega)) | omega) only [wX3_goesOn_126, wX3_goesOn_127, wX3_goesOn_128, wX3_goesOn_131, wX3_goesOn_132, wX3_goesOn_135, wX3_goesOn_138, wX3_goesOn_139, wX3_goesOn_142, wX3_goesOn_143, wX3_goesOn_144, wX3_goesOn_147, wX3_goesOn_148, wX3_goesOn_149, wX3_goesOn_152, wX3_goesOn_153, wX3_goesOn_154, wX3_goesOn_157, wX3_goesOn_158, wX3_goesOn_161, wX3_goesOn_164, wX3_goesOn_165, wX3_goesOn_168, wX3_goesOn_170, wX3_goesOn_173, wX3_goesOn_174, wX3_goesOn_175, wX3_goesOn_178, if_true, if_false, ↓reduceIte, xpu_s, xpu_n, Option.bind_some, xk_i, xk_r, xk_0, xk_u, xk_l, xk_k, xk_q, rf_s, rf_n, o_TI, o_TL, o_TR, o_NI, o_NL, o_NR, o_XI, o_XL, o_XR, o_RI, o_RL, o_LI, o_LR, o_IL, o_IR, o_II, o_LL, o_RR, o_pII, o_pLL, up_s, q_e1, q_e2, Nat.zero_add, Nat.reduceEqDiff, Nat.reduceAdd, Nat.reduceMul, Nat.reduceSub, Nat.reduceLT, Nat.reduceLeDiff, Nat.reduceDiv, Nat.reduceMod, nI_c, nI_add, up_ne, g1, nI_01, r7, r8, r9, q1, q2]
        all_goals rw [e, g3]
        all_goals simp (disch := first | assumption | exact nI_ne0 (by decide) (by decide) | exact zb_01 | exact Or.inl rfl | exact Or.inr rfl | with_unfolding_all exact id (by assumption) | with_unfolding_all exact id (xix_8 (by assumption) (by omega) (by omega)) | omega) only [up_ne, up_s, r5, r6, r7, r8, r9, r10, r11]
      · have e : sE3 (sE2 w) = va_up (sE2 w) 41 (nI 0) := by
          unfold sE3; rw [if_neg]; rw [g3, up_ne (by omega), up_ne (by omega), up_s]; exact fun z => q2 z.2
        refine ⟨va_up (va_up (oI h q) 8 (w 35 + b)) 9 (w 36 + nI 1), ?_, WR_f hR lo W2 ?_ ?_ ?_ ?_ ?_ ?_ ?_⟩
        · rcases g2 with rfl | rfl
          · simp (disch := first | assumption | exact nI_ne0 (by decide) (by decide) | exact zb_01 | exact Or.inl rfl | exact Or.inr rfl | with_unfolding_all exact id (by assumption) | with_unfolding_all exact id (xix_8 (by assumption) (by omega) (by omega)) | omega) only [wX3_goesOn_126, wX3_goesOn_127, wX3_goesOn_128, wX3_goesOn_131, wX3_goesOn_132, wX3_goesOn_135, wX3_goesOn_138, wX3_goesOn_139, wX3_goesOn_142, wX3_goesOn_143, wX3_goesOn_144, wX3_goesOn_147, wX3_goesOn_148, wX3_goesOn_149, wX3_goesOn_152, wX3_goesOn_153, wX3_goesOn_154, wX3_goesOn_157, wX3_goesOn_158, wX3_goesOn_161, wX3_goesOn_164, wX3_goesOn_165, wX3_goesOn_168, wX3_goesOn_170, wX3_goesOn_173, wX3_goesOn_174, wX3_goesOn_175, wX3_goesOn_178, if_true, if_false, ↓reduceIte, xpu_s, xpu_n, Option.bind_some, xk_i, xk_r, xk_0, xk_u, xk_l, xk_k, xk_q, rf_s, rf_n, o_TI, o_TL, o_TR, o_NI, o_NL, o_NR, o_XI, o_XL, o_XR, o_RI, o_RL, o_LI, o_LR, o_IL, o_IR, o_II, o_LL, o_RR, o_pII, o_pLL, up_s, q_e1, q_e2, Nat.zero_add, Nat.reduceEqDiff, Nat.reduceAdd, Nat.reduceMul, Nat.reduceSub, Nat.reduceLT, Nat.reduceLeDiff, Nat.reduceDiv, Nat.reduceMod, nI_c, nI_add, up_ne, g1, one_ne0, r7, r8, r9, q1, q2]
          · simp (disch := first | assumption | exact nI_ne0 (by decide) (by decide) | exact zb_01 | exact Or.inl rfl | exact Or.inr rfl | with_unfolding_all exact id (by assumption) | with_unfolding_all exact id (xix_8 (by assumption) (by omega) (by omega)) | omega) only [wX3_goesOn_126, wX3_goesOn_127, wX3_goesOn_128, wX3_goesOn_131, wX3_goesOn_132, wX3_goesOn_135, wX3_goesOn_138, wX3_goesOn_139, wX3_goesOn_142, wX3_goesOn_143, wX3_goesOn_144, wX3_goesOn_147, wX3_goesOn_148, wX3_goesOn_149, wX3_goesOn_152, wX3_goesOn_153, wX3_goesOn_154, wX3_goesOn_157, wX3_goesOn_158, wX3_goesOn_161, wX3_goesOn_164, wX3_goesOn_165, wX3_goesOn_168, wX3_goesOn_170, wX3_goesOn_173, wX3_goesOn_174, wX3_goesOn_175, wX3_goesOn_178, if_true, if_false, ↓reduceIte, xpu_s, xpu_n, Option.bind_some, xk_i, xk_r, xk_0, xk_u, xk_l, xk_k, xk_q, rf_s, rf_n, o_TI, o_TL, o_TR, o_NI, o_NL, o_NR, o_XI, o_XL, o_XR, o_RI, o_RL, o_LI, o_LR, o_IL, o_IR, o_II, o_LL, o_RR, o_pII, o_pLL, up_s, q_e1, q_e2, Nat.zero_add, Nat.reduceEqDiff, Nat.reduceAdd, Nat.reduceMul, Nat.reduceSub, Nat.reduceLT, Nat.reduceLeDiff, Nat.reduceDiv, Nat.reduceMod, nI_c, nI_add, up_ne, g1, nI_01, r7, r8, r9, q1, q2]
        all_goals rw [e, g3]
        all_goals simp (disch := first | assumption | exact nI_ne0 (by decide) (by decide) | exact zb_01 | exact Or.inl rfl | exact Or.inr rfl | with_unfolding_all exact id (by assumption) | with_unfolding_all exact id (xix_8 (by assumption) (by omega) (by omega)) | omega) only [up_ne, up_s, r5, r6, r7, r8, r9, r10, r11]
    · have e : sE3 (sE2 w) = va_up (sE2 w) 41 (nI 0) := by
        unfold sE3; rw [if_neg]; rw [g3, up_ne (by omega), up_ne (by omega)]; exact fun z => q1 z.1
      refine ⟨va_up (va_up (oI h q) 8 (w 35 + b)) 9 (w 36 + nI 1), ?_, WR_f hR lo W2 ?_ ?_ ?_ ?_ ?_ ?_ ?_⟩
      · rcases g2 with rfl | rfl
        · simp (disch := first | assumption | exact nI_ne0 (by decide) (by decide) | exact zb_01 | exact Or.inl rfl | exact Or.inr rfl | with_unfolding_all exact id (by assumption) | with_unfolding_all exact id (xix_8 (by assumption) (by omega) (by omega)) | omega) only [wX3_goesOn_126, wX3_goesOn_127, wX3_goesOn_128, wX3_goesOn_131, wX3_goesOn_132, wX3_goesOn_135, wX3_goesOn_138, wX3_goesOn_139, wX3_goesOn_142, wX3_goesOn_143, wX3_goesOn_144, wX3_goesOn_147, wX3_goesOn_148, wX3_goesOn_149, wX3_goesOn_152, wX3_goesOn_153, wX3_goesOn_154, wX3_goesOn_157, wX3_goesOn_158, wX3_goesOn_161, wX3_goesOn_164, wX3_goesOn_165, wX3_goesOn_168, wX3_goesOn_170, wX3_goesOn_173, wX3_goesOn_174, wX3_goesOn_175, wX3_goesOn_178, if_true, if_false, ↓reduceIte, xpu_s, xpu_n, Option.bind_some, xk_i, xk_r, xk_0, xk_u, xk_l, xk_k, xk_q, rf_s, rf_n, o_TI, o_TL, o_TR, o_NI, o_NL, o_NR, o_XI, o_XL, o_XR, o_RI, o_RL, o_LI, o_LR, o_IL, o_IR, o_II, o_LL, o_RR, o_pII, o_pLL, up_s, q_e1, q_e2, Nat.zero_add, Nat.reduceEqDiff, Nat.reduceAdd, Nat.reduceMul, Nat.reduceSub, Nat.reduceLT, Nat.reduceLeDiff, Nat.reduceDiv, Nat.reduceMod, nI_c, nI_add, up_ne, g1, one_ne0, r7, r8, r9, q1]
        · simp (disch := first | assumption | exact nI_ne0 (by decide) (by decide) | exact zb_01 | exact Or.inl rfl | exact Or.inr rfl | with_unfolding_all exact id (by assumption) | with_unfolding_all exact id (xix_8 (by assumption) (by omega) (by omega)) | omega) only [wX3_goesOn_126, wX3_goesOn_127, wX3_goesOn_128, wX3_goesOn_131, wX3_goesOn_132, wX3_goesOn_135, wX3_goesOn_138, wX3_goesOn_139, wX3_goesOn_142, wX3_goesOn_143, wX3_goesOn_144, wX3_goesOn_147, wX3_goesOn_148, wX3_goesOn_149, wX3_goesOn_152, wX3_goesOn_153, wX3_goesOn_154, wX3_goesOn_157, wX3_goesOn_158, wX3_goesOn_161, wX3_goesOn_164, wX3_goesOn_165, wX3_goesOn_168, wX3_goesOn_170, wX3_goesOn_173, wX3_goesOn_174, wX3_goesOn_175, wX3_goesOn_178, if_true, if_false, ↓reduceIte, xpu_s, xpu_n, Option.bind_some, xk_i, xk_r, xk_0, xk_u, xk_l, xk_k, xk_q, rf_s, rf_n, o_TI, o_TL, o_TR, o_NI, o_NL, o_NR, o_XI, o_XL, o_XR, o_RI, o_RL, o_LI, o_LR, o_IL, o_IR, o_II, o_LL, o_RR, o_pII, o_pLL, up_s, q_e1, q_e2, Nat.zero_add, Nat.reduceEqDiff, Nat.reduceAdd, Nat.reduceMul, Nat.reduceSub, Nat.reduceLT, Nat.reduceLeDiff, Nat.reduceDiv, Nat.reduceMod, nI_c, nI_add, up_ne, g1, nI_01, r7, r8, r9, q1]
      all_goals rw [e, g3]
      all_goals simp (disch := first | assumption | exact nI_ne0 (by decide) (by decide) | exact zb_01 | exact Or.inl rfl | exact Or.inr rfl | with_unfolding_all exact id (by assumption) | with_unfolding_all exact id (xix_8 (by assumption) (by omega) (by omega)) | omega) only [up_ne, up_s, r5, r6, r7, r8, r9, r10, r11]
  by_cases q3 : w 32 = 0 ∧ w 33 = 0
  · refine key (nI 1) ?_ (Or.inl rfl) (by unfold sE2; rw [if_pos ⟨q3.2, q3.1⟩])
    rw [KB, decide_eq_true q3, if_pos rfl]
    rfl
  · refine key (nI 0) ?_ (Or.inr rfl) (by unfold sE2; rw [if_neg (fun z => q3 ⟨z.2, z.1⟩)])
    rw [KB, decide_eq_false q3, if_neg (by rw [nI_01]; exact fun z => z)]
    rfl
end
/-- all cars that are on their way have gone at the end -/
theorem sNe_none {A w : rI} {mv : Nat → Bool} {lane : Int32} (h : sNe A w mv lane = none) : ∀ k, k < sN A → A (2 + k) = lane → mv k = true ∨ ¬ 0 < w k := by
  have key : ∀ n, fo_ (fun c b => if A (2 + c) = lane ∧ mv c = false ∧ 0 < w c ∧ nq w c b = true then some c else b) n none = none → ∀ k, k < n → A (2 + k) = lane → mv k = true ∨ ¬ 0 < w k := by
    intro n
    induction n with
    | zero => intro _ k hk; omega
    | succ n ih =>
      intro e k hk hl
      have e : (if A (2 + n) = lane ∧ mv n = false ∧ 0 < w n ∧ nq w n (fo_ (fun c b => if A (2 + c) = lane ∧ mv c = false ∧ 0 < w c ∧ nq w c b = true then some c else b) n none) = true then some n else fo_ (fun c b => if A (2 + c) = lane ∧ mv c = false ∧ 0 < w c ∧ nq w c b = true then some c else b) n none) = none := e
      by_cases z : A (2 + n) = lane ∧ mv n = false ∧ 0 < w n ∧ nq w n (fo_ (fun c b => if A (2 + c) = lane ∧ mv c = false ∧ 0 < w c ∧ nq w c b = true then some c else b) n none) = true
      · rw [if_pos z] at e; cases e
      · rw [if_neg z] at e
        by_cases y : k = n
        · subst y
          rw [e] at z
          cases q : mv k with
          | true => exact Or.inl rfl
          | false => exact Or.inr fun x => z ⟨hl, q, x, rfl⟩
        · exact ih e k (by omega) hl
  exact key _ h
theorem sLn_done {A : rI} {lane : Int32} : ∀ (f : Nat) (s : sM), cu s.2.1 (sN A) ≤ f → sNe A (sLn A lane f s).1 (sLn A lane f s).2.1 lane = none
  | 0, s, h => by
    cases q : sNe A s.1 s.2.1 lane with
    | none => exact q
    | some c =>
      obtain ⟨c1, -, c3, -⟩ := sNe_some q
      have := cu_pos c3 (sN A) c1
      omega
  | f + 1, s, h => by
    cases q : sNe A s.1 s.2.1 lane with
    | none => rw [sLn_none q]; exact q
    | some c =>
      obtain ⟨c1, -, c3, -⟩ := sNe_some q
      rw [sLn_some q]
      have hcu := cu_up c3 (sN A)
      rw [if_pos c1] at hcu
      exact sLn_done f _ (by show cu (va_up s.2.1 c true) (sN A) ≤ f; omega)
/-- what has gone stays so; what is of other lanes stays as it is -/
theorem sLn_oth {A : rI} {lane : Int32} (W2 : sN A ≤ 8) : ∀ (f : Nat) (s : sM) (k : Nat), k < sN A → (s.2.1 k = true ∨ ¬ 0 < s.1 k) → ((sLn A lane f s).2.1 k = true ∨ ¬ 0 < (sLn A lane f s).1 k)
  | 0, s, k, _, h => h
  | f + 1, s, k, hk, h => by
    cases q : sNe A s.1 s.2.1 lane with
    | none => rw [sLn_none q]; exact h
    | some c =>
      obtain ⟨c1, -, c3, c4⟩ := sNe_some q
      rw [sLn_some q]
      refine sLn_oth W2 f _ k hk ?_
      show va_up s.2.1 c true k = true ∨ ¬ 0 < sGo s.1 s.2.2.1 c k
      by_cases z : k = c
      · rw [z, up_s]; exact Or.inl rfl
      · rw [up_ne z, sGo_at z (by omega) (by omega)]; exact h
theorem sCg_done {A w : rI} (W : WFs A) : ∀ k, k < sN A → (sCg A w).2.1 k = true ∨ ¬ 0 < (sCg A w).1 k := by
  have W2 := W.2.1
  have key := fo_in (P := fun l (p : sP) => ∀ k, k < sN A → (∃ j, j < l ∧ A (2 + k) = nI j) → p.2.1 k = true ∨ ¬ 0 < p.1 k) (f := sLa A) (s := (sZh w, fun _ => false, none)) (n := sL A) (fun k hk ⟨j, hj, _⟩ => absurd hj (Nat.not_lt_zero _)) (fun l p hl ih k hk hj => by
    obtain ⟨j, j1, j2⟩ := hj
    show (sLn A (nI l) 8 (p.1, p.2.1, -1, none)).2.1 k = true ∨ ¬ 0 < (sLn A (nI l) 8 (p.1, p.2.1, -1, none)).1 k
    by_cases z : j = l
    · subst z
      exact sNe_none (sLn_done 8 (p.1, p.2.1, -1, none) (Nat.le_trans (cu_le _) W2)) k hk j2
    · exact sLn_oth W2 8 _ k hk (ih k hk ⟨j, by omega, j2⟩))
  intro k hk
  obtain ⟨l, l1, l2⟩ := W.2.2.2.2.2.1 k hk
  exact key k hk ⟨l, l2, l1⟩
theorem kX3_goesOn {d : Nat} {h : xH} {q c : Nat} {A w : rI} (O : WO h q) (hs : oR h q 5 = some c) (S : SCo h c A) (R : WR h q A w) (W : WFs A) (I : WI A w) (h37 : w 37 = 0) : ∃ h2, C_ (d + 6) mX3_goesOn [.ref q] h = some (none, h2) ∧ WFr q h h2 ∧ WR h2 q A (sTk A w) := by
  have W2 := W.2.1
  obtain ⟨f1, e1, R1⟩ := goesOn_0 (d := d) (z1 := .unset) (z2 := .unset) (z3 := .unset) (z4 := .unset) O hs S R W2 I
  have I1 := WI_In W2 I
  have F1 : WFr q h (pI h q f1) := WFr_I WFr_refl (Nat.le_refl _) (by omega)
  generalize hh1 : pI h q f1 = h1 at *
  have O1 := WO_fr F1 O
  have S1 := SC_w F1 O S
  have hs1 : oR h1 q 5 = some c := by rw [F1.2.2.2.1]; exact hs
  generalize hw1 : sIn A w = w1 at *
  have C0 : CK q A w1 h1 h1 (sZh w1, fun _ => false, none) := by
    obtain ⟨r1, r2, r3, r4, -⟩ := R1
    refine ⟨WFr_refl, rfl, fun k hk => ?_, fun k hk => ?_, fun k hk => ?_, fun k hk hv => ?_, fun k hk _ => ⟨?_, ?_, ?_⟩⟩
    · show _ = sZh w1 k; rw [sZh_lo (by omega)]; exact r1 k hk
    · show _ = sZh w1 (8 + k); rw [sZh_lo (by omega)]; exact r2 k hk
    · show _ = sZh w1 (16 + k); rw [sZh_lo (by omega)]; exact r3 k hk
    · show _ = sZh w1 (24 + k)
      rw [r4 k hk, show sZh w1 (24 + k) = nI 0 from if_pos (by omega)]
      rcases (I1.2.2 k hk).2.2.2 with e | e
      · exact e
      · rcases hv with hv | hv
        · cases hv
        · exact absurd e.2 hv
    · exact sZh_lo (by omega)
    · exact sZh_lo (by omega)
    · exact sZh_lo (by omega)
  have hF : w1 33 = 0 ∨ w1 33 = nI 1 := I1.1.imp id And.left
  obtain ⟨h2, z, e2, K2⟩ := kX3_lanes (d := d) (s4 := .unset) O1 hs1 S1 W (WI_P I1) C0 R1.2.2.2.2.1 hF
  obtain ⟨k1, k2, k3, k4, k5, k6, k7⟩ := K2
  have O2 := WO_fr k1 O1
  have S2 := SC_w k1 O1 S1
  have hs2 : oR h2 q 5 = some c := by rw [k1.2.2.2.1]; exact hs1
  have hi : ∀ k, 32 ≤ k → (sCg A w1).1 k = w1 k := fun k hk => sCg_hi W2 hk
  have R2 : WR h2 q A (sCg A w1).1 := by
    obtain ⟨-, -, -, -, r5, r6, r7, r8, r9, r10, r11⟩ := R1
    refine ⟨k3, k4, k5, fun k hk => ?_, ?_, ?_, ?_, ?_, ?_, ?_, ?_⟩
    · by_cases z0 : 0 < w1 k
      · rcases sCg_done (w := w1) W k hk with e | e
        · exact k6 k hk (Or.inl e)
        · cases m : (sCg A w1).2.1 k with
          | true => exact k6 k hk (Or.inl m)
          | false => exact absurd (by rw [(k7 k hk m).1]; exact z0) e
      · exact k6 k hk (Or.inr z0)
    · rw [k2, hi _ (by omega)]; exact r5
    · rw [k2, hi _ (by omega), hi _ (by omega)]; exact r6
    · rw [k2, hi _ (by omega)]; exact r7
    · rw [k2, hi _ (by omega)]; exact r8
    · rw [k2, hi _ (by omega)]; exact r9
    · rw [k2, hi _ (by omega)]; exact r10
    · rw [k2, hi _ (by omega)]; exact r11
  have I2 : WI A (sCg A w1).1 := WI_Cg W2 I1
  have h37' : (sCg A w1).1 37 = 0 := by rw [hi _ (by omega), ← hw1, sIn_lo (by omega)]; exact h37
  have kn8 : ∀ j, (sCg A w1).2.2 = some j → j < 8 := sCg_kn W2
  have fin : ∀ (h3 : xH) (w3 : rI), WFr q h h3 → WR h3 q A w3 → WI A w3 → (∀ z1 z2 z3 z4, E_ (d + 6) mX3_goesOn 58 [.val (.ref q), .unset, .unset, .unset, .unset] [] h1 = E_ (d + 6) mX3_goesOn 126 [.val (.ref q), z1, z2, z3, z4] [] h3 → sE3 (sE2 w3) = sTk A w → ∃ h2, C_ (d + 6) mX3_goesOn [.ref q] h = some (none, h2) ∧ WFr q h h2 ∧ WR h2 q A (sTk A w)) := by
    intro h3 w3 g1 g2 g3 z1 z2 z3 z4 g4 g5
    obtain ⟨f, y1, y2⟩ := goesOn_9 (d := d + 5) (z1 := z1) (z2 := z2) (z3 := z3) (z4 := z4) (WO_fr g1 O) g2 W2 g3.1
    refine ⟨pI h3 q f, ?_, WFr_I g1 (Nat.le_refl _) (by omega), by rw [← g5]; exact y2⟩
    rw [wX3_goesOn_e, e1, g4, y1]
  have sf1 := sF_0 I1.1
  have T5 : oT h1 q = 5 := O1.1
  have T52 : oT h2 q = 5 := O2.1
  have r61 := R1.2.2.2.2.2.1
  have r51 := R1.2.2.2.2.1
  have r62 := R2.2.2.2.2.2.1
  have hk33 : (sCg A w1).1 33 = w1 33 := hi _ (by omega)
  have hk34 : (sCg A w1).1 34 = w1 34 := hi _ (by omega)
  have eTk : sTk A w = sE3 (sE2 (sE1 A (sCg A w1).1 (sCg A w1).2.2)) := by unfold sTk; rw [hw1]
  rcases I1.1 with f0 | ⟨f0, f2⟩
  · have n0 : ¬ 0 < oI h1 q 7 := by rw [r61]; intro z; have := sf1.2.mp z; rw [f0] at this; exact absurd this (by decide)
    have n2 : ¬ 0 < oI h2 q 7 := by rw [r62, hk33, hk34]; intro z; have := sf1.2.mp z; rw [f0] at this; exact absurd this (by decide)
    have kn0 : (sCg A w1).2.2 = none := (sCg_K (w := w1) W2).2.2.2.2.2 fun l _ z => by rw [f0] at z; exact absurd z.1 (by decide)
    have w31 : ¬ w1 33 = nI 1 := by rw [f0]; decide
    rw [if_neg w31] at e2
    refine fin h2 (sCg A w1).1 (WFr_trans F1 k1) R2 I2 (.val (.int (oe (sCg A w1).2.2))) (.val (.int (-1))) (.val (.int (nI (sL A)))) z ?_ ?_
    · have s1 : E_ (d + 6) mX3_goesOn 58 [.val (.ref q), .unset, .unset, .unset, .unset] [] h1 = E_ (d + 6) mX3_goesOn 78 [.val (.ref q), .val (.int (-1)), .val (.int (-1)), .val (.int (nI 0)), .unset] [] h1 := by
        simp (disch := first | assumption | exact nI_ne0 (by decide) (by decide) | exact zb_01 | exact Or.inl rfl | exact Or.inr rfl | with_unfolding_all exact id (by assumption) | with_unfolding_all exact id (xix_8 (by assumption) (by omega) (by omega)) | omega) only [wX3_goesOn_58, wX3_goesOn_59, wX3_goesOn_60, wX3_goesOn_61, wX3_goesOn_64, wX3_goesOn_67, wX3_goesOn_68, wX3_goesOn_71, wX3_goesOn_74, wX3_goesOn_75, wX3_goesOn_76, wX3_goesOn_77, if_true, if_false, ↓reduceIte, xpu_s, xpu_n, Option.bind_some, xk_i, xk_r, xk_0, xk_u, xk_l, xk_k, xk_q, rf_s, rf_n, n0]
      rw [s1, e2]
      simp (disch := first | assumption | exact nI_ne0 (by decide) (by decide) | exact zb_01 | exact Or.inl rfl | exact Or.inr rfl | with_unfolding_all exact id (by assumption) | with_unfolding_all exact id (xix_8 (by assumption) (by omega) (by omega)) | omega) only [wX3_goesOn_114, wX3_goesOn_115, wX3_goesOn_118, wX3_goesOn_121, wX3_goesOn_122, wX3_goesOn_123, if_true, if_false, ↓reduceIte, xpu_s, xpu_n, Option.bind_some, xk_i, xk_r, xk_0, xk_u, xk_l, xk_k, xk_q, rf_s, rf_n, n2]
    · rw [eTk, kn0]
      have : sE1 A (sCg A w1).1 none = (sCg A w1).1 := if_neg (by rw [hk33]; exact w31)
      rw [this]
  · have n0 : 0 < oI h1 q 7 := by rw [r61]; exact sf1.2.mpr f0
    have n2 : 0 < oI h2 q 7 := by rw [r62, hk33, hk34]; exact sf1.2.mpr f0
    rw [if_pos f0] at e2
    have kc : ∀ j, (sCg A w1).2.2 = some j → j < sN A := sCg_kc W2
    obtain ⟨f3, y1, y2⟩ := kX3_crosses (d := d + 4) O2 hs2 S2 R2 W (by rw [hk33]; exact f0) (by rw [hk34]; exact f2) (by rw [hi 32 (by omega)]; exact I1.2.1 (by rw [← hi 37 (by omega)]; exact h37')) h37' kc
    refine fin (pI h2 q f3) (sE1 A (sCg A w1).1 (sCg A w1).2.2) (WFr_I (WFr_trans F1 k1) (Nat.le_refl _) (by omega)) y2 (WI_E1 W I2 h37') (.val (.int (oe (sCg A w1).2.2))) (.val (.int (w1 32))) (.val (.int (nI (sL A)))) z ?_ eTk.symm
    · have s1 : E_ (d + 6) mX3_goesOn 58 [.val (.ref q), .unset, .unset, .unset, .unset] [] h1 = E_ (d + 6) mX3_goesOn 78 [.val (.ref q), .val (.int (-1)), .val (.int (w1 32)), .val (.int (nI 0)), .unset] [] h1 := by
        simp (disch := first | assumption | exact nI_ne0 (by decide) (by decide) | exact zb_01 | exact Or.inl rfl | exact Or.inr rfl | with_unfolding_all exact id (by assumption) | with_unfolding_all exact id (xix_8 (by assumption) (by omega) (by omega)) | omega) only [wX3_goesOn_58, wX3_goesOn_59, wX3_goesOn_60, wX3_goesOn_61, wX3_goesOn_64, wX3_goesOn_67, wX3_goesOn_68, wX3_goesOn_71, wX3_goesOn_74, wX3_goesOn_75, wX3_goesOn_76, wX3_goesOn_77, if_true, if_false, ↓reduceIte, xpu_s, xpu_n, Option.bind_some, xk_i, xk_r, xk_0, xk_u, xk_l, xk_k, xk_q, rf_s, rf_n, n0, r51]
      rw [s1, e2]
      simp (disch := first | assumption | exact nI_ne0 (by decide) (by decide) | exact zb_01 | exact Or.inl rfl | exact Or.inr rfl | with_unfolding_all exact id (by assumption) | with_unfolding_all exact id (xix_8 (by assumption) (by omega) (by omega)) | omega) only [wX3_goesOn_114, wX3_goesOn_115, wX3_goesOn_118, wX3_goesOn_121, wX3_goesOn_122, wX3_goesOn_123, if_true, if_false, ↓reduceIte, xpu_s, xpu_n, Option.bind_some, xk_i, xk_r, xk_0, xk_u, xk_l, xk_k, xk_q, rf_s, rf_n, n2, y1]
