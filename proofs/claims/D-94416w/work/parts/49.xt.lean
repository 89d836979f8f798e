/-! CONTRACTS of the component: a tick, a run -/
section
variable {d : Nat} {h : xH} {q c s l : Nat} {A w : rI}
theorem WR_dec {w' : rI} {k : Nat} {v : Int32} (W2 : sN A ≤ 8) (hk : k < sN A) (R : WR h q A w) (h16 : w' (16 + k) = v) (hlo : ∀ i, i ≠ 16 + k → i < 40 → w' i = w i) : WR (pI h (q + 3) (va_up (oI h (q + 3)) k v)) q A w' := by
  obtain ⟨r1, r2, r3, r4, r5, r6, r7, r8, r9, r10, r11⟩ := R
  refine ⟨fun i hi => ?_, fun i hi => ?_, fun i hi => ?_, fun i hi => ?_, ?_, ?_, ?_, ?_, ?_, ?_, ?_⟩
  · rw [o_II, if_neg (by omega), hlo _ (by omega) (by omega)]; exact r1 i hi
  · rw [o_II, if_neg (by omega), hlo _ (by omega) (by omega)]; exact r2 i hi
  · rw [o_II, if_pos rfl]
    by_cases z : i = k
    · rw [z, up_s, h16]
    · rw [up_ne z, hlo _ (by omega) (by omega)]; exact r3 i hi
  · rw [o_II, if_neg (by omega), hlo _ (by omega) (by omega)]; exact r4 i hi
  · rw [o_II, if_neg (by omega), hlo _ (by omega) (by omega)]; exact r5
  · rw [o_II, if_neg (by omega), hlo _ (by omega) (by omega), hlo _ (by omega) (by omega)]; exact r6
  · rw [o_II, if_neg (by omega), hlo _ (by omega) (by omega)]; exact r7
  · rw [o_II, if_neg (by omega), hlo _ (by omega) (by omega)]; exact r8
  · rw [o_II, if_neg (by omega), hlo _ (by omega) (by omega)]; exact r9
  · rw [o_II, if_neg (by omega), hlo _ (by omega) (by omega)]; exact r10
  · rw [o_II, if_neg (by omega), hlo _ (by omega) (by omega)]; exact r11
theorem WR_8 {x : Int32} (hq : 64 < q) (R : WR h q A w) : WR (pI h 64 (va_up (oI h 64) 8 x)) q A w := by
  obtain ⟨r1, r2, r3, r4, r5, r6, r7, r8, r9, r10, r11⟩ := R
  refine ⟨fun i hi => ?_, fun i hi => ?_, fun i hi => ?_, fun i hi => ?_, ?_, ?_, ?_, ?_, ?_, ?_, ?_⟩
  · rw [o_II, if_neg (by omega)]; exact r1 i hi
  · rw [o_II, if_neg (by omega)]; exact r2 i hi
  · rw [o_II, if_neg (by omega)]; exact r3 i hi
  · rw [o_II, if_neg (by omega)]; exact r4 i hi
  all_goals rw [o_II, if_neg (by omega)]; assumption
theorem tick_step (hq : 64 < q) (O : WO h q) (hs : oR h q 5 = some c) (S : SCo h c A) (R : WR h q A w) (W : WFs A) (I : WI A w) (WL : WFl A) (X : XL h s l) (L : LWo h l A) (e40 : oI h 64 8 = w 40) {k : Nat} (hk : k < sN A) {z : Slot} : ∃ h2 z', E_ (d + 207) mX0_tick 2 [.val (.ref 64), .val (.ref q), .val (.int (nI k)), z] [] h = E_ (d + 207) mX0_tick 2 [.val (.ref 64), .val (.ref q), .val (.int (nI (k + 1))), z'] [] h2 ∧ XFr q h h2 ∧ WR h2 q A (sDe A (-1) k w) ∧ oI h2 64 8 = sDe A (-1) k w 40 := by
  have W2 := W.2.1
  have M := kX3_many (d := d + 205) O hs S
  have AS := kX3_isAsked (d := d + 205) O hs S R W2 hk
  have CN := kX3_can (d := d + 206) O hs S R W2 hk
  have CH := kX0_chanceOf (d := d) O hs S R W I WL X L hk
  have DR := kX0_draw (d := d + 206) X.1
  obtain ⟨x1, x2, x3, x4⟩ := X
  cases qa : sAs A w k with
  | false =>
    rw [qa] at AS
    have eD : sDe A (-1) k w = va_up w 41 (nI (k + 1)) := by
      unfold sDe sDv; rw [if_neg (by rw [qa]; exact Bool.false_ne_true)]
    refine ⟨h, z, wX0_tick_2.trans ?_, XFr_refl, by rw [eD]; exact WR_41 W2 R, by rw [eD, up_ne (by omega)]; exact e40⟩
    have T5 := O.1
    simp (disch := first | assumption | exact nI_ne0 (by decide) (by decide) | exact zb_01 | exact Or.inl rfl | exact Or.inr rfl | with_unfolding_all exact id (by assumption) | with_unfolding_all exact id (xix_8 (by assumption) (by omega) (by omega)) | omega) only [wX0_tick_e, wX0_tick_0, wX0_tick_1, wX0_tick_3, wX0_tick_4, wX0_tick_7, wX0_tick_10, wX0_tick_11, wX0_tick_12, wX0_tick_15, wX0_tick_18, wX0_tick_21, wX0_tick_22, wX0_tick_23, wX0_tick_26, wX0_tick_29, wX0_tick_30, wX0_tick_31, wX0_tick_32, wX0_tick_35, wX0_tick_38, wX0_tick_39, wX0_tick_40, wX0_tick_41, wX0_tick_44, wX0_tick_45, wX0_tick_46, wX0_tick_48, wX0_tick_51, wX0_tick_52, wX0_tick_55, wX0_tick_56, wX0_tick_58, wX0_tick_61, wX0_tick_62, wX0_tick_65, wX0_tick_66, wX0_tick_69, wX0_tick_70, wX0_tick_71, wX0_tick_74, wX0_tick_77, wX0_tick_78, wX0_tick_81, if_true, if_false, ↓reduceIte, xpu_s, xpu_n, Option.bind_some, xk_i, xk_r, xk_0, xk_u, xk_l, xk_k, xk_q, rf_s, rf_n, q_e1, q_e2, Nat.zero_add, Nat.reduceEqDiff, Nat.reduceAdd, Nat.reduceMul, Nat.reduceSub, Nat.reduceLT, Nat.reduceLeDiff, Nat.reduceDiv, Nat.reduceMod, nI_add, M, AS, nI_ltP, hk, zb_f]
  | true =>
    rw [qa] at AS
    obtain ⟨m, m1, m2⟩ := sCh_le (w := w) (wl := -1) WL k
    have T5 := O.1
    have T40 : oT h (q + 3) = 40 := O.2.2.2.2.2.2.2.2.1
    have R3 : oR h q 2 = some (q + 3) := O.2.2.2.1
    have N3 : oN h (q + 3) = 8 := O.2.2.2.2.2.2.2.2.2.2.2.2.2.1
    have n16 : 16 + k ≠ 41 := by omega
    have pre : E_ (d + 207) mX0_tick 2 [.val (.ref 64), .val (.ref q), .val (.int (nI k)), z] [] h = E_ (d + 207) mX0_tick 40 [.val (.ref 64), .val (.ref q), .val (.int (nI k)), .val (.int (nI m))] [] h := by
      refine wX0_tick_2.trans ?_
      unfold sCh at m1
      cases qc : sCan A w k with
      | true =>
        rw [qc] at CN
        rw [qc, if_pos rfl] at m1
        rw [m1] at CH
        simp (disch := first | assumption | exact nI_ne0 (by decide) (by decide) | exact zb_01 | exact Or.inl rfl | exact Or.inr rfl | with_unfolding_all exact id (by assumption) | with_unfolding_all exact id (xix_8 (by assumption) (by omega) (by omega)) | omega) only [wX0_tick_e, wX0_tick_0, wX0_tick_1, wX0_tick_3, wX0_tick_4, wX0_tick_7, wX0_tick_10, wX0_tick_11, wX0_tick_12, wX0_tick_15, wX0_tick_18, wX0_tick_21, wX0_tick_22, wX0_tick_23, wX0_tick_26, wX0_tick_29, wX0_tick_30, wX0_tick_31, wX0_tick_32, wX0_tick_35, wX0_tick_38, wX0_tick_39, wX0_tick_41, wX0_tick_44, wX0_tick_45, wX0_tick_46, wX0_tick_48, wX0_tick_51, wX0_tick_52, wX0_tick_55, wX0_tick_56, wX0_tick_58, wX0_tick_61, wX0_tick_62, wX0_tick_65, wX0_tick_66, wX0_tick_69, wX0_tick_70, wX0_tick_71, wX0_tick_74, wX0_tick_77, wX0_tick_78, wX0_tick_81, if_true, if_false, ↓reduceIte, xpu_s, xpu_n, Option.bind_some, xk_i, xk_r, xk_0, xk_u, xk_l, xk_k, xk_q, rf_s, rf_n, q_e1, q_e2, Nat.zero_add, Nat.reduceEqDiff, Nat.reduceAdd, Nat.reduceMul, Nat.reduceSub, Nat.reduceLT, Nat.reduceLeDiff, Nat.reduceDiv, Nat.reduceMod, nI_add, M, AS, CN, CH, nI_ltP, hk, zb_t, one_ne0]
      | false =>
        rw [qc] at CN
        rw [qc, if_neg Bool.false_ne_true] at m1
        simp (disch := first | assumption | exact nI_ne0 (by decide) (by decide) | exact zb_01 | exact Or.inl rfl | exact Or.inr rfl | with_unfolding_all exact id (by assumption) | with_unfolding_all exact id (xix_8 (by assumption) (by omega) (by omega)) | omega) only [wX0_tick_e, wX0_tick_0, wX0_tick_1, wX0_tick_3, wX0_tick_4, wX0_tick_7, wX0_tick_10, wX0_tick_11, wX0_tick_12, wX0_tick_15, wX0_tick_18, wX0_tick_21, wX0_tick_22, wX0_tick_23, wX0_tick_26, wX0_tick_29, wX0_tick_30, wX0_tick_31, wX0_tick_32, wX0_tick_35, wX0_tick_38, wX0_tick_39, wX0_tick_41, wX0_tick_44, wX0_tick_45, wX0_tick_46, wX0_tick_48, wX0_tick_51, wX0_tick_52, wX0_tick_55, wX0_tick_56, wX0_tick_58, wX0_tick_61, wX0_tick_62, wX0_tick_65, wX0_tick_66, wX0_tick_69, wX0_tick_70, wX0_tick_71, wX0_tick_74, wX0_tick_77, wX0_tick_78, wX0_tick_81, if_true, if_false, ↓reduceIte, xpu_s, xpu_n, Option.bind_some, xk_i, xk_r, xk_0, xk_u, xk_l, xk_k, xk_q, rf_s, rf_n, q_e1, q_e2, Nat.zero_add, Nat.reduceEqDiff, Nat.reduceAdd, Nat.reduceMul, Nat.reduceSub, Nat.reduceLT, Nat.reduceLeDiff, Nat.reduceDiv, Nat.reduceMod, nI_add, M, AS, CN, nI_ltP, hk, zb_t, zb_f, one_ne0, m1]
    rw [pre]
    by_cases m0 : m = 0
    · subst m0
      have eD : sDe A (-1) k w = va_up (va_up w (16 + k) (nI 1)) 41 (nI (k + 1)) := by
        unfold sDe sDv; rw [if_pos qa, m1, if_pos nI_0]
      refine ⟨_, .val (.int (nI 0)), ?_, XFr_I XFr_refl (by omega) (by omega) hq, WR_dec W2 hk R (by rw [eD, up_ne n16, up_s]) (fun i h1 h2 => by rw [eD, up_ne (by omega), up_ne h1]), ?_⟩
      · simp (disch := first | exact xix_k (by omega) (by omega) | first | assumption | exact nI_ne0 (by decide) (by decide) | exact zb_01 | exact Or.inl rfl | exact Or.inr rfl | with_unfolding_all exact id (by assumption) | with_unfolding_all exact id (xix_8 (by assumption) (by omega) (by omega)) | omega) only [wX0_tick_e, wX0_tick_0, wX0_tick_1, wX0_tick_3, wX0_tick_4, wX0_tick_7, wX0_tick_10, wX0_tick_11, wX0_tick_12, wX0_tick_15, wX0_tick_18, wX0_tick_21, wX0_tick_22, wX0_tick_23, wX0_tick_26, wX0_tick_29, wX0_tick_30, wX0_tick_31, wX0_tick_32, wX0_tick_35, wX0_tick_38, wX0_tick_39, wX0_tick_40, wX0_tick_41, wX0_tick_44, wX0_tick_45, wX0_tick_46, wX0_tick_48, wX0_tick_51, wX0_tick_52, wX0_tick_55, wX0_tick_56, wX0_tick_58, wX0_tick_61, wX0_tick_62, wX0_tick_65, wX0_tick_66, wX0_tick_69, wX0_tick_70, wX0_tick_71, wX0_tick_74, wX0_tick_77, wX0_tick_78, wX0_tick_81, if_true, if_false, ↓reduceIte, xpu_s, xpu_n, Option.bind_some, xk_i, xk_r, xk_0, xk_u, xk_l, xk_k, xk_q, rf_s, rf_n, o_TI, o_TL, o_TR, o_NI, o_NL, o_NR, o_XI, o_XL, o_XR, o_RI, o_RL, o_LI, o_LR, o_IL, o_IR, o_II, o_LL, o_RR, o_pII, o_pLL, up_s, q_e1, q_e2, Nat.zero_add, Nat.reduceEqDiff, Nat.reduceAdd, Nat.reduceMul, Nat.reduceSub, Nat.reduceLT, Nat.reduceLeDiff, Nat.reduceDiv, Nat.reduceMod, nI_c, nI_add, up_ne, R3, N3, nI_eqI, i_irr, nI_gz]
      · rw [o_II, if_neg (by omega), eD, up_ne (by omega), up_ne (by omega)]; exact e40
    · by_cases m100 : m = 100
      · subst m100
        have eD : sDe A (-1) k w = va_up (va_up w (16 + k) (nI 2)) 41 (nI (k + 1)) := by
          unfold sDe sDv; rw [if_pos qa, m1, if_neg (nI_ne0 (by omega) (by omega)), if_pos rfl]
        refine ⟨_, .val (.int (nI 100)), ?_, XFr_I XFr_refl (by omega) (by omega) hq, WR_dec W2 hk R (by rw [eD, up_ne n16, up_s]) (fun i h1 h2 => by rw [eD, up_ne (by omega), up_ne h1]), ?_⟩
        · simp (disch := first | exact xix_k (by omega) (by omega) | first | assumption | exact nI_ne0 (by decide) (by decide) | exact zb_01 | exact Or.inl rfl | exact Or.inr rfl | with_unfolding_all exact id (by assumption) | with_unfolding_all exact id (xix_8 (by assumption) (by omega) (by omega)) | omega) only [wX0_tick_e, wX0_tick_0, wX0_tick_1, wX0_tick_3, wX0_tick_4, wX0_tick_7, wX0_tick_10, wX0_tick_11, wX0_tick_12, wX0_tick_15, wX0_tick_18, wX0_tick_21, wX0_tick_22, wX0_tick_23, wX0_tick_26, wX0_tick_29, wX0_tick_30, wX0_tick_31, wX0_tick_32, wX0_tick_35, wX0_tick_38, wX0_tick_39, wX0_tick_40, wX0_tick_41, wX0_tick_44, wX0_tick_45, wX0_tick_46, wX0_tick_48, wX0_tick_51, wX0_tick_52, wX0_tick_55, wX0_tick_56, wX0_tick_58, wX0_tick_61, wX0_tick_62, wX0_tick_65, wX0_tick_66, wX0_tick_69, wX0_tick_70, wX0_tick_71, wX0_tick_74, wX0_tick_77, wX0_tick_78, wX0_tick_81, if_true, if_false, ↓reduceIte, xpu_s, xpu_n, Option.bind_some, xk_i, xk_r, xk_0, xk_u, xk_l, xk_k, xk_q, rf_s, rf_n, o_TI, o_TL, o_TR, o_NI, o_NL, o_NR, o_XI, o_XL, o_XR, o_RI, o_RL, o_LI, o_LR, o_IL, o_IR, o_II, o_LL, o_RR, o_pII, o_pLL, up_s, q_e1, q_e2, Nat.zero_add, Nat.reduceEqDiff, Nat.reduceAdd, Nat.reduceMul, Nat.reduceSub, Nat.reduceLT, Nat.reduceLeDiff, Nat.reduceDiv, Nat.reduceMod, nI_c, nI_add, up_ne, R3, N3]
        · rw [o_II, if_neg (by omega), eD, up_ne (by omega), up_ne (by omega)]; exact e40
      · have eD : sDe A (-1) k w = va_up (va_up (va_up w 40 (sRd (w 40))) (16 + k) (if sRm (sSh (sRd (w 40))) (nI 100) < nI m then nI 2 else nI 1)) 41 (nI (k + 1)) := by
          unfold sDe sDv; rw [if_pos qa, m1, if_neg (nI_ne0 (by omega) (by omega)), if_neg (fun z => m100 ((nI_eq (by omega) (by omega)).mp z))]
        have g0 : (0 < nI m) = (0 < m) := nI_gz (by omega)
        have g1 : 0 < m := by omega
        rw [e40] at DR
        refine ⟨_, .val (.int (nI m)), ?_, XFr_I (XFr_8 (x := sRd (w 40))) (by omega) (by omega) hq, WR_dec W2 hk (WR_8 (x := sRd (w 40)) hq R) (by rw [eD, up_ne n16, up_s]) (fun i h1 h2 => by rw [eD, up_ne (by omega), up_ne h1, up_ne (by omega)]), ?_⟩
        · by_cases m2 : sRm (sSh (sRd (w 40))) (nI 100) < nI m
          · rw [if_pos m2]
            simp (disch := first | assumption | with_unfolding_all exact id T40 | with_unfolding_all exact id (xix_8 N3 (by omega) (by omega)) | omega) only [wX0_tick_e, wX0_tick_0, wX0_tick_1, wX0_tick_3, wX0_tick_4, wX0_tick_7, wX0_tick_10, wX0_tick_11, wX0_tick_12, wX0_tick_15, wX0_tick_18, wX0_tick_21, wX0_tick_22, wX0_tick_23, wX0_tick_26, wX0_tick_29, wX0_tick_30, wX0_tick_31, wX0_tick_32, wX0_tick_35, wX0_tick_38, wX0_tick_39, wX0_tick_40, wX0_tick_41, wX0_tick_44, wX0_tick_45, wX0_tick_46, wX0_tick_48, wX0_tick_51, wX0_tick_52, wX0_tick_55, wX0_tick_56, wX0_tick_58, wX0_tick_61, wX0_tick_62, wX0_tick_65, wX0_tick_66, wX0_tick_69, wX0_tick_70, wX0_tick_71, wX0_tick_74, wX0_tick_77, wX0_tick_78, wX0_tick_81, if_true, if_false, ↓reduceIte, xpu_s, xpu_n, Option.bind_some, xk_i, xk_r, xk_0, xk_u, xk_l, xk_k, xk_q, rf_s, rf_n, o_TI, o_TL, o_TR, o_NI, o_NL, o_NR, o_XI, o_XL, o_XR, o_RI, o_RL, o_LI, o_LR, o_IL, o_IR, o_II, o_LL, o_RR, o_pII, o_pLL, up_s, q_e1, q_e2, Nat.zero_add, Nat.reduceEqDiff, Nat.reduceAdd, Nat.reduceMul, Nat.reduceSub, Nat.reduceLT, Nat.reduceLeDiff, Nat.reduceDiv, Nat.reduceMod, nI_c, nI_add, up_ne, o_qIc, o_qLc, o_qLI, id_eq, R3, N3, nI_eqI, m100, g0, g1, DR, m2]
          · rw [if_neg m2]
            simp (disch := first | assumption | with_unfolding_all exact id T40 | with_unfolding_all exact id (xix_8 N3 (by omega) (by omega)) | omega) only [wX0_tick_e, wX0_tick_0, wX0_tick_1, wX0_tick_3, wX0_tick_4, wX0_tick_7, wX0_tick_10, wX0_tick_11, wX0_tick_12, wX0_tick_15, wX0_tick_18, wX0_tick_21, wX0_tick_22, wX0_tick_23, wX0_tick_26, wX0_tick_29, wX0_tick_30, wX0_tick_31, wX0_tick_32, wX0_tick_35, wX0_tick_38, wX0_tick_39, wX0_tick_40, wX0_tick_41, wX0_tick_44, wX0_tick_45, wX0_tick_46, wX0_tick_48, wX0_tick_51, wX0_tick_52, wX0_tick_55, wX0_tick_56, wX0_tick_58, wX0_tick_61, wX0_tick_62, wX0_tick_65, wX0_tick_66, wX0_tick_69, wX0_tick_70, wX0_tick_71, wX0_tick_74, wX0_tick_77, wX0_tick_78, wX0_tick_81, if_true, if_false, ↓reduceIte, xpu_s, xpu_n, Option.bind_some, xk_i, xk_r, xk_0, xk_u, xk_l, xk_k, xk_q, rf_s, rf_n, o_TI, o_TL, o_TR, o_NI, o_NL, o_NR, o_XI, o_XL, o_XR, o_RI, o_RL, o_LI, o_LR, o_IL, o_IR, o_II, o_LL, o_RR, o_pII, o_pLL, up_s, q_e1, q_e2, Nat.zero_add, Nat.reduceEqDiff, Nat.reduceAdd, Nat.reduceMul, Nat.reduceSub, Nat.reduceLT, Nat.reduceLeDiff, Nat.reduceDiv, Nat.reduceMod, nI_c, nI_add, up_ne, o_qIc, o_qLc, o_qLI, id_eq, R3, N3, nI_eqI, m100, g0, g1, DR, m2]
        · rw [o_II, if_neg (by omega), o_II, if_pos rfl, up_s, eD, up_ne (by omega), up_ne (by omega), up_s]
theorem kX0_tick (hq : 64 < q) (O : WO h q) (hs : oR h q 5 = some c) (S : SCo h c A) (R : WR h q A w) (W : WFs A) (I : WI A w) (WL : WFl A) (X : XL h s l) (L : LWo h l A) (e40 : oI h 64 8 = w 40) (h37 : w 37 = 0) : ∃ h2, C_ (d + 207) mX0_tick [.ref 64, .ref q] h = some (none, h2) ∧ XFr q h h2 ∧ WR h2 q A (sTk A (sDs A (-1) w)) ∧ oI h2 64 8 = sTk A (sDs A (-1) w) 40 := by
  have W2 := W.2.1
  simp only [wX0_tick_e, wX0_tick_0, wX0_tick_1, xk_r]
  refine lpe_st (n := sN A) (f := sDe A (-1)) (s := w) (P := fun k u (z : xH × Slot) => XFr q h z.1 ∧ WR z.1 q A u ∧ WI A u ∧ oI z.1 64 8 = u 40 ∧ u 37 = 0) (Q := fun u a => ∃ h2, a = some (none, h2) ∧ XFr q h h2 ∧ WR h2 q A (sTk A u) ∧ oI h2 64 8 = sTk A u 40) (z := (h, .unset)) (F := fun k u (z : xH × Slot) => E_ (d + 207) mX0_tick 2 [.val (.ref 64), .val (.ref q), .val (.int (nI k)), z.2] [] z.1) ⟨XFr_refl, R, I, e40, h37⟩ (fun k u z hk hP => ?_) (fun u z hP => ?_)
  · obtain ⟨p1, p2, p3, p4, p5⟩ := hP
    have hs1 : oR z.1 q 5 = some c := by rw [p1.2.2.2.1]; exact hs
    obtain ⟨h2, z', e1, e2, e3, e4⟩ := tick_step (d := d) hq (WO_x p1 O) hs1 (SC_x p1 O X.1 S) p2 W p3 WL (XL_x p1 X) (LW_x p1 O X.1 L) p4 hk (z := z.2)
    exact ⟨(h2, z'), e1, XFr_trans p1 e2, e3, WI_De W2 hk p3, e4, by rw [sDe_lo (by omega) (by omega) (by omega)]; exact p5⟩
  · obtain ⟨p1, p2, p3, p4, p5⟩ := hP
    have hs1 : oR z.1 q 5 = some c := by rw [p1.2.2.2.1]; exact hs
    have O1 := WO_x p1 O
    have S1 := SC_x p1 O X.1 S
    have M := kX3_many (d := d + 205) O1 hs1 S1
    obtain ⟨h2, e1, e2, e3⟩ := kX3_goesOn (d := d + 200) O1 hs1 S1 p2 W p3 p5
    have T5 := O1.1
    refine ⟨h2, wX0_tick_2.trans ?_, XFr_trans p1 (XFr_W hq e2), e3, ?_⟩
    · simp (disch := first | assumption | exact nI_ne0 (by decide) (by decide) | exact zb_01 | exact Or.inl rfl | exact Or.inr rfl | with_unfolding_all exact id (by assumption) | with_unfolding_all exact id (xix_8 (by assumption) (by omega) (by omega)) | omega) only [wX0_tick_3, wX0_tick_4, wX0_tick_7, wX0_tick_77, wX0_tick_78, wX0_tick_81, if_true, if_false, ↓reduceIte, xpu_s, xpu_n, Option.bind_some, xk_i, xk_r, xk_0, xk_u, xk_l, xk_k, xk_q, rf_s, rf_n, q_e1, q_e2, Nat.zero_add, Nat.reduceEqDiff, Nat.reduceAdd, Nat.reduceMul, Nat.reduceSub, Nat.reduceLT, Nat.reduceLeDiff, Nat.reduceDiv, Nat.reduceMod, M, i_irr, e1]
    · rw [e2.2.2.2.2.2 64 (Or.inl hq), p4, sTk_40 W2]
/-- the pace a car begins with -/
theorem kX2_pace (S : SCo h c A) (W2 : sN A ≤ 8) {i : Nat} (hi : i < sN A) : C_ (d + 3) mX2_pace [.ref c, .int (nI i)] h = some (some (.int (if sT A (nI 6) = true ∧ nI 4 < A (18 + i) then nI 4 else A (18 + i))), h) := by
  obtain ⟨c1, c2, c3, c4, c5, c6, c7, c8, c9, c10, c11⟩ := S; have c12 := c10.1
  have g := kJ2_get (d := d) c10 hi (by omega)
  obtain ⟨v1, v2, v3, v4, v5⟩ := c11 i hi
  unfold sc at v1 v2 v3 v4 v5
  cases z : sT A (nI 6) with
  | true =>
    have z' := of_decide_eq_true z
    have e : (if true = true ∧ nI 4 < A (18 + i) then nI 4 else A (18 + i)) = (if A (18 + i) < nI 4 then A (18 + i) else nI 4) := by
      rw [i_mm]; simp only [true_and]
    rw [e]
    simp (disch := first | assumption | exact nI_ne0 (by decide) (by decide) | exact zb_01 | exact Or.inl rfl | exact Or.inr rfl | with_unfolding_all exact id (by assumption) | with_unfolding_all exact id (xix_8 (by assumption) (by omega) (by omega)) | omega) only [wX2_pace_e, wX2_pace_0, wX2_pace_1, wX2_pace_4, wX2_pace_6, wX2_pace_9, wX2_pace_12, wX2_pace_13, wX2_pace_14, wX2_pace_17, wX2_pace_18, wX2_pace_21, wX2_pace_21n, wX2_pace_24, wX2_pace_27, wX2_pace_30, wX2_pace_33, wX2_pace_34, wX2_pace_37, wX2_pace_38, wX2_pace_41, wX2_pace_41n, wX2_pace_44, wX2_pace_47, if_true, if_false, ↓reduceIte, xpu_s, xpu_n, Option.bind_some, xk_i, xk_r, xk_0, xk_u, xk_l, xk_k, xk_q, rf_s, rf_n, o_TI, o_TL, o_TR, o_NI, o_NL, o_NR, o_XI, o_XL, o_XR, o_RI, o_RL, o_LI, o_LR, o_IL, o_IR, o_II, o_LL, o_RR, o_pII, o_pLL, up_s, q_e1, q_e2, Nat.zero_add, Nat.reduceEqDiff, Nat.reduceAdd, Nat.reduceMul, Nat.reduceSub, Nat.reduceLT, Nat.reduceLeDiff, Nat.reduceDiv, Nat.reduceMod, nI_c, nI_add, up_ne, c3, c9, g, v4, kX0_has, z', decide_true, zb_t, one_ne0, xP, Option.bind_some]
  | false =>
    have z' : ((A 34 >>> (nI 6 &&& 31)) &&& nI 1 = nI 1) = False := eq_false (of_decide_eq_false z)
    rw [if_neg (fun y => Bool.false_ne_true y.1)]
    simp (disch := first | assumption | exact nI_ne0 (by decide) (by decide) | exact zb_01 | exact Or.inl rfl | exact Or.inr rfl | with_unfolding_all exact id (by assumption) | with_unfolding_all exact id (xix_8 (by assumption) (by omega) (by omega)) | omega) only [wX2_pace_e, wX2_pace_0, wX2_pace_1, wX2_pace_4, wX2_pace_6, wX2_pace_9, wX2_pace_12, wX2_pace_13, wX2_pace_14, wX2_pace_17, wX2_pace_18, wX2_pace_21, wX2_pace_21n, wX2_pace_24, wX2_pace_27, wX2_pace_30, wX2_pace_33, wX2_pace_34, wX2_pace_37, wX2_pace_38, wX2_pace_41, wX2_pace_41n, wX2_pace_44, wX2_pace_47, if_true, if_false, ↓reduceIte, xpu_s, xpu_n, Option.bind_some, xk_i, xk_r, xk_0, xk_u, xk_l, xk_k, xk_q, rf_s, rf_n, o_TI, o_TL, o_TR, o_NI, o_NL, o_NR, o_XI, o_XL, o_XR, o_RI, o_RL, o_LI, o_LR, o_IL, o_IR, o_II, o_LL, o_RR, o_pII, o_pLL, up_s, q_e1, q_e2, Nat.zero_add, Nat.reduceEqDiff, Nat.reduceAdd, Nat.reduceMul, Nat.reduceSub, Nat.reduceLT, Nat.reduceLeDiff, Nat.reduceDiv, Nat.reduceMod, nI_c, nI_add, up_ne, c3, c9, g, v4, kX0_has, z', decide_false, zb_f]
end
