/-! THE LAW: its loop -/
section
variable {d n i : Nat} {h h1 h2 : xH} {P : sS} {f : rI}
theorem and_63 (x : Int32) : ∃ j, j < 64 ∧ x &&& nI 63 = nI j := by
  refine ⟨(x &&& nI 63).toBitVec.toNat, ?_, ?_⟩
  · rw [Int32.toBitVec_and, BitVec.toNat_and]
    exact Nat.lt_of_le_of_lt Nat.and_le_right (by decide)
  · apply Int32.toBitVec_inj.mp
    show _ = BitVec.ofNat 32 _
    rw [BitVec.ofNat_toNat, BitVec.setWidth_eq]
theorem rd_all (I : LI h P f n) (hi : i + 6 ≤ n) (hn : n ≤ 384) : ∃ h2 P2, E_ (d + 221) mL_law 18 [.val (.ref 31), .val (.ref 64), .val (.ref 150), .val (.int (nI i))] [] h = E_ (d + 221) mL_law 18 [.val (.ref 31), .val (.ref 64), .val (.ref 150), .val (.int (nI (i + 6)))] [] h2 ∧ LI h2 P2 f n ∧ oC h2 ≤ oC h + 15000 ∧ oS h2 ≤ oS h + 60000 := by
  obtain ⟨i1, i2, W, i4, i5, i6⟩ := id I
  obtain ⟨j, hj, ej⟩ := and_63 (f i)
  have s6 : nI n - nI 6 = nI (n - 6) := pk_sub (by omega)
  have lt : (nI (n - 6) < nI i) = False := eq_false (nI_nlt (by omega) (by omega))
  have ci : (nI i).toNatClampNeg = i := nI_clamp (by omega)
  have ix : xix (nI i) (oN h 31) = true := xix_8 i5 (by omega) (by omega)
  have T : oT h 31 = 39 := i4
  have A : E_ (d + 221) mL_law 18 [.val (.ref 31), .val (.ref 64), .val (.ref 150), .val (.int (nI i))] [] h = E_ (d + 221) mL_law 33 [.val (.ref 31), .val (.ref 64), .val (.ref 150), .val (.int (nI i))] [.int (nI j)] h := by
    refine wL_law_18.trans ?_
    simp (disch := first | exact ix | first | assumption | exact nI_ne0 (by decide) (by decide) | exact zb_01 | exact Or.inl rfl | exact Or.inr rfl | with_unfolding_all exact id (by assumption) | with_unfolding_all exact id (xix_8 (by assumption) (by omega) (by omega)) | omega) only [wL_law_19, wL_law_20, wL_law_21, wL_law_23, wL_law_24, wL_law_27, wL_law_28, wL_law_29, wL_law_30, wL_law_32, if_true, if_false, ↓reduceIte, xpu_s, xpu_n, Option.bind_some, xk_i, xk_r, xk_0, xk_u, xk_l, xk_k, xk_q, rf_s, rf_n, q_e1, q_e2, Nat.zero_add, Nat.reduceEqDiff, Nat.reduceAdd, Nat.reduceMul, Nat.reduceSub, Nat.reduceLT, Nat.reduceLeDiff, Nat.reduceDiv, Nat.reduceMod, i5, s6, lt, ci, i6, ej, not_true_eq_false, not_false_eq_true, and_self, and_true, true_and, and_false, false_and, or_true, true_or, or_false, false_or, decide_true, decide_false, zb_t, zb_f, zb_0, zb_1, eq_self]
  have B : ∀ h2, E_ (d + 221) mL_law 1989 [.val (.ref 31), .val (.ref 64), .val (.ref 150), .val (.int (nI i))] [] h2 = E_ (d + 221) mL_law 18 [.val (.ref 31), .val (.ref 64), .val (.ref 150), .val (.int (nI (i + 6)))] [] h2 := fun h2 => by
    simp (disch := first | assumption | exact nI_ne0 (by decide) (by decide) | exact zb_01 | exact Or.inl rfl | exact Or.inr rfl | with_unfolding_all exact id (by assumption) | with_unfolding_all exact id (xix_8 (by assumption) (by omega) (by omega)) | omega) only [wL_law_1989, wL_law_1992, if_true, if_false, ↓reduceIte, xpu_s, xpu_n, Option.bind_some, xk_i, xk_r, xk_0, xk_u, xk_l, xk_k, xk_q, rf_s, rf_n, q_e1, q_e2, Nat.zero_add, Nat.reduceEqDiff, Nat.reduceAdd, Nat.reduceMul, Nat.reduceSub, Nat.reduceLT, Nat.reduceLeDiff, Nat.reduceDiv, Nat.reduceMod, nI_add, not_true_eq_false, not_false_eq_true, and_self, and_true, true_and, and_false, false_and, or_true, true_or, or_false, false_or, decide_true, decide_false, zb_t, zb_f, zb_0, zb_1, eq_self]
  by_cases j48 : 48 ≤ j
  · refine ⟨h, P, A.trans (Eq.trans (wL_law_33d (Or.inr ?_)) (B h)), I, by omega, by omega⟩
    rw [nI_toInt (by omega)]
    omega
  · have go : ∃ h2 P2, E_ (d + 221) mL_law 33 [.val (.ref 31), .val (.ref 64), .val (.ref 150), .val (.int (nI i))] [.int (nI j)] h = E_ (d + 221) mL_law 1989 [.val (.ref 31), .val (.ref 64), .val (.ref 150), .val (.int (nI i))] [] h2 ∧ LI h2 P2 f n ∧ oC h2 ≤ oC h + 15000 ∧ oS h2 ≤ oS h + 60000 := by
      match j, j48 with
      | 0, _ => obtain ⟨h2, P2, e, r⟩ := rd_0 (d := d) I hi hn; exact ⟨h2, P2, wL_law_33c0.trans e, r⟩
      | 1, _ => obtain ⟨h2, P2, e, r⟩ := rd_1 (d := d) I hi hn; exact ⟨h2, P2, wL_law_33c1.trans e, r⟩
      | 2, _ => obtain ⟨h2, P2, e, r⟩ := rd_2 (d := d) I hi hn; exact ⟨h2, P2, wL_law_33c2.trans e, r⟩
      | 3, _ => obtain ⟨h2, P2, e, r⟩ := rd_3 (d := d) I hi hn; exact ⟨h2, P2, wL_law_33c3.trans e, r⟩
      | 4, _ => obtain ⟨h2, P2, e, r⟩ := rd_4 (d := d) I hi hn; exact ⟨h2, P2, wL_law_33c4.trans e, r⟩
      | 5, _ => obtain ⟨h2, P2, e, r⟩ := rd_5 (d := d) I hi hn; exact ⟨h2, P2, wL_law_33c5.trans e, r⟩
      | 6, _ => obtain ⟨h2, P2, e, r⟩ := rd_6 (d := d) I hi hn; exact ⟨h2, P2, wL_law_33c6.trans e, r⟩
      | 7, _ => obtain ⟨h2, P2, e, r⟩ := rd_7 (d := d) I hi hn; exact ⟨h2, P2, wL_law_33c7.trans e, r⟩
      | 8, _ => obtain ⟨h2, P2, e, r⟩ := rd_8 (d := d) I hi hn; exact ⟨h2, P2, wL_law_33c8.trans e, r⟩
      | 9, _ => obtain ⟨h2, P2, e, r⟩ := rd_9 (d := d) I hi hn; exact ⟨h2, P2, wL_law_33c9.trans e, r⟩
      | 10, _ => obtain ⟨h2, P2, e, r⟩ := rd_10 (d := d) I hi hn; exact ⟨h2, P2, wL_law_33c10.trans e, r⟩
      | 11, _ => obtain ⟨h2, P2, e, r⟩ := rd_11 (d := d) I hi hn; exact ⟨h2, P2, wL_law_33c11.trans e, r⟩
      | 12, _ => obtain ⟨h2, P2, e, r⟩ := rd_12 (d := d) I hi hn; exact ⟨h2, P2, wL_law_33c12.trans e, r⟩
      | 13, _ => obtain ⟨h2, P2, e, r⟩ := rd_13 (d := d) I hi hn; exact ⟨h2, P2, wL_law_33c13.trans e, r⟩
      | 14, _ => obtain ⟨h2, P2, e, r⟩ := rd_14 (d := d) I hi hn; exact ⟨h2, P2, wL_law_33c14.trans e, r⟩
      | 15, _ => obtain ⟨h2, P2, e, r⟩ := rd_15 (d := d) I hi hn; exact ⟨h2, P2, wL_law_33c15.trans e, r⟩
      | 16, _ => obtain ⟨h2, P2, e, r⟩ := rd_16 (d := d) I hi hn; exact ⟨h2, P2, wL_law_33c16.trans e, r⟩
      | 17, _ => obtain ⟨h2, P2, e, r⟩ := rd_17 (d := d) I hi hn; exact ⟨h2, P2, wL_law_33c17.trans e, r⟩
      | 18, _ => obtain ⟨h2, P2, e, r⟩ := rd_18 (d := d) I hi hn; exact ⟨h2, P2, wL_law_33c18.trans e, r⟩
      | 19, _ => obtain ⟨h2, P2, e, r⟩ := rd_19 (d := d) I hi hn; exact ⟨h2, P2, wL_law_33c19.trans e, r⟩
      | 20, _ => obtain ⟨h2, P2, e, r⟩ := rd_20 (d := d) I hi hn; exact ⟨h2, P2, wL_law_33c20.trans e, r⟩
      | 21, _ => obtain ⟨h2, P2, e, r⟩ := rd_21 (d := d) I hi hn; exact ⟨h2, P2, wL_law_33c21.trans e, r⟩
      | 22, _ => obtain ⟨h2, P2, e, r⟩ := rd_22 (d := d) I hi hn; exact ⟨h2, P2, wL_law_33c22.trans e, r⟩
      | 23, _ => obtain ⟨h2, P2, e, r⟩ := rd_23 (d := d) I hi hn; exact ⟨h2, P2, wL_law_33c23.trans e, r⟩
      | 24, _ => obtain ⟨h2, P2, e, r⟩ := rd_24 (d := d) I hi hn; exact ⟨h2, P2, wL_law_33c24.trans e, r⟩
      | 25, _ => obtain ⟨h2, P2, e, r⟩ := rd_25 (d := d) I hi hn; exact ⟨h2, P2, wL_law_33c25.trans e, r⟩
      | 26, _ => obtain ⟨h2, P2, e, r⟩ := rd_26 (d := d) I hi hn; exact ⟨h2, P2, wL_law_33c26.trans e, r⟩
      | 27, _ => obtain ⟨h2, P2, e, r⟩ := rd_27 (d := d) I hi hn; exact ⟨h2, P2, wL_law_33c27.trans e, r⟩
      | 28, _ => obtain ⟨h2, P2, e, r⟩ := rd_28 (d := d) I hi hn; exact ⟨h2, P2, wL_law_33c28.trans e, r⟩
      | 29, _ => obtain ⟨h2, P2, e, r⟩ := rd_29 (d := d) I hi hn; exact ⟨h2, P2, wL_law_33c29.trans e, r⟩
      | 30, _ => obtain ⟨h2, P2, e, r⟩ := rd_30 (d := d) I hi hn; exact ⟨h2, P2, wL_law_33c30.trans e, r⟩
      | 31, _ => obtain ⟨h2, P2, e, r⟩ := rd_31 (d := d) I hi hn; exact ⟨h2, P2, wL_law_33c31.trans e, r⟩
      | 32, _ => obtain ⟨h2, P2, e, r⟩ := rd_32 (d := d) I hi hn; exact ⟨h2, P2, wL_law_33c32.trans e, r⟩
      | 33, _ => obtain ⟨h2, P2, e, r⟩ := rd_33 (d := d) I hi hn; exact ⟨h2, P2, wL_law_33c33.trans e, r⟩
      | 34, _ => obtain ⟨h2, P2, e, r⟩ := rd_34 (d := d) I hi hn; exact ⟨h2, P2, wL_law_33c34.trans e, r⟩
      | 35, _ => obtain ⟨h2, P2, e, r⟩ := rd_35 (d := d) I hi hn; exact ⟨h2, P2, wL_law_33c35.trans e, r⟩
      | 36, _ => obtain ⟨h2, P2, e, r⟩ := rd_36 (d := d) I hi hn; exact ⟨h2, P2, wL_law_33c36.trans e, r⟩
      | 37, _ => obtain ⟨h2, P2, e, r⟩ := rd_37 (d := d) I hi hn; exact ⟨h2, P2, wL_law_33c37.trans e, r⟩
      | 38, _ => obtain ⟨h2, P2, e, r⟩ := rd_38 (d := d) I hi hn; exact ⟨h2, P2, wL_law_33c38.trans e, r⟩
      | 39, _ => obtain ⟨h2, P2, e, r⟩ := rd_39 (d := d) I hi hn; exact ⟨h2, P2, wL_law_33c39.trans e, r⟩
      | 40, _ => obtain ⟨h2, P2, e, r⟩ := rd_40 (d := d) I hi hn; exact ⟨h2, P2, wL_law_33c40.trans e, r⟩
      | 41, _ => obtain ⟨h2, P2, e, r⟩ := rd_41 (d := d) I hi hn; exact ⟨h2, P2, wL_law_33c41.trans e, r⟩
      | 42, _ => obtain ⟨h2, P2, e, r⟩ := rd_42 (d := d) I hi hn; exact ⟨h2, P2, wL_law_33c42.trans e, r⟩
      | 43, _ => obtain ⟨h2, P2, e, r⟩ := rd_43 (d := d) I hi hn; exact ⟨h2, P2, wL_law_33c43.trans e, r⟩
      | 44, _ => obtain ⟨h2, P2, e, r⟩ := rd_44 (d := d) I hi hn; exact ⟨h2, P2, wL_law_33c44.trans e, r⟩
      | 45, _ => obtain ⟨h2, P2, e, r⟩ := rd_45 (d := d) I hi hn; exact ⟨h2, P2, wL_law_33c45.trans e, r⟩
      | 46, _ => obtain ⟨h2, P2, e, r⟩ := rd_46 (d := d) I hi hn; exact ⟨h2, P2, wL_law_33c46.trans e, r⟩
      | 47, _ => obtain ⟨h2, P2, e, r⟩ := rd_47 (d := d) I hi hn; exact ⟨h2, P2, wL_law_33c47.trans e, r⟩
      | j + 48, z => exact absurd (Nat.le_add_left 48 j) z
    obtain ⟨h2, P2, e, J, c1, c2⟩ := go
    exact ⟨h2, P2, A.trans (e.trans (B h2)), J, c1, c2⟩
theorem law_loop (hn : n ≤ 384) : ∀ k i (h : xH) (P : sS), LI h P f n → n < i + 6 + 6 * k → i ≤ n + 6 → ∃ h2, E_ (d + 221) mL_law 18 [.val (.ref 31), .val (.ref 64), .val (.ref 150), .val (.int (nI i))] [] h = some (some (.int (nI 1)), h2) ∧ oC h2 ≤ oC h + 15000 * k ∧ oS h2 ≤ oS h + 60000 * k
  | 0, i, h, P, I, hk, hi => by
    obtain ⟨i1, i2, W, i4, i5, i6⟩ := id I
    have T : oT h 31 = 39 := i4
    refine ⟨h, ?_, by omega, by omega⟩
    refine wL_law_18.trans ?_
    by_cases y : 6 ≤ n
    · have s6 : nI n - nI 6 = nI (n - 6) := pk_sub (by omega)
      have lt : (nI (n - 6) < nI i) = True := eq_true (nI_lt (by omega) (by omega))
      simp (disch := first | assumption | exact nI_ne0 (by decide) (by decide) | exact zb_01 | exact Or.inl rfl | exact Or.inr rfl | with_unfolding_all exact id (by assumption) | with_unfolding_all exact id (xix_8 (by assumption) (by omega) (by omega)) | omega) only [wL_law_19, wL_law_20, wL_law_21, wL_law_23, wL_law_24, wL_law_1995, wL_law_1996, if_true, if_false, ↓reduceIte, xpu_s, xpu_n, Option.bind_some, xk_i, xk_r, xk_0, xk_u, xk_l, xk_k, xk_q, rf_s, rf_n, q_e1, q_e2, Nat.zero_add, Nat.reduceEqDiff, Nat.reduceAdd, Nat.reduceMul, Nat.reduceSub, Nat.reduceLT, Nat.reduceLeDiff, Nat.reduceDiv, Nat.reduceMod, i5, s6, lt, not_true_eq_false, not_false_eq_true, and_self, and_true, true_and, and_false, false_and, or_true, true_or, or_false, false_or, decide_true, decide_false, zb_t, zb_f, zb_0, zb_1, eq_self]
    · have lt : (nI n - nI 6 < nI i) = True := eq_true (by
        rw [Int32.lt_iff_toInt_lt, nI_toInt (n := i) (by omega)]
        have e : n = 0 ∨ n = 1 ∨ n = 2 ∨ n = 3 ∨ n = 4 ∨ n = 5 := by omega
        have : (nI n - nI 6).toInt < 0 := by rcases e with rfl | rfl | rfl | rfl | rfl | rfl <;> decide
        omega)
      simp (disch := first | assumption | exact nI_ne0 (by decide) (by decide) | exact zb_01 | exact Or.inl rfl | exact Or.inr rfl | with_unfolding_all exact id (by assumption) | with_unfolding_all exact id (xix_8 (by assumption) (by omega) (by omega)) | omega) only [wL_law_19, wL_law_20, wL_law_21, wL_law_23, wL_law_24, wL_law_1995, wL_law_1996, if_true, if_false, ↓reduceIte, xpu_s, xpu_n, Option.bind_some, xk_i, xk_r, xk_0, xk_u, xk_l, xk_k, xk_q, rf_s, rf_n, q_e1, q_e2, Nat.zero_add, Nat.reduceEqDiff, Nat.reduceAdd, Nat.reduceMul, Nat.reduceSub, Nat.reduceLT, Nat.reduceLeDiff, Nat.reduceDiv, Nat.reduceMod, i5, lt, not_true_eq_false, not_false_eq_true, and_self, and_true, true_and, and_false, false_and, or_true, true_or, or_false, false_or, decide_true, decide_false, zb_t, zb_f, zb_0, zb_1, eq_self]
  | k + 1, i, h, P, I, hk, hi => by
    by_cases y : i + 6 ≤ n
    · obtain ⟨h2, P2, e, J, c1, c2⟩ := rd_all (d := d) I y hn
      obtain ⟨h3, e3, c3, c4⟩ := law_loop hn k (i + 6) h2 P2 J (by omega) (by omega)
      exact ⟨h3, e.trans e3, by omega, by omega⟩
    · obtain ⟨h3, e3, c3, c4⟩ := law_loop hn 0 i h P I (by omega) hi
      exact ⟨h3, e3, by omega, by omega⟩
end
