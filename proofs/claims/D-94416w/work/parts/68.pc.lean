/-! CONTRACTS of the component: places and what is read of the state -/
/-- a place's numbers, read -/
def PQ (h : xH) (a : Nat) (A : rI) (i : Nat) : Prop := oT h a = 19 ∧ oI h a 0 = A (478 + i) ∧ oI h a 3 = A (538 + i) ∧ oR h a 1 = some (rq h a 1) ∧ oR h a 2 = some (rq h a 2) ∧ oT h (rq h a 1) = 40 ∧ oN h (rq h a 1) = 2 ∧ oI h (rq h a 1) 0 = A (490 + i) ∧ oI h (rq h a 1) 1 = A (502 + i) ∧ oT h (rq h a 2) = 40 ∧ oN h (rq h a 2) = 2 ∧ oI h (rq h a 2) 0 = A (514 + i) ∧ oI h (rq h a 2) 1 = A (526 + i)
/-- the state and its places, read -/
def XPs (h : xH) (s p : Nat) (A : rI) : Prop := oT h 64 = 1 ∧ oR h 64 0 = some s ∧ oT h s = 2 ∧ oR h s 2 = some p ∧ LSn h p (sP_ A) ∧ ∀ i, i < sP_ A → PQ h (li h p i) A i
theorem XR_ps {h : xH} {P : sS} (X : XR h P) : ∃ s p, XPs h s p (pA P) := by
  obtain ⟨ow, s, x1, x2, x3, -⟩ := X
  obtain ⟨y1, y2, -, -, ⟨p, p1, p2⟩, -⟩ := x3
  obtain ⟨l1, l2, l3, l4, l5, l6⟩ := p2
  refine ⟨s, p, x1.1.1, x2, y2, p1, l3, fun i hi => ?_⟩
  obtain ⟨q1, q2, q3, q4, q5, q6, ⟨-, a2, a3, a4, a5⟩, ⟨-, b2, b3, b4, b5⟩⟩ := l5 i hi
  exact ⟨q2, q3, q4, q5, q6, a2, a3, a4, a5, b2, b3, b4, b5⟩
def hu (A : rI) (i : Nat) : Int32 := A (514 + i) + A (526 + i)
def cr (A : rI) (i : Nat) : Int32 := A (490 + i) + A (502 + i)
section
variable {d : Nat} {h : xH} {a i s p : Nat} {A : rI} {P : sS} {x y z : Int32}
theorem kX19_hurt (Q : PQ h a A i) : C_ d mX19_hurt [.ref a] h = some (some (.int (hu A i)), h) := by
  obtain ⟨v1, v2, v3, v4, v5, v6, v7, v8, v9, v10, v11, v12, v13⟩ := Q
  unfold hu
  simp (disch := first | exact xix_8 v11 (by omega) (by omega) | first | assumption | exact nI_ne0 (by decide) (by decide) | exact zb_01 | exact Or.inl rfl | exact Or.inr rfl | with_unfolding_all exact id (by assumption) | with_unfolding_all exact id (xix_8 (by assumption) (by omega) (by omega)) | omega) only [wX19_hurt_e, wX19_hurt_0, wX19_hurt_1, wX19_hurt_4, wX19_hurt_5, wX19_hurt_6, wX19_hurt_7, wX19_hurt_10, wX19_hurt_11, wX19_hurt_12, wX19_hurt_13, if_true, if_false, ↓reduceIte, xpu_s, xpu_n, Option.bind_some, xk_i, xk_r, xk_0, xk_u, xk_l, xk_k, xk_q, rf_s, rf_n, o_TI, o_TL, o_TR, o_NI, o_NL, o_NR, o_XI, o_XL, o_XR, o_RI, o_RL, o_LI, o_LR, o_IL, o_IR, o_II, o_LL, o_RR, o_pII, o_pLL, up_s, q_e1, q_e2, Nat.zero_add, Nat.reduceEqDiff, Nat.reduceAdd, Nat.reduceMul, Nat.reduceSub, Nat.reduceLT, Nat.reduceLeDiff, Nat.reduceDiv, Nat.reduceMod, nI_c, nI_add, up_ne, v5, v12, v13]
theorem kX19_crossing (Q : PQ h a A i) : C_ d mX19_crossing [.ref a] h = some (some (.int (cr A i)), h) := by
  obtain ⟨v1, v2, v3, v4, v5, v6, v7, v8, v9, v10, v11, v12, v13⟩ := Q
  unfold cr
  simp (disch := first | exact xix_8 v7 (by omega) (by omega) | first | assumption | exact nI_ne0 (by decide) (by decide) | exact zb_01 | exact Or.inl rfl | exact Or.inr rfl | with_unfolding_all exact id (by assumption) | with_unfolding_all exact id (xix_8 (by assumption) (by omega) (by omega)) | omega) only [wX19_crossing_e, wX19_crossing_0, wX19_crossing_1, wX19_crossing_4, wX19_crossing_5, wX19_crossing_6, wX19_crossing_7, wX19_crossing_10, wX19_crossing_11, wX19_crossing_12, wX19_crossing_13, if_true, if_false, ↓reduceIte, xpu_s, xpu_n, Option.bind_some, xk_i, xk_r, xk_0, xk_u, xk_l, xk_k, xk_q, rf_s, rf_n, o_TI, o_TL, o_TR, o_NI, o_NL, o_NR, o_XI, o_XL, o_XR, o_RI, o_RL, o_LI, o_LR, o_IL, o_IR, o_II, o_LL, o_RR, o_pII, o_pLL, up_s, q_e1, q_e2, Nat.zero_add, Nat.reduceEqDiff, Nat.reduceAdd, Nat.reduceMul, Nat.reduceSub, Nat.reduceLT, Nat.reduceLeDiff, Nat.reduceDiv, Nat.reduceMod, nI_c, nI_add, up_ne, v4, v8, v9]
theorem kX19_fall (Q : PQ h a A i) : C_ (d + 1) mX19_fall [.ref a] h = some (some (.int (hu A i - A (538 + i))), h) := by
  have e := kX19_hurt (d := d) Q
  obtain ⟨v1, v2, v3, v4, v5, v6, v7, v8, v9, v10, v11, v12, v13⟩ := Q
  simp (disch := first | assumption | exact nI_ne0 (by decide) (by decide) | exact zb_01 | exact Or.inl rfl | exact Or.inr rfl | with_unfolding_all exact id (by assumption) | with_unfolding_all exact id (xix_8 (by assumption) (by omega) (by omega)) | omega) only [wX19_fall_e, wX19_fall_0, wX19_fall_1, wX19_fall_4, wX19_fall_5, wX19_fall_8, wX19_fall_9, if_true, if_false, ↓reduceIte, xpu_s, xpu_n, Option.bind_some, xk_i, xk_r, xk_0, xk_u, xk_l, xk_k, xk_q, rf_s, rf_n, o_TI, o_TL, o_TR, o_NI, o_NL, o_NR, o_XI, o_XL, o_XR, o_RI, o_RL, o_LI, o_LR, o_IL, o_IR, o_II, o_LL, o_RR, o_pII, o_pLL, up_s, q_e1, q_e2, Nat.zero_add, Nat.reduceEqDiff, Nat.reduceAdd, Nat.reduceMul, Nat.reduceSub, Nat.reduceLT, Nat.reduceLeDiff, Nat.reduceDiv, Nat.reduceMod, nI_c, nI_add, up_ne, e, v3]
theorem kX0_isPlace (Y : XPs h s p A) : C_ (d + 1) mX0_isPlace [.ref 64, .int x] h = some (some (.int (zb (wi x (nI 0) (nI (sP_ A) - nI 1)))), h) := by
  obtain ⟨t1, t2, t3, t4, t5, t6⟩ := Y; have t51 := t5.1
  have M := kJ2_size (d := d) t5
  simp (disch := first | assumption | exact nI_ne0 (by decide) (by decide) | exact zb_01 | exact Or.inl rfl | exact Or.inr rfl | with_unfolding_all exact id (by assumption) | with_unfolding_all exact id (xix_8 (by assumption) (by omega) (by omega)) | omega) only [wX0_isPlace_e, wX0_isPlace_0, wX0_isPlace_1, wX0_isPlace_2, wX0_isPlace_3, wX0_isPlace_4, wX0_isPlace_7, wX0_isPlace_10, wX0_isPlace_13, wX0_isPlace_14, wX0_isPlace_15, wX0_isPlace_16, wX0_isPlace_19, if_true, if_false, ↓reduceIte, xpu_s, xpu_n, Option.bind_some, xk_i, xk_r, xk_0, xk_u, xk_l, xk_k, xk_q, rf_s, rf_n, o_TI, o_TL, o_TR, o_NI, o_NL, o_NR, o_XI, o_XL, o_XR, o_RI, o_RL, o_LI, o_LR, o_IL, o_IR, o_II, o_LL, o_RR, o_pII, o_pLL, up_s, q_e1, q_e2, Nat.zero_add, Nat.reduceEqDiff, Nat.reduceAdd, Nat.reduceMul, Nat.reduceSub, Nat.reduceLT, Nat.reduceLeDiff, Nat.reduceDiv, Nat.reduceMod, nI_c, nI_add, up_ne, kX0_in, l6a_0, l6b_0, l6a_1, l6b_1, l6a_2, l6b_2, l6a_3, l6b_3, l6a_4, l6b_4, l6a_5, l6b_5, l6a_7, l6b_7, l6a_20, l6b_20, l6a_30, l6b_30, l6a_39, l6b_39, l6a_40, l6b_40, l6a_60, l6b_60, l6a_99, l6b_99, l6a_100, l6b_100, l6a_200, l6b_200, l6a_300, l6b_300, l6a_600, l6b_600, l6a_999, l6b_999, l6a_1000, l6b_1000, l6a_9999, l6b_9999, l6a_1000000, l6b_1000000, l6a_12, l6b_12, l64_xx, wi_d, t2, t4, M]
end
