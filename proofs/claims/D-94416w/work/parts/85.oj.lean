/-! CALLS: the mean, in lowest numbers -/
theorem lN_i63 {n : Nat} (h : n < 2 ^ 63) : (lN n).toInt = (n : Int) := Int64.toInt_ofNat_of_lt h
theorem lN_ne0 {n : Nat} (h0 : 0 < n) (h : n < 2 ^ 63) : ¬ lN n = 0 := fun e => by
  have := congrArg Int64.toInt e
  rw [lN_i63 h] at this
  have z : (0 : Int64).toInt = 0 := by decide
  omega
theorem lN_div {x y : Nat} (hx : x < 2 ^ 63) (hy : y < 2 ^ 63) : lN x / lN y = lN (x / y) := by
  have hd : x / y ≤ x := Nat.div_le_self x y
  apply Int64.toInt_inj.mp
  rw [Int64.toInt_div, lN_i63 hx, lN_i63 hy, lN_i63 (by omega), ← Int.ofNat_tdiv]
  generalize x / y = q at *
  exact Int.bmod_eq_of_le (by omega) (by omega)
theorem lN_mod {x y : Nat} (hx : x < 2 ^ 63) (hy : y < 2 ^ 63) : lN x - lN x / lN y * lN y = lN (x % y) := by
  have hd : x / y * y ≤ x := Nat.div_mul_le_self x y
  rw [lN_div hx hy, lN_mul, lN_sub hd]
  congr 1
  have := Nat.div_add_mod x y
  rw [Nat.mul_comm] at this
  omega
theorem lN_eq0 {n : Nat} (h : n < 2 ^ 63) : (lN n = 0) = (n = 0) := propext ⟨fun e => by
  rcases Nat.eq_zero_or_pos n with z | z
  · exact z
  · exact absurd e (lN_ne0 z h), fun e => by rw [e]; rfl⟩
section
variable {d : Nat} {h h1 h2 : xH} {P : sS} {A : rI} {x : Int32} {ow : Nat → Nat} {s cc l : Nat} {w : rI}
theorem cm_loop : ∀ (y : Nat) (x : Nat) (s0 s1 s2 s3 s8 s9 : Slot), x < 2 ^ 63 → y < 2 ^ 63 → E_ d mX5_common 6 [s0, s1, s2, s3, .val (.long (lN x)), .unset, .val (.long (lN y)), .unset, s8, s9] [] h = some (some (.long (lN (Nat.gcd x y))), h) := by
  intro y
  induction y using Nat.strongRecOn with
  | _ y ih =>
    intro x s0 s1 s2 s3 s8 s9 hx hy
    refine wX5_common_6.trans ?_
    by_cases q : y = 0
    · subst q
      rw [Nat.gcd_zero_right]
      have l0 : lN 0 = 0 := rfl
      simp (disch := first | assumption | exact nI_ne0 (by decide) (by decide) | exact zb_01 | exact Or.inl rfl | exact Or.inr rfl | with_unfolding_all exact id (by assumption) | with_unfolding_all exact id (xix_8 (by assumption) (by omega) (by omega)) | omega) only [wX5_common_e, wX5_common_0, wX5_common_1, wX5_common_3, wX5_common_4, wX5_common_8, wX5_common_9, wX5_common_10, wX5_common_13, wX5_common_15, wX5_common_17, wX5_common_18, wX5_common_20, wX5_common_22, wX5_common_24, wX5_common_26, wX5_common_28, wX5_common_31, wX5_common_33, if_true, if_false, ↓reduceIte, xpu_s, xpu_n, Option.bind_some, xk_i, xk_r, xk_0, xk_u, xk_l, xk_k, xk_q, rf_s, rf_n, o_TI, o_TL, o_TR, o_NI, o_NL, o_NR, o_XI, o_XL, o_XR, o_RI, o_RL, o_LI, o_LR, o_IL, o_IR, o_II, o_LL, o_RR, o_pII, o_pLL, up_s, q_e1, q_e2, Nat.zero_add, Nat.reduceEqDiff, Nat.reduceAdd, Nat.reduceMul, Nat.reduceSub, Nat.reduceLT, Nat.reduceLeDiff, Nat.reduceDiv, Nat.reduceMod, nI_c, nI_add, up_ne, l0, lc_e, not_true_eq_false, not_false_eq_true, and_self, and_true, true_and, and_false, false_and, or_true, true_or, or_false, false_or, decide_true, decide_false, zb_t, zb_f, zb_0, zb_1, eq_self]
    · have y0 : ¬ lN y = 0 := lN_ne0 (by omega) hy
      have md := lN_mod hx hy
      have lt : x % y < y := Nat.mod_lt x (by omega)
      have r := ih (x % y) lt y s0 s1 s2 (xk s3) (.val (.long (lN (x % y)))) .unset hy (by omega)
      rw [Nat.gcd_comm x y, Nat.gcd_rec y x, Nat.gcd_comm]
      rw [← r]
      simp (disch := first | exact y0 | first | assumption | exact nI_ne0 (by decide) (by decide) | exact zb_01 | exact Or.inl rfl | exact Or.inr rfl | with_unfolding_all exact id (by assumption) | with_unfolding_all exact id (xix_8 (by assumption) (by omega) (by omega)) | omega) only [wX5_common_e, wX5_common_0, wX5_common_1, wX5_common_3, wX5_common_4, wX5_common_8, wX5_common_9, wX5_common_10, wX5_common_13, wX5_common_15, wX5_common_17, wX5_common_18, wX5_common_20, wX5_common_22, wX5_common_24, wX5_common_26, wX5_common_28, wX5_common_31, wX5_common_33, if_true, if_false, ↓reduceIte, xpu_s, xpu_n, Option.bind_some, xk_i, xk_r, xk_0, xk_u, xk_l, xk_k, xk_q, rf_s, rf_n, o_TI, o_TL, o_TR, o_NI, o_NL, o_NR, o_XI, o_XL, o_XR, o_RI, o_RL, o_LI, o_LR, o_IL, o_IR, o_II, o_LL, o_RR, o_pII, o_pLL, up_s, q_e1, q_e2, Nat.zero_add, Nat.reduceEqDiff, Nat.reduceAdd, Nat.reduceMul, Nat.reduceSub, Nat.reduceLT, Nat.reduceLeDiff, Nat.reduceDiv, Nat.reduceMod, nI_c, nI_add, up_ne, lc_e, y0, md, not_true_eq_false, not_false_eq_true, and_self, and_true, true_and, and_false, false_and, or_true, true_or, or_false, false_or, decide_true, decide_false, zb_t, zb_f, zb_0, zb_1, eq_self]
theorem kX5_common {x y : Nat} (hx : x < 2 ^ 63) (hy : y < 2 ^ 63) : C_ d mX5_common [.long (lN x), .long (lN y)] h = some (some (.long (lN (Nat.gcd x y))), h) := by
  rw [← cm_loop (d := d) (h := h) y x (.val (.long (lN x))) .unset (.val (.long (lN y))) .unset .unset .unset hx hy]
  simp (disch := first | assumption | exact nI_ne0 (by decide) (by decide) | exact zb_01 | exact Or.inl rfl | exact Or.inr rfl | with_unfolding_all exact id (by assumption) | with_unfolding_all exact id (xix_8 (by assumption) (by omega) (by omega)) | omega) only [wX5_common_e, wX5_common_0, wX5_common_1, wX5_common_3, wX5_common_4, wX5_common_8, wX5_common_9, wX5_common_10, wX5_common_13, wX5_common_15, wX5_common_17, wX5_common_18, wX5_common_20, wX5_common_22, wX5_common_24, wX5_common_26, wX5_common_28, wX5_common_31, wX5_common_33, if_true, if_false, ↓reduceIte, xpu_s, xpu_n, Option.bind_some, xk_i, xk_r, xk_0, xk_u, xk_l, xk_k, xk_q, rf_s, rf_n, o_TI, o_TL, o_TR, o_NI, o_NL, o_NR, o_XI, o_XL, o_XR, o_RI, o_RL, o_LI, o_LR, o_IL, o_IR, o_II, o_LL, o_RR, o_pII, o_pLL, up_s, q_e1, q_e2, Nat.zero_add, Nat.reduceEqDiff, Nat.reduceAdd, Nat.reduceMul, Nat.reduceSub, Nat.reduceLT, Nat.reduceLeDiff, Nat.reduceDiv, Nat.reduceMod, nI_c, nI_add, up_ne]
theorem cg_step {D x y : Nat} {v : Int64} (hx : x < 2 ^ 63) (hy : y < 2 ^ 63) (q : ¬ y = 0) (e : C_ D mX0_commonOf [.long (lN y), .long (lN (x % y))] h = some (some (.long v), h)) : C_ (D + 1) mX0_commonOf [.long (lN x), .long (lN y)] h = some (some (.long v), h) := by
  have y0 : ¬ lN y = 0 := lN_ne0 (by omega) hy
  have md := lN_mod hx hy
  simp (disch := first | exact y0 | first | assumption | exact nI_ne0 (by decide) (by decide) | exact zb_01 | exact Or.inl rfl | exact Or.inr rfl | with_unfolding_all exact id (by assumption) | with_unfolding_all exact id (xix_8 (by assumption) (by omega) (by omega)) | omega) only [wX0_commonOf_e, wX0_commonOf_0, wX0_commonOf_1, wX0_commonOf_2, wX0_commonOf_3, wX0_commonOf_6, wX0_commonOf_7, wX0_commonOf_10, wX0_commonOf_11, wX0_commonOf_12, wX0_commonOf_13, wX0_commonOf_14, wX0_commonOf_17, if_true, if_false, ↓reduceIte, xpu_s, xpu_n, Option.bind_some, xk_i, xk_r, xk_0, xk_u, xk_l, xk_k, xk_q, rf_s, rf_n, o_TI, o_TL, o_TR, o_NI, o_NL, o_NR, o_XI, o_XL, o_XR, o_RI, o_RL, o_LI, o_LR, o_IL, o_IR, o_II, o_LL, o_RR, o_pII, o_pLL, up_s, q_e1, q_e2, Nat.zero_add, Nat.reduceEqDiff, Nat.reduceAdd, Nat.reduceMul, Nat.reduceSub, Nat.reduceLT, Nat.reduceLeDiff, Nat.reduceDiv, Nat.reduceMod, nI_c, nI_add, up_ne, lc_e, y0, md, e, not_true_eq_false, not_false_eq_true, and_self, and_true, true_and, and_false, false_and, or_true, true_or, or_false, false_or, decide_true, decide_false, zb_t, zb_f, zb_0, zb_1, eq_self]
theorem cg_0 {D x : Nat} : C_ D mX0_commonOf [.long (lN x), .long (lN 0)] h = some (some (.long (lN x)), h) := by
  have l0 : lN 0 = 0 := rfl
  simp (disch := first | assumption | exact nI_ne0 (by decide) (by decide) | exact zb_01 | exact Or.inl rfl | exact Or.inr rfl | with_unfolding_all exact id (by assumption) | with_unfolding_all exact id (xix_8 (by assumption) (by omega) (by omega)) | omega) only [wX0_commonOf_e, wX0_commonOf_0, wX0_commonOf_1, wX0_commonOf_2, wX0_commonOf_3, wX0_commonOf_6, wX0_commonOf_7, wX0_commonOf_10, wX0_commonOf_11, wX0_commonOf_12, wX0_commonOf_13, wX0_commonOf_14, wX0_commonOf_17, if_true, if_false, ↓reduceIte, xpu_s, xpu_n, Option.bind_some, xk_i, xk_r, xk_0, xk_u, xk_l, xk_k, xk_q, rf_s, rf_n, o_TI, o_TL, o_TR, o_NI, o_NL, o_NR, o_XI, o_XL, o_XR, o_RI, o_RL, o_LI, o_LR, o_IL, o_IR, o_II, o_LL, o_RR, o_pII, o_pLL, up_s, q_e1, q_e2, Nat.zero_add, Nat.reduceEqDiff, Nat.reduceAdd, Nat.reduceMul, Nat.reduceSub, Nat.reduceLT, Nat.reduceLeDiff, Nat.reduceDiv, Nat.reduceMod, nI_c, nI_add, up_ne, l0, lc_e, not_true_eq_false, not_false_eq_true, and_self, and_true, true_and, and_false, false_and, or_true, true_or, or_false, false_or, decide_true, decide_false, zb_t, zb_f, zb_0, zb_1, eq_self]
theorem kX0_commonOf : ∀ (k x y D : Nat), x < 2 ^ 63 → y < 2 ^ 63 → y < 2 ^ k → C_ (D + 2 * k) mX0_commonOf [.long (lN x), .long (lN y)] h = some (some (.long (lN (Nat.gcd x y))), h)
  | 0, x, y, D, hx, hy, hk => by
    have : y = 0 := by simpa using hk
    subst this
    rw [Nat.gcd_zero_right]
    exact cg_0
  | k + 1, x, y, D, hx, hy, hk => by
    by_cases q : y = 0
    · subst q
      rw [Nat.gcd_zero_right]
      exact cg_0
    · have lt : x % y < y := Nat.mod_lt x (by omega)
      rw [show D + 2 * (k + 1) = D + 2 * k + 1 + 1 by omega]
      refine cg_step hx hy q ?_
      rw [Nat.gcd_comm x y, Nat.gcd_rec y x, Nat.gcd_comm]
      by_cases q2 : x % y = 0
      · rw [q2, Nat.gcd_zero_right]
        exact cg_0
      · refine cg_step hy (by omega) q2 ?_
        rw [Nat.gcd_comm y (x % y), Nat.gcd_rec (x % y) y, Nat.gcd_comm]
        have lt2 : y % (x % y) < x % y := Nat.mod_lt y (by omega)
        have le : y % (x % y) ≤ y - x % y := by
          have h1 := Nat.div_add_mod y (x % y)
          have h2 : 1 ≤ y / (x % y) := Nat.div_pos (by omega) (by omega)
          have h3 : x % y ≤ x % y * (y / (x % y)) := Nat.le_mul_of_pos_right _ h2
          omega
        have p2 : 2 ^ (k + 1) = 2 * 2 ^ k := by rw [Nat.pow_succ, Nat.mul_comm]
        exact kX0_commonOf k (x % y) (y % (x % y)) D (by omega) (by omega) (by omega)
def q_mean (P : sS) (x : Int32) : sV := bif wi x (nI 0) (nI 1) then vl P ((if x = 0 then (sOd (pA P) (fun _ => nI 0) (-1) (-1)).1 3 else lN (100 ^ sN (pA P))) / lN (Nat.gcd ((sOd (pA P) (fun _ => nI 0) (-1) (-1)).1 3).toNatClampNeg (100 ^ sN (pA P)))) else nl P (-2)
theorem lN_cl {n : Nat} (h : n < 2 ^ 63) : (lN n).toNatClampNeg = n := by
  show (lN n).toInt.toNat = n
  rw [lN_i63 h]
  rfl
theorem gcd_pos {n k : Nat} (hk : k ≤ 8) : 0 < Nat.gcd n (100 ^ k) ∧ Nat.gcd n (100 ^ k) < 2 ^ 63 := by
  have h0 : 0 < 100 ^ k := Nat.pow_pos (by omega)
  have h1 := Nat.le_of_dvd h0 (Nat.gcd_dvd_right n (100 ^ k))
  have h2 := p100_2 hk
  exact ⟨Nat.gcd_pos_of_pos_right _ h0, by omega⟩
theorem nX5_mean (M : MR h P) (W : WF P) : MG (d + 15) h mX5_mean [.ref 150, .int x] (q_mean P x) := by
  obtain ⟨H, m152, m154, m151, m153, m167, m168, m169, m6, m16, m17, m21, m22⟩ := id M
  have no := fun k : Int32 => nX5_no (d := d + 14) k M
  unfold q_mean
  cases h1 : wi x (nI 0) (nI 1) with
  | false =>
    refine MG_nl M ?_
    simp (disch := first | with_unfolding_all exact id (mok_t H rfl) | exact Or.inr (by with_unfolding_all exact mok_t H rfl) | exact nI_ne0 (by decide) (by decide) | with_unfolding_all exact id (m_x152 H (by omega)) | with_unfolding_all exact id (m_x156 H (by omega)) | with_unfolding_all exact id (m_x158 H (by omega)) | with_unfolding_all exact id (m_x159 H (by omega)) | with_unfolding_all exact id (m_x160 H (by omega)) | exact zb_01 | exact Or.inl rfl | exact Or.inr rfl | omega) only [wX5_mean_e, wX5_mean_0, wX5_mean_1, wX5_mean_2, wX5_mean_5, wX5_mean_6, wX5_mean_7, wX5_mean_8, wX5_mean_9, wX5_mean_12, wX5_mean_15, wX5_mean_16, wX5_mean_18, wX5_mean_21, wX5_mean_22, wX5_mean_23, wX5_mean_24, wX5_mean_27, wX5_mean_28, wX5_mean_31, wX5_mean_32, wX5_mean_33, wX5_mean_34, wX5_mean_37, wX5_mean_40, wX5_mean_41, wX5_mean_42, wX5_mean_45, wX5_mean_46, wX5_mean_49, wX5_mean_50, wX5_mean_51, wX5_mean_54, wX5_mean_55, wX5_mean_58, wX5_mean_59, wX5_mean_60, if_true, if_false, ↓reduceIte, xpu_s, xpu_n, Option.bind_some, xk_i, xk_r, xk_0, xk_u, xk_l, xk_k, xk_q, rf_s, rf_n, R0_p, R0_L, R0_T, R0_N, R0_R, R0_r, R0_6, o_TI, o_TL, o_TR, o_NI, o_NL, o_NR, o_XI, o_XL, o_XR, o_RI, o_RL, o_LI, o_LR, o_IL, o_IR, o_II, o_LL, o_RR, o_pII, o_pLL, up_s, q_e1, q_e2, Nat.zero_add, Nat.reduceEqDiff, Nat.reduceAdd, Nat.reduceMul, Nat.reduceSub, Nat.reduceLT, Nat.reduceLeDiff, Nat.reduceDiv, Nat.reduceMod, m_r1 H, m_r2 H, m_r3 H, m_r4 H, m_r5 H, m_r18 H, m_r19 H, m_r20 H, m_r24 H, m_r25 H, m_r27 H, m_r28 H, m_r29 H, m_r30 H, m_r31 H, m_r32 H, m_r33 H, m_r34 H, m_r35 H, m_n150 H, m_n151 H, m_n152 H, m_n153 H, m_n154 H, m_n155 H, m_n156 H, m_n157 H, m_n158 H, m_n159 H, m_n160 H, m_n161 H, m_n162 H, m_n163 H, m_n164 H, m_n165 H, m_n166 H, m_n167 H, m_n168 H, m_n169 H, nI_c, nI_add, up_ne, kX5_within, l6a_0, l6b_0, l6a_1, l6b_1, l6a_2, l6b_2, l6a_3, l6b_3, l6a_4, l6b_4, l6a_5, l6b_5, l6a_7, l6b_7, l6a_20, l6b_20, l6a_30, l6b_30, l6a_39, l6b_39, l6a_40, l6b_40, l6a_60, l6b_60, l6a_99, l6b_99, l6a_100, l6b_100, l6a_200, l6b_200, l6a_300, l6b_300, l6a_600, l6b_600, l6a_999, l6b_999, l6a_1000, l6b_1000, l6a_9999, l6b_9999, l6a_1000000, l6b_1000000, l6a_12, l6b_12, l64_xx, wi_d, one_ne0, zb_0, not_true_eq_false, not_false_eq_true, and_self, and_true, true_and, and_false, false_and, or_true, true_or, or_false, false_or, decide_true, decide_false, zb_t, zb_f, zb_0, zb_1, eq_self, cond_true, cond_false, Bool.true_eq_false, Bool.false_eq_true, Bool.and_true, Bool.true_and, Bool.and_false, Bool.false_and, Bool.or_true, Bool.true_or, Bool.or_false, Bool.false_or, no, h1]
  | true =>
    obtain ⟨h2, e, M2, k, C⟩ := nX5_worksOdds (d := d) (MR_0 M) W
    have ap := nX5_allParts (d := d + 14) M2 W
    have p100 := p100_2 W.1.1.2.1
    obtain ⟨n, n1, n2⟩ := (sOd_n (w := fun _ => nI 0) (wl := -1) (wc := -1) W.1.1 W.1.2.1).2.1
    have v : oL h2 161 3 = lN n := by
      rw [C.1 3 (by omega), sOd_w (u := fun _ => nI 0) W.1.1 W.1.2.1 (by omega)]
      exact n2
    rw [n2, lN_cl (by omega)]
    have cm := kX5_common (d := d + 14) (h := h2) (x := n) (y := 100 ^ sN (pA P)) (by omega) (by omega)
    obtain ⟨g0, g1⟩ := gcd_pos (n := n) W.1.1.2.1
    have gn := lN_ne0 g0 g1
    have H2 := M2.1
    have t7 : oT h2 150 = 7 := mok_t H2 rfl
    have r27 := m_r27 H2
    have x161 : xix (nI 3) (oN h2 161) = true := m_x161 H2 (by omega)
    have t44 : oT h2 161 = 44 := mok_t H2 rfl
    refine MG_of ?_ M2 k
    by_cases q : x = 0
    · subst q
      simp (disch := first | assumption | first | with_unfolding_all exact id (mok_t H rfl) | exact Or.inr (by with_unfolding_all exact mok_t H rfl) | exact nI_ne0 (by decide) (by decide) | with_unfolding_all exact id (m_x152 H (by omega)) | with_unfolding_all exact id (m_x156 H (by omega)) | with_unfolding_all exact id (m_x158 H (by omega)) | with_unfolding_all exact id (m_x159 H (by omega)) | with_unfolding_all exact id (m_x160 H (by omega)) | exact zb_01 | exact Or.inl rfl | exact Or.inr rfl | omega) only [wX5_mean_e, wX5_mean_0, wX5_mean_1, wX5_mean_2, wX5_mean_5, wX5_mean_6, wX5_mean_7, wX5_mean_8, wX5_mean_9, wX5_mean_12, wX5_mean_15, wX5_mean_16, wX5_mean_18, wX5_mean_21, wX5_mean_22, wX5_mean_23, wX5_mean_24, wX5_mean_27, wX5_mean_28, wX5_mean_31, wX5_mean_32, wX5_mean_33, wX5_mean_34, wX5_mean_37, wX5_mean_40, wX5_mean_41, wX5_mean_42, wX5_mean_45, wX5_mean_46, wX5_mean_49, wX5_mean_50, wX5_mean_51, wX5_mean_54, wX5_mean_55, wX5_mean_58, wX5_mean_59, wX5_mean_60, if_true, if_false, ↓reduceIte, xpu_s, xpu_n, Option.bind_some, xk_i, xk_r, xk_0, xk_u, xk_l, xk_k, xk_q, rf_s, rf_n, R0_p, R0_L, R0_T, R0_N, R0_R, R0_r, R0_6, o_TI, o_TL, o_TR, o_NI, o_NL, o_NR, o_XI, o_XL, o_XR, o_RI, o_RL, o_LI, o_LR, o_IL, o_IR, o_II, o_LL, o_RR, o_pII, o_pLL, up_s, q_e1, q_e2, Nat.zero_add, Nat.reduceEqDiff, Nat.reduceAdd, Nat.reduceMul, Nat.reduceSub, Nat.reduceLT, Nat.reduceLeDiff, Nat.reduceDiv, Nat.reduceMod, m_r1 H, m_r2 H, m_r3 H, m_r4 H, m_r5 H, m_r18 H, m_r19 H, m_r20 H, m_r24 H, m_r25 H, m_r27 H, m_r28 H, m_r29 H, m_r30 H, m_r31 H, m_r32 H, m_r33 H, m_r34 H, m_r35 H, m_n150 H, m_n151 H, m_n152 H, m_n153 H, m_n154 H, m_n155 H, m_n156 H, m_n157 H, m_n158 H, m_n159 H, m_n160 H, m_n161 H, m_n162 H, m_n163 H, m_n164 H, m_n165 H, m_n166 H, m_n167 H, m_n168 H, m_n169 H, nI_c, nI_add, up_ne, kX5_within, l6a_0, l6b_0, l6a_1, l6b_1, l6a_2, l6b_2, l6a_3, l6b_3, l6a_4, l6b_4, l6a_5, l6b_5, l6a_7, l6b_7, l6a_20, l6b_20, l6a_30, l6b_30, l6a_39, l6b_39, l6a_40, l6b_40, l6a_60, l6b_60, l6a_99, l6b_99, l6a_100, l6b_100, l6a_200, l6b_200, l6a_300, l6b_300, l6a_600, l6b_600, l6a_999, l6b_999, l6a_1000, l6b_1000, l6a_9999, l6b_9999, l6a_1000000, l6b_1000000, l6a_12, l6b_12, l64_xx, wi_d, one_ne0, zb_0, not_true_eq_false, not_false_eq_true, and_self, and_true, true_and, and_false, false_and, or_true, true_or, or_false, false_or, decide_true, decide_false, zb_t, zb_f, zb_0, zb_1, eq_self, cond_true, cond_false, Bool.true_eq_false, Bool.false_eq_true, Bool.and_true, Bool.true_and, Bool.and_false, Bool.false_and, Bool.or_true, Bool.true_or, Bool.or_false, Bool.false_or, no, h1, e, ap, r27, v, cm]
    · simp (disch := first | assumption | first | with_unfolding_all exact id (mok_t H rfl) | exact Or.inr (by with_unfolding_all exact mok_t H rfl) | exact nI_ne0 (by decide) (by decide) | with_unfolding_all exact id (m_x152 H (by omega)) | with_unfolding_all exact id (m_x156 H (by omega)) | with_unfolding_all exact id (m_x158 H (by omega)) | with_unfolding_all exact id (m_x159 H (by omega)) | with_unfolding_all exact id (m_x160 H (by omega)) | exact zb_01 | exact Or.inl rfl | exact Or.inr rfl | omega) only [wX5_mean_e, wX5_mean_0, wX5_mean_1, wX5_mean_2, wX5_mean_5, wX5_mean_6, wX5_mean_7, wX5_mean_8, wX5_mean_9, wX5_mean_12, wX5_mean_15, wX5_mean_16, wX5_mean_18, wX5_mean_21, wX5_mean_22, wX5_mean_23, wX5_mean_24, wX5_mean_27, wX5_mean_28, wX5_mean_31, wX5_mean_32, wX5_mean_33, wX5_mean_34, wX5_mean_37, wX5_mean_40, wX5_mean_41, wX5_mean_42, wX5_mean_45, wX5_mean_46, wX5_mean_49, wX5_mean_50, wX5_mean_51, wX5_mean_54, wX5_mean_55, wX5_mean_58, wX5_mean_59, wX5_mean_60, if_true, if_false, ↓reduceIte, xpu_s, xpu_n, Option.bind_some, xk_i, xk_r, xk_0, xk_u, xk_l, xk_k, xk_q, rf_s, rf_n, R0_p, R0_L, R0_T, R0_N, R0_R, R0_r, R0_6, o_TI, o_TL, o_TR, o_NI, o_NL, o_NR, o_XI, o_XL, o_XR, o_RI, o_RL, o_LI, o_LR, o_IL, o_IR, o_II, o_LL, o_RR, o_pII, o_pLL, up_s, q_e1, q_e2, Nat.zero_add, Nat.reduceEqDiff, Nat.reduceAdd, Nat.reduceMul, Nat.reduceSub, Nat.reduceLT, Nat.reduceLeDiff, Nat.reduceDiv, Nat.reduceMod, m_r1 H, m_r2 H, m_r3 H, m_r4 H, m_r5 H, m_r18 H, m_r19 H, m_r20 H, m_r24 H, m_r25 H, m_r27 H, m_r28 H, m_r29 H, m_r30 H, m_r31 H, m_r32 H, m_r33 H, m_r34 H, m_r35 H, m_n150 H, m_n151 H, m_n152 H, m_n153 H, m_n154 H, m_n155 H, m_n156 H, m_n157 H, m_n158 H, m_n159 H, m_n160 H, m_n161 H, m_n162 H, m_n163 H, m_n164 H, m_n165 H, m_n166 H, m_n167 H, m_n168 H, m_n169 H, nI_c, nI_add, up_ne, kX5_within, l6a_0, l6b_0, l6a_1, l6b_1, l6a_2, l6b_2, l6a_3, l6b_3, l6a_4, l6b_4, l6a_5, l6b_5, l6a_7, l6b_7, l6a_20, l6b_20, l6a_30, l6b_30, l6a_39, l6b_39, l6a_40, l6b_40, l6a_60, l6b_60, l6a_99, l6b_99, l6a_100, l6b_100, l6a_200, l6b_200, l6a_300, l6b_300, l6a_600, l6b_600, l6a_999, l6b_999, l6a_1000, l6b_1000, l6a_9999, l6b_9999, l6a_1000000, l6b_1000000, l6a_12, l6b_12, l64_xx, wi_d, one_ne0, zb_0, not_true_eq_false, not_false_eq_true, and_self, and_true, true_and, and_false, false_and, or_true, true_or, or_false, false_or, decide_true, decide_false, zb_t, zb_f, zb_0, zb_1, eq_self, cond_true, cond_false, Bool.true_eq_false, Bool.false_eq_true, Bool.and_true, Bool.true_and, Bool.and_false, Bool.false_and, Bool.or_true, Bool.true_or, Bool.or_false, Bool.false_or, no, h1, e, ap, r27, v, cm, q]
theorem nX0_mean (X : XR h P) (W : WF P) : XG (d + 217) h mX0_mean [.ref 64, .int x] (q_mean P x) := by
  obtain ⟨ow, s, cc, l, E⟩ := XE_of X
  have T := E.1.1
  have no := fun k : Int32 => kX0_no (d := d + 216) T (k := k)
  obtain ⟨x1, x2, x3, x4⟩ := E.2.1
  have hc := E.2.2.1
  unfold q_mean
  cases h1 : wi x (nI 0) (nI 1) with
  | false =>
    refine XG_nl X ?_
    simp (disch := first | assumption | exact nI_ne0 (by decide) (by decide) | exact zb_01 | exact Or.inl rfl | exact Or.inr rfl | with_unfolding_all exact id (by assumption) | with_unfolding_all exact id (xix_8 (by assumption) (by omega) (by omega)) | omega) only [wX0_mean_e, wX0_mean_0, wX0_mean_1, wX0_mean_2, wX0_mean_3, wX0_mean_4, wX0_mean_7, wX0_mean_10, wX0_mean_11, wX0_mean_13, wX0_mean_16, wX0_mean_17, wX0_mean_18, wX0_mean_19, wX0_mean_20, wX0_mean_23, wX0_mean_26, wX0_mean_29, wX0_mean_30, wX0_mean_33, wX0_mean_34, wX0_mean_37, wX0_mean_38, wX0_mean_39, wX0_mean_42, wX0_mean_43, wX0_mean_46, wX0_mean_47, wX0_mean_48, wX0_mean_49, wX0_mean_52, wX0_mean_53, wX0_mean_54, wX0_mean_55, wX0_mean_58, wX0_mean_59, wX0_mean_60, wX0_mean_63, wX0_mean_64, if_true, if_false, ↓reduceIte, xpu_s, xpu_n, Option.bind_some, xk_i, xk_r, xk_0, xk_u, xk_l, xk_k, xk_q, rf_s, rf_n, o_TI, o_TL, o_TR, o_NI, o_NL, o_NR, o_XI, o_XL, o_XR, o_RI, o_RL, o_LI, o_LR, o_IL, o_IR, o_II, o_LL, o_RR, o_pII, o_pLL, up_s, q_e1, q_e2, Nat.zero_add, Nat.reduceEqDiff, Nat.reduceAdd, Nat.reduceMul, Nat.reduceSub, Nat.reduceLT, Nat.reduceLeDiff, Nat.reduceDiv, Nat.reduceMod, nI_c, nI_add, up_ne, kX0_in, l6a_0, l6b_0, l6a_1, l6b_1, l6a_2, l6b_2, l6a_3, l6b_3, l6a_4, l6b_4, l6a_5, l6b_5, l6a_7, l6b_7, l6a_20, l6b_20, l6a_30, l6b_30, l6a_39, l6b_39, l6a_40, l6b_40, l6a_60, l6b_60, l6a_99, l6b_99, l6a_100, l6b_100, l6a_200, l6b_200, l6a_300, l6b_300, l6a_600, l6b_600, l6a_999, l6b_999, l6a_1000, l6b_1000, l6a_9999, l6b_9999, l6a_1000000, l6b_1000000, l6a_12, l6b_12, l64_xx, wi_d, one_ne0, zb_0, not_true_eq_false, not_false_eq_true, and_self, and_true, true_and, and_false, false_and, or_true, true_or, or_false, false_or, decide_true, decide_false, zb_t, zb_f, zb_0, zb_1, eq_self, cond_true, cond_false, Bool.true_eq_false, Bool.false_eq_true, Bool.and_true, Bool.true_and, Bool.and_false, Bool.false_and, Bool.or_true, Bool.true_or, Bool.or_false, Bool.false_or, nx_2, nx_3, nx_5, nx_6, nx_7, nx_f, nx_s, nx_w, ns_2, ns_3, ns_5, ns_6, ns_7, no, h1]
  | true =>
    obtain ⟨g, g1, g2, g3, g4, g5, g6, -⟩ := XB_gathers (d := d) E W
    obtain ⟨T1, p2, p3, p4, p5, p6, p7, p8, p9, p10, p11, -⟩ := g2.1.1.1
    have p100 := p100_2 W.1.1.2.1
    obtain ⟨-, ⟨n, n1, n2⟩, n5⟩ := sOd_n (w := fun _ => nI 0) (wl := -1) (wc := -1) W.1.1 W.1.2.1
    have v3 : oL g 140 3 = lN n := ((g6 _).1 3 (by omega)).trans n2
    have v5 : oL g 140 5 = lN (100 ^ sN (pA P)) := ((g6 _).1 5 (by omega)).trans n5
    rw [n2, lN_cl (by omega)]
    have cm := kX0_commonOf (h := g) 54 n (100 ^ sN (pA P)) (d + 108) (by omega) (by omega) (by omega)
    have cm : C_ (d + 216) mX0_commonOf [.long (lN n), .long (lN (100 ^ sN (pA P)))] g = some (some (.long (lN (Nat.gcd n (100 ^ sN (pA P))))), g) := cm
    obtain ⟨q0, q1⟩ := gcd_pos (n := n) W.1.1.2.1
    have gn := lN_ne0 q0 q1
    refine ⟨g, ?_, ⟨ow, s, g2.1⟩, g3, by omega, by omega⟩
    by_cases q : x = 0
    · subst q
      simp (disch := first | exact xix_8 p9 (by omega) (by omega) | first | assumption | exact nI_ne0 (by decide) (by decide) | exact zb_01 | exact Or.inl rfl | exact Or.inr rfl | with_unfolding_all exact id (by assumption) | with_unfolding_all exact id (xix_8 (by assumption) (by omega) (by omega)) | omega) only [wX0_mean_e, wX0_mean_0, wX0_mean_1, wX0_mean_2, wX0_mean_3, wX0_mean_4, wX0_mean_7, wX0_mean_10, wX0_mean_11, wX0_mean_13, wX0_mean_16, wX0_mean_17, wX0_mean_18, wX0_mean_19, wX0_mean_20, wX0_mean_23, wX0_mean_26, wX0_mean_29, wX0_mean_30, wX0_mean_33, wX0_mean_34, wX0_mean_37, wX0_mean_38, wX0_mean_39, wX0_mean_42, wX0_mean_43, wX0_mean_46, wX0_mean_47, wX0_mean_48, wX0_mean_49, wX0_mean_52, wX0_mean_53, wX0_mean_54, wX0_mean_55, wX0_mean_58, wX0_mean_59, wX0_mean_60, wX0_mean_63, wX0_mean_64, if_true, if_false, ↓reduceIte, xpu_s, xpu_n, Option.bind_some, xk_i, xk_r, xk_0, xk_u, xk_l, xk_k, xk_q, rf_s, rf_n, o_TI, o_TL, o_TR, o_NI, o_NL, o_NR, o_XI, o_XL, o_XR, o_RI, o_RL, o_LI, o_LR, o_IL, o_IR, o_II, o_LL, o_RR, o_pII, o_pLL, up_s, q_e1, q_e2, Nat.zero_add, Nat.reduceEqDiff, Nat.reduceAdd, Nat.reduceMul, Nat.reduceSub, Nat.reduceLT, Nat.reduceLeDiff, Nat.reduceDiv, Nat.reduceMod, nI_c, nI_add, up_ne, kX0_in, l6a_0, l6b_0, l6a_1, l6b_1, l6a_2, l6b_2, l6a_3, l6b_3, l6a_4, l6b_4, l6a_5, l6b_5, l6a_7, l6b_7, l6a_20, l6b_20, l6a_30, l6b_30, l6a_39, l6b_39, l6a_40, l6b_40, l6a_60, l6b_60, l6a_99, l6b_99, l6a_100, l6b_100, l6a_200, l6b_200, l6a_300, l6b_300, l6a_600, l6b_600, l6a_999, l6b_999, l6a_1000, l6b_1000, l6a_9999, l6b_9999, l6a_1000000, l6b_1000000, l6a_12, l6b_12, l64_xx, wi_d, one_ne0, zb_0, not_true_eq_false, not_false_eq_true, and_self, and_true, true_and, and_false, false_and, or_true, true_or, or_false, false_or, decide_true, decide_false, zb_t, zb_f, zb_0, zb_1, eq_self, cond_true, cond_false, Bool.true_eq_false, Bool.false_eq_true, Bool.and_true, Bool.true_and, Bool.and_false, Bool.false_and, Bool.or_true, Bool.true_or, Bool.or_false, Bool.false_or, nx_2, nx_3, nx_5, nx_6, nx_7, nx_f, nx_s, nx_w, ns_2, ns_3, ns_5, ns_6, ns_7, h1, x2, hc, g1, p3, v3, v5, cm]
      rfl
    · simp (disch := first | exact xix_8 p9 (by omega) (by omega) | first | assumption | exact nI_ne0 (by decide) (by decide) | exact zb_01 | exact Or.inl rfl | exact Or.inr rfl | with_unfolding_all exact id (by assumption) | with_unfolding_all exact id (xix_8 (by assumption) (by omega) (by omega)) | omega) only [wX0_mean_e, wX0_mean_0, wX0_mean_1, wX0_mean_2, wX0_mean_3, wX0_mean_4, wX0_mean_7, wX0_mean_10, wX0_mean_11, wX0_mean_13, wX0_mean_16, wX0_mean_17, wX0_mean_18, wX0_mean_19, wX0_mean_20, wX0_mean_23, wX0_mean_26, wX0_mean_29, wX0_mean_30, wX0_mean_33, wX0_mean_34, wX0_mean_37, wX0_mean_38, wX0_mean_39, wX0_mean_42, wX0_mean_43, wX0_mean_46, wX0_mean_47, wX0_mean_48, wX0_mean_49, wX0_mean_52, wX0_mean_53, wX0_mean_54, wX0_mean_55, wX0_mean_58, wX0_mean_59, wX0_mean_60, wX0_mean_63, wX0_mean_64, if_true, if_false, ↓reduceIte, xpu_s, xpu_n, Option.bind_some, xk_i, xk_r, xk_0, xk_u, xk_l, xk_k, xk_q, rf_s, rf_n, o_TI, o_TL, o_TR, o_NI, o_NL, o_NR, o_XI, o_XL, o_XR, o_RI, o_RL, o_LI, o_LR, o_IL, o_IR, o_II, o_LL, o_RR, o_pII, o_pLL, up_s, q_e1, q_e2, Nat.zero_add, Nat.reduceEqDiff, Nat.reduceAdd, Nat.reduceMul, Nat.reduceSub, Nat.reduceLT, Nat.reduceLeDiff, Nat.reduceDiv, Nat.reduceMod, nI_c, nI_add, up_ne, kX0_in, l6a_0, l6b_0, l6a_1, l6b_1, l6a_2, l6b_2, l6a_3, l6b_3, l6a_4, l6b_4, l6a_5, l6b_5, l6a_7, l6b_7, l6a_20, l6b_20, l6a_30, l6b_30, l6a_39, l6b_39, l6a_40, l6b_40, l6a_60, l6b_60, l6a_99, l6b_99, l6a_100, l6b_100, l6a_200, l6b_200, l6a_300, l6b_300, l6a_600, l6b_600, l6a_999, l6b_999, l6a_1000, l6b_1000, l6a_9999, l6b_9999, l6a_1000000, l6b_1000000, l6a_12, l6b_12, l64_xx, wi_d, one_ne0, zb_0, not_true_eq_false, not_false_eq_true, and_self, and_true, true_and, and_false, false_and, or_true, true_or, or_false, false_or, decide_true, decide_false, zb_t, zb_f, zb_0, zb_1, eq_self, cond_true, cond_false, Bool.true_eq_false, Bool.false_eq_true, Bool.and_true, Bool.true_and, Bool.and_false, Bool.false_and, Bool.or_true, Bool.true_or, Bool.or_false, Bool.false_or, nx_2, nx_3, nx_5, nx_6, nx_7, nx_f, nx_s, nx_w, ns_2, ns_3, ns_5, ns_6, ns_7, h1, x2, hc, g1, p3, v3, v5, cm, q]
      rfl
end
