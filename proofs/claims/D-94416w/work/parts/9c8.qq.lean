/-! CALLS over rows of numbers: slip, the component -/
section
variable {d : Nat} {h : xH} {P : sS} {x y D b : Int32} {s i q n m k r j a t : Nat} {e e1 e2 : rL} {n1 n2 : Nat} {u u2 : Int64} {v v2 : Int32}
/-- the component while it slips -/
def HSl (h : xH) (u : Int64) (v : Int32) : xH := pI (pL h 64 (va_up (oL h 64) 15 u)) 64 (va_up (oI h 64) 16 v)
theorem HSl_T : oT (HSl h u v) = oT h := rfl
theorem HSl_15 : oL (HSl h u v) 64 15 = u := rfl
theorem HSl_16 : oI (HSl h u v) 64 16 = v := rfl
theorem HSl_L : oL (HSl h u v) 64 = va_up (oL h 64) 15 u := rfl
theorem HSl_I : oI (HSl h u v) 64 = va_up (oI h 64) 16 v := rfl
theorem HSl_N : oN (HSl h u v) = oN h := rfl
theorem HSl_R : oR (HSl h u v) = oR h := rfl
theorem HSl_wI : pI (HSl h u v) 64 (va_up (va_up (oI h 64) 16 v) 16 v2) = HSl h u v2 := by
  unfold HSl
  rw [o_pII, up_up]
theorem HSl_wL : pL (HSl h u v) 64 (va_up (va_up (oL h 64) 15 u) 15 u2) = HSl h u2 v := by
  show pL (pL (pI h 64 (va_up (oI h 64) 16 v)) 64 (va_up (oL h 64) 15 u)) 64 (va_up (va_up (oL h 64) 15 u) 15 u2) = _
  rw [o_pLL, up_up]
  rfl
theorem HSl_0 : h = HSl h (oL h 64 15) (oI h 64 16) := by
  unfold HSl
  rw [up_sf, pL_self, up_sf, pI_self]
theorem sm_HSl (ha : ¬ a = 64) : sm h (HSl h u v) a := sm_I (sm_L sm_refl ha) ha
theorem XR_HSl (X : XR h P) : XR (HSl h u v) P := by
  obtain ⟨ow, s, X⟩ := X
  have X0 := X
  obtain ⟨x1, x2, x3, x4, x5, x6, x7, x8, x9, x10, x11, x12, x13⟩ := X0
  have ne : ∀ a, ¬ a = 64 → oI (HSl h u v) a = oI h a := fun a ha => (sm_HSl ha).2.2.1
  refine ⟨ow, s, qF_self (P := P) ▸ XR_fr (F := pF P) X (XT_fr (h := h) (fun a ha => ⟨rfl, rfl⟩) (fun j _ => rfl) rfl rfl (fun a j _ _ _ => rfl) (fun a ha => ne a (by omega)) x1) rfl ?_ ?_ ?_ rfl ?_ (ne 78 (by omega)) (fun r _ => rfl) (fun a ha => sm_HSl ?_) (fun a h1 h2 => sm_HSl ?_) (Nat.le_refl _) (fun a ha => (x12 a ha).1) (fun a _ => rfl)⟩
  · rw [HSl_I, up_ne (by decide)]
  · rw [HSl_I, up_ne (by decide)]
  · rw [HSl_I, up_ne (by decide)]
  · rw [ne 77 (by omega)]; exact x5
  · intro z
    rw [z] at ha
    exact ha (x13 64 (by omega)).1
  · intro z
    rw [z] at h1 h2
    exact (x13 64 (by omega)).2 ⟨h1, h2⟩
theorem KM_HSl : KM h (HSl h u v) := fun a ha => sm_HSl (by omega)
theorem XQ_at (X : XR h P) (W : WF P) (hr : r < 4) (ne : ¬ pS P r = -1) (hn : n ≤ 40) (en : pM P r = nI n) : XQ h r n (ro P r) := by
  obtain ⟨s, n', Q, n1, n2, s4, n40⟩ := XQ_of X W hr ne
  have e : n' = n := (nI_eq (by omega) (by omega)).mp (n2.symm.trans en)
  subst e
  exact Q
theorem kX0_isCounted (X : XR h P) (W : WF P) : C_ (d + 3) mX0_isCounted [.ref 64, .int x] h = some (some (.int (zb (isc P x))), h) := by
  have x0 := (XR_T X).1.1
  have IR : C_ (d + 2) mX0_isRow [.int x] h = some (some (.int (zb (wi x (nI 0) (nI 3)))), h) := kX0_isRow
  unfold isc
  cases h1 : wi x (nI 0) (nI 3) with
  | false =>
    rw [h1] at IR
    simp (disch := first | assumption | exact nI_ne0 (by decide) (by decide) | exact zb_01 | exact Or.inl rfl | exact Or.inr rfl | with_unfolding_all exact id (by assumption) | with_unfolding_all exact id (xix_8 (by assumption) (by omega) (by omega)) | omega) only [wX0_isCounted_e, wX0_isCounted_0, wX0_isCounted_1, wX0_isCounted_4, wX0_isCounted_7, wX0_isCounted_8, wX0_isCounted_9, wX0_isCounted_12, wX0_isCounted_15, wX0_isCounted_16, wX0_isCounted_19, wX0_isCounted_20, wX0_isCounted_21, wX0_isCounted_24, wX0_isCounted_27, wX0_isCounted_28, wX0_isCounted_29, wX0_isCounted_30, wX0_isCounted_33, wX0_isCounted_34, wX0_isCounted_37, wX0_isCounted_38, wX0_isCounted_41, wX0_isCounted_42, if_true, if_false, ↓reduceIte, xpu_s, xpu_n, Option.bind_some, xk_i, xk_r, xk_0, xk_u, xk_l, xk_k, xk_q, rf_s, rf_n, o_TI, o_TL, o_TR, o_NI, o_NL, o_NR, o_XI, o_XL, o_XR, o_RI, o_RL, o_LI, o_LR, o_IL, o_IR, o_II, o_LL, o_RR, o_pII, o_pLL, up_s, q_e1, q_e2, Nat.zero_add, Nat.reduceEqDiff, Nat.reduceAdd, Nat.reduceMul, Nat.reduceSub, Nat.reduceLT, Nat.reduceLeDiff, Nat.reduceDiv, Nat.reduceMod, nI_c, nI_add, up_ne, not_true_eq_false, not_false_eq_true, and_self, and_true, true_and, and_false, false_and, or_true, true_or, or_false, false_or, decide_true, decide_false, zb_t, zb_f, zb_0, zb_1, eq_self, cond_true, cond_false, Bool.true_eq_false, Bool.false_eq_true, Bool.and_true, Bool.true_and, Bool.and_false, Bool.false_and, Bool.or_true, Bool.true_or, Bool.or_false, Bool.false_or, IR]
    rfl
  | true =>
    rw [h1] at IR
    obtain ⟨r, hr, rfl⟩ := wi_of (by decide) h1
    rw [nI_clamp (show r < 2147483648 by omega)]
    by_cases g : pS P r = -1
    · rw [decide_eq_true g]
      obtain ⟨t17, t45, n45, r45, t6, N⟩ := XR_nq X (show r < 4 by omega)
      rcases N with ⟨-, n2⟩ | ⟨q, s, n, N, n1, n2⟩
      · have CF : C_ (d + 2) mX0_countsFault [.ref 64, .int (nI r)] h = some (some (.int (-6)), h) := by
          simp (disch := first | exact xix_8 n45 (by omega) (by omega) | first | assumption | exact nI_ne0 (by decide) (by decide) | exact zb_01 | exact Or.inl rfl | exact Or.inr rfl | with_unfolding_all exact id (by assumption) | with_unfolding_all exact id (xix_8 (by assumption) (by omega) (by omega)) | omega) only [wX0_countsFault_e, wX0_countsFault_0, wX0_countsFault_1, wX0_countsFault_4, wX0_countsFault_5, wX0_countsFault_6, wX0_countsFault_9, wX0_countsFault_9n, wX0_countsFault_12, wX0_countsFault_14, wX0_countsFault_15, wX0_countsFault_16, wX0_countsFault_18, wX0_countsFault_19, wX0_countsFault_22, wX0_countsFault_23, wX0_countsFault_24, wX0_countsFault_27, wX0_countsFault_30, wX0_countsFault_31, wX0_countsFault_34, wX0_countsFault_35, wX0_countsFault_36, wX0_countsFault_37, wX0_countsFault_40, wX0_countsFault_43, wX0_countsFault_44, wX0_countsFault_47, wX0_countsFault_49, wX0_countsFault_50, wX0_countsFault_53, wX0_countsFault_56, wX0_countsFault_57, if_true, if_false, ↓reduceIte, xpu_s, xpu_n, Option.bind_some, xk_i, xk_r, xk_0, xk_u, xk_l, xk_k, xk_q, rf_s, rf_n, o_TI, o_TL, o_TR, o_NI, o_NL, o_NR, o_XI, o_XL, o_XR, o_RI, o_RL, o_LI, o_LR, o_IL, o_IR, o_II, o_LL, o_RR, o_pII, o_pLL, up_s, q_e1, q_e2, Nat.zero_add, Nat.reduceEqDiff, Nat.reduceAdd, Nat.reduceMul, Nat.reduceSub, Nat.reduceLT, Nat.reduceLeDiff, Nat.reduceDiv, Nat.reduceMod, nI_c, nI_add, up_ne, t17, r45, n2]
        have m6 : ((-6 : Int32) = 0) = False := eq_false (by decide)
        simp (disch := first | assumption | exact nI_ne0 (by decide) (by decide) | exact zb_01 | exact Or.inl rfl | exact Or.inr rfl | with_unfolding_all exact id (by assumption) | with_unfolding_all exact id (xix_8 (by assumption) (by omega) (by omega)) | omega) only [wX0_isCounted_e, wX0_isCounted_0, wX0_isCounted_1, wX0_isCounted_4, wX0_isCounted_7, wX0_isCounted_8, wX0_isCounted_9, wX0_isCounted_12, wX0_isCounted_15, wX0_isCounted_16, wX0_isCounted_19, wX0_isCounted_20, wX0_isCounted_21, wX0_isCounted_24, wX0_isCounted_27, wX0_isCounted_28, wX0_isCounted_29, wX0_isCounted_30, wX0_isCounted_33, wX0_isCounted_34, wX0_isCounted_37, wX0_isCounted_38, wX0_isCounted_41, wX0_isCounted_42, if_true, if_false, ↓reduceIte, xpu_s, xpu_n, Option.bind_some, xk_i, xk_r, xk_0, xk_u, xk_l, xk_k, xk_q, rf_s, rf_n, o_TI, o_TL, o_TR, o_NI, o_NL, o_NR, o_XI, o_XL, o_XR, o_RI, o_RL, o_LI, o_LR, o_IL, o_IR, o_II, o_LL, o_RR, o_pII, o_pLL, up_s, q_e1, q_e2, Nat.zero_add, Nat.reduceEqDiff, Nat.reduceAdd, Nat.reduceMul, Nat.reduceSub, Nat.reduceLT, Nat.reduceLeDiff, Nat.reduceDiv, Nat.reduceMod, nI_c, nI_add, up_ne, not_true_eq_false, not_false_eq_true, and_self, and_true, true_and, and_false, false_and, or_true, true_or, or_false, false_or, decide_true, decide_false, zb_t, zb_f, zb_0, zb_1, eq_self, cond_true, cond_false, Bool.true_eq_false, Bool.false_eq_true, Bool.and_true, Bool.true_and, Bool.and_false, Bool.false_and, Bool.or_true, Bool.true_or, Bool.or_false, Bool.false_or, IR, CF, m6, one_ne0, Bool.not_true]
        rfl
      · have := N.2.2.1
        rw [n1, nI_nm1 (by omega)] at g
        exact g.elim
    · rw [decide_eq_false g]
      obtain ⟨s, n, Q, n1, n2, s4, n40⟩ := XQ_of X W (show r < 4 by omega) g
      have CF := kX0_countsFault (d := d + 1) Q
      have Q0 := Q
      obtain ⟨-, t17, t45, n45, -, -, r45, t6, -, MA, NU⟩ := Q0
      rw [n2, nI_clamp (show n < 2147483648 by omega)]
      cases hb : big (ro P r) n with
      | true =>
        rw [hb] at CF
        have CF : C_ (d + 2) mX0_countsFault [.ref 64, .int (nI r)] h = some (some (.int (-3)), h) := CF
        have n3 : ((-3 : Int32) = 0) = False := eq_false (by decide)
        simp (disch := first | exact xix_8 n45 (by omega) (by omega) | first | assumption | exact nI_ne0 (by decide) (by decide) | exact zb_01 | exact Or.inl rfl | exact Or.inr rfl | with_unfolding_all exact id (by assumption) | with_unfolding_all exact id (xix_8 (by assumption) (by omega) (by omega)) | omega) only [wX0_isCounted_e, wX0_isCounted_0, wX0_isCounted_1, wX0_isCounted_4, wX0_isCounted_7, wX0_isCounted_8, wX0_isCounted_9, wX0_isCounted_12, wX0_isCounted_15, wX0_isCounted_16, wX0_isCounted_19, wX0_isCounted_20, wX0_isCounted_21, wX0_isCounted_24, wX0_isCounted_27, wX0_isCounted_28, wX0_isCounted_29, wX0_isCounted_30, wX0_isCounted_33, wX0_isCounted_34, wX0_isCounted_37, wX0_isCounted_38, wX0_isCounted_41, wX0_isCounted_42, if_true, if_false, ↓reduceIte, xpu_s, xpu_n, Option.bind_some, xk_i, xk_r, xk_0, xk_u, xk_l, xk_k, xk_q, rf_s, rf_n, o_TI, o_TL, o_TR, o_NI, o_NL, o_NR, o_XI, o_XL, o_XR, o_RI, o_RL, o_LI, o_LR, o_IL, o_IR, o_II, o_LL, o_RR, o_pII, o_pLL, up_s, q_e1, q_e2, Nat.zero_add, Nat.reduceEqDiff, Nat.reduceAdd, Nat.reduceMul, Nat.reduceSub, Nat.reduceLT, Nat.reduceLeDiff, Nat.reduceDiv, Nat.reduceMod, nI_c, nI_add, up_ne, not_true_eq_false, not_false_eq_true, and_self, and_true, true_and, and_false, false_and, or_true, true_or, or_false, false_or, decide_true, decide_false, zb_t, zb_f, zb_0, zb_1, eq_self, cond_true, cond_false, Bool.true_eq_false, Bool.false_eq_true, Bool.and_true, Bool.true_and, Bool.and_false, Bool.false_and, Bool.or_true, Bool.true_or, Bool.or_false, Bool.false_or, IR, CF, n3, one_ne0, Bool.not_true]
        rfl
      | false =>
        rw [hb] at CF
        have CF : C_ (d + 2) mX0_countsFault [.ref 64, .int (nI r)] h = some (some (.int (nI 0)), h) := CF
        rcases Nat.eq_zero_or_pos n with z | z
        · subst z
          have p0 : (0 < nI 0) = False := eq_false (by decide)
          have ea : an_ (here (ro P r)) 0 = false := rfl
          rw [ea]
          simp (disch := first | exact xix_8 n45 (by omega) (by omega) | first | assumption | exact nI_ne0 (by decide) (by decide) | exact zb_01 | exact Or.inl rfl | exact Or.inr rfl | with_unfolding_all exact id (by assumption) | with_unfolding_all exact id (xix_8 (by assumption) (by omega) (by omega)) | omega) only [wX0_isCounted_e, wX0_isCounted_0, wX0_isCounted_1, wX0_isCounted_4, wX0_isCounted_7, wX0_isCounted_8, wX0_isCounted_9, wX0_isCounted_12, wX0_isCounted_15, wX0_isCounted_16, wX0_isCounted_19, wX0_isCounted_20, wX0_isCounted_21, wX0_isCounted_24, wX0_isCounted_27, wX0_isCounted_28, wX0_isCounted_29, wX0_isCounted_30, wX0_isCounted_33, wX0_isCounted_34, wX0_isCounted_37, wX0_isCounted_38, wX0_isCounted_41, wX0_isCounted_42, if_true, if_false, ↓reduceIte, xpu_s, xpu_n, Option.bind_some, xk_i, xk_r, xk_0, xk_u, xk_l, xk_k, xk_q, rf_s, rf_n, o_TI, o_TL, o_TR, o_NI, o_NL, o_NR, o_XI, o_XL, o_XR, o_RI, o_RL, o_LI, o_LR, o_IL, o_IR, o_II, o_LL, o_RR, o_pII, o_pLL, up_s, q_e1, q_e2, Nat.zero_add, Nat.reduceEqDiff, Nat.reduceAdd, Nat.reduceMul, Nat.reduceSub, Nat.reduceLT, Nat.reduceLeDiff, Nat.reduceDiv, Nat.reduceMod, nI_c, nI_add, up_ne, not_true_eq_false, not_false_eq_true, and_self, and_true, true_and, and_false, false_and, or_true, true_or, or_false, false_or, decide_true, decide_false, zb_t, zb_f, zb_0, zb_1, eq_self, cond_true, cond_false, Bool.true_eq_false, Bool.false_eq_true, Bool.and_true, Bool.true_and, Bool.and_false, Bool.false_and, Bool.or_true, Bool.true_or, Bool.or_false, Bool.false_or, IR, CF, nI_00, one_ne0, t17, r45, MA, p0]
          rfl
        · have p0 : (0 < nI n) = True := by rw [nI_gz (by omega)]; exact eq_true z
          have FA := kX0_filledAt (d := d) Q hb z
          have FA : C_ (d + 2) mX0_filledAt [.ref 64, .int (nI r), .int (nI 0)] h = some (some (.int (oe (fil (ro P r) n 0))), h) := FA
          have key : (oe (fil (ro P r) n 0) = -1) = (fil (ro P r) n 0 = none) := oe_m (fun k hk => by have := fil_le hb z hk; omega)
          cases ha : an_ (here (ro P r)) n with
          | true =>
            have f : (fil (ro P r) n 0 = none) = False := eq_false (fun y => by rw [(fil_0.mp y).1] at ha; cases ha)
            rw [f] at key
            simp (disch := first | exact xix_8 n45 (by omega) (by omega) | first | assumption | exact nI_ne0 (by decide) (by decide) | exact zb_01 | exact Or.inl rfl | exact Or.inr rfl | with_unfolding_all exact id (by assumption) | with_unfolding_all exact id (xix_8 (by assumption) (by omega) (by omega)) | omega) only [wX0_isCounted_e, wX0_isCounted_0, wX0_isCounted_1, wX0_isCounted_4, wX0_isCounted_7, wX0_isCounted_8, wX0_isCounted_9, wX0_isCounted_12, wX0_isCounted_15, wX0_isCounted_16, wX0_isCounted_19, wX0_isCounted_20, wX0_isCounted_21, wX0_isCounted_24, wX0_isCounted_27, wX0_isCounted_28, wX0_isCounted_29, wX0_isCounted_30, wX0_isCounted_33, wX0_isCounted_34, wX0_isCounted_37, wX0_isCounted_38, wX0_isCounted_41, wX0_isCounted_42, if_true, if_false, ↓reduceIte, xpu_s, xpu_n, Option.bind_some, xk_i, xk_r, xk_0, xk_u, xk_l, xk_k, xk_q, rf_s, rf_n, o_TI, o_TL, o_TR, o_NI, o_NL, o_NR, o_XI, o_XL, o_XR, o_RI, o_RL, o_LI, o_LR, o_IL, o_IR, o_II, o_LL, o_RR, o_pII, o_pLL, up_s, q_e1, q_e2, Nat.zero_add, Nat.reduceEqDiff, Nat.reduceAdd, Nat.reduceMul, Nat.reduceSub, Nat.reduceLT, Nat.reduceLeDiff, Nat.reduceDiv, Nat.reduceMod, nI_c, nI_add, up_ne, not_true_eq_false, not_false_eq_true, and_self, and_true, true_and, and_false, false_and, or_true, true_or, or_false, false_or, decide_true, decide_false, zb_t, zb_f, zb_0, zb_1, eq_self, cond_true, cond_false, Bool.true_eq_false, Bool.false_eq_true, Bool.and_true, Bool.true_and, Bool.and_false, Bool.false_and, Bool.or_true, Bool.true_or, Bool.or_false, Bool.false_or, IR, CF, nI_00, one_ne0, t17, r45, MA, p0, FA, key, Bool.not_false]
            rfl
          | false =>
            have h0 : here (ro P r) 0 = false := by
              cases y : here (ro P r) 0 with
              | false => rfl
              | true =>
                have : an_ (here (ro P r)) n = true := an_iff.mpr ⟨0, z, y⟩
                rw [ha] at this
                cases this
            have f : (fil (ro P r) n 0 = none) = True := eq_true (fil_0.mpr ⟨ha, h0⟩)
            rw [f] at key
            simp (disch := first | exact xix_8 n45 (by omega) (by omega) | first | assumption | exact nI_ne0 (by decide) (by decide) | exact zb_01 | exact Or.inl rfl | exact Or.inr rfl | with_unfolding_all exact id (by assumption) | with_unfolding_all exact id (xix_8 (by assumption) (by omega) (by omega)) | omega) only [wX0_isCounted_e, wX0_isCounted_0, wX0_isCounted_1, wX0_isCounted_4, wX0_isCounted_7, wX0_isCounted_8, wX0_isCounted_9, wX0_isCounted_12, wX0_isCounted_15, wX0_isCounted_16, wX0_isCounted_19, wX0_isCounted_20, wX0_isCounted_21, wX0_isCounted_24, wX0_isCounted_27, wX0_isCounted_28, wX0_isCounted_29, wX0_isCounted_30, wX0_isCounted_33, wX0_isCounted_34, wX0_isCounted_37, wX0_isCounted_38, wX0_isCounted_41, wX0_isCounted_42, if_true, if_false, ↓reduceIte, xpu_s, xpu_n, Option.bind_some, xk_i, xk_r, xk_0, xk_u, xk_l, xk_k, xk_q, rf_s, rf_n, o_TI, o_TL, o_TR, o_NI, o_NL, o_NR, o_XI, o_XL, o_XR, o_RI, o_RL, o_LI, o_LR, o_IL, o_IR, o_II, o_LL, o_RR, o_pII, o_pLL, up_s, q_e1, q_e2, Nat.zero_add, Nat.reduceEqDiff, Nat.reduceAdd, Nat.reduceMul, Nat.reduceSub, Nat.reduceLT, Nat.reduceLeDiff, Nat.reduceDiv, Nat.reduceMod, nI_c, nI_add, up_ne, not_true_eq_false, not_false_eq_true, and_self, and_true, true_and, and_false, false_and, or_true, true_or, or_false, false_or, decide_true, decide_false, zb_t, zb_f, zb_0, zb_1, eq_self, cond_true, cond_false, Bool.true_eq_false, Bool.false_eq_true, Bool.and_true, Bool.true_and, Bool.and_false, Bool.false_and, Bool.or_true, Bool.true_or, Bool.or_false, Bool.false_or, IR, CF, nI_00, one_ne0, t17, r45, MA, p0, FA, key, Bool.not_false]
            rfl
theorem kX0_slips (x0 : oT h 64 = 1) (Q1 : ∀ u v, XQ (HSl h u v) r n1 e1) (Q2 : ∀ u v, XQ (HSl h u v) t n2 e2) (b1 : big e1 n1 = false) (b2 : big e2 n2 = false) : C_ (d + 3) mX0_slips [.ref 64, .int (nI r), .int (nI t), .int D] (HSl h u v) = some (none, HSl h (sl e1 n1 e2 n2 D).1 (nI (sl e1 n1 e2 n2 D).2)) := by
  have e0 : C_ (d + 3) mX0_slips [.ref 64, .int (nI r), .int (nI t), .int D] (HSl h u v) = E_ (d + 3) mX0_slips 13 [.val (.ref 64), .val (.int (nI r)), .val (.int (nI t)), .val (.int D), .val (.int (nI 0))] [] (HSl h 0 (nI 0)) := by
    simp (disch := first | assumption | exact nI_ne0 (by decide) (by decide) | exact zb_01 | exact Or.inl rfl | exact Or.inr rfl | with_unfolding_all exact id (by assumption) | with_unfolding_all exact id (xix_8 (by assumption) (by omega) (by omega)) | omega) only [wX0_slips_e, wX0_slips_0, wX0_slips_1, wX0_slips_2, wX0_slips_5, wX0_slips_6, wX0_slips_7, wX0_slips_10, wX0_slips_11, wX0_slips_15, wX0_slips_16, wX0_slips_19, wX0_slips_20, wX0_slips_21, wX0_slips_24, wX0_slips_27, wX0_slips_29, wX0_slips_30, wX0_slips_31, wX0_slips_32, wX0_slips_33, wX0_slips_34, wX0_slips_37, wX0_slips_38, wX0_slips_39, wX0_slips_42, wX0_slips_43, wX0_slips_44, wX0_slips_45, wX0_slips_48, wX0_slips_51, wX0_slips_54, wX0_slips_55, wX0_slips_56, wX0_slips_59, wX0_slips_60, wX0_slips_61, wX0_slips_63, wX0_slips_66, wX0_slips_67, wX0_slips_68, wX0_slips_70, wX0_slips_71, wX0_slips_72, wX0_slips_75, wX0_slips_76, wX0_slips_79, wX0_slips_80, wX0_slips_81, wX0_slips_84, wX0_slips_85, wX0_slips_86, wX0_slips_89, wX0_slips_90, wX0_slips_91, wX0_slips_94, wX0_slips_97, wX0_slips_100, if_true, if_false, ↓reduceIte, xpu_s, xpu_n, Option.bind_some, xk_i, xk_r, xk_0, xk_u, xk_l, xk_k, xk_q, rf_s, rf_n, HSl_T, HSl_L, HSl_I, HSl_wI, HSl_wL]
  rw [e0]
  refine lpe_st (n := n1) (s := ((0 : Int64), (0 : Nat))) (z := ()) (f := slF e1 n1 e2 n2 D) (P := fun _ _ _ => True) (Q := fun s e => e = some (none, HSl h s.1 (nI s.2))) (F := fun i s _ => E_ (d + 3) mX0_slips 13 [.val (.ref 64), .val (.int (nI r)), .val (.int (nI t)), .val (.int D), .val (.int (nI i))] [] (HSl h s.1 (nI s.2))) trivial (fun i s _ hi _ => ⟨(), ?_, trivial⟩) (fun s _ _ => ?_)
  · have Q1 := Q1 s.1 (nI s.2)
    have Q2 := Q2 s.1 (nI s.2)
    have FA1 := kX0_filledAt (d := d) Q1 b1 hi
    obtain ⟨-, t17, t45, n45, hr, hn1, r45, t6, -, MA1, -⟩ := Q1
    have Q20 := Q2
    obtain ⟨-, -, -, -, ht, hn2, r45', t6', -, MA2, -⟩ := Q20
    have lt : (nI i < nI n1) = True := eq_true (nI_lt hi (by omega))
    have c1 : (nI r).toNatClampNeg = r := nI_clamp (by omega)
    have c2 : (nI t).toNatClampNeg = t := nI_clamp (by omega)
    refine wX0_slips_13.trans ?_
    unfold slF
    cases hw : wi (nI i + D) (nI 0) (nI n2 - nI 1) with
    | false =>
      simp (disch := first | exact xix_8 n45 (by omega) (by omega) | first | assumption | exact nI_ne0 (by decide) (by decide) | exact zb_01 | exact Or.inl rfl | exact Or.inr rfl | with_unfolding_all exact id (by assumption) | with_unfolding_all exact id (xix_8 (by assumption) (by omega) (by omega)) | omega) only [wX0_slips_e, wX0_slips_0, wX0_slips_1, wX0_slips_2, wX0_slips_5, wX0_slips_6, wX0_slips_7, wX0_slips_10, wX0_slips_11, wX0_slips_15, wX0_slips_16, wX0_slips_19, wX0_slips_20, wX0_slips_21, wX0_slips_24, wX0_slips_27, wX0_slips_29, wX0_slips_30, wX0_slips_31, wX0_slips_32, wX0_slips_33, wX0_slips_34, wX0_slips_37, wX0_slips_38, wX0_slips_39, wX0_slips_42, wX0_slips_43, wX0_slips_44, wX0_slips_45, wX0_slips_48, wX0_slips_51, wX0_slips_54, wX0_slips_55, wX0_slips_56, wX0_slips_59, wX0_slips_60, wX0_slips_61, wX0_slips_63, wX0_slips_66, wX0_slips_67, wX0_slips_68, wX0_slips_70, wX0_slips_71, wX0_slips_72, wX0_slips_75, wX0_slips_76, wX0_slips_79, wX0_slips_80, wX0_slips_81, wX0_slips_84, wX0_slips_85, wX0_slips_86, wX0_slips_89, wX0_slips_90, wX0_slips_91, wX0_slips_94, wX0_slips_97, wX0_slips_100, if_true, if_false, ↓reduceIte, xpu_s, xpu_n, Option.bind_some, xk_i, xk_r, xk_0, xk_u, xk_l, xk_k, xk_q, rf_s, rf_n, q_e1, q_e2, Nat.zero_add, Nat.reduceEqDiff, Nat.reduceAdd, Nat.reduceMul, Nat.reduceSub, Nat.reduceLT, Nat.reduceLeDiff, Nat.reduceDiv, Nat.reduceMod, kX0_in, l6a_0, l6b_0, l6a_1, l6b_1, l6a_2, l6b_2, l6a_3, l6b_3, l6a_4, l6b_4, l6a_5, l6b_5, l6a_7, l6b_7, l6a_20, l6b_20, l6a_30, l6b_30, l6a_39, l6b_39, l6a_40, l6b_40, l6a_60, l6b_60, l6a_99, l6b_99, l6a_100, l6b_100, l6a_200, l6b_200, l6a_300, l6b_300, l6a_600, l6b_600, l6a_999, l6b_999, l6a_1000, l6b_1000, l6a_9999, l6b_9999, l6a_1000000, l6b_1000000, l6a_12, l6b_12, l64_xx, wi_d, one_ne0, zb_0, not_true_eq_false, not_false_eq_true, and_self, and_true, true_and, and_false, false_and, or_true, true_or, or_false, false_or, decide_true, decide_false, zb_t, zb_f, zb_0, zb_1, eq_self, cond_true, cond_false, Bool.true_eq_false, Bool.false_eq_true, Bool.and_true, Bool.true_and, Bool.and_false, Bool.false_and, Bool.or_true, Bool.true_or, Bool.or_false, Bool.false_or, t17, r45, r45', c1, c2, MA1, MA2, lt, hw, nI_add]
    | true =>
      obtain ⟨j, hj, ej⟩ := (wi_ix (n := n2) (by omega)).mp (of_decide_eq_true hw)
      have FA2 := kX0_filledAt (d := d) Q2 b2 hj
      have cj : (nI j).toNatClampNeg = j := nI_clamp (by omega)
      rw [ej] at hw ⊢
      rw [cj]
      simp (disch := first | exact xix_8 n45 (by omega) (by omega) | first | assumption | exact nI_ne0 (by decide) (by decide) | exact zb_01 | exact Or.inl rfl | exact Or.inr rfl | with_unfolding_all exact id (by assumption) | with_unfolding_all exact id (xix_8 (by assumption) (by omega) (by omega)) | omega) only [wX0_slips_e, wX0_slips_0, wX0_slips_1, wX0_slips_2, wX0_slips_5, wX0_slips_6, wX0_slips_7, wX0_slips_10, wX0_slips_11, wX0_slips_15, wX0_slips_16, wX0_slips_19, wX0_slips_20, wX0_slips_21, wX0_slips_24, wX0_slips_27, wX0_slips_29, wX0_slips_30, wX0_slips_31, wX0_slips_32, wX0_slips_33, wX0_slips_34, wX0_slips_37, wX0_slips_38, wX0_slips_39, wX0_slips_42, wX0_slips_43, wX0_slips_44, wX0_slips_45, wX0_slips_48, wX0_slips_51, wX0_slips_54, wX0_slips_55, wX0_slips_56, wX0_slips_59, wX0_slips_60, wX0_slips_61, wX0_slips_63, wX0_slips_66, wX0_slips_67, wX0_slips_68, wX0_slips_70, wX0_slips_71, wX0_slips_72, wX0_slips_75, wX0_slips_76, wX0_slips_79, wX0_slips_80, wX0_slips_81, wX0_slips_84, wX0_slips_85, wX0_slips_86, wX0_slips_89, wX0_slips_90, wX0_slips_91, wX0_slips_94, wX0_slips_97, wX0_slips_100, if_true, if_false, ↓reduceIte, xpu_s, xpu_n, Option.bind_some, xk_i, xk_r, xk_0, xk_u, xk_l, xk_k, xk_q, rf_s, rf_n, q_e1, q_e2, Nat.zero_add, Nat.reduceEqDiff, Nat.reduceAdd, Nat.reduceMul, Nat.reduceSub, Nat.reduceLT, Nat.reduceLeDiff, Nat.reduceDiv, Nat.reduceMod, kX0_in, l6a_0, l6b_0, l6a_1, l6b_1, l6a_2, l6b_2, l6a_3, l6b_3, l6a_4, l6b_4, l6a_5, l6b_5, l6a_7, l6b_7, l6a_20, l6b_20, l6a_30, l6b_30, l6a_39, l6b_39, l6a_40, l6b_40, l6a_60, l6b_60, l6a_99, l6b_99, l6a_100, l6b_100, l6a_200, l6b_200, l6a_300, l6b_300, l6a_600, l6b_600, l6a_999, l6b_999, l6a_1000, l6b_1000, l6a_9999, l6b_9999, l6a_1000000, l6b_1000000, l6a_12, l6b_12, l64_xx, wi_d, one_ne0, zb_0, not_true_eq_false, not_false_eq_true, and_self, and_true, true_and, and_false, false_and, or_true, true_or, or_false, false_or, decide_true, decide_false, zb_t, zb_f, zb_0, zb_1, eq_self, cond_true, cond_false, Bool.true_eq_false, Bool.false_eq_true, Bool.and_true, Bool.true_and, Bool.and_false, Bool.false_and, Bool.or_true, Bool.true_or, Bool.or_false, Bool.false_or, HSl_15, HSl_16, HSl_L, HSl_I, HSl_wI, HSl_wL, t17, r45, r45', c1, c2, MA1, MA2, lt, ej, hw, FA1, FA2, ab_x, nI_add]
  · have Q1 := Q1 s.1 (nI s.2)
    obtain ⟨-, t17, t45, n45, hr, hn1, r45, t6, -, MA1, -⟩ := Q1
    have c1 : (nI r).toNatClampNeg = r := nI_clamp (by omega)
    refine wX0_slips_13.trans ?_
    simp (disch := first | exact xix_8 n45 (by omega) (by omega) | first | assumption | exact nI_ne0 (by decide) (by decide) | exact zb_01 | exact Or.inl rfl | exact Or.inr rfl | with_unfolding_all exact id (by assumption) | with_unfolding_all exact id (xix_8 (by assumption) (by omega) (by omega)) | omega) only [wX0_slips_15, wX0_slips_16, wX0_slips_19, wX0_slips_20, wX0_slips_21, wX0_slips_24, wX0_slips_100, if_true, if_false, ↓reduceIte, xpu_s, xpu_n, Option.bind_some, xk_i, xk_r, xk_0, xk_u, xk_l, xk_k, xk_q, rf_s, rf_n, q_e1, q_e2, Nat.zero_add, Nat.reduceEqDiff, Nat.reduceAdd, Nat.reduceMul, Nat.reduceSub, Nat.reduceLT, Nat.reduceLeDiff, Nat.reduceDiv, Nat.reduceMod, t17, r45, c1, MA1, i_irr, not_true_eq_false, not_false_eq_true, and_self, and_true, true_and, and_false, false_and, or_true, true_or, or_false, false_or, decide_true, decide_false, zb_t, zb_f, zb_0, zb_1, eq_self]
/-- one try of the component's -/
theorem kX0_slA {le : Int64} {bm dd : Nat} (x0 : oT h 64 = 1) (Q1 : ∀ u v, XQ (HSl h u v) r n1 e1) (Q2 : ∀ u v, XQ (HSl h u v) t n2 e2) (b1 : big e1 n1 = false) (b2 : big e2 n2 = false) (hm : bm ≤ 40) (hD : (nI dd < D) = False) : ∃ (u2 : Int64) (v2 : Int32), E_ (d + 4) mX0_slip 58 [.val (.ref 64), .val (.int (nI r)), .val (.int (nI t)), .val (.int b), .val (.long le), .unset, .val (.int (nI bm)), .val (.int (nI dd)), .val (.int D)] [] (HSl h u v) = E_ (d + 4) mX0_slip 58 [.val (.ref 64), .val (.int (nI r)), .val (.int (nI t)), .val (.int (slS e1 n1 e2 n2 D (b, bm, le)).1), .val (.long (slS e1 n1 e2 n2 D (b, bm, le)).2.2), .unset, .val (.int (nI (slS e1 n1 e2 n2 D (b, bm, le)).2.1)), .val (.int (nI dd)), .val (.int (D + nI 2 * nI dd))] [] (HSl h u2 v2) := by
  have SL := kX0_slips (d := d) (D := D) (u := u) (v := v) x0 Q1 Q2 b1 b2
  have le1 := sl_le (e1 := e1) (n1 := n1) (e2 := e2) (n2 := n2) (D := D)
  have q4 : n1 ≤ 40 := (Q1 0 0).2.2.2.2.2.1
  refine ⟨(sl e1 n1 e2 n2 D).1, nI (sl e1 n1 e2 n2 D).2, ?_⟩
  unfold slS
  generalize sl e1 n1 e2 n2 D = S at *
  obtain ⟨S1, S2⟩ := S
  have le1 : S2 ≤ n1 := le1
  have l1 : (nI bm).toInt64 = lN bm := nI_l (by omega)
  have l2 : (nI S2).toInt64 = lN S2 := nI_l (by omega)
  refine wX0_slip_58.trans ?_
  by_cases g0 : S2 = 0
  · subst g0
    simp (disch := first | assumption | exact nI_ne0 (by decide) (by decide) | exact zb_01 | exact Or.inl rfl | exact Or.inr rfl | with_unfolding_all exact id (by assumption) | with_unfolding_all exact id (xix_8 (by assumption) (by omega) (by omega)) | omega) only [wX0_slip_e, wX0_slip_0, wX0_slip_1, wX0_slip_2, wX0_slip_5, wX0_slip_8, wX0_slip_9, wX0_slip_10, wX0_slip_13, wX0_slip_16, wX0_slip_17, wX0_slip_19, wX0_slip_22, wX0_slip_23, wX0_slip_24, wX0_slip_25, wX0_slip_26, wX0_slip_27, wX0_slip_28, wX0_slip_29, wX0_slip_32, wX0_slip_33, wX0_slip_36, wX0_slip_38, wX0_slip_39, wX0_slip_42, wX0_slip_44, wX0_slip_45, wX0_slip_49, wX0_slip_50, wX0_slip_53, wX0_slip_55, wX0_slip_56, wX0_slip_60, wX0_slip_62, wX0_slip_65, wX0_slip_66, wX0_slip_67, wX0_slip_68, wX0_slip_70, wX0_slip_73, wX0_slip_74, wX0_slip_77, wX0_slip_80, wX0_slip_81, wX0_slip_84, wX0_slip_86, wX0_slip_87, wX0_slip_88, wX0_slip_90, wX0_slip_91, wX0_slip_94, wX0_slip_95, wX0_slip_96, wX0_slip_97, wX0_slip_100, wX0_slip_103, wX0_slip_105, wX0_slip_106, wX0_slip_107, wX0_slip_110, wX0_slip_112, wX0_slip_113, wX0_slip_116, wX0_slip_118, wX0_slip_120, wX0_slip_121, wX0_slip_123, wX0_slip_124, wX0_slip_125, wX0_slip_127, wX0_slip_130, wX0_slip_133, wX0_slip_136, wX0_slip_137, if_true, if_false, ↓reduceIte, xpu_s, xpu_n, Option.bind_some, xk_i, xk_r, xk_0, xk_u, xk_l, xk_k, xk_q, rf_s, rf_n, HSl_T, HSl_15, HSl_16, SL, hD, nI_00, not_true_eq_false, not_false_eq_true, and_self, and_true, true_and, and_false, false_and, or_true, true_or, or_false, false_or, decide_true, decide_false, zb_t, zb_f, zb_0, zb_1, eq_self, cond_true, cond_false, Bool.true_eq_false, Bool.false_eq_true, Bool.and_true, Bool.true_and, Bool.and_false, Bool.false_and, Bool.or_true, Bool.true_or, Bool.or_false, Bool.false_or]
  · have m0 : (nI S2 = 0) = False := by rw [nI_z (by omega)]; exact eq_false g0
    have g0' : (S2 = 0) = False := eq_false g0
    by_cases g1 : S1 * lN bm < le * lN S2
    · simp (disch := first | assumption | exact nI_ne0 (by decide) (by decide) | exact zb_01 | exact Or.inl rfl | exact Or.inr rfl | with_unfolding_all exact id (by assumption) | with_unfolding_all exact id (xix_8 (by assumption) (by omega) (by omega)) | omega) only [wX0_slip_e, wX0_slip_0, wX0_slip_1, wX0_slip_2, wX0_slip_5, wX0_slip_8, wX0_slip_9, wX0_slip_10, wX0_slip_13, wX0_slip_16, wX0_slip_17, wX0_slip_19, wX0_slip_22, wX0_slip_23, wX0_slip_24, wX0_slip_25, wX0_slip_26, wX0_slip_27, wX0_slip_28, wX0_slip_29, wX0_slip_32, wX0_slip_33, wX0_slip_36, wX0_slip_38, wX0_slip_39, wX0_slip_42, wX0_slip_44, wX0_slip_45, wX0_slip_49, wX0_slip_50, wX0_slip_53, wX0_slip_55, wX0_slip_56, wX0_slip_60, wX0_slip_62, wX0_slip_65, wX0_slip_66, wX0_slip_67, wX0_slip_68, wX0_slip_70, wX0_slip_73, wX0_slip_74, wX0_slip_77, wX0_slip_80, wX0_slip_81, wX0_slip_84, wX0_slip_86, wX0_slip_87, wX0_slip_88, wX0_slip_90, wX0_slip_91, wX0_slip_94, wX0_slip_95, wX0_slip_96, wX0_slip_97, wX0_slip_100, wX0_slip_103, wX0_slip_105, wX0_slip_106, wX0_slip_107, wX0_slip_110, wX0_slip_112, wX0_slip_113, wX0_slip_116, wX0_slip_118, wX0_slip_120, wX0_slip_121, wX0_slip_123, wX0_slip_124, wX0_slip_125, wX0_slip_127, wX0_slip_130, wX0_slip_133, wX0_slip_136, wX0_slip_137, if_true, if_false, ↓reduceIte, xpu_s, xpu_n, Option.bind_some, xk_i, xk_r, xk_0, xk_u, xk_l, xk_k, xk_q, rf_s, rf_n, HSl_T, HSl_15, HSl_16, SL, hD, m0, l1, l2, lc_l, g1, g0', not_true_eq_false, not_false_eq_true, and_self, and_true, true_and, and_false, false_and, or_true, true_or, or_false, false_or, decide_true, decide_false, zb_t, zb_f, zb_0, zb_1, eq_self, cond_true, cond_false, Bool.true_eq_false, Bool.false_eq_true, Bool.and_true, Bool.true_and, Bool.and_false, Bool.false_and, Bool.or_true, Bool.true_or, Bool.or_false, Bool.false_or, Bool.not_true]
    · simp (disch := first | assumption | exact nI_ne0 (by decide) (by decide) | exact zb_01 | exact Or.inl rfl | exact Or.inr rfl | with_unfolding_all exact id (by assumption) | with_unfolding_all exact id (xix_8 (by assumption) (by omega) (by omega)) | omega) only [wX0_slip_e, wX0_slip_0, wX0_slip_1, wX0_slip_2, wX0_slip_5, wX0_slip_8, wX0_slip_9, wX0_slip_10, wX0_slip_13, wX0_slip_16, wX0_slip_17, wX0_slip_19, wX0_slip_22, wX0_slip_23, wX0_slip_24, wX0_slip_25, wX0_slip_26, wX0_slip_27, wX0_slip_28, wX0_slip_29, wX0_slip_32, wX0_slip_33, wX0_slip_36, wX0_slip_38, wX0_slip_39, wX0_slip_42, wX0_slip_44, wX0_slip_45, wX0_slip_49, wX0_slip_50, wX0_slip_53, wX0_slip_55, wX0_slip_56, wX0_slip_60, wX0_slip_62, wX0_slip_65, wX0_slip_66, wX0_slip_67, wX0_slip_68, wX0_slip_70, wX0_slip_73, wX0_slip_74, wX0_slip_77, wX0_slip_80, wX0_slip_81, wX0_slip_84, wX0_slip_86, wX0_slip_87, wX0_slip_88, wX0_slip_90, wX0_slip_91, wX0_slip_94, wX0_slip_95, wX0_slip_96, wX0_slip_97, wX0_slip_100, wX0_slip_103, wX0_slip_105, wX0_slip_106, wX0_slip_107, wX0_slip_110, wX0_slip_112, wX0_slip_113, wX0_slip_116, wX0_slip_118, wX0_slip_120, wX0_slip_121, wX0_slip_123, wX0_slip_124, wX0_slip_125, wX0_slip_127, wX0_slip_130, wX0_slip_133, wX0_slip_136, wX0_slip_137, if_true, if_false, ↓reduceIte, xpu_s, xpu_n, Option.bind_some, xk_i, xk_r, xk_0, xk_u, xk_l, xk_k, xk_q, rf_s, rf_n, HSl_T, HSl_15, HSl_16, SL, hD, m0, l1, l2, lc_l, g1, g0', not_true_eq_false, not_false_eq_true, and_self, and_true, true_and, and_false, false_and, or_true, true_or, or_false, false_or, decide_true, decide_false, zb_t, zb_f, zb_0, zb_1, eq_self, cond_true, cond_false, Bool.true_eq_false, Bool.false_eq_true, Bool.and_true, Bool.true_and, Bool.and_false, Bool.false_and, Bool.or_true, Bool.true_or, Bool.or_false, Bool.false_or, Bool.not_false]
/-- both tries of one distance -/
theorem kX0_slB {dd : Nat} {z8 : Slot} {D1 : Int32} (S : Int32 × Nat × Int64) (x0 : oT h 64 = 1) (Q1 : ∀ u v, XQ (HSl h u v) r n1 e1) (Q2 : ∀ u v, XQ (HSl h u v) t n2 e2) (b1 : big e1 n1 = false) (b2 : big e2 n2 = false) (h0 : 0 < S.2.1) (hm : S.2.1 ≤ 40) (c0 : (nI 3 < nI dd) = False) (c1 : -nI dd = D1) (c2 : (nI dd < D1) = False) (c3 : D1 + nI 2 * nI dd = nI dd) (c4 : (nI dd < nI dd + nI 2 * nI dd) = True) : ∃ (u2 : Int64) (v2 : Int32) (w8 : Slot), E_ (d + 4) mX0_slip 47 [.val (.ref 64), .val (.int (nI r)), .val (.int (nI t)), .val (.int S.1), .val (.long S.2.2), .unset, .val (.int (nI S.2.1)), .val (.int (nI dd)), z8] [] (HSl h u v) = E_ (d + 4) mX0_slip 47 [.val (.ref 64), .val (.int (nI r)), .val (.int (nI t)), .val (.int (slS e1 n1 e2 n2 (nI dd) (slS e1 n1 e2 n2 D1 S)).1), .val (.long (slS e1 n1 e2 n2 (nI dd) (slS e1 n1 e2 n2 D1 S)).2.2), .unset, .val (.int (nI (slS e1 n1 e2 n2 (nI dd) (slS e1 n1 e2 n2 D1 S)).2.1)), .val (.int (nI (dd + 1))), w8] [] (HSl h u2 v2) := by
  have q4 : n1 ≤ 40 := (Q1 0 0).2.2.2.2.2.1
  have s1 := slS_le (e1 := e1) (n1 := n1) (e2 := e2) (n2 := n2) (D := D1) h0 hm q4
  obtain ⟨u1, v1, g1⟩ := kX0_slA (d := d) (b := S.1) (le := S.2.2) (bm := S.2.1) (u := u) (v := v) x0 Q1 Q2 b1 b2 hm c2
  obtain ⟨u2, v2, g2⟩ := kX0_slA (d := d) (b := (slS e1 n1 e2 n2 D1 S).1) (le := (slS e1 n1 e2 n2 D1 S).2.2) (bm := (slS e1 n1 e2 n2 D1 S).2.1) (u := u1) (v := v1) (D := nI dd) (dd := dd) x0 Q1 Q2 b1 b2 s1.2 i_irr
  rw [c3] at g1
  refine ⟨u2, v2, .val (.int (nI dd + nI 2 * nI dd)), ?_⟩
  have e0 : E_ (d + 4) mX0_slip 47 [.val (.ref 64), .val (.int (nI r)), .val (.int (nI t)), .val (.int S.1), .val (.long S.2.2), .unset, .val (.int (nI S.2.1)), .val (.int (nI dd)), z8] [] (HSl h u v) = E_ (d + 4) mX0_slip 58 [.val (.ref 64), .val (.int (nI r)), .val (.int (nI t)), .val (.int S.1), .val (.long S.2.2), .unset, .val (.int (nI S.2.1)), .val (.int (nI dd)), .val (.int D1)] [] (HSl h u v) := by
    refine wX0_slip_47.trans ?_
    simp (disch := first | assumption | exact nI_ne0 (by decide) (by decide) | exact zb_01 | exact Or.inl rfl | exact Or.inr rfl | with_unfolding_all exact id (by assumption) | with_unfolding_all exact id (xix_8 (by assumption) (by omega) (by omega)) | omega) only [wX0_slip_49, wX0_slip_50, wX0_slip_53, wX0_slip_55, wX0_slip_56, if_true, if_false, ↓reduceIte, xpu_s, xpu_n, Option.bind_some, xk_i, xk_r, xk_0, xk_u, xk_l, xk_k, xk_q, rf_s, rf_n, c0, c1, not_true_eq_false, not_false_eq_true, and_self, and_true, true_and, and_false, false_and, or_true, true_or, or_false, false_or, decide_true, decide_false, zb_t, zb_f, zb_0, zb_1, eq_self]
  refine ((e0.trans g1).trans g2).trans ?_
  show E_ (d + 4) mX0_slip 58 [.val (.ref 64), .val (.int (nI r)), .val (.int (nI t)), .val (.int (slS e1 n1 e2 n2 (nI dd) (slS e1 n1 e2 n2 D1 S)).1), .val (.long (slS e1 n1 e2 n2 (nI dd) (slS e1 n1 e2 n2 D1 S)).2.2), .unset, .val (.int (nI (slS e1 n1 e2 n2 (nI dd) (slS e1 n1 e2 n2 D1 S)).2.1)), .val (.int (nI dd)), .val (.int (nI dd + nI 2 * nI dd))] [] (HSl h u2 v2) = _
  generalize slS e1 n1 e2 n2 (nI dd) (slS e1 n1 e2 n2 D1 S) = SS
  refine wX0_slip_58.trans ?_
  simp (disch := first | assumption | exact nI_ne0 (by decide) (by decide) | exact zb_01 | exact Or.inl rfl | exact Or.inr rfl | with_unfolding_all exact id (by assumption) | with_unfolding_all exact id (xix_8 (by assumption) (by omega) (by omega)) | omega) only [wX0_slip_60, wX0_slip_62, wX0_slip_130, wX0_slip_133, if_true, if_false, ↓reduceIte, xpu_s, xpu_n, Option.bind_some, xk_i, xk_r, xk_0, xk_u, xk_l, xk_k, xk_q, rf_s, rf_n, c4, nI_add, not_true_eq_false, not_false_eq_true, and_self, and_true, true_and, and_false, false_and, or_true, true_or, or_false, false_or, decide_true, decide_false, zb_t, zb_f, zb_0, zb_1, eq_self]
theorem nX0_slip (X : XR h P) (W : WF P) : XG (d + 4) h mX0_slip [.ref 64, .int x, .int y] (q_slip P x y) := by
  have T := XR_T X
  have x0 := T.1.1
  have no := fun k : Int32 => kX0_no (d := d + 3) T (k := k)
  have I1 := kX0_isCounted (d := d) (x := x) X W
  have I2 := kX0_isCounted (d := d) (x := y) X W
  unfold q_slip
  cases h1 : isc P x with
  | false =>
    rw [h1] at I1
    refine XG_n0 X ?_
    simp (disch := first | assumption | exact nI_ne0 (by decide) (by decide) | exact zb_01 | exact Or.inl rfl | exact Or.inr rfl | with_unfolding_all exact id (by assumption) | with_unfolding_all exact id (xix_8 (by assumption) (by omega) (by omega)) | omega) only [wX0_slip_e, wX0_slip_0, wX0_slip_1, wX0_slip_2, wX0_slip_5, wX0_slip_8, wX0_slip_9, wX0_slip_10, wX0_slip_13, wX0_slip_16, wX0_slip_17, wX0_slip_19, wX0_slip_22, wX0_slip_23, wX0_slip_24, wX0_slip_25, wX0_slip_26, wX0_slip_27, wX0_slip_28, wX0_slip_29, wX0_slip_32, wX0_slip_33, wX0_slip_36, wX0_slip_38, wX0_slip_39, wX0_slip_42, wX0_slip_44, wX0_slip_45, wX0_slip_49, wX0_slip_50, wX0_slip_53, wX0_slip_55, wX0_slip_56, wX0_slip_60, wX0_slip_62, wX0_slip_65, wX0_slip_66, wX0_slip_67, wX0_slip_68, wX0_slip_70, wX0_slip_73, wX0_slip_74, wX0_slip_77, wX0_slip_80, wX0_slip_81, wX0_slip_84, wX0_slip_86, wX0_slip_87, wX0_slip_88, wX0_slip_90, wX0_slip_91, wX0_slip_94, wX0_slip_95, wX0_slip_96, wX0_slip_97, wX0_slip_100, wX0_slip_103, wX0_slip_105, wX0_slip_106, wX0_slip_107, wX0_slip_110, wX0_slip_112, wX0_slip_113, wX0_slip_116, wX0_slip_118, wX0_slip_120, wX0_slip_121, wX0_slip_123, wX0_slip_124, wX0_slip_125, wX0_slip_127, wX0_slip_130, wX0_slip_133, wX0_slip_136, wX0_slip_137, if_true, if_false, ↓reduceIte, xpu_s, xpu_n, Option.bind_some, xk_i, xk_r, xk_0, xk_u, xk_l, xk_k, xk_q, rf_s, rf_n, o_TI, o_TL, o_TR, o_NI, o_NL, o_NR, o_XI, o_XL, o_XR, o_RI, o_RL, o_LI, o_LR, o_IL, o_IR, o_II, o_LL, o_RR, o_pII, o_pLL, up_s, q_e1, q_e2, Nat.zero_add, Nat.reduceEqDiff, Nat.reduceAdd, Nat.reduceMul, Nat.reduceSub, Nat.reduceLT, Nat.reduceLeDiff, Nat.reduceDiv, Nat.reduceMod, nI_c, nI_add, up_ne, not_true_eq_false, not_false_eq_true, and_self, and_true, true_and, and_false, false_and, or_true, true_or, or_false, false_or, decide_true, decide_false, zb_t, zb_f, zb_0, zb_1, eq_self, cond_true, cond_false, Bool.true_eq_false, Bool.false_eq_true, Bool.and_true, Bool.true_and, Bool.and_false, Bool.false_and, Bool.or_true, Bool.true_or, Bool.or_false, Bool.false_or, nx_2, nx_3, nx_5, nx_6, nx_7, nx_f, nx_s, nx_w, ns_2, ns_3, ns_5, ns_6, ns_7, no, I1]
  | true =>
    rw [h1] at I1
    cases h2 : isc P y with
    | false =>
      rw [h2] at I2
      refine XG_n0 X ?_
      simp (disch := first | assumption | exact nI_ne0 (by decide) (by decide) | exact zb_01 | exact Or.inl rfl | exact Or.inr rfl | with_unfolding_all exact id (by assumption) | with_unfolding_all exact id (xix_8 (by assumption) (by omega) (by omega)) | omega) only [wX0_slip_e, wX0_slip_0, wX0_slip_1, wX0_slip_2, wX0_slip_5, wX0_slip_8, wX0_slip_9, wX0_slip_10, wX0_slip_13, wX0_slip_16, wX0_slip_17, wX0_slip_19, wX0_slip_22, wX0_slip_24, wX0_slip_25, wX0_slip_26, wX0_slip_27, wX0_slip_28, wX0_slip_29, wX0_slip_32, wX0_slip_33, wX0_slip_36, wX0_slip_38, wX0_slip_39, wX0_slip_42, wX0_slip_44, wX0_slip_45, wX0_slip_49, wX0_slip_50, wX0_slip_53, wX0_slip_55, wX0_slip_56, wX0_slip_60, wX0_slip_62, wX0_slip_65, wX0_slip_66, wX0_slip_67, wX0_slip_68, wX0_slip_70, wX0_slip_73, wX0_slip_74, wX0_slip_77, wX0_slip_80, wX0_slip_81, wX0_slip_84, wX0_slip_86, wX0_slip_87, wX0_slip_88, wX0_slip_90, wX0_slip_91, wX0_slip_94, wX0_slip_95, wX0_slip_96, wX0_slip_97, wX0_slip_100, wX0_slip_103, wX0_slip_105, wX0_slip_106, wX0_slip_107, wX0_slip_110, wX0_slip_112, wX0_slip_113, wX0_slip_116, wX0_slip_118, wX0_slip_120, wX0_slip_121, wX0_slip_123, wX0_slip_124, wX0_slip_125, wX0_slip_127, wX0_slip_130, wX0_slip_133, wX0_slip_136, wX0_slip_137, if_true, if_false, ↓reduceIte, xpu_s, xpu_n, Option.bind_some, xk_i, xk_r, xk_0, xk_u, xk_l, xk_k, xk_q, rf_s, rf_n, o_TI, o_TL, o_TR, o_NI, o_NL, o_NR, o_XI, o_XL, o_XR, o_RI, o_RL, o_LI, o_LR, o_IL, o_IR, o_II, o_LL, o_RR, o_pII, o_pLL, up_s, q_e1, q_e2, Nat.zero_add, Nat.reduceEqDiff, Nat.reduceAdd, Nat.reduceMul, Nat.reduceSub, Nat.reduceLT, Nat.reduceLeDiff, Nat.reduceDiv, Nat.reduceMod, nI_c, nI_add, up_ne, not_true_eq_false, not_false_eq_true, and_self, and_true, true_and, and_false, false_and, or_true, true_or, or_false, false_or, decide_true, decide_false, zb_t, zb_f, zb_0, zb_1, eq_self, cond_true, cond_false, Bool.true_eq_false, Bool.false_eq_true, Bool.and_true, Bool.true_and, Bool.and_false, Bool.false_and, Bool.or_true, Bool.true_or, Bool.or_false, Bool.false_or, nx_2, nx_3, nx_5, nx_6, nx_7, nx_f, nx_s, nx_w, ns_2, ns_3, ns_5, ns_6, ns_7, no, I1, I2, one_ne0]
    | true =>
      rw [h2] at I2
      obtain ⟨r, s, n1, hr, rfl, a1, a2, a3, a4, a5, a6, a7, a8⟩ := isc_t W h1
      obtain ⟨t, s2, n2, ht, rfl, b1, b2, b3, b4, b5, b6, b7, b8⟩ := isc_t W h2
      rw [nI_clamp (show r < 2147483648 by omega), nI_clamp (show t < 2147483648 by omega), a5, b5]
      have Q1 : ∀ u v, XQ (HSl h u v) r n1 (ro P r) := fun u v => XQ_at (XR_HSl X) W hr a2 a4 a3
      have Q2 : ∀ u v, XQ (HSl h u v) t n2 (ro P t) := fun u v => XQ_at (XR_HSl X) W ht b2 b4 b3
      have S0 : C_ (d + 3) mX0_slips [.ref 64, .int (nI r), .int (nI t), .int (nI 0)] h = some (none, HSl h (sl (ro P r) n1 (ro P t) n2 (nI 0)).1 (nI (sl (ro P r) n1 (ro P t) n2 (nI 0)).2)) := by
        have := kX0_slips (d := d) (D := nI 0) (u := oL h 64 15) (v := oI h 64 16) x0 Q1 Q2 a7 b7
        rw [← HSl_0] at this
        exact this
      have s0 : 0 < (sl0 (ro P r) n1 (ro P t) n2).2.1 ∧ (sl0 (ro P r) n1 (ro P t) n2).2.1 ≤ 40 := ⟨sl_0 a8 b8 b4, Nat.le_trans sl_le a4⟩
      have s1 := slS_le (e1 := ro P r) (n1 := n1) (e2 := ro P t) (n2 := n2) (D := -1) s0.1 s0.2 a4
      have s2 := slS_le (e1 := ro P r) (n1 := n1) (e2 := ro P t) (n2 := n2) (D := nI 1) s1.1 s1.2 a4
      have s3 := slS_le (e1 := ro P r) (n1 := n1) (e2 := ro P t) (n2 := n2) (D := -2) s2.1 s2.2 a4
      have s4 := slS_le (e1 := ro P r) (n1 := n1) (e2 := ro P t) (n2 := n2) (D := nI 2) s3.1 s3.2 a4
      obtain ⟨u1, v1, w1, g1⟩ := kX0_slB (d := d) (dd := 1) (D1 := -1) (z8 := .unset) (u := (sl (ro P r) n1 (ro P t) n2 (nI 0)).1) (v := nI (sl (ro P r) n1 (ro P t) n2 (nI 0)).2) (sl0 (ro P r) n1 (ro P t) n2) x0 Q1 Q2 a7 b7 s0.1 s0.2 (eq_false (by decide)) (by decide) (eq_false (by decide)) (by decide) (eq_true (by decide))
      obtain ⟨u2, v2, w2, g2⟩ := kX0_slB (d := d) (dd := 2) (D1 := -2) (z8 := w1) (u := u1) (v := v1) _ x0 Q1 Q2 a7 b7 s2.1 s2.2 (eq_false (by decide)) (by decide) (eq_false (by decide)) (by decide) (eq_true (by decide))
      obtain ⟨u3, v3, w3, g3⟩ := kX0_slB (d := d) (dd := 3) (D1 := -3) (z8 := w2) (u := u2) (v := v2) _ x0 Q1 Q2 a7 b7 s4.1 s4.2 (eq_false (by decide)) (by decide) (eq_false (by decide)) (by decide) (eq_true (by decide))
      refine ⟨HSl h u3 v3, ?_, XR_HSl X, KM_HSl, Nat.le_add_right _ _, Nat.le_add_right _ _⟩
      have e0 : C_ (d + 4) mX0_slip [.ref 64, .int (nI r), .int (nI t)] h = E_ (d + 4) mX0_slip 47 [.val (.ref 64), .val (.int (nI r)), .val (.int (nI t)), .val (.int (sl0 (ro P r) n1 (ro P t) n2).1), .val (.long (sl0 (ro P r) n1 (ro P t) n2).2.2), .unset, .val (.int (nI (sl0 (ro P r) n1 (ro P t) n2).2.1)), .val (.int (nI 1)), .unset] [] (HSl h (sl (ro P r) n1 (ro P t) n2 (nI 0)).1 (nI (sl (ro P r) n1 (ro P t) n2 (nI 0)).2)) := by
        simp (disch := first | assumption | exact nI_ne0 (by decide) (by decide) | exact zb_01 | exact Or.inl rfl | exact Or.inr rfl | with_unfolding_all exact id (by assumption) | with_unfolding_all exact id (xix_8 (by assumption) (by omega) (by omega)) | omega) only [wX0_slip_e, wX0_slip_0, wX0_slip_1, wX0_slip_2, wX0_slip_5, wX0_slip_8, wX0_slip_9, wX0_slip_10, wX0_slip_13, wX0_slip_16, wX0_slip_17, wX0_slip_19, wX0_slip_22, wX0_slip_23, wX0_slip_24, wX0_slip_25, wX0_slip_26, wX0_slip_27, wX0_slip_28, wX0_slip_29, wX0_slip_32, wX0_slip_33, wX0_slip_36, wX0_slip_38, wX0_slip_39, wX0_slip_42, wX0_slip_44, wX0_slip_45, wX0_slip_49, wX0_slip_50, wX0_slip_53, wX0_slip_55, wX0_slip_56, wX0_slip_60, wX0_slip_62, wX0_slip_65, wX0_slip_66, wX0_slip_67, wX0_slip_68, wX0_slip_70, wX0_slip_73, wX0_slip_74, wX0_slip_77, wX0_slip_80, wX0_slip_81, wX0_slip_84, wX0_slip_86, wX0_slip_87, wX0_slip_88, wX0_slip_90, wX0_slip_91, wX0_slip_94, wX0_slip_95, wX0_slip_96, wX0_slip_97, wX0_slip_100, wX0_slip_103, wX0_slip_105, wX0_slip_106, wX0_slip_107, wX0_slip_110, wX0_slip_112, wX0_slip_113, wX0_slip_116, wX0_slip_118, wX0_slip_120, wX0_slip_121, wX0_slip_123, wX0_slip_124, wX0_slip_125, wX0_slip_127, wX0_slip_130, wX0_slip_133, wX0_slip_136, wX0_slip_137, if_true, if_false, ↓reduceIte, xpu_s, xpu_n, Option.bind_some, xk_i, xk_r, xk_0, xk_u, xk_l, xk_k, xk_q, rf_s, rf_n, not_true_eq_false, not_false_eq_true, and_self, and_true, true_and, and_false, false_and, or_true, true_or, or_false, false_or, decide_true, decide_false, zb_t, zb_f, zb_0, zb_1, eq_self, cond_true, cond_false, Bool.true_eq_false, Bool.false_eq_true, Bool.and_true, Bool.true_and, Bool.and_false, Bool.false_and, Bool.or_true, Bool.true_or, Bool.or_false, Bool.false_or, I1, I2, one_ne0, zb_t, nI_ne1, S0, HSl_T, HSl_15, HSl_16]
        rfl
      refine ((((e0.trans g1).trans g2).trans g3).trans ?_)
      show E_ (d + 4) mX0_slip 47 [.val (.ref 64), .val (.int (nI r)), .val (.int (nI t)), .val (.int (slp (ro P r) n1 (ro P t) n2)), _, .unset, _, .val (.int (nI 4)), w3] [] (HSl h u3 v3) = some (some (Value.int (slp (ro P r) n1 (ro P t) n2)), HSl h u3 v3)
      have c4 : (nI 3 < nI 4) = True := eq_true (by decide)
      refine wX0_slip_47.trans ?_
      simp (disch := first | assumption | exact nI_ne0 (by decide) (by decide) | exact zb_01 | exact Or.inl rfl | exact Or.inr rfl | with_unfolding_all exact id (by assumption) | with_unfolding_all exact id (xix_8 (by assumption) (by omega) (by omega)) | omega) only [wX0_slip_49, wX0_slip_50, wX0_slip_136, wX0_slip_137, if_true, if_false, ↓reduceIte, xpu_s, xpu_n, Option.bind_some, xk_i, xk_r, xk_0, xk_u, xk_l, xk_k, xk_q, rf_s, rf_n, c4, not_true_eq_false, not_false_eq_true, and_self, and_true, true_and, and_false, false_and, or_true, true_or, or_false, false_or, decide_true, decide_false, zb_t, zb_f, zb_0, zb_1, eq_self]
end
