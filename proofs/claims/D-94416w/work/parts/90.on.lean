/-! CALLS: a line repealed -/
section
variable {d : Nat} {h h1 h2 : xH} {P : sS} {A B : rI} {x : Int32} {ow : Nat → Nat} {s cc l k n t : Nat} {w : rI}
def q_repeals (P : sS) (x : Int32) : sV := bif wi x (nI 0) (pA P 40 - nI 1) then vl P (oB (wo (pA P) x.toNatClampNeg) (pA P 34) - oB (pA P) (pA P 34)) else nl P (-2)
theorem RA_up34 {v : Int32} (W : WFs A) (k : Nat) : RA (fun c => c) (va_up A 34 v) (va_up (wo A k) 34 v) := by
  have n1 : sN (va_up A 34 v) = sN A := sN_up (by omega)
  have n2 : sN (va_up (wo A k) 34 v) = sN A := by rw [sN_up (by omega)]; unfold sN; rw [wo_lo (by omega)]
  unfold RA
  rw [n1, n2]
  refine ⟨W.2.1, fun c hc => hc, fun j c hj _ => hj, fun c hc => ?_, ?_, ?_, ?_, ?_, ?_, ?_⟩
  · have := W.2.1
    have hc' : c < sN A := hc
    show va_up A 34 v (2 + c) = va_up (wo A k) 34 v (2 + c) ∧ va_up A 34 v (26 + c) = va_up (wo A k) 34 v (26 + c)
    rw [up_ne (by omega), up_ne (by omega), up_ne (by omega), up_ne (by omega), wo_lo (by omega), wo_lo (by omega)]; exact ⟨rfl, rfl⟩
  · rw [up_ne (by omega), up_ne (by omega), wo_lo (by omega)]
  · rw [up_s, up_s]
  all_goals rw [up_ne (by omega), up_ne (by omega), wo_lo (by omega)]
theorem wo_up {v : Int32} : va_up (wo A k) 34 v = wo (va_up A 34 v) k := by
  funext i
  have e : sNl (va_up A 34 v) = sNl A := by unfold sNl; rw [up_ne (by omega)]
  by_cases z : i = 34
  · rw [z, up_s, wo_lo (by omega), up_s]
  · rw [up_ne z]
    unfold wo
    rw [e]
    split
    · rfl
    · split
      · rw [up_ne (by omega)]
      · rw [up_ne z]
/-- odds without a line of the law, both ways told -/
theorem oB_wo (W : WFs A) (WL : WFl A) (hk : k < sNl A) (ht : t < 256) {u : rI} : (sOd (va_up A 34 (nI t)) u (nI k) (-1)).1 0 = oB (wo A k) (nI t) := by
  have W1 := WFs_34 W ht
  have WL1 : WFl (va_up A 34 (nI t)) := WFl_A (fun k _ _ => up_ne (by omega)) WL
  have e1 : sNl (va_up A 34 (nI t)) = sNl A := by unfold sNl; rw [up_ne (by omega)]
  have H := HS_wo (k := k) W1 WL1 (by rw [e1]; exact hk)
  have W2 := W.2.1
  have n1 : sN (va_up A 34 (nI t)) = sN A := sN_up (by omega)
  have n2 : sN (wo (va_up A 34 (nI t)) k) = sN A := by unfold sN; rw [wo_lo (by omega), up_ne (by omega)]
  have ul := ud_le (n := sN (wo (va_up A 34 (nI t)) k)) (w := sBg (wo (va_up A 34 (nI t)) k) (fun _ => nI 0) (-1) (nI 0))
  have ra : RA (fun c => c) (va_up A 34 (nI t)) (wo (va_up A 34 (nI t)) k) := by
    have := RA_up34 (A := A) (v := nI t) W k
    rw [wo_up] at this
    exact this
  have rw_ : RW (fun c => c) (va_up A 34 (nI t)) (wo (va_up A 34 (nI t)) k) (sBg (va_up A 34 (nI t)) u (-1) (nI 0)) (sBg (wo (va_up A 34 (nI t)) k) (fun _ => nI 0) (-1) (nI 0)) := by
    generalize va_up A 34 (nI t) = C at *
    have eb : ∀ j, j < 8 → sBp (wo C k) j = sBp C j := fun j hj => by
      unfold sBp sT
      rw [wo_lo (by omega), wo_lo (by omega)]
    have e : ∀ j, j < 42 → sBg C u (-1) (nI 0) j = sBg (wo C k) (fun _ => nI 0) (-1) (nI 0) j := by
      intro j hj
      unfold sBg va_up sB0
      rw [n1, n2]
      split
      · rfl
      · split
        · rfl
        · split
          · rename_i q
            rw [wo_lo (by omega)]
          · split
            · rw [eb _ (by omega)]
            · first | rfl | (split <;> first | rfl | omega)
    unfold RW
    rw [n1, n2]
    exact ⟨fun c hc => ⟨e c (by omega), e (8 + c) (by omega), e (16 + c) (by omega), e (24 + c) (by omega)⟩, fun c hc hx => absurd rfl (hx c hc), e _ (by omega), e _ (by omega), e _ (by omega), e _ (by omega), e _ (by omega), e _ (by omega), e _ (by omega)⟩
  have g := sBr_i (K := 1) ra H 108 _ _ 0 0 (100 ^ sN A) aC0 aC0 rw_ (sBg_at (by rw [n1]; exact W2) (by omega) (by omega) (by omega) (by omega)) (sBg_at (by rw [n2]; exact W2) (by omega) (by omega) (by omega) (by omega)) (Nat.zero_le _) (Nat.zero_le _) ⟨fun k hk => by omega, fun k _ _ => Nat.zero_le _⟩ (by rw [n2] at ul ⊢; exact Nat.pow_dvd_pow 100 ul) (fun j _ => by show (0 : Int64) = lN 1 * 0; rw [Int64.mul_zero]) 0 (by omega)
  rw [Nat.one_mul] at g
  unfold oB sOd
  rw [n1, wo_up, n2]
  exact g.trans (Int64.one_mul _)
theorem nX5_repeals (M : MR h P) (W : WF P) : MG (d + 16) h mX5_repeals [.ref 150, .int x] (q_repeals P x) := by
  obtain ⟨H, m152, m154, m151, m153, m167, m168, m169, m6, m16, m17, m21, m22⟩ := id M
  have no := fun k : Int32 => nX5_no (d := d + 15) k M
  unfold q_repeals
  cases h1 : wi x (nI 0) (pA P 40 - nI 1) with
  | false =>
    refine MG_nl M ?_
    simp (disch := first | with_unfolding_all exact id (mok_t H rfl) | exact Or.inr (by with_unfolding_all exact mok_t H rfl) | exact nI_ne0 (by decide) (by decide) | with_unfolding_all exact id (m_x152 H (by omega)) | with_unfolding_all exact id (m_x156 H (by omega)) | with_unfolding_all exact id (m_x158 H (by omega)) | with_unfolding_all exact id (m_x159 H (by omega)) | with_unfolding_all exact id (m_x160 H (by omega)) | exact zb_01 | exact Or.inl rfl | exact Or.inr rfl | omega) only [wX5_repeals_e, wX5_repeals_0, wX5_repeals_1, wX5_repeals_2, wX5_repeals_5, wX5_repeals_6, wX5_repeals_7, wX5_repeals_8, wX5_repeals_9, wX5_repeals_12, wX5_repeals_14, wX5_repeals_15, wX5_repeals_16, wX5_repeals_17, wX5_repeals_18, wX5_repeals_21, wX5_repeals_24, wX5_repeals_25, wX5_repeals_27, wX5_repeals_30, wX5_repeals_31, wX5_repeals_32, wX5_repeals_33, wX5_repeals_34, wX5_repeals_37, wX5_repeals_38, wX5_repeals_39, wX5_repeals_42, wX5_repeals_43, wX5_repeals_44, wX5_repeals_45, wX5_repeals_48, wX5_repeals_49, wX5_repeals_50, wX5_repeals_51, wX5_repeals_54, wX5_repeals_55, if_true, if_false, ↓reduceIte, xpu_s, xpu_n, Option.bind_some, xk_i, xk_r, xk_0, xk_u, xk_l, xk_k, xk_q, rf_s, rf_n, R0_p, R0_L, R0_T, R0_N, R0_R, R0_r, R0_6, o_TI, o_TL, o_TR, o_NI, o_NL, o_NR, o_XI, o_XL, o_XR, o_RI, o_RL, o_LI, o_LR, o_IL, o_IR, o_II, o_LL, o_RR, o_pII, o_pLL, up_s, q_e1, q_e2, Nat.zero_add, Nat.reduceEqDiff, Nat.reduceAdd, Nat.reduceMul, Nat.reduceSub, Nat.reduceLT, Nat.reduceLeDiff, Nat.reduceDiv, Nat.reduceMod, m_r1 H, m_r2 H, m_r3 H, m_r4 H, m_r5 H, m_r18 H, m_r19 H, m_r20 H, m_r24 H, m_r25 H, m_r27 H, m_r28 H, m_r29 H, m_r30 H, m_r31 H, m_r32 H, m_r33 H, m_r34 H, m_r35 H, m_n150 H, m_n151 H, m_n152 H, m_n153 H, m_n154 H, m_n155 H, m_n156 H, m_n157 H, m_n158 H, m_n159 H, m_n160 H, m_n161 H, m_n162 H, m_n163 H, m_n164 H, m_n165 H, m_n166 H, m_n167 H, m_n168 H, m_n169 H, nI_c, nI_add, up_ne, kX5_within, l6a_0, l6b_0, l6a_1, l6b_1, l6a_2, l6b_2, l6a_3, l6b_3, l6a_4, l6b_4, l6a_5, l6b_5, l6a_7, l6b_7, l6a_20, l6b_20, l6a_30, l6b_30, l6a_39, l6b_39, l6a_40, l6b_40, l6a_60, l6b_60, l6a_99, l6b_99, l6a_100, l6b_100, l6a_200, l6b_200, l6a_300, l6b_300, l6a_600, l6b_600, l6a_999, l6b_999, l6a_1000, l6b_1000, l6a_9999, l6b_9999, l6a_1000000, l6b_1000000, l6a_12, l6b_12, l64_xx, wi_d, one_ne0, zb_0, not_true_eq_false, not_false_eq_true, and_self, and_true, true_and, and_false, false_and, or_true, true_or, or_false, false_or, decide_true, decide_false, zb_t, zb_f, zb_0, zb_1, eq_self, cond_true, cond_false, Bool.true_eq_false, Bool.false_eq_true, Bool.and_true, Bool.true_and, Bool.and_false, Bool.false_and, Bool.or_true, Bool.true_or, Bool.or_false, Bool.false_or, m152, no, h1]
  | true =>
    have hn := W.1.2.1.2.1
    obtain ⟨k, hk, rfl⟩ := wi_car W.1.2.1.1 hn h1
    rw [nI_clamp (by omega)]
    obtain ⟨t, e34, ht⟩ := W.1.1.2.2.2.2.2.2.2.2.2.1
    have xz : pA P 34 ^^^ nI 0 = nI t := by rw [e34, nI_0]; exact Int32.xor_zero
    rw [e34]
    -- with the line left out
    obtain ⟨g, hg⟩ : ∃ g, g = pI (R0 h) 150 (va_up (oI (R0 h) 150) 21 (nI k)) := ⟨_, rfl⟩
    have Hg : MOK g := by rw [hg]; exact H
    have g152 : oI g 152 = pA P := by rw [hg]; exact m152
    have g21 : oI g 150 21 = nI k := by rw [hg, o_II, if_pos rfl, up_s]
    have g22 : oI g 150 22 = -1 := by rw [hg, o_II, if_pos rfl, up_ne (by omega), R0_6 (by omega)]; exact m22
    obtain ⟨h2, e2, w2⟩ := kW_overIf (d := d) (x := nI 0) Hg ht (by rw [g152]; exact xz) (by rw [g152]; exact W.1.1) (by rw [g152]; exact W.1.2.1)
    rw [g152, g21, g22, oB_wo W.1.1 W.1.2.1 hk ht] at e2
    -- back again
    obtain ⟨w21, w22, w23, w24⟩ := w2
    have kg : KX (R0 h) g := by rw [hg]; exact KX_I KX_refl (by omega) (by omega)
    have M3 : MR (pI h2 150 (va_up (oI h2 150) 21 (-1))) P := by
      obtain ⟨H', a1, a2, a3, a4, a5, a6, a7, a8, a9, a10, a11, a12⟩ := MR_0 M
      have gi : ∀ a, a ≠ 150 → oI g a = oI (R0 h) a := fun a ha => by rw [hg, o_II, if_neg ha]
      have gj : ∀ j, j ≠ 21 → oI g 150 j = oI (R0 h) 150 j := fun j hj => by rw [hg, o_II, if_pos rfl, up_ne hj]
      have i2 : ∀ a, 150 < a → ¬ (156 ≤ a ∧ a ≤ 163) → oI (pI h2 150 (va_up (oI h2 150) 21 (-1))) a = oI (R0 h) a := fun a q1 q2 => by
        rw [o_II, if_neg (by omega), w22 a q1 q2, gi a (by omega)]
      have j2 : ∀ j, j ≠ 21 → j ≠ 23 → j ≠ 26 → oI (pI h2 150 (va_up (oI h2 150) 21 (-1))) 150 j = oI (R0 h) 150 j := fun j q1 q2 q3 => by
        rw [o_II, if_pos rfl, up_ne q1, w24 j q2 q3, gj j q1]
      refine ⟨(show MOK h2 from MOK_KX w21 Hg), ?_⟩
      rw [i2 152 (by omega) (by omega), i2 154 (by omega) (by omega), i2 151 (by omega) (by omega), i2 153 (by omega) (by omega), i2 167 (by omega) (by omega), i2 168 (by omega) (by omega), j2 6 (by omega) (by omega) (by omega), j2 16 (by omega) (by omega) (by omega), j2 17 (by omega) (by omega) (by omega), j2 22 (by omega) (by omega) (by omega)]
      refine ⟨a1, a2, a3, a4, a5, a6, ?_, a8, a9, a10, ?_, a12⟩
      · show oL h2 169 = _
        rw [w23, hg]
        exact a7
      · rw [o_II, if_pos rfl, up_s]
    obtain ⟨h3, e3, M4, k4⟩ := nX5_overIf (d := d) (x := nI 0) M3 W ht xz
    have H2 : MOK h2 := MOK_KX w21 Hg
    have t7 : oT h2 150 = 7 := mok_t H2 rfl
    have t7b : oT (pI h2 150 (va_up (oI h2 150) 21 (-1))) 150 = 7 := t7
    have t70 : oT g 150 = 7 := mok_t Hg rfl
    refine MG_of ?_ M4 (KX_trans (KX_I (KX_trans kg w21) (by omega) (by omega)) k4)
    rw [hg] at e2 t70
    simp (disch := first | assumption | first | with_unfolding_all exact id (mok_t H rfl) | exact Or.inr (by with_unfolding_all exact mok_t H rfl) | exact nI_ne0 (by decide) (by decide) | with_unfolding_all exact id (m_x152 H (by omega)) | with_unfolding_all exact id (m_x156 H (by omega)) | with_unfolding_all exact id (m_x158 H (by omega)) | with_unfolding_all exact id (m_x159 H (by omega)) | with_unfolding_all exact id (m_x160 H (by omega)) | exact zb_01 | exact Or.inl rfl | exact Or.inr rfl | omega) only [wX5_repeals_e, wX5_repeals_0, wX5_repeals_1, wX5_repeals_2, wX5_repeals_5, wX5_repeals_6, wX5_repeals_7, wX5_repeals_8, wX5_repeals_9, wX5_repeals_12, wX5_repeals_14, wX5_repeals_15, wX5_repeals_16, wX5_repeals_17, wX5_repeals_18, wX5_repeals_21, wX5_repeals_24, wX5_repeals_25, wX5_repeals_27, wX5_repeals_30, wX5_repeals_31, wX5_repeals_32, wX5_repeals_33, wX5_repeals_34, wX5_repeals_37, wX5_repeals_38, wX5_repeals_39, wX5_repeals_42, wX5_repeals_43, wX5_repeals_44, wX5_repeals_45, wX5_repeals_48, wX5_repeals_49, wX5_repeals_50, wX5_repeals_51, wX5_repeals_54, wX5_repeals_55, if_true, if_false, ↓reduceIte, xpu_s, xpu_n, Option.bind_some, xk_i, xk_r, xk_0, xk_u, xk_l, xk_k, xk_q, rf_s, rf_n, R0_p, R0_T, R0_N, R0_R, R0_r, q_e1, q_e2, Nat.zero_add, Nat.reduceEqDiff, Nat.reduceAdd, Nat.reduceMul, Nat.reduceSub, Nat.reduceLT, Nat.reduceLeDiff, Nat.reduceDiv, Nat.reduceMod, m_r1 H, m_r2 H, m_r3 H, m_r4 H, m_r5 H, m_r18 H, m_r19 H, m_r20 H, m_r24 H, m_r25 H, m_r27 H, m_r28 H, m_r29 H, m_r30 H, m_r31 H, m_r32 H, m_r33 H, m_r34 H, m_r35 H, m_n150 H, m_n151 H, m_n152 H, m_n153 H, m_n154 H, m_n155 H, m_n156 H, m_n157 H, m_n158 H, m_n159 H, m_n160 H, m_n161 H, m_n162 H, m_n163 H, m_n164 H, m_n165 H, m_n166 H, m_n167 H, m_n168 H, m_n169 H, nI_c, kX5_within, l6a_0, l6b_0, l6a_1, l6b_1, l6a_2, l6b_2, l6a_3, l6b_3, l6a_4, l6b_4, l6a_5, l6b_5, l6a_7, l6b_7, l6a_20, l6b_20, l6a_30, l6b_30, l6a_39, l6b_39, l6a_40, l6b_40, l6a_60, l6b_60, l6a_99, l6b_99, l6a_100, l6b_100, l6a_200, l6b_200, l6a_300, l6b_300, l6a_600, l6b_600, l6a_999, l6b_999, l6a_1000, l6b_1000, l6a_9999, l6b_9999, l6a_1000000, l6b_1000000, l6a_12, l6b_12, l64_xx, wi_d, one_ne0, zb_0, not_true_eq_false, not_false_eq_true, and_self, and_true, true_and, and_false, false_and, or_true, true_or, or_false, false_or, decide_true, decide_false, zb_t, zb_f, zb_0, zb_1, eq_self, cond_true, cond_false, Bool.true_eq_false, Bool.false_eq_true, Bool.and_true, Bool.true_and, Bool.and_false, Bool.false_and, Bool.or_true, Bool.true_or, Bool.or_false, Bool.false_or, m152, no, h1, e2, e3]
end
