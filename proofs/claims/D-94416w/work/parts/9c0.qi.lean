/-! CALLS: feed -/
section
variable {d : Nat} {h : xH} {P : sS} {A : rI} {x y v a b c e g : Int32} {s i p n m k : Nat} {f : rI}
def kx (r : Nat) : Int32 := nI 24 - nI 8 * nI r
theorem kx_8 : ∀ r, r < 4 → kx r + (-8) = kx (r + 1) := by decide
theorem kx_p : ∀ r, r < 4 → ¬ kx r < 0 := by decide
theorem up_up {α : Type} {f : Nat → α} {k : Nat} {x y : α} : va_up (va_up f k x) k y = va_up f k y := by
  funext j
  unfold va_up
  split <;> rfl
/-- which of five ints, which byte of it -/
def fw (a b c e g : Int32) (k : Nat) : Int32 := if k < 4 then a else if k < 8 then b else if k < 12 then c else if k < 16 then e else g
def fT (f : rI) (n : Nat) (a b c e g : Int32) (m : Nat) : rI := fun j => if n ≤ j ∧ j < n + m then (fw a b c e g (j - n) >>> (kx ((j - n) % 4) &&& 31)) &&& nI 255 else f j
def q_feed (P : sS) (a b c e g : Int32) : sV := if 400 < pn P + 20 then nn P (-5) else (.int (nI (pn P + 20)), qT P (fT (pT P) (pn P) a b c e g 20) (pn P + 20))
theorem fT_up (hv : v = (fw a b c e g k >>> (kx (k % 4) &&& 31)) &&& nI 255) : va_up (fT f n a b c e g k) (n + k) v = fT f n a b c e g (k + 1) := by
  funext j
  unfold va_up fT
  by_cases q : j = n + k
  · rw [if_pos q, if_pos (by omega), show j - n = k by omega, hv]
  · rw [if_neg q]
    by_cases q2 : n ≤ j ∧ j < n + k
    · rw [if_pos q2, if_pos (by omega)]
    · rw [if_neg q2, if_neg (by omega)]
theorem fT_0 : fT f n a b c e g 0 = f := by
  funext j
  unfold fT
  rw [if_neg (by omega)]
/-- the second object while it is fed -/
def HF (h : xH) (f : rI) (v : Int32) : xH := pI (pI h 150 (va_up (va_up (oI h 150) 0 (nI 0)) 6 v)) 154 f
theorem HF_ok (H : MOK h) : MOK (HF h f v) := H
theorem HF_150 : oI (HF h f v) 150 = va_up (va_up (oI h 150) 0 (nI 0)) 6 v := rfl
theorem HF_6 : oI (HF h f v) 150 6 = v := rfl
theorem HF_154 : oI (HF h f v) 154 = f := rfl
theorem HF_T : oT (HF h f v) = oT h := rfl
theorem HF_N : oN (HF h f v) = oN h := rfl
theorem HF_R : oR (HF h f v) = oR h := rfl
theorem HF_w0 : pI (HF h f v) 150 (va_up (va_up (va_up (oI h 150) 0 (nI 0)) 6 v) 6 x) = HF h f x := by
  unfold HF
  rw [o_qIc (by decide), id_eq, o_pII, up_up]
theorem HF_w4 {f2 : rI} : pI (HF h f v) 154 f2 = HF h f2 v := by
  unfold HF
  rw [o_pII]
theorem HF_0 (e : oI h 150 6 = v) : R0 h = HF h (oI h 154) v := by
  unfold HF R0
  rw [show oI h 154 = oI (pI h 150 (va_up (va_up (oI h 150) 0 (nI 0)) 6 v)) 154 by rw [o_II, if_neg (by decide)], pI_self]
  rw [show va_up (va_up (oI h 150) 0 (nI 0)) 6 v = va_up (oI h 150) 0 (nI 0) by
    rw [← e, show oI h 150 6 = va_up (oI h 150) 0 (nI 0) 6 by rw [up_ne (by decide)], up_sf]]
theorem MR_T (M : MR h P) : MR (HF h f (nI n)) (qT P f n) := by
  obtain ⟨H, a1, a2, a3, a4, a5, a6, a7, a8, a9, a10, a11, a12⟩ := M
  exact ⟨H, a1, rfl, a3, a4, a5, a6, a7, rfl, a9, a10, a11, a12⟩
theorem n4_0 : ¬ nI 4 = 0 := by decide
theorem nX5_feed (M : MR h P) (W : WF P) : MG (d + 1) h mX5_feed [.ref 150, .int a, .int b, .int c, .int e, .int g] (q_feed P a b c e g) := by
  obtain ⟨H, m152, m154, m151, m153, m167, m168, m169, m6, m16, m17, m21, m22⟩ := id M
  have no := fun k : Int32 => nX5_no (d := d) k M
  have h4 := W.2.2.1
  unfold q_feed
  by_cases q : 400 < pn P + 20
  · rw [if_pos q]
    refine MG_nn M ?_
    have qq : (nI 400 < nI (pn P + 20)) = True := eq_true (nI_lt q (by omega))
    simp (disch := first | with_unfolding_all exact id (mok_t H rfl) | exact Or.inr (by with_unfolding_all exact mok_t H rfl) | exact nI_ne0 (by decide) (by decide) | with_unfolding_all exact id (m_x152 H (by omega)) | with_unfolding_all exact id (m_x156 H (by omega)) | with_unfolding_all exact id (m_x158 H (by omega)) | with_unfolding_all exact id (m_x159 H (by omega)) | with_unfolding_all exact id (m_x160 H (by omega)) | exact zb_01 | exact Or.inl rfl | exact Or.inr rfl | omega) only [wX5_feed_e, wX5_feed_0, wX5_feed_1, wX5_feed_2, wX5_feed_5, wX5_feed_6, wX5_feed_9, wX5_feed_11, wX5_feed_12, wX5_feed_15, wX5_feed_18, wX5_feed_19, wX5_feed_21, wX5_feed_24, wX5_feed_25, wX5_feed_26, wX5_feed_30, wX5_feed_32, wX5_feed_35, wX5_feed_37, wX5_feed_38, wX5_feed_41, wX5_feed_42, wX5_feed_45, wX5_feed_47, wX5_feed_49, wX5_feed_52, wX5_feed_53, wX5_feed_56, wX5_feed_58, wX5_feed_60, wX5_feed_63, wX5_feed_64, wX5_feed_67, wX5_feed_69, wX5_feed_71, wX5_feed_74, wX5_feed_76, wX5_feed_79, wX5_feed_81, wX5_feed_83, wX5_feed_84, wX5_feed_87, wX5_feed_88, wX5_feed_91, wX5_feed_93, wX5_feed_95, wX5_feed_97, wX5_feed_99, wX5_feed_100, wX5_feed_101, wX5_feed_102, wX5_feed_103, wX5_feed_104, wX5_feed_107, wX5_feed_108, wX5_feed_109, wX5_feed_110, wX5_feed_111, wX5_feed_114, wX5_feed_115, wX5_feed_116, wX5_feed_119, wX5_feed_122, wX5_feed_125, wX5_feed_126, wX5_feed_129, if_true, if_false, ↓reduceIte, xpu_s, xpu_n, Option.bind_some, xk_i, xk_r, xk_0, xk_u, xk_l, xk_k, xk_q, rf_s, rf_n, R0_p, R0_L, R0_T, R0_N, R0_R, R0_r, R0_6, o_TI, o_TL, o_TR, o_NI, o_NL, o_NR, o_XI, o_XL, o_XR, o_RI, o_RL, o_LI, o_LR, o_IL, o_IR, o_II, o_LL, o_RR, o_pII, o_pLL, up_s, q_e1, q_e2, Nat.zero_add, Nat.reduceEqDiff, Nat.reduceAdd, Nat.reduceMul, Nat.reduceSub, Nat.reduceLT, Nat.reduceLeDiff, Nat.reduceDiv, Nat.reduceMod, m_r1 H, m_r2 H, m_r3 H, m_r4 H, m_r5 H, m_r18 H, m_r19 H, m_r20 H, m_r24 H, m_r25 H, m_r27 H, m_r28 H, m_r29 H, m_r30 H, m_r31 H, m_r32 H, m_r33 H, m_r34 H, m_r35 H, m_n150 H, m_n151 H, m_n152 H, m_n153 H, m_n154 H, m_n155 H, m_n156 H, m_n157 H, m_n158 H, m_n159 H, m_n160 H, m_n161 H, m_n162 H, m_n163 H, m_n164 H, m_n165 H, m_n166 H, m_n167 H, m_n168 H, m_n169 H, nI_c, nI_add, up_ne, not_true_eq_false, not_false_eq_true, and_self, and_true, true_and, and_false, false_and, or_true, true_or, or_false, false_or, decide_true, decide_false, zb_t, zb_f, zb_0, zb_1, eq_self, no, m6, qq]
  · rw [if_neg q]
    have qq : (nI 400 < nI (pn P + 20)) = False := eq_false (nI_nlt (by omega) (by omega))
    refine ⟨HF h (fT (pT P) (pn P) a b c e g 20) (nI (pn P + 20)), ?_, MR_T M, KX_I (KX_I KX_refl (by omega) (by omega)) (by omega) (by omega)⟩
    have e0 : C_ (d + 1) mX5_feed [.ref 150, .int a, .int b, .int c, .int e, .int g] h = E_ (d + 1) mX5_feed 28 [.val (.ref 150), .val (.int a), .val (.int b), .val (.int c), .val (.int e), .val (.int g), .val (.int (nI 0)), .unset] [] (HF h (fT (pT P) (pn P) a b c e g 0) (nI (pn P + 0))) := by
      rw [fT_0, ← m154, ← HF_0 (v := nI (pn P + 0)) m6]
      simp (disch := first | with_unfolding_all exact id (mok_t H rfl) | exact Or.inr (by with_unfolding_all exact mok_t H rfl) | exact nI_ne0 (by decide) (by decide) | with_unfolding_all exact id (m_x152 H (by omega)) | with_unfolding_all exact id (m_x156 H (by omega)) | with_unfolding_all exact id (m_x158 H (by omega)) | with_unfolding_all exact id (m_x159 H (by omega)) | with_unfolding_all exact id (m_x160 H (by omega)) | exact zb_01 | exact Or.inl rfl | exact Or.inr rfl | omega) only [wX5_feed_e, wX5_feed_0, wX5_feed_1, wX5_feed_2, wX5_feed_5, wX5_feed_6, wX5_feed_9, wX5_feed_11, wX5_feed_12, wX5_feed_15, wX5_feed_18, wX5_feed_19, wX5_feed_21, wX5_feed_24, wX5_feed_25, wX5_feed_26, wX5_feed_30, wX5_feed_32, wX5_feed_35, wX5_feed_37, wX5_feed_38, wX5_feed_41, wX5_feed_42, wX5_feed_45, wX5_feed_47, wX5_feed_49, wX5_feed_52, wX5_feed_53, wX5_feed_56, wX5_feed_58, wX5_feed_60, wX5_feed_63, wX5_feed_64, wX5_feed_67, wX5_feed_69, wX5_feed_71, wX5_feed_74, wX5_feed_76, wX5_feed_79, wX5_feed_81, wX5_feed_83, wX5_feed_84, wX5_feed_87, wX5_feed_88, wX5_feed_91, wX5_feed_93, wX5_feed_95, wX5_feed_97, wX5_feed_99, wX5_feed_100, wX5_feed_101, wX5_feed_102, wX5_feed_103, wX5_feed_104, wX5_feed_107, wX5_feed_108, wX5_feed_109, wX5_feed_110, wX5_feed_111, wX5_feed_114, wX5_feed_115, wX5_feed_116, wX5_feed_119, wX5_feed_122, wX5_feed_125, wX5_feed_126, wX5_feed_129, if_true, if_false, ↓reduceIte, xpu_s, xpu_n, Option.bind_some, xk_i, xk_r, xk_0, xk_u, xk_l, xk_k, xk_q, rf_s, rf_n, R0_p, R0_L, R0_T, R0_N, R0_R, R0_r, R0_6, o_TI, o_TL, o_TR, o_NI, o_NL, o_NR, o_XI, o_XL, o_XR, o_RI, o_RL, o_LI, o_LR, o_IL, o_IR, o_II, o_LL, o_RR, o_pII, o_pLL, up_s, q_e1, q_e2, Nat.zero_add, Nat.reduceEqDiff, Nat.reduceAdd, Nat.reduceMul, Nat.reduceSub, Nat.reduceLT, Nat.reduceLeDiff, Nat.reduceDiv, Nat.reduceMod, m_r1 H, m_r2 H, m_r3 H, m_r4 H, m_r5 H, m_r18 H, m_r19 H, m_r20 H, m_r24 H, m_r25 H, m_r27 H, m_r28 H, m_r29 H, m_r30 H, m_r31 H, m_r32 H, m_r33 H, m_r34 H, m_r35 H, m_n150 H, m_n151 H, m_n152 H, m_n153 H, m_n154 H, m_n155 H, m_n156 H, m_n157 H, m_n158 H, m_n159 H, m_n160 H, m_n161 H, m_n162 H, m_n163 H, m_n164 H, m_n165 H, m_n166 H, m_n167 H, m_n168 H, m_n169 H, nI_c, nI_add, up_ne, not_true_eq_false, not_false_eq_true, and_self, and_true, true_and, and_false, false_and, or_true, true_or, or_false, false_or, decide_true, decide_false, zb_t, zb_f, zb_0, zb_1, eq_self, m6, qq]
    rw [e0]
    refine lpe_st (n := 20) (s := ()) (z := (.unset : Slot)) (f := fun _ u => u) (P := fun _ _ _ => True) (Q := fun _ r => r = some (some (.int (nI (pn P + 20))), HF h (fT (pT P) (pn P) a b c e g 20) (nI (pn P + 20)))) (F := fun k _ z => E_ (d + 1) mX5_feed 28 [.val (.ref 150), .val (.int a), .val (.int b), .val (.int c), .val (.int e), .val (.int g), .val (.int (nI k)), z] [] (HF h (fT (pT P) (pn P) a b c e g k) (nI (pn P + k)))) trivial (fun k _ z hk _ => ⟨.val (.int (fw a b c e g k)), ?_, trivial⟩) (fun _ z _ => ?_)
    · refine wX5_feed_28.trans ?_
      have k20 : (nI k < nI 20) = True := eq_true (nI_lt (by omega) (by omega))
      have rm : nI k - nI k / nI 4 * nI 4 = nI (k % 4) := pk_rem (by omega) (by omega) (by omega)
      have kx_ : nI 24 - nI 8 * nI (k % 4) = kx (k % 4) := rfl
      have fu := fT_up (f := pT P) (n := pn P) (k := k) (a := a) (b := b) (c := c) (e := e) (g := g) rfl
      have e1 : ∀ z : Slot, E_ (d + 1) mX5_feed 83 [.val (.ref 150), .val (.int a), .val (.int b), .val (.int c), .val (.int e), .val (.int g), .val (.int (nI k)), .val (.int (fw a b c e g k))] [] (HF h (fT (pT P) (pn P) a b c e g k) (nI (pn P + k))) = E_ (d + 1) mX5_feed 28 [.val (.ref 150), .val (.int a), .val (.int b), .val (.int c), .val (.int e), .val (.int g), .val (.int (nI (k + 1))), .val (.int (fw a b c e g k))] [] (HF h (fT (pT P) (pn P) a b c e g (k + 1)) (nI (pn P + (k + 1)))) := fun z => by
        simp (disch := first | exact n4_0 | exact m_x154 (HF_ok H) (by omega) | exact mok_t (HF_ok H) rfl | omega) only [wX5_feed_e, wX5_feed_0, wX5_feed_1, wX5_feed_2, wX5_feed_5, wX5_feed_6, wX5_feed_9, wX5_feed_11, wX5_feed_12, wX5_feed_15, wX5_feed_18, wX5_feed_19, wX5_feed_21, wX5_feed_24, wX5_feed_25, wX5_feed_26, wX5_feed_30, wX5_feed_32, wX5_feed_35, wX5_feed_37, wX5_feed_38, wX5_feed_41, wX5_feed_42, wX5_feed_45, wX5_feed_47, wX5_feed_49, wX5_feed_52, wX5_feed_53, wX5_feed_56, wX5_feed_58, wX5_feed_60, wX5_feed_63, wX5_feed_64, wX5_feed_67, wX5_feed_69, wX5_feed_71, wX5_feed_74, wX5_feed_76, wX5_feed_79, wX5_feed_81, wX5_feed_83, wX5_feed_84, wX5_feed_87, wX5_feed_88, wX5_feed_91, wX5_feed_93, wX5_feed_95, wX5_feed_97, wX5_feed_99, wX5_feed_100, wX5_feed_101, wX5_feed_102, wX5_feed_103, wX5_feed_104, wX5_feed_107, wX5_feed_108, wX5_feed_109, wX5_feed_110, wX5_feed_111, wX5_feed_114, wX5_feed_115, wX5_feed_116, wX5_feed_119, wX5_feed_122, wX5_feed_125, wX5_feed_126, wX5_feed_129, if_true, if_false, ↓reduceIte, xpu_s, xpu_n, Option.bind_some, xk_i, xk_r, xk_0, xk_u, xk_l, xk_k, xk_q, rf_s, rf_n, q_e1, q_e2, Nat.zero_add, Nat.reduceEqDiff, Nat.reduceAdd, Nat.reduceMul, Nat.reduceSub, Nat.reduceLT, Nat.reduceLeDiff, Nat.reduceDiv, Nat.reduceMod, m_r1 H, m_r2 H, m_r3 H, m_r4 H, m_r5 H, m_r18 H, m_r19 H, m_r20 H, m_r24 H, m_r25 H, m_r27 H, m_r28 H, m_r29 H, m_r30 H, m_r31 H, m_r32 H, m_r33 H, m_r34 H, m_r35 H, m_n150 H, m_n151 H, m_n152 H, m_n153 H, m_n154 H, m_n155 H, m_n156 H, m_n157 H, m_n158 H, m_n159 H, m_n160 H, m_n161 H, m_n162 H, m_n163 H, m_n164 H, m_n165 H, m_n166 H, m_n167 H, m_n168 H, m_n169 H, HF_150, HF_6, HF_154, HF_T, HF_N, HF_R, HF_w0, HF_w4, rm, kx_, fu, nI_c, nI_add, Nat.add_assoc]
      refine Eq.trans ?_ (e1 z)
      unfold fw
      have l4 : (nI k < nI 4) = (k < 4) := nI_ltP (by omega) (by omega)
      have l8 : (nI k < nI 8) = (k < 8) := nI_ltP (by omega) (by omega)
      have l12 : (nI k < nI 12) = (k < 12) := nI_ltP (by omega) (by omega)
      have l16 : (nI k < nI 16) = (k < 16) := nI_ltP (by omega) (by omega)
      by_cases q4 : k < 4
      · simp (disch := first | assumption | exact nI_ne0 (by decide) (by decide) | exact zb_01 | exact Or.inl rfl | exact Or.inr rfl | with_unfolding_all exact id (by assumption) | with_unfolding_all exact id (xix_8 (by assumption) (by omega) (by omega)) | omega) only [wX5_feed_30, wX5_feed_32, wX5_feed_35, wX5_feed_37, wX5_feed_38, wX5_feed_41, wX5_feed_42, wX5_feed_45, wX5_feed_47, wX5_feed_49, wX5_feed_52, wX5_feed_53, wX5_feed_56, wX5_feed_58, wX5_feed_60, wX5_feed_63, wX5_feed_64, wX5_feed_67, wX5_feed_69, wX5_feed_71, wX5_feed_74, wX5_feed_76, wX5_feed_79, wX5_feed_81, if_true, if_false, ↓reduceIte, xpu_s, xpu_n, Option.bind_some, xk_i, xk_r, xk_0, xk_u, xk_l, xk_k, xk_q, rf_s, rf_n, k20, l4, q4, not_true_eq_false, not_false_eq_true, and_self, and_true, true_and, and_false, false_and, or_true, true_or, or_false, false_or, decide_true, decide_false, zb_t, zb_f, zb_0, zb_1, eq_self]
      · by_cases q8 : k < 8
        · simp (disch := first | assumption | exact nI_ne0 (by decide) (by decide) | exact zb_01 | exact Or.inl rfl | exact Or.inr rfl | with_unfolding_all exact id (by assumption) | with_unfolding_all exact id (xix_8 (by assumption) (by omega) (by omega)) | omega) only [wX5_feed_30, wX5_feed_32, wX5_feed_35, wX5_feed_37, wX5_feed_38, wX5_feed_41, wX5_feed_42, wX5_feed_45, wX5_feed_47, wX5_feed_49, wX5_feed_52, wX5_feed_53, wX5_feed_56, wX5_feed_58, wX5_feed_60, wX5_feed_63, wX5_feed_64, wX5_feed_67, wX5_feed_69, wX5_feed_71, wX5_feed_74, wX5_feed_76, wX5_feed_79, wX5_feed_81, if_true, if_false, ↓reduceIte, xpu_s, xpu_n, Option.bind_some, xk_i, xk_r, xk_0, xk_u, xk_l, xk_k, xk_q, rf_s, rf_n, k20, l4, q4, l8, q8, not_true_eq_false, not_false_eq_true, and_self, and_true, true_and, and_false, false_and, or_true, true_or, or_false, false_or, decide_true, decide_false, zb_t, zb_f, zb_0, zb_1, eq_self]
        · by_cases q12 : k < 12
          · simp (disch := first | assumption | exact nI_ne0 (by decide) (by decide) | exact zb_01 | exact Or.inl rfl | exact Or.inr rfl | with_unfolding_all exact id (by assumption) | with_unfolding_all exact id (xix_8 (by assumption) (by omega) (by omega)) | omega) only [wX5_feed_30, wX5_feed_32, wX5_feed_35, wX5_feed_37, wX5_feed_38, wX5_feed_41, wX5_feed_42, wX5_feed_45, wX5_feed_47, wX5_feed_49, wX5_feed_52, wX5_feed_53, wX5_feed_56, wX5_feed_58, wX5_feed_60, wX5_feed_63, wX5_feed_64, wX5_feed_67, wX5_feed_69, wX5_feed_71, wX5_feed_74, wX5_feed_76, wX5_feed_79, wX5_feed_81, if_true, if_false, ↓reduceIte, xpu_s, xpu_n, Option.bind_some, xk_i, xk_r, xk_0, xk_u, xk_l, xk_k, xk_q, rf_s, rf_n, k20, l4, q4, l8, q8, l12, q12, not_true_eq_false, not_false_eq_true, and_self, and_true, true_and, and_false, false_and, or_true, true_or, or_false, false_or, decide_true, decide_false, zb_t, zb_f, zb_0, zb_1, eq_self]
          · by_cases q16 : k < 16
            · simp (disch := first | assumption | exact nI_ne0 (by decide) (by decide) | exact zb_01 | exact Or.inl rfl | exact Or.inr rfl | with_unfolding_all exact id (by assumption) | with_unfolding_all exact id (xix_8 (by assumption) (by omega) (by omega)) | omega) only [wX5_feed_30, wX5_feed_32, wX5_feed_35, wX5_feed_37, wX5_feed_38, wX5_feed_41, wX5_feed_42, wX5_feed_45, wX5_feed_47, wX5_feed_49, wX5_feed_52, wX5_feed_53, wX5_feed_56, wX5_feed_58, wX5_feed_60, wX5_feed_63, wX5_feed_64, wX5_feed_67, wX5_feed_69, wX5_feed_71, wX5_feed_74, wX5_feed_76, wX5_feed_79, wX5_feed_81, if_true, if_false, ↓reduceIte, xpu_s, xpu_n, Option.bind_some, xk_i, xk_r, xk_0, xk_u, xk_l, xk_k, xk_q, rf_s, rf_n, k20, l4, q4, l8, q8, l12, q12, l16, q16, not_true_eq_false, not_false_eq_true, and_self, and_true, true_and, and_false, false_and, or_true, true_or, or_false, false_or, decide_true, decide_false, zb_t, zb_f, zb_0, zb_1, eq_self]
            · simp (disch := first | assumption | exact nI_ne0 (by decide) (by decide) | exact zb_01 | exact Or.inl rfl | exact Or.inr rfl | with_unfolding_all exact id (by assumption) | with_unfolding_all exact id (xix_8 (by assumption) (by omega) (by omega)) | omega) only [wX5_feed_30, wX5_feed_32, wX5_feed_35, wX5_feed_37, wX5_feed_38, wX5_feed_41, wX5_feed_42, wX5_feed_45, wX5_feed_47, wX5_feed_49, wX5_feed_52, wX5_feed_53, wX5_feed_56, wX5_feed_58, wX5_feed_60, wX5_feed_63, wX5_feed_64, wX5_feed_67, wX5_feed_69, wX5_feed_71, wX5_feed_74, wX5_feed_76, wX5_feed_79, wX5_feed_81, if_true, if_false, ↓reduceIte, xpu_s, xpu_n, Option.bind_some, xk_i, xk_r, xk_0, xk_u, xk_l, xk_k, xk_q, rf_s, rf_n, k20, l4, q4, l8, q8, l12, q12, l16, q16, not_true_eq_false, not_false_eq_true, and_self, and_true, true_and, and_false, false_and, or_true, true_or, or_false, false_or, decide_true, decide_false, zb_t, zb_f, zb_0, zb_1, eq_self]
    · refine wX5_feed_28.trans ?_
      simp (disch := with_unfolding_all exact id (mok_t H rfl)) only [wX5_feed_30, wX5_feed_32, wX5_feed_125, wX5_feed_126, wX5_feed_129, if_true, if_false, ↓reduceIte, xpu_s, xpu_n, Option.bind_some, xk_i, xk_r, xk_0, xk_u, xk_l, xk_k, xk_q, rf_s, rf_n, q_e1, q_e2, Nat.zero_add, Nat.reduceEqDiff, Nat.reduceAdd, Nat.reduceMul, Nat.reduceSub, Nat.reduceLT, Nat.reduceLeDiff, Nat.reduceDiv, Nat.reduceMod, HF_T, HF_6, i_irr, not_true_eq_false, not_false_eq_true, and_self, and_true, true_and, and_false, false_and, or_true, true_or, or_false, false_or, decide_true, decide_false, zb_t, zb_f, zb_0, zb_1, eq_self]
/-! the component's bytes -/
def HY (h : xH) (f : rI) (m : Nat) : xH := pI (pI h 64 (va_up (oI h 64) 4 (nI m))) 78 f
theorem HY_64 : oI (HY h f m) 64 = va_up (oI h 64) 4 (nI m) := rfl
theorem HY_4 : oI (HY h f m) 64 4 = nI m := rfl
theorem HY_78 : oI (HY h f m) 78 = f := rfl
theorem HY_T : oT (HY h f m) = oT h := rfl
theorem HY_N : oN (HY h f m) = oN h := rfl
theorem HY_R : oR (HY h f m) = oR h := rfl
theorem HY_w0 : pI (HY h f m) 64 (va_up (va_up (oI h 64) 4 (nI m)) 4 (nI n)) = HY h f n := by
  unfold HY
  rw [o_qIc (by decide), id_eq, o_pII, up_up]
theorem HY_w8 {f2 : rI} : pI (HY h f m) 78 f2 = HY h f2 m := by
  unfold HY
  rw [o_pII]
theorem HY_0 (e : oI h 64 4 = nI m) : h = HY h (oI h 78) m := by
  unfold HY
  rw [show oI h 78 = oI (pI h 64 (va_up (oI h 64) 4 (nI m))) 78 by rw [o_II, if_neg (by decide)], pI_self, ← e, up_sf, pI_self]
def byt (v : Int32) (r : Nat) : Int32 := vp_nar .byte (v >>> (kx r &&& 31)).toInt8.toInt32
def byf (f : rI) (n : Nat) (v : Int32) (m : Nat) : rI := fun j => if n ≤ j ∧ j < n + m then byt v (j - n) else f j
theorem byf_0 : byf f n v 0 = f := by
  funext j
  unfold byf
  rw [if_neg (by omega)]
theorem byf_up : va_up (byf f n v k) (n + k) (byt v k) = byf f n v (k + 1) := by
  funext j
  unfold va_up byf
  by_cases q : j = n + k
  · rw [if_pos q, if_pos (by omega), show j - n = k by omega]
  · rw [if_neg q]
    by_cases q2 : n ≤ j ∧ j < n + k
    · rw [if_pos q2, if_pos (by omega)]
    · rw [if_neg q2, if_neg (by omega)]
theorem kX0_bytes (x0 : oT h 64 = 1) (x3 : oR h 64 3 = some 78) (t78 : oT h 78 = 41) (n78 : oN h 78 = 400) (hm : m + 4 ≤ 400) : C_ d mX0_bytes [.ref 64, .int v] (HY h f m) = some (none, HY h (byf f m v 4) (m + 4)) := by
  have e0 : C_ d mX0_bytes [.ref 64, .int v] (HY h f m) = E_ d mX0_bytes 3 [.val (.ref 64), .val (.int v), .val (.int (kx 0))] [] (HY h (byf f m v 0) (m + 0)) := by
    rw [byf_0]
    simp (disch := first | assumption | exact nI_ne0 (by decide) (by decide) | exact zb_01 | exact Or.inl rfl | exact Or.inr rfl | with_unfolding_all exact id (by assumption) | with_unfolding_all exact id (xix_8 (by assumption) (by omega) (by omega)) | omega) only [wX0_bytes_e, wX0_bytes_0, wX0_bytes_2, wX0_bytes_4, wX0_bytes_7, wX0_bytes_8, wX0_bytes_11, wX0_bytes_12, wX0_bytes_15, wX0_bytes_16, wX0_bytes_17, wX0_bytes_18, wX0_bytes_19, wX0_bytes_19z, wX0_bytes_20, wX0_bytes_21, wX0_bytes_22, wX0_bytes_25, wX0_bytes_26, wX0_bytes_27, wX0_bytes_30, wX0_bytes_33, wX0_bytes_36, if_true, if_false, ↓reduceIte, xpu_s, xpu_n, Option.bind_some, xk_i, xk_r, xk_0, xk_u, xk_l, xk_k, xk_q, rf_s, rf_n]
    rfl
  rw [e0]
  refine lpe_st (n := 4) (s := ()) (z := ()) (f := fun _ u => u) (P := fun _ _ _ => True) (Q := fun _ r => r = some (none, HY h (byf f m v 4) (m + 4))) (F := fun k _ _ => E_ d mX0_bytes 3 [.val (.ref 64), .val (.int v), .val (.int (kx k))] [] (HY h (byf f m v k) (m + k))) trivial (fun k _ _ hk _ => ⟨(), ?_, trivial⟩) (fun _ _ _ => ?_)
  · refine wX0_bytes_3.trans ?_
    have kp : (kx k < 0) = False := eq_false (kx_p k hk)
    have k8 := kx_8 k hk
    have fu := byf_up (f := f) (n := m) (k := k) (v := v)
    have bt_ : vp_nar .byte (v >>> (kx k &&& 31)).toInt8.toInt32 = byt v k := rfl
    simp (disch := first | with_unfolding_all exact id (xix_8 n78 (by omega) (by omega)) | first | assumption | exact nI_ne0 (by decide) (by decide) | exact zb_01 | exact Or.inl rfl | exact Or.inr rfl | with_unfolding_all exact id (by assumption) | with_unfolding_all exact id (xix_8 (by assumption) (by omega) (by omega)) | omega) only [wX0_bytes_e, wX0_bytes_0, wX0_bytes_2, wX0_bytes_4, wX0_bytes_7, wX0_bytes_8, wX0_bytes_11, wX0_bytes_12, wX0_bytes_15, wX0_bytes_16, wX0_bytes_17, wX0_bytes_18, wX0_bytes_19, wX0_bytes_19z, wX0_bytes_20, wX0_bytes_21, wX0_bytes_22, wX0_bytes_25, wX0_bytes_26, wX0_bytes_27, wX0_bytes_30, wX0_bytes_33, wX0_bytes_36, if_true, if_false, ↓reduceIte, xpu_s, xpu_n, Option.bind_some, xk_i, xk_r, xk_0, xk_u, xk_l, xk_k, xk_q, rf_s, rf_n, q_e1, q_e2, Nat.zero_add, Nat.reduceEqDiff, Nat.reduceAdd, Nat.reduceMul, Nat.reduceSub, Nat.reduceLT, Nat.reduceLeDiff, Nat.reduceDiv, Nat.reduceMod, HY_64, HY_4, HY_78, HY_T, HY_N, HY_R, HY_w0, HY_w8, kp, k8, x3, bt_, fu, nI_c, nI_add, Nat.add_assoc, not_true_eq_false, not_false_eq_true, and_self, and_true, true_and, and_false, false_and, or_true, true_or, or_false, false_or, decide_true, decide_false, zb_t, zb_f, zb_0, zb_1, eq_self]
  · refine wX0_bytes_3.trans ?_
    have kp : (kx 4 < 0) = True := eq_true (by decide)
    simp (disch := first | assumption | exact nI_ne0 (by decide) (by decide) | exact zb_01 | exact Or.inl rfl | exact Or.inr rfl | with_unfolding_all exact id (by assumption) | with_unfolding_all exact id (xix_8 (by assumption) (by omega) (by omega)) | omega) only [wX0_bytes_4, wX0_bytes_36, if_true, if_false, ↓reduceIte, xpu_s, xpu_n, Option.bind_some, xk_i, xk_r, xk_0, xk_u, xk_l, xk_k, xk_q, rf_s, rf_n, kp, not_true_eq_false, not_false_eq_true, and_self, and_true, true_and, and_false, false_and, or_true, true_or, or_false, false_or, decide_true, decide_false, zb_t, zb_f, zb_0, zb_1, eq_self]
end
