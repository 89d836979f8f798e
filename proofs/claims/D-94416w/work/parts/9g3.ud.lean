/-! CALLS: text, the second object -/
section
variable {d e : Nat} {h h1 h2 h3 h4 : xH} {P : sS} {X o l n p b k v c j i m w a u z cd : Nat} {t : Nat → Nat} {f g A B : rI} {x : sX} {s1 s2 s3 : Slot} {y1 y2 y3 : Int32} {L : Nat × Nat × Nat × Nat}
theorem MR_K (M : MR h P) (f6 : f 6 = nI z) (f16 : f 16 = y1) (f17 : f 17 = y2) (f21 : f 21 = oI h 150 21) (f22 : f 22 = oI h 150 22) : MR (pI h 150 f) (qK P z y1 y2) := by
  obtain ⟨H, a1, a2, a3, a4, a5, a6, a7, a8, a9, a10, a11, a12⟩ := M
  exact ⟨H, a1, a2, a3, a4, a5, a6, a7, f6, f16, f17, f21.trans a11, f22.trans a12⟩
theorem KX_MOK (K : KX h h1) (H : MOK h) : MOK h1 := by
  unfold MOK at *
  rw [K.2.1, K.2.2.1, K.2.2.2.1]
  exact H
theorem MD_MR (M : MR h P) (D : MD_ h h1) : MR h1 P := by
  obtain ⟨H, a1, a2, a3, a4, a5, a6, a7, a8, a9, a10, a11, a12⟩ := M
  obtain ⟨d1, d2, d3, d4⟩ := D
  refine ⟨KX_MOK d1 H, (d2 152 (by omega) (by omega)).trans a1, (d2 154 (by omega) (by omega)).trans a2, (d2 151 (by omega) (by omega)).trans a3, (d2 153 (by omega) (by omega)).trans a4, (d2 167 (by omega) (by omega)).trans a5, (d2 168 (by omega) (by omega)).trans a6, by rw [d3]; exact a7, (d4 6 (by omega)).trans a8, (d4 16 (by omega)).trans a9, (d4 17 (by omega)).trans a10, (d4 21 (by omega)).trans a11, (d4 22 (by omega)).trans a12⟩
/-- a text begins -/
def tpt (P : sS) : Nat → Nat := fun k => (pT P k).toNatClampNeg
theorem tpt_n (W : WF P) : ∀ k, k < 400 → pT P k = nI (tpt P k) ∧ tpt P k < 256 := fun k hk => by
  obtain ⟨x, e, hx⟩ := W.2.2.2.2 k hk
  have : tpt P k = x := by
    unfold tpt
    rw [e]
    exact nI_clamp (by omega)
  rw [this]
  exact ⟨e, hx⟩
theorem kX5_txA (M : MR h P) (W : WF P) (S3 : ST3 h) (hw : w = 0 ∨ w = 1) (hn : n ≤ pn P) : ∃ h1, C_ (d + 46) mX5_text [.ref 150, .int (nI w), .int (nI n)] h = E_ (d + 46) mX5_text 84 [.val (.ref 150), .val (.int (nI w)), .val (.int (nI n)), .unset, .unset, .unset] [] h1 ∧ ML h1 n (tpt P) (.inr (lx (tpt P) n 0)) 0 plN 0 ∧ MR h1 (qK P 0 (pk P) (pp P)) ∧ KX h h1 := by
  have h4 := W.2.2.1
  obtain ⟨H, m152, m154, m151, m153, m167, m168, m169, m6, m16, m17, m21, m22⟩ := id M
  have t1 : oT h 150 = 7 := mok_t H rfl
  have e0 : C_ (d + 46) mX5_text [.ref 150, .int (nI w), .int (nI n)] h = E_ (d + 46) mX5_text 73 [.val (.ref 150), .val (.int (nI w)), .val (.int (nI n)), .unset, .unset, .unset] [] (pI h 150 (va_up (va_up (va_up (va_up (va_up (va_up (va_up (oI h 150) 0 (nI 0)) 9 (nI n)) 6 (nI 0)) 8 (nI 0)) 12 (nI 0)) 14 (nI 0)) 15 (nI 0))) := by
    have W1 := wi_nn (v := w) (lo := 0) (hi := 1) (by omega) (by omega) (by omega)
    have W2 := wi_nn (v := n) (lo := 0) (hi := pn P) (by omega) (by omega) (by omega)
    rw [decide_eq_true (by omega)] at W1 W2
    simp (disch := first | with_unfolding_all exact id (mok_t H rfl) | exact Or.inr (by with_unfolding_all exact mok_t H rfl) | exact nI_ne0 (by decide) (by decide) | with_unfolding_all exact id (m_x152 H (by omega)) | with_unfolding_all exact id (m_x156 H (by omega)) | with_unfolding_all exact id (m_x158 H (by omega)) | with_unfolding_all exact id (m_x159 H (by omega)) | with_unfolding_all exact id (m_x160 H (by omega)) | exact zb_01 | exact Or.inl rfl | exact Or.inr rfl | omega) only [wX5_text_e, wX5_text_0, wX5_text_1, wX5_text_2, wX5_text_5, wX5_text_6, wX5_text_7, wX5_text_8, wX5_text_9, wX5_text_12, wX5_text_15, wX5_text_16, wX5_text_18, wX5_text_21, wX5_text_22, wX5_text_23, wX5_text_24, wX5_text_25, wX5_text_26, wX5_text_29, wX5_text_30, wX5_text_33, wX5_text_36, wX5_text_37, wX5_text_39, wX5_text_42, wX5_text_43, wX5_text_44, wX5_text_45, wX5_text_48, wX5_text_49, wX5_text_50, wX5_text_53, wX5_text_54, wX5_text_55, wX5_text_58, wX5_text_59, wX5_text_60, wX5_text_63, wX5_text_64, wX5_text_65, wX5_text_68, wX5_text_69, wX5_text_70, wX5_text_74, wX5_text_77, wX5_text_80, wX5_text_81, wX5_text_84, wX5_text_85, wX5_text_88, wX5_text_91, wX5_text_92, wX5_text_95, wX5_text_97, wX5_text_100, wX5_text_101, wX5_text_104, wX5_text_105, wX5_text_108, wX5_text_111, wX5_text_112, wX5_text_115, wX5_text_118, wX5_text_119, wX5_text_120, wX5_text_123, wX5_text_126, wX5_text_127, wX5_text_128, wX5_text_131, wX5_text_134, wX5_text_135, wX5_text_138, wX5_text_139, wX5_text_142, wX5_text_145, wX5_text_146, wX5_text_149, wX5_text_152, wX5_text_153, wX5_text_155, wX5_text_156, wX5_text_159, wX5_text_160, wX5_text_163, wX5_text_164, wX5_text_165, wX5_text_168, wX5_text_169, wX5_text_172, wX5_text_174, wX5_text_175, wX5_text_176, wX5_text_179, wX5_text_181, wX5_text_184, wX5_text_187, wX5_text_189, wX5_text_190, wX5_text_192, wX5_text_194, wX5_text_196, wX5_text_199, wX5_text_200, wX5_text_203, wX5_text_205, wX5_text_206, wX5_text_209, wX5_text_211, wX5_text_212, wX5_text_213, wX5_text_216, wX5_text_219, wX5_text_220, wX5_text_223, wX5_text_224, wX5_text_227, wX5_text_229, wX5_text_230, wX5_text_233, wX5_text_234, wX5_text_237, wX5_text_239, wX5_text_240, if_true, if_false, ↓reduceIte, xpu_s, xpu_n, Option.bind_some, xk_i, xk_r, xk_0, xk_u, xk_l, xk_k, xk_q, rf_s, rf_n, o_TI, o_TL, o_TR, o_NI, o_NL, o_NR, o_XI, o_XL, o_XR, o_RI, o_RL, o_LI, o_LR, o_IL, o_IR, o_II, o_LL, o_RR, o_pII, o_pLL, up_s, q_e1, q_e2, Nat.zero_add, Nat.reduceEqDiff, Nat.reduceAdd, Nat.reduceMul, Nat.reduceSub, Nat.reduceLT, Nat.reduceLeDiff, Nat.reduceDiv, Nat.reduceMod, m_r1 H, m_r2 H, m_r3 H, m_r4 H, m_r5 H, m_r18 H, m_r19 H, m_r20 H, m_r24 H, m_r25 H, m_r27 H, m_r28 H, m_r29 H, m_r30 H, m_r31 H, m_r32 H, m_r33 H, m_r34 H, m_r35 H, m_n150 H, m_n151 H, m_n152 H, m_n153 H, m_n154 H, m_n155 H, m_n156 H, m_n157 H, m_n158 H, m_n159 H, m_n160 H, m_n161 H, m_n162 H, m_n163 H, m_n164 H, m_n165 H, m_n166 H, m_n167 H, m_n168 H, m_n169 H, nI_c, nI_add, up_ne, kX5_within, l6a_0, l6b_0, l6a_1, l6b_1, l6a_2, l6b_2, l6a_3, l6b_3, l6a_4, l6b_4, l6a_5, l6b_5, l6a_7, l6b_7, l6a_20, l6b_20, l6a_30, l6b_30, l6a_39, l6b_39, l6a_40, l6b_40, l6a_60, l6b_60, l6a_99, l6b_99, l6a_100, l6b_100, l6a_200, l6b_200, l6a_300, l6b_300, l6a_600, l6b_600, l6a_999, l6b_999, l6a_1000, l6b_1000, l6a_9999, l6b_9999, l6a_1000000, l6b_1000000, l6a_12, l6b_12, l64_xx, wi_d, one_ne0, zb_0, m6, W1, W2, not_true_eq_false, not_false_eq_true, and_self, and_true, true_and, and_false, false_and, or_true, true_or, or_false, false_or, decide_true, decide_false, zb_t, zb_f, zb_0, zb_1, eq_self]
  obtain ⟨H1, eH1⟩ : ∃ H1, H1 = pI h 150 (va_up (va_up (va_up (va_up (va_up (va_up (va_up (oI h 150) 0 (nI 0)) 9 (nI n)) 6 (nI 0)) 8 (nI 0)) 12 (nI 0)) 14 (nI 0)) 15 (nI 0)) := ⟨_, rfl⟩
  have M1 : MR H1 (qK P 0 (pk P) (pp P)) := by
    rw [eH1]
    refine MR_K M ?_ ?_ ?_ ?_ ?_
    · rw [up_ne (by omega), up_ne (by omega), up_ne (by omega), up_ne (by omega), up_s]
    · rw [up_ne (by omega), up_ne (by omega), up_ne (by omega), up_ne (by omega), up_ne (by omega), up_ne (by omega), up_ne (by omega)]; exact m16
    · rw [up_ne (by omega), up_ne (by omega), up_ne (by omega), up_ne (by omega), up_ne (by omega), up_ne (by omega), up_ne (by omega)]; exact m17
    · rw [up_ne (by omega), up_ne (by omega), up_ne (by omega), up_ne (by omega), up_ne (by omega), up_ne (by omega), up_ne (by omega)]
    · rw [up_ne (by omega), up_ne (by omega), up_ne (by omega), up_ne (by omega), up_ne (by omega), up_ne (by omega), up_ne (by omega)]
  have K1 : KX h H1 := by rw [eH1]; exact KX_I KX_refl (by omega) (by omega)
  have i9 : oI H1 150 9 = nI n := by
    rw [eH1, o_II, if_pos rfl, up_ne (by omega), up_ne (by omega), up_ne (by omega), up_ne (by omega), up_ne (by omega), up_s]
  have i8 : oI H1 150 8 = nI 0 := by rw [eH1, o_II, if_pos rfl, up_ne (by omega), up_ne (by omega), up_ne (by omega), up_s]
  have i12 : oI H1 150 12 = nI 0 := by rw [eH1, o_II, if_pos rfl, up_ne (by omega), up_ne (by omega), up_s]
  have i14 : oI H1 150 14 = nI 0 := by rw [eH1, o_II, if_pos rfl, up_ne (by omega), up_s]
  have i15 : oI H1 150 15 = nI 0 := by rw [eH1, o_II, if_pos rfl, up_s]
  rw [← eH1] at e0
  have HH := M1.1
  have PL := kX5_plain (d := d + 45) (a := 155) (h := H1) (mok_t HH rfl) (by rw [m_n155 HH]; omega) (by rw [m_n155 HH]; omega)
  obtain ⟨H2, eH2⟩ : ∃ H2, H2 = pI H1 155 (fun j => if j < 477 then plN j else oI H1 155 j) := ⟨_, rfl⟩
  rw [← eH2] at PL
  have S31 : ST3 H1 := by rw [eH1]; exact S3
  have T2 : TMs H2 n (tpt P) := by
    rw [eH2]
    refine ⟨HH, by omega, fun k hk => ?_, i9⟩
    obtain ⟨z1, z2⟩ := tpt_n W k hk
    refine ⟨?_, z2⟩
    show oI H1 154 k = _
    rw [M1.2.2.1]
    exact z1
  have S32 : ST3 H2 := by rw [eH2]; exact S31
  have j8 : oI H2 150 8 = nI 0 := by rw [eH2]; exact i8
  obtain ⟨v', en, hv⟩ := kX5_next (d := d + 44) T2 S32 (Nat.zero_le n) j8
  obtain ⟨H3, eH3⟩ : ∃ H3, H3 = MX H2 (nI (lx (tpt P) n 0).1) (nI (lx (tpt P) n 0).2.1) (nI (lx (tpt P) n 0).2.2.1) v' := ⟨_, rfl⟩
  rw [← eH3] at en
  have ok := (lx_ok (Nat.zero_le n) (TMs_t T2)).1
  have D2 : MD_ H1 H2 := by rw [eH2]; exact MD_F MF_5
  have D3 : MD_ H2 H3 := by
    rw [eH3]
    exact MD_F (MF_0 fun j hj => by rw [up_ne (by omega), up_ne (by omega), up_ne (by omega), up_ne (by omega)])
  refine ⟨H3, e0.trans ?_, ⟨⟨?_, ?_, ?_, ok, ?_, ?_, ?_, fun z => ?_⟩, ?_, fun L' z => ⟨?_, fun k hk => ?_⟩⟩, MD_MR (MD_MR M1 D2) D3, KX_trans K1 (KX_trans D2.1 D3.1)⟩
  · have t2 : oT H1 150 = 7 := mok_t HH rfl
    have t3 : oT H2 150 = 7 := mok_t T2.1 rfl
    have r5 := m_r5 HH
    simp (disch := first | exact t2 | exact t3 | first | assumption | exact nI_ne0 (by decide) (by decide) | exact zb_01 | exact Or.inl rfl | exact Or.inr rfl | with_unfolding_all exact id (by assumption) | with_unfolding_all exact id (xix_8 (by assumption) (by omega) (by omega)) | omega) only [wX5_text_73, wX5_text_74, wX5_text_77, wX5_text_80, wX5_text_81, if_true, if_false, ↓reduceIte, xpu_s, xpu_n, Option.bind_some, xk_i, xk_r, xk_0, xk_u, xk_l, xk_k, xk_q, rf_s, rf_n, q_e1, q_e2, Nat.zero_add, Nat.reduceEqDiff, Nat.reduceAdd, Nat.reduceMul, Nat.reduceSub, Nat.reduceLT, Nat.reduceLeDiff, Nat.reduceDiv, Nat.reduceMod, r5, PL, en]
  · rw [eH3]; exact TMs_MX T2
  · rw [eH3]; exact ST3_MX S32
  · rw [eH3, MX_o (by decide), eH2]; exact i12
  · rw [eH3]; exact MX_7
  · rw [eH3]; exact MX_8
  · rw [eH3]; exact MX_10
  · rw [eH3]; exact MX_11.trans (hv z)
  · rw [eH3, MX_o (by decide), eH2]; exact i14
  · rw [eH3, MX_o (by decide), eH2]; exact i15
  · rw [eH3]
    show oI H2 155 k = _
    rw [eH2, o_II, if_pos rfl, if_pos hk]
/-- refused -/
theorem kX5_txF {q : Nat × Nat} (M : MR h (qK P 0 y1 y2)) (S : MS h n t (.inl q)) : ∃ h1, E_ (d + 1) mX5_text 118 [.val (.ref 150), .val (.int (nI w)), .val (.int y3), .unset, .unset, .unset] [] h = some (some (q_tf P q).1, h1) ∧ MR h1 (q_tf P q).2 ∧ KX h h1 := by
  obtain ⟨T, S3, c12, c13, q1, q5, -⟩ := S
  have H := M.1
  have z12 : (nI q.1 = 0) = False := eq_false (nI_ne0 (by omega) (by omega))
  have e0 : E_ (d + 1) mX5_text 118 [.val (.ref 150), .val (.int (nI w)), .val (.int y3), .unset, .unset, .unset] [] h = E_ (d + 1) mX5_text 145 [.val (.ref 150), .val (.int (nI w)), .val (.int y3), .unset, .unset, .unset] [] (pI h 150 (va_up (va_up (oI h 150) 16 (nI q.1)) 17 (nI q.2))) := by
    simp (disch := first | with_unfolding_all exact id (mok_t H rfl) | exact Or.inr (by with_unfolding_all exact mok_t H rfl) | exact nI_ne0 (by decide) (by decide) | with_unfolding_all exact id (m_x152 H (by omega)) | with_unfolding_all exact id (m_x156 H (by omega)) | with_unfolding_all exact id (m_x158 H (by omega)) | with_unfolding_all exact id (m_x159 H (by omega)) | with_unfolding_all exact id (m_x160 H (by omega)) | exact zb_01 | exact Or.inl rfl | exact Or.inr rfl | omega) only [wX5_text_118, wX5_text_119, wX5_text_120, wX5_text_123, wX5_text_126, wX5_text_127, wX5_text_128, wX5_text_131, wX5_text_134, wX5_text_135, wX5_text_138, wX5_text_139, wX5_text_142, if_true, if_false, ↓reduceIte, xpu_s, xpu_n, Option.bind_some, xk_i, xk_r, xk_0, xk_u, xk_l, xk_k, xk_q, rf_s, rf_n, o_TI, o_TL, o_TR, o_NI, o_NL, o_NR, o_XI, o_XL, o_XR, o_RI, o_RL, o_LI, o_LR, o_IL, o_IR, o_II, o_LL, o_RR, o_pII, o_pLL, up_s, q_e1, q_e2, Nat.zero_add, Nat.reduceEqDiff, Nat.reduceAdd, Nat.reduceMul, Nat.reduceSub, Nat.reduceLT, Nat.reduceLeDiff, Nat.reduceDiv, Nat.reduceMod, m_r1 H, m_r2 H, m_r3 H, m_r4 H, m_r5 H, m_r18 H, m_r19 H, m_r20 H, m_r24 H, m_r25 H, m_r27 H, m_r28 H, m_r29 H, m_r30 H, m_r31 H, m_r32 H, m_r33 H, m_r34 H, m_r35 H, m_n150 H, m_n151 H, m_n152 H, m_n153 H, m_n154 H, m_n155 H, m_n156 H, m_n157 H, m_n158 H, m_n159 H, m_n160 H, m_n161 H, m_n162 H, m_n163 H, m_n164 H, m_n165 H, m_n166 H, m_n167 H, m_n168 H, m_n169 H, nI_c, nI_add, up_ne, c12, c13, z12, not_true_eq_false, not_false_eq_true, and_self, and_true, true_and, and_false, false_and, or_true, true_or, or_false, false_or, decide_true, decide_false, zb_t, zb_f, zb_0, zb_1, eq_self]
  have M1 : MR (pI h 150 (va_up (va_up (oI h 150) 16 (nI q.1)) 17 (nI q.2))) (qK (qK P 0 y1 y2) 0 (nI q.1) (nI q.2)) := MR_K M (by rw [up_ne (by omega), up_ne (by omega)]; exact M.2.2.2.2.2.2.2.2.1) (by rw [up_ne (by omega), up_s]) (by rw [up_s]) (by rw [up_ne (by omega), up_ne (by omega)]) (by rw [up_ne (by omega), up_ne (by omega)])
  have M1 : MR (pI h 150 (va_up (va_up (oI h 150) 16 (nI q.1)) 17 (nI q.2))) (qK P 0 (nI q.1) (nI q.2)) := M1
  obtain ⟨H1, eH1⟩ : ∃ H1, H1 = pI h 150 (va_up (va_up (oI h 150) 16 (nI q.1)) 17 (nI q.2)) := ⟨_, rfl⟩
  have i12 : oI H1 150 12 = nI q.1 := by rw [eH1, o_II, if_pos rfl, up_ne (by omega), up_ne (by omega)]; exact c12
  have K1 : KX h H1 := by rw [eH1]; exact KX_I KX_refl (by omega) (by omega)
  rw [← eH1] at e0 M1
  have t2 : oT H1 150 = 7 := mok_t M1.1 rfl
  have no := kX5_no (d := d) M1.1 (k := -30 - nI q.1)
  refine ⟨RF H1 (nslot (-30 - nI q.1)), e0.trans ?_, MR_RF M1, KX_RF K1⟩
  simp (disch := first | exact t2 | first | assumption | exact nI_ne0 (by decide) (by decide) | exact zb_01 | exact Or.inl rfl | exact Or.inr rfl | with_unfolding_all exact id (by assumption) | with_unfolding_all exact id (xix_8 (by assumption) (by omega) (by omega)) | omega) only [wX5_text_145, wX5_text_146, wX5_text_149, wX5_text_152, wX5_text_153, wX5_text_155, wX5_text_156, wX5_text_159, wX5_text_160, wX5_text_163, if_true, if_false, ↓reduceIte, xpu_s, xpu_n, Option.bind_some, xk_i, xk_r, xk_0, xk_u, xk_l, xk_k, xk_q, rf_s, rf_n, q_e1, q_e2, Nat.zero_add, Nat.reduceEqDiff, Nat.reduceAdd, Nat.reduceMul, Nat.reduceSub, Nat.reduceLT, Nat.reduceLeDiff, Nat.reduceDiv, Nat.reduceMod, i12, z12, no, q_tf, nn, RF]
/-- a scene, a law -/
theorem kX5_txG (M : MR h (qK P 0 y1 y2)) (S : MS h n t (.inr L)) (F : FRo h A) (hw : w = 0 ∨ w = 1) : ∃ h1, E_ (d + 1) mX5_text 118 [.val (.ref 150), .val (.int (nI w)), .val (.int y3), .unset, .unset, .unset] [] h = some (some (if w = 0 then q_ts P A else q_tl P A).1, h1) ∧ MR h1 (if w = 0 then q_ts P A else q_tl P A).2 ∧ KX h h1 := by
  obtain ⟨T, S3, c12, -⟩ := S
  have H := M.1
  have e0 : E_ (d + 1) mX5_text 118 [.val (.ref 150), .val (.int (nI w)), .val (.int y3), .unset, .unset, .unset] [] h = E_ (d + 1) mX5_text 145 [.val (.ref 150), .val (.int (nI w)), .val (.int y3), .unset, .unset, .unset] [] (pI h 150 (va_up (va_up (oI h 150) 16 (nI 0)) 17 (-1))) := by
    simp (disch := first | with_unfolding_all exact id (mok_t H rfl) | exact Or.inr (by with_unfolding_all exact mok_t H rfl) | exact nI_ne0 (by decide) (by decide) | with_unfolding_all exact id (m_x152 H (by omega)) | with_unfolding_all exact id (m_x156 H (by omega)) | with_unfolding_all exact id (m_x158 H (by omega)) | with_unfolding_all exact id (m_x159 H (by omega)) | with_unfolding_all exact id (m_x160 H (by omega)) | exact zb_01 | exact Or.inl rfl | exact Or.inr rfl | omega) only [wX5_text_118, wX5_text_119, wX5_text_120, wX5_text_123, wX5_text_126, wX5_text_127, wX5_text_128, wX5_text_131, wX5_text_134, wX5_text_135, wX5_text_138, wX5_text_139, wX5_text_142, if_true, if_false, ↓reduceIte, xpu_s, xpu_n, Option.bind_some, xk_i, xk_r, xk_0, xk_u, xk_l, xk_k, xk_q, rf_s, rf_n, o_TI, o_TL, o_TR, o_NI, o_NL, o_NR, o_XI, o_XL, o_XR, o_RI, o_RL, o_LI, o_LR, o_IL, o_IR, o_II, o_LL, o_RR, o_pII, o_pLL, up_s, q_e1, q_e2, Nat.zero_add, Nat.reduceEqDiff, Nat.reduceAdd, Nat.reduceMul, Nat.reduceSub, Nat.reduceLT, Nat.reduceLeDiff, Nat.reduceDiv, Nat.reduceMod, m_r1 H, m_r2 H, m_r3 H, m_r4 H, m_r5 H, m_r18 H, m_r19 H, m_r20 H, m_r24 H, m_r25 H, m_r27 H, m_r28 H, m_r29 H, m_r30 H, m_r31 H, m_r32 H, m_r33 H, m_r34 H, m_r35 H, m_n150 H, m_n151 H, m_n152 H, m_n153 H, m_n154 H, m_n155 H, m_n156 H, m_n157 H, m_n158 H, m_n159 H, m_n160 H, m_n161 H, m_n162 H, m_n163 H, m_n164 H, m_n165 H, m_n166 H, m_n167 H, m_n168 H, m_n169 H, nI_c, nI_add, up_ne, c12, nI_00, not_true_eq_false, not_false_eq_true, and_self, and_true, true_and, and_false, false_and, or_true, true_or, or_false, false_or, decide_true, decide_false, zb_t, zb_f, zb_0, zb_1, eq_self]
  have M1 : MR (pI h 150 (va_up (va_up (oI h 150) 16 (nI 0)) 17 (-1))) (qK (qK P 0 y1 y2) 0 (nI 0) (-1)) := MR_K M (by rw [up_ne (by omega), up_ne (by omega)]; exact M.2.2.2.2.2.2.2.2.1) (by rw [up_ne (by omega), up_s]) (by rw [up_s]) (by rw [up_ne (by omega), up_ne (by omega)]) (by rw [up_ne (by omega), up_ne (by omega)])
  have M1 : MR (pI h 150 (va_up (va_up (oI h 150) 16 (nI 0)) 17 (-1))) (qK P 0 (nI 0) (-1)) := M1
  obtain ⟨H1, eH1⟩ : ∃ H1, H1 = pI h 150 (va_up (va_up (oI h 150) 16 (nI 0)) 17 (-1)) := ⟨_, rfl⟩
  have i12 : oI H1 150 12 = nI 0 := by rw [eH1, o_II, if_pos rfl, up_ne (by omega), up_ne (by omega)]; exact c12
  have K1 : KX h H1 := by rw [eH1]; exact KX_I KX_refl (by omega) (by omega)
  have F1 : FRo H1 A := fun k hk => by rw [eH1]; exact F k hk
  rw [← eH1] at e0 M1
  have t2 : oT H1 150 = 7 := mok_t M1.1 rfl
  have m152 : oI H1 152 = pA P := M1.2.1
  have CP : ∀ fr to, to ≤ 477 → tko (oI H1 152) (oI H1 155) fr to = tko (pA P) A fr to := fun fr to ht => by
    funext j
    unfold tko
    rw [m152]
    split
    · exact F1 j (by omega)
    · rfl
  rcases hw with rfl | rfl
  · have cp := txt_copy (d := d + 1) (s1 := .val (.int (nI 0))) (s2 := .val (.int y3)) (s3 := .val (.int (nI 0))) (fr := 0) (to := 40) M1.1 (by omega) (by omega)
    rw [CP 0 40 (by omega)] at cp
    obtain ⟨H2, eH2⟩ : ∃ H2, H2 = pI H1 152 (tko (pA P) A 0 40) := ⟨_, rfl⟩
    rw [← eH2] at cp
    have M2 : MR H2 (qA (qK P 0 (nI 0) (-1)) (tko (pA P) A 0 40)) := by rw [eH2]; exact MR_A M1
    have K2 : KX h H2 := by rw [eH2]; exact KX_I K1 (by omega) (by omega)
    have t3 : oT H2 150 = 7 := mok_t M2.1 rfl
    have t4 : oT H2 152 = 40 := mok_t M2.1 rfl
    have r2 := m_r2 M2.1
    have i39 : oI H2 152 39 = A 39 := by rw [M2.2.1]; show tko (pA P) A 0 40 39 = A 39; exact if_pos (e := pA P 39) (show (0 : Nat) ≤ 39 ∧ 39 < 40 from ⟨by decide, by decide⟩)
    have xx : xix (nI 39) (oN H2 152) = true := m_x152 M2.1 (by omega)
    have t4 : (oT H2 152 = 40) = True := eq_true t4
    refine ⟨H2, e0.trans ?_, by rw [if_pos rfl]; exact M2, K2⟩
    rw [if_pos rfl]
    simp (disch := first | exact t2 | exact t3 | exact of_eq_true t4 | exact xx | first | assumption | exact nI_ne0 (by decide) (by decide) | exact zb_01 | exact Or.inl rfl | exact Or.inr rfl | with_unfolding_all exact id (by assumption) | with_unfolding_all exact id (xix_8 (by assumption) (by omega) (by omega)) | omega) only [wX5_text_145, wX5_text_146, wX5_text_149, wX5_text_164, wX5_text_165, wX5_text_168, wX5_text_169, wX5_text_174, wX5_text_175, wX5_text_176, wX5_text_179, wX5_text_181, wX5_text_187, wX5_text_189, wX5_text_190, wX5_text_219, wX5_text_220, wX5_text_223, wX5_text_224, wX5_text_227, wX5_text_229, wX5_text_230, wX5_text_240, if_true, if_false, ↓reduceIte, xpu_s, xpu_n, Option.bind_some, xk_i, xk_r, xk_0, xk_u, xk_l, xk_k, xk_q, rf_s, rf_n, q_e1, q_e2, Nat.zero_add, Nat.reduceEqDiff, Nat.reduceAdd, Nat.reduceMul, Nat.reduceSub, Nat.reduceLT, Nat.reduceLeDiff, Nat.reduceDiv, Nat.reduceMod, i12, nI_00, cp, r2, nI_c, i39, q_ts, not_true_eq_false, not_false_eq_true, and_self, and_true, true_and, and_false, false_and, or_true, true_or, or_false, false_or, decide_true, decide_false, zb_t, zb_f, zb_0, zb_1, eq_self]
  · have cp := txt_copy (d := d + 1) (s1 := .val (.int (nI 1))) (s2 := .val (.int y3)) (s3 := .val (.int (nI 40))) (fr := 40) (to := 477) M1.1 (by omega) (by omega)
    rw [CP 40 477 (by omega)] at cp
    obtain ⟨H2, eH2⟩ : ∃ H2, H2 = pI H1 152 (tko (pA P) A 40 477) := ⟨_, rfl⟩
    rw [← eH2] at cp
    have M2 : MR H2 (qA (qK P 0 (nI 0) (-1)) (tko (pA P) A 40 477)) := by rw [eH2]; exact MR_A M1
    have K2 : KX h H2 := by rw [eH2]; exact KX_I K1 (by omega) (by omega)
    have t3 : oT H2 150 = 7 := mok_t M2.1 rfl
    have t4 : oT H2 152 = 40 := mok_t M2.1 rfl
    have r2 := m_r2 M2.1
    have i40 : oI H2 152 40 = A 40 := by rw [M2.2.1]; show tko (pA P) A 40 477 40 = A 40; exact if_pos (show (40 : Nat) ≤ 40 ∧ 40 < 477 from ⟨by decide, by decide⟩)
    have xx : xix (nI 40) (oN H2 152) = true := m_x152 M2.1 (by omega)
    have t4 : (oT H2 152 = 40) = True := eq_true t4
    refine ⟨H2, e0.trans ?_, by rw [if_neg (by omega)]; exact M2, K2⟩
    rw [if_neg (by omega)]
    simp (disch := first | exact t2 | exact t3 | exact of_eq_true t4 | exact xx | first | assumption | exact nI_ne0 (by decide) (by decide) | exact zb_01 | exact Or.inl rfl | exact Or.inr rfl | with_unfolding_all exact id (by assumption) | with_unfolding_all exact id (xix_8 (by assumption) (by omega) (by omega)) | omega) only [wX5_text_145, wX5_text_146, wX5_text_149, wX5_text_164, wX5_text_165, wX5_text_172, wX5_text_174, wX5_text_175, wX5_text_176, wX5_text_184, wX5_text_187, wX5_text_189, wX5_text_190, wX5_text_219, wX5_text_220, wX5_text_233, wX5_text_234, wX5_text_237, wX5_text_239, wX5_text_240, if_true, if_false, ↓reduceIte, xpu_s, xpu_n, Option.bind_some, xk_i, xk_r, xk_0, xk_u, xk_l, xk_k, xk_q, rf_s, rf_n, q_e1, q_e2, Nat.zero_add, Nat.reduceEqDiff, Nat.reduceAdd, Nat.reduceMul, Nat.reduceSub, Nat.reduceLT, Nat.reduceLeDiff, Nat.reduceDiv, Nat.reduceMod, i12, nI_00, nI_ne1, cp, r2, nI_c, i40, q_tl, not_true_eq_false, not_false_eq_true, and_self, and_true, true_and, and_false, false_and, or_true, true_or, or_false, false_or, decide_true, decide_false, zb_t, zb_f, zb_0, zb_1, eq_self]
end
