/-! CALLS: text, both sides -/
section
variable {d e : Nat} {h h1 h2 h3 h4 : xH} {P : sS} {X o l n p b k v c j i m w u z cd : Nat} {t : Nat → Nat} {f g A B : rI} {x : sX} {s1 s2 s3 : Slot} {a y1 y2 y3 : Int32} {L : Nat × Nat × Nat × Nat} {ow : Nat → Nat} {s : Nat}
theorem SK_GO (C : CT h o n t p x) (G : GO o h h1 k v) (K : SK h X o c A) : SK h1 X o c A := by
  obtain ⟨k1, k2, k3, k4, k5, k6⟩ := id K
  have T := C.2.2
  have t8 := C.1.1.1
  have tc := k2.1
  have t4 := k2.2.2.2.2.2.2.2.2.2.1.1
  have t45 := k2.2.2.2.2.2.2.2.2.2.1.2.2.2.1
  exact SK_m (Or.inr G.2) (G.1.2.2.2.2.2 c (TX_lt T (by rw [tc]; decide)) (fun z => by rw [z, t8] at tc; omega)) (G.1.2.2.2.2.2 _ (TX_lt T (by rw [t4]; decide)) (fun z => by rw [z, t8] at t4; omega)) (G.1.2.2.2.2.2 _ (TX_lt T (by rw [t45]; decide)) (fun z => by rw [z, t8] at t45; omega)) (GO_st G C) K
theorem SWx_pl : SWx plN := by
  have n0 : sN plN = 0 := by decide
  have l1 : sL plN = 1 := by decide
  refine ⟨⟨by rw [n0]; rfl, by omega, by rw [l1]; rfl, by omega, by omega, fun c hc => by omega⟩, fun c hc => by omega, fun c hc => by omega, fun c hc => by omega, fun c hc => by omega, ⟨0, rfl, by omega⟩, ⟨0, rfl, by omega⟩, ⟨3, rfl, by omega⟩, ⟨20, rfl, by omega⟩, ⟨40, rfl, by omega, by omega⟩⟩
theorem WN_pl : WN plN 0 0 := ⟨rfl, by omega, fun k hk => by omega⟩
/-- a law's numbers are right -/
theorem WN_WF (W : WN A m cd) (hc : cd ≤ 200) (L : LWo h l A) : WFl A := by
  have en := WN_n W
  obtain ⟨w1, w2, w3⟩ := W
  refine ⟨by rw [en]; exact w1, by omega, fun k hk => ?_⟩
  obtain ⟨v1, v2, v3, v4, v5⟩ := w3 k (by omega)
  have F := (L.2 k hk).2.2.2
  exact ⟨v1, v2, v3, v4, by omega, FT_dp F 0 0 1 rfl⟩
theorem WF_K (W : WF P) (hz : z ≤ 400) : WF (qK P z y1 y2) := ⟨W.1, W.2.1, hz, W.2.2.2.1, W.2.2.2.2⟩
theorem WF_tf {q : Nat × Nat} (W : WF P) : WF (q_tf P q).2 := WF_nn (WF_K W (by omega))
theorem sh_tk {fr to : Nat} (h2 : to ≤ 477) : sh (tko B A fr to) i = sh B i := by
  funext j
  exact if_neg (by omega)
theorem WF_ts (W : WF P) (S : SWx A) (hc : A 39 = nI c) (hl : c ≤ 400) : WF (q_ts P A).2 :=
  WF_qA (P := qK P 0 (nI 0) (-1)) (WF_K W (by omega)) ⟨WFs_A (fun k hk => if_pos ⟨by omega, hk⟩) (SWx_W S hc hl), WFl_A (fun k h1 h2 => if_neg (by omega)) W.1.2.1, WFp_A (fun k h1 h2 => if_neg (by omega)) W.1.2.2⟩ (fun i => sh_tk (by omega))
theorem WF_tl (W : WF P) (S : WFl A) : WF (q_tl P A).2 :=
  WF_qA (P := qK P 0 (nI 0) (-1)) (WF_K W (by omega)) ⟨WFs_A (fun k hk => if_neg (by omega)) W.1.1, WFl_A (fun k h1 h2 => if_pos ⟨h1, h2⟩) S, WFp_A (fun k h1 h2 => if_neg (by omega)) W.1.2.2⟩ (fun i => sh_tk (by omega))
/-- the component's reader, made and at its first word -/
theorem kX0_txA (X1 : XRo ow s h P) (W : WF P) (hw : w = 0 ∨ w = 1) (hn : n ≤ pn P) : ∃ h6 c l, C_ (d + 46) mX0_text [.ref 64, .int (nI w), .int (nI n)] h = E_ (d + 46) mX0_text 48 [.val (.ref 64), .val (.int (nI w)), .val (.int (nI n)), .val (.ref (oX h))] [] h6 ∧ CT h6 (oX h) n (tpt P) 0 (.inr (0, 0, 34, 0)) ∧ SK h6 (oX h) (oX h) c plN ∧ LK h6 (oX h) (oX h) l plN ∧ GX (fun _ => False) h h6 6 40 := by
  have h4 := W.2.2.1
  have TT := XR_TX X1
  have oX170 := X1.2.2.2.2.2.2.2.2.2.2.1
  have x4 := X1.2.2.2.2.2.2.1
  have XTt := X1.1
  have x0 := XTt.1.1
  obtain ⟨-, -, -, -, -, r3, -, -, -, -, -, -, -, -, t78, n78, -, -, -, -, -, -, -, STt⟩ := id XTt
  obtain ⟨h5, c, l, e5, C5, S5, K5, G5⟩ := kX6_init (d := d + 40) (n := n) (t := tpt P) TT STt oX170 x0 r3 t78 n78 (fun k hk => by
    obtain ⟨z1, z2⟩ := tpt_n W k hk
    exact ⟨(X1.2.2.2.2.2.1 k hk).trans z1, z2⟩) (by omega)
  refine ⟨h5, c, l, ?_, C5, S5, K5, G5⟩
  have W1 := wi_nn (v := w) (lo := 0) (hi := 1) (by omega) (by omega) (by omega)
  have W2 := wi_nn (v := n) (lo := 0) (hi := pn P) (by omega) (by omega) (by omega)
  rw [decide_eq_true (by omega)] at W1 W2
  simp (disch := first | assumption | exact nI_ne0 (by decide) (by decide) | exact zb_01 | exact Or.inl rfl | exact Or.inr rfl | with_unfolding_all exact id (by assumption) | with_unfolding_all exact id (xix_8 (by assumption) (by omega) (by omega)) | omega) only [wX0_text_e, wX0_text_0, wX0_text_1, wX0_text_2, wX0_text_3, wX0_text_4, wX0_text_7, wX0_text_10, wX0_text_11, wX0_text_13, wX0_text_16, wX0_text_17, wX0_text_18, wX0_text_19, wX0_text_20, wX0_text_21, wX0_text_24, wX0_text_25, wX0_text_28, wX0_text_31, wX0_text_32, wX0_text_34, wX0_text_37, wX0_text_38, wX0_text_41, wX0_text_42, wX0_text_43, wX0_text_44, wX0_text_47, wX0_text_49, wX0_text_52, wX0_text_53, wX0_text_56, wX0_text_59, wX0_text_60, wX0_text_63, wX0_text_64, wX0_text_65, wX0_text_68, wX0_text_69, wX0_text_70, wX0_text_73, wX0_text_76, wX0_text_77, wX0_text_78, wX0_text_81, wX0_text_84, wX0_text_85, wX0_text_88, wX0_text_91, wX0_text_92, wX0_text_94, wX0_text_95, wX0_text_98, wX0_text_99, wX0_text_102, wX0_text_103, wX0_text_104, wX0_text_105, wX0_text_108, wX0_text_109, wX0_text_112, wX0_text_113, wX0_text_116, wX0_text_119, wX0_text_120, wX0_text_123, wX0_text_126, wX0_text_127, wX0_text_128, wX0_text_131, wX0_text_132, wX0_text_135, wX0_text_138, wX0_text_139, wX0_text_142, wX0_text_145, if_true, if_false, ↓reduceIte, xpu_s, xpu_n, Option.bind_some, xk_i, xk_r, xk_0, xk_u, xk_l, xk_k, xk_q, rf_s, rf_n, o_TI, o_TL, o_TR, o_NI, o_NL, o_NR, o_XI, o_XL, o_XR, o_RI, o_RL, o_LI, o_LR, o_IL, o_IR, o_II, o_LL, o_RR, o_pII, o_pLL, up_s, q_e1, q_e2, Nat.zero_add, Nat.reduceEqDiff, Nat.reduceAdd, Nat.reduceMul, Nat.reduceSub, Nat.reduceLT, Nat.reduceLeDiff, Nat.reduceDiv, Nat.reduceMod, nI_c, nI_add, up_ne, kX0_in, l6a_0, l6b_0, l6a_1, l6b_1, l6a_2, l6b_2, l6a_3, l6b_3, l6a_4, l6b_4, l6a_5, l6b_5, l6a_7, l6b_7, l6a_20, l6b_20, l6a_30, l6b_30, l6a_39, l6b_39, l6a_40, l6b_40, l6a_60, l6b_60, l6a_99, l6b_99, l6a_100, l6b_100, l6a_200, l6b_200, l6a_300, l6b_300, l6a_600, l6b_600, l6a_999, l6b_999, l6a_1000, l6b_1000, l6a_9999, l6b_9999, l6a_1000000, l6b_1000000, l6a_12, l6b_12, l64_xx, wi_d, one_ne0, zb_0, x4, W1, W2, e5, not_true_eq_false, not_false_eq_true, and_self, and_true, true_and, and_false, false_and, or_true, true_or, or_false, false_or, decide_true, decide_false, zb_t, zb_f, zb_0, zb_1, eq_self]
theorem nX0_text_r (X1 : XR h P) (q : sV) {k s : Nat} (G : oC h1 ≤ oC h + k ∧ oS h1 ≤ oS h + s) (hk : k ≤ 15000) (hs : s ≤ 60000) (KM1 : KM h h1) {m : xM} {as : List Value} (e : ∃ h2, C_ d m as h = some (some q.1, h2) ∧ XR h2 q.2 ∧ KM h1 h2 ∧ oC h2 = oC h1 ∧ oS h2 = oS h1) : XG d h m as q := by
  obtain ⟨h2, e1, e2, e3, e4, e5⟩ := e
  exact ⟨h2, e1, e2, fun a ha => sm_trans (KM1 a ha) (e3 a ha), by omega, by omega⟩
/-- refused at once -/
theorem n_text0 (X1 : XR h P) (W : WF P) (hw : wi a (nI 0) (nI 1) = false ∨ (wi a (nI 0) (nI 1) = true ∧ wi y1 (nI 0) (nI (pn P)) = false)) : XG (d + 46) h mX0_text [.ref 64, .int a, .int y1] (nn P (if wi a (nI 0) (nI 1) = true then -3 else -2)) ∧ ∀ h, MR h P → MG (d + 46) h mX5_text [.ref 150, .int a, .int y1] (nn P (if wi a (nI 0) (nI 1) = true then -3 else -2)) := by
  refine ⟨?_, fun h M => ?_⟩
  · have T := XR_T X1
    have x0 := T.1.1
    have no := fun k : Int32 => kX0_no (d := d + 45) T (k := k)
    obtain ⟨ow, s, X2⟩ := id X1
    have x4 := X2.2.2.2.2.2.2.1
    rcases hw with q | ⟨q, q2⟩
    · rw [q, if_neg (by decide)]
      refine XG_nn X1 ?_
      simp (disch := first | assumption | exact nI_ne0 (by decide) (by decide) | exact zb_01 | exact Or.inl rfl | exact Or.inr rfl | with_unfolding_all exact id (by assumption) | with_unfolding_all exact id (xix_8 (by assumption) (by omega) (by omega)) | omega) only [wX0_text_e, wX0_text_0, wX0_text_1, wX0_text_2, wX0_text_3, wX0_text_4, wX0_text_7, wX0_text_10, wX0_text_11, wX0_text_13, wX0_text_16, wX0_text_17, wX0_text_18, wX0_text_19, wX0_text_20, wX0_text_21, wX0_text_24, wX0_text_25, wX0_text_28, wX0_text_31, wX0_text_32, wX0_text_34, wX0_text_37, wX0_text_38, wX0_text_41, wX0_text_42, wX0_text_43, wX0_text_44, wX0_text_47, wX0_text_48, wX0_text_49, wX0_text_52, wX0_text_53, wX0_text_56, wX0_text_59, wX0_text_60, wX0_text_63, wX0_text_64, wX0_text_65, wX0_text_68, wX0_text_69, wX0_text_70, wX0_text_73, wX0_text_76, wX0_text_77, wX0_text_78, wX0_text_81, wX0_text_84, wX0_text_85, wX0_text_88, wX0_text_91, wX0_text_92, wX0_text_94, wX0_text_95, wX0_text_98, wX0_text_99, wX0_text_102, wX0_text_103, wX0_text_104, wX0_text_105, wX0_text_108, wX0_text_109, wX0_text_112, wX0_text_113, wX0_text_116, wX0_text_119, wX0_text_120, wX0_text_123, wX0_text_126, wX0_text_127, wX0_text_128, wX0_text_131, wX0_text_132, wX0_text_135, wX0_text_138, wX0_text_139, wX0_text_142, wX0_text_145, if_true, if_false, ↓reduceIte, xpu_s, xpu_n, Option.bind_some, xk_i, xk_r, xk_0, xk_u, xk_l, xk_k, xk_q, rf_s, rf_n, o_TI, o_TL, o_TR, o_NI, o_NL, o_NR, o_XI, o_XL, o_XR, o_RI, o_RL, o_LI, o_LR, o_IL, o_IR, o_II, o_LL, o_RR, o_pII, o_pLL, up_s, q_e1, q_e2, Nat.zero_add, Nat.reduceEqDiff, Nat.reduceAdd, Nat.reduceMul, Nat.reduceSub, Nat.reduceLT, Nat.reduceLeDiff, Nat.reduceDiv, Nat.reduceMod, nI_c, nI_add, up_ne, kX0_in, l6a_0, l6b_0, l6a_1, l6b_1, l6a_2, l6b_2, l6a_3, l6b_3, l6a_4, l6b_4, l6a_5, l6b_5, l6a_7, l6b_7, l6a_20, l6b_20, l6a_30, l6b_30, l6a_39, l6b_39, l6a_40, l6b_40, l6a_60, l6b_60, l6a_99, l6b_99, l6a_100, l6b_100, l6a_200, l6b_200, l6a_300, l6b_300, l6a_600, l6b_600, l6a_999, l6b_999, l6a_1000, l6b_1000, l6a_9999, l6b_9999, l6a_1000000, l6b_1000000, l6a_12, l6b_12, l64_xx, wi_d, one_ne0, zb_0, q, no, nx_2, nx_3, nx_5, nx_6, nx_7, nx_f, nx_s, nx_w, ns_2, ns_3, ns_5, ns_6, ns_7, not_true_eq_false, not_false_eq_true, and_self, and_true, true_and, and_false, false_and, or_true, true_or, or_false, false_or, decide_true, decide_false, zb_t, zb_f, zb_0, zb_1, eq_self, cond_true, cond_false, Bool.true_eq_false, Bool.false_eq_true, Bool.and_true, Bool.true_and, Bool.and_false, Bool.false_and, Bool.or_true, Bool.true_or, Bool.or_false, Bool.false_or]
    · rw [q, if_pos rfl]
      refine XG_nn X1 ?_
      simp (disch := first | assumption | exact nI_ne0 (by decide) (by decide) | exact zb_01 | exact Or.inl rfl | exact Or.inr rfl | with_unfolding_all exact id (by assumption) | with_unfolding_all exact id (xix_8 (by assumption) (by omega) (by omega)) | omega) only [wX0_text_e, wX0_text_0, wX0_text_1, wX0_text_2, wX0_text_3, wX0_text_4, wX0_text_7, wX0_text_10, wX0_text_11, wX0_text_13, wX0_text_16, wX0_text_17, wX0_text_18, wX0_text_19, wX0_text_20, wX0_text_21, wX0_text_24, wX0_text_25, wX0_text_28, wX0_text_31, wX0_text_32, wX0_text_34, wX0_text_37, wX0_text_38, wX0_text_41, wX0_text_42, wX0_text_43, wX0_text_44, wX0_text_47, wX0_text_48, wX0_text_49, wX0_text_52, wX0_text_53, wX0_text_56, wX0_text_59, wX0_text_60, wX0_text_63, wX0_text_64, wX0_text_65, wX0_text_68, wX0_text_69, wX0_text_70, wX0_text_73, wX0_text_76, wX0_text_77, wX0_text_78, wX0_text_81, wX0_text_84, wX0_text_85, wX0_text_88, wX0_text_91, wX0_text_92, wX0_text_94, wX0_text_95, wX0_text_98, wX0_text_99, wX0_text_102, wX0_text_103, wX0_text_104, wX0_text_105, wX0_text_108, wX0_text_109, wX0_text_112, wX0_text_113, wX0_text_116, wX0_text_119, wX0_text_120, wX0_text_123, wX0_text_126, wX0_text_127, wX0_text_128, wX0_text_131, wX0_text_132, wX0_text_135, wX0_text_138, wX0_text_139, wX0_text_142, wX0_text_145, if_true, if_false, ↓reduceIte, xpu_s, xpu_n, Option.bind_some, xk_i, xk_r, xk_0, xk_u, xk_l, xk_k, xk_q, rf_s, rf_n, o_TI, o_TL, o_TR, o_NI, o_NL, o_NR, o_XI, o_XL, o_XR, o_RI, o_RL, o_LI, o_LR, o_IL, o_IR, o_II, o_LL, o_RR, o_pII, o_pLL, up_s, q_e1, q_e2, Nat.zero_add, Nat.reduceEqDiff, Nat.reduceAdd, Nat.reduceMul, Nat.reduceSub, Nat.reduceLT, Nat.reduceLeDiff, Nat.reduceDiv, Nat.reduceMod, nI_c, nI_add, up_ne, kX0_in, l6a_0, l6b_0, l6a_1, l6b_1, l6a_2, l6b_2, l6a_3, l6b_3, l6a_4, l6b_4, l6a_5, l6b_5, l6a_7, l6b_7, l6a_20, l6b_20, l6a_30, l6b_30, l6a_39, l6b_39, l6a_40, l6b_40, l6a_60, l6b_60, l6a_99, l6b_99, l6a_100, l6b_100, l6a_200, l6b_200, l6a_300, l6b_300, l6a_600, l6b_600, l6a_999, l6b_999, l6a_1000, l6b_1000, l6a_9999, l6b_9999, l6a_1000000, l6b_1000000, l6a_12, l6b_12, l64_xx, wi_d, one_ne0, zb_0, x4, q, q2, no, nx_2, nx_3, nx_5, nx_6, nx_7, nx_f, nx_s, nx_w, ns_2, ns_3, ns_5, ns_6, ns_7, not_true_eq_false, not_false_eq_true, and_self, and_true, true_and, and_false, false_and, or_true, true_or, or_false, false_or, decide_true, decide_false, zb_t, zb_f, zb_0, zb_1, eq_self, cond_true, cond_false, Bool.true_eq_false, Bool.false_eq_true, Bool.and_true, Bool.true_and, Bool.and_false, Bool.false_and, Bool.or_true, Bool.true_or, Bool.or_false, Bool.false_or]
  · obtain ⟨H, m152, m154, m151, m153, m167, m168, m169, m6, m16, m17, m21, m22⟩ := id M
    have no := fun k : Int32 => nX5_no (d := d + 45) k M
    rcases hw with q | ⟨q, q2⟩
    · rw [q, if_neg (by decide)]
      refine MG_nn M ?_
      simp (disch := first | with_unfolding_all exact id (mok_t H rfl) | exact Or.inr (by with_unfolding_all exact mok_t H rfl) | exact nI_ne0 (by decide) (by decide) | with_unfolding_all exact id (m_x152 H (by omega)) | with_unfolding_all exact id (m_x156 H (by omega)) | with_unfolding_all exact id (m_x158 H (by omega)) | with_unfolding_all exact id (m_x159 H (by omega)) | with_unfolding_all exact id (m_x160 H (by omega)) | exact zb_01 | exact Or.inl rfl | exact Or.inr rfl | omega) only [wX5_text_e, wX5_text_0, wX5_text_1, wX5_text_2, wX5_text_5, wX5_text_6, wX5_text_7, wX5_text_8, wX5_text_9, wX5_text_12, wX5_text_15, wX5_text_16, wX5_text_18, wX5_text_21, wX5_text_22, wX5_text_23, wX5_text_24, wX5_text_25, wX5_text_26, wX5_text_29, wX5_text_30, wX5_text_33, wX5_text_36, wX5_text_37, wX5_text_39, wX5_text_42, wX5_text_43, wX5_text_44, wX5_text_45, wX5_text_48, wX5_text_49, wX5_text_50, wX5_text_53, wX5_text_54, wX5_text_55, wX5_text_58, wX5_text_59, wX5_text_60, wX5_text_63, wX5_text_64, wX5_text_65, wX5_text_68, wX5_text_69, wX5_text_70, wX5_text_73, wX5_text_74, wX5_text_77, wX5_text_80, wX5_text_81, wX5_text_84, wX5_text_85, wX5_text_88, wX5_text_91, wX5_text_92, wX5_text_95, wX5_text_97, wX5_text_100, wX5_text_101, wX5_text_104, wX5_text_105, wX5_text_108, wX5_text_111, wX5_text_112, wX5_text_115, wX5_text_118, wX5_text_119, wX5_text_120, wX5_text_123, wX5_text_126, wX5_text_127, wX5_text_128, wX5_text_131, wX5_text_134, wX5_text_135, wX5_text_138, wX5_text_139, wX5_text_142, wX5_text_145, wX5_text_146, wX5_text_149, wX5_text_152, wX5_text_153, wX5_text_155, wX5_text_156, wX5_text_159, wX5_text_160, wX5_text_163, wX5_text_164, wX5_text_165, wX5_text_168, wX5_text_169, wX5_text_172, wX5_text_174, wX5_text_175, wX5_text_176, wX5_text_179, wX5_text_181, wX5_text_184, wX5_text_187, wX5_text_189, wX5_text_190, wX5_text_192, wX5_text_194, wX5_text_196, wX5_text_199, wX5_text_200, wX5_text_203, wX5_text_205, wX5_text_206, wX5_text_209, wX5_text_211, wX5_text_212, wX5_text_213, wX5_text_216, wX5_text_219, wX5_text_220, wX5_text_223, wX5_text_224, wX5_text_227, wX5_text_229, wX5_text_230, wX5_text_233, wX5_text_234, wX5_text_237, wX5_text_239, wX5_text_240, if_true, if_false, ↓reduceIte, xpu_s, xpu_n, Option.bind_some, xk_i, xk_r, xk_0, xk_u, xk_l, xk_k, xk_q, rf_s, rf_n, R0_p, R0_L, R0_T, R0_N, R0_R, R0_r, R0_6, o_TI, o_TL, o_TR, o_NI, o_NL, o_NR, o_XI, o_XL, o_XR, o_RI, o_RL, o_LI, o_LR, o_IL, o_IR, o_II, o_LL, o_RR, o_pII, o_pLL, up_s, q_e1, q_e2, Nat.zero_add, Nat.reduceEqDiff, Nat.reduceAdd, Nat.reduceMul, Nat.reduceSub, Nat.reduceLT, Nat.reduceLeDiff, Nat.reduceDiv, Nat.reduceMod, m_r1 H, m_r2 H, m_r3 H, m_r4 H, m_r5 H, m_r18 H, m_r19 H, m_r20 H, m_r24 H, m_r25 H, m_r27 H, m_r28 H, m_r29 H, m_r30 H, m_r31 H, m_r32 H, m_r33 H, m_r34 H, m_r35 H, m_n150 H, m_n151 H, m_n152 H, m_n153 H, m_n154 H, m_n155 H, m_n156 H, m_n157 H, m_n158 H, m_n159 H, m_n160 H, m_n161 H, m_n162 H, m_n163 H, m_n164 H, m_n165 H, m_n166 H, m_n167 H, m_n168 H, m_n169 H, nI_c, nI_add, up_ne, kX5_within, l6a_0, l6b_0, l6a_1, l6b_1, l6a_2, l6b_2, l6a_3, l6b_3, l6a_4, l6b_4, l6a_5, l6b_5, l6a_7, l6b_7, l6a_20, l6b_20, l6a_30, l6b_30, l6a_39, l6b_39, l6a_40, l6b_40, l6a_60, l6b_60, l6a_99, l6b_99, l6a_100, l6b_100, l6a_200, l6b_200, l6a_300, l6b_300, l6a_600, l6b_600, l6a_999, l6b_999, l6a_1000, l6b_1000, l6a_9999, l6b_9999, l6a_1000000, l6b_1000000, l6a_12, l6b_12, l64_xx, wi_d, one_ne0, zb_0, not_true_eq_false, not_false_eq_true, and_self, and_true, true_and, and_false, false_and, or_true, true_or, or_false, false_or, decide_true, decide_false, zb_t, zb_f, zb_0, zb_1, eq_self, cond_true, cond_false, Bool.true_eq_false, Bool.false_eq_true, Bool.and_true, Bool.true_and, Bool.and_false, Bool.false_and, Bool.or_true, Bool.true_or, Bool.or_false, Bool.false_or, no, q]
    · rw [q, if_pos rfl]
      refine MG_nn M ?_
      simp (disch := first | with_unfolding_all exact id (mok_t H rfl) | exact Or.inr (by with_unfolding_all exact mok_t H rfl) | exact nI_ne0 (by decide) (by decide) | with_unfolding_all exact id (m_x152 H (by omega)) | with_unfolding_all exact id (m_x156 H (by omega)) | with_unfolding_all exact id (m_x158 H (by omega)) | with_unfolding_all exact id (m_x159 H (by omega)) | with_unfolding_all exact id (m_x160 H (by omega)) | exact zb_01 | exact Or.inl rfl | exact Or.inr rfl | omega) only [wX5_text_e, wX5_text_0, wX5_text_1, wX5_text_2, wX5_text_5, wX5_text_6, wX5_text_7, wX5_text_8, wX5_text_9, wX5_text_12, wX5_text_15, wX5_text_16, wX5_text_18, wX5_text_21, wX5_text_22, wX5_text_23, wX5_text_24, wX5_text_25, wX5_text_26, wX5_text_29, wX5_text_30, wX5_text_33, wX5_text_36, wX5_text_37, wX5_text_39, wX5_text_42, wX5_text_43, wX5_text_44, wX5_text_45, wX5_text_48, wX5_text_49, wX5_text_50, wX5_text_53, wX5_text_54, wX5_text_55, wX5_text_58, wX5_text_59, wX5_text_60, wX5_text_63, wX5_text_64, wX5_text_65, wX5_text_68, wX5_text_69, wX5_text_70, wX5_text_73, wX5_text_74, wX5_text_77, wX5_text_80, wX5_text_81, wX5_text_84, wX5_text_85, wX5_text_88, wX5_text_91, wX5_text_92, wX5_text_95, wX5_text_97, wX5_text_100, wX5_text_101, wX5_text_104, wX5_text_105, wX5_text_108, wX5_text_111, wX5_text_112, wX5_text_115, wX5_text_118, wX5_text_119, wX5_text_120, wX5_text_123, wX5_text_126, wX5_text_127, wX5_text_128, wX5_text_131, wX5_text_134, wX5_text_135, wX5_text_138, wX5_text_139, wX5_text_142, wX5_text_145, wX5_text_146, wX5_text_149, wX5_text_152, wX5_text_153, wX5_text_155, wX5_text_156, wX5_text_159, wX5_text_160, wX5_text_163, wX5_text_164, wX5_text_165, wX5_text_168, wX5_text_169, wX5_text_172, wX5_text_174, wX5_text_175, wX5_text_176, wX5_text_179, wX5_text_181, wX5_text_184, wX5_text_187, wX5_text_189, wX5_text_190, wX5_text_192, wX5_text_194, wX5_text_196, wX5_text_199, wX5_text_200, wX5_text_203, wX5_text_205, wX5_text_206, wX5_text_209, wX5_text_211, wX5_text_212, wX5_text_213, wX5_text_216, wX5_text_219, wX5_text_220, wX5_text_223, wX5_text_224, wX5_text_227, wX5_text_229, wX5_text_230, wX5_text_233, wX5_text_234, wX5_text_237, wX5_text_239, wX5_text_240, if_true, if_false, ↓reduceIte, xpu_s, xpu_n, Option.bind_some, xk_i, xk_r, xk_0, xk_u, xk_l, xk_k, xk_q, rf_s, rf_n, R0_p, R0_L, R0_T, R0_N, R0_R, R0_r, R0_6, o_TI, o_TL, o_TR, o_NI, o_NL, o_NR, o_XI, o_XL, o_XR, o_RI, o_RL, o_LI, o_LR, o_IL, o_IR, o_II, o_LL, o_RR, o_pII, o_pLL, up_s, q_e1, q_e2, Nat.zero_add, Nat.reduceEqDiff, Nat.reduceAdd, Nat.reduceMul, Nat.reduceSub, Nat.reduceLT, Nat.reduceLeDiff, Nat.reduceDiv, Nat.reduceMod, m_r1 H, m_r2 H, m_r3 H, m_r4 H, m_r5 H, m_r18 H, m_r19 H, m_r20 H, m_r24 H, m_r25 H, m_r27 H, m_r28 H, m_r29 H, m_r30 H, m_r31 H, m_r32 H, m_r33 H, m_r34 H, m_r35 H, m_n150 H, m_n151 H, m_n152 H, m_n153 H, m_n154 H, m_n155 H, m_n156 H, m_n157 H, m_n158 H, m_n159 H, m_n160 H, m_n161 H, m_n162 H, m_n163 H, m_n164 H, m_n165 H, m_n166 H, m_n167 H, m_n168 H, m_n169 H, nI_c, nI_add, up_ne, kX5_within, l6a_0, l6b_0, l6a_1, l6b_1, l6a_2, l6b_2, l6a_3, l6b_3, l6a_4, l6b_4, l6a_5, l6b_5, l6a_7, l6b_7, l6a_20, l6b_20, l6a_30, l6b_30, l6a_39, l6b_39, l6a_40, l6b_40, l6a_60, l6b_60, l6a_99, l6b_99, l6a_100, l6b_100, l6a_200, l6b_200, l6a_300, l6b_300, l6a_600, l6b_600, l6a_999, l6b_999, l6a_1000, l6b_1000, l6a_9999, l6b_9999, l6a_1000000, l6b_1000000, l6a_12, l6b_12, l64_xx, wi_d, one_ne0, zb_0, not_true_eq_false, not_false_eq_true, and_self, and_true, true_and, and_false, false_and, or_true, true_or, or_false, false_or, decide_true, decide_false, zb_t, zb_f, zb_0, zb_1, eq_self, cond_true, cond_false, Bool.true_eq_false, Bool.false_eq_true, Bool.and_true, Bool.true_and, Bool.and_false, Bool.false_and, Bool.or_true, Bool.true_or, Bool.or_false, Bool.false_or, no, q, q2, m6]
/-- a scene's text -/
theorem n_textS (X1 : XR h P) (W : WF P) (hn : n ≤ pn P) : ∃ q : sV, (∃ r, q.1 = .int r) ∧ WF q.2 ∧ XG (d + 46) h mX0_text [.ref 64, .int (nI 0), .int (nI n)] q ∧ ∀ h, MR h P → ST3 h → MG (d + 46) h mX5_text [.ref 150, .int (nI 0), .int (nI n)] q := by
  have h4 := W.2.2.1
  obtain ⟨ow, s, X2⟩ := id X1
  have TT := XR_TX X2
  have oX170 := X2.2.2.2.2.2.2.2.2.2.2.1
  have x12 := X2.2.2.2.2.2.2.2.2.2.2.2.1
  obtain ⟨h5, c, l, e5, C5, S5, -, G5⟩ := kX0_txA (d := d) X2 W (Or.inl rfl) hn
  obtain ⟨h6, e6, C6, G6⟩ := xC_nx (d := d + 41) C5
  have C6 : CT h6 (oX h) n (tpt P) 0 (.inr (lx (tpt P) n 0)) := C6
  have S6 := SK_GO C5 G6 S5
  have ok := CT_ok C6
  have g56 := G5.1
  have g66 := G6.1.1
  have lo := (CT_l C5).1
  have ht := TBs_t C6.1.1
  have TGx : TG (tpt P) n (n + 1) (.inr (lx (tpt P) n 0)) plN := fun L z => by
    cases z
    exact ⟨ok, by have := ok.1; omega, SWx_pl, 0, rfl, by omega⟩
  obtain ⟨h7, e7, C7, S7, T7, G7⟩ := kX6_scL (d := d + 37) (X := oX h) (c := c) C6.2.2 (by omega) oX170 C6.1 (Nat.le_refl _) (fun L z => S6) C6.2.1 TGx
  have G07 : GX (fun _ => False) h h7 (6 + 0 + 2 * (n + 1)) (40 + 0 + 44 * (n + 1)) := GX_trans (GX_trans G5 G6.1 (fun a ha z => by omega)) G7 (fun a ha z => by omega)
  obtain ⟨X7, KM7⟩ := XR_GX X2 G07
  have E7 : C_ (d + 45) mX6_scene [.ref (oX h)] h5 = some (none, h7) := by
    have t8 := C5.1.1.1
    refine Eq.trans ?_ e7
    simp (disch := first | assumption | exact nI_ne0 (by decide) (by decide) | exact zb_01 | exact Or.inl rfl | exact Or.inr rfl | with_unfolding_all exact id (by assumption) | with_unfolding_all exact id (xix_8 (by assumption) (by omega) (by omega)) | omega) only [wX6_scene_e, wX6_scene_0, wX6_scene_0q, wX6_scene_0n, wX6_scene_1, wX6_scene_5, wX6_scene_8, wX6_scene_11, wX6_scene_11q, wX6_scene_11n, wX6_scene_12, wX6_scene_15, wX6_scene_18, wX6_scene_18q, wX6_scene_18n, wX6_scene_19, wX6_scene_22, wX6_scene_22q, wX6_scene_22n, wX6_scene_23, wX6_scene_26, wX6_scene_26q, wX6_scene_26n, wX6_scene_27, wX6_scene_30, wX6_scene_31, wX6_scene_34, wX6_scene_35, wX6_scene_36, wX6_scene_39, wX6_scene_42, if_true, if_false, ↓reduceIte, xpu_s, xpu_n, Option.bind_some, xk_i, xk_r, xk_0, xk_u, xk_l, xk_k, xk_q, rf_s, rf_n, q_e1, q_e2, Nat.zero_add, Nat.reduceEqDiff, Nat.reduceAdd, Nat.reduceMul, Nat.reduceSub, Nat.reduceLT, Nat.reduceLeDiff, Nat.reduceDiv, Nat.reduceMod, e6]
  have E0 : C_ (d + 46) mX0_text [.ref 64, .int (nI 0), .int (nI n)] h = E_ (d + 46) mX0_text 63 [.val (.ref 64), .val (.int (nI 0)), .val (.int (nI n)), .val (.ref (oX h))] [] h7 := by
    have t8 := C5.1.1.1
    refine e5.trans ?_
    simp (disch := first | assumption | exact nI_ne0 (by decide) (by decide) | exact zb_01 | exact Or.inl rfl | exact Or.inr rfl | with_unfolding_all exact id (by assumption) | with_unfolding_all exact id (xix_8 (by assumption) (by omega) (by omega)) | omega) only [wX0_text_48, wX0_text_49, wX0_text_52, wX0_text_53, wX0_text_56, if_true, if_false, ↓reduceIte, xpu_s, xpu_n, Option.bind_some, xk_i, xk_r, xk_0, xk_u, xk_l, xk_k, xk_q, rf_s, rf_n, q_e1, q_e2, Nat.zero_add, Nat.reduceEqDiff, Nat.reduceAdd, Nat.reduceMul, Nat.reduceSub, Nat.reduceLT, Nat.reduceLeDiff, Nat.reduceDiv, Nat.reduceMod, nI_00, E7]
  have wX : ∀ a, oX h ≤ a → ow a = 100 := fun a ha => (x12 a ha).2
  obtain ⟨R, eR⟩ : ∃ R, R = tsc (tpt P) n (n + 1) (.inr (lx (tpt P) n 0), plN) := ⟨_, rfl⟩
  have te := TG_e ht TGx
  rw [← eR] at C7 S7 te
  have MX : ∀ h', MR h' P → ST3 h' → ∃ h8, C_ (d + 46) mX5_text [.ref 150, .int (nI 0), .int (nI n)] h' = E_ (d + 46) mX5_text 118 [.val (.ref 150), .val (.int (nI 0)), .val (.int (nI n)), .unset, .unset, .unset] [] h8 ∧ MS h8 n (tpt P) R.1 ∧ (∀ L, R.1 = .inr L → FRo h8 R.2) ∧ MR h8 (qK P 0 (pk P) (pp P)) ∧ KX h' h8 := fun h' M S3 => by
    obtain ⟨g1, a1, M1, R1, K1⟩ := kX5_txA (d := d) M W S3 (Or.inl rfl) hn
    obtain ⟨g2, a2, M2, F2, G2⟩ := kX5_scL (d := d + 40) (w := nI n) M1.1 (fun L z => (M1.2.2 L z).2) TGx
    rw [← eR] at M2 F2
    exact ⟨g2, a1.trans a2, M2, F2, MD_MR R1 (MD_F G2), KX_trans K1 G2.1⟩
  rcases sX_inr R.1 with ⟨q, eq⟩ | ⟨L, eq⟩
  · rw [eq] at C7
    obtain ⟨h8, e8, r8⟩ := kX0_txF (d := d + 45) (y1 := nI 0) (y2 := nI n) X7 C7
    refine ⟨q_tf P q, ⟨_, rfl⟩, WF_tf W, nX0_text_r X1 _ ⟨G07.2.1, G07.2.2.1⟩ (by omega) (by omega) KM7 ⟨h8, E0.trans e8, r8⟩, fun h' M S3 => ?_⟩
    obtain ⟨g, a1, M1, F1, R1, K1⟩ := MX h' M S3
    rw [eq] at M1
    obtain ⟨g2, a2, R2, K2⟩ := kX5_txF (d := d + 45) (w := 0) (y3 := nI n) R1 M1
    exact ⟨g2, a1.trans a2, R2, KX_trans K1 K2⟩
  · rw [eq] at C7
    obtain ⟨-, SW, cc, hc, hl⟩ := te L eq
    obtain ⟨h8, e8, r8⟩ := kX0_txS (d := d + 45) (y2 := nI n) X7 W C7 (S7 L eq) oX170 wX T7 SW.1.2.1
    refine ⟨q_ts P R.2, ⟨_, rfl⟩, WF_ts W SW hc (by omega), nX0_text_r X1 _ ⟨G07.2.1, G07.2.2.1⟩ (by omega) (by omega) KM7 ⟨h8, E0.trans e8, r8⟩, fun h' M S3 => ?_⟩
    obtain ⟨g, a1, M1, F1, R1, K1⟩ := MX h' M S3
    rw [eq] at M1
    obtain ⟨g2, a2, R2, K2⟩ := kX5_txG (d := d + 45) (w := 0) (y3 := nI n) R1 M1 (F1 L eq) (Or.inl rfl)
    rw [if_pos rfl] at a2 R2
    exact ⟨g2, a1.trans a2, R2, KX_trans K1 K2⟩
/-- a law's text -/
theorem n_textL (X1 : XR h P) (W : WF P) (hn : n ≤ pn P) : ∃ q : sV, (∃ r, q.1 = .int r) ∧ WF q.2 ∧ XG (d + 46) h mX0_text [.ref 64, .int (nI 1), .int (nI n)] q ∧ ∀ h, MR h P → ST3 h → MG (d + 46) h mX5_text [.ref 150, .int (nI 1), .int (nI n)] q := by
  have h4 := W.2.2.1
  obtain ⟨ow, s, X2⟩ := id X1
  have TT := XR_TX X2
  have oX170 := X2.2.2.2.2.2.2.2.2.2.2.1
  have x12 := X2.2.2.2.2.2.2.2.2.2.2.2.1
  obtain ⟨h5, c, l, e5, C5, -, S5, G5⟩ := kX0_txA (d := d) X2 W (Or.inr rfl) hn
  obtain ⟨h6, e6, C6, G6⟩ := xC_nx (d := d + 41) C5
  have C6 : CT h6 (oX h) n (tpt P) 0 (.inr (lx (tpt P) n 0)) := C6
  have S6 := LK_GO C5 G6 S5
  have ok := CT_ok C6
  have g56 := G5.1
  have g66 := G6.1.1
  have ht := TBs_t C6.1.1
  obtain ⟨x', A', m', cd', p1, p2, p3, p4, p5⟩ := TL_all (d := d) (X := oX h) (o := oX h) (l := l) ht (by omega : n ≤ 400) (n + 1) (.inr (lx (tpt P) n 0)) plN 0 0 (fun L z => by
    cases z
    exact ⟨ok, by omega, by omega, WN_pl⟩)
  obtain ⟨h7, e7, C7, S7, G7⟩ := p5 h6 .unset .unset C6 (by omega) (Nat.le_refl _) (fun L z => S6)
  have kl : kb n x' - kb n (.inr (lx (tpt P) n 0)) ≤ n + 1 := by omega
  have G07 : GX (fun _ => False) h h7 (6 + 0 + 4 * (n + 1)) (40 + 0 + 48 * (n + 1)) := GX_le (GX_trans (GX_trans G5 G6.1 (fun a ha z => by omega)) G7 (fun a ha z => by omega)) (by omega) (by omega)
  obtain ⟨X7, KM7⟩ := XR_GX X2 G07
  have E7 : C_ (d + 45) mX6_law [.ref (oX h)] h5 = some (none, h7) := by
    have t8 := C5.1.1.1
    refine Eq.trans ?_ e7
    simp (disch := first | assumption | exact nI_ne0 (by decide) (by decide) | exact zb_01 | exact Or.inl rfl | exact Or.inr rfl | with_unfolding_all exact id (by assumption) | with_unfolding_all exact id (xix_8 (by assumption) (by omega) (by omega)) | omega) only [wX6_law_0, wX6_law_0q, wX6_law_0n, wX6_law_1, wX6_law_e, if_true, if_false, ↓reduceIte, xpu_s, xpu_n, Option.bind_some, xk_i, xk_r, xk_0, xk_u, xk_l, xk_k, xk_q, rf_s, rf_n, q_e1, q_e2, Nat.zero_add, Nat.reduceEqDiff, Nat.reduceAdd, Nat.reduceMul, Nat.reduceSub, Nat.reduceLT, Nat.reduceLeDiff, Nat.reduceDiv, Nat.reduceMod, e6]
  have E0 : C_ (d + 46) mX0_text [.ref 64, .int (nI 1), .int (nI n)] h = E_ (d + 46) mX0_text 63 [.val (.ref 64), .val (.int (nI 1)), .val (.int (nI n)), .val (.ref (oX h))] [] h7 := by
    have t8 := C5.1.1.1
    refine e5.trans ?_
    simp (disch := first | assumption | exact nI_ne0 (by decide) (by decide) | exact zb_01 | exact Or.inl rfl | exact Or.inr rfl | with_unfolding_all exact id (by assumption) | with_unfolding_all exact id (xix_8 (by assumption) (by omega) (by omega)) | omega) only [wX0_text_48, wX0_text_49, wX0_text_59, wX0_text_60, if_true, if_false, ↓reduceIte, xpu_s, xpu_n, Option.bind_some, xk_i, xk_r, xk_0, xk_u, xk_l, xk_k, xk_q, rf_s, rf_n, q_e1, q_e2, Nat.zero_add, Nat.reduceEqDiff, Nat.reduceAdd, Nat.reduceMul, Nat.reduceSub, Nat.reduceLT, Nat.reduceLeDiff, Nat.reduceDiv, Nat.reduceMod, nI_ne1, E7]
  have wX : ∀ a, oX h ≤ a → ow a = 100 := fun a ha => (x12 a ha).2
  have MX : ∀ h', MR h' P → ST3 h' → ∃ h8, C_ (d + 46) mX5_text [.ref 150, .int (nI 1), .int (nI n)] h' = E_ (d + 46) mX5_text 118 [.val (.ref 150), .val (.int (nI 1)), .val (.int (nI n)), .unset, .unset, .unset] [] h8 ∧ MS h8 n (tpt P) x' ∧ (∀ L, x' = .inr L → FRo h8 A') ∧ MR h8 (qK P 0 (pk P) (pp P)) ∧ KX h' h8 := fun h' M S3 => by
    obtain ⟨g1, a1, M1, R1, K1⟩ := kX5_txA (d := d) M W S3 (Or.inr rfl) hn
    obtain ⟨g2, a2, M2, G2⟩ := p4 g1 (nI n) M1
    exact ⟨g2, a1.trans a2, M2.1, fun L z => (M2.2.2 L z).2, MD_MR R1 G2, KX_trans K1 G2.1⟩
  rcases sX_inr x' with ⟨q, eq⟩ | ⟨L, eq⟩
  · subst eq
    obtain ⟨h8, e8, r8⟩ := kX0_txF (d := d + 45) (y1 := nI 1) (y2 := nI n) X7 C7.1
    refine ⟨q_tf P q, ⟨_, rfl⟩, WF_tf W, nX0_text_r X1 _ ⟨G07.2.1, G07.2.2.1⟩ (by omega) (by omega) KM7 ⟨h8, E0.trans e8, r8⟩, fun h' M S3 => ?_⟩
    obtain ⟨g, a1, M1, F1, R1, K1⟩ := MX h' M S3
    obtain ⟨g2, a2, R2, K2⟩ := kX5_txF (d := d + 45) (w := 1) (y3 := nI n) R1 M1
    exact ⟨g2, a1.trans a2, R2, KX_trans K1 K2⟩
  · subst eq
    obtain ⟨-, WNx, hc⟩ := p3 L rfl
    have LKx := S7 L rfl
    have WL := WN_WF WNx hc LKx.2.1
    obtain ⟨h8, e8, r8⟩ := kX0_txL (d := d + 45) (y2 := nI n) X7 W C7.1 LKx oX170 wX C7.2.2 WL
    refine ⟨q_tl P A', ⟨_, rfl⟩, WF_tl W WL, nX0_text_r X1 _ ⟨G07.2.1, G07.2.2.1⟩ (by omega) (by omega) KM7 ⟨h8, E0.trans e8, r8⟩, fun h' M S3 => ?_⟩
    obtain ⟨g, a1, M1, F1, R1, K1⟩ := MX h' M S3
    obtain ⟨g2, a2, R2, K2⟩ := kX5_txG (d := d + 45) (w := 1) (y3 := nI n) R1 M1 (F1 L rfl) (Or.inr rfl)
    rw [if_neg (by omega)] at a2 R2
    exact ⟨g2, a1.trans a2, R2, KX_trans K1 K2⟩
/-- text -/
theorem n_text (X1 : XR h P) (W : WF P) : ∃ q : sV, (∃ r, q.1 = .int r) ∧ WF q.2 ∧ XG (d + 46) h mX0_text [.ref 64, .int a, .int y1] q ∧ ∀ h, MR h P → ST3 h → MG (d + 46) h mX5_text [.ref 150, .int a, .int y1] q := by
  have h4 := W.2.2.1
  cases q1 : wi a (nI 0) (nI 1) with
  | false =>
    obtain ⟨x1, x2⟩ := n_text0 (d := d) (y1 := y1) X1 W (Or.inl q1)
    exact ⟨_, ⟨_, rfl⟩, WF_nn W, x1, fun h M _ => x2 h M⟩
  | true =>
    cases q2 : wi y1 (nI 0) (nI (pn P)) with
    | false =>
      obtain ⟨x1, x2⟩ := n_text0 (d := d) (y1 := y1) X1 W (Or.inr ⟨q1, q2⟩)
      exact ⟨_, ⟨_, rfl⟩, WF_nn W, x1, fun h M _ => x2 h M⟩
    | true =>
      obtain ⟨w, hw, rfl⟩ := wi_of (by decide) q1
      obtain ⟨n, hn, rfl⟩ := wi_of (by omega) q2
      have e : w = 0 ∨ w = 1 := by omega
      rcases e with rfl | rfl
      · exact n_textS X1 W hn
      · exact n_textL X1 W hn
end
