/-! CALLS of the component: a line repealed, whole -/
section
variable {d : Nat} {h h1 h2 : xH} {P : sS} {A B : rI} {x : Int32} {ow : Nat → Nat} {s cc l k n t : Nat} {w : rI}
theorem LW_wo {less : Nat} (L : LWo h l A) (WL : WFl A) (hk : k < sNl A) (G : LG h1 less (sNl A - 1) 18) (el : ∀ j, j < sNl A - 1 → li h1 less j = li h l (sk k j)) (st : ∀ a, 9 ≤ oT h a → oT h a ≤ 18 → sm h h1 a) : LWo h1 less (wo A k) := by
  have en := wo_n (A := A) (k := k) WL.2.1
  have w2 := WL.2.1
  unfold LWo
  rw [en]
  refine ⟨G.1, fun j hj => ?_⟩
  have lt := sk_lt hk hj
  obtain ⟨v1, v2, v3, v4⟩ := L.2 (sk k j) lt
  have z := st (li h l (sk k j)) (by omega) (by omega)
  obtain ⟨f1, f2⟩ := wo_f (A := A) (k := k) (j := j) (by omega)
  rw [el j hj, f1, f2, wo_at (by omega) (by omega), z.1, z.2.2.1, z.2.2.2.1, rq_m z]
  have t200 := (WL.2.2 (sk k j) lt).2.2.2.2.1
  exact ⟨v1, v2, v3, FT_A (fun i h1 h2 => wo_lo (by omega)) t200 (FT_m st v4)⟩
/-- another law in the state -/
theorem XE_law {b : Nat} (E : XE ow s cc l h P) (W : WF P) (wb : ¬ (b < 65 ∨ (76 ≤ b ∧ b < 170)) ∧ b < oX h ∧ (ow b = 100 ∨ ow b = 101)) (wq : ¬ (rq h b 1 < 65 ∨ (76 ≤ rq h b 1 ∧ rq h b 1 < 170)) ∧ rq h b 1 < oX h ∧ (ow (rq h b 1) = 100 ∨ ow (rq h b 1) = 101)) (L : LWo h b B) (e : ∀ i, i < 40 ∨ 477 ≤ i → B i = pA P i) : XE (fun a => if a = b ∨ a = rq h b 1 then 101 else ow a) s cc b (pR h s (va_up (oR h s) 1 (some b))) (qA P B) ∧ KM h (pR h s (va_up (oR h s) 1 (some b))) := by
  obtain ⟨X1, ⟨a1, a2, a3, a4⟩, hc, S, L0, wc⟩ := E
  obtain ⟨Y1, Y2⟩ := XR_law X1 wb wq L e W.1.1.2.1 W.1.2.2.2.1
  have Y0 := Y1
  obtain ⟨-, -, ⟨-, -, ⟨c', q1, q2, q3, -, -⟩, ⟨l', r1, -, -, r4⟩, -⟩, -⟩ := Y0
  have rs : oR (pR h s (va_up (oR h s) 1 (some b))) s = va_up (oR h s) 1 (some b) := by rw [o_RR, if_pos rfl]
  rw [rs, up_s] at r1
  rw [rs, up_ne (by omega)] at q1
  cases Option.some.inj r1
  cases Option.some.inj (q1.symm.trans hc)
  have x13 := X1.2.2.2.2.2.2.2.2.2.2.2.2
  have w0 := X1.2.2.1.1
  have ns : ¬ 64 = s := fun z => by have := (x13 64 (by omega)).1; rw [z] at this; omega
  refine ⟨⟨Y1, ⟨a1, by rw [o_RR, if_neg ns]; exact a2, a3, by rw [rs, up_s]⟩, by rw [rs, up_ne (by omega)]; exact hc, q3, r4, ?_⟩, Y2⟩
  have nb : ¬ (cc = b ∨ cc = rq h b 1) := by
    rintro (z | z)
    · rw [← z] at wb; omega
    · rw [← z] at wq; omega
  exact (if_neg nb).trans wc
theorem nX0_repeals (X : XR h P) (W : WF P) : XG (d + 218) h mX0_repeals [.ref 64, .int x] (q_repeals P x) := by
  obtain ⟨ow, s, cc, l, E⟩ := XE_of X
  have T := E.1.1
  have no := fun k : Int32 => kX0_no (d := d + 217) T (k := k)
  have E0 := E
  obtain ⟨X1, ⟨x1, x2, x3, x4⟩, hc, S, L, wc⟩ := E0
  have SZ := kJ2_size (d := d + 217) L.1
  have tl := L.1.1
  have w1 := W.1.2.1.1
  have hn := W.1.2.1.2.1
  unfold q_repeals
  rw [w1]
  cases h1 : wi x (nI 0) (nI (sNl (pA P)) - nI 1) with
  | false =>
    refine XG_nl X ?_
    simp (disch := first | assumption | exact nI_ne0 (by decide) (by decide) | exact zb_01 | exact Or.inl rfl | exact Or.inr rfl | with_unfolding_all exact id (by assumption) | with_unfolding_all exact id (xix_8 (by assumption) (by omega) (by omega)) | omega) only [wX0_repeals_e, wX0_repeals_0, wX0_repeals_1, wX0_repeals_2, wX0_repeals_3, wX0_repeals_4, wX0_repeals_7, wX0_repeals_10, wX0_repeals_13, wX0_repeals_14, wX0_repeals_15, wX0_repeals_16, wX0_repeals_19, wX0_repeals_22, wX0_repeals_23, wX0_repeals_25, wX0_repeals_28, wX0_repeals_29, wX0_repeals_30, wX0_repeals_31, wX0_repeals_34, wX0_repeals_37, wX0_repeals_38, wX0_repeals_41, wX0_repeals_42, wX0_repeals_43, wX0_repeals_46, wX0_repeals_47, wX0_repeals_48, wX0_repeals_52, wX0_repeals_53, wX0_repeals_56, wX0_repeals_59, wX0_repeals_61, wX0_repeals_62, wX0_repeals_65, wX0_repeals_66, wX0_repeals_67, wX0_repeals_69, wX0_repeals_72, wX0_repeals_72n, wX0_repeals_75, wX0_repeals_78, wX0_repeals_79, wX0_repeals_82, wX0_repeals_85, wX0_repeals_86, wX0_repeals_87, wX0_repeals_90, wX0_repeals_93, wX0_repeals_96, wX0_repeals_99, wX0_repeals_101, wX0_repeals_102, wX0_repeals_105, wX0_repeals_106, wX0_repeals_109, wX0_repeals_110, wX0_repeals_111, wX0_repeals_114, wX0_repeals_117, wX0_repeals_120, wX0_repeals_123, wX0_repeals_125, wX0_repeals_126, wX0_repeals_128, wX0_repeals_129, wX0_repeals_132, wX0_repeals_133, wX0_repeals_136, wX0_repeals_138, if_true, if_false, ↓reduceIte, xpu_s, xpu_n, Option.bind_some, xk_i, xk_r, xk_0, xk_u, xk_l, xk_k, xk_q, rf_s, rf_n, o_TI, o_TL, o_TR, o_NI, o_NL, o_NR, o_XI, o_XL, o_XR, o_RI, o_RL, o_LI, o_LR, o_IL, o_IR, o_II, o_LL, o_RR, o_pII, o_pLL, up_s, q_e1, q_e2, Nat.zero_add, Nat.reduceEqDiff, Nat.reduceAdd, Nat.reduceMul, Nat.reduceSub, Nat.reduceLT, Nat.reduceLeDiff, Nat.reduceDiv, Nat.reduceMod, nI_c, nI_add, up_ne, kX0_in, l6a_0, l6b_0, l6a_1, l6b_1, l6a_2, l6b_2, l6a_3, l6b_3, l6a_4, l6b_4, l6a_5, l6b_5, l6a_7, l6b_7, l6a_20, l6b_20, l6a_30, l6b_30, l6a_39, l6b_39, l6a_40, l6b_40, l6a_60, l6b_60, l6a_99, l6b_99, l6a_100, l6b_100, l6a_200, l6b_200, l6a_300, l6b_300, l6a_600, l6b_600, l6a_999, l6b_999, l6a_1000, l6b_1000, l6a_9999, l6b_9999, l6a_1000000, l6b_1000000, l6a_12, l6b_12, l64_xx, wi_d, one_ne0, zb_0, not_true_eq_false, not_false_eq_true, and_self, and_true, true_and, and_false, false_and, or_true, true_or, or_false, false_or, decide_true, decide_false, zb_t, zb_f, zb_0, zb_1, eq_self, cond_true, cond_false, Bool.true_eq_false, Bool.false_eq_true, Bool.and_true, Bool.true_and, Bool.and_false, Bool.false_and, Bool.or_true, Bool.true_or, Bool.or_false, Bool.false_or, nx_2, nx_3, nx_5, nx_6, nx_7, nx_f, nx_s, nx_w, ns_2, ns_3, ns_5, ns_6, ns_7, x2, x4, SZ, no, h1]
  | true =>
    obtain ⟨k, hk, rfl⟩ := wi_car (A := pA P) w1 hn (by rw [w1]; exact h1)
    rw [nI_clamp (by omega)]
    obtain ⟨t, e34, ht⟩ := W.1.1.2.2.2.2.2.2.2.2.2.1
    have TX1 := XR_TX X1
    have x11 := X1.2.2.2.2.2.2.2.2.2.2.1
    have x12 := X1.2.2.2.2.2.2.2.2.2.2.2.1
    have x13 := X1.2.2.2.2.2.2.2.2.2.2.2.2
    obtain ⟨z, sl, e1, G, el, gx, r1, r2, r3⟩ := rep_loop (d := d + 1) TX1 x1 x11 L.1 hn hk (fun j hj => (L.2 j hj).1)
    obtain ⟨Ez, kz⟩ := XE_GX E gx
    obtain ⟨g1, e2, E1, k1, oc1, os1, m1⟩ := kX0_overBy (d := d) Ez W ht
    have s0 : ∀ a, a < oX h → sm h z a := fun a ha => gx.2.2.2.2.2 a ha (fun y => y)
    have tgs : ∀ a, 9 ≤ oT h a → oT h a ≤ 18 → a < oX h ∧ (a < 86 ∨ 143 ≤ a) := fun a h1 h2 => ⟨TX_lt TX1 (by omega), by
      rcases Nat.lt_or_ge a 86 with y | y
      · exact Or.inl y
      · rcases Nat.lt_or_ge a 143 with q | q
        · exact absurd ⟨h1, h2⟩ (x13 a (by omega)).2
        · exact Or.inr q⟩
    have lt : ∀ j, j < sNl (pA P) - 1 → (li z (oX h) j < 86 ∨ 143 ≤ li z (oX h) j) := fun j hj => by
      have e18 := (L.2 (sk k j) (sk_lt hk hj)).1
      rw [el j hj]
      exact (tgs _ (by omega) (by omega)).2
    obtain ⟨G1, li1, rq1⟩ := sm_LG (Q := fun a => a < 86 ∨ 143 ≤ a) G m1 (by omega) (by omega) lt
    have T1 := XR_TX E1.1
    have ol : oX h < oX g1 := TX_lt T1 (by rw [G1.1.1]; decide)
    have oq : rq g1 (oX h) 1 < oX g1 := TX_lt T1 (by rw [G1.1.2.2.2.1]; decide)
    have st1 : ∀ a, 9 ≤ oT h a → oT h a ≤ 18 → sm h g1 a := fun a h1 h2 => sm_trans (s0 a (tgs a h1 h2).1) (m1 a (tgs a h1 h2).2)
    have L1 : LWo g1 (oX h) (wo (pA P) k) := LW_wo L W.1.2.1 hk G1 (fun j hj => (li1 j).trans (el j hj)) st1
    have wq : ow (rq g1 (oX h) 1) = 100 := (x12 _ (by omega)).2
    obtain ⟨E2, k2⟩ := XE_law E1 W ⟨by omega, ol, Or.inl (x12 _ (Nat.le_refl _)).2⟩ ⟨by omega, oq, Or.inl wq⟩ L1 (fun i hi => wo_lo (by omega))
    have W2 : WF (qA P (wo (pA P) k)) := WF_qA W ⟨WFs_wo W.1.1, WFl_wo W.1.2.1 hk, WFp_A (fun i _ _ => wo_lo (by omega)) W.1.2.2⟩ (fun i => by funext j; exact wo_lo (by omega))
    obtain ⟨g3, e3, E3, k3, oc3, os3, m3⟩ := kX0_overBy (d := d) E2 W2 ht
    -- back
    have w0 := X1.2.2.1.1
    have ns : ∀ a, ¬ ow a = 0 → ¬ a = s := fun a ha z => ha (by rw [z]; exact w0)
    have X3 := X1.2.2.1
    obtain ⟨-, -, -, ⟨l', b1, b2, b3, -⟩, -⟩ := X3
    cases Option.some.inj (b1.symm.trans x4)
    have all3 : ∀ a, a < oX h → (a < 86 ∨ 143 ≤ a) → ¬ a = s → sm h g3 a := fun a h1 h2 h3 => sm_trans (sm_trans (sm_trans (s0 a h1) (m1 a h2)) (sm_R sm_refl h3)) (m3 a h2)
    have nst : ∀ a, ow a = 101 → ¬ (a < 65 ∨ (76 ≤ a ∧ a < 170)) := fun a ha z => by have := (x13 a z).1; omega
    have nl := nst _ b2
    have nq := nst _ b3
    have lx := TX_lt TX1 (a := l) (by rw [tl]; decide)
    have qx := TX_lt TX1 (a := rq h l 1) (by rw [L.1.2.2.2.1]; decide)
    have sl3 := all3 l lx (by omega) (ns l (by omega))
    have sq3 := all3 _ qx (by omega) (ns _ (by omega))
    have L3 : LWo g3 l (pA P) := LW_m sl3 sq3 (fun a h1 h2 => all3 a (tgs a h1 h2).1 (tgs a h1 h2).2 (fun z => by have := X1.2.2.1.2.1; rw [z] at h1; omega)) L
    have eq3 : rq g3 l 1 = rq h l 1 := rq_m sl3
    have T3 := XR_TX E3.1
    have o2 : ∀ a, ow a = 101 → (if a = oX h ∨ a = rq g1 (oX h) 1 then 101 else ow a) = 101 := fun a ha => by split <;> omega
    obtain ⟨E4, k4⟩ := XE_law (b := l) (B := pA P) E3 W2 ⟨nl, TX_lt T3 (by rw [L3.1.1]; decide), Or.inr (o2 l b2)⟩ ⟨by rw [eq3]; exact nq, TX_lt T3 (by rw [L3.1.2.2.2.1]; decide), Or.inr (by rw [eq3]; exact o2 _ b3)⟩ L3 (fun i hi => (wo_lo (by omega)).symm)
    have u1 := Ez.2.1
    have u2 := Ez.2.2.1
    have u3 := Ez.2.2.2.1
    have u4 := E1.2.1
    have u5 := E1.2.2.1
    have u6 := E2.2.1
    have u7 := E2.2.2.1
    have u8 := E2.2.2.2.1
    have u9 := E3.2.1
    obtain ⟨p1, p2, p3, p4⟩ := u1
    obtain ⟨p5, p6, p7, p8⟩ := u4
    obtain ⟨p9, p10, p11, p12⟩ := u6
    obtain ⟨p13, p14, p15, p16⟩ := u9
    have c3z := u3.2.2.1
    have c1z := u3.1
    have c32 : oI (pR g1 s (va_up (oR g1 s) 1 (some (oX h)))) cc 2 = wo (pA P) k 34 := u8.2.2.1
    have c12 := u8.1
    have wo34 : wo (pA P) k 34 = nI t := (wo_lo (by omega)).trans e34
    rw [e34] at c3z
    rw [wo34] at c32
    rw [e34]
    have hl := kJ2_init (d := d + 214) TX1
    have n4 : oT (pO h 4 3) (oX h) = 4 := by rw [o_TO]; exact if_pos rfl
    refine ⟨_, ?_, ⟨_, s, E4.1⟩, KM_trans (KM_trans (KM_trans (KM_trans kz k1) k2) k3) k4, ?_, ?_⟩
    · have e0 : C_ (d + 218) mX0_repeals [.ref 64, .int (nI k)] h = E_ (d + 218) mX0_repeals 50 [.val (.ref 64), .val (.int (nI k)), .val (.ref l), .val (.ref (oX h)), .val (.int (nI 0)), .unset, .unset, .unset] [] (hL h) := by
        simp (disch := first | exact n4 | first | assumption | exact nI_ne0 (by decide) (by decide) | exact zb_01 | exact Or.inl rfl | exact Or.inr rfl | with_unfolding_all exact id (by assumption) | with_unfolding_all exact id (xix_8 (by assumption) (by omega) (by omega)) | omega) only [wX0_repeals_e, wX0_repeals_0, wX0_repeals_1, wX0_repeals_2, wX0_repeals_3, wX0_repeals_4, wX0_repeals_7, wX0_repeals_10, wX0_repeals_13, wX0_repeals_14, wX0_repeals_15, wX0_repeals_16, wX0_repeals_19, wX0_repeals_22, wX0_repeals_23, wX0_repeals_25, wX0_repeals_28, wX0_repeals_29, wX0_repeals_30, wX0_repeals_31, wX0_repeals_34, wX0_repeals_37, wX0_repeals_38, wX0_repeals_41, wX0_repeals_42, wX0_repeals_43, wX0_repeals_46, wX0_repeals_47, wX0_repeals_48, wX0_repeals_52, wX0_repeals_53, wX0_repeals_56, wX0_repeals_59, wX0_repeals_61, wX0_repeals_62, wX0_repeals_65, wX0_repeals_66, wX0_repeals_67, wX0_repeals_69, wX0_repeals_72, wX0_repeals_72n, wX0_repeals_75, wX0_repeals_78, wX0_repeals_79, wX0_repeals_82, wX0_repeals_85, wX0_repeals_86, wX0_repeals_87, wX0_repeals_90, wX0_repeals_93, wX0_repeals_96, wX0_repeals_99, wX0_repeals_101, wX0_repeals_102, wX0_repeals_105, wX0_repeals_106, wX0_repeals_109, wX0_repeals_110, wX0_repeals_111, wX0_repeals_114, wX0_repeals_117, wX0_repeals_120, wX0_repeals_123, wX0_repeals_125, wX0_repeals_126, wX0_repeals_128, wX0_repeals_129, wX0_repeals_132, wX0_repeals_133, wX0_repeals_136, wX0_repeals_138, if_true, if_false, ↓reduceIte, xpu_s, xpu_n, Option.bind_some, xk_i, xk_r, xk_0, xk_u, xk_l, xk_k, xk_q, rf_s, rf_n, q_e1, q_e2, Nat.zero_add, Nat.reduceEqDiff, Nat.reduceAdd, Nat.reduceMul, Nat.reduceSub, Nat.reduceLT, Nat.reduceLeDiff, Nat.reduceDiv, Nat.reduceMod, kX0_in, l6a_0, l6b_0, l6a_1, l6b_1, l6a_2, l6b_2, l6a_3, l6b_3, l6a_4, l6b_4, l6a_5, l6b_5, l6a_7, l6b_7, l6a_20, l6b_20, l6a_30, l6b_30, l6a_39, l6b_39, l6a_40, l6b_40, l6a_60, l6b_60, l6a_99, l6b_99, l6a_100, l6b_100, l6a_200, l6b_200, l6a_300, l6b_300, l6a_600, l6b_600, l6a_999, l6b_999, l6a_1000, l6b_1000, l6a_9999, l6b_9999, l6a_1000000, l6b_1000000, l6a_12, l6b_12, l64_xx, wi_d, one_ne0, zb_0, not_true_eq_false, not_false_eq_true, and_self, and_true, true_and, and_false, false_and, or_true, true_or, or_false, false_or, decide_true, decide_false, zb_t, zb_f, zb_0, zb_1, eq_self, cond_true, cond_false, Bool.true_eq_false, Bool.false_eq_true, Bool.and_true, Bool.true_and, Bool.and_false, Bool.false_and, Bool.or_true, Bool.true_or, Bool.or_false, Bool.false_or, x2, x4, SZ, h1, hl]
      rw [e0]
      have e1 : E_ (d + 218) mX0_repeals 50 [.val (.ref 64), .val (.int (nI k)), .val (.ref l), .val (.ref (oX h)), .val (.int (nI 0)), .unset, .unset, .unset] [] (hL h) = E_ (d + 218) mX0_repeals 85 [.val (.ref 64), .val (.int (nI k)), .val (.ref l), .val (.ref (oX h)), sl, .unset, .unset, .unset] [] z := e1
      rw [e1]
      have v4 : oT z 64 = 1 := p1
      simp (disch := first | assumption | exact nI_ne0 (by decide) (by decide) | exact zb_01 | exact Or.inl rfl | exact Or.inr rfl | with_unfolding_all exact id (by assumption) | with_unfolding_all exact id (xix_8 (by assumption) (by omega) (by omega)) | omega) only [wX0_repeals_e, wX0_repeals_0, wX0_repeals_1, wX0_repeals_2, wX0_repeals_3, wX0_repeals_4, wX0_repeals_7, wX0_repeals_10, wX0_repeals_13, wX0_repeals_14, wX0_repeals_15, wX0_repeals_16, wX0_repeals_19, wX0_repeals_22, wX0_repeals_23, wX0_repeals_25, wX0_repeals_28, wX0_repeals_29, wX0_repeals_30, wX0_repeals_31, wX0_repeals_34, wX0_repeals_37, wX0_repeals_38, wX0_repeals_41, wX0_repeals_42, wX0_repeals_43, wX0_repeals_46, wX0_repeals_47, wX0_repeals_48, wX0_repeals_52, wX0_repeals_53, wX0_repeals_56, wX0_repeals_59, wX0_repeals_61, wX0_repeals_62, wX0_repeals_65, wX0_repeals_66, wX0_repeals_67, wX0_repeals_69, wX0_repeals_72, wX0_repeals_72n, wX0_repeals_75, wX0_repeals_78, wX0_repeals_79, wX0_repeals_82, wX0_repeals_85, wX0_repeals_86, wX0_repeals_87, wX0_repeals_90, wX0_repeals_93, wX0_repeals_96, wX0_repeals_99, wX0_repeals_101, wX0_repeals_102, wX0_repeals_105, wX0_repeals_106, wX0_repeals_109, wX0_repeals_110, wX0_repeals_111, wX0_repeals_114, wX0_repeals_117, wX0_repeals_120, wX0_repeals_123, wX0_repeals_125, wX0_repeals_126, wX0_repeals_128, wX0_repeals_129, wX0_repeals_132, wX0_repeals_133, wX0_repeals_136, wX0_repeals_138, if_true, if_false, ↓reduceIte, xpu_s, xpu_n, Option.bind_some, xk_i, xk_r, xk_0, xk_u, xk_l, xk_k, xk_q, rf_s, rf_n, q_e1, q_e2, Nat.zero_add, Nat.reduceEqDiff, Nat.reduceAdd, Nat.reduceMul, Nat.reduceSub, Nat.reduceLT, Nat.reduceLeDiff, Nat.reduceDiv, Nat.reduceMod, not_true_eq_false, not_false_eq_true, and_self, and_true, true_and, and_false, false_and, or_true, true_or, or_false, false_or, decide_true, decide_false, zb_t, zb_f, zb_0, zb_1, eq_self, p2, u2, c3z, e2, p6, p10, u7, c32, e3, p14]
      rfl
    · have a1 := gx.2.1
      have a2 : oC (pR g3 s (va_up (oR g3 s) 1 (some l))) = oC g3 := rfl
      have a3 : oC (pR g1 s (va_up (oR g1 s) 1 (some (oX h)))) = oC g1 := rfl
      omega
    · have a1 := gx.2.2.1
      have a2 : oS (pR g3 s (va_up (oR g3 s) 1 (some l))) = oS g3 := rfl
      have a3 : oS (pR g1 s (va_up (oR g1 s) 1 (some (oX h)))) = oS g1 := rfl
      omega
end
