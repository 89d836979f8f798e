/-! CALLS of the component over all that drivers may decide: odds, blame, helps, best, back, wise -/
section
variable {d : Nat} {h h2 : xH} {P : sS} {A : rI} {x y z a b c e : Int32} {ow : Nat → Nat} {s cc l : Nat} {w : rI}
theorem XR_FG (X : XRo ow s h P) (F : FG h h2) : XRo ow s h2 P ∧ KM h h2 ∧ oC h2 = oC h ∧ oS h2 = oS h := by
  obtain ⟨f1, f2, f3, f4, f5, f6, f7⟩ := F
  have X0 := X
  obtain ⟨x1, x2, x3, x4, x5, x6, x7, x8, x9, x10, x11, x12, x13⟩ := X0
  have s0 : ∀ a, a < 86 ∨ 143 ≤ a → sm h h2 a := fun a ha => ⟨by rw [f2], by rw [f3], f7 a (by omega), f4 a (fun k hk => by omega), f6 a (by omega) (by omega) (by omega)⟩
  have ox : oX h2 = oX h := by unfold oX; rw [f1]
  have r85 : ∀ a, ¬ (86 ≤ a ∧ a < 140) → oR h2 a = oR h a := fun a ha => f4 a (fun k hk => by omega)
  have no100 : ∀ a, ¬ ow a = 100 → sm h h2 a := fun a ha => s0 a (by
    rcases Nat.lt_or_ge a 86 with z | z
    · exact Or.inl z
    · rcases Nat.lt_or_ge a 143 with y | y
      · exact absurd (x13 a (by omega)).1 ha
      · exact Or.inr y)
  refine ⟨qF_self (P := P) ▸ XR_fr (F := pF P) X (XT_fr (fun a _ => ⟨by rw [f2], by rw [f3]⟩) (fun j _ => by rw [r85 64 (by omega)]) (r85 85 (by omega)) (r85 145 (by omega)) (fun a j hj _ _ => f5 a j hj) (fun a ha => (s0 a (by omega)).2.2.1) x1) (by rw [r85 64 (by omega)]) (by rw [(s0 64 (by omega)).2.2.1]) (by rw [(s0 64 (by omega)).2.2.1]) (by rw [(s0 64 (by omega)).2.2.1]) (r85 76 (by omega)) (by rw [(s0 77 (by omega)).2.2.1]; exact x5) (s0 78 (by omega)).2.2.1 (fun r _ => r85 _ (by omega)) no100 (fun a h1 h3 => s0 a (by
    rcases Nat.lt_or_ge a 86 with z | z
    · exact Or.inl z
    · rcases Nat.lt_or_ge a 143 with y | y
      · exact absurd ⟨h1, h3⟩ (x13 a (by omega)).2
      · exact Or.inr y)) (by rw [ox]; exact Nat.le_refl _) (fun a ha => by rw [f2]; exact (x12 a (by omega)).1) (fun a _ => by rw [f2]), fun a ha => s0 a (by omega), by unfold oC; rw [f1], by unfold oS; rw [f1]⟩
theorem XB_FE (X : XRo ow s h P) (XLx : XL h s l) (S : SCo h cc A) (L : LWo h l A) : FE h cc s l A := ⟨X.1.1, X.1.2.2.1, S, XLx, L⟩
/-- the state's scene and law -/
def XE (ow : Nat → Nat) (s cc l : Nat) (h : xH) (P : sS) : Prop := XRo ow s h P ∧ XL h s l ∧ oR h s 0 = some cc ∧ SCo h cc (pA P) ∧ LWo h l (pA P) ∧ ow cc = 1
theorem XE_of (X : XR h P) : ∃ ow s cc l, XE ow s cc l h P := by
  obtain ⟨ow, s, cc, l, X1, XLx, hc, S, L, wc⟩ := XR_st X
  exact ⟨ow, s, cc, l, X1, XLx, hc, S, L, wc⟩
theorem XB_gathers (E : XE ow s cc l h P) (W : WF P) : ∃ g, C_ (d + 216) mX0_gathers [.ref 64, .ref cc] h = some (none, g) ∧ XE ow s cc l g P ∧ KM h g ∧ oC g = oC h ∧ oS g = oS h ∧ (∀ w, aE (PA g) (sOd (pA P) w (-1) (-1))) ∧ oI g cc = oI h cc ∧ ∀ a, (a < 86 ∨ 143 ≤ a) → sm h g a := by
  obtain ⟨X1, XLx, hc, S, L, wc⟩ := E
  have x13 := X1.2.2.2.2.2.2.2.2.2.2.2.2
  obtain ⟨g, g1, g2, g3⟩ := kX0_gathers (d := d) W.1.1 W.1.2.1 (XB_FE X1 XLx S L)
  obtain ⟨y1, y2, y3, y4⟩ := XR_FG X1 g2
  have E2 := FE_FG g2 (XB_FE X1 XLx S L)
  have nc : cc < 86 ∨ 140 ≤ cc := by
    rcases Nat.lt_or_ge cc 86 with z | z
    · exact Or.inl z
    · rcases Nat.lt_or_ge cc 140 with q | q
      · have := (x13 cc (by omega)).1; omega
      · exact Or.inr q
  refine ⟨g, g1, ⟨y1, E2.2.2.2.1, ?_, E2.2.2.1, E2.2.2.2.2, wc⟩, y2, y3, y4, g3, g2.2.2.2.2.2.2 cc nc, fun a ha => ⟨by rw [g2.2.1], by rw [g2.2.2.1], g2.2.2.2.2.2.2 a (by omega), g2.2.2.2.1 a (fun k hk => by omega), g2.2.2.2.2.2.1 a (by omega) (by omega) (by omega)⟩⟩
  rw [g2.2.2.2.2.1 s 0 (by omega)]
  exact hc
def q_odds (P : sS) (w : rI) (x : Int32) : sV := bif wi x (nI 0) (nI 5) then vl P ((sOd (pA P) w (-1) (-1)).1 x.toNatClampNeg) else nl P (-2)
theorem XG_nlx (X : XR h P) {m : xM} {as : List Value} {k : Int32} (hk : nsx k = nslot k) (e : C_ d m as h = some (some (.long k.toInt64), XF h (nsx k))) : XG d h m as (nl P k) := XG_nl X (by rw [← hk]; exact e)
theorem nX0_odds (X : XR h P) (W : WF P) (w : rI) : XG (d + 217) h mX0_odds [.ref 64, .int x] (q_odds P w x) := by
  obtain ⟨ow, s, cc, l, E⟩ := XE_of X
  have T := E.1.1
  have no := fun k : Int32 => kX0_no (d := d + 216) T (k := k)
  have x1 := E.2.1.1
  have x2 := E.2.1.2.1
  have x3 := E.2.1.2.2.1
  have hc := E.2.2.1
  unfold q_odds
  cases h1 : wi x (nI 0) (nI 5) with
  | false =>
    refine XG_nl X ?_
    simp (disch := first | assumption | exact nI_ne0 (by decide) (by decide) | exact zb_01 | exact Or.inl rfl | exact Or.inr rfl | with_unfolding_all exact id (by assumption) | with_unfolding_all exact id (xix_8 (by assumption) (by omega) (by omega)) | omega) only [wX0_odds_e, wX0_odds_0, wX0_odds_1, wX0_odds_2, wX0_odds_3, wX0_odds_6, wX0_odds_9, wX0_odds_12, wX0_odds_13, wX0_odds_15, wX0_odds_18, wX0_odds_19, wX0_odds_20, wX0_odds_21, wX0_odds_22, wX0_odds_25, wX0_odds_28, wX0_odds_31, wX0_odds_32, wX0_odds_35, wX0_odds_36, wX0_odds_37, if_true, if_false, ↓reduceIte, xpu_s, xpu_n, Option.bind_some, xk_i, xk_r, xk_0, xk_u, xk_l, xk_k, xk_q, rf_s, rf_n, o_TI, o_TL, o_TR, o_NI, o_NL, o_NR, o_XI, o_XL, o_XR, o_RI, o_RL, o_LI, o_LR, o_IL, o_IR, o_II, o_LL, o_RR, o_pII, o_pLL, up_s, q_e1, q_e2, Nat.zero_add, Nat.reduceEqDiff, Nat.reduceAdd, Nat.reduceMul, Nat.reduceSub, Nat.reduceLT, Nat.reduceLeDiff, Nat.reduceDiv, Nat.reduceMod, nI_c, nI_add, up_ne, kX0_in, l6a_0, l6b_0, l6a_1, l6b_1, l6a_2, l6b_2, l6a_3, l6b_3, l6a_4, l6b_4, l6a_5, l6b_5, l6a_7, l6b_7, l6a_20, l6b_20, l6a_30, l6b_30, l6a_39, l6b_39, l6a_40, l6b_40, l6a_60, l6b_60, l6a_99, l6b_99, l6a_100, l6b_100, l6a_200, l6b_200, l6a_300, l6b_300, l6a_600, l6b_600, l6a_999, l6b_999, l6a_1000, l6b_1000, l6a_9999, l6b_9999, l6a_1000000, l6b_1000000, l6a_12, l6b_12, l64_xx, wi_d, one_ne0, zb_0, not_true_eq_false, not_false_eq_true, and_self, and_true, true_and, and_false, false_and, or_true, true_or, or_false, false_or, decide_true, decide_false, zb_t, zb_f, zb_0, zb_1, eq_self, cond_true, cond_false, Bool.true_eq_false, Bool.false_eq_true, Bool.and_true, Bool.true_and, Bool.and_false, Bool.false_and, Bool.or_true, Bool.true_or, Bool.or_false, Bool.false_or, nx_2, nx_3, nx_5, nx_6, nx_7, nx_f, nx_s, nx_w, ns_2, ns_3, ns_5, ns_6, ns_7, no, h1]
  | true =>
    obtain ⟨j, hj, rfl⟩ := wi_of (by decide) h1
    rw [nI_clamp (by omega)]
    obtain ⟨g, g1, g2, g3, g4, g5, g6, -⟩ := XB_gathers (d := d) E W
    have P0 := g2.1.1.1
    have p3 := P0.2.2.1
    have p6 := P0.2.2.2.2.2.1
    have p9 := P0.2.2.2.2.2.2.2.2.1
    have T1 := P0.1
    have v : oL g 140 j = (sOd (pA P) w (-1) (-1)).1 j := (g6 w).1 j (by omega)
    refine ⟨g, ?_, ⟨ow, s, g2.1⟩, g3, by omega, by omega⟩
    simp (disch := first | exact xix_8 p9 (by omega) (by omega) | first | assumption | exact nI_ne0 (by decide) (by decide) | exact zb_01 | exact Or.inl rfl | exact Or.inr rfl | with_unfolding_all exact id (by assumption) | with_unfolding_all exact id (xix_8 (by assumption) (by omega) (by omega)) | omega) only [wX0_odds_e, wX0_odds_0, wX0_odds_1, wX0_odds_2, wX0_odds_3, wX0_odds_6, wX0_odds_9, wX0_odds_12, wX0_odds_13, wX0_odds_15, wX0_odds_18, wX0_odds_19, wX0_odds_20, wX0_odds_21, wX0_odds_22, wX0_odds_25, wX0_odds_28, wX0_odds_31, wX0_odds_32, wX0_odds_35, wX0_odds_36, wX0_odds_37, if_true, if_false, ↓reduceIte, xpu_s, xpu_n, Option.bind_some, xk_i, xk_r, xk_0, xk_u, xk_l, xk_k, xk_q, rf_s, rf_n, o_TI, o_TL, o_TR, o_NI, o_NL, o_NR, o_XI, o_XL, o_XR, o_RI, o_RL, o_LI, o_LR, o_IL, o_IR, o_II, o_LL, o_RR, o_pII, o_pLL, up_s, q_e1, q_e2, Nat.zero_add, Nat.reduceEqDiff, Nat.reduceAdd, Nat.reduceMul, Nat.reduceSub, Nat.reduceLT, Nat.reduceLeDiff, Nat.reduceDiv, Nat.reduceMod, nI_c, nI_add, up_ne, kX0_in, l6a_0, l6b_0, l6a_1, l6b_1, l6a_2, l6b_2, l6a_3, l6b_3, l6a_4, l6b_4, l6a_5, l6b_5, l6a_7, l6b_7, l6a_20, l6b_20, l6a_30, l6b_30, l6a_39, l6b_39, l6a_40, l6b_40, l6a_60, l6b_60, l6a_99, l6b_99, l6a_100, l6b_100, l6a_200, l6b_200, l6a_300, l6b_300, l6a_600, l6b_600, l6a_999, l6b_999, l6a_1000, l6b_1000, l6a_9999, l6b_9999, l6a_1000000, l6b_1000000, l6a_12, l6b_12, l64_xx, wi_d, one_ne0, zb_0, not_true_eq_false, not_false_eq_true, and_self, and_true, true_and, and_false, false_and, or_true, true_or, or_false, false_or, decide_true, decide_false, zb_t, zb_f, zb_0, zb_1, eq_self, cond_true, cond_false, Bool.true_eq_false, Bool.false_eq_true, Bool.and_true, Bool.true_and, Bool.and_false, Bool.false_and, Bool.or_true, Bool.true_or, Bool.or_false, Bool.false_or, nx_2, nx_3, nx_5, nx_6, nx_7, nx_f, nx_s, nx_w, ns_2, ns_3, ns_5, ns_6, ns_7, no, h1, x2, hc, g1, p3, v]
    rfl
def q_blame (P : sS) (w : rI) (c x : Int32) : sV := bif wi c (nI 0) (pA P 1 - nI 1) && wi x (nI 0) (nI 1) then vl P (if x = 0 then (sOd (pA P) w (-1) (-1)).2.1 c.toNatClampNeg else (sOd (pA P) w (-1) (-1)).2.2 c.toNatClampNeg) else nl P (-2)
theorem nX0_blame (X : XR h P) (W : WF P) (w : rI) : XG (d + 217) h mX0_blame [.ref 64, .int c, .int x] (q_blame P w c x) := by
  obtain ⟨ow, s, cc, l, E⟩ := XE_of X
  have T := E.1.1
  have no := fun k : Int32 => kX0_no (d := d + 216) T (k := k)
  have x1 := E.2.1.1
  have x2 := E.2.1.2.1
  have x3 := E.2.1.2.2.1
  have hc := E.2.2.1
  have ic := kX0_isCar (d := d + 215) (x := c) E.2.1 hc E.2.2.2.1
  rw [← W.1.1.1] at ic
  unfold q_blame
  cases h1 : wi c (nI 0) (pA P 1 - nI 1) with
  | false =>
    refine XG_nl X ?_
    simp (disch := first | assumption | exact nI_ne0 (by decide) (by decide) | exact zb_01 | exact Or.inl rfl | exact Or.inr rfl | with_unfolding_all exact id (by assumption) | with_unfolding_all exact id (xix_8 (by assumption) (by omega) (by omega)) | omega) only [wX0_blame_e, wX0_blame_0, wX0_blame_1, wX0_blame_2, wX0_blame_5, wX0_blame_8, wX0_blame_9, wX0_blame_10, wX0_blame_11, wX0_blame_12, wX0_blame_15, wX0_blame_18, wX0_blame_19, wX0_blame_21, wX0_blame_24, wX0_blame_25, wX0_blame_26, wX0_blame_27, wX0_blame_28, wX0_blame_31, wX0_blame_34, wX0_blame_37, wX0_blame_38, wX0_blame_41, wX0_blame_42, wX0_blame_45, wX0_blame_46, wX0_blame_47, wX0_blame_50, wX0_blame_51, wX0_blame_54, wX0_blame_55, wX0_blame_56, if_true, if_false, ↓reduceIte, xpu_s, xpu_n, Option.bind_some, xk_i, xk_r, xk_0, xk_u, xk_l, xk_k, xk_q, rf_s, rf_n, o_TI, o_TL, o_TR, o_NI, o_NL, o_NR, o_XI, o_XL, o_XR, o_RI, o_RL, o_LI, o_LR, o_IL, o_IR, o_II, o_LL, o_RR, o_pII, o_pLL, up_s, q_e1, q_e2, Nat.zero_add, Nat.reduceEqDiff, Nat.reduceAdd, Nat.reduceMul, Nat.reduceSub, Nat.reduceLT, Nat.reduceLeDiff, Nat.reduceDiv, Nat.reduceMod, nI_c, nI_add, up_ne, kX0_in, l6a_0, l6b_0, l6a_1, l6b_1, l6a_2, l6b_2, l6a_3, l6b_3, l6a_4, l6b_4, l6a_5, l6b_5, l6a_7, l6b_7, l6a_20, l6b_20, l6a_30, l6b_30, l6a_39, l6b_39, l6a_40, l6b_40, l6a_60, l6b_60, l6a_99, l6b_99, l6a_100, l6b_100, l6a_200, l6b_200, l6a_300, l6b_300, l6a_600, l6b_600, l6a_999, l6b_999, l6a_1000, l6b_1000, l6a_9999, l6b_9999, l6a_1000000, l6b_1000000, l6a_12, l6b_12, l64_xx, wi_d, one_ne0, zb_0, not_true_eq_false, not_false_eq_true, and_self, and_true, true_and, and_false, false_and, or_true, true_or, or_false, false_or, decide_true, decide_false, zb_t, zb_f, zb_0, zb_1, eq_self, cond_true, cond_false, Bool.true_eq_false, Bool.false_eq_true, Bool.and_true, Bool.true_and, Bool.and_false, Bool.false_and, Bool.or_true, Bool.true_or, Bool.or_false, Bool.false_or, nx_2, nx_3, nx_5, nx_6, nx_7, nx_f, nx_s, nx_w, ns_2, ns_3, ns_5, ns_6, ns_7, no, ic, h1]
  | true =>
    cases h2 : wi x (nI 0) (nI 1) with
    | false =>
      refine XG_nl X ?_
      simp (disch := first | assumption | exact nI_ne0 (by decide) (by decide) | exact zb_01 | exact Or.inl rfl | exact Or.inr rfl | with_unfolding_all exact id (by assumption) | with_unfolding_all exact id (xix_8 (by assumption) (by omega) (by omega)) | omega) only [wX0_blame_e, wX0_blame_0, wX0_blame_1, wX0_blame_2, wX0_blame_5, wX0_blame_8, wX0_blame_9, wX0_blame_10, wX0_blame_11, wX0_blame_12, wX0_blame_15, wX0_blame_18, wX0_blame_19, wX0_blame_21, wX0_blame_24, wX0_blame_25, wX0_blame_26, wX0_blame_27, wX0_blame_28, wX0_blame_31, wX0_blame_34, wX0_blame_37, wX0_blame_38, wX0_blame_41, wX0_blame_42, wX0_blame_45, wX0_blame_46, wX0_blame_47, wX0_blame_50, wX0_blame_51, wX0_blame_54, wX0_blame_55, wX0_blame_56, if_true, if_false, ↓reduceIte, xpu_s, xpu_n, Option.bind_some, xk_i, xk_r, xk_0, xk_u, xk_l, xk_k, xk_q, rf_s, rf_n, o_TI, o_TL, o_TR, o_NI, o_NL, o_NR, o_XI, o_XL, o_XR, o_RI, o_RL, o_LI, o_LR, o_IL, o_IR, o_II, o_LL, o_RR, o_pII, o_pLL, up_s, q_e1, q_e2, Nat.zero_add, Nat.reduceEqDiff, Nat.reduceAdd, Nat.reduceMul, Nat.reduceSub, Nat.reduceLT, Nat.reduceLeDiff, Nat.reduceDiv, Nat.reduceMod, nI_c, nI_add, up_ne, kX0_in, l6a_0, l6b_0, l6a_1, l6b_1, l6a_2, l6b_2, l6a_3, l6b_3, l6a_4, l6b_4, l6a_5, l6b_5, l6a_7, l6b_7, l6a_20, l6b_20, l6a_30, l6b_30, l6a_39, l6b_39, l6a_40, l6b_40, l6a_60, l6b_60, l6a_99, l6b_99, l6a_100, l6b_100, l6a_200, l6b_200, l6a_300, l6b_300, l6a_600, l6b_600, l6a_999, l6b_999, l6a_1000, l6b_1000, l6a_9999, l6b_9999, l6a_1000000, l6b_1000000, l6a_12, l6b_12, l64_xx, wi_d, one_ne0, zb_0, not_true_eq_false, not_false_eq_true, and_self, and_true, true_and, and_false, false_and, or_true, true_or, or_false, false_or, decide_true, decide_false, zb_t, zb_f, zb_0, zb_1, eq_self, cond_true, cond_false, Bool.true_eq_false, Bool.false_eq_true, Bool.and_true, Bool.true_and, Bool.and_false, Bool.false_and, Bool.or_true, Bool.true_or, Bool.or_false, Bool.false_or, nx_2, nx_3, nx_5, nx_6, nx_7, nx_f, nx_s, nx_w, ns_2, ns_3, ns_5, ns_6, ns_7, no, ic, h1, h2]
    | true =>
      have W2 := W.1.1.2.1
      obtain ⟨j, hj, rfl⟩ := wi_car W.1.1.1 (by omega) h1
      rw [nI_clamp (by omega)]
      obtain ⟨g, g1, g2, g3, g4, g5, g6, -⟩ := XB_gathers (d := d) E W
      have P0 := g2.1.1.1
      obtain ⟨T1, p2, p3, p4, p5, p6, p7, p8, p9, p10, p11, -⟩ := P0
      have v1 : oL g 141 j = (sOd (pA P) w (-1) (-1)).2.1 j := (g6 w).2.1 j (by omega)
      have v2 : oL g 142 j = (sOd (pA P) w (-1) (-1)).2.2 j := (g6 w).2.2 j (by omega)
      refine ⟨g, ?_, ⟨ow, s, g2.1⟩, g3, by omega, by omega⟩
      by_cases q : x = 0
      · subst q
        simp (disch := first | exact xix_8 p10 (by omega) (by omega) | first | assumption | exact nI_ne0 (by decide) (by decide) | exact zb_01 | exact Or.inl rfl | exact Or.inr rfl | with_unfolding_all exact id (by assumption) | with_unfolding_all exact id (xix_8 (by assumption) (by omega) (by omega)) | omega) only [wX0_blame_e, wX0_blame_0, wX0_blame_1, wX0_blame_2, wX0_blame_5, wX0_blame_8, wX0_blame_9, wX0_blame_10, wX0_blame_11, wX0_blame_12, wX0_blame_15, wX0_blame_18, wX0_blame_19, wX0_blame_21, wX0_blame_24, wX0_blame_25, wX0_blame_26, wX0_blame_27, wX0_blame_28, wX0_blame_31, wX0_blame_34, wX0_blame_37, wX0_blame_38, wX0_blame_41, wX0_blame_42, wX0_blame_45, wX0_blame_46, wX0_blame_47, wX0_blame_50, wX0_blame_51, wX0_blame_54, wX0_blame_55, wX0_blame_56, if_true, if_false, ↓reduceIte, xpu_s, xpu_n, Option.bind_some, xk_i, xk_r, xk_0, xk_u, xk_l, xk_k, xk_q, rf_s, rf_n, o_TI, o_TL, o_TR, o_NI, o_NL, o_NR, o_XI, o_XL, o_XR, o_RI, o_RL, o_LI, o_LR, o_IL, o_IR, o_II, o_LL, o_RR, o_pII, o_pLL, up_s, q_e1, q_e2, Nat.zero_add, Nat.reduceEqDiff, Nat.reduceAdd, Nat.reduceMul, Nat.reduceSub, Nat.reduceLT, Nat.reduceLeDiff, Nat.reduceDiv, Nat.reduceMod, nI_c, nI_add, up_ne, kX0_in, l6a_0, l6b_0, l6a_1, l6b_1, l6a_2, l6b_2, l6a_3, l6b_3, l6a_4, l6b_4, l6a_5, l6b_5, l6a_7, l6b_7, l6a_20, l6b_20, l6a_30, l6b_30, l6a_39, l6b_39, l6a_40, l6b_40, l6a_60, l6b_60, l6a_99, l6b_99, l6a_100, l6b_100, l6a_200, l6b_200, l6a_300, l6b_300, l6a_600, l6b_600, l6a_999, l6b_999, l6a_1000, l6b_1000, l6a_9999, l6b_9999, l6a_1000000, l6b_1000000, l6a_12, l6b_12, l64_xx, wi_d, one_ne0, zb_0, not_true_eq_false, not_false_eq_true, and_self, and_true, true_and, and_false, false_and, or_true, true_or, or_false, false_or, decide_true, decide_false, zb_t, zb_f, zb_0, zb_1, eq_self, cond_true, cond_false, Bool.true_eq_false, Bool.false_eq_true, Bool.and_true, Bool.true_and, Bool.and_false, Bool.false_and, Bool.or_true, Bool.true_or, Bool.or_false, Bool.false_or, nx_2, nx_3, nx_5, nx_6, nx_7, nx_f, nx_s, nx_w, ns_2, ns_3, ns_5, ns_6, ns_7, no, ic, h1, h2, x2, hc, g1, p4, v1]
        rfl
      · simp (disch := first | exact xix_8 p11 (by omega) (by omega) | first | assumption | exact nI_ne0 (by decide) (by decide) | exact zb_01 | exact Or.inl rfl | exact Or.inr rfl | with_unfolding_all exact id (by assumption) | with_unfolding_all exact id (xix_8 (by assumption) (by omega) (by omega)) | omega) only [wX0_blame_e, wX0_blame_0, wX0_blame_1, wX0_blame_2, wX0_blame_5, wX0_blame_8, wX0_blame_9, wX0_blame_10, wX0_blame_11, wX0_blame_12, wX0_blame_15, wX0_blame_18, wX0_blame_19, wX0_blame_21, wX0_blame_24, wX0_blame_25, wX0_blame_26, wX0_blame_27, wX0_blame_28, wX0_blame_31, wX0_blame_34, wX0_blame_37, wX0_blame_38, wX0_blame_41, wX0_blame_42, wX0_blame_45, wX0_blame_46, wX0_blame_47, wX0_blame_50, wX0_blame_51, wX0_blame_54, wX0_blame_55, wX0_blame_56, if_true, if_false, ↓reduceIte, xpu_s, xpu_n, Option.bind_some, xk_i, xk_r, xk_0, xk_u, xk_l, xk_k, xk_q, rf_s, rf_n, o_TI, o_TL, o_TR, o_NI, o_NL, o_NR, o_XI, o_XL, o_XR, o_RI, o_RL, o_LI, o_LR, o_IL, o_IR, o_II, o_LL, o_RR, o_pII, o_pLL, up_s, q_e1, q_e2, Nat.zero_add, Nat.reduceEqDiff, Nat.reduceAdd, Nat.reduceMul, Nat.reduceSub, Nat.reduceLT, Nat.reduceLeDiff, Nat.reduceDiv, Nat.reduceMod, nI_c, nI_add, up_ne, kX0_in, l6a_0, l6b_0, l6a_1, l6b_1, l6a_2, l6b_2, l6a_3, l6b_3, l6a_4, l6b_4, l6a_5, l6b_5, l6a_7, l6b_7, l6a_20, l6b_20, l6a_30, l6b_30, l6a_39, l6b_39, l6a_40, l6b_40, l6a_60, l6b_60, l6a_99, l6b_99, l6a_100, l6b_100, l6a_200, l6b_200, l6a_300, l6b_300, l6a_600, l6b_600, l6a_999, l6b_999, l6a_1000, l6b_1000, l6a_9999, l6b_9999, l6a_1000000, l6b_1000000, l6a_12, l6b_12, l64_xx, wi_d, one_ne0, zb_0, not_true_eq_false, not_false_eq_true, and_self, and_true, true_and, and_false, false_and, or_true, true_or, or_false, false_or, decide_true, decide_false, zb_t, zb_f, zb_0, zb_1, eq_self, cond_true, cond_false, Bool.true_eq_false, Bool.false_eq_true, Bool.and_true, Bool.true_and, Bool.and_false, Bool.false_and, Bool.or_true, Bool.true_or, Bool.or_false, Bool.false_or, nx_2, nx_3, nx_5, nx_6, nx_7, nx_f, nx_s, nx_w, ns_2, ns_3, ns_5, ns_6, ns_7, no, ic, h1, h2, x2, hc, g1, p5, v2, q]
        rfl
/-- the scene's number at place j of those that may be told -/
theorem XE_put {j : Nat} {v : Int32} (E : XE ow s cc l h P) (W : WF P) (hj : j ≤ 4) : XE ow s cc l (pI h cc (va_up (oI h cc) (2 + j) v)) (qA P (va_up (pA P) (34 + j) v)) := by
  obtain ⟨X1, XLx, hc, S, L, wc⟩ := E
  have c1 := S.1
  have S0 := S
  obtain ⟨-, c2, c3, c4, c5, c6, c7, c8, -⟩ := S0
  have key : ∀ i, i < 5 → va_up (oI h cc) (2 + j) v (2 + i) = va_up (pA P) (34 + j) v (34 + i) := by
    intro i hi
    by_cases z : i = j
    · subst z; rw [up_s, up_s]
    · rw [up_ne (by omega), up_ne (by omega)]
      rcases (show i = 0 ∨ i = 1 ∨ i = 2 ∨ i = 3 ∨ i = 4 by omega) with rfl | rfl | rfl | rfl | rfl
      · exact c3
      · exact c4
      · exact c5
      · exact c6
      · exact c7
  have XS1 := XS_sc (f := va_up (oI h cc) (2 + j) v) (B := va_up (pA P) (34 + j) v) W.1.1.2.1 W.1.2.2.2.1 W.1.2.1 X1.2.2.1 hc (fun k _ _ => up_ne (by omega)) (fun k _ => up_ne (by omega)) (by rw [up_ne (by omega), up_ne (by omega)]; exact c2) (key 0 (by omega)) (key 1 (by omega)) (key 2 (by omega)) (key 3 (by omega)) (key 4 (by omega)) (by rw [up_ne (by omega), up_ne (by omega)]; exact c8)
  have X2 := XR_w0 X1 (a := cc) (by omega) (by omega) (fun i => sh_up (by omega)) XS1
  have X3 := X2.2.2.1
  obtain ⟨y1, y2, ⟨c', q1, q2, q3, -, -⟩, ⟨l', r1, -, -, r4⟩, -⟩ := X3
  cases Option.some.inj (q1.symm.trans hc)
  have r1' : oR h s 1 = some l' := r1
  cases Option.some.inj (r1'.symm.trans XLx.2.2.2)
  exact ⟨X2, XLx, hc, q3, r4, wc⟩
theorem KM_put {v : rI} (E : XE ow s cc l h P) : KM h (pI h cc v) := by
  obtain ⟨X1, XLx, hc, S, L, wc⟩ := E
  exact KM_w0 X1 (by omega)
/-- put, gathered, put back -/
theorem XB_with {j : Nat} {v : Int32} (E : XE ow s cc l h P) (W : WF P) (hj : j ≤ 4) (Wv : WFs (va_up (pA P) (34 + j) v)) : ∃ g, C_ (d + 216) mX0_gathers [.ref 64, .ref cc] (pI h cc (va_up (oI h cc) (2 + j) v)) = some (none, g) ∧ XE ow s cc l g (qA P (va_up (pA P) (34 + j) v)) ∧ oI g cc = va_up (oI h cc) (2 + j) v ∧ (∀ w, aE (PA g) (sOd (va_up (pA P) (34 + j) v) w (-1) (-1))) ∧ XE ow s cc l (pI g cc (oI h cc)) P ∧ KM h g ∧ KM h (pI g cc (oI h cc)) ∧ oC g = oC h ∧ oS g = oS h ∧ ∀ a, (a < 86 ∨ 143 ≤ a) → sm h (pI g cc (oI h cc)) a := by
  have E1 := XE_put (v := v) E W hj
  have W1 : WF (qA P (va_up (pA P) (34 + j) v)) := WF_qA W ⟨Wv, WFl_A (fun k _ _ => up_ne (by omega)) W.1.2.1, WFp_A (fun k _ _ => up_ne (by omega)) W.1.2.2⟩ (fun i => sh_up (by omega))
  obtain ⟨g, g1, g2, g3, g4, g5, g6, g7, g8⟩ := XB_gathers (d := d) E1 W1
  have e : oI g cc = va_up (oI h cc) (2 + j) v := by rw [g7, o_II, if_pos rfl]
  have E2 := XE_put (j := j) (v := pA P (34 + j)) g2 W1 hj
  have ef : ∀ (f : rI) (k : Nat) (x y : Int32), f k = y → va_up (va_up f k x) k y = f := fun f k x y hy => by
    funext i
    unfold va_up
    by_cases z : i = k
    · rw [if_pos z, z, hy]
    · rw [if_neg z, if_neg z]
  have ec : oI h cc (2 + j) = pA P (34 + j) := by
    obtain ⟨-, c2, c3, c4, c5, c6, c7, c8, -⟩ := E.2.2.2.1
    rcases (show j = 0 ∨ j = 1 ∨ j = 2 ∨ j = 3 ∨ j = 4 by omega) with rfl | rfl | rfl | rfl | rfl <;> assumption
  have E3 : XE ow s cc l (pI g cc (oI h cc)) P := by
    rw [e, ef _ _ _ _ ec] at E2
    have : qA (qA P (va_up (pA P) (34 + j) v)) (va_up (pA (qA P (va_up (pA P) (34 + j) v))) (34 + j) (pA P (34 + j))) = P := by
      show (va_up (va_up (pA P) (34 + j) v) (34 + j) (pA P (34 + j)), P.2) = P
      rw [ef _ _ _ _ rfl]
      rfl
    rw [this] at E2
    exact E2
  have K1 : KM h g := KM_trans (KM_put E) g3
  refine ⟨g, g1, g2, e, g6, E3, K1, KM_trans K1 (KM_put g2), g4, g5, fun a ha => ?_⟩
  have z := g8 a ha
  by_cases q : a = cc
  · subst q
    exact ⟨z.1, z.2.1, by rw [o_II, if_pos rfl], z.2.2.2.1, z.2.2.2.2⟩
  · exact sm_I (sm_trans (sm_I sm_refl q) z) q
/-- parts that end over with such traits -/
def oB (A : rI) (x : Int32) : Int64 := (sOd (va_up A 34 x) (fun _ => nI 0) (-1) (-1)).1 0
theorem kX0_overBy (E : XE ow s cc l h P) (W : WF P) {t : Nat} (ht : t < 256) : ∃ g, C_ (d + 217) mX0_overBy [.ref 64, .int (nI t)] h = some (some (.long (oB (pA P) (nI t))), g) ∧ XE ow s cc l g P ∧ KM h g ∧ oC g = oC h ∧ oS g = oS h ∧ ∀ a, (a < 86 ∨ 143 ≤ a) → sm h g a := by
  obtain ⟨g, g1, g2, g3, g4, g5, g6, g7, g8, g9, g10⟩ := XB_with (d := d) (j := 0) (v := nI t) E W (by omega) (WFs_34 W.1.1 ht)
  obtain ⟨x1, x2, x3, x4⟩ := E.2.1
  have hc := E.2.2.1
  have c1 := E.2.2.2.1.1
  have c3 := E.2.2.2.1.2.2.1
  have y1 := g2.2.1.1
  have y2 := g2.2.1.2.1
  have y3 := g2.2.1.2.2.1
  have y4 := g2.2.2.1
  have y5 := g2.2.2.2.1.1
  have e0 : va_up (oI g cc) 2 (oI h cc 2) = oI h cc := by
    rw [g3]
    funext i
    unfold va_up
    by_cases z : i = 2
    · rw [if_pos z, z]
    · rw [if_neg z, if_neg z]
  obtain ⟨T1, p2, p3, p4, p5, p6, p7, p8, p9, p10, p11, -⟩ := g5.1.1.1
  have v1 : oL g 140 0 = oB (pA P) (nI t) := (g4 _).1 0 (by omega)
  refine ⟨pI g cc (oI h cc), ?_, g5, g7, g8, g9, g10⟩
  have p9' : oN g 140 = 6 := p9
  have p6' : oT g 140 = 44 := p6
  have p3' : oR g 64 10 = some 140 := p3
  simp (disch := first | exact xix_8 p9' (by omega) (by omega) | first | assumption | exact nI_ne0 (by decide) (by decide) | exact zb_01 | exact Or.inl rfl | exact Or.inr rfl | with_unfolding_all exact id (by assumption) | with_unfolding_all exact id (xix_8 (by assumption) (by omega) (by omega)) | omega) only [wX0_overBy_e, wX0_overBy_0, wX0_overBy_1, wX0_overBy_4, wX0_overBy_7, wX0_overBy_10, wX0_overBy_11, wX0_overBy_12, wX0_overBy_15, wX0_overBy_18, wX0_overBy_19, wX0_overBy_22, wX0_overBy_23, wX0_overBy_24, wX0_overBy_27, wX0_overBy_30, wX0_overBy_33, wX0_overBy_34, wX0_overBy_37, wX0_overBy_40, wX0_overBy_41, wX0_overBy_44, wX0_overBy_45, wX0_overBy_48, wX0_overBy_49, wX0_overBy_50, if_true, if_false, ↓reduceIte, xpu_s, xpu_n, Option.bind_some, xk_i, xk_r, xk_0, xk_u, xk_l, xk_k, xk_q, rf_s, rf_n, o_TI, o_TL, o_TR, o_NI, o_NL, o_NR, o_XI, o_XL, o_XR, o_RI, o_RL, o_LI, o_LR, o_IL, o_IR, o_II, o_LL, o_RR, o_pII, o_pLL, up_s, q_e1, q_e2, Nat.zero_add, Nat.reduceEqDiff, Nat.reduceAdd, Nat.reduceMul, Nat.reduceSub, Nat.reduceLT, Nat.reduceLeDiff, Nat.reduceDiv, Nat.reduceMod, nI_c, nI_add, up_ne, x2, hc, g1, y2, y4, e0, p3', v1]
end
