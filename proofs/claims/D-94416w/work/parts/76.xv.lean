/-! CALLS of the component over walks: chance, can, run, watch, stands -/
theorem WI_Ru {A : rI} {wl : Int32} (W : WFs A) : ∀ (f : Nat) (w : rI), WI A w → WI A (sRu A wl f w)
  | 0, w, I => I
  | f + 1, w, I => by
    show WI A (if w 37 = 0 then sRu A wl f (sTk A (sDs A wl w)) else w)
    by_cases q : w 37 = 0
    · rw [if_pos q]
      exact WI_Ru W f _ (WI_Tk W (WI_Ds W.2.1 I) (by rw [sDs_lo W.2.1 (by omega) (by omega) (by omega)]; exact q))
    · rw [if_neg q]; exact I
section
variable {d : Nat} {h h2 : xH} {P : sS} {x y z a b c e : Int32} {ow : Nat → Nat} {s cc l : Nat} {w : rI}
theorem XR_walk (X : XRo ow s h P) (F : XFr 79 (hR5 h 79 cc) h2) : XRo ow s h2 P ∧ KM h h2 ∧ oC h2 = oC h ∧ oS h2 = oS h := by
  obtain ⟨f1, f2, f3, f4, f5, f6, f7⟩ := F
  have X0 := X
  obtain ⟨x1, x2, x3, x4, x5, x6, x7, x8, x9, x10, x11, x12, x13⟩ := X0
  have r0 : ∀ a, ¬ a = 79 → oR h2 a = oR h a := fun a ha => by rw [f4]; unfold hR5; rw [o_RR, if_neg ha]
  have r5 : ∀ a j, j ≠ 5 → oR h2 a j = oR h a j := fun a j hj => by
    by_cases q : a = 79
    · rw [f4, q]; unfold hR5; rw [o_RR, if_pos rfl, up_ne hj]
    · rw [r0 a q]
  have s0 : ∀ a, ¬ a = 64 → ¬ (79 ≤ a ∧ a ≤ 84) → sm h h2 a := fun a h1 h3 => ⟨by rw [f2]; rfl, by rw [f3]; rfl, f6 a (by omega) h1, r0 a (by omega), by rw [f5]; rfl⟩
  have i64 : ∀ j, j ≠ 8 → oI h2 64 j = oI h 64 j := fun j hj => f7 j hj
  have ox : oX h2 = oX h := by unfold oX; rw [f1]; rfl
  have no100 : ∀ a, ¬ ow a = 100 → sm h h2 a := fun a ha => s0 a (fun z => ha (by rw [z]; exact (x13 64 (by omega)).1)) (fun z => ha (x13 a (by omega)).1)
  refine ⟨qF_self (P := P) ▸ XR_fr (F := pF P) X (XT_fr (fun a _ => ⟨by rw [f2]; rfl, by rw [f3]; rfl⟩) (fun j _ => by rw [r0 64 (by omega)]) (r0 85 (by omega)) (r0 145 (by omega)) (fun a j hj _ _ => r5 a j hj) (fun a ha => (s0 a (by omega) (by omega)).2.2.1) x1) (by rw [r0 64 (by omega)]) (i64 4 (by omega)) (i64 5 (by omega)) (i64 6 (by omega)) (r0 76 (by omega)) (by rw [(s0 77 (by omega) (by omega)).2.2.1]; exact x5) (s0 78 (by omega) (by omega)).2.2.1 (fun r _ => r0 _ (by omega)) no100 (fun a h1 h3 => s0 a (fun z => (x13 64 (by omega)).2 (by rw [← z]; exact ⟨h1, h3⟩)) (fun z => (x13 a (by omega)).2 ⟨h1, h3⟩)) (by rw [ox]; exact Nat.le_refl _) (fun a ha => by rw [f2]; exact (x12 a (by omega)).1) (fun a _ => by rw [f2]; rfl), fun a ha => s0 a (by omega) (by omega), by unfold oC; rw [f1]; rfl, by unfold oS; rw [f1]; rfl⟩
/-- a walk begins, all that stands behind it -/
theorem XB_begins (X : XRo ow s h P) (W : WF P) (XLx : XL h s l) (hc : oR h s 0 = some cc) (S : SCo h cc (pA P)) (L : LWo h l (pA P)) : ∃ h1, C_ (d + 5) mX3_begins [.ref 79, .ref cc] h = some (some (.ref 79), h1) ∧ XFr 79 (hR5 h 79 cc) h1 ∧ WO h1 79 ∧ oR h1 79 5 = some cc ∧ SCo h1 cc (pA P) ∧ WR h1 79 (pA P) (sBg (pA P) w (-1) x) ∧ XL h1 s l ∧ LWo h1 l (pA P) := by
  have O := X.1.2.1
  obtain ⟨h1, e1, e2, e3⟩ := kX3_begins (d := d) (w := w) (seed := x) O S W.1.1
  have F := XFr_W (by omega) e2
  have O5 := WO_5 (c := cc) O
  have T5 := O.1
  have X5 := XL_5 (c := cc) T5 XLx
  refine ⟨h1, e1, F, WO_x F O5, ?_, SC_x F O5 X5.1 (SC_5 T5 S), e3, XL_x F X5, LW_x F O5 X5.1 (LW_5 T5 L)⟩
  rw [F.2.2.2.1]
  unfold hR5
  rw [o_RR, if_pos rfl, up_s]
theorem nX0_chance (X : XR h P) (W : WF P) (w : rI) : XG (d + 207) h mX0_chance [.ref 64, .int c] (q_chance P w c) := by
  obtain ⟨ow, s, cc, l, X1, XLx, hc, S, L, -⟩ := XR_st X
  have T := X1.1
  have no := fun k : Int32 => kX0_no (d := d + 206) T (k := k)
  have ic := kX0_isCar (d := d + 205) (x := c) XLx hc S
  rw [← W.1.1.1] at ic
  have x7 := T.2.2.2.2.2.2.1
  unfold q_chance
  cases h1 : wi c (nI 0) (pA P 1 - nI 1) with
  | false =>
    obtain ⟨x1, x2, x3, x4⟩ := XLx
    refine XG_nn X ?_
    simp (disch := first | assumption | exact nI_ne0 (by decide) (by decide) | exact zb_01 | exact Or.inl rfl | exact Or.inr rfl | with_unfolding_all exact id (by assumption) | with_unfolding_all exact id (xix_8 (by assumption) (by omega) (by omega)) | omega) only [wX0_chance_e, wX0_chance_0, wX0_chance_1, wX0_chance_2, wX0_chance_5, wX0_chance_8, wX0_chance_9, wX0_chance_10, wX0_chance_13, wX0_chance_14, wX0_chance_17, wX0_chance_20, wX0_chance_23, wX0_chance_24, wX0_chance_27, wX0_chance_30, wX0_chance_31, wX0_chance_33, wX0_chance_36, if_true, if_false, ↓reduceIte, xpu_s, xpu_n, Option.bind_some, xk_i, xk_r, xk_0, xk_u, xk_l, xk_k, xk_q, rf_s, rf_n, o_TI, o_TL, o_TR, o_NI, o_NL, o_NR, o_XI, o_XL, o_XR, o_RI, o_RL, o_LI, o_LR, o_IL, o_IR, o_II, o_LL, o_RR, o_pII, o_pLL, up_s, q_e1, q_e2, Nat.zero_add, Nat.reduceEqDiff, Nat.reduceAdd, Nat.reduceMul, Nat.reduceSub, Nat.reduceLT, Nat.reduceLeDiff, Nat.reduceDiv, Nat.reduceMod, nI_c, nI_add, up_ne, not_true_eq_false, not_false_eq_true, and_self, and_true, true_and, and_false, false_and, or_true, true_or, or_false, false_or, decide_true, decide_false, zb_t, zb_f, zb_0, zb_1, eq_self, cond_true, cond_false, Bool.true_eq_false, Bool.false_eq_true, Bool.and_true, Bool.true_and, Bool.and_false, Bool.false_and, Bool.or_true, Bool.true_or, Bool.or_false, Bool.false_or, nx_2, nx_3, nx_5, nx_6, nx_7, nx_f, nx_s, nx_w, ns_2, ns_3, ns_5, ns_6, ns_7, zb_0, no, ic, h1]
  | true =>
    have W2 := W.1.1.2.1
    obtain ⟨j, hj, rfl⟩ := wi_car W.1.1.1 (by omega) h1
    rw [nI_clamp (by omega)]
    obtain ⟨hb, b1, b2, b3, b4, b5, b6, b7, b8⟩ := XB_begins (d := d + 201) (w := w) (x := nI 0) X1 W XLx hc S L
    have C := kX0_chanceOf (d := d) b3 b4 b5 b6 W.1.1 (WI_Bg W.1.1) W.1.2.1 b7 b8 hj
    obtain ⟨y1, y2, y3, y4⟩ := XR_walk X1 b2
    have T1 : oT hb 64 = 1 := b7.1
    obtain ⟨x1, x2, x3, x4⟩ := XLx
    have T5 := X1.1.2.1.1
    refine ⟨hb, ?_, ⟨ow, s, y1⟩, y2, by omega, by omega⟩
    simp (disch := first | assumption | exact nI_ne0 (by decide) (by decide) | exact zb_01 | exact Or.inl rfl | exact Or.inr rfl | with_unfolding_all exact id (by assumption) | with_unfolding_all exact id (xix_8 (by assumption) (by omega) (by omega)) | omega) only [wX0_chance_e, wX0_chance_0, wX0_chance_1, wX0_chance_2, wX0_chance_5, wX0_chance_8, wX0_chance_9, wX0_chance_10, wX0_chance_13, wX0_chance_14, wX0_chance_17, wX0_chance_20, wX0_chance_23, wX0_chance_24, wX0_chance_27, wX0_chance_30, wX0_chance_31, wX0_chance_33, wX0_chance_36, if_true, if_false, ↓reduceIte, xpu_s, xpu_n, Option.bind_some, xk_i, xk_r, xk_0, xk_u, xk_l, xk_k, xk_q, rf_s, rf_n, o_TI, o_TL, o_TR, o_NI, o_NL, o_NR, o_XI, o_XL, o_XR, o_RI, o_RL, o_LI, o_LR, o_IL, o_IR, o_II, o_LL, o_RR, o_pII, o_pLL, up_s, q_e1, q_e2, Nat.zero_add, Nat.reduceEqDiff, Nat.reduceAdd, Nat.reduceMul, Nat.reduceSub, Nat.reduceLT, Nat.reduceLeDiff, Nat.reduceDiv, Nat.reduceMod, nI_c, nI_add, up_ne, not_true_eq_false, not_false_eq_true, and_self, and_true, true_and, and_false, false_and, or_true, true_or, or_false, false_or, decide_true, decide_false, zb_t, zb_f, zb_0, zb_1, eq_self, cond_true, cond_false, Bool.true_eq_false, Bool.false_eq_true, Bool.and_true, Bool.true_and, Bool.and_false, Bool.false_and, Bool.or_true, Bool.true_or, Bool.or_false, Bool.false_or, nx_2, nx_3, nx_5, nx_6, nx_7, nx_f, nx_s, nx_w, ns_2, ns_3, ns_5, ns_6, ns_7, zb_0, ic, h1, x7, x2, hc, b1, C]
    rfl
theorem nX0_can (X : XR h P) (W : WF P) (w : rI) : XG (d + 207) h mX0_can [.ref 64, .int c] (q_can P w c) := by
  obtain ⟨ow, s, cc, l, X1, XLx, hc, S, L, -⟩ := XR_st X
  have T := X1.1
  have no := fun k : Int32 => kX0_no (d := d + 206) T (k := k)
  have ic := kX0_isCar (d := d + 205) (x := c) XLx hc S
  rw [← W.1.1.1] at ic
  have x7 := T.2.2.2.2.2.2.1
  unfold q_can
  cases h1 : wi c (nI 0) (pA P 1 - nI 1) with
  | false =>
    obtain ⟨x1, x2, x3, x4⟩ := XLx
    refine XG_nn X ?_
    simp (disch := first | assumption | exact nI_ne0 (by decide) (by decide) | exact zb_01 | exact Or.inl rfl | exact Or.inr rfl | with_unfolding_all exact id (by assumption) | with_unfolding_all exact id (xix_8 (by assumption) (by omega) (by omega)) | omega) only [wX0_can_e, wX0_can_0, wX0_can_1, wX0_can_2, wX0_can_5, wX0_can_8, wX0_can_9, wX0_can_12, wX0_can_13, wX0_can_16, wX0_can_19, wX0_can_22, wX0_can_23, wX0_can_26, wX0_can_29, wX0_can_30, wX0_can_33, wX0_can_34, wX0_can_37, wX0_can_38, wX0_can_40, wX0_can_43, if_true, if_false, ↓reduceIte, xpu_s, xpu_n, Option.bind_some, xk_i, xk_r, xk_0, xk_u, xk_l, xk_k, xk_q, rf_s, rf_n, o_TI, o_TL, o_TR, o_NI, o_NL, o_NR, o_XI, o_XL, o_XR, o_RI, o_RL, o_LI, o_LR, o_IL, o_IR, o_II, o_LL, o_RR, o_pII, o_pLL, up_s, q_e1, q_e2, Nat.zero_add, Nat.reduceEqDiff, Nat.reduceAdd, Nat.reduceMul, Nat.reduceSub, Nat.reduceLT, Nat.reduceLeDiff, Nat.reduceDiv, Nat.reduceMod, nI_c, nI_add, up_ne, not_true_eq_false, not_false_eq_true, and_self, and_true, true_and, and_false, false_and, or_true, true_or, or_false, false_or, decide_true, decide_false, zb_t, zb_f, zb_0, zb_1, eq_self, cond_true, cond_false, Bool.true_eq_false, Bool.false_eq_true, Bool.and_true, Bool.true_and, Bool.and_false, Bool.false_and, Bool.or_true, Bool.true_or, Bool.or_false, Bool.false_or, nx_2, nx_3, nx_5, nx_6, nx_7, nx_f, nx_s, nx_w, ns_2, ns_3, ns_5, ns_6, ns_7, zb_0, no, ic, h1]
  | true =>
    have W2 := W.1.1.2.1
    obtain ⟨j, hj, rfl⟩ := wi_car W.1.1.1 (by omega) h1
    rw [nI_clamp (by omega)]
    obtain ⟨hb, b1, b2, b3, b4, b5, b6, b7, b8⟩ := XB_begins (d := d + 201) (w := w) (x := nI 0) X1 W XLx hc S L
    have C := kX3_can (d := d + 206) b3 b4 b5 b6 W2 hj
    obtain ⟨y1, y2, y3, y4⟩ := XR_walk X1 b2
    have T5 := X1.1.2.1.1
    have T5b : oT hb 79 = 5 := b3.1
    obtain ⟨x1, x2, x3, x4⟩ := XLx
    refine ⟨hb, ?_, ⟨ow, s, y1⟩, y2, by omega, by omega⟩
    cases q : sCan (pA P) (sBg (pA P) w (-1) (nI 0)) j with
    | true =>
      rw [q] at C
      simp (disch := first | assumption | exact nI_ne0 (by decide) (by decide) | exact zb_01 | exact Or.inl rfl | exact Or.inr rfl | with_unfolding_all exact id (by assumption) | with_unfolding_all exact id (xix_8 (by assumption) (by omega) (by omega)) | omega) only [wX0_can_e, wX0_can_0, wX0_can_1, wX0_can_2, wX0_can_5, wX0_can_8, wX0_can_9, wX0_can_12, wX0_can_13, wX0_can_16, wX0_can_19, wX0_can_22, wX0_can_23, wX0_can_26, wX0_can_29, wX0_can_30, wX0_can_33, wX0_can_34, wX0_can_37, wX0_can_38, wX0_can_40, wX0_can_43, if_true, if_false, ↓reduceIte, xpu_s, xpu_n, Option.bind_some, xk_i, xk_r, xk_0, xk_u, xk_l, xk_k, xk_q, rf_s, rf_n, o_TI, o_TL, o_TR, o_NI, o_NL, o_NR, o_XI, o_XL, o_XR, o_RI, o_RL, o_LI, o_LR, o_IL, o_IR, o_II, o_LL, o_RR, o_pII, o_pLL, up_s, q_e1, q_e2, Nat.zero_add, Nat.reduceEqDiff, Nat.reduceAdd, Nat.reduceMul, Nat.reduceSub, Nat.reduceLT, Nat.reduceLeDiff, Nat.reduceDiv, Nat.reduceMod, nI_c, nI_add, up_ne, not_true_eq_false, not_false_eq_true, and_self, and_true, true_and, and_false, false_and, or_true, true_or, or_false, false_or, decide_true, decide_false, zb_t, zb_f, zb_0, zb_1, eq_self, cond_true, cond_false, Bool.true_eq_false, Bool.false_eq_true, Bool.and_true, Bool.true_and, Bool.and_false, Bool.false_and, Bool.or_true, Bool.true_or, Bool.or_false, Bool.false_or, nx_2, nx_3, nx_5, nx_6, nx_7, nx_f, nx_s, nx_w, ns_2, ns_3, ns_5, ns_6, ns_7, zb_0, ic, h1, x7, x2, hc, b1, C]
      rfl
    | false =>
      rw [q] at C
      simp (disch := first | assumption | exact nI_ne0 (by decide) (by decide) | exact zb_01 | exact Or.inl rfl | exact Or.inr rfl | with_unfolding_all exact id (by assumption) | with_unfolding_all exact id (xix_8 (by assumption) (by omega) (by omega)) | omega) only [wX0_can_e, wX0_can_0, wX0_can_1, wX0_can_2, wX0_can_5, wX0_can_8, wX0_can_9, wX0_can_12, wX0_can_13, wX0_can_16, wX0_can_19, wX0_can_22, wX0_can_23, wX0_can_26, wX0_can_29, wX0_can_30, wX0_can_33, wX0_can_34, wX0_can_37, wX0_can_38, wX0_can_40, wX0_can_43, if_true, if_false, ↓reduceIte, xpu_s, xpu_n, Option.bind_some, xk_i, xk_r, xk_0, xk_u, xk_l, xk_k, xk_q, rf_s, rf_n, o_TI, o_TL, o_TR, o_NI, o_NL, o_NR, o_XI, o_XL, o_XR, o_RI, o_RL, o_LI, o_LR, o_IL, o_IR, o_II, o_LL, o_RR, o_pII, o_pLL, up_s, q_e1, q_e2, Nat.zero_add, Nat.reduceEqDiff, Nat.reduceAdd, Nat.reduceMul, Nat.reduceSub, Nat.reduceLT, Nat.reduceLeDiff, Nat.reduceDiv, Nat.reduceMod, nI_c, nI_add, up_ne, not_true_eq_false, not_false_eq_true, and_self, and_true, true_and, and_false, false_and, or_true, true_or, or_false, false_or, decide_true, decide_false, zb_t, zb_f, zb_0, zb_1, eq_self, cond_true, cond_false, Bool.true_eq_false, Bool.false_eq_true, Bool.and_true, Bool.true_and, Bool.and_false, Bool.false_and, Bool.or_true, Bool.true_or, Bool.or_false, Bool.false_or, nx_2, nx_3, nx_5, nx_6, nx_7, nx_f, nx_s, nx_w, ns_2, ns_3, ns_5, ns_6, ns_7, zb_0, ic, h1, x7, x2, hc, b1, C]
      rfl
/-- a run, all that stands behind it -/
theorem XB_runs (X : XRo ow s h P) (W : WF P) (XLx : XL h s l) (hc : oR h s 0 = some cc) (S : SCo h cc (pA P)) (L : LWo h l (pA P)) {t : Nat} (ht : t ≤ 99) : ∃ h1, C_ (d + 208) mX0_runs [.ref 64, .int x, .int (nI t)] h = some (some (.ref 79), h1) ∧ XRo ow s h1 P ∧ KM h h1 ∧ oC h1 = oC h ∧ oS h1 = oS h ∧ WO h1 79 ∧ oR h1 79 5 = some cc ∧ SCo h1 cc (pA P) ∧ WR h1 79 (pA P) (sEd P w x t) ∧ XL h1 s l ∧ LWo h1 l (pA P) ∧ oR h1 s 0 = some cc := by
  have O := X.1.2.1
  have x7 := X.1.2.2.2.2.2.2.1
  obtain ⟨h1, e1, F, e3⟩ := kX0_runs (d := d) (w := w) (by omega) O S W.1.1 W.1.2.1 XLx hc L x7 ht (seed := x)
  have O5 := WO_5 (c := cc) O
  have T5 := O.1
  have X5 := XL_5 (c := cc) T5 XLx
  obtain ⟨y1, y2, y3, y4⟩ := XR_walk X F
  refine ⟨h1, e1, y1, y2, y3, y4, WO_x F O5, ?_, SC_x F O5 X5.1 (SC_5 T5 S), e3, XL_x F X5, LW_x F O5 X5.1 (LW_5 T5 L), ?_⟩
  · rw [F.2.2.2.1]
    unfold hR5
    rw [o_RR, if_pos rfl, up_s]
  · rw [F.2.2.2.1]
    unfold hR5
    rw [o_RR, if_neg (fun z => by have := X.2.2.1.2.1; rw [z, T5] at this; omega)]
    exact hc
theorem nX0_run (X : XR h P) (W : WF P) (w : rI) : XG (d + 209) h mX0_run [.ref 64, .int x, .int y] (q_run P w x y) := by
  obtain ⟨ow, s, cc, l, X1, XLx, hc, S, L, -⟩ := XR_st X
  have T := X1.1
  have no := fun k : Int32 => kX0_no (d := d + 208) T (k := k)
  have x1 := XLx.1
  unfold q_run
  cases h1 : wi y (nI 0) (nI 5) with
  | false =>
    refine XG_nn X ?_
    simp (disch := first | assumption | exact nI_ne0 (by decide) (by decide) | exact zb_01 | exact Or.inl rfl | exact Or.inr rfl | with_unfolding_all exact id (by assumption) | with_unfolding_all exact id (xix_8 (by assumption) (by omega) (by omega)) | omega) only [wX0_run_e, wX0_run_0, wX0_run_1, wX0_run_2, wX0_run_3, wX0_run_6, wX0_run_9, wX0_run_12, wX0_run_13, wX0_run_15, wX0_run_18, wX0_run_19, wX0_run_20, wX0_run_21, wX0_run_23, wX0_run_26, wX0_run_27, wX0_run_28d, wX0_run_28c0, wX0_run_28c1, wX0_run_28c2, wX0_run_28c3, wX0_run_28c4, wX0_run_64, wX0_run_65, wX0_run_68, wX0_run_69, wX0_run_70, wX0_run_73, wX0_run_74, wX0_run_75, wX0_run_78, wX0_run_79, wX0_run_80, wX0_run_83, wX0_run_84, wX0_run_85, wX0_run_86, wX0_run_89, wX0_run_90, wX0_run_91, wX0_run_94, if_true, if_false, ↓reduceIte, xpu_s, xpu_n, Option.bind_some, xk_i, xk_r, xk_0, xk_u, xk_l, xk_k, xk_q, rf_s, rf_n, o_TI, o_TL, o_TR, o_NI, o_NL, o_NR, o_XI, o_XL, o_XR, o_RI, o_RL, o_LI, o_LR, o_IL, o_IR, o_II, o_LL, o_RR, o_pII, o_pLL, up_s, q_e1, q_e2, Nat.zero_add, Nat.reduceEqDiff, Nat.reduceAdd, Nat.reduceMul, Nat.reduceSub, Nat.reduceLT, Nat.reduceLeDiff, Nat.reduceDiv, Nat.reduceMod, nI_c, nI_add, up_ne, kX0_in, l6a_0, l6b_0, l6a_1, l6b_1, l6a_2, l6b_2, l6a_3, l6b_3, l6a_4, l6b_4, l6a_5, l6b_5, l6a_7, l6b_7, l6a_20, l6b_20, l6a_30, l6b_30, l6a_39, l6b_39, l6a_40, l6b_40, l6a_60, l6b_60, l6a_99, l6b_99, l6a_100, l6b_100, l6a_200, l6b_200, l6a_300, l6b_300, l6a_600, l6b_600, l6a_999, l6b_999, l6a_1000, l6b_1000, l6a_9999, l6b_9999, l6a_1000000, l6b_1000000, l6a_12, l6b_12, l64_xx, wi_d, one_ne0, zb_0, not_true_eq_false, not_false_eq_true, and_self, and_true, true_and, and_false, false_and, or_true, true_or, or_false, false_or, decide_true, decide_false, zb_t, zb_f, zb_0, zb_1, eq_self, cond_true, cond_false, Bool.true_eq_false, Bool.false_eq_true, Bool.and_true, Bool.true_and, Bool.and_false, Bool.false_and, Bool.or_true, Bool.true_or, Bool.or_false, Bool.false_or, nx_2, nx_3, nx_5, nx_6, nx_7, nx_f, nx_s, nx_w, ns_2, ns_3, ns_5, ns_6, ns_7, no, h1]
  | true =>
    obtain ⟨j, hj, rfl⟩ := wi_of (by decide) h1
    rw [nI_clamp (by omega)]
    obtain ⟨hb, b1, b2, b3, b4, b5, b6, b7, b8, b9, b10, b11, -⟩ := XB_runs (d := d) (w := w) (x := x) X1 W XLx hc S L (t := 99) (by omega)
    have SP := kX0_stopped (d := d + 206) b6 b7 b8 b9 W.1.1.2.1
    have SP : C_ (d + 208) mX0_stopped [.ref 64, .ref 79] hb = some (some (.int (sSp (pA P) (sEd P w x 99))), hb) := SP
    obtain ⟨r1, r2, r3, r4, r5, r6, r7, r8, r9, r10, r11⟩ := b9
    have T5 : oT hb 79 = 5 := b6.1
    have T1 : oT hb 64 = 1 := b10.1
    refine ⟨hb, ?_, ⟨ow, s, b2⟩, b3, by omega, by omega⟩
    have h6 : (nI 5).toInt < 0 ∨ 4 < (nI 5).toInt := Or.inr (by decide)
    rcases (show j = 0 ∨ j = 1 ∨ j = 2 ∨ j = 3 ∨ j = 4 ∨ j = 5 by omega) with rfl | rfl | rfl | rfl | rfl | rfl
    all_goals first | (simp (disch := first | assumption | exact nI_ne0 (by decide) (by decide) | exact zb_01 | exact Or.inl rfl | exact Or.inr rfl | with_unfolding_all exact id (by assumption) | with_unfolding_all exact id (xix_8 (by assumption) (by omega) (by omega)) | omega) only [wX0_run_e, wX0_run_0, wX0_run_1, wX0_run_2, wX0_run_3, wX0_run_6, wX0_run_9, wX0_run_12, wX0_run_13, wX0_run_15, wX0_run_18, wX0_run_19, wX0_run_20, wX0_run_21, wX0_run_23, wX0_run_26, wX0_run_27, wX0_run_64, wX0_run_65, wX0_run_68, wX0_run_69, wX0_run_70, wX0_run_73, wX0_run_74, wX0_run_75, wX0_run_78, wX0_run_79, wX0_run_80, wX0_run_83, wX0_run_84, wX0_run_85, wX0_run_86, wX0_run_89, wX0_run_90, wX0_run_91, wX0_run_94, wX0_run_28c0, wX0_run_28c1, wX0_run_28c2, wX0_run_28c3, wX0_run_28c4, if_true, if_false, ↓reduceIte, xpu_s, xpu_n, Option.bind_some, xk_i, xk_r, xk_0, xk_u, xk_l, xk_k, xk_q, rf_s, rf_n, o_TI, o_TL, o_TR, o_NI, o_NL, o_NR, o_XI, o_XL, o_XR, o_RI, o_RL, o_LI, o_LR, o_IL, o_IR, o_II, o_LL, o_RR, o_pII, o_pLL, up_s, q_e1, q_e2, Nat.zero_add, Nat.reduceEqDiff, Nat.reduceAdd, Nat.reduceMul, Nat.reduceSub, Nat.reduceLT, Nat.reduceLeDiff, Nat.reduceDiv, Nat.reduceMod, nI_c, nI_add, up_ne, kX0_in, l6a_0, l6b_0, l6a_1, l6b_1, l6a_2, l6b_2, l6a_3, l6b_3, l6a_4, l6b_4, l6a_5, l6b_5, l6a_7, l6b_7, l6a_20, l6b_20, l6a_30, l6b_30, l6a_39, l6b_39, l6a_40, l6b_40, l6a_60, l6b_60, l6a_99, l6b_99, l6a_100, l6b_100, l6a_200, l6b_200, l6a_300, l6b_300, l6a_600, l6b_600, l6a_999, l6b_999, l6a_1000, l6b_1000, l6a_9999, l6b_9999, l6a_1000000, l6b_1000000, l6a_12, l6b_12, l64_xx, wi_d, one_ne0, zb_0, not_true_eq_false, not_false_eq_true, and_self, and_true, true_and, and_false, false_and, or_true, true_or, or_false, false_or, decide_true, decide_false, zb_t, zb_f, zb_0, zb_1, eq_self, cond_true, cond_false, Bool.true_eq_false, Bool.false_eq_true, Bool.and_true, Bool.true_and, Bool.and_false, Bool.false_and, Bool.or_true, Bool.true_or, Bool.or_false, Bool.false_or, nx_2, nx_3, nx_5, nx_6, nx_7, nx_f, nx_s, nx_w, ns_2, ns_3, ns_5, ns_6, ns_7, h1, b1, SP, r7, r8, r9, r10, r11]; rfl) | (simp (disch := first | exact h6 | first | assumption | exact nI_ne0 (by decide) (by decide) | exact zb_01 | exact Or.inl rfl | exact Or.inr rfl | with_unfolding_all exact id (by assumption) | with_unfolding_all exact id (xix_8 (by assumption) (by omega) (by omega)) | omega) only [wX0_run_e, wX0_run_0, wX0_run_1, wX0_run_2, wX0_run_3, wX0_run_6, wX0_run_9, wX0_run_12, wX0_run_13, wX0_run_15, wX0_run_18, wX0_run_19, wX0_run_20, wX0_run_21, wX0_run_23, wX0_run_26, wX0_run_27, wX0_run_64, wX0_run_65, wX0_run_68, wX0_run_69, wX0_run_70, wX0_run_73, wX0_run_74, wX0_run_75, wX0_run_78, wX0_run_79, wX0_run_80, wX0_run_83, wX0_run_84, wX0_run_85, wX0_run_86, wX0_run_89, wX0_run_90, wX0_run_91, wX0_run_94, wX0_run_28d, if_true, if_false, ↓reduceIte, xpu_s, xpu_n, Option.bind_some, xk_i, xk_r, xk_0, xk_u, xk_l, xk_k, xk_q, rf_s, rf_n, o_TI, o_TL, o_TR, o_NI, o_NL, o_NR, o_XI, o_XL, o_XR, o_RI, o_RL, o_LI, o_LR, o_IL, o_IR, o_II, o_LL, o_RR, o_pII, o_pLL, up_s, q_e1, q_e2, Nat.zero_add, Nat.reduceEqDiff, Nat.reduceAdd, Nat.reduceMul, Nat.reduceSub, Nat.reduceLT, Nat.reduceLeDiff, Nat.reduceDiv, Nat.reduceMod, nI_c, nI_add, up_ne, kX0_in, l6a_0, l6b_0, l6a_1, l6b_1, l6a_2, l6b_2, l6a_3, l6b_3, l6a_4, l6b_4, l6a_5, l6b_5, l6a_7, l6b_7, l6a_20, l6b_20, l6a_30, l6b_30, l6a_39, l6b_39, l6a_40, l6b_40, l6a_60, l6b_60, l6a_99, l6b_99, l6a_100, l6b_100, l6a_200, l6b_200, l6a_300, l6b_300, l6a_600, l6b_600, l6a_999, l6b_999, l6a_1000, l6b_1000, l6a_9999, l6b_9999, l6a_1000000, l6b_1000000, l6a_12, l6b_12, l64_xx, wi_d, one_ne0, zb_0, not_true_eq_false, not_false_eq_true, and_self, and_true, true_and, and_false, false_and, or_true, true_or, or_false, false_or, decide_true, decide_false, zb_t, zb_f, zb_0, zb_1, eq_self, cond_true, cond_false, Bool.true_eq_false, Bool.false_eq_true, Bool.and_true, Bool.true_and, Bool.and_false, Bool.false_and, Bool.or_true, Bool.true_or, Bool.or_false, Bool.false_or, nx_2, nx_3, nx_5, nx_6, nx_7, nx_f, nx_s, nx_w, ns_2, ns_3, ns_5, ns_6, ns_7, h1, b1, SP, r7, r8, r9, r10, r11]; rfl)
end
