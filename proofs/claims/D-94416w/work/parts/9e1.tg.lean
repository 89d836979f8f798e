/-! TEXTS: the second object's parser, what it takes -/
section
variable {d : Nat} {h : xH} {P : sS} {n p b e k v c j i op lo hi m w wp : Nat} {t : Nat → Nat} {f g : rI} {x : (Nat × Nat) ⊕ (Nat × Nat × Nat × Nat)} {L : Nat × Nat × Nat × Nat}
def MS (h : xH) (n : Nat) (t : Nat → Nat) (x : (Nat × Nat) ⊕ (Nat × Nat × Nat × Nat)) : Prop := TMs h n t ∧ ST3 h ∧ match x with
  | .inl q => oI h 150 12 = nI q.1 ∧ oI h 150 13 = nI q.2 ∧ 1 ≤ q.1 ∧ q.1 ≤ 5 ∧ q.2 ≤ 400
  | .inr L => oI h 150 12 = nI 0 ∧ LOK t n L ∧ oI h 150 7 = nI L.1 ∧ oI h 150 8 = nI L.2.1 ∧ oI h 150 10 = nI L.2.2.1 ∧ (L.2.2.1 = 30 → oI h 150 11 = nI L.2.2.2)
/-- fields that the lexer leaves as they are -/
def gE (g f : rI) : Prop := ∀ j, ¬ (j = 7 ∨ j = 8 ∨ (10 ≤ j ∧ j ≤ 13)) → g j = f j
theorem gE_r : gE f f := fun _ _ => rfl
theorem gE_t {e : rI} (a : gE g f) (b : gE e g) : gE e f := fun j hj => (b j hj).trans (a j hj)
theorem MS_C (M : MS h n t x) : MS (pI h 150 (oI h 150)) n t x := by rw [pI_self]; exact M
theorem p150 {f2 : rI} : pI (pI h 150 f) 150 f2 = pI h 150 f2 := o_pII
theorem o150 : oI (pI h 150 f) 150 = f := rfl
theorem TMs_I (T : TMs h n t) (hf : f 9 = nI n) : TMs (pI h 150 f) n t := ⟨T.1, T.2.1, T.2.2.1, hf⟩
theorem kX5_nx (M : MS h n t (.inr L)) : ∃ g, C_ (d + 1) mX5_next [.ref 150] h = some (none, pI h 150 g) ∧ MS (pI h 150 g) n t (.inr (lx t n L.2.1)) ∧ gE g (oI h 150) := by
  obtain ⟨T, S3, c12, ok, c7, c8, c10, c11⟩ := M
  obtain ⟨v', e, hv⟩ := kX5_next (d := d) T S3 ok.2.1 c8
  refine ⟨_, e, ⟨T, S3, c12, (lx_ok ok.2.1 (TMs_t T)).1, rfl, rfl, rfl, hv⟩, fun j hj => ?_⟩
  rw [up_ne (by omega), up_ne (by omega), up_ne (by omega), up_ne (by omega)]
theorem MS_inl {q : Nat × Nat} (M : MS h n t (.inl q)) : (oI h 150 12 = 0) = False := by
  obtain ⟨T, S3, c12, c13, q1, q2, q3⟩ := M
  rw [c12, nI_z (by omega)]
  exact eq_false (by omega)
theorem MS_inr (M : MS h n t (.inr L)) : (oI h 150 12 = 0) = True := by
  rw [M.2.2.1]
  exact eq_true nI_0
theorem kX5_fails (M : MS h n t x) (h1 : 1 ≤ c) (h5 : c ≤ 5) : ∃ g, C_ d mX5_fails [.ref 150, .int (nI c)] h = some (none, pI h 150 g) ∧ MS (pI h 150 g) n t (flx c x) ∧ gE g (oI h 150) := by
  have t150 : oT h 150 = 7 := mok_t M.1.1 rfl
  cases x with
  | inl q =>
    have f12 := MS_inl M
    refine ⟨oI h 150, ?_, MS_C M, gE_r⟩
    rw [pI_self]
    simp (disch := first | assumption | exact nI_ne0 (by decide) (by decide) | exact zb_01 | exact Or.inl rfl | exact Or.inr rfl | with_unfolding_all exact id (by assumption) | with_unfolding_all exact id (xix_8 (by assumption) (by omega) (by omega)) | omega) only [wX5_fails_e, wX5_fails_0, wX5_fails_1, wX5_fails_4, wX5_fails_7, wX5_fails_8, wX5_fails_9, wX5_fails_10, wX5_fails_13, wX5_fails_15, wX5_fails_18, wX5_fails_19, wX5_fails_22, wX5_fails_23, wX5_fails_26, wX5_fails_27, wX5_fails_28, wX5_fails_31, wX5_fails_34, if_true, if_false, ↓reduceIte, xpu_s, xpu_n, Option.bind_some, xk_i, xk_r, xk_0, xk_u, xk_l, xk_k, xk_q, rf_s, rf_n, q_e1, q_e2, Nat.zero_add, Nat.reduceEqDiff, Nat.reduceAdd, Nat.reduceMul, Nat.reduceSub, Nat.reduceLT, Nat.reduceLeDiff, Nat.reduceDiv, Nat.reduceMod, f12, not_true_eq_false, not_false_eq_true, and_self, and_true, true_and, and_false, false_and, or_true, true_or, or_false, false_or, decide_true, decide_false, zb_t, zb_f, zb_0, zb_1, eq_self]
  | inr L =>
    have f12 := MS_inr M
    obtain ⟨T, S3, c12, ok, c7, c8, c10, c11⟩ := M
    have hn := T.2.1
    have b1 := ok.1
    have b2 := ok.2.1
    have b3 := ok.2.2.1
    have e35 : (nI L.2.2.1 = nI 35) = (L.2.2.1 = 35) := nI_eqI (by omega) (by omega)
    refine ⟨va_up (va_up (oI h 150) 12 (nI (if L.2.2.1 = 35 then 1 else c))) 13 (nI L.1), ?_, ⟨T, S3, rfl, rfl, ?_, ?_, ?_⟩, fun j hj => ?_⟩
    · by_cases y : L.2.2.1 = 35
      · have e35 : (nI L.2.2.1 = nI 35) = True := by rw [e35]; exact eq_true y
        rw [if_pos y]
        simp (disch := first | assumption | exact nI_ne0 (by decide) (by decide) | exact zb_01 | exact Or.inl rfl | exact Or.inr rfl | with_unfolding_all exact id (by assumption) | with_unfolding_all exact id (xix_8 (by assumption) (by omega) (by omega)) | omega) only [wX5_fails_e, wX5_fails_0, wX5_fails_1, wX5_fails_4, wX5_fails_7, wX5_fails_8, wX5_fails_9, wX5_fails_10, wX5_fails_13, wX5_fails_15, wX5_fails_18, wX5_fails_19, wX5_fails_22, wX5_fails_23, wX5_fails_26, wX5_fails_27, wX5_fails_28, wX5_fails_31, wX5_fails_34, if_true, if_false, ↓reduceIte, xpu_s, xpu_n, Option.bind_some, xk_i, xk_r, xk_0, xk_u, xk_l, xk_k, xk_q, rf_s, rf_n, o_TI, o_TL, o_TR, o_NI, o_NL, o_NR, o_XI, o_XL, o_XR, o_RI, o_RL, o_LI, o_LR, o_IL, o_IR, o_II, o_LL, o_RR, o_pII, o_pLL, up_s, q_e1, q_e2, Nat.zero_add, Nat.reduceEqDiff, Nat.reduceAdd, Nat.reduceMul, Nat.reduceSub, Nat.reduceLT, Nat.reduceLeDiff, Nat.reduceDiv, Nat.reduceMod, nI_c, nI_add, up_ne, f12, c7, c10, e35, not_true_eq_false, not_false_eq_true, and_self, and_true, true_and, and_false, false_and, or_true, true_or, or_false, false_or, decide_true, decide_false, zb_t, zb_f, zb_0, zb_1, eq_self]
      · have e35 : (nI L.2.2.1 = nI 35) = False := by rw [e35]; exact eq_false y
        rw [if_neg y]
        simp (disch := first | assumption | exact nI_ne0 (by decide) (by decide) | exact zb_01 | exact Or.inl rfl | exact Or.inr rfl | with_unfolding_all exact id (by assumption) | with_unfolding_all exact id (xix_8 (by assumption) (by omega) (by omega)) | omega) only [wX5_fails_e, wX5_fails_0, wX5_fails_1, wX5_fails_4, wX5_fails_7, wX5_fails_8, wX5_fails_9, wX5_fails_10, wX5_fails_13, wX5_fails_15, wX5_fails_18, wX5_fails_19, wX5_fails_22, wX5_fails_23, wX5_fails_26, wX5_fails_27, wX5_fails_28, wX5_fails_31, wX5_fails_34, if_true, if_false, ↓reduceIte, xpu_s, xpu_n, Option.bind_some, xk_i, xk_r, xk_0, xk_u, xk_l, xk_k, xk_q, rf_s, rf_n, o_TI, o_TL, o_TR, o_NI, o_NL, o_NR, o_XI, o_XL, o_XR, o_RI, o_RL, o_LI, o_LR, o_IL, o_IR, o_II, o_LL, o_RR, o_pII, o_pLL, up_s, q_e1, q_e2, Nat.zero_add, Nat.reduceEqDiff, Nat.reduceAdd, Nat.reduceMul, Nat.reduceSub, Nat.reduceLT, Nat.reduceLeDiff, Nat.reduceDiv, Nat.reduceMod, nI_c, nI_add, up_ne, f12, c7, c10, e35, not_true_eq_false, not_false_eq_true, and_self, and_true, true_and, and_false, false_and, or_true, true_or, or_false, false_or, decide_true, decide_false, zb_t, zb_f, zb_0, zb_1, eq_self]
    · show 1 ≤ (if L.2.2.1 = 35 then 1 else c)
      split <;> omega
    · show (if L.2.2.1 = 35 then 1 else c) ≤ 5
      split <;> omega
    · show L.1 ≤ 400
      omega
    · rw [up_ne (by omega), up_ne (by omega)]
theorem kX5_is (M : MS h n t x) (hj : j < 100) : C_ d mX5_is [.ref 150, .int (nI j)] h = some (some (.int (zb (isx j x))), h) := by
  have t150 : oT h 150 = 7 := mok_t M.1.1 rfl
  cases x with
  | inl q =>
    have f12 := MS_inl M
    show _ = some (some (Value.int (zb false)), h)
    simp (disch := first | assumption | exact nI_ne0 (by decide) (by decide) | exact zb_01 | exact Or.inl rfl | exact Or.inr rfl | with_unfolding_all exact id (by assumption) | with_unfolding_all exact id (xix_8 (by assumption) (by omega) (by omega)) | omega) only [wX5_is_e, wX5_is_0, wX5_is_1, wX5_is_4, wX5_is_7, wX5_is_8, wX5_is_11, wX5_is_12, wX5_is_15, wX5_is_16, wX5_is_19, wX5_is_20, if_true, if_false, ↓reduceIte, xpu_s, xpu_n, Option.bind_some, xk_i, xk_r, xk_0, xk_u, xk_l, xk_k, xk_q, rf_s, rf_n, q_e1, q_e2, Nat.zero_add, Nat.reduceEqDiff, Nat.reduceAdd, Nat.reduceMul, Nat.reduceSub, Nat.reduceLT, Nat.reduceLeDiff, Nat.reduceDiv, Nat.reduceMod, f12, not_true_eq_false, not_false_eq_true, and_self, and_true, true_and, and_false, false_and, or_true, true_or, or_false, false_or, decide_true, decide_false, zb_t, zb_f, zb_0, zb_1, eq_self] <;> rfl
  | inr L =>
    have f12 := MS_inr M
    obtain ⟨T, S3, c12, ok, c7, c8, c10, c11⟩ := M
    have b3 := ok.2.2.1
    have ek : (nI L.2.2.1 = nI j) = (L.2.2.1 = j) := nI_eqI (by omega) (by omega)
    show _ = some (some (Value.int (zb (decide (L.2.2.1 = j)))), h)
    by_cases y : L.2.2.1 = j
    · have ek : (nI L.2.2.1 = nI j) = True := by rw [ek]; exact eq_true y
      rw [decide_eq_true y]
      simp (disch := first | assumption | exact nI_ne0 (by decide) (by decide) | exact zb_01 | exact Or.inl rfl | exact Or.inr rfl | with_unfolding_all exact id (by assumption) | with_unfolding_all exact id (xix_8 (by assumption) (by omega) (by omega)) | omega) only [wX5_is_e, wX5_is_0, wX5_is_1, wX5_is_4, wX5_is_7, wX5_is_8, wX5_is_11, wX5_is_12, wX5_is_15, wX5_is_16, wX5_is_19, wX5_is_20, if_true, if_false, ↓reduceIte, xpu_s, xpu_n, Option.bind_some, xk_i, xk_r, xk_0, xk_u, xk_l, xk_k, xk_q, rf_s, rf_n, q_e1, q_e2, Nat.zero_add, Nat.reduceEqDiff, Nat.reduceAdd, Nat.reduceMul, Nat.reduceSub, Nat.reduceLT, Nat.reduceLeDiff, Nat.reduceDiv, Nat.reduceMod, f12, c10, ek, not_true_eq_false, not_false_eq_true, and_self, and_true, true_and, and_false, false_and, or_true, true_or, or_false, false_or, decide_true, decide_false, zb_t, zb_f, zb_0, zb_1, eq_self] <;> rfl
    · have ek : (nI L.2.2.1 = nI j) = False := by rw [ek]; exact eq_false y
      rw [decide_eq_false y]
      simp (disch := first | assumption | exact nI_ne0 (by decide) (by decide) | exact zb_01 | exact Or.inl rfl | exact Or.inr rfl | with_unfolding_all exact id (by assumption) | with_unfolding_all exact id (xix_8 (by assumption) (by omega) (by omega)) | omega) only [wX5_is_e, wX5_is_0, wX5_is_1, wX5_is_4, wX5_is_7, wX5_is_8, wX5_is_11, wX5_is_12, wX5_is_15, wX5_is_16, wX5_is_19, wX5_is_20, if_true, if_false, ↓reduceIte, xpu_s, xpu_n, Option.bind_some, xk_i, xk_r, xk_0, xk_u, xk_l, xk_k, xk_q, rf_s, rf_n, q_e1, q_e2, Nat.zero_add, Nat.reduceEqDiff, Nat.reduceAdd, Nat.reduceMul, Nat.reduceSub, Nat.reduceLT, Nat.reduceLeDiff, Nat.reduceDiv, Nat.reduceMod, f12, c10, ek, not_true_eq_false, not_false_eq_true, and_self, and_true, true_and, and_false, false_and, or_true, true_or, or_false, false_or, decide_true, decide_false, zb_t, zb_f, zb_0, zb_1, eq_self] <;> rfl
theorem kX5_eatsF (M : MS h n t x) (hj : j < 100) (hx : isx j x = false) : C_ (d + 2) mX5_eats [.ref 150, .int (nI j)] h = some (some (.int (nI 0)), h) := by
  have t150 : oT h 150 = 7 := mok_t M.1.1 rfl
  have I := kX5_is (d := d + 1) M hj
  rw [hx] at I
  simp (disch := first | assumption | exact nI_ne0 (by decide) (by decide) | exact zb_01 | exact Or.inl rfl | exact Or.inr rfl | with_unfolding_all exact id (by assumption) | with_unfolding_all exact id (xix_8 (by assumption) (by omega) (by omega)) | omega) only [wX5_eats_e, wX5_eats_0, wX5_eats_1, wX5_eats_2, wX5_eats_5, wX5_eats_8, wX5_eats_9, wX5_eats_10, wX5_eats_11, wX5_eats_14, wX5_eats_15, if_true, if_false, ↓reduceIte, xpu_s, xpu_n, Option.bind_some, xk_i, xk_r, xk_0, xk_u, xk_l, xk_k, xk_q, rf_s, rf_n, q_e1, q_e2, Nat.zero_add, Nat.reduceEqDiff, Nat.reduceAdd, Nat.reduceMul, Nat.reduceSub, Nat.reduceLT, Nat.reduceLeDiff, Nat.reduceDiv, Nat.reduceMod, I, not_true_eq_false, not_false_eq_true, and_self, and_true, true_and, and_false, false_and, or_true, true_or, or_false, false_or, decide_true, decide_false, zb_t, zb_f, zb_0, zb_1, eq_self] <;> rfl
theorem kX5_eatsT (M : MS h n t (.inr L)) (hj : j < 100) (hx : L.2.2.1 = j) : ∃ g, C_ (d + 2) mX5_eats [.ref 150, .int (nI j)] h = some (some (.int (nI 1)), pI h 150 g) ∧ MS (pI h 150 g) n t (.inr (lx t n L.2.1)) ∧ gE g (oI h 150) := by
  have t150 : oT h 150 = 7 := mok_t M.1.1 rfl
  have I := kX5_is (d := d + 1) M hj
  rw [isx_r, decide_eq_true hx] at I
  obtain ⟨g, e, M', E⟩ := kX5_nx (d := d) M
  refine ⟨g, ?_, M', E⟩
  simp (disch := first | assumption | exact nI_ne0 (by decide) (by decide) | exact zb_01 | exact Or.inl rfl | exact Or.inr rfl | with_unfolding_all exact id (by assumption) | with_unfolding_all exact id (xix_8 (by assumption) (by omega) (by omega)) | omega) only [wX5_eats_e, wX5_eats_0, wX5_eats_1, wX5_eats_2, wX5_eats_5, wX5_eats_8, wX5_eats_9, wX5_eats_10, wX5_eats_11, wX5_eats_14, wX5_eats_15, if_true, if_false, ↓reduceIte, xpu_s, xpu_n, Option.bind_some, xk_i, xk_r, xk_0, xk_u, xk_l, xk_k, xk_q, rf_s, rf_n, q_e1, q_e2, Nat.zero_add, Nat.reduceEqDiff, Nat.reduceAdd, Nat.reduceMul, Nat.reduceSub, Nat.reduceLT, Nat.reduceLeDiff, Nat.reduceDiv, Nat.reduceMod, I, e, one_ne0, not_true_eq_false, not_false_eq_true, and_self, and_true, true_and, and_false, false_and, or_true, true_or, or_false, false_or, decide_true, decide_false, zb_t, zb_f, zb_0, zb_1, eq_self] <;> rfl
theorem kX5_needs (M : MS h n t x) (hj : j < 100) : ∃ g, C_ (d + 3) mX5_needs [.ref 150, .int (nI j)] h = some (none, pI h 150 g) ∧ MS (pI h 150 g) n t (ndx t n j x) ∧ gE g (oI h 150) := by
  have t150 : oT h 150 = 7 := mok_t M.1.1 rfl
  cases hx : isx j x with
  | false =>
    have EF := kX5_eatsF (d := d) M hj hx
    obtain ⟨g, e, M', E⟩ := kX5_fails (d := d + 2) M (c := 2) (by omega) (by omega)
    have e0 : flx 2 x = ndx t n j x := by
      cases x with
      | inl q => rfl
      | inr L => exact (if_neg (of_decide_eq_false hx)).symm
    rw [e0] at M'
    refine ⟨g, ?_, M', E⟩
    simp (disch := first | assumption | exact nI_ne0 (by decide) (by decide) | exact zb_01 | exact Or.inl rfl | exact Or.inr rfl | with_unfolding_all exact id (by assumption) | with_unfolding_all exact id (xix_8 (by assumption) (by omega) (by omega)) | omega) only [wX5_needs_e, wX5_needs_0, wX5_needs_1, wX5_needs_2, wX5_needs_5, wX5_needs_8, wX5_needs_9, wX5_needs_10, wX5_needs_13, if_true, if_false, ↓reduceIte, xpu_s, xpu_n, Option.bind_some, xk_i, xk_r, xk_0, xk_u, xk_l, xk_k, xk_q, rf_s, rf_n, q_e1, q_e2, Nat.zero_add, Nat.reduceEqDiff, Nat.reduceAdd, Nat.reduceMul, Nat.reduceSub, Nat.reduceLT, Nat.reduceLeDiff, Nat.reduceDiv, Nat.reduceMod, EF, e, nI_00, not_true_eq_false, not_false_eq_true, and_self, and_true, true_and, and_false, false_and, or_true, true_or, or_false, false_or, decide_true, decide_false, zb_t, zb_f, zb_0, zb_1, eq_self]
  | true =>
    cases x with
    | inl q => cases hx
    | inr L =>
      have hk : L.2.2.1 = j := of_decide_eq_true hx
      obtain ⟨g, e, M', E⟩ := kX5_eatsT (d := d) M hj hk
      have e0 : ndx t n j (.inr L) = .inr (lx t n L.2.1) := if_pos hk
      rw [e0]
      refine ⟨g, ?_, M', E⟩
      simp (disch := first | assumption | exact nI_ne0 (by decide) (by decide) | exact zb_01 | exact Or.inl rfl | exact Or.inr rfl | with_unfolding_all exact id (by assumption) | with_unfolding_all exact id (xix_8 (by assumption) (by omega) (by omega)) | omega) only [wX5_needs_e, wX5_needs_0, wX5_needs_1, wX5_needs_2, wX5_needs_5, wX5_needs_8, wX5_needs_9, wX5_needs_10, wX5_needs_13, if_true, if_false, ↓reduceIte, xpu_s, xpu_n, Option.bind_some, xk_i, xk_r, xk_0, xk_u, xk_l, xk_k, xk_q, rf_s, rf_n, q_e1, q_e2, Nat.zero_add, Nat.reduceEqDiff, Nat.reduceAdd, Nat.reduceMul, Nat.reduceSub, Nat.reduceLT, Nat.reduceLeDiff, Nat.reduceDiv, Nat.reduceMod, e, nI_ne1, not_true_eq_false, not_false_eq_true, and_self, and_true, true_and, and_false, false_and, or_true, true_or, or_false, false_or, decide_true, decide_false, zb_t, zb_f, zb_0, zb_1, eq_self]
theorem kX5_takes (M : MS h n t x) (hl : lo ≤ 999) (hh : hi ≤ 999) : ∃ (g : rI) (r : Int32), C_ (d + 2) mX5_takes [.ref 150, .int (nI lo), .int (nI hi)] h = some (some (.int r), pI h 150 g) ∧ MS (pI h 150 g) n t (nbx t n lo hi x) ∧ gE g (oI h 150) ∧ (∀ L', nbx t n lo hi x = .inr L' → r = nI (nbv lo hi x)) := by
  have t150 : oT h 150 = 7 := mok_t M.1.1 rfl
  have I := kX5_is (d := d + 1) (j := 30) M (by omega)
  cases x with
  | inl q =>
    have f12 := MS_inl M
    have I : C_ (d + 1) mX5_is [.ref 150, .int (nI 30)] h = some (some (.int 0), h) := I
    obtain ⟨g, e, M', E⟩ := kX5_fails (d := d + 1) M (c := 2) (by omega) (by omega)
    have g12 := MS_inl (q := q) M'
    refine ⟨g, g 11, ?_, M', E, fun L' z => by cases z⟩
    have t2 : oT (pI h 150 g) 150 = 7 := t150
    have g12 : (g 12 = 0) = False := g12
    simp (disch := first | exact t2 | first | assumption | exact nI_ne0 (by decide) (by decide) | exact zb_01 | exact Or.inl rfl | exact Or.inr rfl | with_unfolding_all exact id (by assumption) | with_unfolding_all exact id (xix_8 (by assumption) (by omega) (by omega)) | omega) only [wX5_takes_e, wX5_takes_0, wX5_takes_1, wX5_takes_3, wX5_takes_6, wX5_takes_9, wX5_takes_10, wX5_takes_11, wX5_takes_14, wX5_takes_17, wX5_takes_18, wX5_takes_21, wX5_takes_22, wX5_takes_23, wX5_takes_24, wX5_takes_25, wX5_takes_26, wX5_takes_29, wX5_takes_32, wX5_takes_33, wX5_takes_34, wX5_takes_37, wX5_takes_38, wX5_takes_41, wX5_takes_42, wX5_takes_43, wX5_takes_46, wX5_takes_49, wX5_takes_50, wX5_takes_53, wX5_takes_54, if_true, if_false, ↓reduceIte, xpu_s, xpu_n, Option.bind_some, xk_i, xk_r, xk_0, xk_u, xk_l, xk_k, xk_q, rf_s, rf_n, q_e1, q_e2, Nat.zero_add, Nat.reduceEqDiff, Nat.reduceAdd, Nat.reduceMul, Nat.reduceSub, Nat.reduceLT, Nat.reduceLeDiff, Nat.reduceDiv, Nat.reduceMod, I, e, o150, g12, not_true_eq_false, not_false_eq_true, and_self, and_true, true_and, and_false, false_and, or_true, true_or, or_false, false_or, decide_true, decide_false, zb_t, zb_f, zb_0, zb_1, eq_self]
  | inr L =>
    have f12 := MS_inr M
    have M0 := M
    obtain ⟨T, S3, c12, ok, c7, c8, c10, c11⟩ := M0
    by_cases k30 : L.2.2.1 = 30
    · have v11 := c11 k30
      have vl := ok.2.2.2.2.1 k30
      have W := wi_nn (v := L.2.2.2) (lo := lo) (hi := hi) (by omega) (by omega) (by omega)
      rw [isx_r, decide_eq_true k30] at I
      by_cases y : lo ≤ L.2.2.2 ∧ L.2.2.2 ≤ hi
      · obtain ⟨g, e, M', E⟩ := kX5_nx (d := d) M
        have e1 : nbx t n lo hi (.inr L) = .inr (lx t n L.2.1) := by
          show (if L.2.2.1 = 30 then _ else _) = _
          rw [if_pos k30, if_pos y]
        have e2 : nbv lo hi (.inr L) = L.2.2.2 := if_pos ⟨k30, y⟩
        rw [e1, e2]
        rw [decide_eq_true y] at W
        refine ⟨g, nI L.2.2.2, ?_, M', E, fun _ _ => rfl⟩
        simp (disch := first | assumption | exact nI_ne0 (by decide) (by decide) | exact zb_01 | exact Or.inl rfl | exact Or.inr rfl | with_unfolding_all exact id (by assumption) | with_unfolding_all exact id (xix_8 (by assumption) (by omega) (by omega)) | omega) only [wX5_takes_e, wX5_takes_0, wX5_takes_1, wX5_takes_3, wX5_takes_6, wX5_takes_9, wX5_takes_10, wX5_takes_11, wX5_takes_14, wX5_takes_17, wX5_takes_18, wX5_takes_21, wX5_takes_22, wX5_takes_23, wX5_takes_24, wX5_takes_25, wX5_takes_26, wX5_takes_29, wX5_takes_32, wX5_takes_33, wX5_takes_34, wX5_takes_37, wX5_takes_38, wX5_takes_41, wX5_takes_42, wX5_takes_43, wX5_takes_46, wX5_takes_49, wX5_takes_50, wX5_takes_53, wX5_takes_54, if_true, if_false, ↓reduceIte, xpu_s, xpu_n, Option.bind_some, xk_i, xk_r, xk_0, xk_u, xk_l, xk_k, xk_q, rf_s, rf_n, q_e1, q_e2, Nat.zero_add, Nat.reduceEqDiff, Nat.reduceAdd, Nat.reduceMul, Nat.reduceSub, Nat.reduceLT, Nat.reduceLeDiff, Nat.reduceDiv, Nat.reduceMod, kX5_within, l6a_0, l6b_0, l6a_1, l6b_1, l6a_2, l6b_2, l6a_3, l6b_3, l6a_4, l6b_4, l6a_5, l6b_5, l6a_7, l6b_7, l6a_20, l6b_20, l6a_30, l6b_30, l6a_39, l6b_39, l6a_40, l6b_40, l6a_60, l6b_60, l6a_99, l6b_99, l6a_100, l6b_100, l6a_200, l6b_200, l6a_300, l6b_300, l6a_600, l6b_600, l6a_999, l6b_999, l6a_1000, l6b_1000, l6a_9999, l6b_9999, l6a_1000000, l6b_1000000, l6a_12, l6b_12, l64_xx, wi_d, one_ne0, zb_0, I, f12, v11, W, e, not_true_eq_false, not_false_eq_true, and_self, and_true, true_and, and_false, false_and, or_true, true_or, or_false, false_or, decide_true, decide_false, zb_t, zb_f, zb_0, zb_1, eq_self]
      · obtain ⟨g, e, M', E⟩ := kX5_fails (d := d + 1) M (c := 3) (by omega) (by omega)
        have e0 : flx 3 (.inr L) = .inl (3, L.1) := by
          show (Sum.inl (if L.2.2.1 = 35 then 1 else 3, L.1) : (Nat × Nat) ⊕ (Nat × Nat × Nat × Nat)) = _
          rw [if_neg (by omega)]
        have e1 : nbx t n lo hi (.inr L) = .inl (3, L.1) := by
          show (if L.2.2.1 = 30 then _ else _) = _
          rw [if_pos k30, if_neg y]
        rw [e0] at M'
        have g12 : (g 12 = 0) = False := MS_inl M'
        rw [e1]
        rw [decide_eq_false y] at W
        refine ⟨g, g 11, ?_, M', E, fun L' z => by cases z⟩
        have t2 : oT (pI h 150 g) 150 = 7 := t150
        simp (disch := first | exact t2 | first | assumption | exact nI_ne0 (by decide) (by decide) | exact zb_01 | exact Or.inl rfl | exact Or.inr rfl | with_unfolding_all exact id (by assumption) | with_unfolding_all exact id (xix_8 (by assumption) (by omega) (by omega)) | omega) only [wX5_takes_e, wX5_takes_0, wX5_takes_1, wX5_takes_3, wX5_takes_6, wX5_takes_9, wX5_takes_10, wX5_takes_11, wX5_takes_14, wX5_takes_17, wX5_takes_18, wX5_takes_21, wX5_takes_22, wX5_takes_23, wX5_takes_24, wX5_takes_25, wX5_takes_26, wX5_takes_29, wX5_takes_32, wX5_takes_33, wX5_takes_34, wX5_takes_37, wX5_takes_38, wX5_takes_41, wX5_takes_42, wX5_takes_43, wX5_takes_46, wX5_takes_49, wX5_takes_50, wX5_takes_53, wX5_takes_54, if_true, if_false, ↓reduceIte, xpu_s, xpu_n, Option.bind_some, xk_i, xk_r, xk_0, xk_u, xk_l, xk_k, xk_q, rf_s, rf_n, q_e1, q_e2, Nat.zero_add, Nat.reduceEqDiff, Nat.reduceAdd, Nat.reduceMul, Nat.reduceSub, Nat.reduceLT, Nat.reduceLeDiff, Nat.reduceDiv, Nat.reduceMod, kX5_within, l6a_0, l6b_0, l6a_1, l6b_1, l6a_2, l6b_2, l6a_3, l6b_3, l6a_4, l6b_4, l6a_5, l6b_5, l6a_7, l6b_7, l6a_20, l6b_20, l6a_30, l6b_30, l6a_39, l6b_39, l6a_40, l6b_40, l6a_60, l6b_60, l6a_99, l6b_99, l6a_100, l6b_100, l6a_200, l6b_200, l6a_300, l6b_300, l6a_600, l6b_600, l6a_999, l6b_999, l6a_1000, l6b_1000, l6a_9999, l6b_9999, l6a_1000000, l6b_1000000, l6a_12, l6b_12, l64_xx, wi_d, one_ne0, zb_0, I, v11, W, e, o150, g12, not_true_eq_false, not_false_eq_true, and_self, and_true, true_and, and_false, false_and, or_true, true_or, or_false, false_or, decide_true, decide_false, zb_t, zb_f, zb_0, zb_1, eq_self]
    · rw [isx_r, decide_eq_false k30] at I
      obtain ⟨g, e, M', E⟩ := kX5_fails (d := d + 1) M (c := 2) (by omega) (by omega)
      have g12 : (g 12 = 0) = False := MS_inl M'
      have e1 : nbx t n lo hi (.inr L) = flx 2 (.inr L) := if_neg k30
      rw [e1]
      refine ⟨g, g 11, ?_, M', E, fun L' z => by cases z⟩
      have t2 : oT (pI h 150 g) 150 = 7 := t150
      simp (disch := first | exact t2 | first | assumption | exact nI_ne0 (by decide) (by decide) | exact zb_01 | exact Or.inl rfl | exact Or.inr rfl | with_unfolding_all exact id (by assumption) | with_unfolding_all exact id (xix_8 (by assumption) (by omega) (by omega)) | omega) only [wX5_takes_e, wX5_takes_0, wX5_takes_1, wX5_takes_3, wX5_takes_6, wX5_takes_9, wX5_takes_10, wX5_takes_11, wX5_takes_14, wX5_takes_17, wX5_takes_18, wX5_takes_21, wX5_takes_22, wX5_takes_23, wX5_takes_24, wX5_takes_25, wX5_takes_26, wX5_takes_29, wX5_takes_32, wX5_takes_33, wX5_takes_34, wX5_takes_37, wX5_takes_38, wX5_takes_41, wX5_takes_42, wX5_takes_43, wX5_takes_46, wX5_takes_49, wX5_takes_50, wX5_takes_53, wX5_takes_54, if_true, if_false, ↓reduceIte, xpu_s, xpu_n, Option.bind_some, xk_i, xk_r, xk_0, xk_u, xk_l, xk_k, xk_q, rf_s, rf_n, q_e1, q_e2, Nat.zero_add, Nat.reduceEqDiff, Nat.reduceAdd, Nat.reduceMul, Nat.reduceSub, Nat.reduceLT, Nat.reduceLeDiff, Nat.reduceDiv, Nat.reduceMod, I, e, o150, g12, not_true_eq_false, not_false_eq_true, and_self, and_true, true_and, and_false, false_and, or_true, true_or, or_false, false_or, decide_true, decide_false, zb_t, zb_f, zb_0, zb_1, eq_self]
end
