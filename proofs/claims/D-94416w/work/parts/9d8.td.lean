/-! TEXTS: the component's reader, what it takes -/
section
variable {d : Nat} {h : xH} {P : sS} {o n p b e k v c j i op lo hi m w wp : Nat} {t : Nat → Nat} {f : rI} {x : (Nat × Nat) ⊕ (Nat × Nat × Nat × Nat)} {L : Nat × Nat × Nat × Nat}
theorem CS_C (C : CS h o n t op x) : CS (pI h o (oI h o)) o n t op x := by rw [pI_self]; exact C
theorem isx_r : isx j (.inr L) = decide (L.2.2.1 = j) := rfl
theorem kX6_takesF (C : CS h o n t op x) (S : STR h) (hj : j < 29) (hx : isx j x = false) : C_ (d + 4) mX6_takes [.ref o, .ref (kid.getD j 0)] h = some (some (.int (nI 0)), h) := by
  have I := kX6_is (d := d + 2) C S hj
  have x0 := C.1.1
  rw [hx] at I
  generalize kid.getD j 0 = a at *
  simp (disch := first | assumption | exact nI_ne0 (by decide) (by decide) | exact zb_01 | exact Or.inl rfl | exact Or.inr rfl | with_unfolding_all exact id (by assumption) | with_unfolding_all exact id (xix_8 (by assumption) (by omega) (by omega)) | omega) only [wX6_takes_e, wX6_takes_0, wX6_takes_0q, wX6_takes_0n, wX6_takes_1, wX6_takes_1q, wX6_takes_1n, wX6_takes_2, wX6_takes_5, wX6_takes_8, wX6_takes_9, wX6_takes_10, wX6_takes_10q, wX6_takes_10n, wX6_takes_11, wX6_takes_14, wX6_takes_15, if_true, if_false, ↓reduceIte, xpu_s, xpu_n, Option.bind_some, xk_i, xk_r, xk_0, xk_u, xk_l, xk_k, xk_q, rf_s, rf_n, q_e1, q_e2, Nat.zero_add, Nat.reduceEqDiff, Nat.reduceAdd, Nat.reduceMul, Nat.reduceSub, Nat.reduceLT, Nat.reduceLeDiff, Nat.reduceDiv, Nat.reduceMod, I, not_true_eq_false, not_false_eq_true, and_self, and_true, true_and, and_false, false_and, or_true, true_or, or_false, false_or, decide_true, decide_false, zb_t, zb_f, zb_0, zb_1, eq_self] <;> rfl
theorem kX6_takesT (C : CS h o n t op (.inr L)) (S : STR h) (hj : j < 29) (hx : L.2.2.1 = j) : ∃ f, C_ (d + 4) mX6_takes [.ref o, .ref (kid.getD j 0)] h = some (some (.int (nI 1)), pI h o f) ∧ CS (pI h o f) o n t op (.inr (lx t n L.2.1)) := by
  have I := kX6_is (d := d + 2) C S hj
  have x0 := C.1.1
  obtain ⟨f, e, C'⟩ := kX6_nx (d := d) C
  rw [isx_r, decide_eq_true hx] at I
  generalize kid.getD j 0 = a at *
  refine ⟨f, ?_, C'⟩
  simp (disch := first | assumption | exact nI_ne0 (by decide) (by decide) | exact zb_01 | exact Or.inl rfl | exact Or.inr rfl | with_unfolding_all exact id (by assumption) | with_unfolding_all exact id (xix_8 (by assumption) (by omega) (by omega)) | omega) only [wX6_takes_e, wX6_takes_0, wX6_takes_0q, wX6_takes_0n, wX6_takes_1, wX6_takes_1q, wX6_takes_1n, wX6_takes_2, wX6_takes_5, wX6_takes_8, wX6_takes_9, wX6_takes_10, wX6_takes_10q, wX6_takes_10n, wX6_takes_11, wX6_takes_14, wX6_takes_15, if_true, if_false, ↓reduceIte, xpu_s, xpu_n, Option.bind_some, xk_i, xk_r, xk_0, xk_u, xk_l, xk_k, xk_q, rf_s, rf_n, q_e1, q_e2, Nat.zero_add, Nat.reduceEqDiff, Nat.reduceAdd, Nat.reduceMul, Nat.reduceSub, Nat.reduceLT, Nat.reduceLeDiff, Nat.reduceDiv, Nat.reduceMod, I, e, one_ne0, not_true_eq_false, not_false_eq_true, and_self, and_true, true_and, and_false, false_and, or_true, true_or, or_false, false_or, decide_true, decide_false, zb_t, zb_f, zb_0, zb_1, eq_self] <;> rfl
/-- a word is needed: taken, or a fault -/
def ndx (t : Nat → Nat) (n j : Nat) (x : (Nat × Nat) ⊕ (Nat × Nat × Nat × Nat)) : (Nat × Nat) ⊕ (Nat × Nat × Nat × Nat) := match x with
  | .inl q => .inl q
  | .inr L => if L.2.2.1 = j then .inr (lx t n L.2.1) else flx 2 (.inr L)
/-- a number is needed -/
def nbx (t : Nat → Nat) (n lo hi : Nat) (x : (Nat × Nat) ⊕ (Nat × Nat × Nat × Nat)) : (Nat × Nat) ⊕ (Nat × Nat × Nat × Nat) := match x with
  | .inl q => .inl q
  | .inr L => if L.2.2.1 = 30 then (if lo ≤ L.2.2.2 ∧ L.2.2.2 ≤ hi then .inr (lx t n L.2.1) else .inl (3, L.1)) else flx 2 (.inr L)
def nbv (lo hi : Nat) (x : (Nat × Nat) ⊕ (Nat × Nat × Nat × Nat)) : Nat := match x with
  | .inl _ => lo
  | .inr L => if L.2.2.1 = 30 ∧ lo ≤ L.2.2.2 ∧ L.2.2.2 ≤ hi then L.2.2.2 else lo
theorem ct_30 (h : k ≤ 35) : (nI (ct k) = nI 2) = (k = 30) := by
  have cb := ct_b (k := k)
  rw [nI_eqI (by omega) (by omega)]
  unfold ct
  refine propext ⟨fun z => ?_, fun z => by subst z; decide⟩
  repeat' split at z
  all_goals omega
theorem ct_31 (h : k ≤ 35) : (nI (ct k) = nI 59) = (k = 31) := by
  have cb := ct_b (k := k)
  rw [nI_eqI (by omega) (by omega)]
  unfold ct
  refine propext ⟨fun z => ?_, fun z => by subst z; decide⟩
  repeat' split at z
  all_goals omega
theorem wi_nn (h1 : v < 2147483648) (h2 : lo < 2147483648) (h3 : hi < 2147483648) : wi (nI v) (nI lo) (nI hi) = decide (lo ≤ v ∧ v ≤ hi) := by
  unfold wi
  rw [decide_eq_decide, nI_ltP h1 h2, nI_ltP h3 h1]
  omega
theorem CS_inl {q : Nat × Nat} (C : CS h o n t op (.inl q)) : (oI h o 8 = 0) = False ∧ oT h o = 8 := by
  obtain ⟨T, c7, c8, c9, q1, q2, q3⟩ := C
  refine ⟨?_, T.1⟩
  rw [c8, nI_z (by omega)]
  exact eq_false (by omega)
theorem CS_inr (C : CS h o n t op (.inr L)) : (oI h o 8 = 0) = True ∧ oT h o = 8 := by
  obtain ⟨T, c7, c8, -⟩ := C
  exact ⟨by rw [c8]; exact eq_true nI_0, T.1⟩
theorem kX6_number (C : CS h o n t op x) (hh : hi ≤ 999) (hl : lo ≤ 999) : ∃ f, C_ (d + 4) mX6_number [.ref o, .int (nI lo), .int (nI hi)] h = some (some (.int (nI (nbv lo hi x))), pI h o f) ∧ CS (pI h o f) o n t op (nbx t n lo hi x) := by
  cases x with
  | inl q =>
    obtain ⟨f8, x0⟩ := CS_inl C
    refine ⟨oI h o, ?_, CS_C C⟩
    show _ = some (some (Value.int (nI lo)), _)
    rw [pI_self]
    simp (disch := first | assumption | exact nI_ne0 (by decide) (by decide) | exact zb_01 | exact Or.inl rfl | exact Or.inr rfl | with_unfolding_all exact id (by assumption) | with_unfolding_all exact id (xix_8 (by assumption) (by omega) (by omega)) | omega) only [wX6_number_e, wX6_number_0, wX6_number_0q, wX6_number_0n, wX6_number_1, wX6_number_4, wX6_number_7, wX6_number_7q, wX6_number_7n, wX6_number_8, wX6_number_11, wX6_number_12, wX6_number_15, wX6_number_15q, wX6_number_15n, wX6_number_16, wX6_number_17, wX6_number_20, wX6_number_20q, wX6_number_20n, wX6_number_21, wX6_number_24, wX6_number_27, wX6_number_27q, wX6_number_27n, wX6_number_28, wX6_number_31, wX6_number_32, wX6_number_33, wX6_number_34, wX6_number_35, wX6_number_36, wX6_number_39, wX6_number_42, wX6_number_42q, wX6_number_42n, wX6_number_43, wX6_number_44, wX6_number_47, wX6_number_47q, wX6_number_47n, wX6_number_48, wX6_number_51, wX6_number_54, wX6_number_55, wX6_number_56, wX6_number_56q, wX6_number_56n, wX6_number_57, wX6_number_60, wX6_number_61, wX6_number_61q, wX6_number_61n, wX6_number_62, wX6_number_65, wX6_number_66, if_true, if_false, ↓reduceIte, xpu_s, xpu_n, Option.bind_some, xk_i, xk_r, xk_0, xk_u, xk_l, xk_k, xk_q, rf_s, rf_n, q_e1, q_e2, Nat.zero_add, Nat.reduceEqDiff, Nat.reduceAdd, Nat.reduceMul, Nat.reduceSub, Nat.reduceLT, Nat.reduceLeDiff, Nat.reduceDiv, Nat.reduceMod, f8, not_true_eq_false, not_false_eq_true, and_self, and_true, true_and, and_false, false_and, or_true, true_or, or_false, false_or, decide_true, decide_false, zb_t, zb_f, zb_0, zb_1, eq_self]
  | inr L =>
    obtain ⟨f8, x0⟩ := CS_inr C
    obtain ⟨T, c7, c8, c9, ok, c3, c4, c5, c6⟩ := id C
    have e30 := ct_30 ok.2.2.1
    by_cases k30 : L.2.2.1 = 30
    · have c5' : (oI h o 5 = nI 2) = True := by rw [c5, e30]; exact eq_true k30
      have v6 := c6 k30
      have vl := ok.2.2.2.2.1 k30
      have W := wi_nn (v := L.2.2.2) (lo := lo) (hi := hi) (by omega) (by omega) (by omega)
      by_cases y : lo ≤ L.2.2.2 ∧ L.2.2.2 ≤ hi
      · obtain ⟨f, e, C'⟩ := kX6_nx (d := d) C
        have e1 : nbx t n lo hi (.inr L) = .inr (lx t n L.2.1) := by
          show (if L.2.2.1 = 30 then _ else _) = _
          rw [if_pos k30, if_pos y]
        have e2 : nbv lo hi (.inr L) = L.2.2.2 := if_pos ⟨k30, y⟩
        rw [e1, e2]
        rw [decide_eq_true y] at W
        refine ⟨f, ?_, C'⟩
        simp (disch := first | assumption | exact nI_ne0 (by decide) (by decide) | exact zb_01 | exact Or.inl rfl | exact Or.inr rfl | with_unfolding_all exact id (by assumption) | with_unfolding_all exact id (xix_8 (by assumption) (by omega) (by omega)) | omega) only [wX6_number_e, wX6_number_0, wX6_number_0q, wX6_number_0n, wX6_number_1, wX6_number_4, wX6_number_7, wX6_number_7q, wX6_number_7n, wX6_number_8, wX6_number_11, wX6_number_12, wX6_number_15, wX6_number_15q, wX6_number_15n, wX6_number_16, wX6_number_17, wX6_number_20, wX6_number_20q, wX6_number_20n, wX6_number_21, wX6_number_24, wX6_number_27, wX6_number_27q, wX6_number_27n, wX6_number_28, wX6_number_31, wX6_number_32, wX6_number_33, wX6_number_34, wX6_number_35, wX6_number_36, wX6_number_39, wX6_number_42, wX6_number_42q, wX6_number_42n, wX6_number_43, wX6_number_44, wX6_number_47, wX6_number_47q, wX6_number_47n, wX6_number_48, wX6_number_51, wX6_number_54, wX6_number_55, wX6_number_56, wX6_number_56q, wX6_number_56n, wX6_number_57, wX6_number_60, wX6_number_61, wX6_number_61q, wX6_number_61n, wX6_number_62, wX6_number_65, wX6_number_66, if_true, if_false, ↓reduceIte, xpu_s, xpu_n, Option.bind_some, xk_i, xk_r, xk_0, xk_u, xk_l, xk_k, xk_q, rf_s, rf_n, q_e1, q_e2, Nat.zero_add, Nat.reduceEqDiff, Nat.reduceAdd, Nat.reduceMul, Nat.reduceSub, Nat.reduceLT, Nat.reduceLeDiff, Nat.reduceDiv, Nat.reduceMod, kX0_in, l6a_0, l6b_0, l6a_1, l6b_1, l6a_2, l6b_2, l6a_3, l6b_3, l6a_4, l6b_4, l6a_5, l6b_5, l6a_7, l6b_7, l6a_20, l6b_20, l6a_30, l6b_30, l6a_39, l6b_39, l6a_40, l6b_40, l6a_60, l6b_60, l6a_99, l6b_99, l6a_100, l6b_100, l6a_200, l6b_200, l6a_300, l6b_300, l6a_600, l6b_600, l6a_999, l6b_999, l6a_1000, l6b_1000, l6a_9999, l6b_9999, l6a_1000000, l6b_1000000, l6a_12, l6b_12, l64_xx, wi_d, one_ne0, zb_0, f8, c5', v6, W, e, not_true_eq_false, not_false_eq_true, and_self, and_true, true_and, and_false, false_and, or_true, true_or, or_false, false_or, decide_true, decide_false, zb_t, zb_f, zb_0, zb_1, eq_self]
      · obtain ⟨f, e, C'⟩ := kX6_wrong (d := d + 3) C (c := 3) (by omega) (by omega)
        have g8 : (oI (pI h o f) o 8 = 0) = False := (CS_inl C').1
        have e0 : flx 3 (.inr L) = .inl (3, L.1) := by
          show (Sum.inl (if L.2.2.1 = 35 then 1 else 3, L.1) : (Nat × Nat) ⊕ (Nat × Nat × Nat × Nat)) = _
          rw [if_neg (by omega)]
        have e1 : nbx t n lo hi (.inr L) = .inl (3, L.1) := by
          show (if L.2.2.1 = 30 then _ else _) = _
          rw [if_pos k30, if_neg y]
        have e2 : nbv lo hi (.inr L) = lo := if_neg (fun z => y z.2)
        rw [e1, e2, ← e0]
        rw [decide_eq_false y] at W
        refine ⟨f, ?_, C'⟩
        have t8 : oT (pI h o f) o = 8 := x0
        simp (disch := first | exact t8 | first | assumption | exact nI_ne0 (by decide) (by decide) | exact zb_01 | exact Or.inl rfl | exact Or.inr rfl | with_unfolding_all exact id (by assumption) | with_unfolding_all exact id (xix_8 (by assumption) (by omega) (by omega)) | omega) only [wX6_number_e, wX6_number_0, wX6_number_0q, wX6_number_0n, wX6_number_1, wX6_number_4, wX6_number_7, wX6_number_7q, wX6_number_7n, wX6_number_8, wX6_number_11, wX6_number_12, wX6_number_15, wX6_number_15q, wX6_number_15n, wX6_number_16, wX6_number_17, wX6_number_20, wX6_number_20q, wX6_number_20n, wX6_number_21, wX6_number_24, wX6_number_27, wX6_number_27q, wX6_number_27n, wX6_number_28, wX6_number_31, wX6_number_32, wX6_number_33, wX6_number_34, wX6_number_35, wX6_number_36, wX6_number_39, wX6_number_42, wX6_number_42q, wX6_number_42n, wX6_number_43, wX6_number_44, wX6_number_47, wX6_number_47q, wX6_number_47n, wX6_number_48, wX6_number_51, wX6_number_54, wX6_number_55, wX6_number_56, wX6_number_56q, wX6_number_56n, wX6_number_57, wX6_number_60, wX6_number_61, wX6_number_61q, wX6_number_61n, wX6_number_62, wX6_number_65, wX6_number_66, if_true, if_false, ↓reduceIte, xpu_s, xpu_n, Option.bind_some, xk_i, xk_r, xk_0, xk_u, xk_l, xk_k, xk_q, rf_s, rf_n, q_e1, q_e2, Nat.zero_add, Nat.reduceEqDiff, Nat.reduceAdd, Nat.reduceMul, Nat.reduceSub, Nat.reduceLT, Nat.reduceLeDiff, Nat.reduceDiv, Nat.reduceMod, kX0_in, l6a_0, l6b_0, l6a_1, l6b_1, l6a_2, l6b_2, l6a_3, l6b_3, l6a_4, l6b_4, l6a_5, l6b_5, l6a_7, l6b_7, l6a_20, l6b_20, l6a_30, l6b_30, l6a_39, l6b_39, l6a_40, l6b_40, l6a_60, l6b_60, l6a_99, l6b_99, l6a_100, l6b_100, l6a_200, l6b_200, l6a_300, l6b_300, l6a_600, l6b_600, l6a_999, l6b_999, l6a_1000, l6b_1000, l6a_9999, l6b_9999, l6a_1000000, l6b_1000000, l6a_12, l6b_12, l64_xx, wi_d, one_ne0, zb_0, f8, c5', v6, W, e, g8, not_true_eq_false, not_false_eq_true, and_self, and_true, true_and, and_false, false_and, or_true, true_or, or_false, false_or, decide_true, decide_false, zb_t, zb_f, zb_0, zb_1, eq_self]
    · have c5' : (oI h o 5 = nI 2) = False := by rw [c5, e30]; exact eq_false k30
      obtain ⟨f, e, C'⟩ := kX6_wrong (d := d + 3) C (c := 2) (by omega) (by omega)
      have g8 : (oI (pI h o f) o 8 = 0) = False := (CS_inl C').1
      have e1 : nbx t n lo hi (.inr L) = flx 2 (.inr L) := if_neg k30
      have e2 : nbv lo hi (.inr L) = lo := if_neg (fun z => k30 z.1)
      rw [e1, e2]
      refine ⟨f, ?_, C'⟩
      have t8 : oT (pI h o f) o = 8 := x0
      simp (disch := first | exact t8 | first | assumption | exact nI_ne0 (by decide) (by decide) | exact zb_01 | exact Or.inl rfl | exact Or.inr rfl | with_unfolding_all exact id (by assumption) | with_unfolding_all exact id (xix_8 (by assumption) (by omega) (by omega)) | omega) only [wX6_number_e, wX6_number_0, wX6_number_0q, wX6_number_0n, wX6_number_1, wX6_number_4, wX6_number_7, wX6_number_7q, wX6_number_7n, wX6_number_8, wX6_number_11, wX6_number_12, wX6_number_15, wX6_number_15q, wX6_number_15n, wX6_number_16, wX6_number_17, wX6_number_20, wX6_number_20q, wX6_number_20n, wX6_number_21, wX6_number_24, wX6_number_27, wX6_number_27q, wX6_number_27n, wX6_number_28, wX6_number_31, wX6_number_32, wX6_number_33, wX6_number_34, wX6_number_35, wX6_number_36, wX6_number_39, wX6_number_42, wX6_number_42q, wX6_number_42n, wX6_number_43, wX6_number_44, wX6_number_47, wX6_number_47q, wX6_number_47n, wX6_number_48, wX6_number_51, wX6_number_54, wX6_number_55, wX6_number_56, wX6_number_56q, wX6_number_56n, wX6_number_57, wX6_number_60, wX6_number_61, wX6_number_61q, wX6_number_61n, wX6_number_62, wX6_number_65, wX6_number_66, if_true, if_false, ↓reduceIte, xpu_s, xpu_n, Option.bind_some, xk_i, xk_r, xk_0, xk_u, xk_l, xk_k, xk_q, rf_s, rf_n, q_e1, q_e2, Nat.zero_add, Nat.reduceEqDiff, Nat.reduceAdd, Nat.reduceMul, Nat.reduceSub, Nat.reduceLT, Nat.reduceLeDiff, Nat.reduceDiv, Nat.reduceMod, f8, c5', e, g8, not_true_eq_false, not_false_eq_true, and_self, and_true, true_and, and_false, false_and, or_true, true_or, or_false, false_or, decide_true, decide_false, zb_t, zb_f, zb_0, zb_1, eq_self]
theorem STR_I (S : STR h) (ho : 170 ≤ o) : STR (pI h o f) := fun a a1 a2 => by
  obtain ⟨s1, s2, s3⟩ := S a a1 a2
  refine ⟨s1, s2, ?_⟩
  rw [o_II, if_neg (by omega)]
  exact s3
theorem pI_pI {f2 : rI} : pI (pI h o f) o f2 = pI h o f2 := o_pII
theorem kX6_told (C : CS h o n t op x) (S : STR h) (hj : j < 29) (hh : hi ≤ 999) (hl : lo ≤ 999) : ∃ f, C_ (d + 5) mX6_told [.ref o, .ref (kid.getD j 0), .int (nI lo), .int (nI hi)] h = some (some (.int (nI (nbv lo hi (ndx t n j x)))), pI h o f) ∧ CS (pI h o f) o n t op (nbx t n lo hi (ndx t n j x)) := by
  have x0 := C.1.1
  have fin : ∀ {g : rI} {y}, CS (pI h o g) o n t op y → ∃ f, C_ (d + 4) mX6_number [.ref o, .int (nI lo), .int (nI hi)] (pI h o g) = some (some (.int (nI (nbv lo hi y))), pI h o f) ∧ CS (pI h o f) o n t op (nbx t n lo hi y) := fun C2 => by
    obtain ⟨f, e, C3⟩ := kX6_number (d := d) C2 hh hl
    rw [pI_pI] at e C3
    exact ⟨f, e, C3⟩
  have t8 : ∀ g : rI, oT (pI h o g) o = 8 := fun g => x0
  cases hx : isx j x with
  | false =>
    have TF := kX6_takesF (d := d) C S hj hx
    obtain ⟨g, eg, Cg⟩ := kX6_wrong (d := d + 4) C (c := 2) (by omega) (by omega)
    have e0 : flx 2 x = ndx t n j x := by
      cases x with
      | inl q => rfl
      | inr L => exact (if_neg (of_decide_eq_false hx)).symm
    rw [e0] at Cg
    obtain ⟨f, ef, Cf⟩ := fin Cg
    refine ⟨f, ?_, Cf⟩
    generalize kid.getD j 0 = a at *
    simp (disch := first | exact t8 _ | first | assumption | exact nI_ne0 (by decide) (by decide) | exact zb_01 | exact Or.inl rfl | exact Or.inr rfl | with_unfolding_all exact id (by assumption) | with_unfolding_all exact id (xix_8 (by assumption) (by omega) (by omega)) | omega) only [wX6_told_e, wX6_told_0, wX6_told_0q, wX6_told_0n, wX6_told_1, wX6_told_1q, wX6_told_1n, wX6_told_2, wX6_told_5, wX6_told_8, wX6_told_8q, wX6_told_8n, wX6_told_9, wX6_told_10, wX6_told_13, wX6_told_13q, wX6_told_13n, wX6_told_14, wX6_told_15, wX6_told_16, wX6_told_19, if_true, if_false, ↓reduceIte, xpu_s, xpu_n, Option.bind_some, xk_i, xk_r, xk_0, xk_u, xk_l, xk_k, xk_q, rf_s, rf_n, q_e1, q_e2, Nat.zero_add, Nat.reduceEqDiff, Nat.reduceAdd, Nat.reduceMul, Nat.reduceSub, Nat.reduceLT, Nat.reduceLeDiff, Nat.reduceDiv, Nat.reduceMod, TF, eg, ef, nI_00, not_true_eq_false, not_false_eq_true, and_self, and_true, true_and, and_false, false_and, or_true, true_or, or_false, false_or, decide_true, decide_false, zb_t, zb_f, zb_0, zb_1, eq_self]
  | true =>
    cases x with
    | inl q => cases hx
    | inr L =>
      have hk : L.2.2.1 = j := of_decide_eq_true hx
      obtain ⟨g, eg, Cg⟩ := kX6_takesT (d := d) C S hj hk
      have e0 : ndx t n j (.inr L) = .inr (lx t n L.2.1) := if_pos hk
      rw [e0]
      obtain ⟨f, ef, Cf⟩ := fin Cg
      refine ⟨f, ?_, Cf⟩
      generalize kid.getD j 0 = a at *
      simp (disch := first | exact t8 _ | first | assumption | exact nI_ne0 (by decide) (by decide) | exact zb_01 | exact Or.inl rfl | exact Or.inr rfl | with_unfolding_all exact id (by assumption) | with_unfolding_all exact id (xix_8 (by assumption) (by omega) (by omega)) | omega) only [wX6_told_e, wX6_told_0, wX6_told_0q, wX6_told_0n, wX6_told_1, wX6_told_1q, wX6_told_1n, wX6_told_2, wX6_told_5, wX6_told_8, wX6_told_8q, wX6_told_8n, wX6_told_9, wX6_told_10, wX6_told_13, wX6_told_13q, wX6_told_13n, wX6_told_14, wX6_told_15, wX6_told_16, wX6_told_19, if_true, if_false, ↓reduceIte, xpu_s, xpu_n, Option.bind_some, xk_i, xk_r, xk_0, xk_u, xk_l, xk_k, xk_q, rf_s, rf_n, q_e1, q_e2, Nat.zero_add, Nat.reduceEqDiff, Nat.reduceAdd, Nat.reduceMul, Nat.reduceSub, Nat.reduceLT, Nat.reduceLeDiff, Nat.reduceDiv, Nat.reduceMod, eg, ef, nI_ne1, not_true_eq_false, not_false_eq_true, and_self, and_true, true_and, and_false, false_and, or_true, true_or, or_false, false_or, decide_true, decide_false, zb_t, zb_f, zb_0, zb_1, eq_self]
theorem kX6_over (C : CS h o n t op x) : ∃ f, C_ (d + 4) mX6_over [.ref o] h = some (none, pI h o f) ∧ CS (pI h o f) o n t op (ndx t n 31 x) := by
  cases x with
  | inl q =>
    obtain ⟨f8, x0⟩ := CS_inl C
    refine ⟨oI h o, ?_, CS_C C⟩
    rw [pI_self]
    simp (disch := first | assumption | exact nI_ne0 (by decide) (by decide) | exact zb_01 | exact Or.inl rfl | exact Or.inr rfl | with_unfolding_all exact id (by assumption) | with_unfolding_all exact id (xix_8 (by assumption) (by omega) (by omega)) | omega) only [wX6_over_e, wX6_over_0, wX6_over_0q, wX6_over_0n, wX6_over_1, wX6_over_4, wX6_over_7, wX6_over_7q, wX6_over_7n, wX6_over_8, wX6_over_11, wX6_over_13, wX6_over_16, wX6_over_16q, wX6_over_16n, wX6_over_17, wX6_over_18, wX6_over_21, wX6_over_21q, wX6_over_21n, wX6_over_22, wX6_over_25, wX6_over_28, wX6_over_28q, wX6_over_28n, wX6_over_29, wX6_over_32, if_true, if_false, ↓reduceIte, xpu_s, xpu_n, Option.bind_some, xk_i, xk_r, xk_0, xk_u, xk_l, xk_k, xk_q, rf_s, rf_n, q_e1, q_e2, Nat.zero_add, Nat.reduceEqDiff, Nat.reduceAdd, Nat.reduceMul, Nat.reduceSub, Nat.reduceLT, Nat.reduceLeDiff, Nat.reduceDiv, Nat.reduceMod, f8, not_true_eq_false, not_false_eq_true, and_self, and_true, true_and, and_false, false_and, or_true, true_or, or_false, false_or, decide_true, decide_false, zb_t, zb_f, zb_0, zb_1, eq_self]
  | inr L =>
    obtain ⟨f8, x0⟩ := CS_inr C
    obtain ⟨T, c7, c8, c9, ok, c3, c4, c5, c6⟩ := id C
    have e31 := ct_31 ok.2.2.1
    by_cases y : L.2.2.1 = 31
    · have c5' : (oI h o 5 = nI 59) = True := by rw [c5, e31]; exact eq_true y
      obtain ⟨f, e, C'⟩ := kX6_nx (d := d) C
      have e1 : ndx t n 31 (.inr L) = .inr (lx t n L.2.1) := if_pos y
      rw [e1]
      refine ⟨f, ?_, C'⟩
      simp (disch := first | assumption | exact nI_ne0 (by decide) (by decide) | exact zb_01 | exact Or.inl rfl | exact Or.inr rfl | with_unfolding_all exact id (by assumption) | with_unfolding_all exact id (xix_8 (by assumption) (by omega) (by omega)) | omega) only [wX6_over_e, wX6_over_0, wX6_over_0q, wX6_over_0n, wX6_over_1, wX6_over_4, wX6_over_7, wX6_over_7q, wX6_over_7n, wX6_over_8, wX6_over_11, wX6_over_13, wX6_over_16, wX6_over_16q, wX6_over_16n, wX6_over_17, wX6_over_18, wX6_over_21, wX6_over_21q, wX6_over_21n, wX6_over_22, wX6_over_25, wX6_over_28, wX6_over_28q, wX6_over_28n, wX6_over_29, wX6_over_32, if_true, if_false, ↓reduceIte, xpu_s, xpu_n, Option.bind_some, xk_i, xk_r, xk_0, xk_u, xk_l, xk_k, xk_q, rf_s, rf_n, q_e1, q_e2, Nat.zero_add, Nat.reduceEqDiff, Nat.reduceAdd, Nat.reduceMul, Nat.reduceSub, Nat.reduceLT, Nat.reduceLeDiff, Nat.reduceDiv, Nat.reduceMod, f8, c5', e, not_true_eq_false, not_false_eq_true, and_self, and_true, true_and, and_false, false_and, or_true, true_or, or_false, false_or, decide_true, decide_false, zb_t, zb_f, zb_0, zb_1, eq_self]
    · have c5' : (oI h o 5 = nI 59) = False := by rw [c5, e31]; exact eq_false y
      obtain ⟨f, e, C'⟩ := kX6_wrong (d := d + 3) C (c := 2) (by omega) (by omega)
      have g8 : (oI (pI h o f) o 8 = 0) = False := (CS_inl C').1
      have e1 : ndx t n 31 (.inr L) = flx 2 (.inr L) := if_neg y
      rw [e1]
      refine ⟨f, ?_, C'⟩
      have t8 : oT (pI h o f) o = 8 := x0
      simp (disch := first | exact t8 | first | assumption | exact nI_ne0 (by decide) (by decide) | exact zb_01 | exact Or.inl rfl | exact Or.inr rfl | with_unfolding_all exact id (by assumption) | with_unfolding_all exact id (xix_8 (by assumption) (by omega) (by omega)) | omega) only [wX6_over_e, wX6_over_0, wX6_over_0q, wX6_over_0n, wX6_over_1, wX6_over_4, wX6_over_7, wX6_over_7q, wX6_over_7n, wX6_over_8, wX6_over_11, wX6_over_13, wX6_over_16, wX6_over_16q, wX6_over_16n, wX6_over_17, wX6_over_18, wX6_over_21, wX6_over_21q, wX6_over_21n, wX6_over_22, wX6_over_25, wX6_over_28, wX6_over_28q, wX6_over_28n, wX6_over_29, wX6_over_32, if_true, if_false, ↓reduceIte, xpu_s, xpu_n, Option.bind_some, xk_i, xk_r, xk_0, xk_u, xk_l, xk_k, xk_q, rf_s, rf_n, q_e1, q_e2, Nat.zero_add, Nat.reduceEqDiff, Nat.reduceAdd, Nat.reduceMul, Nat.reduceSub, Nat.reduceLT, Nat.reduceLeDiff, Nat.reduceDiv, Nat.reduceMod, f8, c5', e, g8, not_true_eq_false, not_false_eq_true, and_self, and_true, true_and, and_false, false_and, or_true, true_or, or_false, false_or, decide_true, decide_false, zb_t, zb_f, zb_0, zb_1, eq_self]
def spx (t : Nat → Nat) (n : Nat) (u : Bool) (x : (Nat × Nat) ⊕ (Nat × Nat × Nat × Nat)) : (Nat × Nat) ⊕ (Nat × Nat × Nat × Nat) := match x with
  | .inl q => .inl q
  | .inr L => bif u then flx 4 (.inr L) else .inr (lx t n L.2.1)
theorem kX6_space {u : Bool} (C : CS h o n t op x) : ∃ f, C_ (d + 4) mX6_space [.ref o, .int (zb u)] h = some (none, pI h o f) ∧ CS (pI h o f) o n t op (spx t n u x) := by
  cases u with
  | true =>
    obtain ⟨f, e, C'⟩ := kX6_wrong (d := d + 3) C (c := 4) (by omega) (by omega)
    have e1 : spx t n true x = flx 4 x := by cases x <;> rfl
    have g8 : (oI (pI h o f) o 8 = 0) = False := by
      cases x with
      | inl q => exact (CS_inl (q := q) C').1
      | inr L => exact (CS_inl C').1
    rw [e1]
    have x0 := C.1.1
    refine ⟨f, ?_, C'⟩
    have t8 : oT (pI h o f) o = 8 := x0
    simp (disch := first | exact t8 | first | assumption | exact nI_ne0 (by decide) (by decide) | exact zb_01 | exact Or.inl rfl | exact Or.inr rfl | with_unfolding_all exact id (by assumption) | with_unfolding_all exact id (xix_8 (by assumption) (by omega) (by omega)) | omega) only [wX6_space_e, wX6_space_0, wX6_space_1, wX6_space_4, wX6_space_4q, wX6_space_4n, wX6_space_5, wX6_space_6, wX6_space_9, wX6_space_9q, wX6_space_9n, wX6_space_10, wX6_space_13, wX6_space_16, wX6_space_16q, wX6_space_16n, wX6_space_17, wX6_space_20, if_true, if_false, ↓reduceIte, xpu_s, xpu_n, Option.bind_some, xk_i, xk_r, xk_0, xk_u, xk_l, xk_k, xk_q, rf_s, rf_n, q_e1, q_e2, Nat.zero_add, Nat.reduceEqDiff, Nat.reduceAdd, Nat.reduceMul, Nat.reduceSub, Nat.reduceLT, Nat.reduceLeDiff, Nat.reduceDiv, Nat.reduceMod, e, g8, one_ne0, not_true_eq_false, not_false_eq_true, and_self, and_true, true_and, and_false, false_and, or_true, true_or, or_false, false_or, decide_true, decide_false, zb_t, zb_f, zb_0, zb_1, eq_self]
  | false =>
    cases x with
    | inl q =>
      obtain ⟨f8, x0⟩ := CS_inl C
      refine ⟨oI h o, ?_, CS_C C⟩
      rw [pI_self]
      simp (disch := first | assumption | exact nI_ne0 (by decide) (by decide) | exact zb_01 | exact Or.inl rfl | exact Or.inr rfl | with_unfolding_all exact id (by assumption) | with_unfolding_all exact id (xix_8 (by assumption) (by omega) (by omega)) | omega) only [wX6_space_e, wX6_space_0, wX6_space_1, wX6_space_4, wX6_space_4q, wX6_space_4n, wX6_space_5, wX6_space_6, wX6_space_9, wX6_space_9q, wX6_space_9n, wX6_space_10, wX6_space_13, wX6_space_16, wX6_space_16q, wX6_space_16n, wX6_space_17, wX6_space_20, if_true, if_false, ↓reduceIte, xpu_s, xpu_n, Option.bind_some, xk_i, xk_r, xk_0, xk_u, xk_l, xk_k, xk_q, rf_s, rf_n, q_e1, q_e2, Nat.zero_add, Nat.reduceEqDiff, Nat.reduceAdd, Nat.reduceMul, Nat.reduceSub, Nat.reduceLT, Nat.reduceLeDiff, Nat.reduceDiv, Nat.reduceMod, f8, not_true_eq_false, not_false_eq_true, and_self, and_true, true_and, and_false, false_and, or_true, true_or, or_false, false_or, decide_true, decide_false, zb_t, zb_f, zb_0, zb_1, eq_self]
    | inr L =>
      obtain ⟨f8, x0⟩ := CS_inr C
      obtain ⟨f, e, C'⟩ := kX6_nx (d := d) C
      refine ⟨f, ?_, C'⟩
      simp (disch := first | assumption | exact nI_ne0 (by decide) (by decide) | exact zb_01 | exact Or.inl rfl | exact Or.inr rfl | with_unfolding_all exact id (by assumption) | with_unfolding_all exact id (xix_8 (by assumption) (by omega) (by omega)) | omega) only [wX6_space_e, wX6_space_0, wX6_space_1, wX6_space_4, wX6_space_4q, wX6_space_4n, wX6_space_5, wX6_space_6, wX6_space_9, wX6_space_9q, wX6_space_9n, wX6_space_10, wX6_space_13, wX6_space_16, wX6_space_16q, wX6_space_16n, wX6_space_17, wX6_space_20, if_true, if_false, ↓reduceIte, xpu_s, xpu_n, Option.bind_some, xk_i, xk_r, xk_0, xk_u, xk_l, xk_k, xk_q, rf_s, rf_n, q_e1, q_e2, Nat.zero_add, Nat.reduceEqDiff, Nat.reduceAdd, Nat.reduceMul, Nat.reduceSub, Nat.reduceLT, Nat.reduceLeDiff, Nat.reduceDiv, Nat.reduceMod, f8, e, not_true_eq_false, not_false_eq_true, and_self, and_true, true_and, and_false, false_and, or_true, true_or, or_false, false_or, decide_true, decide_false, zb_t, zb_f, zb_0, zb_1, eq_self]
/-- a trait's word, taken if it is one -/
def trx (t : Nat → Nat) (n : Nat) (x : (Nat × Nat) ⊕ (Nat × Nat × Nat × Nat)) : (Nat × Nat) ⊕ (Nat × Nat × Nat × Nat) := match x with
  | .inl q => .inl q
  | .inr L => if 5 ≤ L.2.2.1 ∧ L.2.2.1 ≤ 12 then .inr (lx t n L.2.1) else .inr L
def trv (x : (Nat × Nat) ⊕ (Nat × Nat × Nat × Nat)) : Int32 := match x with
  | .inl _ => -1
  | .inr L => if 5 ≤ L.2.2.1 ∧ L.2.2.1 ≤ 12 then nI (L.2.2.1 - 5) else -1
theorem kX6_trait (C : CS h o n t op x) (S : STR h) : ∃ f, C_ (d + 5) mX6_trait [.ref o] h = some (some (.int (trv x)), pI h o f) ∧ CS (pI h o f) o n t op (trx t n x) := by
  have x0 := C.1.1
  have TF : ∀ j a, j < 29 → kid.getD j 0 = a → isx j x = false → C_ (d + 4) mX6_takes [.ref o, .ref a] h = some (some (.int (nI 0)), h) := fun j a hj ea hx => by
    rw [← ea]
    exact kX6_takesF C S hj hx
  by_cases y : ∃ L : Nat × Nat × Nat × Nat, x = .inr L ∧ 5 ≤ L.2.2.1 ∧ L.2.2.1 ≤ 12
  · obtain ⟨L, rfl, y1, y2⟩ := y
    have e1 : trx t n (.inr L) = .inr (lx t n L.2.1) := if_pos ⟨y1, y2⟩
    have e2 : trv (.inr L) = nI (L.2.2.1 - 5) := if_pos ⟨y1, y2⟩
    rw [e1, e2]
    obtain ⟨f, e, C'⟩ := kX6_takesT (d := d) C S (j := L.2.2.1) (by omega) rfl
    refine ⟨f, ?_, C'⟩
    have F : ∀ j a, j < 29 → kid.getD j 0 = a → ¬ L.2.2.1 = j → C_ (d + 4) mX6_takes [.ref o, .ref a] h = some (some (.int (nI 0)), h) := fun j a hj ea hn => TF j a hj ea (decide_eq_false hn)
    rcases (show L.2.2.1 = 5 ∨ L.2.2.1 = 6 ∨ L.2.2.1 = 7 ∨ L.2.2.1 = 8 ∨ L.2.2.1 = 9 ∨ L.2.2.1 = 10 ∨ L.2.2.1 = 11 ∨ L.2.2.1 = 12 by omega) with q | q | q | q | q | q | q | q
    · rw [q] at e ⊢
      have e : C_ (d + 4) mX6_takes [.ref o, .ref 10] h = some (some (.int (nI 1)), pI h o f) := e
      simp (disch := first | assumption | exact nI_ne0 (by decide) (by decide) | exact zb_01 | exact Or.inl rfl | exact Or.inr rfl | with_unfolding_all exact id (by assumption) | with_unfolding_all exact id (xix_8 (by assumption) (by omega) (by omega)) | omega) only [wX6_trait_e, wX6_trait_0, wX6_trait_0q, wX6_trait_0n, wX6_trait_1, wX6_trait_3, wX6_trait_6, wX6_trait_9, wX6_trait_10, wX6_trait_11, wX6_trait_11q, wX6_trait_11n, wX6_trait_12, wX6_trait_14, wX6_trait_17, wX6_trait_20, wX6_trait_21, wX6_trait_22, wX6_trait_22q, wX6_trait_22n, wX6_trait_23, wX6_trait_25, wX6_trait_28, wX6_trait_31, wX6_trait_32, wX6_trait_33, wX6_trait_33q, wX6_trait_33n, wX6_trait_34, wX6_trait_36, wX6_trait_39, wX6_trait_42, wX6_trait_43, wX6_trait_44, wX6_trait_44q, wX6_trait_44n, wX6_trait_45, wX6_trait_47, wX6_trait_50, wX6_trait_53, wX6_trait_54, wX6_trait_55, wX6_trait_55q, wX6_trait_55n, wX6_trait_56, wX6_trait_58, wX6_trait_61, wX6_trait_64, wX6_trait_65, wX6_trait_66, wX6_trait_66q, wX6_trait_66n, wX6_trait_67, wX6_trait_69, wX6_trait_72, wX6_trait_75, wX6_trait_77, wX6_trait_80, wX6_trait_80q, wX6_trait_80n, wX6_trait_81, wX6_trait_83, wX6_trait_86, wX6_trait_89, wX6_trait_91, wX6_trait_94, wX6_trait_95, if_true, if_false, ↓reduceIte, xpu_s, xpu_n, Option.bind_some, xk_i, xk_r, xk_0, xk_u, xk_l, xk_k, xk_q, rf_s, rf_n, q_e1, q_e2, Nat.zero_add, Nat.reduceEqDiff, Nat.reduceAdd, Nat.reduceMul, Nat.reduceSub, Nat.reduceLT, Nat.reduceLeDiff, Nat.reduceDiv, Nat.reduceMod, e, nI_ne1, not_true_eq_false, not_false_eq_true, and_self, and_true, true_and, and_false, false_and, or_true, true_or, or_false, false_or, decide_true, decide_false, zb_t, zb_f, zb_0, zb_1, eq_self]
    · have F5 := F 5 10 (by omega) rfl (by omega)
      rw [q] at e ⊢
      have e : C_ (d + 4) mX6_takes [.ref o, .ref 11] h = some (some (.int (nI 1)), pI h o f) := e
      simp (disch := first | assumption | exact nI_ne0 (by decide) (by decide) | exact zb_01 | exact Or.inl rfl | exact Or.inr rfl | with_unfolding_all exact id (by assumption) | with_unfolding_all exact id (xix_8 (by assumption) (by omega) (by omega)) | omega) only [wX6_trait_e, wX6_trait_0, wX6_trait_0q, wX6_trait_0n, wX6_trait_1, wX6_trait_3, wX6_trait_6, wX6_trait_9, wX6_trait_10, wX6_trait_11, wX6_trait_11q, wX6_trait_11n, wX6_trait_12, wX6_trait_14, wX6_trait_17, wX6_trait_20, wX6_trait_21, wX6_trait_22, wX6_trait_22q, wX6_trait_22n, wX6_trait_23, wX6_trait_25, wX6_trait_28, wX6_trait_31, wX6_trait_32, wX6_trait_33, wX6_trait_33q, wX6_trait_33n, wX6_trait_34, wX6_trait_36, wX6_trait_39, wX6_trait_42, wX6_trait_43, wX6_trait_44, wX6_trait_44q, wX6_trait_44n, wX6_trait_45, wX6_trait_47, wX6_trait_50, wX6_trait_53, wX6_trait_54, wX6_trait_55, wX6_trait_55q, wX6_trait_55n, wX6_trait_56, wX6_trait_58, wX6_trait_61, wX6_trait_64, wX6_trait_65, wX6_trait_66, wX6_trait_66q, wX6_trait_66n, wX6_trait_67, wX6_trait_69, wX6_trait_72, wX6_trait_75, wX6_trait_77, wX6_trait_80, wX6_trait_80q, wX6_trait_80n, wX6_trait_81, wX6_trait_83, wX6_trait_86, wX6_trait_89, wX6_trait_91, wX6_trait_94, wX6_trait_95, if_true, if_false, ↓reduceIte, xpu_s, xpu_n, Option.bind_some, xk_i, xk_r, xk_0, xk_u, xk_l, xk_k, xk_q, rf_s, rf_n, q_e1, q_e2, Nat.zero_add, Nat.reduceEqDiff, Nat.reduceAdd, Nat.reduceMul, Nat.reduceSub, Nat.reduceLT, Nat.reduceLeDiff, Nat.reduceDiv, Nat.reduceMod, e, F5, nI_ne1, nI_00, not_true_eq_false, not_false_eq_true, and_self, and_true, true_and, and_false, false_and, or_true, true_or, or_false, false_or, decide_true, decide_false, zb_t, zb_f, zb_0, zb_1, eq_self]
    · have F5 := F 5 10 (by omega) rfl (by omega)
      have F6 := F 6 11 (by omega) rfl (by omega)
      rw [q] at e ⊢
      have e : C_ (d + 4) mX6_takes [.ref o, .ref 12] h = some (some (.int (nI 1)), pI h o f) := e
      simp (disch := first | assumption | exact nI_ne0 (by decide) (by decide) | exact zb_01 | exact Or.inl rfl | exact Or.inr rfl | with_unfolding_all exact id (by assumption) | with_unfolding_all exact id (xix_8 (by assumption) (by omega) (by omega)) | omega) only [wX6_trait_e, wX6_trait_0, wX6_trait_0q, wX6_trait_0n, wX6_trait_1, wX6_trait_3, wX6_trait_6, wX6_trait_9, wX6_trait_10, wX6_trait_11, wX6_trait_11q, wX6_trait_11n, wX6_trait_12, wX6_trait_14, wX6_trait_17, wX6_trait_20, wX6_trait_21, wX6_trait_22, wX6_trait_22q, wX6_trait_22n, wX6_trait_23, wX6_trait_25, wX6_trait_28, wX6_trait_31, wX6_trait_32, wX6_trait_33, wX6_trait_33q, wX6_trait_33n, wX6_trait_34, wX6_trait_36, wX6_trait_39, wX6_trait_42, wX6_trait_43, wX6_trait_44, wX6_trait_44q, wX6_trait_44n, wX6_trait_45, wX6_trait_47, wX6_trait_50, wX6_trait_53, wX6_trait_54, wX6_trait_55, wX6_trait_55q, wX6_trait_55n, wX6_trait_56, wX6_trait_58, wX6_trait_61, wX6_trait_64, wX6_trait_65, wX6_trait_66, wX6_trait_66q, wX6_trait_66n, wX6_trait_67, wX6_trait_69, wX6_trait_72, wX6_trait_75, wX6_trait_77, wX6_trait_80, wX6_trait_80q, wX6_trait_80n, wX6_trait_81, wX6_trait_83, wX6_trait_86, wX6_trait_89, wX6_trait_91, wX6_trait_94, wX6_trait_95, if_true, if_false, ↓reduceIte, xpu_s, xpu_n, Option.bind_some, xk_i, xk_r, xk_0, xk_u, xk_l, xk_k, xk_q, rf_s, rf_n, q_e1, q_e2, Nat.zero_add, Nat.reduceEqDiff, Nat.reduceAdd, Nat.reduceMul, Nat.reduceSub, Nat.reduceLT, Nat.reduceLeDiff, Nat.reduceDiv, Nat.reduceMod, e, F5, F6, nI_ne1, nI_00, not_true_eq_false, not_false_eq_true, and_self, and_true, true_and, and_false, false_and, or_true, true_or, or_false, false_or, decide_true, decide_false, zb_t, zb_f, zb_0, zb_1, eq_self]
    · have F5 := F 5 10 (by omega) rfl (by omega)
      have F6 := F 6 11 (by omega) rfl (by omega)
      have F7 := F 7 12 (by omega) rfl (by omega)
      rw [q] at e ⊢
      have e : C_ (d + 4) mX6_takes [.ref o, .ref 13] h = some (some (.int (nI 1)), pI h o f) := e
      simp (disch := first | assumption | exact nI_ne0 (by decide) (by decide) | exact zb_01 | exact Or.inl rfl | exact Or.inr rfl | with_unfolding_all exact id (by assumption) | with_unfolding_all exact id (xix_8 (by assumption) (by omega) (by omega)) | omega) only [wX6_trait_e, wX6_trait_0, wX6_trait_0q, wX6_trait_0n, wX6_trait_1, wX6_trait_3, wX6_trait_6, wX6_trait_9, wX6_trait_10, wX6_trait_11, wX6_trait_11q, wX6_trait_11n, wX6_trait_12, wX6_trait_14, wX6_trait_17, wX6_trait_20, wX6_trait_21, wX6_trait_22, wX6_trait_22q, wX6_trait_22n, wX6_trait_23, wX6_trait_25, wX6_trait_28, wX6_trait_31, wX6_trait_32, wX6_trait_33, wX6_trait_33q, wX6_trait_33n, wX6_trait_34, wX6_trait_36, wX6_trait_39, wX6_trait_42, wX6_trait_43, wX6_trait_44, wX6_trait_44q, wX6_trait_44n, wX6_trait_45, wX6_trait_47, wX6_trait_50, wX6_trait_53, wX6_trait_54, wX6_trait_55, wX6_trait_55q, wX6_trait_55n, wX6_trait_56, wX6_trait_58, wX6_trait_61, wX6_trait_64, wX6_trait_65, wX6_trait_66, wX6_trait_66q, wX6_trait_66n, wX6_trait_67, wX6_trait_69, wX6_trait_72, wX6_trait_75, wX6_trait_77, wX6_trait_80, wX6_trait_80q, wX6_trait_80n, wX6_trait_81, wX6_trait_83, wX6_trait_86, wX6_trait_89, wX6_trait_91, wX6_trait_94, wX6_trait_95, if_true, if_false, ↓reduceIte, xpu_s, xpu_n, Option.bind_some, xk_i, xk_r, xk_0, xk_u, xk_l, xk_k, xk_q, rf_s, rf_n, q_e1, q_e2, Nat.zero_add, Nat.reduceEqDiff, Nat.reduceAdd, Nat.reduceMul, Nat.reduceSub, Nat.reduceLT, Nat.reduceLeDiff, Nat.reduceDiv, Nat.reduceMod, e, F5, F6, F7, nI_ne1, nI_00, not_true_eq_false, not_false_eq_true, and_self, and_true, true_and, and_false, false_and, or_true, true_or, or_false, false_or, decide_true, decide_false, zb_t, zb_f, zb_0, zb_1, eq_self]
    · have F5 := F 5 10 (by omega) rfl (by omega)
      have F6 := F 6 11 (by omega) rfl (by omega)
      have F7 := F 7 12 (by omega) rfl (by omega)
      have F8 := F 8 13 (by omega) rfl (by omega)
      rw [q] at e ⊢
      have e : C_ (d + 4) mX6_takes [.ref o, .ref 14] h = some (some (.int (nI 1)), pI h o f) := e
      simp (disch := first | assumption | exact nI_ne0 (by decide) (by decide) | exact zb_01 | exact Or.inl rfl | exact Or.inr rfl | with_unfolding_all exact id (by assumption) | with_unfolding_all exact id (xix_8 (by assumption) (by omega) (by omega)) | omega) only [wX6_trait_e, wX6_trait_0, wX6_trait_0q, wX6_trait_0n, wX6_trait_1, wX6_trait_3, wX6_trait_6, wX6_trait_9, wX6_trait_10, wX6_trait_11, wX6_trait_11q, wX6_trait_11n, wX6_trait_12, wX6_trait_14, wX6_trait_17, wX6_trait_20, wX6_trait_21, wX6_trait_22, wX6_trait_22q, wX6_trait_22n, wX6_trait_23, wX6_trait_25, wX6_trait_28, wX6_trait_31, wX6_trait_32, wX6_trait_33, wX6_trait_33q, wX6_trait_33n, wX6_trait_34, wX6_trait_36, wX6_trait_39, wX6_trait_42, wX6_trait_43, wX6_trait_44, wX6_trait_44q, wX6_trait_44n, wX6_trait_45, wX6_trait_47, wX6_trait_50, wX6_trait_53, wX6_trait_54, wX6_trait_55, wX6_trait_55q, wX6_trait_55n, wX6_trait_56, wX6_trait_58, wX6_trait_61, wX6_trait_64, wX6_trait_65, wX6_trait_66, wX6_trait_66q, wX6_trait_66n, wX6_trait_67, wX6_trait_69, wX6_trait_72, wX6_trait_75, wX6_trait_77, wX6_trait_80, wX6_trait_80q, wX6_trait_80n, wX6_trait_81, wX6_trait_83, wX6_trait_86, wX6_trait_89, wX6_trait_91, wX6_trait_94, wX6_trait_95, if_true, if_false, ↓reduceIte, xpu_s, xpu_n, Option.bind_some, xk_i, xk_r, xk_0, xk_u, xk_l, xk_k, xk_q, rf_s, rf_n, q_e1, q_e2, Nat.zero_add, Nat.reduceEqDiff, Nat.reduceAdd, Nat.reduceMul, Nat.reduceSub, Nat.reduceLT, Nat.reduceLeDiff, Nat.reduceDiv, Nat.reduceMod, e, F5, F6, F7, F8, nI_ne1, nI_00, not_true_eq_false, not_false_eq_true, and_self, and_true, true_and, and_false, false_and, or_true, true_or, or_false, false_or, decide_true, decide_false, zb_t, zb_f, zb_0, zb_1, eq_self]
    · have F5 := F 5 10 (by omega) rfl (by omega)
      have F6 := F 6 11 (by omega) rfl (by omega)
      have F7 := F 7 12 (by omega) rfl (by omega)
      have F8 := F 8 13 (by omega) rfl (by omega)
      have F9 := F 9 14 (by omega) rfl (by omega)
      rw [q] at e ⊢
      have e : C_ (d + 4) mX6_takes [.ref o, .ref 15] h = some (some (.int (nI 1)), pI h o f) := e
      simp (disch := first | assumption | exact nI_ne0 (by decide) (by decide) | exact zb_01 | exact Or.inl rfl | exact Or.inr rfl | with_unfolding_all exact id (by assumption) | with_unfolding_all exact id (xix_8 (by assumption) (by omega) (by omega)) | omega) only [wX6_trait_e, wX6_trait_0, wX6_trait_0q, wX6_trait_0n, wX6_trait_1, wX6_trait_3, wX6_trait_6, wX6_trait_9, wX6_trait_10, wX6_trait_11, wX6_trait_11q, wX6_trait_11n, wX6_trait_12, wX6_trait_14, wX6_trait_17, wX6_trait_20, wX6_trait_21, wX6_trait_22, wX6_trait_22q, wX6_trait_22n, wX6_trait_23, wX6_trait_25, wX6_trait_28, wX6_trait_31, wX6_trait_32, wX6_trait_33, wX6_trait_33q, wX6_trait_33n, wX6_trait_34, wX6_trait_36, wX6_trait_39, wX6_trait_42, wX6_trait_43, wX6_trait_44, wX6_trait_44q, wX6_trait_44n, wX6_trait_45, wX6_trait_47, wX6_trait_50, wX6_trait_53, wX6_trait_54, wX6_trait_55, wX6_trait_55q, wX6_trait_55n, wX6_trait_56, wX6_trait_58, wX6_trait_61, wX6_trait_64, wX6_trait_65, wX6_trait_66, wX6_trait_66q, wX6_trait_66n, wX6_trait_67, wX6_trait_69, wX6_trait_72, wX6_trait_75, wX6_trait_77, wX6_trait_80, wX6_trait_80q, wX6_trait_80n, wX6_trait_81, wX6_trait_83, wX6_trait_86, wX6_trait_89, wX6_trait_91, wX6_trait_94, wX6_trait_95, if_true, if_false, ↓reduceIte, xpu_s, xpu_n, Option.bind_some, xk_i, xk_r, xk_0, xk_u, xk_l, xk_k, xk_q, rf_s, rf_n, q_e1, q_e2, Nat.zero_add, Nat.reduceEqDiff, Nat.reduceAdd, Nat.reduceMul, Nat.reduceSub, Nat.reduceLT, Nat.reduceLeDiff, Nat.reduceDiv, Nat.reduceMod, e, F5, F6, F7, F8, F9, nI_ne1, nI_00, not_true_eq_false, not_false_eq_true, and_self, and_true, true_and, and_false, false_and, or_true, true_or, or_false, false_or, decide_true, decide_false, zb_t, zb_f, zb_0, zb_1, eq_self]
    · have F5 := F 5 10 (by omega) rfl (by omega)
      have F6 := F 6 11 (by omega) rfl (by omega)
      have F7 := F 7 12 (by omega) rfl (by omega)
      have F8 := F 8 13 (by omega) rfl (by omega)
      have F9 := F 9 14 (by omega) rfl (by omega)
      have F10 := F 10 15 (by omega) rfl (by omega)
      rw [q] at e ⊢
      have e : C_ (d + 4) mX6_takes [.ref o, .ref 16] h = some (some (.int (nI 1)), pI h o f) := e
      simp (disch := first | assumption | exact nI_ne0 (by decide) (by decide) | exact zb_01 | exact Or.inl rfl | exact Or.inr rfl | with_unfolding_all exact id (by assumption) | with_unfolding_all exact id (xix_8 (by assumption) (by omega) (by omega)) | omega) only [wX6_trait_e, wX6_trait_0, wX6_trait_0q, wX6_trait_0n, wX6_trait_1, wX6_trait_3, wX6_trait_6, wX6_trait_9, wX6_trait_10, wX6_trait_11, wX6_trait_11q, wX6_trait_11n, wX6_trait_12, wX6_trait_14, wX6_trait_17, wX6_trait_20, wX6_trait_21, wX6_trait_22, wX6_trait_22q, wX6_trait_22n, wX6_trait_23, wX6_trait_25, wX6_trait_28, wX6_trait_31, wX6_trait_32, wX6_trait_33, wX6_trait_33q, wX6_trait_33n, wX6_trait_34, wX6_trait_36, wX6_trait_39, wX6_trait_42, wX6_trait_43, wX6_trait_44, wX6_trait_44q, wX6_trait_44n, wX6_trait_45, wX6_trait_47, wX6_trait_50, wX6_trait_53, wX6_trait_54, wX6_trait_55, wX6_trait_55q, wX6_trait_55n, wX6_trait_56, wX6_trait_58, wX6_trait_61, wX6_trait_64, wX6_trait_65, wX6_trait_66, wX6_trait_66q, wX6_trait_66n, wX6_trait_67, wX6_trait_69, wX6_trait_72, wX6_trait_75, wX6_trait_77, wX6_trait_80, wX6_trait_80q, wX6_trait_80n, wX6_trait_81, wX6_trait_83, wX6_trait_86, wX6_trait_89, wX6_trait_91, wX6_trait_94, wX6_trait_95, if_true, if_false, ↓reduceIte, xpu_s, xpu_n, Option.bind_some, xk_i, xk_r, xk_0, xk_u, xk_l, xk_k, xk_q, rf_s, rf_n, q_e1, q_e2, Nat.zero_add, Nat.reduceEqDiff, Nat.reduceAdd, Nat.reduceMul, Nat.reduceSub, Nat.reduceLT, Nat.reduceLeDiff, Nat.reduceDiv, Nat.reduceMod, e, F5, F6, F7, F8, F9, F10, nI_ne1, nI_00, not_true_eq_false, not_false_eq_true, and_self, and_true, true_and, and_false, false_and, or_true, true_or, or_false, false_or, decide_true, decide_false, zb_t, zb_f, zb_0, zb_1, eq_self]
    · have F5 := F 5 10 (by omega) rfl (by omega)
      have F6 := F 6 11 (by omega) rfl (by omega)
      have F7 := F 7 12 (by omega) rfl (by omega)
      have F8 := F 8 13 (by omega) rfl (by omega)
      have F9 := F 9 14 (by omega) rfl (by omega)
      have F10 := F 10 15 (by omega) rfl (by omega)
      have F11 := F 11 16 (by omega) rfl (by omega)
      rw [q] at e ⊢
      have e : C_ (d + 4) mX6_takes [.ref o, .ref 17] h = some (some (.int (nI 1)), pI h o f) := e
      simp (disch := first | assumption | exact nI_ne0 (by decide) (by decide) | exact zb_01 | exact Or.inl rfl | exact Or.inr rfl | with_unfolding_all exact id (by assumption) | with_unfolding_all exact id (xix_8 (by assumption) (by omega) (by omega)) | omega) only [wX6_trait_e, wX6_trait_0, wX6_trait_0q, wX6_trait_0n, wX6_trait_1, wX6_trait_3, wX6_trait_6, wX6_trait_9, wX6_trait_10, wX6_trait_11, wX6_trait_11q, wX6_trait_11n, wX6_trait_12, wX6_trait_14, wX6_trait_17, wX6_trait_20, wX6_trait_21, wX6_trait_22, wX6_trait_22q, wX6_trait_22n, wX6_trait_23, wX6_trait_25, wX6_trait_28, wX6_trait_31, wX6_trait_32, wX6_trait_33, wX6_trait_33q, wX6_trait_33n, wX6_trait_34, wX6_trait_36, wX6_trait_39, wX6_trait_42, wX6_trait_43, wX6_trait_44, wX6_trait_44q, wX6_trait_44n, wX6_trait_45, wX6_trait_47, wX6_trait_50, wX6_trait_53, wX6_trait_54, wX6_trait_55, wX6_trait_55q, wX6_trait_55n, wX6_trait_56, wX6_trait_58, wX6_trait_61, wX6_trait_64, wX6_trait_65, wX6_trait_66, wX6_trait_66q, wX6_trait_66n, wX6_trait_67, wX6_trait_69, wX6_trait_72, wX6_trait_75, wX6_trait_77, wX6_trait_80, wX6_trait_80q, wX6_trait_80n, wX6_trait_81, wX6_trait_83, wX6_trait_86, wX6_trait_89, wX6_trait_91, wX6_trait_94, wX6_trait_95, if_true, if_false, ↓reduceIte, xpu_s, xpu_n, Option.bind_some, xk_i, xk_r, xk_0, xk_u, xk_l, xk_k, xk_q, rf_s, rf_n, q_e1, q_e2, Nat.zero_add, Nat.reduceEqDiff, Nat.reduceAdd, Nat.reduceMul, Nat.reduceSub, Nat.reduceLT, Nat.reduceLeDiff, Nat.reduceDiv, Nat.reduceMod, e, F5, F6, F7, F8, F9, F10, F11, nI_ne1, nI_00, not_true_eq_false, not_false_eq_true, and_self, and_true, true_and, and_false, false_and, or_true, true_or, or_false, false_or, decide_true, decide_false, zb_t, zb_f, zb_0, zb_1, eq_self]
  · have F : ∀ j a, j < 29 → kid.getD j 0 = a → 5 ≤ j → j ≤ 12 → C_ (d + 4) mX6_takes [.ref o, .ref a] h = some (some (.int (nI 0)), h) := fun j a hj ea h5 h12 => TF j a hj ea (by
      cases x with
      | inl q => rfl
      | inr L => exact decide_eq_false (fun z => y ⟨L, rfl, by omega, by omega⟩))
    have F5 := F 5 10 (by omega) rfl (by omega) (by omega)
    have F6 := F 6 11 (by omega) rfl (by omega) (by omega)
    have F7 := F 7 12 (by omega) rfl (by omega) (by omega)
    have F8 := F 8 13 (by omega) rfl (by omega) (by omega)
    have F9 := F 9 14 (by omega) rfl (by omega) (by omega)
    have F10 := F 10 15 (by omega) rfl (by omega) (by omega)
    have F11 := F 11 16 (by omega) rfl (by omega) (by omega)
    have F12 := F 12 17 (by omega) rfl (by omega) (by omega)
    have e1 : trx t n x = x := by
      cases x with
      | inl q => rfl
      | inr L => exact if_neg (fun z => y ⟨L, rfl, z⟩)
    have e2 : trv x = -1 := by
      cases x with
      | inl q => rfl
      | inr L => exact if_neg (fun z => y ⟨L, rfl, z⟩)
    rw [e1, e2]
    refine ⟨oI h o, ?_, CS_C C⟩
    rw [pI_self]
    simp (disch := first | assumption | exact nI_ne0 (by decide) (by decide) | exact zb_01 | exact Or.inl rfl | exact Or.inr rfl | with_unfolding_all exact id (by assumption) | with_unfolding_all exact id (xix_8 (by assumption) (by omega) (by omega)) | omega) only [wX6_trait_e, wX6_trait_0, wX6_trait_0q, wX6_trait_0n, wX6_trait_1, wX6_trait_3, wX6_trait_6, wX6_trait_9, wX6_trait_10, wX6_trait_11, wX6_trait_11q, wX6_trait_11n, wX6_trait_12, wX6_trait_14, wX6_trait_17, wX6_trait_20, wX6_trait_21, wX6_trait_22, wX6_trait_22q, wX6_trait_22n, wX6_trait_23, wX6_trait_25, wX6_trait_28, wX6_trait_31, wX6_trait_32, wX6_trait_33, wX6_trait_33q, wX6_trait_33n, wX6_trait_34, wX6_trait_36, wX6_trait_39, wX6_trait_42, wX6_trait_43, wX6_trait_44, wX6_trait_44q, wX6_trait_44n, wX6_trait_45, wX6_trait_47, wX6_trait_50, wX6_trait_53, wX6_trait_54, wX6_trait_55, wX6_trait_55q, wX6_trait_55n, wX6_trait_56, wX6_trait_58, wX6_trait_61, wX6_trait_64, wX6_trait_65, wX6_trait_66, wX6_trait_66q, wX6_trait_66n, wX6_trait_67, wX6_trait_69, wX6_trait_72, wX6_trait_75, wX6_trait_77, wX6_trait_80, wX6_trait_80q, wX6_trait_80n, wX6_trait_81, wX6_trait_83, wX6_trait_86, wX6_trait_89, wX6_trait_91, wX6_trait_94, wX6_trait_95, if_true, if_false, ↓reduceIte, xpu_s, xpu_n, Option.bind_some, xk_i, xk_r, xk_0, xk_u, xk_l, xk_k, xk_q, rf_s, rf_n, q_e1, q_e2, Nat.zero_add, Nat.reduceEqDiff, Nat.reduceAdd, Nat.reduceMul, Nat.reduceSub, Nat.reduceLT, Nat.reduceLeDiff, Nat.reduceDiv, Nat.reduceMod, F5, F6, F7, F8, F9, F10, F11, F12, nI_00, not_true_eq_false, not_false_eq_true, and_self, and_true, true_and, and_false, false_and, or_true, true_or, or_false, false_or, decide_true, decide_false, zb_t, zb_f, zb_0, zb_1, eq_self]
end
