/-! TEXTS: lines of a scene, the component -/
section
variable {d : Nat} {h h1 h2 : xH} {P : sS} {X o n p b e k v c j i op lo hi m w a : Nat} {t : Nat → Nat} {f g A B : rI} {x : sX} {L : Nat × Nat × Nat × Nat}
theorem GX_o (ox : X ≤ o) : GX (fun a => X ≤ a) h (pI h o f) 0 0 := GX_I (fun _ => ox)
theorem TX_I {q : Nat} (T : TX h) : TX (pI h q f) := T
theorem SK_f (S : SK h X o c A) : oR h o 1 = some c ∧ oT h c = 3 ∧ oI h c 1 = A 0 ∧ oR h c 0 = some (rq h c 0) ∧ oT h (rq h c 0) = 4 ∧ LSn h (rq h c 0) (sN A) := by
  obtain ⟨b1, b2, b3, -⟩ := S
  exact ⟨b1, b2.1, b2.2.1, b2.2.2.2.2.2.2.2.2.1, b3.1.1, b3.1⟩
theorem kX6_car (T : TX h) (hX : X ≤ oX h) (C : CS h o n t op (.inr L)) (ox : X ≤ o) (S : SK h X o c A) (SR : STR h) (W : SWs A) : ∃ h1, C_ (d + 6) mX6_car [.ref o] h = some (none, h1) ∧ CS h1 o n t op (tc7 t n A (.inr L)) ∧ (∀ L', tc7 t n A (.inr L) = .inr L' → SK h1 X o c (tcA t n A (.inr L))) ∧ TX h1 ∧ GX (fun a => X ≤ a) h h1 2 44 ∧ oR h1 o 1 = some c := by
  obtain ⟨w1, w2, w3, w4, w5, w6⟩ := W
  have T8 := C.1.1
  have o170 := C.1.2.2.2.2.2.2.2.1
  have t8 : ∀ f : rI, oT (pI h o f) o = 8 := fun f => T8
  obtain ⟨b1, b2, b3, b4, b5, b6⟩ := SK_f S
  have SZ := kJ2_size (d := d + 5) b6
  obtain ⟨f0, e0, C0⟩ := kX6_space (d := d + 1) (u := decide (sN A = 8)) C
  have C0 : CS (pI h o f0) o n t op (tc0 t n A (.inr L)) := C0
  have S0 := SK_I (f := f0) T8 S
  obtain ⟨c1, c2, c3, -⟩ := SK_f S0
  rw [w3] at c3
  obtain ⟨f1, e1, C1⟩ := kX6_number (d := d + 1) (lo := 0) (hi := sL A - 1) C0 (by omega) (by omega)
  rw [pI_pI] at e1 C1
  have C1 : CS (pI h o f1) o n t op (tc1 t n A (.inr L)) := C1
  obtain ⟨f2, e2, C2⟩ := kX6_told (d := d) (lo := 1) (hi := 200) (j := 2) C1 (STR_I SR o170) (by omega) (by omega) (by omega)
  rw [pI_pI] at e2 C2
  have C2 : CS (pI h o f2) o n t op (tc3 t n A (.inr L)) := C2
  obtain ⟨f3, e3, C3⟩ := kX6_told (d := d) (lo := 1) (hi := 9) (j := 3) C2 (STR_I SR o170) (by omega) (by omega) (by omega)
  rw [pI_pI] at e3 C3
  have C3 : CS (pI h o f3) o n t op (tc5 t n A (.inr L)) := C3
  obtain ⟨f4, e4, C4⟩ := kX6_told (d := d) (lo := 0) (hi := 3) (j := 4) C3 (STR_I SR o170) (by omega) (by omega) (by omega)
  rw [pI_pI] at e4 C4
  have C4 : CS (pI h o f4) o n t op (tc7 t n A (.inr L)) := C4
  have S4 := SK_I (f := f4) T8 S
  have sl : nI (sL A) - nI 1 = nI (sL A - 1) := pk_sub w4
  have e2 : C_ (d + 5) mX6_told [.ref o, .ref 2, .int (nI 1), .int (nI 200)] (pI h o f1) = some (some (.int (nI (nbv 1 200 (tc2 t n A (.inr L))))), pI h o f2) := e2
  have e3 : C_ (d + 5) mX6_told [.ref o, .ref 3, .int (nI 1), .int (nI 9)] (pI h o f2) = some (some (.int (nI (nbv 1 9 (tc4 t n A (.inr L))))), pI h o f3) := e3
  have e4 : C_ (d + 5) mX6_told [.ref o, .ref 4, .int (nI 0), .int (nI 3)] (pI h o f3) = some (some (.int (nI (nbv 0 3 (tc6 t n A (.inr L))))), pI h o f4) := e4
  have e1 : C_ (d + 5) mX6_number [.ref o, .int (nI 0), .int (nI (sL A - 1))] (pI h o f0) = some (some (.int (nI (nbv 0 (sL A - 1) (tc0 t n A (.inr L))))), pI h o f1) := e1
  have E : C_ (d + 6) mX6_car [.ref o] h = E_ (d + 6) mX6_car 70 [.val (.ref o), .val (.int (nI (nbv 0 (sL A - 1) (tc0 t n A (.inr L))))), .val (.int (nI (nbv 1 200 (tc2 t n A (.inr L))))), .val (.int (nI (nbv 1 9 (tc4 t n A (.inr L))))), .val (.int (nI (nbv 0 3 (tc6 t n A (.inr L)))))] [] (pI h o f4) := by
    by_cases q : sN A = 8
    · rw [decide_eq_true q] at e0
      have e0 : C_ (d + 5) mX6_space [.ref o, .int (nI 1)] h = some (none, pI h o f0) := e0
      have e8 : (nI (sN A) = nI 8) = True := by rw [q]; exact eq_true rfl
      simp (disch := first | exact T8 | exact t8 _ | exact b2 | exact b5 | exact c2 | first | assumption | exact nI_ne0 (by decide) (by decide) | exact zb_01 | exact Or.inl rfl | exact Or.inr rfl | with_unfolding_all exact id (by assumption) | with_unfolding_all exact id (xix_8 (by assumption) (by omega) (by omega)) | omega) only [wX6_car_e, wX6_car_e, wX6_car_0, wX6_car_0q, wX6_car_0n, wX6_car_1, wX6_car_1q, wX6_car_1n, wX6_car_2, wX6_car_5, wX6_car_8, wX6_car_11, wX6_car_13, wX6_car_16, wX6_car_17, wX6_car_20, wX6_car_21, wX6_car_24, wX6_car_24q, wX6_car_24n, wX6_car_25, wX6_car_26, wX6_car_26q, wX6_car_26n, wX6_car_27, wX6_car_30, wX6_car_33, wX6_car_34, wX6_car_35, wX6_car_38, wX6_car_39, wX6_car_39q, wX6_car_39n, wX6_car_40, wX6_car_42, wX6_car_43, wX6_car_46, wX6_car_49, wX6_car_50, wX6_car_50q, wX6_car_50n, wX6_car_51, wX6_car_53, wX6_car_54, wX6_car_56, wX6_car_59, wX6_car_60, wX6_car_60q, wX6_car_60n, wX6_car_61, wX6_car_63, wX6_car_64, wX6_car_65, wX6_car_68, wX6_car_71, wX6_car_74, wX6_car_77, wX6_car_77q, wX6_car_77n, wX6_car_78, wX6_car_81, wX6_car_84, wX6_car_87, wX6_car_88, wX6_car_89, wX6_car_90, wX6_car_91, wX6_car_93, wX6_car_96, wX6_car_99, wX6_car_100, if_true, if_false, ↓reduceIte, xpu_s, xpu_n, Option.bind_some, xk_i, xk_r, xk_0, xk_u, xk_l, xk_k, xk_q, rf_s, rf_n, q_e1, q_e2, Nat.zero_add, Nat.reduceEqDiff, Nat.reduceAdd, Nat.reduceMul, Nat.reduceSub, Nat.reduceLT, Nat.reduceLeDiff, Nat.reduceDiv, Nat.reduceMod, b1, b4, SZ, e8, e0, c1, c3, sl, e1, e2, e3, e4, not_true_eq_false, not_false_eq_true, and_self, and_true, true_and, and_false, false_and, or_true, true_or, or_false, false_or, decide_true, decide_false, zb_t, zb_f, zb_0, zb_1, eq_self]
    · rw [decide_eq_false q] at e0
      have e0 : C_ (d + 5) mX6_space [.ref o, .int (nI 0)] h = some (none, pI h o f0) := e0
      have e8 : (nI (sN A) = nI 8) = False := by rw [nI_eqI (by omega) (by omega)]; exact eq_false q
      simp (disch := first | exact T8 | exact t8 _ | exact b2 | exact b5 | exact c2 | first | assumption | exact nI_ne0 (by decide) (by decide) | exact zb_01 | exact Or.inl rfl | exact Or.inr rfl | with_unfolding_all exact id (by assumption) | with_unfolding_all exact id (xix_8 (by assumption) (by omega) (by omega)) | omega) only [wX6_car_e, wX6_car_e, wX6_car_0, wX6_car_0q, wX6_car_0n, wX6_car_1, wX6_car_1q, wX6_car_1n, wX6_car_2, wX6_car_5, wX6_car_8, wX6_car_11, wX6_car_13, wX6_car_16, wX6_car_17, wX6_car_20, wX6_car_21, wX6_car_24, wX6_car_24q, wX6_car_24n, wX6_car_25, wX6_car_26, wX6_car_26q, wX6_car_26n, wX6_car_27, wX6_car_30, wX6_car_33, wX6_car_34, wX6_car_35, wX6_car_38, wX6_car_39, wX6_car_39q, wX6_car_39n, wX6_car_40, wX6_car_42, wX6_car_43, wX6_car_46, wX6_car_49, wX6_car_50, wX6_car_50q, wX6_car_50n, wX6_car_51, wX6_car_53, wX6_car_54, wX6_car_56, wX6_car_59, wX6_car_60, wX6_car_60q, wX6_car_60n, wX6_car_61, wX6_car_63, wX6_car_64, wX6_car_65, wX6_car_68, wX6_car_71, wX6_car_74, wX6_car_77, wX6_car_77q, wX6_car_77n, wX6_car_78, wX6_car_81, wX6_car_84, wX6_car_87, wX6_car_88, wX6_car_89, wX6_car_90, wX6_car_91, wX6_car_93, wX6_car_96, wX6_car_99, wX6_car_100, if_true, if_false, ↓reduceIte, xpu_s, xpu_n, Option.bind_some, xk_i, xk_r, xk_0, xk_u, xk_l, xk_k, xk_q, rf_s, rf_n, q_e1, q_e2, Nat.zero_add, Nat.reduceEqDiff, Nat.reduceAdd, Nat.reduceMul, Nat.reduceSub, Nat.reduceLT, Nat.reduceLeDiff, Nat.reduceDiv, Nat.reduceMod, b1, b4, SZ, e8, e0, c1, c3, sl, e1, e2, e3, e4, not_true_eq_false, not_false_eq_true, and_self, and_true, true_and, and_false, false_and, or_true, true_or, or_false, false_or, decide_true, decide_false, zb_t, zb_f, zb_0, zb_1, eq_self]
  rw [E]
  rcases sX_inr (tc7 t n A (.inr L)) with ⟨q, z⟩ | ⟨L', z⟩
  · rw [z] at C4 ⊢
    have f8 := (CS_inl C4).1
    refine ⟨pI h o f4, ?_, C4, fun L' y => (by cases y), TX_I T, GX_le (GX_o ox) (by omega) (by omega), b1⟩
    simp (disch := first | exact t8 _ | first | assumption | exact nI_ne0 (by decide) (by decide) | exact zb_01 | exact Or.inl rfl | exact Or.inr rfl | with_unfolding_all exact id (by assumption) | with_unfolding_all exact id (xix_8 (by assumption) (by omega) (by omega)) | omega) only [wX6_car_70, wX6_car_70q, wX6_car_70n, wX6_car_71, wX6_car_74, wX6_car_100, if_true, if_false, ↓reduceIte, xpu_s, xpu_n, Option.bind_some, xk_i, xk_r, xk_0, xk_u, xk_l, xk_k, xk_q, rf_s, rf_n, q_e1, q_e2, Nat.zero_add, Nat.reduceEqDiff, Nat.reduceAdd, Nat.reduceMul, Nat.reduceSub, Nat.reduceLT, Nat.reduceLeDiff, Nat.reduceDiv, Nat.reduceMod, f8, not_true_eq_false, not_false_eq_true, and_self, and_true, true_and, and_false, false_and, or_true, true_or, or_false, false_or, decide_true, decide_false, zb_t, zb_f, zb_0, zb_1, eq_self]
  · rw [z] at C4 ⊢
    have f8 := (CS_inr C4).1
    have h8 : sN A < 8 := by
      by_cases q : sN A = 8
      · exfalso
        obtain ⟨L6, z6⟩ := nbx_r z
        obtain ⟨L5, z5⟩ := ndx_r z6
        obtain ⟨L4, z4⟩ := nbx_r z5
        obtain ⟨L3, z3⟩ := ndx_r z4
        obtain ⟨L2, z2⟩ := nbx_r z3
        obtain ⟨L1, z1⟩ := ndx_r z2
        obtain ⟨L0, z0⟩ := nbx_r z1
        unfold tc0 spx at z0
        rw [decide_eq_true q] at z0
        cases z0
      · omega
    obtain ⟨h1, e5, C5, S5, T5, G5⟩ := kX6_cadd (d := d) (X := X) (p := nbv 0 (sL A - 1) (tc0 t n A (.inr L))) (v := nbv 1 200 (tc2 t n A (.inr L))) (k := nbv 1 9 (tc4 t n A (.inr L))) (w := nbv 0 3 (tc6 t n A (.inr L))) (TX_I (f := f4) (q := o) T) hX C4 ox S4 h8
    refine ⟨h1, ?_, C5, fun _ _ => S5, T5, GX_le (GX_trans (GX_o ox) G5 (fun _ _ y => y)) (by omega) (by omega), S5.1⟩
    refine Eq.trans ?_ e5
    simp (disch := first | exact t8 _ | first | assumption | exact nI_ne0 (by decide) (by decide) | exact zb_01 | exact Or.inl rfl | exact Or.inr rfl | with_unfolding_all exact id (by assumption) | with_unfolding_all exact id (xix_8 (by assumption) (by omega) (by omega)) | omega) only [wX6_car_70, wX6_car_70q, wX6_car_70n, wX6_car_71, wX6_car_74, if_true, if_false, ↓reduceIte, xpu_s, xpu_n, Option.bind_some, xk_i, xk_r, xk_0, xk_u, xk_l, xk_k, xk_q, rf_s, rf_n, q_e1, q_e2, Nat.zero_add, Nat.reduceEqDiff, Nat.reduceAdd, Nat.reduceMul, Nat.reduceSub, Nat.reduceLT, Nat.reduceLeDiff, Nat.reduceDiv, Nat.reduceMod, f8, not_true_eq_false, not_false_eq_true, and_self, and_true, true_and, and_false, false_and, or_true, true_or, or_false, false_or, decide_true, decide_false, zb_t, zb_f, zb_0, zb_1, eq_self]
theorem kX6_leastLanes (C : CS h o n t op x) (S : SK h X o c A) (W : SWs A) : C_ (d + 4) mX6_leastLanes [.ref o] h = some (some (.int (nI (lnN A))), h) := by
  obtain ⟨w1, w2, w3, w4, w5, w6⟩ := W
  have T8 := C.1.1
  obtain ⟨b1, b2, b3, b4, b5, b6⟩ := SK_f S
  have SZ := kJ2_size (d := d + 3) b6
  have e0 : C_ (d + 4) mX6_leastLanes [.ref o] h = E_ (d + 4) mX6_leastLanes 4 [.val (.ref o), .val (.int (nI 1)), .val (.int (nI 0))] [] h := by
    simp (disch := first | assumption | exact nI_ne0 (by decide) (by decide) | exact zb_01 | exact Or.inl rfl | exact Or.inr rfl | with_unfolding_all exact id (by assumption) | with_unfolding_all exact id (xix_8 (by assumption) (by omega) (by omega)) | omega) only [wX6_leastLanes_e, wX6_leastLanes_0, wX6_leastLanes_1, wX6_leastLanes_2, wX6_leastLanes_3, wX6_leastLanes_5, wX6_leastLanes_5q, wX6_leastLanes_5n, wX6_leastLanes_6, wX6_leastLanes_9, wX6_leastLanes_12, wX6_leastLanes_15, wX6_leastLanes_18, wX6_leastLanes_19, wX6_leastLanes_19q, wX6_leastLanes_19n, wX6_leastLanes_20, wX6_leastLanes_23, wX6_leastLanes_26, wX6_leastLanes_27, wX6_leastLanes_30, wX6_leastLanes_30n, wX6_leastLanes_33, wX6_leastLanes_36, wX6_leastLanes_37, wX6_leastLanes_38, wX6_leastLanes_41, wX6_leastLanes_42, wX6_leastLanes_45, wX6_leastLanes_48, wX6_leastLanes_49, if_true, if_false, ↓reduceIte, xpu_s, xpu_n, Option.bind_some, xk_i, xk_r, xk_0, xk_u, xk_l, xk_k, xk_q, rf_s, rf_n]
  rw [e0]
  refine (lpj_st (n := sN A) (s := 1) (P := fun _ v => v ≤ 4) (f := fun c m => if m < la A c + 1 then la A c + 1 else m) (X := fun v => some (some (.int (nI v)), h)) (F := fun c v (_ : Unit) => E_ (d + 4) mX6_leastLanes 4 [.val (.ref o), .val (.int (nI v)), .val (.int (nI c))] [] h) (by omega) (fun c' v z hc hv => ⟨(), ?_, ?_⟩) (fun v z _ => ?_) ()).1
  · have lt : (nI c' < nI (sN A)) = True := eq_true (nI_lt hc (by omega))
    obtain ⟨u1, u2⟩ := w6 c' hc
    have GT := kJ2_get (d := d + 1) b6 hc (by omega)
    obtain ⟨v1, v2, -⟩ := S.2.1.2.2.2.2.2.2.2.2.2.2 c' hc
    have v1 : oT h (li h (rq h c 0) c') = 9 := v1
    have v2 : oI h (li h (rq h c 0) c') 0 = A (2 + c') := v2
    rw [u1] at v2
    have mx := mx_nn (h := h) (a := v) (j := la A c' + 1) (by omega) (by omega)
    refine wX6_leastLanes_4.trans ?_
    simp (disch := first | exact T8 | exact b2 | exact b5 | exact v1 | first | assumption | exact nI_ne0 (by decide) (by decide) | exact zb_01 | exact Or.inl rfl | exact Or.inr rfl | with_unfolding_all exact id (by assumption) | with_unfolding_all exact id (xix_8 (by assumption) (by omega) (by omega)) | omega) only [wX6_leastLanes_e, wX6_leastLanes_0, wX6_leastLanes_1, wX6_leastLanes_2, wX6_leastLanes_3, wX6_leastLanes_5, wX6_leastLanes_5q, wX6_leastLanes_5n, wX6_leastLanes_6, wX6_leastLanes_9, wX6_leastLanes_12, wX6_leastLanes_15, wX6_leastLanes_18, wX6_leastLanes_19, wX6_leastLanes_19q, wX6_leastLanes_19n, wX6_leastLanes_20, wX6_leastLanes_23, wX6_leastLanes_26, wX6_leastLanes_27, wX6_leastLanes_30, wX6_leastLanes_30n, wX6_leastLanes_33, wX6_leastLanes_36, wX6_leastLanes_37, wX6_leastLanes_38, wX6_leastLanes_41, wX6_leastLanes_42, wX6_leastLanes_45, wX6_leastLanes_48, wX6_leastLanes_49, if_true, if_false, ↓reduceIte, xpu_s, xpu_n, Option.bind_some, xk_i, xk_r, xk_0, xk_u, xk_l, xk_k, xk_q, rf_s, rf_n, q_e1, q_e2, Nat.zero_add, Nat.reduceEqDiff, Nat.reduceAdd, Nat.reduceMul, Nat.reduceSub, Nat.reduceLT, Nat.reduceLeDiff, Nat.reduceDiv, Nat.reduceMod, nI_add, b1, b4, SZ, GT, lt, v2, mx, not_true_eq_false, not_false_eq_true, and_self, and_true, true_and, and_false, false_and, or_true, true_or, or_false, false_or, decide_true, decide_false, zb_t, zb_f, zb_0, zb_1, eq_self]
  · have := (w6 c' hc).2
    split <;> omega
  · refine wX6_leastLanes_4.trans ?_
    simp (disch := first | exact T8 | exact b2 | exact b5 | first | assumption | exact nI_ne0 (by decide) (by decide) | exact zb_01 | exact Or.inl rfl | exact Or.inr rfl | with_unfolding_all exact id (by assumption) | with_unfolding_all exact id (xix_8 (by assumption) (by omega) (by omega)) | omega) only [wX6_leastLanes_e, wX6_leastLanes_0, wX6_leastLanes_1, wX6_leastLanes_2, wX6_leastLanes_3, wX6_leastLanes_5, wX6_leastLanes_5q, wX6_leastLanes_5n, wX6_leastLanes_6, wX6_leastLanes_9, wX6_leastLanes_12, wX6_leastLanes_15, wX6_leastLanes_18, wX6_leastLanes_19, wX6_leastLanes_19q, wX6_leastLanes_19n, wX6_leastLanes_20, wX6_leastLanes_23, wX6_leastLanes_26, wX6_leastLanes_27, wX6_leastLanes_30, wX6_leastLanes_30n, wX6_leastLanes_33, wX6_leastLanes_36, wX6_leastLanes_37, wX6_leastLanes_38, wX6_leastLanes_41, wX6_leastLanes_42, wX6_leastLanes_45, wX6_leastLanes_48, wX6_leastLanes_49, if_true, if_false, ↓reduceIte, xpu_s, xpu_n, Option.bind_some, xk_i, xk_r, xk_0, xk_u, xk_l, xk_k, xk_q, rf_s, rf_n, q_e1, q_e2, Nat.zero_add, Nat.reduceEqDiff, Nat.reduceAdd, Nat.reduceMul, Nat.reduceSub, Nat.reduceLT, Nat.reduceLeDiff, Nat.reduceDiv, Nat.reduceMod, b1, b4, SZ, i_irr, not_true_eq_false, not_false_eq_true, and_self, and_true, true_and, and_false, false_and, or_true, true_or, or_false, false_or, decide_true, decide_false, zb_t, zb_f, zb_0, zb_1, eq_self]
/-- the scene's own numbers are written -/
theorem SK_w (S : SK h X o c A) (h8 : sN A ≤ 8) (f1 : f 1 = B 0) (f2 : f 2 = B 34) (f3 : f 3 = B 35) (f4 : f 4 = B 36) (f5 : f 5 = B 37) (f6 : f 6 = B 38) (f7 : f 7 = B 39) (e : ∀ k, 1 ≤ k → k < 34 → B k = A k) : SK (pI h c f) X o c B := by
  obtain ⟨b1, b2, b3, b4, b5, b6⟩ := S
  have en : sN B = sN A := by unfold sN; rw [e 1 (by omega) (by omega)]
  have s0 : ∀ a, ¬ a = c → sm h (pI h c f) a := fun a ha => sm_I sm_refl ha
  have n1 : ¬ rq h c 0 = c := fun z => by have := b3.1.1; rw [z, b2.1] at this; omega
  have n2 : ¬ rq h (rq h c 0) 1 = c := fun z => by have := b3.1.2.2.2.1; rw [z, b2.1] at this; omega
  obtain ⟨G, l1, r1⟩ := sm_LG (Q := fun a => ¬ a = c) b3 s0 n1 n2 (fun j hj z => by have := b3.2.2.2 j hj; rw [z, b2.1] at this; omega)
  obtain ⟨c1, c2, c3, c4, c5, c6, c7, c8, c9, c10, c11⟩ := b2
  have e0 : rq (pI h c f) c 0 = rq h c 0 := rfl
  refine ⟨b1, ?_, by rw [e0, en]; exact G, b4, b5, by rw [e0, r1]; exact b6⟩
  unfold SCo
  rw [e0, en, o_II, if_pos rfl]
  refine ⟨c1, f1, f2, f3, f4, f5, f6, f7, c9, G.1, fun j hj => ?_⟩
  have es : sc (pI h c f) c j = sc h c j := by
    show li (pI h c f) (rq h c 0) j = _
    rw [l1]
    rfl
  rw [es]
  obtain ⟨v1, v2, v3, v4, v5⟩ := c11 j hj
  have m := s0 (sc h c j) (fun z => by rw [z, c1] at v1; omega)
  unfold CAo
  rw [m.1, m.2.2.1, e (2 + j) (by omega) (by omega), e (10 + j) (by omega) (by omega), e (18 + j) (by omega) (by omega), e (26 + j) (by omega) (by omega)]
  exact ⟨v1, v2, v3, v4, v5⟩
theorem CS_c {q : Nat} (hq : ¬ q = o ∧ ¬ q = 64 ∧ ¬ q = 78) (C : CS h o n t op x) : CS (pI h q f) o n t op x := CS_m (sm_I sm_refl (fun z => hq.1 z.symm)) (sm_I sm_refl (fun z => hq.2.1 z.symm)) (sm_I sm_refl (fun z => hq.2.2 z.symm)) C
theorem kX6_traitLine (C : CS h o n t op (.inr L)) (S : SK h X o c A) (SR : STR h) (hX : X ≥ 170) (ox : X ≤ o) (T : TX h) (h8 : sN A ≤ 8) : ∃ h1, C_ (d + 6) mX6_traitLine [.ref o] h = some (none, h1) ∧ CS h1 o n t op (if 5 ≤ L.2.2.1 ∧ L.2.2.1 ≤ 12 then .inr (lx t n L.2.1) else flx 2 (.inr L)) ∧ (5 ≤ L.2.2.1 ∧ L.2.2.1 ≤ 12 → SK h1 X o c (va_up A 34 (A 34 ||| (nI 1 <<< (nI (L.2.2.1 - 5) &&& 31))))) ∧ TX h1 ∧ GX (fun a => X ≤ a) h h1 0 0 ∧ oR h1 o 1 = some c := by
  have T8 := C.1.1
  obtain ⟨f, e, C1⟩ := kX6_trait (d := d) C SR
  by_cases y : 5 ≤ L.2.2.1 ∧ L.2.2.1 ≤ 12
  · rw [if_pos y]
    have e1 : trx t n (.inr L) = .inr (lx t n L.2.1) := if_pos y
    have e2 : trv (.inr L) = nI (L.2.2.1 - 5) := if_pos y
    rw [e1] at C1
    rw [e2] at e
    have S1 := SK_I (f := f) T8 S
    obtain ⟨b1, b2, b3, b4, b5, b6⟩ := SK_f S1
    have x2 : oI (pI h o f) c 2 = A 34 := S1.2.1.2.2.1
    have cX := S1.2.2.2.1
    have ne : ¬ c = o := fun z => by have := S.2.1.1; rw [z, T8] at this; omega
    have m1 : (nI (L.2.2.1 - 5) = -1) = False := nI_nm1 (by omega)
    have t8 : oT (pI h o f) o = 8 := T8
    obtain ⟨c1, c2, c3, c4, c5, c6, c7, c8, c9, c10, c11⟩ := id S1.2.1
    refine ⟨pI (pI h o f) c (va_up (oI (pI h o f) c) 2 (A 34 ||| (nI 1 <<< (nI (L.2.2.1 - 5) &&& 31)))), ?_, CS_c ⟨ne, by omega, by omega⟩ C1, fun _ => SK_w S1 h8 ?_ ?_ ?_ ?_ ?_ ?_ ?_ (fun k _ h2 => up_ne (by omega)), TX_I (TX_I T), GX_le (GX_trans (GX_o ox) (GX_I (fun _ => cX)) (fun _ _ y => y)) (by omega) (by omega), b1⟩
    · generalize pI h o f = H at *
      simp (disch := first | exact T8 | exact t8 | exact b2 | first | assumption | exact nI_ne0 (by decide) (by decide) | exact zb_01 | exact Or.inl rfl | exact Or.inr rfl | with_unfolding_all exact id (by assumption) | with_unfolding_all exact id (xix_8 (by assumption) (by omega) (by omega)) | omega) only [wX6_traitLine_e, wX6_traitLine_0, wX6_traitLine_0q, wX6_traitLine_0n, wX6_traitLine_1, wX6_traitLine_4, wX6_traitLine_5, wX6_traitLine_6, wX6_traitLine_7, wX6_traitLine_10, wX6_traitLine_10q, wX6_traitLine_10n, wX6_traitLine_11, wX6_traitLine_12, wX6_traitLine_15, wX6_traitLine_18, wX6_traitLine_18q, wX6_traitLine_18n, wX6_traitLine_19, wX6_traitLine_22, wX6_traitLine_23, wX6_traitLine_26, wX6_traitLine_27, wX6_traitLine_28, wX6_traitLine_29, wX6_traitLine_30, wX6_traitLine_33, if_true, if_false, ↓reduceIte, xpu_s, xpu_n, Option.bind_some, xk_i, xk_r, xk_0, xk_u, xk_l, xk_k, xk_q, rf_s, rf_n, q_e1, q_e2, Nat.zero_add, Nat.reduceEqDiff, Nat.reduceAdd, Nat.reduceMul, Nat.reduceSub, Nat.reduceLT, Nat.reduceLeDiff, Nat.reduceDiv, Nat.reduceMod, e, m1, b1, x2, not_true_eq_false, not_false_eq_true, and_self, and_true, true_and, and_false, false_and, or_true, true_or, or_false, false_or, decide_true, decide_false, zb_t, zb_f, zb_0, zb_1, eq_self]
    · rw [up_ne (by decide), up_ne (by decide)]; exact c2
    · rw [up_s, up_s]
    · rw [up_ne (by decide), up_ne (by decide)]; exact c4
    · rw [up_ne (by decide), up_ne (by decide)]; exact c5
    · rw [up_ne (by decide), up_ne (by decide)]; exact c6
    · rw [up_ne (by decide), up_ne (by decide)]; exact c7
    · rw [up_ne (by decide), up_ne (by decide)]; exact c8
  · rw [if_neg y]
    have e1 : trx t n (.inr L) = .inr L := if_neg y
    have e2 : trv (.inr L) = -1 := if_neg y
    rw [e1] at C1
    rw [e2] at e
    obtain ⟨g, e3, C2⟩ := kX6_wrong (d := d + 5) C1 (c := 2) (by omega) (by omega)
    rw [pI_pI] at e3 C2
    have t8 : oT (pI h o f) o = 8 := T8
    refine ⟨pI h o g, ?_, C2, fun z => absurd z y, TX_I T, GX_o ox, S.1⟩
    generalize pI h o f = H at *
    simp (disch := first | exact T8 | exact t8 | first | assumption | exact nI_ne0 (by decide) (by decide) | exact zb_01 | exact Or.inl rfl | exact Or.inr rfl | with_unfolding_all exact id (by assumption) | with_unfolding_all exact id (xix_8 (by assumption) (by omega) (by omega)) | omega) only [wX6_traitLine_e, wX6_traitLine_0, wX6_traitLine_0q, wX6_traitLine_0n, wX6_traitLine_1, wX6_traitLine_4, wX6_traitLine_5, wX6_traitLine_6, wX6_traitLine_7, wX6_traitLine_10, wX6_traitLine_10q, wX6_traitLine_10n, wX6_traitLine_11, wX6_traitLine_12, wX6_traitLine_15, wX6_traitLine_18, wX6_traitLine_18q, wX6_traitLine_18n, wX6_traitLine_19, wX6_traitLine_22, wX6_traitLine_23, wX6_traitLine_26, wX6_traitLine_27, wX6_traitLine_28, wX6_traitLine_29, wX6_traitLine_30, wX6_traitLine_33, if_true, if_false, ↓reduceIte, xpu_s, xpu_n, Option.bind_some, xk_i, xk_r, xk_0, xk_u, xk_l, xk_k, xk_q, rf_s, rf_n, q_e1, q_e2, Nat.zero_add, Nat.reduceEqDiff, Nat.reduceAdd, Nat.reduceMul, Nat.reduceSub, Nat.reduceLT, Nat.reduceLeDiff, Nat.reduceDiv, Nat.reduceMod, e, e3, not_true_eq_false, not_false_eq_true, and_self, and_true, true_and, and_false, false_and, or_true, true_or, or_false, false_or, decide_true, decide_false, zb_t, zb_f, zb_0, zb_1, eq_self]
end
