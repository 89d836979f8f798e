/-! TEXTS: a line, the component -/
section
variable {d : Nat} {h h1 h2 : xH} {P : sS} {X o n p b e k v c j i op lo hi m w a : Nat} {t : Nat → Nat} {f g A B : rI} {x : sX} {L : Nat × Nat × Nat × Nat}
theorem kX6_line (T : TX h) (hX : X ≤ oX h) (hX0 : X ≥ 170) (C : CS h o n t op (.inr L)) (ox : X ≤ o) (S : SK h X o c A) (SR : STR h) (W : SWs A) : ∃ h1, C_ (d + 7) mX6_line [.ref o] h = some (none, h1) ∧ CS h1 o n t op (tl0 t n A L).1 ∧ (∀ L', (tl0 t n A L).1 = .inr L' → SK h1 X o c (tl0 t n A L).2) ∧ TX h1 ∧ GX (fun a => X ≤ a) h h1 2 44 ∧ oR h1 o 1 = some c := by
  obtain ⟨w1, w2, w3, w4, w5, w6⟩ := id W
  have T8 := C.1.1
  have t8 : ∀ f : rI, oT (pI h o f) o = 8 := fun f => T8
  have ne : ¬ c = o := fun z => by have := S.2.1.1; rw [z, T8] at this; omega
  have cX := S.2.2.2.1
  have EF : ∀ j a, j < 29 → kid.getD j 0 = a → ¬ L.2.2.1 = j → C_ (d + 6) mX6_takes [.ref o, .ref a] h = some (some (.int (nI 0)), h) := fun j a hj ea hn => by
    rw [← ea]
    exact kX6_takesF (d := d + 2) C SR hj (decide_eq_false hn)
  have I1 : C_ (d + 6) mX6_is [.ref o, .ref 1] h = some (some (.int (zb (decide (L.2.2.1 = 1)))), h) := kX6_is (d := d + 5) C SR (j := 1) (by omega)
  unfold tl0
  by_cases k0 : L.2.2.1 = 0
  · rw [if_pos k0]
    obtain ⟨f1, e1, C1⟩ := kX6_takesT (d := d + 2) C SR (j := 0) (by omega) k0
    have e1 : C_ (d + 6) mX6_takes [.ref o, .ref 5] h = some (some (.int (nI 1)), pI h o f1) := e1
    have LN := kX6_leastLanes (d := d + 2) C1 (SK_I (f := f1) T8 S) W
    obtain ⟨ln1, ln4⟩ := lnN_le (A := A) (fun c hc => (w6 c hc).2)
    obtain ⟨f2, e2, C2⟩ := kX6_number (d := d + 2) (lo := (lnN A)) (hi := 4) C1 (by omega) (by omega)
    rw [pI_pI] at e2 C2
    have S1 := SK_I (f := f1) T8 S
    have S2 := SK_I (f := f2) T8 S
    obtain ⟨a1, a2, -⟩ := SK_f S1
    obtain ⟨b1, b2, b3, b4, b5, b6⟩ := SK_f S2
    obtain ⟨c1, c2, c3, c4, c5, c6, c7, c8, c9, c10, c11⟩ := id S2.2.1
    refine ⟨pI (pI h o f2) c (va_up (oI (pI h o f2) c) 1 (nI (nbv (lnN A) 4 (.inr (lx t n L.2.1))))), ?_, CS_c ⟨ne, by omega, by omega⟩ C2, fun _ _ => SK_w (B := va_up A 0 (nI (nbv (lnN A) 4 (.inr (lx t n L.2.1))))) S2 w2 ?_ ?_ ?_ ?_ ?_ ?_ ?_ (fun k _ h2 => up_ne (by omega)), TX_I (TX_I T), GX_le (GX_trans (GX_o ox) (GX_I (fun _ => cX)) (fun _ _ y => y)) (by omega) (by omega), b1⟩
    · generalize hG1 : pI h o f1 = H1 at *
      generalize hG2 : pI h o f2 = H2 at *
      have u1 : oT H1 o = 8 := by rw [← hG1]; exact T8
      have I1n := I1
      rw [decide_eq_false (by omega)] at I1n
      simp (disch := first | exact T8 | exact u1 | exact b2 | first | assumption | exact nI_ne0 (by decide) (by decide) | exact zb_01 | exact Or.inl rfl | exact Or.inr rfl | with_unfolding_all exact id (by assumption) | with_unfolding_all exact id (xix_8 (by assumption) (by omega) (by omega)) | omega) only [wX6_line_e, wX6_line_e, wX6_line_0, wX6_line_0q, wX6_line_0n, wX6_line_1, wX6_line_3, wX6_line_6, wX6_line_9, wX6_line_9q, wX6_line_9n, wX6_line_10, wX6_line_13, wX6_line_16, wX6_line_16q, wX6_line_16n, wX6_line_17, wX6_line_19, wX6_line_22, wX6_line_25, wX6_line_25q, wX6_line_25n, wX6_line_26, wX6_line_29, wX6_line_29q, wX6_line_29n, wX6_line_30, wX6_line_30q, wX6_line_30n, wX6_line_31, wX6_line_34, wX6_line_35, wX6_line_38, wX6_line_41, wX6_line_44, wX6_line_44q, wX6_line_44n, wX6_line_45, wX6_line_47, wX6_line_50, wX6_line_53, wX6_line_53q, wX6_line_53n, wX6_line_54, wX6_line_57, wX6_line_57q, wX6_line_57n, wX6_line_58, wX6_line_59, wX6_line_61, wX6_line_64, wX6_line_67, wX6_line_70, wX6_line_70q, wX6_line_70n, wX6_line_71, wX6_line_73, wX6_line_76, wX6_line_79, wX6_line_79q, wX6_line_79n, wX6_line_80, wX6_line_83, wX6_line_83q, wX6_line_83n, wX6_line_84, wX6_line_85, wX6_line_87, wX6_line_90, wX6_line_93, wX6_line_96, wX6_line_96q, wX6_line_96n, wX6_line_97, wX6_line_99, wX6_line_102, wX6_line_105, wX6_line_105q, wX6_line_105n, wX6_line_106, wX6_line_109, wX6_line_109q, wX6_line_109n, wX6_line_110, wX6_line_111, wX6_line_113, wX6_line_116, wX6_line_119, wX6_line_122, wX6_line_122q, wX6_line_122n, wX6_line_123, wX6_line_125, wX6_line_128, wX6_line_131, wX6_line_131q, wX6_line_131n, wX6_line_132, wX6_line_135, wX6_line_135q, wX6_line_135n, wX6_line_136, wX6_line_137, wX6_line_140, wX6_line_143, wX6_line_146, wX6_line_149, wX6_line_149q, wX6_line_149n, wX6_line_150, wX6_line_153, if_true, if_false, ↓reduceIte, xpu_s, xpu_n, Option.bind_some, xk_i, xk_r, xk_0, xk_u, xk_l, xk_k, xk_q, rf_s, rf_n, q_e1, q_e2, Nat.zero_add, Nat.reduceEqDiff, Nat.reduceAdd, Nat.reduceMul, Nat.reduceSub, Nat.reduceLT, Nat.reduceLeDiff, Nat.reduceDiv, Nat.reduceMod, I1n, e1, LN, a1, e2, nI_00, nI_ne1, not_true_eq_false, not_false_eq_true, and_self, and_true, true_and, and_false, false_and, or_true, true_or, or_false, false_or, decide_true, decide_false, zb_t, zb_f, zb_0, zb_1, eq_self]
    · rw [up_s, up_s]
    · rw [up_ne (by decide), up_ne (by decide)]; exact c3
    · rw [up_ne (by decide), up_ne (by decide)]; exact c4
    · rw [up_ne (by decide), up_ne (by decide)]; exact c5
    · rw [up_ne (by decide), up_ne (by decide)]; exact c6
    · rw [up_ne (by decide), up_ne (by decide)]; exact c7
    · rw [up_ne (by decide), up_ne (by decide)]; exact c8
  · rw [if_neg k0]
    have E0 := EF 0 5 (by omega) rfl k0
    by_cases k1 : L.2.2.1 = 1
    · rw [if_pos k1]
      rw [decide_eq_true k1] at I1
      obtain ⟨h1, e1, C1, S1, T1, G1, R1⟩ := kX6_car (d := d) T hX C ox S SR W
      refine ⟨h1, ?_, C1, S1, T1, G1, R1⟩
      simp (disch := first | exact T8 | first | assumption | exact nI_ne0 (by decide) (by decide) | exact zb_01 | exact Or.inl rfl | exact Or.inr rfl | with_unfolding_all exact id (by assumption) | with_unfolding_all exact id (xix_8 (by assumption) (by omega) (by omega)) | omega) only [wX6_line_e, wX6_line_e, wX6_line_0, wX6_line_0q, wX6_line_0n, wX6_line_1, wX6_line_3, wX6_line_6, wX6_line_9, wX6_line_9q, wX6_line_9n, wX6_line_10, wX6_line_13, wX6_line_16, wX6_line_16q, wX6_line_16n, wX6_line_17, wX6_line_19, wX6_line_22, wX6_line_25, wX6_line_25q, wX6_line_25n, wX6_line_26, wX6_line_29, wX6_line_29q, wX6_line_29n, wX6_line_30, wX6_line_30q, wX6_line_30n, wX6_line_31, wX6_line_34, wX6_line_35, wX6_line_38, wX6_line_41, wX6_line_44, wX6_line_44q, wX6_line_44n, wX6_line_45, wX6_line_47, wX6_line_50, wX6_line_53, wX6_line_53q, wX6_line_53n, wX6_line_54, wX6_line_57, wX6_line_57q, wX6_line_57n, wX6_line_58, wX6_line_59, wX6_line_61, wX6_line_64, wX6_line_67, wX6_line_70, wX6_line_70q, wX6_line_70n, wX6_line_71, wX6_line_73, wX6_line_76, wX6_line_79, wX6_line_79q, wX6_line_79n, wX6_line_80, wX6_line_83, wX6_line_83q, wX6_line_83n, wX6_line_84, wX6_line_85, wX6_line_87, wX6_line_90, wX6_line_93, wX6_line_96, wX6_line_96q, wX6_line_96n, wX6_line_97, wX6_line_99, wX6_line_102, wX6_line_105, wX6_line_105q, wX6_line_105n, wX6_line_106, wX6_line_109, wX6_line_109q, wX6_line_109n, wX6_line_110, wX6_line_111, wX6_line_113, wX6_line_116, wX6_line_119, wX6_line_122, wX6_line_122q, wX6_line_122n, wX6_line_123, wX6_line_125, wX6_line_128, wX6_line_131, wX6_line_131q, wX6_line_131n, wX6_line_132, wX6_line_135, wX6_line_135q, wX6_line_135n, wX6_line_136, wX6_line_137, wX6_line_140, wX6_line_143, wX6_line_146, wX6_line_149, wX6_line_149q, wX6_line_149n, wX6_line_150, wX6_line_153, if_true, if_false, ↓reduceIte, xpu_s, xpu_n, Option.bind_some, xk_i, xk_r, xk_0, xk_u, xk_l, xk_k, xk_q, rf_s, rf_n, q_e1, q_e2, Nat.zero_add, Nat.reduceEqDiff, Nat.reduceAdd, Nat.reduceMul, Nat.reduceSub, Nat.reduceLT, Nat.reduceLeDiff, Nat.reduceDiv, Nat.reduceMod, I1, e1, one_ne0, not_true_eq_false, not_false_eq_true, and_self, and_true, true_and, and_false, false_and, or_true, true_or, or_false, false_or, decide_true, decide_false, zb_t, zb_f, zb_0, zb_1, eq_self]
    · rw [if_neg k1]
      by_cases k13 : L.2.2.1 = 13
      · rw [if_pos k13]
        obtain ⟨f1, e1, C1⟩ := kX6_takesT (d := d + 2) C SR (j := 13) (by omega) k13
        have e1 : C_ (d + 6) mX6_takes [.ref o, .ref 6] h = some (some (.int (nI 1)), pI h o f1) := e1
        obtain ⟨f2, e2, C2⟩ := kX6_number (d := d + 2) (lo := 0) (hi := 30) C1 (by omega) (by omega)
        rw [pI_pI] at e2 C2
        have S1 := SK_I (f := f1) T8 S
        have S2 := SK_I (f := f2) T8 S
        obtain ⟨a1, a2, -⟩ := SK_f S1
        obtain ⟨b1, b2, b3, b4, b5, b6⟩ := SK_f S2
        obtain ⟨c1, c2, c3, c4, c5, c6, c7, c8, c9, c10, c11⟩ := id S2.2.1
        refine ⟨pI (pI h o f2) c (va_up (oI (pI h o f2) c) 3 (nI (nbv 0 30 (.inr (lx t n L.2.1))))), ?_, CS_c ⟨ne, by omega, by omega⟩ C2, fun _ _ => SK_w (B := va_up A 35 (nI (nbv 0 30 (.inr (lx t n L.2.1))))) S2 w2 ?_ ?_ ?_ ?_ ?_ ?_ ?_ (fun k _ h2 => up_ne (by omega)), TX_I (TX_I T), GX_le (GX_trans (GX_o ox) (GX_I (fun _ => cX)) (fun _ _ y => y)) (by omega) (by omega), b1⟩
        · generalize hG1 : pI h o f1 = H1 at *
          generalize hG2 : pI h o f2 = H2 at *
          have u1 : oT H1 o = 8 := by rw [← hG1]; exact T8
          have I1n := I1
          rw [decide_eq_false (by omega)] at I1n
          simp (disch := first | exact T8 | exact u1 | exact b2 | first | assumption | exact nI_ne0 (by decide) (by decide) | exact zb_01 | exact Or.inl rfl | exact Or.inr rfl | with_unfolding_all exact id (by assumption) | with_unfolding_all exact id (xix_8 (by assumption) (by omega) (by omega)) | omega) only [wX6_line_e, wX6_line_e, wX6_line_0, wX6_line_0q, wX6_line_0n, wX6_line_1, wX6_line_3, wX6_line_6, wX6_line_9, wX6_line_9q, wX6_line_9n, wX6_line_10, wX6_line_13, wX6_line_16, wX6_line_16q, wX6_line_16n, wX6_line_17, wX6_line_19, wX6_line_22, wX6_line_25, wX6_line_25q, wX6_line_25n, wX6_line_26, wX6_line_29, wX6_line_29q, wX6_line_29n, wX6_line_30, wX6_line_30q, wX6_line_30n, wX6_line_31, wX6_line_34, wX6_line_35, wX6_line_38, wX6_line_41, wX6_line_44, wX6_line_44q, wX6_line_44n, wX6_line_45, wX6_line_47, wX6_line_50, wX6_line_53, wX6_line_53q, wX6_line_53n, wX6_line_54, wX6_line_57, wX6_line_57q, wX6_line_57n, wX6_line_58, wX6_line_59, wX6_line_61, wX6_line_64, wX6_line_67, wX6_line_70, wX6_line_70q, wX6_line_70n, wX6_line_71, wX6_line_73, wX6_line_76, wX6_line_79, wX6_line_79q, wX6_line_79n, wX6_line_80, wX6_line_83, wX6_line_83q, wX6_line_83n, wX6_line_84, wX6_line_85, wX6_line_87, wX6_line_90, wX6_line_93, wX6_line_96, wX6_line_96q, wX6_line_96n, wX6_line_97, wX6_line_99, wX6_line_102, wX6_line_105, wX6_line_105q, wX6_line_105n, wX6_line_106, wX6_line_109, wX6_line_109q, wX6_line_109n, wX6_line_110, wX6_line_111, wX6_line_113, wX6_line_116, wX6_line_119, wX6_line_122, wX6_line_122q, wX6_line_122n, wX6_line_123, wX6_line_125, wX6_line_128, wX6_line_131, wX6_line_131q, wX6_line_131n, wX6_line_132, wX6_line_135, wX6_line_135q, wX6_line_135n, wX6_line_136, wX6_line_137, wX6_line_140, wX6_line_143, wX6_line_146, wX6_line_149, wX6_line_149q, wX6_line_149n, wX6_line_150, wX6_line_153, if_true, if_false, ↓reduceIte, xpu_s, xpu_n, Option.bind_some, xk_i, xk_r, xk_0, xk_u, xk_l, xk_k, xk_q, rf_s, rf_n, q_e1, q_e2, Nat.zero_add, Nat.reduceEqDiff, Nat.reduceAdd, Nat.reduceMul, Nat.reduceSub, Nat.reduceLT, Nat.reduceLeDiff, Nat.reduceDiv, Nat.reduceMod, I1n, E0, e1, a1, e2, nI_00, nI_ne1, not_true_eq_false, not_false_eq_true, and_self, and_true, true_and, and_false, false_and, or_true, true_or, or_false, false_or, decide_true, decide_false, zb_t, zb_f, zb_0, zb_1, eq_self]
        · rw [up_ne (by decide), up_ne (by decide)]; exact c2
        · rw [up_ne (by decide), up_ne (by decide)]; exact c3
        · rw [up_s, up_s]
        · rw [up_ne (by decide), up_ne (by decide)]; exact c5
        · rw [up_ne (by decide), up_ne (by decide)]; exact c6
        · rw [up_ne (by decide), up_ne (by decide)]; exact c7
        · rw [up_ne (by decide), up_ne (by decide)]; exact c8
      · rw [if_neg k13]
        have E13 := EF 13 6 (by omega) rfl k13
        by_cases k14 : L.2.2.1 = 14
        · rw [if_pos k14]
          obtain ⟨f1, e1, C1⟩ := kX6_takesT (d := d + 2) C SR (j := 14) (by omega) k14
          have e1 : C_ (d + 6) mX6_takes [.ref o, .ref 7] h = some (some (.int (nI 1)), pI h o f1) := e1
          obtain ⟨f2, e2, C2⟩ := kX6_number (d := d + 2) (lo := 0) (hi := 20) C1 (by omega) (by omega)
          rw [pI_pI] at e2 C2
          have S1 := SK_I (f := f1) T8 S
          have S2 := SK_I (f := f2) T8 S
          obtain ⟨a1, a2, -⟩ := SK_f S1
          obtain ⟨b1, b2, b3, b4, b5, b6⟩ := SK_f S2
          obtain ⟨c1, c2, c3, c4, c5, c6, c7, c8, c9, c10, c11⟩ := id S2.2.1
          refine ⟨pI (pI h o f2) c (va_up (oI (pI h o f2) c) 4 (nI (nbv 0 20 (.inr (lx t n L.2.1))))), ?_, CS_c ⟨ne, by omega, by omega⟩ C2, fun _ _ => SK_w (B := va_up A 36 (nI (nbv 0 20 (.inr (lx t n L.2.1))))) S2 w2 ?_ ?_ ?_ ?_ ?_ ?_ ?_ (fun k _ h2 => up_ne (by omega)), TX_I (TX_I T), GX_le (GX_trans (GX_o ox) (GX_I (fun _ => cX)) (fun _ _ y => y)) (by omega) (by omega), b1⟩
          · generalize hG1 : pI h o f1 = H1 at *
            generalize hG2 : pI h o f2 = H2 at *
            have u1 : oT H1 o = 8 := by rw [← hG1]; exact T8
            have I1n := I1
            rw [decide_eq_false (by omega)] at I1n
            simp (disch := first | exact T8 | exact u1 | exact b2 | first | assumption | exact nI_ne0 (by decide) (by decide) | exact zb_01 | exact Or.inl rfl | exact Or.inr rfl | with_unfolding_all exact id (by assumption) | with_unfolding_all exact id (xix_8 (by assumption) (by omega) (by omega)) | omega) only [wX6_line_e, wX6_line_e, wX6_line_0, wX6_line_0q, wX6_line_0n, wX6_line_1, wX6_line_3, wX6_line_6, wX6_line_9, wX6_line_9q, wX6_line_9n, wX6_line_10, wX6_line_13, wX6_line_16, wX6_line_16q, wX6_line_16n, wX6_line_17, wX6_line_19, wX6_line_22, wX6_line_25, wX6_line_25q, wX6_line_25n, wX6_line_26, wX6_line_29, wX6_line_29q, wX6_line_29n, wX6_line_30, wX6_line_30q, wX6_line_30n, wX6_line_31, wX6_line_34, wX6_line_35, wX6_line_38, wX6_line_41, wX6_line_44, wX6_line_44q, wX6_line_44n, wX6_line_45, wX6_line_47, wX6_line_50, wX6_line_53, wX6_line_53q, wX6_line_53n, wX6_line_54, wX6_line_57, wX6_line_57q, wX6_line_57n, wX6_line_58, wX6_line_59, wX6_line_61, wX6_line_64, wX6_line_67, wX6_line_70, wX6_line_70q, wX6_line_70n, wX6_line_71, wX6_line_73, wX6_line_76, wX6_line_79, wX6_line_79q, wX6_line_79n, wX6_line_80, wX6_line_83, wX6_line_83q, wX6_line_83n, wX6_line_84, wX6_line_85, wX6_line_87, wX6_line_90, wX6_line_93, wX6_line_96, wX6_line_96q, wX6_line_96n, wX6_line_97, wX6_line_99, wX6_line_102, wX6_line_105, wX6_line_105q, wX6_line_105n, wX6_line_106, wX6_line_109, wX6_line_109q, wX6_line_109n, wX6_line_110, wX6_line_111, wX6_line_113, wX6_line_116, wX6_line_119, wX6_line_122, wX6_line_122q, wX6_line_122n, wX6_line_123, wX6_line_125, wX6_line_128, wX6_line_131, wX6_line_131q, wX6_line_131n, wX6_line_132, wX6_line_135, wX6_line_135q, wX6_line_135n, wX6_line_136, wX6_line_137, wX6_line_140, wX6_line_143, wX6_line_146, wX6_line_149, wX6_line_149q, wX6_line_149n, wX6_line_150, wX6_line_153, if_true, if_false, ↓reduceIte, xpu_s, xpu_n, Option.bind_some, xk_i, xk_r, xk_0, xk_u, xk_l, xk_k, xk_q, rf_s, rf_n, q_e1, q_e2, Nat.zero_add, Nat.reduceEqDiff, Nat.reduceAdd, Nat.reduceMul, Nat.reduceSub, Nat.reduceLT, Nat.reduceLeDiff, Nat.reduceDiv, Nat.reduceMod, I1n, E0, E13, e1, a1, e2, nI_00, nI_ne1, not_true_eq_false, not_false_eq_true, and_self, and_true, true_and, and_false, false_and, or_true, true_or, or_false, false_or, decide_true, decide_false, zb_t, zb_f, zb_0, zb_1, eq_self]
          · rw [up_ne (by decide), up_ne (by decide)]; exact c2
          · rw [up_ne (by decide), up_ne (by decide)]; exact c3
          · rw [up_ne (by decide), up_ne (by decide)]; exact c4
          · rw [up_s, up_s]
          · rw [up_ne (by decide), up_ne (by decide)]; exact c6
          · rw [up_ne (by decide), up_ne (by decide)]; exact c7
          · rw [up_ne (by decide), up_ne (by decide)]; exact c8
        · rw [if_neg k14]
          have E14 := EF 14 7 (by omega) rfl k14
          by_cases k15 : L.2.2.1 = 15
          · rw [if_pos k15]
            obtain ⟨f1, e1, C1⟩ := kX6_takesT (d := d + 2) C SR (j := 15) (by omega) k15
            have e1 : C_ (d + 6) mX6_takes [.ref o, .ref 8] h = some (some (.int (nI 1)), pI h o f1) := e1
            obtain ⟨f2, e2, C2⟩ := kX6_number (d := d + 2) (lo := 0) (hi := 60) C1 (by omega) (by omega)
            rw [pI_pI] at e2 C2
            have S1 := SK_I (f := f1) T8 S
            have S2 := SK_I (f := f2) T8 S
            obtain ⟨a1, a2, -⟩ := SK_f S1
            obtain ⟨b1, b2, b3, b4, b5, b6⟩ := SK_f S2
            obtain ⟨c1, c2, c3, c4, c5, c6, c7, c8, c9, c10, c11⟩ := id S2.2.1
            refine ⟨pI (pI h o f2) c (va_up (oI (pI h o f2) c) 5 (nI (nbv 0 60 (.inr (lx t n L.2.1))))), ?_, CS_c ⟨ne, by omega, by omega⟩ C2, fun _ _ => SK_w (B := va_up A 37 (nI (nbv 0 60 (.inr (lx t n L.2.1))))) S2 w2 ?_ ?_ ?_ ?_ ?_ ?_ ?_ (fun k _ h2 => up_ne (by omega)), TX_I (TX_I T), GX_le (GX_trans (GX_o ox) (GX_I (fun _ => cX)) (fun _ _ y => y)) (by omega) (by omega), b1⟩
            · generalize hG1 : pI h o f1 = H1 at *
              generalize hG2 : pI h o f2 = H2 at *
              have u1 : oT H1 o = 8 := by rw [← hG1]; exact T8
              have I1n := I1
              rw [decide_eq_false (by omega)] at I1n
              simp (disch := first | exact T8 | exact u1 | exact b2 | first | assumption | exact nI_ne0 (by decide) (by decide) | exact zb_01 | exact Or.inl rfl | exact Or.inr rfl | with_unfolding_all exact id (by assumption) | with_unfolding_all exact id (xix_8 (by assumption) (by omega) (by omega)) | omega) only [wX6_line_e, wX6_line_e, wX6_line_0, wX6_line_0q, wX6_line_0n, wX6_line_1, wX6_line_3, wX6_line_6, wX6_line_9, wX6_line_9q, wX6_line_9n, wX6_line_10, wX6_line_13, wX6_line_16, wX6_line_16q, wX6_line_16n, wX6_line_17, wX6_line_19, wX6_line_22, wX6_line_25, wX6_line_25q, wX6_line_25n, wX6_line_26, wX6_line_29, wX6_line_29q, wX6_line_29n, wX6_line_30, wX6_line_30q, wX6_line_30n, wX6_line_31, wX6_line_34, wX6_line_35, wX6_line_38, wX6_line_41, wX6_line_44, wX6_line_44q, wX6_line_44n, wX6_line_45, wX6_line_47, wX6_line_50, wX6_line_53, wX6_line_53q, wX6_line_53n, wX6_line_54, wX6_line_57, wX6_line_57q, wX6_line_57n, wX6_line_58, wX6_line_59, wX6_line_61, wX6_line_64, wX6_line_67, wX6_line_70, wX6_line_70q, wX6_line_70n, wX6_line_71, wX6_line_73, wX6_line_76, wX6_line_79, wX6_line_79q, wX6_line_79n, wX6_line_80, wX6_line_83, wX6_line_83q, wX6_line_83n, wX6_line_84, wX6_line_85, wX6_line_87, wX6_line_90, wX6_line_93, wX6_line_96, wX6_line_96q, wX6_line_96n, wX6_line_97, wX6_line_99, wX6_line_102, wX6_line_105, wX6_line_105q, wX6_line_105n, wX6_line_106, wX6_line_109, wX6_line_109q, wX6_line_109n, wX6_line_110, wX6_line_111, wX6_line_113, wX6_line_116, wX6_line_119, wX6_line_122, wX6_line_122q, wX6_line_122n, wX6_line_123, wX6_line_125, wX6_line_128, wX6_line_131, wX6_line_131q, wX6_line_131n, wX6_line_132, wX6_line_135, wX6_line_135q, wX6_line_135n, wX6_line_136, wX6_line_137, wX6_line_140, wX6_line_143, wX6_line_146, wX6_line_149, wX6_line_149q, wX6_line_149n, wX6_line_150, wX6_line_153, if_true, if_false, ↓reduceIte, xpu_s, xpu_n, Option.bind_some, xk_i, xk_r, xk_0, xk_u, xk_l, xk_k, xk_q, rf_s, rf_n, q_e1, q_e2, Nat.zero_add, Nat.reduceEqDiff, Nat.reduceAdd, Nat.reduceMul, Nat.reduceSub, Nat.reduceLT, Nat.reduceLeDiff, Nat.reduceDiv, Nat.reduceMod, I1n, E0, E13, E14, e1, a1, e2, nI_00, nI_ne1, not_true_eq_false, not_false_eq_true, and_self, and_true, true_and, and_false, false_and, or_true, true_or, or_false, false_or, decide_true, decide_false, zb_t, zb_f, zb_0, zb_1, eq_self]
            · rw [up_ne (by decide), up_ne (by decide)]; exact c2
            · rw [up_ne (by decide), up_ne (by decide)]; exact c3
            · rw [up_ne (by decide), up_ne (by decide)]; exact c4
            · rw [up_ne (by decide), up_ne (by decide)]; exact c5
            · rw [up_s, up_s]
            · rw [up_ne (by decide), up_ne (by decide)]; exact c7
            · rw [up_ne (by decide), up_ne (by decide)]; exact c8
          · rw [if_neg k15]
            have E15 := EF 15 8 (by omega) rfl k15
            by_cases k16 : L.2.2.1 = 16
            · rw [if_pos k16]
              obtain ⟨f1, e1, C1⟩ := kX6_takesT (d := d + 2) C SR (j := 16) (by omega) k16
              have e1 : C_ (d + 6) mX6_takes [.ref o, .ref 9] h = some (some (.int (nI 1)), pI h o f1) := e1
              obtain ⟨f2, e2, C2⟩ := kX6_number (d := d + 2) (lo := 1) (hi := 200) C1 (by omega) (by omega)
              rw [pI_pI] at e2 C2
              have S1 := SK_I (f := f1) T8 S
              have S2 := SK_I (f := f2) T8 S
              obtain ⟨a1, a2, -⟩ := SK_f S1
              obtain ⟨b1, b2, b3, b4, b5, b6⟩ := SK_f S2
              obtain ⟨c1, c2, c3, c4, c5, c6, c7, c8, c9, c10, c11⟩ := id S2.2.1
              refine ⟨pI (pI h o f2) c (va_up (oI (pI h o f2) c) 6 (nI (nbv 1 200 (.inr (lx t n L.2.1))))), ?_, CS_c ⟨ne, by omega, by omega⟩ C2, fun _ _ => SK_w (B := va_up A 38 (nI (nbv 1 200 (.inr (lx t n L.2.1))))) S2 w2 ?_ ?_ ?_ ?_ ?_ ?_ ?_ (fun k _ h2 => up_ne (by omega)), TX_I (TX_I T), GX_le (GX_trans (GX_o ox) (GX_I (fun _ => cX)) (fun _ _ y => y)) (by omega) (by omega), b1⟩
              · generalize hG1 : pI h o f1 = H1 at *
                generalize hG2 : pI h o f2 = H2 at *
                have u1 : oT H1 o = 8 := by rw [← hG1]; exact T8
                have I1n := I1
                rw [decide_eq_false (by omega)] at I1n
                simp (disch := first | exact T8 | exact u1 | exact b2 | first | assumption | exact nI_ne0 (by decide) (by decide) | exact zb_01 | exact Or.inl rfl | exact Or.inr rfl | with_unfolding_all exact id (by assumption) | with_unfolding_all exact id (xix_8 (by assumption) (by omega) (by omega)) | omega) only [wX6_line_e, wX6_line_e, wX6_line_0, wX6_line_0q, wX6_line_0n, wX6_line_1, wX6_line_3, wX6_line_6, wX6_line_9, wX6_line_9q, wX6_line_9n, wX6_line_10, wX6_line_13, wX6_line_16, wX6_line_16q, wX6_line_16n, wX6_line_17, wX6_line_19, wX6_line_22, wX6_line_25, wX6_line_25q, wX6_line_25n, wX6_line_26, wX6_line_29, wX6_line_29q, wX6_line_29n, wX6_line_30, wX6_line_30q, wX6_line_30n, wX6_line_31, wX6_line_34, wX6_line_35, wX6_line_38, wX6_line_41, wX6_line_44, wX6_line_44q, wX6_line_44n, wX6_line_45, wX6_line_47, wX6_line_50, wX6_line_53, wX6_line_53q, wX6_line_53n, wX6_line_54, wX6_line_57, wX6_line_57q, wX6_line_57n, wX6_line_58, wX6_line_59, wX6_line_61, wX6_line_64, wX6_line_67, wX6_line_70, wX6_line_70q, wX6_line_70n, wX6_line_71, wX6_line_73, wX6_line_76, wX6_line_79, wX6_line_79q, wX6_line_79n, wX6_line_80, wX6_line_83, wX6_line_83q, wX6_line_83n, wX6_line_84, wX6_line_85, wX6_line_87, wX6_line_90, wX6_line_93, wX6_line_96, wX6_line_96q, wX6_line_96n, wX6_line_97, wX6_line_99, wX6_line_102, wX6_line_105, wX6_line_105q, wX6_line_105n, wX6_line_106, wX6_line_109, wX6_line_109q, wX6_line_109n, wX6_line_110, wX6_line_111, wX6_line_113, wX6_line_116, wX6_line_119, wX6_line_122, wX6_line_122q, wX6_line_122n, wX6_line_123, wX6_line_125, wX6_line_128, wX6_line_131, wX6_line_131q, wX6_line_131n, wX6_line_132, wX6_line_135, wX6_line_135q, wX6_line_135n, wX6_line_136, wX6_line_137, wX6_line_140, wX6_line_143, wX6_line_146, wX6_line_149, wX6_line_149q, wX6_line_149n, wX6_line_150, wX6_line_153, if_true, if_false, ↓reduceIte, xpu_s, xpu_n, Option.bind_some, xk_i, xk_r, xk_0, xk_u, xk_l, xk_k, xk_q, rf_s, rf_n, q_e1, q_e2, Nat.zero_add, Nat.reduceEqDiff, Nat.reduceAdd, Nat.reduceMul, Nat.reduceSub, Nat.reduceLT, Nat.reduceLeDiff, Nat.reduceDiv, Nat.reduceMod, I1n, E0, E13, E14, E15, e1, a1, e2, nI_00, nI_ne1, not_true_eq_false, not_false_eq_true, and_self, and_true, true_and, and_false, false_and, or_true, true_or, or_false, false_or, decide_true, decide_false, zb_t, zb_f, zb_0, zb_1, eq_self]
              · rw [up_ne (by decide), up_ne (by decide)]; exact c2
              · rw [up_ne (by decide), up_ne (by decide)]; exact c3
              · rw [up_ne (by decide), up_ne (by decide)]; exact c4
              · rw [up_ne (by decide), up_ne (by decide)]; exact c5
              · rw [up_ne (by decide), up_ne (by decide)]; exact c6
              · rw [up_s, up_s]
              · rw [up_ne (by decide), up_ne (by decide)]; exact c8
            · rw [if_neg k16]
              have E16 := EF 16 9 (by omega) rfl k16
              obtain ⟨h1, e1, C1, S1, T1, G1, R1⟩ := kX6_traitLine (d := d) (X := X) C S SR hX0 ox T w2
              have I1n := I1
              rw [decide_eq_false k1] at I1n
              refine ⟨h1, ?_, ?_, ?_, T1, GX_le G1 (by omega) (by omega), R1⟩
              · simp (disch := first | exact T8 | first | assumption | exact nI_ne0 (by decide) (by decide) | exact zb_01 | exact Or.inl rfl | exact Or.inr rfl | with_unfolding_all exact id (by assumption) | with_unfolding_all exact id (xix_8 (by assumption) (by omega) (by omega)) | omega) only [wX6_line_e, wX6_line_e, wX6_line_0, wX6_line_0q, wX6_line_0n, wX6_line_1, wX6_line_3, wX6_line_6, wX6_line_9, wX6_line_9q, wX6_line_9n, wX6_line_10, wX6_line_13, wX6_line_16, wX6_line_16q, wX6_line_16n, wX6_line_17, wX6_line_19, wX6_line_22, wX6_line_25, wX6_line_25q, wX6_line_25n, wX6_line_26, wX6_line_29, wX6_line_29q, wX6_line_29n, wX6_line_30, wX6_line_30q, wX6_line_30n, wX6_line_31, wX6_line_34, wX6_line_35, wX6_line_38, wX6_line_41, wX6_line_44, wX6_line_44q, wX6_line_44n, wX6_line_45, wX6_line_47, wX6_line_50, wX6_line_53, wX6_line_53q, wX6_line_53n, wX6_line_54, wX6_line_57, wX6_line_57q, wX6_line_57n, wX6_line_58, wX6_line_59, wX6_line_61, wX6_line_64, wX6_line_67, wX6_line_70, wX6_line_70q, wX6_line_70n, wX6_line_71, wX6_line_73, wX6_line_76, wX6_line_79, wX6_line_79q, wX6_line_79n, wX6_line_80, wX6_line_83, wX6_line_83q, wX6_line_83n, wX6_line_84, wX6_line_85, wX6_line_87, wX6_line_90, wX6_line_93, wX6_line_96, wX6_line_96q, wX6_line_96n, wX6_line_97, wX6_line_99, wX6_line_102, wX6_line_105, wX6_line_105q, wX6_line_105n, wX6_line_106, wX6_line_109, wX6_line_109q, wX6_line_109n, wX6_line_110, wX6_line_111, wX6_line_113, wX6_line_116, wX6_line_119, wX6_line_122, wX6_line_122q, wX6_line_122n, wX6_line_123, wX6_line_125, wX6_line_128, wX6_line_131, wX6_line_131q, wX6_line_131n, wX6_line_132, wX6_line_135, wX6_line_135q, wX6_line_135n, wX6_line_136, wX6_line_137, wX6_line_140, wX6_line_143, wX6_line_146, wX6_line_149, wX6_line_149q, wX6_line_149n, wX6_line_150, wX6_line_153, if_true, if_false, ↓reduceIte, xpu_s, xpu_n, Option.bind_some, xk_i, xk_r, xk_0, xk_u, xk_l, xk_k, xk_q, rf_s, rf_n, q_e1, q_e2, Nat.zero_add, Nat.reduceEqDiff, Nat.reduceAdd, Nat.reduceMul, Nat.reduceSub, Nat.reduceLT, Nat.reduceLeDiff, Nat.reduceDiv, Nat.reduceMod, I1n, E0, E13, E14, E15, E16, e1, nI_00, not_true_eq_false, not_false_eq_true, and_self, and_true, true_and, and_false, false_and, or_true, true_or, or_false, false_or, decide_true, decide_false, zb_t, zb_f, zb_0, zb_1, eq_self]
              · by_cases y : 5 ≤ L.2.2.1 ∧ L.2.2.1 ≤ 12
                · rw [if_pos y] at C1 ⊢; exact C1
                · rw [if_neg y] at C1 ⊢; exact C1
              · by_cases y : 5 ≤ L.2.2.1 ∧ L.2.2.1 ≤ 12
                · rw [if_pos y]; exact fun _ _ => S1 y
                · rw [if_neg y]; exact fun _ z => by cases z
/-- a line and its end -/
theorem kX6_sc1 (T : TX h) (hX : X ≤ oX h) (hX0 : X ≥ 170) (C : CS h o n t op (.inr L)) (ox : X ≤ o) (S : SK h X o c A) (SR : STR h) (W : SWx A) (hk : ¬ L.2.2.1 = 34) : ∃ h1, E_ (d + 8) mX6_scene 4 [.val (.ref o)] [] h = E_ (d + 8) mX6_scene 4 [.val (.ref o)] [] h1 ∧ CS h1 o n t op (tli t n A L).1 ∧ (∀ L', (tli t n A L).1 = .inr L' → SK h1 X o c (tli t n A L).2) ∧ TX h1 ∧ GX (fun a => X ≤ a) h h1 2 44 := by
  have T8 := C.1.1
  have f8 := (CS_inr C).1
  have ok := C.2.2.2.2.1
  have c5 := C.2.2.2.2.2.2.2.1
  have cb := ct_b (k := L.2.2.1)
  have n0 : (nI (ct L.2.2.1) = 0) = False := by
    rw [nI_z (by omega)]
    refine eq_false (fun z => ?_)
    have ok3 := ok.2.2.1
    unfold ct at z
    repeat' split at z
    all_goals omega
  obtain ⟨h1, e1, C1, S1, T1, G1, R1⟩ := kX6_line (d := d) T hX hX0 C ox S SR W.1
  obtain ⟨f, e2, C2⟩ := kX6_over (d := d + 3) C1
  have u1 : oT h1 o = 8 := C1.1.1
  have u2 : oT (pI h1 o f) o = 8 := u1
  have cx := TX_lt T (a := c) (by rw [S.2.1.1]; decide)
  have tc : oT h1 c = 3 := (G1.2.2.2.2.1 c cx).1.trans S.2.1.1
  have tc2 : oT (pI h1 o f) c = 3 := tc
  have ne : ¬ c = o := fun z => by have := S.2.1.1; rw [z, T8] at this; omega
  have cX := S.2.2.2.1
  have R2 : oR (pI h1 o f) o 1 = some c := R1
  refine ⟨pI (pI h1 o f) c (va_up (oI (pI h1 o f) c) 7 (oI (pI h1 o f) c 7 + nI 1)), ?_, CS_c ⟨ne, by omega, by omega⟩ C2, fun L' z => ?_, TX_I (TX_I T1), GX_le (GX_trans (GX_trans G1 (GX_o ox) (fun _ _ y => y)) (GX_I (fun _ => cX)) (fun _ _ y => y)) (by omega) (by omega)⟩
  · generalize hG : pI h1 o f = H at *
    refine wX6_scene_4.trans ?_
    simp (disch := first | exact T8 | exact u1 | exact u2 | exact tc2 | first | assumption | exact nI_ne0 (by decide) (by decide) | exact zb_01 | exact Or.inl rfl | exact Or.inr rfl | with_unfolding_all exact id (by assumption) | with_unfolding_all exact id (xix_8 (by assumption) (by omega) (by omega)) | omega) only [wX6_scene_e, wX6_scene_0, wX6_scene_0q, wX6_scene_0n, wX6_scene_1, wX6_scene_5, wX6_scene_8, wX6_scene_11, wX6_scene_11q, wX6_scene_11n, wX6_scene_12, wX6_scene_15, wX6_scene_18, wX6_scene_18q, wX6_scene_18n, wX6_scene_19, wX6_scene_22, wX6_scene_22q, wX6_scene_22n, wX6_scene_23, wX6_scene_26, wX6_scene_26q, wX6_scene_26n, wX6_scene_27, wX6_scene_30, wX6_scene_31, wX6_scene_34, wX6_scene_35, wX6_scene_36, wX6_scene_39, wX6_scene_42, if_true, if_false, ↓reduceIte, xpu_s, xpu_n, Option.bind_some, xk_i, xk_r, xk_0, xk_u, xk_l, xk_k, xk_q, rf_s, rf_n, q_e1, q_e2, Nat.zero_add, Nat.reduceEqDiff, Nat.reduceAdd, Nat.reduceMul, Nat.reduceSub, Nat.reduceLT, Nat.reduceLeDiff, Nat.reduceDiv, Nat.reduceMod, f8, c5, n0, e1, e2, R2, not_true_eq_false, not_false_eq_true, and_self, and_true, true_and, and_false, false_and, or_true, true_or, or_false, false_or, decide_true, decide_false, zb_t, zb_f, zb_0, zb_1, eq_self]
  · obtain ⟨L1, z1⟩ := ndx_r z
    have S2 := SK_I (f := f) u1 (S1 L1 z1)
    obtain ⟨c1, c2, c3, c4, c5, c6, c7, c8, c9, c10, c11⟩ := id S2.2.1
    have en : sN (va_up (tl0 t n A L).2 39 ((tl0 t n A L).2 39 + nI 1)) = sN (tl0 t n A L).2 := by unfold sN; rw [up_ne (by decide)]
    show SK _ X o c (va_up (tl0 t n A L).2 39 ((tl0 t n A L).2 39 + nI 1))
    refine SK_w (B := va_up (tl0 t n A L).2 39 ((tl0 t n A L).2 39 + nI 1)) S2 (tl0_ok W z1).2.1 ?_ ?_ ?_ ?_ ?_ ?_ ?_ (fun k _ h2 => up_ne (by omega))
    · rw [up_ne (by decide), up_ne (by decide)]; exact c2
    · rw [up_ne (by decide), up_ne (by decide)]; exact c3
    · rw [up_ne (by decide), up_ne (by decide)]; exact c4
    · rw [up_ne (by decide), up_ne (by decide)]; exact c5
    · rw [up_ne (by decide), up_ne (by decide)]; exact c6
    · rw [up_ne (by decide), up_ne (by decide)]; exact c7
    · rw [up_s, up_s, c8]
end
