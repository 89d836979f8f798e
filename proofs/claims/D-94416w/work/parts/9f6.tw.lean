/-! TEXTS: facts within facts, the component -/
section
variable {d e : Nat} {h h1 h2 h3 : xH} {P : sS} {X o n p b k v c j i op lo hi m w a cd cd0 cd1 cd' : Nat} {t : Nat → Nat} {f g A B A1 A' : rI} {x x1 x' : sX} {L : Nat × Nat × Nat × Nat} {y1 y2 : Int32} {q : Option Nat}
theorem nX6_all_21 {r2 r3 : Nat} {ls : List Slot} (ht : oT h a = 8) : E_ (d + 1) mX6_all 21 ls [.ref a, va_rf q, .int y1, .ref r2, .ref r3] h = (C_ d mX6_fact [.ref a] h).bind fun r => E_ (d + 1) mX6_all 24 ls (xpu r.1 [va_rf q, .int y1, .ref r2, .ref r3]) r.2 := by cases q <;> exact e_vir dX6_all_21 rfl rfl rfl rfl rfl rfl (Nat.le_of_ble_eq_true rfl) (Nat.le_of_ble_eq_true rfl) ht
theorem nX6_some_21 {r2 r3 : Nat} {ls : List Slot} (ht : oT h a = 8) : E_ (d + 1) mX6_some 21 ls [.ref a, va_rf q, .int y1, .ref r2, .ref r3] h = (C_ d mX6_all [.ref a] h).bind fun r => E_ (d + 1) mX6_some 24 ls (xpu r.1 [va_rf q, .int y1, .ref r2, .ref r3]) r.2 := by cases q <;> exact e_vir dX6_some_21 rfl rfl rfl rfl rfl rfl (Nat.le_of_ble_eq_true rfl) (Nat.le_of_ble_eq_true rfl) ht
theorem JC_not (hk : L.2.2.1 = 21) (h8 : op < 8) (J : JC (d + 5) mX6_fact o t n (op + 1) (lx t n L.2.1) cd x' A' cd') (hx : (lx t n L.2.1).1 < kb n x') (hc : cd ≤ cd') : JC (d + 6) mX6_fact o t n op L cd x' (emA A' cd' (nI 21) (nI 0)) (cd' + 1) := fun h C => by
  obtain ⟨f8, t8⟩ := CS_inr C.1
  have gt := lx_gt C (by omega)
  obtain ⟨h1, e1, C1, G1⟩ := xC_open (d := d + 1) C h8
  obtain ⟨g8, u8⟩ := CS_inr C1.1
  obtain ⟨l1, l2, l3, l4⟩ := CT_l C1
  obtain ⟨C2, G2⟩ := CT_O (k := 10) (s := 1) C1
  have u2 := C2.1.1.1
  obtain ⟨h3, q, e3, C3, G3, F3⟩ := J _ C2
  have x2 : oX (pO h1 10 1) = oX h1 + 1 := rfl
  have g0 := G1.1.1
  have S3 : sm (pO h1 10 1) h3 (oX h1) := G3.1.2.2.2.2.2 _ (by omega) (by omega)
  have tn : oT h3 (oX h1) = 10 := by rw [S3.1, o_TO, if_pos rfl]
  have rn : oR h3 (oX h1) 0 = none := by rw [S3.2.2.2.1, o_RO, if_pos rfl]
  have I := kX9_init (d := d + 4) (q := q) tn
  obtain ⟨h4, e4⟩ : ∃ h4, h4 = pR h3 (oX h1) (va_up (oR h3 (oX h1)) 0 q) := ⟨_, rfl⟩
  have C4 : CT h4 o n t (op + 1) x' := by rw [e4]; exact CT_p C3 (by omega) (by omega)
  have G4 : GO o h h4 (0 + 1 + 2 * (kb n x' - (lx t n L.2.1).1)) (0 + 1 + 6 * (kb n x' - (lx t n L.2.1).1)) := by rw [e4]; exact GO_p (GO_t (GO_t G1 G2) G3) g0 (CT_l C).1
  have u4 := C4.1.1.1
  have c7 := C4.1.2.1
  have s1 : nI (op + 1) - nI 1 = nI op := pk_sub (by omega)
  obtain ⟨C5, G5⟩ := CT_d (c := op) C4
  have I21 := kX6_is (d := d + 4) (j := 21) C.1 C.2.1 (by omega)
  rw [isx_r, decide_eq_true hk] at I21
  have I21 : C_ (d + 5) mX6_is [.ref o, .ref 20] h = some (some (.int (zb true)), h) := I21
  refine ⟨_, some (oX h1), ?_, C5, GO_le (GO_t G4 G5) (by omega) (by omega), fun L' z => ⟨oX h1, rfl, ?_⟩⟩
  · simp (disch := first | assumption | exact nI_ne0 (by decide) (by decide) | exact zb_01 | exact Or.inl rfl | exact Or.inr rfl | with_unfolding_all exact id (by assumption) | with_unfolding_all exact id (xix_8 (by assumption) (by omega) (by omega)) | omega) only [wX6_fact_e, wX6_fact_0, wX6_fact_0q, wX6_fact_0n, wX6_fact_1, wX6_fact_3, wX6_fact_6, wX6_fact_9, wX6_fact_9q, wX6_fact_9n, wX6_fact_10, wX6_fact_13, wX6_fact_13q, wX6_fact_13n, wX6_fact_14, wX6_fact_17, wX6_fact_20, wX6_fact_23, wX6_fact_24, wX6_fact_24q, wX6_fact_24n, wX6_fact_25, wX6_fact_28, wX6_fact_31, wX6_fact_34, wX6_fact_35, wX6_fact_35n, wX6_fact_35q, wX6_fact_36, wX6_fact_36q, wX6_fact_36n, wX6_fact_37, wX6_fact_38, wX6_fact_41, wX6_fact_42, wX6_fact_43, wX6_fact_46, wX6_fact_46q, wX6_fact_46n, wX6_fact_47, wX6_fact_47n, wX6_fact_47q, wX6_fact_48, wX6_fact_48q, wX6_fact_48n, wX6_fact_49, wX6_fact_52, wX6_fact_55, wX6_fact_55q, wX6_fact_55n, wX6_fact_56, wX6_fact_59, wX6_fact_61, wX6_fact_64, wX6_fact_64q, wX6_fact_64n, wX6_fact_65, wX6_fact_68, wX6_fact_68q, wX6_fact_68n, wX6_fact_69, wX6_fact_72, wX6_fact_75, wX6_fact_75q, wX6_fact_75n, wX6_fact_76, wX6_fact_79, wX6_fact_82, wX6_fact_83, wX6_fact_83n, wX6_fact_83q, wX6_fact_84, wX6_fact_84q, wX6_fact_84n, wX6_fact_85, wX6_fact_88, wX6_fact_91, wX6_fact_91q, wX6_fact_91n, wX6_fact_92, wX6_fact_95, wX6_fact_97, wX6_fact_100, wX6_fact_100q, wX6_fact_100n, wX6_fact_101, wX6_fact_102, wX6_fact_105, wX6_fact_105q, wX6_fact_105n, wX6_fact_106, wX6_fact_109, wX6_fact_112, wX6_fact_112q, wX6_fact_112n, wX6_fact_113, wX6_fact_116, wX6_fact_116q, wX6_fact_116n, wX6_fact_117, wX6_fact_118, wX6_fact_121, wX6_fact_122, wX6_fact_123, wX6_fact_126, wX6_fact_126q, wX6_fact_126n, wX6_fact_127, wX6_fact_127n, wX6_fact_127q, wX6_fact_128, wX6_fact_128q, wX6_fact_128n, wX6_fact_129, wX6_fact_132, wX6_fact_133, wX6_fact_134, wX6_fact_135, wX6_fact_138, wX6_fact_141, wX6_fact_142, wX6_fact_143, wX6_fact_146, wX6_fact_146n, wX6_fact_146q, wX6_fact_147, wX6_fact_147q, wX6_fact_147n, wX6_fact_148, wX6_fact_150, wX6_fact_153, wX6_fact_156, wX6_fact_159, wX6_fact_160, wX6_fact_163, wX6_fact_163n, wX6_fact_163q, wX6_fact_164, wX6_fact_164q, wX6_fact_164n, wX6_fact_165, wX6_fact_167, wX6_fact_170, wX6_fact_173, wX6_fact_176, wX6_fact_177, wX6_fact_180, wX6_fact_180n, wX6_fact_180q, wX6_fact_181, wX6_fact_181q, wX6_fact_181n, wX6_fact_182, wX6_fact_185, wX6_fact_188, wX6_fact_191, wX6_fact_194, wX6_fact_195, wX6_fact_198, wX6_fact_198n, wX6_fact_198q, wX6_fact_199, wX6_fact_199q, wX6_fact_199n, wX6_fact_200, wX6_fact_203, wX6_fact_206, wX6_fact_209, wX6_fact_212, wX6_fact_213, wX6_fact_216, wX6_fact_219, wX6_fact_219q, wX6_fact_219n, wX6_fact_220, wX6_fact_223, wX6_fact_223n, wX6_fact_223q, nX6_fact_28, if_true, if_false, ↓reduceIte, xpu_s, xpu_n, Option.bind_some, xk_i, xk_r, xk_0, xk_u, xk_l, xk_k, xk_q, rf_s, rf_n, q_e1, q_e2, Nat.zero_add, Nat.reduceEqDiff, Nat.reduceAdd, Nat.reduceMul, Nat.reduceSub, Nat.reduceLT, Nat.reduceLeDiff, Nat.reduceDiv, Nat.reduceMod, I21, one_ne0, e1, g8, e3, I, ← e4, c7, s1, not_true_eq_false, not_false_eq_true, and_self, and_true, true_and, and_false, false_and, or_true, true_or, or_false, false_or, decide_true, decide_false, zb_t, zb_f, zb_0, zb_1, eq_self]
  · obtain ⟨f, ef, F⟩ := F3 L' z
    have F4 : FU h4 A' f cd cd' := FT_w (h := h3) (a := oX h1) (fun b _ _ hb => by rw [e4]; exact sm_R sm_refl hb) (Or.inl ⟨tn, rn⟩) F
    have F5 := FU_m (GO_st G5 C4) (B := emA A' cd' (nI 21) (nI 0)) (fun k k1 k2 => by unfold emA; rw [up_ne (by omega), up_ne (by omega)]) F4
    refine FU_not (f2 := f) ?_ ?_ ?_ F5
    · show oT h4 (oX h1) = 10
      rw [e4]
      exact tn
    · show oR h4 (oX h1) 0 = some f
      rw [e4, o_RR, if_pos rfl, up_s]
      exact ef
    · unfold emA
      rw [up_ne (by omega), up_s]
theorem JC_par (hk : L.2.2.1 = 32) (h8 : op < 8) (J : JC (d + 5) mX6_some o t n (op + 1) (lx t n L.2.1) cd x1 A' cd') (hx : (lx t n L.2.1).1 < kb n x1) (hy : kb n x1 ≤ kb n (ndx t n 33 x1)) : JC (d + 6) mX6_fact o t n op L cd (ndx t n 33 x1) A' cd' := fun h C => by
  obtain ⟨f8, t8⟩ := CS_inr C.1
  have gt := lx_gt C (by omega)
  obtain ⟨h1, e1, C1, G1⟩ := xC_open (d := d + 1) C h8
  obtain ⟨g8, u8⟩ := CS_inr C1.1
  obtain ⟨h2, q, e2, C2, G2, F2⟩ := J _ C1
  have u2 := C2.1.1.1
  have s1 : nI (op + 1) - nI 1 = nI op := pk_sub (by omega)
  obtain ⟨T, c7', c8, c9, ok, c3, c4, c5, c6⟩ := id C.1
  have I21 := kX6_is (d := d + 4) (j := 21) C.1 C.2.1 (by omega)
  rw [isx_r, decide_eq_false (by omega)] at I21
  have I21 : C_ (d + 5) mX6_is [.ref o, .ref 20] h = some (some (.int (zb false)), h) := I21
  have e40 : (oI h o 5 = nI 40) = True := by rw [c5, ct_32 ok.2.2.1]; exact eq_true hk
  rcases sX_inr x1 with ⟨p, ep⟩ | ⟨L1, eL⟩
  · subst ep
    obtain ⟨g2, -⟩ := CS_inl C2.1
    have c7 := C2.1.2.1
    obtain ⟨C5, G5⟩ := CT_d (c := op) C2
    refine ⟨_, q, ?_, C5, GO_le (GO_t (GO_t G1 G2) G5) (by omega) (by omega), fun L' z => by cases z⟩
    simp (disch := first | assumption | exact nI_ne0 (by decide) (by decide) | exact zb_01 | exact Or.inl rfl | exact Or.inr rfl | with_unfolding_all exact id (by assumption) | with_unfolding_all exact id (xix_8 (by assumption) (by omega) (by omega)) | omega) only [wX6_fact_e, wX6_fact_0, wX6_fact_0q, wX6_fact_0n, wX6_fact_1, wX6_fact_3, wX6_fact_6, wX6_fact_9, wX6_fact_9q, wX6_fact_9n, wX6_fact_10, wX6_fact_13, wX6_fact_13q, wX6_fact_13n, wX6_fact_14, wX6_fact_17, wX6_fact_20, wX6_fact_23, wX6_fact_24, wX6_fact_24q, wX6_fact_24n, wX6_fact_25, wX6_fact_28, wX6_fact_31, wX6_fact_34, wX6_fact_35, wX6_fact_35n, wX6_fact_35q, wX6_fact_36, wX6_fact_36q, wX6_fact_36n, wX6_fact_37, wX6_fact_38, wX6_fact_41, wX6_fact_42, wX6_fact_43, wX6_fact_46, wX6_fact_46q, wX6_fact_46n, wX6_fact_47, wX6_fact_47n, wX6_fact_47q, wX6_fact_48, wX6_fact_48q, wX6_fact_48n, wX6_fact_49, wX6_fact_52, wX6_fact_55, wX6_fact_55q, wX6_fact_55n, wX6_fact_56, wX6_fact_59, wX6_fact_61, wX6_fact_64, wX6_fact_64q, wX6_fact_64n, wX6_fact_65, wX6_fact_68, wX6_fact_68q, wX6_fact_68n, wX6_fact_69, wX6_fact_72, wX6_fact_75, wX6_fact_75q, wX6_fact_75n, wX6_fact_76, wX6_fact_79, wX6_fact_82, wX6_fact_83, wX6_fact_83n, wX6_fact_83q, wX6_fact_84, wX6_fact_84q, wX6_fact_84n, wX6_fact_85, wX6_fact_88, wX6_fact_91, wX6_fact_91q, wX6_fact_91n, wX6_fact_92, wX6_fact_95, wX6_fact_97, wX6_fact_100, wX6_fact_100q, wX6_fact_100n, wX6_fact_101, wX6_fact_102, wX6_fact_105, wX6_fact_105q, wX6_fact_105n, wX6_fact_106, wX6_fact_109, wX6_fact_112, wX6_fact_112q, wX6_fact_112n, wX6_fact_113, wX6_fact_116, wX6_fact_116q, wX6_fact_116n, wX6_fact_117, wX6_fact_118, wX6_fact_121, wX6_fact_122, wX6_fact_123, wX6_fact_126, wX6_fact_126q, wX6_fact_126n, wX6_fact_127, wX6_fact_127n, wX6_fact_127q, wX6_fact_128, wX6_fact_128q, wX6_fact_128n, wX6_fact_129, wX6_fact_132, wX6_fact_133, wX6_fact_134, wX6_fact_135, wX6_fact_138, wX6_fact_141, wX6_fact_142, wX6_fact_143, wX6_fact_146, wX6_fact_146n, wX6_fact_146q, wX6_fact_147, wX6_fact_147q, wX6_fact_147n, wX6_fact_148, wX6_fact_150, wX6_fact_153, wX6_fact_156, wX6_fact_159, wX6_fact_160, wX6_fact_163, wX6_fact_163n, wX6_fact_163q, wX6_fact_164, wX6_fact_164q, wX6_fact_164n, wX6_fact_165, wX6_fact_167, wX6_fact_170, wX6_fact_173, wX6_fact_176, wX6_fact_177, wX6_fact_180, wX6_fact_180n, wX6_fact_180q, wX6_fact_181, wX6_fact_181q, wX6_fact_181n, wX6_fact_182, wX6_fact_185, wX6_fact_188, wX6_fact_191, wX6_fact_194, wX6_fact_195, wX6_fact_198, wX6_fact_198n, wX6_fact_198q, wX6_fact_199, wX6_fact_199q, wX6_fact_199n, wX6_fact_200, wX6_fact_203, wX6_fact_206, wX6_fact_209, wX6_fact_212, wX6_fact_213, wX6_fact_216, wX6_fact_219, wX6_fact_219q, wX6_fact_219n, wX6_fact_220, wX6_fact_223, wX6_fact_223n, wX6_fact_223q, if_true, if_false, ↓reduceIte, xpu_s, xpu_n, Option.bind_some, xk_i, xk_r, xk_0, xk_u, xk_l, xk_k, xk_q, rf_s, rf_n, q_e1, q_e2, Nat.zero_add, Nat.reduceEqDiff, Nat.reduceAdd, Nat.reduceMul, Nat.reduceSub, Nat.reduceLT, Nat.reduceLeDiff, Nat.reduceDiv, Nat.reduceMod, I21, f8, e40, e1, g8, e2, g2, c7, s1, not_true_eq_false, not_false_eq_true, and_self, and_true, true_and, and_false, false_and, or_true, true_or, or_false, false_or, decide_true, decide_false, zb_t, zb_f, zb_0, zb_1, eq_self]
  · subst eL
    obtain ⟨g2, -⟩ := CS_inr C2.1
    obtain ⟨T2, d7, d8, d9, ok2, d3, d4, d5, d6⟩ := id C2.1
    have e41 := ct_33 ok2.2.2.1
    by_cases y : L1.2.2.1 = 33
    · have e41 : (oI h2 o 5 = nI 41) = True := by rw [d5, e41]; exact eq_true y
      have ex : ndx t n 33 (.inr L1) = .inr (lx t n L1.2.1) := if_pos y
      rw [ex] at hy ⊢
      obtain ⟨h3, e3, C3, G3⟩ := xC_nx (d := d + 2) C2
      have u3 := C3.1.1.1
      have c7 := C3.1.2.1
      obtain ⟨C5, G5⟩ := CT_d (c := op) C3
      refine ⟨_, q, ?_, C5, GO_le (GO_t (GO_t G1 G2) (GO_t G3 G5)) (by omega) (by omega), fun L' z => ?_⟩
      · simp (disch := first | assumption | exact nI_ne0 (by decide) (by decide) | exact zb_01 | exact Or.inl rfl | exact Or.inr rfl | with_unfolding_all exact id (by assumption) | with_unfolding_all exact id (xix_8 (by assumption) (by omega) (by omega)) | omega) only [wX6_fact_e, wX6_fact_0, wX6_fact_0q, wX6_fact_0n, wX6_fact_1, wX6_fact_3, wX6_fact_6, wX6_fact_9, wX6_fact_9q, wX6_fact_9n, wX6_fact_10, wX6_fact_13, wX6_fact_13q, wX6_fact_13n, wX6_fact_14, wX6_fact_17, wX6_fact_20, wX6_fact_23, wX6_fact_24, wX6_fact_24q, wX6_fact_24n, wX6_fact_25, wX6_fact_28, wX6_fact_31, wX6_fact_34, wX6_fact_35, wX6_fact_35n, wX6_fact_35q, wX6_fact_36, wX6_fact_36q, wX6_fact_36n, wX6_fact_37, wX6_fact_38, wX6_fact_41, wX6_fact_42, wX6_fact_43, wX6_fact_46, wX6_fact_46q, wX6_fact_46n, wX6_fact_47, wX6_fact_47n, wX6_fact_47q, wX6_fact_48, wX6_fact_48q, wX6_fact_48n, wX6_fact_49, wX6_fact_52, wX6_fact_55, wX6_fact_55q, wX6_fact_55n, wX6_fact_56, wX6_fact_59, wX6_fact_61, wX6_fact_64, wX6_fact_64q, wX6_fact_64n, wX6_fact_65, wX6_fact_68, wX6_fact_68q, wX6_fact_68n, wX6_fact_69, wX6_fact_72, wX6_fact_75, wX6_fact_75q, wX6_fact_75n, wX6_fact_76, wX6_fact_79, wX6_fact_82, wX6_fact_83, wX6_fact_83n, wX6_fact_83q, wX6_fact_84, wX6_fact_84q, wX6_fact_84n, wX6_fact_85, wX6_fact_88, wX6_fact_91, wX6_fact_91q, wX6_fact_91n, wX6_fact_92, wX6_fact_95, wX6_fact_97, wX6_fact_100, wX6_fact_100q, wX6_fact_100n, wX6_fact_101, wX6_fact_102, wX6_fact_105, wX6_fact_105q, wX6_fact_105n, wX6_fact_106, wX6_fact_109, wX6_fact_112, wX6_fact_112q, wX6_fact_112n, wX6_fact_113, wX6_fact_116, wX6_fact_116q, wX6_fact_116n, wX6_fact_117, wX6_fact_118, wX6_fact_121, wX6_fact_122, wX6_fact_123, wX6_fact_126, wX6_fact_126q, wX6_fact_126n, wX6_fact_127, wX6_fact_127n, wX6_fact_127q, wX6_fact_128, wX6_fact_128q, wX6_fact_128n, wX6_fact_129, wX6_fact_132, wX6_fact_133, wX6_fact_134, wX6_fact_135, wX6_fact_138, wX6_fact_141, wX6_fact_142, wX6_fact_143, wX6_fact_146, wX6_fact_146n, wX6_fact_146q, wX6_fact_147, wX6_fact_147q, wX6_fact_147n, wX6_fact_148, wX6_fact_150, wX6_fact_153, wX6_fact_156, wX6_fact_159, wX6_fact_160, wX6_fact_163, wX6_fact_163n, wX6_fact_163q, wX6_fact_164, wX6_fact_164q, wX6_fact_164n, wX6_fact_165, wX6_fact_167, wX6_fact_170, wX6_fact_173, wX6_fact_176, wX6_fact_177, wX6_fact_180, wX6_fact_180n, wX6_fact_180q, wX6_fact_181, wX6_fact_181q, wX6_fact_181n, wX6_fact_182, wX6_fact_185, wX6_fact_188, wX6_fact_191, wX6_fact_194, wX6_fact_195, wX6_fact_198, wX6_fact_198n, wX6_fact_198q, wX6_fact_199, wX6_fact_199q, wX6_fact_199n, wX6_fact_200, wX6_fact_203, wX6_fact_206, wX6_fact_209, wX6_fact_212, wX6_fact_213, wX6_fact_216, wX6_fact_219, wX6_fact_219q, wX6_fact_219n, wX6_fact_220, wX6_fact_223, wX6_fact_223n, wX6_fact_223q, if_true, if_false, ↓reduceIte, xpu_s, xpu_n, Option.bind_some, xk_i, xk_r, xk_0, xk_u, xk_l, xk_k, xk_q, rf_s, rf_n, q_e1, q_e2, Nat.zero_add, Nat.reduceEqDiff, Nat.reduceAdd, Nat.reduceMul, Nat.reduceSub, Nat.reduceLT, Nat.reduceLeDiff, Nat.reduceDiv, Nat.reduceMod, I21, f8, e40, e1, g8, e2, g2, e41, e3, c7, s1, not_true_eq_false, not_false_eq_true, and_self, and_true, true_and, and_false, false_and, or_true, true_or, or_false, false_or, decide_true, decide_false, zb_t, zb_f, zb_0, zb_1, eq_self]
      · obtain ⟨f, ef, F⟩ := F2 L1 rfl
        exact ⟨f, ef, FU_m (GO_st (GO_t G3 G5) C2) (fun _ _ _ => rfl) F⟩
    · have e41 : (oI h2 o 5 = nI 41) = False := by rw [d5, e41]; exact eq_false y
      have ex : ndx t n 33 (.inr L1) = flx 2 (.inr L1) := if_neg y
      rw [ex] at hy ⊢
      obtain ⟨h3, e3, C3, G3⟩ := xC_wrong (d := d + 5) (c := 2) C2 (by omega) (by omega)
      have u3 := C3.1.1.1
      have c7 := C3.1.2.1
      obtain ⟨g3, -⟩ := CS_inl (q := (if L1.2.2.1 = 35 then 1 else 2, L1.1)) C3.1
      obtain ⟨C5, G5⟩ := CT_d (c := op) C3
      refine ⟨_, q, ?_, C5, GO_le (GO_t (GO_t G1 G2) (GO_t G3 G5)) (by omega) (by omega), fun L' z => by cases z⟩
      simp (disch := first | assumption | exact nI_ne0 (by decide) (by decide) | exact zb_01 | exact Or.inl rfl | exact Or.inr rfl | with_unfolding_all exact id (by assumption) | with_unfolding_all exact id (xix_8 (by assumption) (by omega) (by omega)) | omega) only [wX6_fact_e, wX6_fact_0, wX6_fact_0q, wX6_fact_0n, wX6_fact_1, wX6_fact_3, wX6_fact_6, wX6_fact_9, wX6_fact_9q, wX6_fact_9n, wX6_fact_10, wX6_fact_13, wX6_fact_13q, wX6_fact_13n, wX6_fact_14, wX6_fact_17, wX6_fact_20, wX6_fact_23, wX6_fact_24, wX6_fact_24q, wX6_fact_24n, wX6_fact_25, wX6_fact_28, wX6_fact_31, wX6_fact_34, wX6_fact_35, wX6_fact_35n, wX6_fact_35q, wX6_fact_36, wX6_fact_36q, wX6_fact_36n, wX6_fact_37, wX6_fact_38, wX6_fact_41, wX6_fact_42, wX6_fact_43, wX6_fact_46, wX6_fact_46q, wX6_fact_46n, wX6_fact_47, wX6_fact_47n, wX6_fact_47q, wX6_fact_48, wX6_fact_48q, wX6_fact_48n, wX6_fact_49, wX6_fact_52, wX6_fact_55, wX6_fact_55q, wX6_fact_55n, wX6_fact_56, wX6_fact_59, wX6_fact_61, wX6_fact_64, wX6_fact_64q, wX6_fact_64n, wX6_fact_65, wX6_fact_68, wX6_fact_68q, wX6_fact_68n, wX6_fact_69, wX6_fact_72, wX6_fact_75, wX6_fact_75q, wX6_fact_75n, wX6_fact_76, wX6_fact_79, wX6_fact_82, wX6_fact_83, wX6_fact_83n, wX6_fact_83q, wX6_fact_84, wX6_fact_84q, wX6_fact_84n, wX6_fact_85, wX6_fact_88, wX6_fact_91, wX6_fact_91q, wX6_fact_91n, wX6_fact_92, wX6_fact_95, wX6_fact_97, wX6_fact_100, wX6_fact_100q, wX6_fact_100n, wX6_fact_101, wX6_fact_102, wX6_fact_105, wX6_fact_105q, wX6_fact_105n, wX6_fact_106, wX6_fact_109, wX6_fact_112, wX6_fact_112q, wX6_fact_112n, wX6_fact_113, wX6_fact_116, wX6_fact_116q, wX6_fact_116n, wX6_fact_117, wX6_fact_118, wX6_fact_121, wX6_fact_122, wX6_fact_123, wX6_fact_126, wX6_fact_126q, wX6_fact_126n, wX6_fact_127, wX6_fact_127n, wX6_fact_127q, wX6_fact_128, wX6_fact_128q, wX6_fact_128n, wX6_fact_129, wX6_fact_132, wX6_fact_133, wX6_fact_134, wX6_fact_135, wX6_fact_138, wX6_fact_141, wX6_fact_142, wX6_fact_143, wX6_fact_146, wX6_fact_146n, wX6_fact_146q, wX6_fact_147, wX6_fact_147q, wX6_fact_147n, wX6_fact_148, wX6_fact_150, wX6_fact_153, wX6_fact_156, wX6_fact_159, wX6_fact_160, wX6_fact_163, wX6_fact_163n, wX6_fact_163q, wX6_fact_164, wX6_fact_164q, wX6_fact_164n, wX6_fact_165, wX6_fact_167, wX6_fact_170, wX6_fact_173, wX6_fact_176, wX6_fact_177, wX6_fact_180, wX6_fact_180n, wX6_fact_180q, wX6_fact_181, wX6_fact_181q, wX6_fact_181n, wX6_fact_182, wX6_fact_185, wX6_fact_188, wX6_fact_191, wX6_fact_194, wX6_fact_195, wX6_fact_198, wX6_fact_198n, wX6_fact_198q, wX6_fact_199, wX6_fact_199q, wX6_fact_199n, wX6_fact_200, wX6_fact_203, wX6_fact_206, wX6_fact_209, wX6_fact_212, wX6_fact_213, wX6_fact_216, wX6_fact_219, wX6_fact_219q, wX6_fact_219n, wX6_fact_220, wX6_fact_223, wX6_fact_223n, wX6_fact_223q, if_true, if_false, ↓reduceIte, xpu_s, xpu_n, Option.bind_some, xk_i, xk_r, xk_0, xk_u, xk_l, xk_k, xk_q, rf_s, rf_n, q_e1, q_e2, Nat.zero_add, Nat.reduceEqDiff, Nat.reduceAdd, Nat.reduceMul, Nat.reduceSub, Nat.reduceLT, Nat.reduceLeDiff, Nat.reduceDiv, Nat.reduceMod, I21, f8, e40, e1, g8, e2, g2, e41, e3, g3, c7, s1, not_true_eq_false, not_false_eq_true, and_self, and_true, true_and, and_false, false_and, or_true, true_or, or_false, false_or, decide_true, decide_false, zb_t, zb_f, zb_0, zb_1, eq_self]

theorem JK_p0 (hx : isx 20 x = false) : JK (d + 5) mX6_all o t n op x A cd0 cd x A cd := fun h q C F => by
  have t8 := C.1.1.1
  have e1 := kX6_takesF (d := d) (j := 20) C.1 C.2.1 (by omega) hx
  have e1 : C_ (d + 4) mX6_takes [.ref o, .ref 28] h = some (some (.int (nI 0)), h) := e1
  refine ⟨h, q, ?_, C, GO_le GO_r (by omega) (by omega), F⟩
  simp (disch := first | assumption | exact nI_ne0 (by decide) (by decide) | exact zb_01 | exact Or.inl rfl | exact Or.inr rfl | with_unfolding_all exact id (by assumption) | with_unfolding_all exact id (xix_8 (by assumption) (by omega) (by omega)) | omega) only [wX6_all_e, wX6_all_0, wX6_all_0q, wX6_all_0n, wX6_all_1, wX6_all_4, wX6_all_4n, wX6_all_4q, wX6_all_5, wX6_all_5q, wX6_all_5n, wX6_all_6, wX6_all_8, wX6_all_11, wX6_all_14, wX6_all_17, wX6_all_18, wX6_all_19, wX6_all_19q, wX6_all_19n, wX6_all_20, wX6_all_20q, wX6_all_20n, wX6_all_21, wX6_all_24, wX6_all_27, wX6_all_27n, wX6_all_27q, wX6_all_28, wX6_all_31, wX6_all_31q, wX6_all_31n, wX6_all_32, wX6_all_32n, wX6_all_32q, if_true, if_false, ↓reduceIte, xpu_s, xpu_n, Option.bind_some, xk_i, xk_r, xk_0, xk_u, xk_l, xk_k, xk_q, rf_s, rf_n, q_e1, q_e2, Nat.zero_add, Nat.reduceEqDiff, Nat.reduceAdd, Nat.reduceMul, Nat.reduceSub, Nat.reduceLT, Nat.reduceLeDiff, Nat.reduceDiv, Nat.reduceMod, e1, nI_00, not_true_eq_false, not_false_eq_true, and_self, and_true, true_and, and_false, false_and, or_true, true_or, or_false, false_or, decide_true, decide_false, zb_t, zb_f, zb_0, zb_1, eq_self]
theorem JK_p1 (hk : L.2.2.1 = 20) (J : JC (d + 4) mX6_fact o t n op (lx t n L.2.1) cd x1 A1 cd1) (h0 : cd0 ≤ cd) (hA : ∀ L', x1 = .inr L' → cd ≤ cd1 ∧ ∀ k, 77 + 2 * cd0 ≤ k → k < 77 + 2 * cd → A1 k = A k) (hx : (lx t n L.2.1).1 < kb n x1) (hy : kb n x1 ≤ kb n x') (N : JK (d + 5) mX6_all o t n op x1 (emA A1 cd1 (nI 20) (nI 0)) cd0 (cd1 + 1) x' A' cd') : JK (d + 5) mX6_all o t n op (.inr L) A cd0 cd x' A' cd' := fun h q C F => by
  have t8 := C.1.1.1
  obtain ⟨f, ef, F⟩ := F L rfl
  have gt := lx_gt C (by omega)
  obtain ⟨h1, e1, C1, G1⟩ := xC_takesT (d := d) (j := 20) C (by omega) hk
  have e1 : C_ (d + 4) mX6_takes [.ref o, .ref 28] h = some (some (.int (nI 1)), h1) := e1
  have g0 := G1.1.1
  obtain ⟨l1, l2, l3, l4⟩ := CT_l C1
  obtain ⟨C2, G2⟩ := CT_O (k := 17) (s := 3) C1
  have u2 := C2.1.1.1
  obtain ⟨h3, q2, e3, C3, G3, F3⟩ := J _ C2
  have x2 : oX (pO h1 17 3) = oX h1 + 1 := rfl
  have S3 : sm (pO h1 17 3) h3 (oX h1) := G3.1.2.2.2.2.2 _ (by omega) (by omega)
  have tn : oT h3 (oX h1) = 17 := by rw [S3.1, o_TO, if_pos rfl]
  have rn : oR h3 (oX h1) 1 = none := by rw [S3.2.2.2.1, o_RO, if_pos rfl]
  have I := kX17_init (d := d + 3) (y1 := nI 1) (q1 := q) (q2 := q2) tn (Or.inr rfl)
  obtain ⟨h4, e4⟩ : ∃ h4, h4 = pR (pI h3 (oX h1) (va_up (oI h3 (oX h1)) 0 (nI 1))) (oX h1) (va_up (va_up (oR h3 (oX h1)) 1 q) 2 q2) := ⟨_, rfl⟩
  have C4 : CT h4 o n t op x1 := by rw [e4]; exact CT_p (CT_i C3 (by omega) (by omega)) (by omega) (by omega)
  have G4 : GO o h h4 (0 + 1 + 2 * (kb n x1 - (lx t n L.2.1).1)) (0 + 3 + 6 * (kb n x1 - (lx t n L.2.1).1)) := by rw [e4]; exact GO_p (GO_i (GO_t (GO_t G1 G2) G3) g0) g0 (CT_l C).1
  obtain ⟨h5, q5, e5, C5, G5, F5⟩ := N h4 (some (oX h1)) C4 (fun L' z => ⟨oX h1, rfl, by
    obtain ⟨f2, ef2, F2⟩ := F3 L' z
    obtain ⟨hc, hA⟩ := hA L' z
    have W : ∀ {i j f}, FU h3 (emA A1 cd1 (nI 20) (nI 0)) f i j → FU h4 (emA A1 cd1 (nI 20) (nI 0)) f i j := fun F => FT_w (h := h3) (a := oX h1) (fun b _ _ hb => by rw [e4]; exact sm_R (sm_I sm_refl hb) hb) (Or.inr ⟨tn, rn⟩) F
    have Fa : FU h3 (emA A1 cd1 (nI 20) (nI 0)) f cd0 cd := FU_m (GO_st (GO_t (GO_t G1 G2) G3) C) (fun k k1 k2 => by unfold emA; rw [up_ne (by omega), up_ne (by omega)]; exact hA k k1 k2) F
    have Fb : FU h3 (emA A1 cd1 (nI 20) (nI 0)) f2 cd cd1 := FT_B (fun k k1 k2 => by unfold emA; rw [up_ne (by omega), up_ne (by omega)]) F2
    refine FU_both (f1 := f) (f2 := f2) ?_ ?_ ?_ ?_ (W Fa) (W Fb)
    · rw [e4]
      exact tn
    · rw [e4, o_RR, if_pos rfl, up_ne (by decide), up_s]
      exact ef
    · rw [e4, o_RR, if_pos rfl, up_s]
      exact ef2
    · refine Or.inl ⟨?_, ?_⟩
      · unfold emA
        rw [up_ne (by omega), up_s]
      · rw [e4, o_IR, o_II, if_pos rfl, up_s]⟩)
  refine ⟨h5, q5, Eq.trans ?_ e5, C5, GO_le (GO_t G4 G5) (by show _ ≤ 2 * (kb n x' - L.1); omega) (by show _ ≤ 6 * (kb n x' - L.1); omega), F5⟩
  refine wX6_all_5.trans ?_
  simp (disch := first | assumption | exact nI_ne0 (by decide) (by decide) | exact zb_01 | exact Or.inl rfl | exact Or.inr rfl | with_unfolding_all exact id (by assumption) | with_unfolding_all exact id (xix_8 (by assumption) (by omega) (by omega)) | omega) only [wX6_all_e, wX6_all_0, wX6_all_0q, wX6_all_0n, wX6_all_1, wX6_all_4, wX6_all_4n, wX6_all_4q, wX6_all_6, wX6_all_8, wX6_all_11, wX6_all_14, wX6_all_17, wX6_all_18, wX6_all_19, wX6_all_19q, wX6_all_19n, wX6_all_20, wX6_all_20q, wX6_all_20n, wX6_all_21, wX6_all_24, wX6_all_27, wX6_all_27n, wX6_all_27q, wX6_all_28, wX6_all_31, wX6_all_31q, wX6_all_31n, wX6_all_32, wX6_all_32n, wX6_all_32q, nX6_all_21, nX6_all_24, if_true, if_false, ↓reduceIte, xpu_s, xpu_n, Option.bind_some, xk_i, xk_r, xk_0, xk_u, xk_l, xk_k, xk_q, rf_s, rf_n, q_e1, q_e2, Nat.zero_add, Nat.reduceEqDiff, Nat.reduceAdd, Nat.reduceMul, Nat.reduceSub, Nat.reduceLT, Nat.reduceLeDiff, Nat.reduceDiv, Nat.reduceMod, e1, nI_ne1, e3, I, ← e4, not_true_eq_false, not_false_eq_true, and_self, and_true, true_and, and_false, false_and, or_true, true_or, or_false, false_or, decide_true, decide_false, zb_t, zb_f, zb_0, zb_1, eq_self]
theorem JC_p (J : JC (d + 4) mX6_fact o t n op L cd x1 A1 cd1) (N : JK (d + 5) mX6_all o t n op x1 A1 cd cd1 x' A' cd') (hx : L.1 < kb n x1) (hy : kb n x1 ≤ kb n x') : JC (d + 5) mX6_all o t n op L cd x' A' cd' := fun h C => by
  have t8 := C.1.1.1
  obtain ⟨h1, q, e1, C1, G1, F1⟩ := J h C
  obtain ⟨h2, q2, e2, C2, G2, F2⟩ := N h1 q C1 F1
  refine ⟨h2, q2, Eq.trans ?_ e2, C2, GO_le (GO_t G1 G2) (by omega) (by omega), F2⟩
  simp (disch := first | assumption | exact nI_ne0 (by decide) (by decide) | exact zb_01 | exact Or.inl rfl | exact Or.inr rfl | with_unfolding_all exact id (by assumption) | with_unfolding_all exact id (xix_8 (by assumption) (by omega) (by omega)) | omega) only [wX6_all_e, wX6_all_0, wX6_all_0q, wX6_all_0n, wX6_all_1, wX6_all_4, wX6_all_4n, wX6_all_4q, wX6_all_6, wX6_all_8, wX6_all_11, wX6_all_14, wX6_all_17, wX6_all_18, wX6_all_19, wX6_all_19q, wX6_all_19n, wX6_all_20, wX6_all_20q, wX6_all_20n, wX6_all_21, wX6_all_24, wX6_all_27, wX6_all_27n, wX6_all_27q, wX6_all_28, wX6_all_31, wX6_all_31q, wX6_all_31n, wX6_all_32, wX6_all_32n, wX6_all_32q, if_true, if_false, ↓reduceIte, xpu_s, xpu_n, Option.bind_some, xk_i, xk_r, xk_0, xk_u, xk_l, xk_k, xk_q, rf_s, rf_n, q_e1, q_e2, Nat.zero_add, Nat.reduceEqDiff, Nat.reduceAdd, Nat.reduceMul, Nat.reduceSub, Nat.reduceLT, Nat.reduceLeDiff, Nat.reduceDiv, Nat.reduceMod, e1, not_true_eq_false, not_false_eq_true, and_self, and_true, true_and, and_false, false_and, or_true, true_or, or_false, false_or, decide_true, decide_false, zb_t, zb_f, zb_0, zb_1, eq_self]

theorem JK_q0 (hx : isx 19 x = false) : JK (d + 5) mX6_some o t n op x A cd0 cd x A cd := fun h q C F => by
  have t8 := C.1.1.1
  have e1 := kX6_takesF (d := d) (j := 19) C.1 C.2.1 (by omega) hx
  have e1 : C_ (d + 4) mX6_takes [.ref o, .ref 29] h = some (some (.int (nI 0)), h) := e1
  refine ⟨h, q, ?_, C, GO_le GO_r (by omega) (by omega), F⟩
  simp (disch := first | assumption | exact nI_ne0 (by decide) (by decide) | exact zb_01 | exact Or.inl rfl | exact Or.inr rfl | with_unfolding_all exact id (by assumption) | with_unfolding_all exact id (xix_8 (by assumption) (by omega) (by omega)) | omega) only [wX6_some_e, wX6_some_0, wX6_some_0q, wX6_some_0n, wX6_some_1, wX6_some_4, wX6_some_4n, wX6_some_4q, wX6_some_5, wX6_some_5q, wX6_some_5n, wX6_some_6, wX6_some_8, wX6_some_11, wX6_some_14, wX6_some_17, wX6_some_18, wX6_some_19, wX6_some_19q, wX6_some_19n, wX6_some_20, wX6_some_20q, wX6_some_20n, wX6_some_21, wX6_some_24, wX6_some_27, wX6_some_27n, wX6_some_27q, wX6_some_28, wX6_some_31, wX6_some_31q, wX6_some_31n, wX6_some_32, wX6_some_32n, wX6_some_32q, if_true, if_false, ↓reduceIte, xpu_s, xpu_n, Option.bind_some, xk_i, xk_r, xk_0, xk_u, xk_l, xk_k, xk_q, rf_s, rf_n, q_e1, q_e2, Nat.zero_add, Nat.reduceEqDiff, Nat.reduceAdd, Nat.reduceMul, Nat.reduceSub, Nat.reduceLT, Nat.reduceLeDiff, Nat.reduceDiv, Nat.reduceMod, e1, nI_00, not_true_eq_false, not_false_eq_true, and_self, and_true, true_and, and_false, false_and, or_true, true_or, or_false, false_or, decide_true, decide_false, zb_t, zb_f, zb_0, zb_1, eq_self]
theorem JK_q1 (hk : L.2.2.1 = 19) (J : JC (d + 4) mX6_all o t n op (lx t n L.2.1) cd x1 A1 cd1) (h0 : cd0 ≤ cd) (hA : ∀ L', x1 = .inr L' → cd ≤ cd1 ∧ ∀ k, 77 + 2 * cd0 ≤ k → k < 77 + 2 * cd → A1 k = A k) (hx : (lx t n L.2.1).1 < kb n x1) (hy : kb n x1 ≤ kb n x') (N : JK (d + 5) mX6_some o t n op x1 (emA A1 cd1 (nI 19) (nI 0)) cd0 (cd1 + 1) x' A' cd') : JK (d + 5) mX6_some o t n op (.inr L) A cd0 cd x' A' cd' := fun h q C F => by
  have t8 := C.1.1.1
  obtain ⟨f, ef, F⟩ := F L rfl
  have gt := lx_gt C (by omega)
  obtain ⟨h1, e1, C1, G1⟩ := xC_takesT (d := d) (j := 19) C (by omega) hk
  have e1 : C_ (d + 4) mX6_takes [.ref o, .ref 29] h = some (some (.int (nI 1)), h1) := e1
  have g0 := G1.1.1
  obtain ⟨l1, l2, l3, l4⟩ := CT_l C1
  obtain ⟨C2, G2⟩ := CT_O (k := 17) (s := 3) C1
  have u2 := C2.1.1.1
  obtain ⟨h3, q2, e3, C3, G3, F3⟩ := J _ C2
  have x2 : oX (pO h1 17 3) = oX h1 + 1 := rfl
  have S3 : sm (pO h1 17 3) h3 (oX h1) := G3.1.2.2.2.2.2 _ (by omega) (by omega)
  have tn : oT h3 (oX h1) = 17 := by rw [S3.1, o_TO, if_pos rfl]
  have rn : oR h3 (oX h1) 1 = none := by rw [S3.2.2.2.1, o_RO, if_pos rfl]
  have I := kX17_init (d := d + 3) (y1 := nI 0) (q1 := q) (q2 := q2) tn (Or.inl rfl)
  obtain ⟨h4, e4⟩ : ∃ h4, h4 = pR (pI h3 (oX h1) (va_up (oI h3 (oX h1)) 0 (nI 0))) (oX h1) (va_up (va_up (oR h3 (oX h1)) 1 q) 2 q2) := ⟨_, rfl⟩
  have C4 : CT h4 o n t op x1 := by rw [e4]; exact CT_p (CT_i C3 (by omega) (by omega)) (by omega) (by omega)
  have G4 : GO o h h4 (0 + 1 + 2 * (kb n x1 - (lx t n L.2.1).1)) (0 + 3 + 6 * (kb n x1 - (lx t n L.2.1).1)) := by rw [e4]; exact GO_p (GO_i (GO_t (GO_t G1 G2) G3) g0) g0 (CT_l C).1
  obtain ⟨h5, q5, e5, C5, G5, F5⟩ := N h4 (some (oX h1)) C4 (fun L' z => ⟨oX h1, rfl, by
    obtain ⟨f2, ef2, F2⟩ := F3 L' z
    obtain ⟨hc, hA⟩ := hA L' z
    have W : ∀ {i j f}, FU h3 (emA A1 cd1 (nI 19) (nI 0)) f i j → FU h4 (emA A1 cd1 (nI 19) (nI 0)) f i j := fun F => FT_w (h := h3) (a := oX h1) (fun b _ _ hb => by rw [e4]; exact sm_R (sm_I sm_refl hb) hb) (Or.inr ⟨tn, rn⟩) F
    have Fa : FU h3 (emA A1 cd1 (nI 19) (nI 0)) f cd0 cd := FU_m (GO_st (GO_t (GO_t G1 G2) G3) C) (fun k k1 k2 => by unfold emA; rw [up_ne (by omega), up_ne (by omega)]; exact hA k k1 k2) F
    have Fb : FU h3 (emA A1 cd1 (nI 19) (nI 0)) f2 cd cd1 := FT_B (fun k k1 k2 => by unfold emA; rw [up_ne (by omega), up_ne (by omega)]) F2
    refine FU_both (f1 := f) (f2 := f2) ?_ ?_ ?_ ?_ (W Fa) (W Fb)
    · rw [e4]
      exact tn
    · rw [e4, o_RR, if_pos rfl, up_ne (by decide), up_s]
      exact ef
    · rw [e4, o_RR, if_pos rfl, up_s]
      exact ef2
    · refine Or.inr ⟨?_, ?_⟩
      · unfold emA
        rw [up_ne (by omega), up_s]
      · rw [e4, o_IR, o_II, if_pos rfl, up_s]⟩)
  refine ⟨h5, q5, Eq.trans ?_ e5, C5, GO_le (GO_t G4 G5) (by show _ ≤ 2 * (kb n x' - L.1); omega) (by show _ ≤ 6 * (kb n x' - L.1); omega), F5⟩
  refine wX6_some_5.trans ?_
  simp (disch := first | assumption | exact nI_ne0 (by decide) (by decide) | exact zb_01 | exact Or.inl rfl | exact Or.inr rfl | with_unfolding_all exact id (by assumption) | with_unfolding_all exact id (xix_8 (by assumption) (by omega) (by omega)) | omega) only [wX6_some_e, wX6_some_0, wX6_some_0q, wX6_some_0n, wX6_some_1, wX6_some_4, wX6_some_4n, wX6_some_4q, wX6_some_6, wX6_some_8, wX6_some_11, wX6_some_14, wX6_some_17, wX6_some_18, wX6_some_19, wX6_some_19q, wX6_some_19n, wX6_some_20, wX6_some_20q, wX6_some_20n, wX6_some_21, wX6_some_24, wX6_some_27, wX6_some_27n, wX6_some_27q, wX6_some_28, wX6_some_31, wX6_some_31q, wX6_some_31n, wX6_some_32, wX6_some_32n, wX6_some_32q, nX6_some_21, nX6_some_24, if_true, if_false, ↓reduceIte, xpu_s, xpu_n, Option.bind_some, xk_i, xk_r, xk_0, xk_u, xk_l, xk_k, xk_q, rf_s, rf_n, q_e1, q_e2, Nat.zero_add, Nat.reduceEqDiff, Nat.reduceAdd, Nat.reduceMul, Nat.reduceSub, Nat.reduceLT, Nat.reduceLeDiff, Nat.reduceDiv, Nat.reduceMod, e1, nI_ne1, e3, I, ← e4, not_true_eq_false, not_false_eq_true, and_self, and_true, true_and, and_false, false_and, or_true, true_or, or_false, false_or, decide_true, decide_false, zb_t, zb_f, zb_0, zb_1, eq_self]
theorem JC_q (J : JC (d + 4) mX6_all o t n op L cd x1 A1 cd1) (N : JK (d + 5) mX6_some o t n op x1 A1 cd cd1 x' A' cd') (hx : L.1 < kb n x1) (hy : kb n x1 ≤ kb n x') : JC (d + 5) mX6_some o t n op L cd x' A' cd' := fun h C => by
  have t8 := C.1.1.1
  obtain ⟨h1, q, e1, C1, G1, F1⟩ := J h C
  obtain ⟨h2, q2, e2, C2, G2, F2⟩ := N h1 q C1 F1
  refine ⟨h2, q2, Eq.trans ?_ e2, C2, GO_le (GO_t G1 G2) (by omega) (by omega), F2⟩
  simp (disch := first | assumption | exact nI_ne0 (by decide) (by decide) | exact zb_01 | exact Or.inl rfl | exact Or.inr rfl | with_unfolding_all exact id (by assumption) | with_unfolding_all exact id (xix_8 (by assumption) (by omega) (by omega)) | omega) only [wX6_some_e, wX6_some_0, wX6_some_0q, wX6_some_0n, wX6_some_1, wX6_some_4, wX6_some_4n, wX6_some_4q, wX6_some_6, wX6_some_8, wX6_some_11, wX6_some_14, wX6_some_17, wX6_some_18, wX6_some_19, wX6_some_19q, wX6_some_19n, wX6_some_20, wX6_some_20q, wX6_some_20n, wX6_some_21, wX6_some_24, wX6_some_27, wX6_some_27n, wX6_some_27q, wX6_some_28, wX6_some_31, wX6_some_31q, wX6_some_31n, wX6_some_32, wX6_some_32n, wX6_some_32q, if_true, if_false, ↓reduceIte, xpu_s, xpu_n, Option.bind_some, xk_i, xk_r, xk_0, xk_u, xk_l, xk_k, xk_q, rf_s, rf_n, q_e1, q_e2, Nat.zero_add, Nat.reduceEqDiff, Nat.reduceAdd, Nat.reduceMul, Nat.reduceSub, Nat.reduceLT, Nat.reduceLeDiff, Nat.reduceDiv, Nat.reduceMod, e1, not_true_eq_false, not_false_eq_true, and_self, and_true, true_and, and_false, false_and, or_true, true_or, or_false, false_or, decide_true, decide_false, zb_t, zb_f, zb_0, zb_1, eq_self]
end
