/-! TEXTS: facts within facts, the second object -/
section
variable {d e : Nat} {h h1 h2 : xH} {P : sS} {n p b k v c j i op lo hi m w cd cd1 cd' : Nat} {t : Nat → Nat} {f g A B A1 A' : rI} {x x1 x' : sX} {L : Nat × Nat × Nat × Nat} {y1 y2 : Int32}
def JM (e : Nat) (m : xM) (t : Nat → Nat) (n op : Nat) (L : Nat × Nat × Nat × Nat) (A : rI) (cd : Nat) (x' : sX) (A' : rI) (cd' : Nat) : Prop := ∀ h, ML h n t (.inr L) op A cd → ∃ h1, C_ e m [.ref 150] h = some (none, h1) ∧ ML h1 n t x' op A' cd' ∧ MD_ h h1
/-- a loop's rest -/
def JN (e : Nat) (m : xM) (t : Nat → Nat) (n op : Nat) (x : sX) (A : rI) (cd : Nat) (x' : sX) (A' : rI) (cd' : Nat) : Prop := ∀ h, ML h n t x op A cd → ∃ h1, E_ e m 4 [.val (.ref 150)] [] h = some (none, h1) ∧ ML h1 n t x' op A' cd' ∧ MD_ h h1
theorem ML_i {q : Nat × Nat} (M : ML h n t (.inl q) op A cd) : ML h n t (.inl q) op B c := ⟨M.1, M.2.1, fun L z => by cases z⟩
theorem JM_not (hk : L.2.2.1 = 21) (h8 : op < 8) (J : JM (d + 3) mX5_readFact t n (op + 1) (lx t n L.2.1) A cd x' A' cd') (hc : ∀ L', x' = .inr L' → cd' < 200) : JM (d + 4) mX5_readFact t n op L A cd x' (emA A' cd' (nI 21) (nI 0)) (cd' + 1) := fun h M => by
  have H := M.1.1.1
  obtain ⟨h1, e1, M1, G1⟩ := kX5_open (d := d + 1) M (Or.inl hk) h8
  have p1 := (MD_x G1 H).1
  obtain ⟨h2, e2, M2, G2⟩ := J h1 M1
  have p2 := (MD_x (MD_t G1 G2) H).1
  obtain ⟨M3, G3⟩ := ML_d (c := op) M2
  obtain ⟨h3, hh3⟩ : ∃ h3, h3 = pI h2 150 (va_up (oI h2 150) 14 (nI op)) := ⟨_, rfl⟩
  rw [← hh3] at M3 G3
  have p3 : oT h3 150 = 7 := by rw [hh3]; exact p2
  have e21 : (nI L.2.2.1 = nI 21) = True := by rw [hk]; exact eq_true rfl
  have e32 : (nI L.2.2.1 = nI 32) = False := by rw [hk]; exact eq_false (by decide)
  have m14 := M2.2.1
  have s1 : nI (op + 1) - nI 1 = nI op := pk_sub (by omega)
  refine e1 ▸ ?_
  rcases sX_inr x' with ⟨q, eq⟩ | ⟨L', eq⟩
  · subst eq
    have g3 := MS_inl M3.1
    refine ⟨h3, ?_, ML_i M3, MD_t G1 (MD_t G2 G3)⟩
    simp (disch := first | exact p1 | exact p2 | exact p3 | first | assumption | exact nI_ne0 (by decide) (by decide) | exact zb_01 | exact Or.inl rfl | exact Or.inr rfl | with_unfolding_all exact id (by assumption) | with_unfolding_all exact id (xix_8 (by assumption) (by omega) (by omega)) | omega) only [wX5_readFact_e, wX5_readFact_0, wX5_readFact_1, wX5_readFact_4, wX5_readFact_7, wX5_readFact_8, wX5_readFact_9, wX5_readFact_12, wX5_readFact_13, wX5_readFact_14, wX5_readFact_16, wX5_readFact_19, wX5_readFact_20, wX5_readFact_22, wX5_readFact_25, wX5_readFact_26, wX5_readFact_29, wX5_readFact_31, wX5_readFact_34, wX5_readFact_35, wX5_readFact_36, wX5_readFact_39, wX5_readFact_40, wX5_readFact_43, wX5_readFact_46, wX5_readFact_47, wX5_readFact_48, wX5_readFact_51, wX5_readFact_52, wX5_readFact_53, wX5_readFact_56, wX5_readFact_57, wX5_readFact_58, wX5_readFact_61, wX5_readFact_62, wX5_readFact_64, wX5_readFact_67, wX5_readFact_68, wX5_readFact_71, wX5_readFact_74, wX5_readFact_75, wX5_readFact_78, wX5_readFact_79, wX5_readFact_80, wX5_readFact_83, wX5_readFact_84, wX5_readFact_85, wX5_readFact_88, wX5_readFact_89, wX5_readFact_91, wX5_readFact_94, wX5_readFact_95, wX5_readFact_97, wX5_readFact_100, wX5_readFact_103, wX5_readFact_104, wX5_readFact_107, wX5_readFact_110, wX5_readFact_111, wX5_readFact_113, wX5_readFact_114, wX5_readFact_117, wX5_readFact_118, wX5_readFact_119, wX5_readFact_120, wX5_readFact_123, wX5_readFact_124, wX5_readFact_125, wX5_readFact_128, wX5_readFact_131, wX5_readFact_134, wX5_readFact_137, wX5_readFact_138, wX5_readFact_139, wX5_readFact_142, wX5_readFact_145, wX5_readFact_148, wX5_readFact_151, wX5_readFact_152, wX5_readFact_153, wX5_readFact_156, wX5_readFact_157, wX5_readFact_160, wX5_readFact_163, wX5_readFact_164, wX5_readFact_165, wX5_readFact_168, wX5_readFact_169, wX5_readFact_170, wX5_readFact_173, wX5_readFact_174, wX5_readFact_175, wX5_readFact_178, wX5_readFact_181, wX5_readFact_184, wX5_readFact_187, wX5_readFact_188, wX5_readFact_189, wX5_readFact_192, wX5_readFact_195, wX5_readFact_198, wX5_readFact_199, wX5_readFact_200, wX5_readFact_201, wX5_readFact_204, wX5_readFact_207, wX5_readFact_208, wX5_readFact_209, wX5_readFact_210, wX5_readFact_213, if_true, if_false, ↓reduceIte, xpu_s, xpu_n, Option.bind_some, xk_i, xk_r, xk_0, xk_u, xk_l, xk_k, xk_q, rf_s, rf_n, q_e1, q_e2, Nat.zero_add, Nat.reduceEqDiff, Nat.reduceAdd, Nat.reduceMul, Nat.reduceSub, Nat.reduceLT, Nat.reduceLeDiff, Nat.reduceDiv, Nat.reduceMod, e21, e32, e2, m14, s1, ← hh3, g3, not_true_eq_false, not_false_eq_true, and_self, and_true, true_and, and_false, false_and, or_true, true_or, or_false, false_or, decide_true, decide_false, zb_t, zb_f, zb_0, zb_1, eq_self]
  · subst eq
    have g3 := MS_inr M3.1
    obtain ⟨h4, e4, M4, G4⟩ := kX5_emit (d := d + 3) (y1 := nI 21) (y2 := nI 0) M3 (hc L' rfl)
    refine ⟨h4, ?_, M4, MD_t G1 (MD_t G2 (MD_t G3 G4))⟩
    simp (disch := first | exact p1 | exact p2 | exact p3 | first | assumption | exact nI_ne0 (by decide) (by decide) | exact zb_01 | exact Or.inl rfl | exact Or.inr rfl | with_unfolding_all exact id (by assumption) | with_unfolding_all exact id (xix_8 (by assumption) (by omega) (by omega)) | omega) only [wX5_readFact_e, wX5_readFact_0, wX5_readFact_1, wX5_readFact_4, wX5_readFact_7, wX5_readFact_8, wX5_readFact_9, wX5_readFact_12, wX5_readFact_13, wX5_readFact_14, wX5_readFact_16, wX5_readFact_19, wX5_readFact_20, wX5_readFact_22, wX5_readFact_25, wX5_readFact_26, wX5_readFact_29, wX5_readFact_31, wX5_readFact_34, wX5_readFact_35, wX5_readFact_36, wX5_readFact_39, wX5_readFact_40, wX5_readFact_43, wX5_readFact_46, wX5_readFact_47, wX5_readFact_48, wX5_readFact_51, wX5_readFact_52, wX5_readFact_53, wX5_readFact_56, wX5_readFact_57, wX5_readFact_58, wX5_readFact_61, wX5_readFact_62, wX5_readFact_64, wX5_readFact_67, wX5_readFact_68, wX5_readFact_71, wX5_readFact_74, wX5_readFact_75, wX5_readFact_78, wX5_readFact_79, wX5_readFact_80, wX5_readFact_83, wX5_readFact_84, wX5_readFact_85, wX5_readFact_88, wX5_readFact_89, wX5_readFact_91, wX5_readFact_94, wX5_readFact_95, wX5_readFact_97, wX5_readFact_100, wX5_readFact_103, wX5_readFact_104, wX5_readFact_107, wX5_readFact_110, wX5_readFact_111, wX5_readFact_113, wX5_readFact_114, wX5_readFact_117, wX5_readFact_118, wX5_readFact_119, wX5_readFact_120, wX5_readFact_123, wX5_readFact_124, wX5_readFact_125, wX5_readFact_128, wX5_readFact_131, wX5_readFact_134, wX5_readFact_137, wX5_readFact_138, wX5_readFact_139, wX5_readFact_142, wX5_readFact_145, wX5_readFact_148, wX5_readFact_151, wX5_readFact_152, wX5_readFact_153, wX5_readFact_156, wX5_readFact_157, wX5_readFact_160, wX5_readFact_163, wX5_readFact_164, wX5_readFact_165, wX5_readFact_168, wX5_readFact_169, wX5_readFact_170, wX5_readFact_173, wX5_readFact_174, wX5_readFact_175, wX5_readFact_178, wX5_readFact_181, wX5_readFact_184, wX5_readFact_187, wX5_readFact_188, wX5_readFact_189, wX5_readFact_192, wX5_readFact_195, wX5_readFact_198, wX5_readFact_199, wX5_readFact_200, wX5_readFact_201, wX5_readFact_204, wX5_readFact_207, wX5_readFact_208, wX5_readFact_209, wX5_readFact_210, wX5_readFact_213, if_true, if_false, ↓reduceIte, xpu_s, xpu_n, Option.bind_some, xk_i, xk_r, xk_0, xk_u, xk_l, xk_k, xk_q, rf_s, rf_n, q_e1, q_e2, Nat.zero_add, Nat.reduceEqDiff, Nat.reduceAdd, Nat.reduceMul, Nat.reduceSub, Nat.reduceLT, Nat.reduceLeDiff, Nat.reduceDiv, Nat.reduceMod, e21, e32, e2, m14, s1, ← hh3, g3, e4, not_true_eq_false, not_false_eq_true, and_self, and_true, true_and, and_false, false_and, or_true, true_or, or_false, false_or, decide_true, decide_false, zb_t, zb_f, zb_0, zb_1, eq_self]
theorem JM_par (hk : L.2.2.1 = 32) (h8 : op < 8) (J : JM (d + 3) mX5_readTest t n (op + 1) (lx t n L.2.1) A cd x' A' cd') : JM (d + 4) mX5_readFact t n op L A cd (ndx t n 33 x') A' cd' := fun h M => by
  have H := M.1.1.1
  obtain ⟨h1, e1, M1, G1⟩ := kX5_open (d := d + 1) M (Or.inr hk) h8
  have p1 := (MD_x G1 H).1
  obtain ⟨h2, e2, M2, G2⟩ := J h1 M1
  have p2 := (MD_x (MD_t G1 G2) H).1
  obtain ⟨M3, G3⟩ := ML_d (c := op) M2
  obtain ⟨h3, hh3⟩ : ∃ h3, h3 = pI h2 150 (va_up (oI h2 150) 14 (nI op)) := ⟨_, rfl⟩
  rw [← hh3] at M3 G3
  have p3 : oT h3 150 = 7 := by rw [hh3]; exact p2
  have e21 : (nI L.2.2.1 = nI 21) = False := by rw [hk]; exact eq_false (by decide)
  have e32 : (nI L.2.2.1 = nI 32) = True := by rw [hk]; exact eq_true rfl
  have m14 := M2.2.1
  have s1 : nI (op + 1) - nI 1 = nI op := pk_sub (by omega)
  obtain ⟨h4, e4, M4, G4, k4⟩ := xM_needs (d := d) (j := 33) M3.1 (by omega)
  have N4 : ML h4 n t (ndx t n 33 x') op A' cd' := ML_F M3 M4 G4 k4 fun L' z => ndx_r z
  refine ⟨h4, e1.trans ?_, N4, MD_t G1 (MD_t G2 (MD_t G3 (MD_F G4)))⟩
  simp (disch := first | exact p1 | exact p2 | exact p3 | first | assumption | exact nI_ne0 (by decide) (by decide) | exact zb_01 | exact Or.inl rfl | exact Or.inr rfl | with_unfolding_all exact id (by assumption) | with_unfolding_all exact id (xix_8 (by assumption) (by omega) (by omega)) | omega) only [wX5_readFact_e, wX5_readFact_0, wX5_readFact_1, wX5_readFact_4, wX5_readFact_7, wX5_readFact_8, wX5_readFact_9, wX5_readFact_12, wX5_readFact_13, wX5_readFact_14, wX5_readFact_16, wX5_readFact_19, wX5_readFact_20, wX5_readFact_22, wX5_readFact_25, wX5_readFact_26, wX5_readFact_29, wX5_readFact_31, wX5_readFact_34, wX5_readFact_35, wX5_readFact_36, wX5_readFact_39, wX5_readFact_40, wX5_readFact_43, wX5_readFact_46, wX5_readFact_47, wX5_readFact_48, wX5_readFact_51, wX5_readFact_52, wX5_readFact_53, wX5_readFact_56, wX5_readFact_57, wX5_readFact_58, wX5_readFact_61, wX5_readFact_62, wX5_readFact_64, wX5_readFact_67, wX5_readFact_68, wX5_readFact_71, wX5_readFact_74, wX5_readFact_75, wX5_readFact_78, wX5_readFact_79, wX5_readFact_80, wX5_readFact_83, wX5_readFact_84, wX5_readFact_85, wX5_readFact_88, wX5_readFact_89, wX5_readFact_91, wX5_readFact_94, wX5_readFact_95, wX5_readFact_97, wX5_readFact_100, wX5_readFact_103, wX5_readFact_104, wX5_readFact_107, wX5_readFact_110, wX5_readFact_111, wX5_readFact_113, wX5_readFact_114, wX5_readFact_117, wX5_readFact_118, wX5_readFact_119, wX5_readFact_120, wX5_readFact_123, wX5_readFact_124, wX5_readFact_125, wX5_readFact_128, wX5_readFact_131, wX5_readFact_134, wX5_readFact_137, wX5_readFact_138, wX5_readFact_139, wX5_readFact_142, wX5_readFact_145, wX5_readFact_148, wX5_readFact_151, wX5_readFact_152, wX5_readFact_153, wX5_readFact_156, wX5_readFact_157, wX5_readFact_160, wX5_readFact_163, wX5_readFact_164, wX5_readFact_165, wX5_readFact_168, wX5_readFact_169, wX5_readFact_170, wX5_readFact_173, wX5_readFact_174, wX5_readFact_175, wX5_readFact_178, wX5_readFact_181, wX5_readFact_184, wX5_readFact_187, wX5_readFact_188, wX5_readFact_189, wX5_readFact_192, wX5_readFact_195, wX5_readFact_198, wX5_readFact_199, wX5_readFact_200, wX5_readFact_201, wX5_readFact_204, wX5_readFact_207, wX5_readFact_208, wX5_readFact_209, wX5_readFact_210, wX5_readFact_213, if_true, if_false, ↓reduceIte, xpu_s, xpu_n, Option.bind_some, xk_i, xk_r, xk_0, xk_u, xk_l, xk_k, xk_q, rf_s, rf_n, q_e1, q_e2, Nat.zero_add, Nat.reduceEqDiff, Nat.reduceAdd, Nat.reduceMul, Nat.reduceSub, Nat.reduceLT, Nat.reduceLeDiff, Nat.reduceDiv, Nat.reduceMod, e21, e32, e2, m14, s1, ← hh3, e4, not_true_eq_false, not_false_eq_true, and_self, and_true, true_and, and_false, false_and, or_true, true_or, or_false, false_or, decide_true, decide_false, zb_t, zb_f, zb_0, zb_1, eq_self]
theorem JM_leaf (hc : cd < 200) (h21 : ¬ L.2.2.1 = 21) (h32 : ¬ L.2.2.1 = 32) : JM (d + 3) mX5_readFact t n op L A cd (lfx t n L) (emA A cd (nI L.2.2.1) (nI (lfv t n L))) (cd + 1) := fun _ M => kX5_leaf M hc h21 h32
theorem JM_deep (hk : L.2.2.1 = 21 ∨ L.2.2.1 = 32) (h8 : op = 8) : JM (d + 3) mX5_readFact t n op L A cd (flx 5 (.inr L)) A cd := fun _ M => kX5_deep M hk h8

theorem JN_p0 (hx : isx 20 x = false) : JN (d + 3) mX5_readPart t n op x A cd x A cd := fun h M => by
  have t1 : oT h 150 = 7 := mok_t M.1.1.1 rfl
  have e1 := kX5_eatsF (d := d) (j := 20) M.1 (by omega) hx
  refine ⟨h, ?_, M, MD_r⟩
  simp (disch := first | exact t1 | first | assumption | exact nI_ne0 (by decide) (by decide) | exact zb_01 | exact Or.inl rfl | exact Or.inr rfl | with_unfolding_all exact id (by assumption) | with_unfolding_all exact id (xix_8 (by assumption) (by omega) (by omega)) | omega) only [wX5_readPart_e, wX5_readPart_0, wX5_readPart_1, wX5_readPart_4, wX5_readPart_5, wX5_readPart_7, wX5_readPart_10, wX5_readPart_13, wX5_readPart_14, wX5_readPart_17, wX5_readPart_18, wX5_readPart_21, wX5_readPart_24, wX5_readPart_25, wX5_readPart_27, wX5_readPart_28, wX5_readPart_31, wX5_readPart_34, if_true, if_false, ↓reduceIte, xpu_s, xpu_n, Option.bind_some, xk_i, xk_r, xk_0, xk_u, xk_l, xk_k, xk_q, rf_s, rf_n, q_e1, q_e2, Nat.zero_add, Nat.reduceEqDiff, Nat.reduceAdd, Nat.reduceMul, Nat.reduceSub, Nat.reduceLT, Nat.reduceLeDiff, Nat.reduceDiv, Nat.reduceMod, e1, nI_00, not_true_eq_false, not_false_eq_true, and_self, and_true, true_and, and_false, false_and, or_true, true_or, or_false, false_or, decide_true, decide_false, zb_t, zb_f, zb_0, zb_1, eq_self]
theorem JN_p1 (hk : L.2.2.1 = 20) (J : JM (d + 2) mX5_readFact t n op (lx t n L.2.1) A cd x1 A1 cd1) (hc : ∀ L', x1 = .inr L' → cd1 < 200) (N : JN (d + 3) mX5_readPart t n op x1 (emA A1 cd1 (nI 20) (nI 0)) (cd1 + 1) x' A' cd') : JN (d + 3) mX5_readPart t n op (.inr L) A cd x' A' cd' := fun h M => by
  have H := M.1.1.1
  have t1 : oT h 150 = 7 := mok_t H rfl
  obtain ⟨h1, e1, M1, G1, k1⟩ := xM_eatsT (d := d) (j := 20) M.1 (by omega) hk
  have N1 : ML h1 n t (.inr (lx t n L.2.1)) op A cd := ML_F M M1 G1 k1 fun _ _ => ⟨L, rfl⟩
  have p1 := (MF_x G1 H).1
  obtain ⟨h2, e2, M2, G2⟩ := J h1 N1
  have p2 := (MD_x (MD_t (MD_F G1) G2) H).1
  rcases sX_inr x1 with ⟨q, eq⟩ | ⟨L', eq⟩
  · subst eq
    have g2 := MS_inl M2.1
    obtain ⟨h3, e3, M3, G3⟩ := N h2 (ML_i M2)
    refine ⟨h3, Eq.trans ?_ e3, M3, MD_t (MD_F G1) (MD_t G2 G3)⟩
    refine wX5_readPart_4.trans ?_
    simp (disch := first | exact t1 | exact p1 | exact p2 | first | assumption | exact nI_ne0 (by decide) (by decide) | exact zb_01 | exact Or.inl rfl | exact Or.inr rfl | with_unfolding_all exact id (by assumption) | with_unfolding_all exact id (xix_8 (by assumption) (by omega) (by omega)) | omega) only [wX5_readPart_e, wX5_readPart_0, wX5_readPart_1, wX5_readPart_5, wX5_readPart_7, wX5_readPart_10, wX5_readPart_13, wX5_readPart_14, wX5_readPart_17, wX5_readPart_18, wX5_readPart_21, wX5_readPart_24, wX5_readPart_25, wX5_readPart_27, wX5_readPart_28, wX5_readPart_31, wX5_readPart_34, if_true, if_false, ↓reduceIte, xpu_s, xpu_n, Option.bind_some, xk_i, xk_r, xk_0, xk_u, xk_l, xk_k, xk_q, rf_s, rf_n, q_e1, q_e2, Nat.zero_add, Nat.reduceEqDiff, Nat.reduceAdd, Nat.reduceMul, Nat.reduceSub, Nat.reduceLT, Nat.reduceLeDiff, Nat.reduceDiv, Nat.reduceMod, e1, e2, g2, nI_ne1, not_true_eq_false, not_false_eq_true, and_self, and_true, true_and, and_false, false_and, or_true, true_or, or_false, false_or, decide_true, decide_false, zb_t, zb_f, zb_0, zb_1, eq_self]
  · subst eq
    have g2 := MS_inr M2.1
    obtain ⟨h4, e4, M4, G4⟩ := kX5_emit (d := d + 2) (y1 := nI 20) (y2 := nI 0) M2 (hc L' rfl)
    obtain ⟨h3, e3, M3, G3⟩ := N h4 M4
    refine ⟨h3, Eq.trans ?_ e3, M3, MD_t (MD_F G1) (MD_t G2 (MD_t G4 G3))⟩
    refine wX5_readPart_4.trans ?_
    simp (disch := first | exact t1 | exact p1 | exact p2 | first | assumption | exact nI_ne0 (by decide) (by decide) | exact zb_01 | exact Or.inl rfl | exact Or.inr rfl | with_unfolding_all exact id (by assumption) | with_unfolding_all exact id (xix_8 (by assumption) (by omega) (by omega)) | omega) only [wX5_readPart_e, wX5_readPart_0, wX5_readPart_1, wX5_readPart_5, wX5_readPart_7, wX5_readPart_10, wX5_readPart_13, wX5_readPart_14, wX5_readPart_17, wX5_readPart_18, wX5_readPart_21, wX5_readPart_24, wX5_readPart_25, wX5_readPart_27, wX5_readPart_28, wX5_readPart_31, wX5_readPart_34, if_true, if_false, ↓reduceIte, xpu_s, xpu_n, Option.bind_some, xk_i, xk_r, xk_0, xk_u, xk_l, xk_k, xk_q, rf_s, rf_n, q_e1, q_e2, Nat.zero_add, Nat.reduceEqDiff, Nat.reduceAdd, Nat.reduceMul, Nat.reduceSub, Nat.reduceLT, Nat.reduceLeDiff, Nat.reduceDiv, Nat.reduceMod, e1, e2, g2, e4, nI_ne1, not_true_eq_false, not_false_eq_true, and_self, and_true, true_and, and_false, false_and, or_true, true_or, or_false, false_or, decide_true, decide_false, zb_t, zb_f, zb_0, zb_1, eq_self]
theorem JM_p (J : JM (d + 2) mX5_readFact t n op L A cd x1 A1 cd1) (N : JN (d + 3) mX5_readPart t n op x1 A1 cd1 x' A' cd') : JM (d + 3) mX5_readPart t n op L A cd x' A' cd' := fun h M => by
  have t1 : oT h 150 = 7 := mok_t M.1.1.1 rfl
  obtain ⟨h1, e1, M1, G1⟩ := J h M
  obtain ⟨h2, e2, M2, G2⟩ := N h1 M1
  refine ⟨h2, Eq.trans ?_ e2, M2, MD_t G1 G2⟩
  simp (disch := first | assumption | exact nI_ne0 (by decide) (by decide) | exact zb_01 | exact Or.inl rfl | exact Or.inr rfl | with_unfolding_all exact id (by assumption) | with_unfolding_all exact id (xix_8 (by assumption) (by omega) (by omega)) | omega) only [wX5_readPart_e, wX5_readPart_0, wX5_readPart_1, wX5_readPart_5, wX5_readPart_7, wX5_readPart_10, wX5_readPart_13, wX5_readPart_14, wX5_readPart_17, wX5_readPart_18, wX5_readPart_21, wX5_readPart_24, wX5_readPart_25, wX5_readPart_27, wX5_readPart_28, wX5_readPart_31, wX5_readPart_34, if_true, if_false, ↓reduceIte, xpu_s, xpu_n, Option.bind_some, xk_i, xk_r, xk_0, xk_u, xk_l, xk_k, xk_q, rf_s, rf_n, q_e1, q_e2, Nat.zero_add, Nat.reduceEqDiff, Nat.reduceAdd, Nat.reduceMul, Nat.reduceSub, Nat.reduceLT, Nat.reduceLeDiff, Nat.reduceDiv, Nat.reduceMod, e1, not_true_eq_false, not_false_eq_true, and_self, and_true, true_and, and_false, false_and, or_true, true_or, or_false, false_or, decide_true, decide_false, zb_t, zb_f, zb_0, zb_1, eq_self]

theorem JN_q0 (hx : isx 19 x = false) : JN (d + 3) mX5_readTest t n op x A cd x A cd := fun h M => by
  have t1 : oT h 150 = 7 := mok_t M.1.1.1 rfl
  have e1 := kX5_eatsF (d := d) (j := 19) M.1 (by omega) hx
  refine ⟨h, ?_, M, MD_r⟩
  simp (disch := first | exact t1 | first | assumption | exact nI_ne0 (by decide) (by decide) | exact zb_01 | exact Or.inl rfl | exact Or.inr rfl | with_unfolding_all exact id (by assumption) | with_unfolding_all exact id (xix_8 (by assumption) (by omega) (by omega)) | omega) only [wX5_readTest_e, wX5_readTest_0, wX5_readTest_1, wX5_readTest_4, wX5_readTest_5, wX5_readTest_7, wX5_readTest_10, wX5_readTest_13, wX5_readTest_14, wX5_readTest_17, wX5_readTest_18, wX5_readTest_21, wX5_readTest_24, wX5_readTest_25, wX5_readTest_27, wX5_readTest_28, wX5_readTest_31, wX5_readTest_34, if_true, if_false, ↓reduceIte, xpu_s, xpu_n, Option.bind_some, xk_i, xk_r, xk_0, xk_u, xk_l, xk_k, xk_q, rf_s, rf_n, q_e1, q_e2, Nat.zero_add, Nat.reduceEqDiff, Nat.reduceAdd, Nat.reduceMul, Nat.reduceSub, Nat.reduceLT, Nat.reduceLeDiff, Nat.reduceDiv, Nat.reduceMod, e1, nI_00, not_true_eq_false, not_false_eq_true, and_self, and_true, true_and, and_false, false_and, or_true, true_or, or_false, false_or, decide_true, decide_false, zb_t, zb_f, zb_0, zb_1, eq_self]
theorem JN_q1 (hk : L.2.2.1 = 19) (J : JM (d + 2) mX5_readPart t n op (lx t n L.2.1) A cd x1 A1 cd1) (hc : ∀ L', x1 = .inr L' → cd1 < 200) (N : JN (d + 3) mX5_readTest t n op x1 (emA A1 cd1 (nI 19) (nI 0)) (cd1 + 1) x' A' cd') : JN (d + 3) mX5_readTest t n op (.inr L) A cd x' A' cd' := fun h M => by
  have H := M.1.1.1
  have t1 : oT h 150 = 7 := mok_t H rfl
  obtain ⟨h1, e1, M1, G1, k1⟩ := xM_eatsT (d := d) (j := 19) M.1 (by omega) hk
  have N1 : ML h1 n t (.inr (lx t n L.2.1)) op A cd := ML_F M M1 G1 k1 fun _ _ => ⟨L, rfl⟩
  have p1 := (MF_x G1 H).1
  obtain ⟨h2, e2, M2, G2⟩ := J h1 N1
  have p2 := (MD_x (MD_t (MD_F G1) G2) H).1
  rcases sX_inr x1 with ⟨q, eq⟩ | ⟨L', eq⟩
  · subst eq
    have g2 := MS_inl M2.1
    obtain ⟨h3, e3, M3, G3⟩ := N h2 (ML_i M2)
    refine ⟨h3, Eq.trans ?_ e3, M3, MD_t (MD_F G1) (MD_t G2 G3)⟩
    refine wX5_readTest_4.trans ?_
    simp (disch := first | exact t1 | exact p1 | exact p2 | first | assumption | exact nI_ne0 (by decide) (by decide) | exact zb_01 | exact Or.inl rfl | exact Or.inr rfl | with_unfolding_all exact id (by assumption) | with_unfolding_all exact id (xix_8 (by assumption) (by omega) (by omega)) | omega) only [wX5_readTest_e, wX5_readTest_0, wX5_readTest_1, wX5_readTest_5, wX5_readTest_7, wX5_readTest_10, wX5_readTest_13, wX5_readTest_14, wX5_readTest_17, wX5_readTest_18, wX5_readTest_21, wX5_readTest_24, wX5_readTest_25, wX5_readTest_27, wX5_readTest_28, wX5_readTest_31, wX5_readTest_34, if_true, if_false, ↓reduceIte, xpu_s, xpu_n, Option.bind_some, xk_i, xk_r, xk_0, xk_u, xk_l, xk_k, xk_q, rf_s, rf_n, q_e1, q_e2, Nat.zero_add, Nat.reduceEqDiff, Nat.reduceAdd, Nat.reduceMul, Nat.reduceSub, Nat.reduceLT, Nat.reduceLeDiff, Nat.reduceDiv, Nat.reduceMod, e1, e2, g2, nI_ne1, not_true_eq_false, not_false_eq_true, and_self, and_true, true_and, and_false, false_and, or_true, true_or, or_false, false_or, decide_true, decide_false, zb_t, zb_f, zb_0, zb_1, eq_self]
  · subst eq
    have g2 := MS_inr M2.1
    obtain ⟨h4, e4, M4, G4⟩ := kX5_emit (d := d + 2) (y1 := nI 19) (y2 := nI 0) M2 (hc L' rfl)
    obtain ⟨h3, e3, M3, G3⟩ := N h4 M4
    refine ⟨h3, Eq.trans ?_ e3, M3, MD_t (MD_F G1) (MD_t G2 (MD_t G4 G3))⟩
    refine wX5_readTest_4.trans ?_
    simp (disch := first | exact t1 | exact p1 | exact p2 | first | assumption | exact nI_ne0 (by decide) (by decide) | exact zb_01 | exact Or.inl rfl | exact Or.inr rfl | with_unfolding_all exact id (by assumption) | with_unfolding_all exact id (xix_8 (by assumption) (by omega) (by omega)) | omega) only [wX5_readTest_e, wX5_readTest_0, wX5_readTest_1, wX5_readTest_5, wX5_readTest_7, wX5_readTest_10, wX5_readTest_13, wX5_readTest_14, wX5_readTest_17, wX5_readTest_18, wX5_readTest_21, wX5_readTest_24, wX5_readTest_25, wX5_readTest_27, wX5_readTest_28, wX5_readTest_31, wX5_readTest_34, if_true, if_false, ↓reduceIte, xpu_s, xpu_n, Option.bind_some, xk_i, xk_r, xk_0, xk_u, xk_l, xk_k, xk_q, rf_s, rf_n, q_e1, q_e2, Nat.zero_add, Nat.reduceEqDiff, Nat.reduceAdd, Nat.reduceMul, Nat.reduceSub, Nat.reduceLT, Nat.reduceLeDiff, Nat.reduceDiv, Nat.reduceMod, e1, e2, g2, e4, nI_ne1, not_true_eq_false, not_false_eq_true, and_self, and_true, true_and, and_false, false_and, or_true, true_or, or_false, false_or, decide_true, decide_false, zb_t, zb_f, zb_0, zb_1, eq_self]
theorem JM_q (J : JM (d + 2) mX5_readPart t n op L A cd x1 A1 cd1) (N : JN (d + 3) mX5_readTest t n op x1 A1 cd1 x' A' cd') : JM (d + 3) mX5_readTest t n op L A cd x' A' cd' := fun h M => by
  have t1 : oT h 150 = 7 := mok_t M.1.1.1 rfl
  obtain ⟨h1, e1, M1, G1⟩ := J h M
  obtain ⟨h2, e2, M2, G2⟩ := N h1 M1
  refine ⟨h2, Eq.trans ?_ e2, M2, MD_t G1 G2⟩
  simp (disch := first | assumption | exact nI_ne0 (by decide) (by decide) | exact zb_01 | exact Or.inl rfl | exact Or.inr rfl | with_unfolding_all exact id (by assumption) | with_unfolding_all exact id (xix_8 (by assumption) (by omega) (by omega)) | omega) only [wX5_readTest_e, wX5_readTest_0, wX5_readTest_1, wX5_readTest_5, wX5_readTest_7, wX5_readTest_10, wX5_readTest_13, wX5_readTest_14, wX5_readTest_17, wX5_readTest_18, wX5_readTest_21, wX5_readTest_24, wX5_readTest_25, wX5_readTest_27, wX5_readTest_28, wX5_readTest_31, wX5_readTest_34, if_true, if_false, ↓reduceIte, xpu_s, xpu_n, Option.bind_some, xk_i, xk_r, xk_0, xk_u, xk_l, xk_k, xk_q, rf_s, rf_n, q_e1, q_e2, Nat.zero_add, Nat.reduceEqDiff, Nat.reduceAdd, Nat.reduceMul, Nat.reduceSub, Nat.reduceLT, Nat.reduceLeDiff, Nat.reduceDiv, Nat.reduceMod, e1, not_true_eq_false, not_false_eq_true, and_self, and_true, true_and, and_false, false_and, or_true, true_or, or_false, false_or, decide_true, decide_false, zb_t, zb_f, zb_0, zb_1, eq_self]
end
