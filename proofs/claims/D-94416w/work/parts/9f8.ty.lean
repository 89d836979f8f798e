/-! TEXTS: a line of a law, the second object -/
section
variable {d e : Nat} {h h1 h2 h3 h4 : xH} {P : sS} {X o n p b k v c j i op lo hi m w a u cd cd0 cd1 cd' : Nat} {t : Nat → Nat} {f g A B A1 A' : rI} {x x1 x' : sX} {L L' L1 L2 : Nat × Nat × Nat × Nat} {y1 y2 : Int32}
def ll0 (t : Nat → Nat) (n m : Nat) (L : Nat × Nat × Nat × Nat) : sX := if L.2.2.1 = 17 then spx t n (decide (m = 12)) (.inr L) else flx 2 (.inr L)
def ll2 (t : Nat → Nat) (n m : Nat) (L : Nat × Nat × Nat × Nat) : sX := ndx t n 18 (nbx t n 0 100 (ll0 t n m L))
/-- the numbers ahead of a test, behind it -/
def llB (A : rI) (m v cd : Nat) : rI := va_up (va_up A (41 + m) (nI v)) (53 + m) (nI cd)
def llE (A : rI) (m cd : Nat) : rI := va_up (va_up A (65 + m) (nI cd)) 40 (nI (m + 1))
theorem kX5_test_i {q : Nat × Nat} (M : MS h n t (.inl q)) : C_ (d + 4) mX5_readTest [.ref 150] h = some (none, h) := by
  have t1 : oT h 150 = 7 := mok_t M.1.1 rfl
  have f12 := MS_inl M
  have e1 : C_ (d + 2) mX5_readFact [.ref 150] h = some (none, h) := by
    simp (disch := first | exact t1 | first | assumption | exact nI_ne0 (by decide) (by decide) | exact zb_01 | exact Or.inl rfl | exact Or.inr rfl | with_unfolding_all exact id (by assumption) | with_unfolding_all exact id (xix_8 (by assumption) (by omega) (by omega)) | omega) only [wX5_readFact_e, wX5_readFact_0, wX5_readFact_1, wX5_readFact_4, wX5_readFact_7, wX5_readFact_8, wX5_readFact_9, wX5_readFact_12, wX5_readFact_13, wX5_readFact_14, wX5_readFact_16, wX5_readFact_19, wX5_readFact_20, wX5_readFact_22, wX5_readFact_25, wX5_readFact_26, wX5_readFact_29, wX5_readFact_31, wX5_readFact_34, wX5_readFact_35, wX5_readFact_36, wX5_readFact_39, wX5_readFact_40, wX5_readFact_43, wX5_readFact_46, wX5_readFact_47, wX5_readFact_48, wX5_readFact_51, wX5_readFact_52, wX5_readFact_53, wX5_readFact_56, wX5_readFact_57, wX5_readFact_58, wX5_readFact_61, wX5_readFact_62, wX5_readFact_64, wX5_readFact_67, wX5_readFact_68, wX5_readFact_71, wX5_readFact_74, wX5_readFact_75, wX5_readFact_78, wX5_readFact_79, wX5_readFact_80, wX5_readFact_83, wX5_readFact_84, wX5_readFact_85, wX5_readFact_88, wX5_readFact_89, wX5_readFact_91, wX5_readFact_94, wX5_readFact_95, wX5_readFact_97, wX5_readFact_100, wX5_readFact_103, wX5_readFact_104, wX5_readFact_107, wX5_readFact_110, wX5_readFact_111, wX5_readFact_113, wX5_readFact_114, wX5_readFact_117, wX5_readFact_118, wX5_readFact_119, wX5_readFact_120, wX5_readFact_123, wX5_readFact_124, wX5_readFact_125, wX5_readFact_128, wX5_readFact_131, wX5_readFact_134, wX5_readFact_137, wX5_readFact_138, wX5_readFact_139, wX5_readFact_142, wX5_readFact_145, wX5_readFact_148, wX5_readFact_151, wX5_readFact_152, wX5_readFact_153, wX5_readFact_156, wX5_readFact_157, wX5_readFact_160, wX5_readFact_163, wX5_readFact_164, wX5_readFact_165, wX5_readFact_168, wX5_readFact_169, wX5_readFact_170, wX5_readFact_173, wX5_readFact_174, wX5_readFact_175, wX5_readFact_178, wX5_readFact_181, wX5_readFact_184, wX5_readFact_187, wX5_readFact_188, wX5_readFact_189, wX5_readFact_192, wX5_readFact_195, wX5_readFact_198, wX5_readFact_199, wX5_readFact_200, wX5_readFact_201, wX5_readFact_204, wX5_readFact_207, wX5_readFact_208, wX5_readFact_209, wX5_readFact_210, wX5_readFact_213, if_true, if_false, ↓reduceIte, xpu_s, xpu_n, Option.bind_some, xk_i, xk_r, xk_0, xk_u, xk_l, xk_k, xk_q, rf_s, rf_n, q_e1, q_e2, Nat.zero_add, Nat.reduceEqDiff, Nat.reduceAdd, Nat.reduceMul, Nat.reduceSub, Nat.reduceLT, Nat.reduceLeDiff, Nat.reduceDiv, Nat.reduceMod, f12, not_true_eq_false, not_false_eq_true, and_self, and_true, true_and, and_false, false_and, or_true, true_or, or_false, false_or, decide_true, decide_false, zb_t, zb_f, zb_0, zb_1, eq_self]
  have e2 := kX5_eatsF (d := d) (j := 20) M (by omega) rfl
  have e3 := kX5_eatsF (d := d + 1) (j := 19) M (by omega) rfl
  have e4 : C_ (d + 3) mX5_readPart [.ref 150] h = some (none, h) := by
    simp (disch := first | exact t1 | first | assumption | exact nI_ne0 (by decide) (by decide) | exact zb_01 | exact Or.inl rfl | exact Or.inr rfl | with_unfolding_all exact id (by assumption) | with_unfolding_all exact id (xix_8 (by assumption) (by omega) (by omega)) | omega) only [wX5_readPart_e, wX5_readPart_0, wX5_readPart_1, wX5_readPart_4, wX5_readPart_5, wX5_readPart_7, wX5_readPart_10, wX5_readPart_13, wX5_readPart_14, wX5_readPart_17, wX5_readPart_18, wX5_readPart_21, wX5_readPart_24, wX5_readPart_25, wX5_readPart_27, wX5_readPart_28, wX5_readPart_31, wX5_readPart_34, if_true, if_false, ↓reduceIte, xpu_s, xpu_n, Option.bind_some, xk_i, xk_r, xk_0, xk_u, xk_l, xk_k, xk_q, rf_s, rf_n, q_e1, q_e2, Nat.zero_add, Nat.reduceEqDiff, Nat.reduceAdd, Nat.reduceMul, Nat.reduceSub, Nat.reduceLT, Nat.reduceLeDiff, Nat.reduceDiv, Nat.reduceMod, e1, e2, nI_00, not_true_eq_false, not_false_eq_true, and_self, and_true, true_and, and_false, false_and, or_true, true_or, or_false, false_or, decide_true, decide_false, zb_t, zb_f, zb_0, zb_1, eq_self]
  simp (disch := first | exact t1 | first | assumption | exact nI_ne0 (by decide) (by decide) | exact zb_01 | exact Or.inl rfl | exact Or.inr rfl | with_unfolding_all exact id (by assumption) | with_unfolding_all exact id (xix_8 (by assumption) (by omega) (by omega)) | omega) only [wX5_readTest_e, wX5_readTest_0, wX5_readTest_1, wX5_readTest_4, wX5_readTest_5, wX5_readTest_7, wX5_readTest_10, wX5_readTest_13, wX5_readTest_14, wX5_readTest_17, wX5_readTest_18, wX5_readTest_21, wX5_readTest_24, wX5_readTest_25, wX5_readTest_27, wX5_readTest_28, wX5_readTest_31, wX5_readTest_34, if_true, if_false, ↓reduceIte, xpu_s, xpu_n, Option.bind_some, xk_i, xk_r, xk_0, xk_u, xk_l, xk_k, xk_q, rf_s, rf_n, q_e1, q_e2, Nat.zero_add, Nat.reduceEqDiff, Nat.reduceAdd, Nat.reduceMul, Nat.reduceSub, Nat.reduceLT, Nat.reduceLeDiff, Nat.reduceDiv, Nat.reduceMod, e4, e3, nI_00, not_true_eq_false, not_false_eq_true, and_self, and_true, true_and, and_false, false_and, or_true, true_or, or_false, false_or, decide_true, decide_false, zb_t, zb_f, zb_0, zb_1, eq_self]
/-- no line of a law begins here, or there are too many -/
theorem JM_lw0 {q : Nat × Nat} (a40 : A 40 = nI m) (hm : m ≤ 12) (hq : ll0 t n m L = .inl q) : JM (d + 5) mX5_readLaw t n 0 L A cd (.inl q) A cd := fun h M => by
  have M0 := M.1
  have H := M0.1.1
  have t1 : oT h 150 = 7 := mok_t H rfl
  have t2 : oT h 155 = 40 := mok_t H rfl
  obtain ⟨b1, b2⟩ := M.2.2 L rfl
  have F40 := (b2 40 (by omega)).trans a40
  have IS := kX5_is (d := d + 4) (j := 17) M0 (by omega)
  rw [isx_r] at IS
  unfold ll0 at hq
  by_cases hk : L.2.2.1 = 17
  · rw [if_pos hk] at hq
    have m12 : m = 12 := by
      by_cases z : m = 12
      · exact z
      · rw [decide_eq_false z] at hq
        cases hq
    rw [decide_eq_true m12] at hq
    obtain ⟨h1, e1, M1, G1, k1⟩ := xM_fails (d := d + 4) M0 (c := 4) (by omega) (by omega)
    have hq : flx 4 (.inr L) = .inl q := hq
    rw [hq] at M1
    have g1 := MS_inl M1
    have p1 := (MF_x G1 H).1
    have N1 := ML_F M M1 G1 k1 fun _ _ => ⟨L, rfl⟩
    rw [decide_eq_true hk] at IS
    have e12 : (nI m = nI 12) = True := by rw [m12]; exact eq_true rfl
    refine ⟨h1, ?_, N1, MD_F G1⟩
    simp (disch := first | exact t1 | exact p1 | exact t2 | exact m_x155 H (by omega) | first | assumption | exact nI_ne0 (by decide) (by decide) | exact zb_01 | exact Or.inl rfl | exact Or.inr rfl | with_unfolding_all exact id (by assumption) | with_unfolding_all exact id (xix_8 (by assumption) (by omega) (by omega)) | omega) only [wX5_readLaw_e, wX5_readLaw_0, wX5_readLaw_1, wX5_readLaw_4, wX5_readLaw_6, wX5_readLaw_7, wX5_readLaw_8, wX5_readLaw_9, wX5_readLaw_11, wX5_readLaw_14, wX5_readLaw_17, wX5_readLaw_18, wX5_readLaw_19, wX5_readLaw_22, wX5_readLaw_25, wX5_readLaw_26, wX5_readLaw_28, wX5_readLaw_31, wX5_readLaw_32, wX5_readLaw_33, wX5_readLaw_36, wX5_readLaw_37, wX5_readLaw_40, wX5_readLaw_43, wX5_readLaw_44, wX5_readLaw_45, wX5_readLaw_48, wX5_readLaw_49, wX5_readLaw_52, wX5_readLaw_54, wX5_readLaw_55, wX5_readLaw_56, wX5_readLaw_57, wX5_readLaw_58, wX5_readLaw_60, wX5_readLaw_63, wX5_readLaw_64, wX5_readLaw_65, wX5_readLaw_67, wX5_readLaw_70, wX5_readLaw_71, wX5_readLaw_74, wX5_readLaw_76, wX5_readLaw_77, wX5_readLaw_78, wX5_readLaw_79, wX5_readLaw_82, wX5_readLaw_83, wX5_readLaw_84, wX5_readLaw_87, wX5_readLaw_88, wX5_readLaw_91, wX5_readLaw_93, wX5_readLaw_94, wX5_readLaw_95, wX5_readLaw_96, wX5_readLaw_99, wX5_readLaw_100, wX5_readLaw_101, wX5_readLaw_103, wX5_readLaw_106, wX5_readLaw_107, wX5_readLaw_110, wX5_readLaw_112, wX5_readLaw_113, wX5_readLaw_114, wX5_readLaw_115, wX5_readLaw_116, wX5_readLaw_117, if_true, if_false, ↓reduceIte, xpu_s, xpu_n, Option.bind_some, xk_i, xk_r, xk_0, xk_u, xk_l, xk_k, xk_q, rf_s, rf_n, q_e1, q_e2, Nat.zero_add, Nat.reduceEqDiff, Nat.reduceAdd, Nat.reduceMul, Nat.reduceSub, Nat.reduceLT, Nat.reduceLeDiff, Nat.reduceDiv, Nat.reduceMod, m_r1 H, m_r2 H, m_r3 H, m_r4 H, m_r5 H, m_r18 H, m_r19 H, m_r20 H, m_r24 H, m_r25 H, m_r27 H, m_r28 H, m_r29 H, m_r30 H, m_r31 H, m_r32 H, m_r33 H, m_r34 H, m_r35 H, m_n150 H, m_n151 H, m_n152 H, m_n153 H, m_n154 H, m_n155 H, m_n156 H, m_n157 H, m_n158 H, m_n159 H, m_n160 H, m_n161 H, m_n162 H, m_n163 H, m_n164 H, m_n165 H, m_n166 H, m_n167 H, m_n168 H, m_n169 H, nI_c, F40, IS, one_ne0, e12, e1, g1, not_true_eq_false, not_false_eq_true, and_self, and_true, true_and, and_false, false_and, or_true, true_or, or_false, false_or, decide_true, decide_false, zb_t, zb_f, zb_0, zb_1, eq_self]
  · rw [if_neg hk] at hq
    obtain ⟨h1, e1, M1, G1, k1⟩ := xM_fails (d := d + 4) M0 (c := 2) (by omega) (by omega)
    rw [hq] at M1
    have g1 := MS_inl M1
    have p1 := (MF_x G1 H).1
    have N1 := ML_F M M1 G1 k1 fun _ _ => ⟨L, rfl⟩
    rw [decide_eq_false hk] at IS
    refine ⟨h1, ?_, N1, MD_F G1⟩
    simp (disch := first | exact t1 | exact p1 | exact t2 | exact m_x155 H (by omega) | first | assumption | exact nI_ne0 (by decide) (by decide) | exact zb_01 | exact Or.inl rfl | exact Or.inr rfl | with_unfolding_all exact id (by assumption) | with_unfolding_all exact id (xix_8 (by assumption) (by omega) (by omega)) | omega) only [wX5_readLaw_e, wX5_readLaw_0, wX5_readLaw_1, wX5_readLaw_4, wX5_readLaw_6, wX5_readLaw_7, wX5_readLaw_8, wX5_readLaw_9, wX5_readLaw_11, wX5_readLaw_14, wX5_readLaw_17, wX5_readLaw_18, wX5_readLaw_19, wX5_readLaw_22, wX5_readLaw_25, wX5_readLaw_26, wX5_readLaw_28, wX5_readLaw_31, wX5_readLaw_32, wX5_readLaw_33, wX5_readLaw_36, wX5_readLaw_37, wX5_readLaw_40, wX5_readLaw_43, wX5_readLaw_44, wX5_readLaw_45, wX5_readLaw_48, wX5_readLaw_49, wX5_readLaw_52, wX5_readLaw_54, wX5_readLaw_55, wX5_readLaw_56, wX5_readLaw_57, wX5_readLaw_58, wX5_readLaw_60, wX5_readLaw_63, wX5_readLaw_64, wX5_readLaw_65, wX5_readLaw_67, wX5_readLaw_70, wX5_readLaw_71, wX5_readLaw_74, wX5_readLaw_76, wX5_readLaw_77, wX5_readLaw_78, wX5_readLaw_79, wX5_readLaw_82, wX5_readLaw_83, wX5_readLaw_84, wX5_readLaw_87, wX5_readLaw_88, wX5_readLaw_91, wX5_readLaw_93, wX5_readLaw_94, wX5_readLaw_95, wX5_readLaw_96, wX5_readLaw_99, wX5_readLaw_100, wX5_readLaw_101, wX5_readLaw_103, wX5_readLaw_106, wX5_readLaw_107, wX5_readLaw_110, wX5_readLaw_112, wX5_readLaw_113, wX5_readLaw_114, wX5_readLaw_115, wX5_readLaw_116, wX5_readLaw_117, if_true, if_false, ↓reduceIte, xpu_s, xpu_n, Option.bind_some, xk_i, xk_r, xk_0, xk_u, xk_l, xk_k, xk_q, rf_s, rf_n, q_e1, q_e2, Nat.zero_add, Nat.reduceEqDiff, Nat.reduceAdd, Nat.reduceMul, Nat.reduceSub, Nat.reduceLT, Nat.reduceLeDiff, Nat.reduceDiv, Nat.reduceMod, m_r1 H, m_r2 H, m_r3 H, m_r4 H, m_r5 H, m_r18 H, m_r19 H, m_r20 H, m_r24 H, m_r25 H, m_r27 H, m_r28 H, m_r29 H, m_r30 H, m_r31 H, m_r32 H, m_r33 H, m_r34 H, m_r35 H, m_n150 H, m_n151 H, m_n152 H, m_n153 H, m_n154 H, m_n155 H, m_n156 H, m_n157 H, m_n158 H, m_n159 H, m_n160 H, m_n161 H, m_n162 H, m_n163 H, m_n164 H, m_n165 H, m_n166 H, m_n167 H, m_n168 H, m_n169 H, nI_c, F40, IS, e1, g1, not_true_eq_false, not_false_eq_true, and_self, and_true, true_and, and_false, false_and, or_true, true_or, or_false, false_or, decide_true, decide_false, zb_t, zb_f, zb_0, zb_1, eq_self]
/-- a line around its test -/
theorem kX5_law_w (M : ML h n t (.inr L) 0 A cd) (a40 : A 40 = nI m) (hm : m < 12) (hk : L.2.2.1 = 17) : ∃ H3, ML H3 n t (ll2 t n m L) 0 (llB A m (nbv 0 100 (ll0 t n m L)) cd) cd ∧ MD_ h H3 ∧ ∀ h4 x4 A4 cd4, C_ (d + 4) mX5_readTest [.ref 150] H3 = some (none, h4) → MD_ H3 h4 → ML h4 n t x4 0 A4 cd4 → (∀ L4, x4 = .inr L4 → A4 40 = nI m) → ∃ h5, C_ (d + 5) mX5_readLaw [.ref 150] h = some (none, h5) ∧ ML h5 n t (ndx t n 31 x4) 0 (llE A4 m cd4) cd4 ∧ MD_ h h5 := by
  have M0 := M.1
  have H := M0.1.1
  have t1 : oT h 150 = 7 := mok_t H rfl
  have t2 : oT h 155 = 40 := mok_t H rfl
  obtain ⟨b1, b2⟩ := M.2.2 L rfl
  have F40 := (b2 40 (by omega)).trans a40
  have IS := kX5_is (d := d + 4) (j := 17) M0 (by omega)
  rw [isx_r, decide_eq_true hk] at IS
  have f12 := MS_inr M0
  have e12 : (nI m = nI 12) = False := by rw [nI_eqI (by omega) (by omega)]; exact eq_false (by omega)
  have e0 : ll0 t n m L = .inr (lx t n L.2.1) := by
    unfold ll0
    rw [if_pos hk, decide_eq_false (by omega)]
    rfl
  obtain ⟨h1, e1, M1, G1, k1⟩ := xM_nx (d := d + 3) M0
  have N1 : ML h1 n t (.inr (lx t n L.2.1)) 0 A cd := ML_F M M1 G1 k1 fun _ _ => ⟨L, rfl⟩
  rw [← e0] at M1 N1
  obtain ⟨h2, r, e2, M2, G2, k2, v2⟩ := xM_takes (d := d + 2) (lo := 0) (hi := 100) M1 (by omega) (by omega)
  have N2 : ML h2 n t (nbx t n 0 100 (ll0 t n m L)) 0 A cd := ML_F N1 M2 G2 k2 fun _ z => nbx_r z
  obtain ⟨H2, hH2⟩ : ∃ H2, H2 = pI h2 155 (va_up (oI h2 155) (41 + m) r) := ⟨_, rfl⟩
  have G2' : MF h2 H2 := by rw [hH2]; exact MF_5
  have M2' : MS H2 n t (nbx t n 0 100 (ll0 t n m L)) := by rw [hH2]; exact M2
  obtain ⟨h3, e3, M3, G3, k3⟩ := xM_needs (d := d + 1) (j := 18) M2' (by omega)
  have M3 : MS h3 n t (ll2 t n m L) := M3
  obtain ⟨H3, hH3⟩ : ∃ H3, H3 = pI h3 155 (va_up (oI h3 155) (53 + m) (oI h3 150 15)) := ⟨_, rfl⟩
  have G3' : MF h3 H3 := by rw [hH3]; exact MF_5
  have M3' : MS H3 n t (ll2 t n m L) := by rw [hH3]; exact M3
  have A1 : MF h h2 := MF_t G1 G2
  have A2 : MF h H2 := MF_t A1 G2'
  have A3 : MF h h3 := MF_t A2 G3
  have A4 : MF h H3 := MF_t A3 G3'
  obtain ⟨p11, p12, p13, p14⟩ := MF_x G1 H
  obtain ⟨p21, p22, p23, p24⟩ := MF_x A1 H
  obtain ⟨q21, q22, q23, q24⟩ := MF_x A2 H
  obtain ⟨p31, p32, p33, p34⟩ := MF_x A3 H
  obtain ⟨q31, q32, q33, q34⟩ := MF_x A4 H
  refine ⟨H3, ⟨M3', ?_, fun L2 z2 => ?_⟩, MD_F A4, fun h4 x4 A4' cd4 e4 G4 N4 s4 => ?_⟩
  · exact (A4.2.2.2 14 (by omega)).trans M.2.1
  · obtain ⟨L1, z1⟩ := ndx_r z2
    obtain ⟨c1, c2⟩ := N2.2.2 L1 z1
    have h15 : oI h3 150 15 = nI cd := (G3.2.2.2 15 (by omega)).trans ((G2'.2.2.2 15 (by omega)).trans c1)
    refine ⟨?_, ?_⟩
    · rw [hH3]; exact h15
    · have F2 : FRo H2 (va_up A (41 + m) (nI (nbv 0 100 (ll0 t n m L)))) := by
        rw [hH2]
        exact FR_up c2 rfl (v2 L1 z1)
      rw [hH3]
      exact FR_up F2 k3 h15
  · have A5 : MD_ h h4 := MD_t (MD_F A4) G4
    obtain ⟨p41, p42, p43, p44⟩ := MD_x A5 H
    obtain ⟨H4, hH4⟩ : ∃ H4, H4 = pI h4 155 (va_up (oI h4 155) (65 + m) (oI h4 150 15)) := ⟨_, rfl⟩
    have G4' : MF h4 H4 := by rw [hH4]; exact MF_5
    have M4' : MS H4 n t x4 := by rw [hH4]; exact N4.1
    obtain ⟨h5, e5, M5, G5, k5⟩ := xM_needs (d := d + 1) (j := 31) M4' (by omega)
    have A6 : MD_ h H4 := MD_t A5 (MD_F G4')
    have A7 : MD_ h h5 := MD_t A6 (MD_F G5)
    obtain ⟨q41, q42, q43, q44⟩ := MD_x A6 H
    obtain ⟨p51, p52, p53, p54⟩ := MD_x A7 H
    obtain ⟨H5, hH5⟩ : ∃ H5, H5 = pI h5 155 (va_up (oI h5 155) 40 (oI h5 155 40 + nI 1)) := ⟨_, rfl⟩
    have G5' : MF h5 H5 := by rw [hH5]; exact MF_5
    refine ⟨H5, ?_, ⟨?_, ?_, fun L5 z5 => ?_⟩, MD_t A7 (MD_F G5')⟩
    · rw [hH5]
      have xn : ∀ {g : xH} {i}, oN g 155 = 477 → i < 477 → xix (nI i) (oN g 155) = true := fun en hi => xix_8 en hi (by omega)
      simp (disch := first | exact t1 | exact t2 | assumption | exact m_x155 H (by omega) | exact xn p23 (by omega) | exact xn p33 (by omega) | exact xn p43 (by omega) | exact xn p53 (by omega) | omega) only [wX5_readLaw_e, wX5_readLaw_0, wX5_readLaw_1, wX5_readLaw_4, wX5_readLaw_6, wX5_readLaw_7, wX5_readLaw_8, wX5_readLaw_9, wX5_readLaw_11, wX5_readLaw_14, wX5_readLaw_17, wX5_readLaw_18, wX5_readLaw_19, wX5_readLaw_22, wX5_readLaw_25, wX5_readLaw_26, wX5_readLaw_28, wX5_readLaw_31, wX5_readLaw_32, wX5_readLaw_33, wX5_readLaw_36, wX5_readLaw_37, wX5_readLaw_40, wX5_readLaw_43, wX5_readLaw_44, wX5_readLaw_45, wX5_readLaw_48, wX5_readLaw_49, wX5_readLaw_52, wX5_readLaw_54, wX5_readLaw_55, wX5_readLaw_56, wX5_readLaw_57, wX5_readLaw_58, wX5_readLaw_60, wX5_readLaw_63, wX5_readLaw_64, wX5_readLaw_65, wX5_readLaw_67, wX5_readLaw_70, wX5_readLaw_71, wX5_readLaw_74, wX5_readLaw_76, wX5_readLaw_77, wX5_readLaw_78, wX5_readLaw_79, wX5_readLaw_82, wX5_readLaw_83, wX5_readLaw_84, wX5_readLaw_87, wX5_readLaw_88, wX5_readLaw_91, wX5_readLaw_93, wX5_readLaw_94, wX5_readLaw_95, wX5_readLaw_96, wX5_readLaw_99, wX5_readLaw_100, wX5_readLaw_101, wX5_readLaw_103, wX5_readLaw_106, wX5_readLaw_107, wX5_readLaw_110, wX5_readLaw_112, wX5_readLaw_113, wX5_readLaw_114, wX5_readLaw_115, wX5_readLaw_116, wX5_readLaw_117, if_true, if_false, ↓reduceIte, xpu_s, xpu_n, Option.bind_some, xk_i, xk_r, xk_0, xk_u, xk_l, xk_k, xk_q, rf_s, rf_n, q_e1, q_e2, Nat.zero_add, Nat.reduceEqDiff, Nat.reduceAdd, Nat.reduceMul, Nat.reduceSub, Nat.reduceLT, Nat.reduceLeDiff, Nat.reduceDiv, Nat.reduceMod, m_r1 H, m_r2 H, m_r3 H, m_r4 H, m_r5 H, m_r18 H, m_r19 H, m_r20 H, m_r24 H, m_r25 H, m_r27 H, m_r28 H, m_r29 H, m_r30 H, m_r31 H, m_r32 H, m_r33 H, m_r34 H, m_r35 H, m_n150 H, m_n151 H, m_n152 H, m_n153 H, m_n154 H, m_n155 H, m_n156 H, m_n157 H, m_n158 H, m_n159 H, m_n160 H, m_n161 H, m_n162 H, m_n163 H, m_n164 H, m_n165 H, m_n166 H, m_n167 H, m_n168 H, m_n169 H, nI_c, nI_add, F40, IS, one_ne0, e12, f12, e1, p14, e2, p24, ← hH2, e3, q24, p34, ← hH3, e4, q34, p44, ← hH4, e5, q44, p54, not_true_eq_false, not_false_eq_true, and_self, and_true, true_and, and_false, false_and, or_true, true_or, or_false, false_or, decide_true, decide_false, zb_t, zb_f, zb_0, zb_1, eq_self]
    · rw [hH5]; exact M5
    · exact (G5'.2.2.2 14 (by omega)).trans ((G5.2.2.2 14 (by omega)).trans ((G4'.2.2.2 14 (by omega)).trans N4.2.1))
    · obtain ⟨L4, z4⟩ := ndx_r z5
      obtain ⟨c1, c2⟩ := N4.2.2 L4 z4
      have F4 : FRo H4 (va_up A4' (65 + m) (nI cd4)) := by
        rw [hH4]
        exact FR_up c2 rfl c1
      refine ⟨(G5'.2.2.2 15 (by omega)).trans ((G5.2.2.2 15 (by omega)).trans ((G4'.2.2.2 15 (by omega)).trans c1)), ?_⟩
      rw [hH5]
      refine FR_up F4 k5 ?_
      rw [k5, F4 40 (by omega), up_ne (by omega), s4 L4 z4, nI_add]
theorem JM_lw1 {q : Nat × Nat} (a40 : A 40 = nI m) (hm : m < 12) (hk : L.2.2.1 = 17) (hq : ll2 t n m L = .inl q) : JM (d + 5) mX5_readLaw t n 0 L A cd (.inl q) A cd := fun h M => by
  obtain ⟨H3, M3, G3, k⟩ := kX5_law_w (d := d) M a40 hm hk
  rw [hq] at M3
  obtain ⟨h5, e5, M5, G5⟩ := k H3 _ _ _ (kX5_test_i M3.1) MD_r M3 (fun L z => by cases z)
  exact ⟨h5, e5, ML_i M5, G5⟩
theorem JM_lw2 (a40 : A 40 = nI m) (hm : m < 12) (hk : L.2.2.1 = 17) (hq : ll2 t n m L = .inr L2) (J : JM (d + 4) mX5_readTest t n 0 L2 (llB A m (nbv 0 100 (ll0 t n m L)) cd) cd x' A' cd') (s4 : ∀ L4, x' = .inr L4 → A' 40 = nI m) : JM (d + 5) mX5_readLaw t n 0 L A cd (ndx t n 31 x') (llE A' m cd') cd' := fun h M => by
  obtain ⟨H3, M3, G3, k⟩ := kX5_law_w (d := d) M a40 hm hk
  rw [hq] at M3
  obtain ⟨h4, e4, M4, G4⟩ := J H3 M3
  exact k h4 _ _ _ e4 G4 M4 s4
end
