/-! TEXTS: facts within facts, the component -/
section
variable {d e : Nat} {h h1 h2 h3 : xH} {P : sS} {X o n p b k v c i j op lo hi m w a cd cd0 cd1 cd' : Nat} {t : Nat → Nat} {f g A B A1 A' : rI} {x x1 x' : sX} {L : Nat × Nat × Nat × Nat} {y1 y2 : Int32} {q : Option Nat}
theorem LF_m {z v : Int32} {f : Nat} (st : sm h h1 f) (F : LF h f z v) : LF h1 f z v := by
  unfold LF at *
  rw [st.1, st.2.2.1]
  exact F
/-- a node that a tree does not hold is written -/
theorem FT_w (st : ∀ b, 9 ≤ oT h b → oT h b ≤ 18 → ¬ b = a → sm h h1 b) (hn : (oT h a = 10 ∧ oR h a 0 = none) ∨ (oT h a = 17 ∧ oR h a 1 = none)) : ∀ {m f i j : Nat}, FT h A m f i j → FT h1 A m f i j
  | 0, _, _, _, F => F.elim
  | m + 1, f, i, j, F => by
    rcases F with ⟨e1, L⟩ | ⟨t0, g, k, g0, e1, e2, F⟩ | ⟨t0, g1, g2, k, l, g3, g4, e1, e2, F1, F2⟩
    · have ft : 11 ≤ oT h f ∧ oT h f ≤ 16 := by rcases L with ⟨F, -⟩ | ⟨F, -⟩ | ⟨F, -⟩ | ⟨F, -⟩ | ⟨F, -⟩ | ⟨F, -⟩ <;> omega
      have s := st f (by omega) (by omega) (fun z => by subst z; omega)
      exact Or.inl ⟨e1, LF_m s L⟩
    · have s := st f (by omega) (by omega) (fun z => by
        subst z
        rcases hn with hn | hn
        · rw [hn.2] at g0; cases g0
        · omega)
      exact Or.inr (Or.inl ⟨s.1.trans t0, g, k, by rw [s.2.2.2.1]; exact g0, e1, e2, FT_w st hn F⟩)
    · have s := st f (by omega) (by omega) (fun z => by
        subst z
        rcases hn with hn | hn
        · omega
        · rw [hn.2] at g3; cases g3)
      exact Or.inr (Or.inr ⟨s.1.trans t0, g1, g2, k, l, by rw [s.2.2.2.1]; exact g3, by rw [s.2.2.2.1]; exact g4, e1, by rw [s.2.2.1]; exact e2, FT_w st hn F1, FT_w st hn F2⟩)
theorem GO_st (G : GO o h h1 k v) (C : CT h o n t op x) : ∀ b, 9 ≤ oT h b → oT h b ≤ 18 → sm h h1 b := fun b h9 _ => G.1.2.2.2.2.2 b (TX_lt C.2.2 (by omega)) (fun z => by rw [z, C.1.1.1] at h9; omega)
def kb (n : Nat) (x : sX) : Nat := match x with
  | .inl _ => n + 1
  | .inr L => L.1
theorem CT_d (C : CT h o n t op x) : CT (pI h o (va_up (oI h o) 7 (nI c))) o n t c x ∧ GO o h (pI h o (va_up (oI h o) 7 (nI c))) 0 0 := by
  obtain ⟨⟨T, c7, M⟩, S, T'⟩ := id C
  have l := CT_l C
  refine ⟨⟨⟨TBs_I T (by rw [up_ne (by decide)]; exact T.2.2.2.2.2.2.2.2.2), by rw [o_II, if_pos rfl, up_s], ?_⟩, STR_I S l.2.2.2, T'⟩, GO_I⟩
  rw [o_II, if_pos rfl]
  cases x <;> exact M
def JC (e : Nat) (m : xM) (o : Nat) (t : Nat → Nat) (n op : Nat) (L : Nat × Nat × Nat × Nat) (cd : Nat) (x' : sX) (A' : rI) (cd' : Nat) : Prop := ∀ h, CT h o n t op (.inr L) → ∃ h1 q, C_ e m [.ref o] h = some (some (va_rf q), h1) ∧ CT h1 o n t op x' ∧ GO o h h1 (2 * (kb n x' - L.1)) (6 * (kb n x' - L.1)) ∧ ∀ L', x' = .inr L' → ∃ f, q = some f ∧ FU h1 A' f cd cd'
/-- a loop's rest -/
def JK (e : Nat) (m : xM) (o : Nat) (t : Nat → Nat) (n op : Nat) (x : sX) (A : rI) (cd0 cd : Nat) (x' : sX) (A' : rI) (cd' : Nat) : Prop := ∀ h q, CT h o n t op x → (∀ L, x = .inr L → ∃ f, q = some f ∧ FU h A f cd0 cd) → ∃ h1 q1, E_ e m 5 [.val (.ref o), .val (va_rf q)] [] h = some (some (va_rf q1), h1) ∧ CT h1 o n t op x' ∧ GO o h h1 (2 * (kb n x' - kb n x)) (6 * (kb n x' - kb n x)) ∧ ∀ L', x' = .inr L' → ∃ f, q1 = some f ∧ FU h1 A' f cd0 cd'
theorem CT_ok (C : CT h o n t op (.inr L)) : LOK t n L := by
  obtain ⟨T, c7, c8, c9, ok, -⟩ := C.1
  exact ok
/-- what follows begins behind -/
theorem lx_gt (C : CT h o n t op (.inr L)) (h34 : ¬ L.2.2.1 = 34) : L.1 + 1 ≤ (lx t n L.2.1).1 := by
  have ok := CT_ok C
  have := (lx_ok ok.2.1 (TBs_t C.1.1)).2
  have := ok.2.2.2.2.2 h34
  omega
theorem JC_leaf (h21 : ¬ L.2.2.1 = 21) (h32 : ¬ L.2.2.1 = 32) (hk : L.1 < kb n (lfx t n L)) : JC (d + 6) mX6_fact o t n op L cd (lfx t n L) (emA A cd (nI L.2.2.1) (nI (lfv t n L))) (cd + 1) := fun h C => by
  obtain ⟨h1, a, e1, C1, G1, lf⟩ := kX6_leaf (d := d) C h21 h32
  refine ⟨h1, some a, e1, C1, GO_le G1 (by omega) (by omega), fun L' z => ⟨a, rfl, FU_leaf ?_⟩⟩
  have e1 : emA A cd (nI L.2.2.1) (nI (lfv t n L)) (77 + 2 * cd) = nI L.2.2.1 := by unfold emA; rw [up_ne (by omega), up_s]
  have e2 : emA A cd (nI L.2.2.1) (nI (lfv t n L)) (77 + 2 * cd + 1) = nI (lfv t n L) := by unfold emA; rw [show 77 + 2 * cd + 1 = 78 + 2 * cd by omega, up_s]
  rw [e1, e2]
  exact lf L' z
/-- a place is opened -/
theorem xC_open (C : CT h o n t op (.inr L)) (h8 : op < 8) : ∃ h1, C_ (d + 4) mX6_opens [.ref o] h = some (none, h1) ∧ CT h1 o n t (op + 1) (.inr (lx t n L.2.1)) ∧ GO o h h1 0 0 := by
  obtain ⟨f8, t8⟩ := CS_inr C.1
  have c7 := C.1.2.1
  have e8 : (nI op = nI 8) = False := by rw [nI_eqI (by omega) (by omega)]; exact eq_false (by omega)
  obtain ⟨C1, G1⟩ := CT_d (c := op + 1) C
  obtain ⟨hh, ehh⟩ : ∃ hh, hh = pI h o (va_up (oI h o) 7 (nI (op + 1))) := ⟨_, rfl⟩
  rw [← ehh] at C1 G1
  obtain ⟨g8, u8⟩ := CS_inr C1.1
  obtain ⟨h2, e2, C2, G2⟩ := xC_nx (d := d) C1
  refine ⟨h2, ?_, C2, GO_t G1 G2⟩
  simp (disch := first | assumption | exact nI_ne0 (by decide) (by decide) | exact zb_01 | exact Or.inl rfl | exact Or.inr rfl | with_unfolding_all exact id (by assumption) | with_unfolding_all exact id (xix_8 (by assumption) (by omega) (by omega)) | omega) only [wX6_opens_e, wX6_opens_0, wX6_opens_0q, wX6_opens_0n, wX6_opens_1, wX6_opens_4, wX6_opens_6, wX6_opens_9, wX6_opens_9q, wX6_opens_9n, wX6_opens_10, wX6_opens_11, wX6_opens_14, wX6_opens_14q, wX6_opens_14n, wX6_opens_15, wX6_opens_16, wX6_opens_19, wX6_opens_20, wX6_opens_21, wX6_opens_24, wX6_opens_24q, wX6_opens_24n, wX6_opens_25, wX6_opens_28, wX6_opens_31, wX6_opens_31q, wX6_opens_31n, wX6_opens_32, wX6_opens_35, if_true, if_false, ↓reduceIte, xpu_s, xpu_n, Option.bind_some, xk_i, xk_r, xk_0, xk_u, xk_l, xk_k, xk_q, rf_s, rf_n, q_e1, q_e2, Nat.zero_add, Nat.reduceEqDiff, Nat.reduceAdd, Nat.reduceMul, Nat.reduceSub, Nat.reduceLT, Nat.reduceLeDiff, Nat.reduceDiv, Nat.reduceMod, c7, e8, nI_add, ← ehh, g8, e2, not_true_eq_false, not_false_eq_true, and_self, and_true, true_and, and_false, false_and, or_true, true_or, or_false, false_or, decide_true, decide_false, zb_t, zb_f, zb_0, zb_1, eq_self]
theorem xC_deep (C : CT h o n t op (.inr L)) (h8 : op = 8) : ∃ h1, C_ (d + 4) mX6_opens [.ref o] h = some (none, h1) ∧ CT h1 o n t (op + 1) (flx 5 (.inr L)) ∧ GO o h h1 0 0 := by
  obtain ⟨f8, t8⟩ := CS_inr C.1
  have c7 := C.1.2.1
  have e8 : (nI op = nI 8) = True := by rw [h8]; exact eq_true rfl
  obtain ⟨h0, e0, C0, G0⟩ := xC_wrong (d := d + 3) (c := 5) C (by omega) (by omega)
  have c70 := C0.1.2.1
  have t80 := C0.1.1.1
  obtain ⟨C1, G1⟩ := CT_d (c := op + 1) C0
  obtain ⟨hh, ehh⟩ : ∃ hh, hh = pI h0 o (va_up (oI h0 o) 7 (nI (op + 1))) := ⟨_, rfl⟩
  rw [← ehh] at C1 G1
  obtain ⟨g8, u8⟩ := CS_inl (q := (if L.2.2.1 = 35 then 1 else 5, L.1)) C1.1
  refine ⟨hh, ?_, C1, GO_t G0 G1⟩
  simp (disch := first | assumption | exact nI_ne0 (by decide) (by decide) | exact zb_01 | exact Or.inl rfl | exact Or.inr rfl | with_unfolding_all exact id (by assumption) | with_unfolding_all exact id (xix_8 (by assumption) (by omega) (by omega)) | omega) only [wX6_opens_e, wX6_opens_0, wX6_opens_0q, wX6_opens_0n, wX6_opens_1, wX6_opens_4, wX6_opens_6, wX6_opens_9, wX6_opens_9q, wX6_opens_9n, wX6_opens_10, wX6_opens_11, wX6_opens_14, wX6_opens_14q, wX6_opens_14n, wX6_opens_15, wX6_opens_16, wX6_opens_19, wX6_opens_20, wX6_opens_21, wX6_opens_24, wX6_opens_24q, wX6_opens_24n, wX6_opens_25, wX6_opens_28, wX6_opens_31, wX6_opens_31q, wX6_opens_31n, wX6_opens_32, wX6_opens_35, if_true, if_false, ↓reduceIte, xpu_s, xpu_n, Option.bind_some, xk_i, xk_r, xk_0, xk_u, xk_l, xk_k, xk_q, rf_s, rf_n, q_e1, q_e2, Nat.zero_add, Nat.reduceEqDiff, Nat.reduceAdd, Nat.reduceMul, Nat.reduceSub, Nat.reduceLT, Nat.reduceLeDiff, Nat.reduceDiv, Nat.reduceMod, c7, c70, e8, e0, nI_add, ← ehh, g8, not_true_eq_false, not_false_eq_true, and_self, and_true, true_and, and_false, false_and, or_true, true_or, or_false, false_or, decide_true, decide_false, zb_t, zb_f, zb_0, zb_1, eq_self]
theorem JC_deep (hk : L.2.2.1 = 21 ∨ L.2.2.1 = 32) (h8 : op = 8) : JC (d + 6) mX6_fact o t n op L cd (flx 5 (.inr L)) A' cd' := fun h C => by
  obtain ⟨f8, t8⟩ := CS_inr C.1
  obtain ⟨h1, e1, C1, G1⟩ := xC_deep (d := d + 1) C h8
  obtain ⟨g8, u8⟩ := CS_inl (q := (if L.2.2.1 = 35 then 1 else 5, L.1)) C1.1
  have c7 := C1.1.2.1
  have s1 : nI (op + 1) - nI 1 = nI op := pk_sub (by omega)
  obtain ⟨C2, G2⟩ := CT_d (c := op) C1
  obtain ⟨T, c7', c8, c9, ok, c3, c4, c5, c6⟩ := id C.1
  have I21 := kX6_is (d := d + 4) (j := 21) C.1 C.2.1 (by omega)
  refine ⟨_, none, ?_, C2, GO_le (GO_t G1 G2) (by omega) (by omega), fun L' z => by cases z⟩
  rcases hk with y | y
  · rw [isx_r, decide_eq_true y] at I21
    have I21 : C_ (d + 5) mX6_is [.ref o, .ref 20] h = some (some (.int (zb true)), h) := I21
    simp (disch := first | assumption | exact nI_ne0 (by decide) (by decide) | exact zb_01 | exact Or.inl rfl | exact Or.inr rfl | with_unfolding_all exact id (by assumption) | with_unfolding_all exact id (xix_8 (by assumption) (by omega) (by omega)) | omega) only [wX6_fact_e, wX6_fact_0, wX6_fact_0q, wX6_fact_0n, wX6_fact_1, wX6_fact_3, wX6_fact_6, wX6_fact_9, wX6_fact_9q, wX6_fact_9n, wX6_fact_10, wX6_fact_13, wX6_fact_13q, wX6_fact_13n, wX6_fact_14, wX6_fact_17, wX6_fact_20, wX6_fact_23, wX6_fact_24, wX6_fact_24q, wX6_fact_24n, wX6_fact_25, wX6_fact_28, wX6_fact_31, wX6_fact_34, wX6_fact_35, wX6_fact_35n, wX6_fact_35q, wX6_fact_36, wX6_fact_36q, wX6_fact_36n, wX6_fact_37, wX6_fact_38, wX6_fact_41, wX6_fact_42, wX6_fact_43, wX6_fact_46, wX6_fact_46q, wX6_fact_46n, wX6_fact_47, wX6_fact_47n, wX6_fact_47q, wX6_fact_48, wX6_fact_48q, wX6_fact_48n, wX6_fact_49, wX6_fact_52, wX6_fact_55, wX6_fact_55q, wX6_fact_55n, wX6_fact_56, wX6_fact_59, wX6_fact_61, wX6_fact_64, wX6_fact_64q, wX6_fact_64n, wX6_fact_65, wX6_fact_68, wX6_fact_68q, wX6_fact_68n, wX6_fact_69, wX6_fact_72, wX6_fact_75, wX6_fact_75q, wX6_fact_75n, wX6_fact_76, wX6_fact_79, wX6_fact_82, wX6_fact_83, wX6_fact_83n, wX6_fact_83q, wX6_fact_84, wX6_fact_84q, wX6_fact_84n, wX6_fact_85, wX6_fact_88, wX6_fact_91, wX6_fact_91q, wX6_fact_91n, wX6_fact_92, wX6_fact_95, wX6_fact_97, wX6_fact_100, wX6_fact_100q, wX6_fact_100n, wX6_fact_101, wX6_fact_102, wX6_fact_105, wX6_fact_105q, wX6_fact_105n, wX6_fact_106, wX6_fact_109, wX6_fact_112, wX6_fact_112q, wX6_fact_112n, wX6_fact_113, wX6_fact_116, wX6_fact_116q, wX6_fact_116n, wX6_fact_117, wX6_fact_118, wX6_fact_121, wX6_fact_122, wX6_fact_123, wX6_fact_126, wX6_fact_126q, wX6_fact_126n, wX6_fact_127, wX6_fact_127n, wX6_fact_127q, wX6_fact_128, wX6_fact_128q, wX6_fact_128n, wX6_fact_129, wX6_fact_132, wX6_fact_133, wX6_fact_134, wX6_fact_135, wX6_fact_138, wX6_fact_141, wX6_fact_142, wX6_fact_143, wX6_fact_146, wX6_fact_146n, wX6_fact_146q, wX6_fact_147, wX6_fact_147q, wX6_fact_147n, wX6_fact_148, wX6_fact_150, wX6_fact_153, wX6_fact_156, wX6_fact_159, wX6_fact_160, wX6_fact_163, wX6_fact_163n, wX6_fact_163q, wX6_fact_164, wX6_fact_164q, wX6_fact_164n, wX6_fact_165, wX6_fact_167, wX6_fact_170, wX6_fact_173, wX6_fact_176, wX6_fact_177, wX6_fact_180, wX6_fact_180n, wX6_fact_180q, wX6_fact_181, wX6_fact_181q, wX6_fact_181n, wX6_fact_182, wX6_fact_185, wX6_fact_188, wX6_fact_191, wX6_fact_194, wX6_fact_195, wX6_fact_198, wX6_fact_198n, wX6_fact_198q, wX6_fact_199, wX6_fact_199q, wX6_fact_199n, wX6_fact_200, wX6_fact_203, wX6_fact_206, wX6_fact_209, wX6_fact_212, wX6_fact_213, wX6_fact_216, wX6_fact_219, wX6_fact_219q, wX6_fact_219n, wX6_fact_220, wX6_fact_223, wX6_fact_223n, wX6_fact_223q, if_true, if_false, ↓reduceIte, xpu_s, xpu_n, Option.bind_some, xk_i, xk_r, xk_0, xk_u, xk_l, xk_k, xk_q, rf_s, rf_n, q_e1, q_e2, Nat.zero_add, Nat.reduceEqDiff, Nat.reduceAdd, Nat.reduceMul, Nat.reduceSub, Nat.reduceLT, Nat.reduceLeDiff, Nat.reduceDiv, Nat.reduceMod, I21, one_ne0, e1, g8, c7, s1, not_true_eq_false, not_false_eq_true, and_self, and_true, true_and, and_false, false_and, or_true, true_or, or_false, false_or, decide_true, decide_false, zb_t, zb_f, zb_0, zb_1, eq_self]
  · rw [isx_r, decide_eq_false (by omega)] at I21
    have I21 : C_ (d + 5) mX6_is [.ref o, .ref 20] h = some (some (.int (zb false)), h) := I21
    have e40 : (oI h o 5 = nI 40) = True := by rw [c5, ct_32 ok.2.2.1]; exact eq_true y
    simp (disch := first | assumption | exact nI_ne0 (by decide) (by decide) | exact zb_01 | exact Or.inl rfl | exact Or.inr rfl | with_unfolding_all exact id (by assumption) | with_unfolding_all exact id (xix_8 (by assumption) (by omega) (by omega)) | omega) only [wX6_fact_e, wX6_fact_0, wX6_fact_0q, wX6_fact_0n, wX6_fact_1, wX6_fact_3, wX6_fact_6, wX6_fact_9, wX6_fact_9q, wX6_fact_9n, wX6_fact_10, wX6_fact_13, wX6_fact_13q, wX6_fact_13n, wX6_fact_14, wX6_fact_17, wX6_fact_20, wX6_fact_23, wX6_fact_24, wX6_fact_24q, wX6_fact_24n, wX6_fact_25, wX6_fact_28, wX6_fact_31, wX6_fact_34, wX6_fact_35, wX6_fact_35n, wX6_fact_35q, wX6_fact_36, wX6_fact_36q, wX6_fact_36n, wX6_fact_37, wX6_fact_38, wX6_fact_41, wX6_fact_42, wX6_fact_43, wX6_fact_46, wX6_fact_46q, wX6_fact_46n, wX6_fact_47, wX6_fact_47n, wX6_fact_47q, wX6_fact_48, wX6_fact_48q, wX6_fact_48n, wX6_fact_49, wX6_fact_52, wX6_fact_55, wX6_fact_55q, wX6_fact_55n, wX6_fact_56, wX6_fact_59, wX6_fact_61, wX6_fact_64, wX6_fact_64q, wX6_fact_64n, wX6_fact_65, wX6_fact_68, wX6_fact_68q, wX6_fact_68n, wX6_fact_69, wX6_fact_72, wX6_fact_75, wX6_fact_75q, wX6_fact_75n, wX6_fact_76, wX6_fact_79, wX6_fact_82, wX6_fact_83, wX6_fact_83n, wX6_fact_83q, wX6_fact_84, wX6_fact_84q, wX6_fact_84n, wX6_fact_85, wX6_fact_88, wX6_fact_91, wX6_fact_91q, wX6_fact_91n, wX6_fact_92, wX6_fact_95, wX6_fact_97, wX6_fact_100, wX6_fact_100q, wX6_fact_100n, wX6_fact_101, wX6_fact_102, wX6_fact_105, wX6_fact_105q, wX6_fact_105n, wX6_fact_106, wX6_fact_109, wX6_fact_112, wX6_fact_112q, wX6_fact_112n, wX6_fact_113, wX6_fact_116, wX6_fact_116q, wX6_fact_116n, wX6_fact_117, wX6_fact_118, wX6_fact_121, wX6_fact_122, wX6_fact_123, wX6_fact_126, wX6_fact_126q, wX6_fact_126n, wX6_fact_127, wX6_fact_127n, wX6_fact_127q, wX6_fact_128, wX6_fact_128q, wX6_fact_128n, wX6_fact_129, wX6_fact_132, wX6_fact_133, wX6_fact_134, wX6_fact_135, wX6_fact_138, wX6_fact_141, wX6_fact_142, wX6_fact_143, wX6_fact_146, wX6_fact_146n, wX6_fact_146q, wX6_fact_147, wX6_fact_147q, wX6_fact_147n, wX6_fact_148, wX6_fact_150, wX6_fact_153, wX6_fact_156, wX6_fact_159, wX6_fact_160, wX6_fact_163, wX6_fact_163n, wX6_fact_163q, wX6_fact_164, wX6_fact_164q, wX6_fact_164n, wX6_fact_165, wX6_fact_167, wX6_fact_170, wX6_fact_173, wX6_fact_176, wX6_fact_177, wX6_fact_180, wX6_fact_180n, wX6_fact_180q, wX6_fact_181, wX6_fact_181q, wX6_fact_181n, wX6_fact_182, wX6_fact_185, wX6_fact_188, wX6_fact_191, wX6_fact_194, wX6_fact_195, wX6_fact_198, wX6_fact_198n, wX6_fact_198q, wX6_fact_199, wX6_fact_199q, wX6_fact_199n, wX6_fact_200, wX6_fact_203, wX6_fact_206, wX6_fact_209, wX6_fact_212, wX6_fact_213, wX6_fact_216, wX6_fact_219, wX6_fact_219q, wX6_fact_219n, wX6_fact_220, wX6_fact_223, wX6_fact_223n, wX6_fact_223q, if_true, if_false, ↓reduceIte, xpu_s, xpu_n, Option.bind_some, xk_i, xk_r, xk_0, xk_u, xk_l, xk_k, xk_q, rf_s, rf_n, q_e1, q_e2, Nat.zero_add, Nat.reduceEqDiff, Nat.reduceAdd, Nat.reduceMul, Nat.reduceSub, Nat.reduceLT, Nat.reduceLeDiff, Nat.reduceDiv, Nat.reduceMod, I21, f8, e40, e1, g8, c7, s1, not_true_eq_false, not_false_eq_true, and_self, and_true, true_and, and_false, false_and, or_true, true_or, or_false, false_or, decide_true, decide_false, zb_t, zb_f, zb_0, zb_1, eq_self]
end
