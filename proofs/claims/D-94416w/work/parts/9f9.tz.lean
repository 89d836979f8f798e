/-! TEXTS: a line of a law, the component -/
section
variable {d e : Nat} {h h1 h2 h3 h4 : xH} {P : sS} {X o l n p b k v c j i op lo hi m w a u cd cd0 cd1 cd' : Nat} {t : Nat → Nat} {f g A B A1 A' : rI} {x x1 x' : sX} {L L' L1 L2 : Nat × Nat × Nat × Nat} {y1 y2 : Int32} {s1 s2 : Slot}
theorem xC_space {u : Bool} (C : CT h o n t op x) : ∃ h1, C_ (d + 4) mX6_space [.ref o, .int (zb u)] h = some (none, h1) ∧ CT h1 o n t op (spx t n u x) ∧ GO o h h1 0 0 := by
  obtain ⟨f, e, C1⟩ := kX6_space (d := d) (u := u) C.1
  exact ⟨_, e, CT_I C C1, GO_I⟩
theorem xC_over (C : CT h o n t op x) : ∃ h1, C_ (d + 4) mX6_over [.ref o] h = some (none, h1) ∧ CT h1 o n t op (ndx t n 31 x) ∧ GO o h h1 0 0 := by
  obtain ⟨f, e, C1⟩ := kX6_over (d := d) C.1
  exact ⟨_, e, CT_I C C1, GO_I⟩
theorem kX6_some_i {q : Nat × Nat} (C : CT h o n t op (.inl q)) : ∃ h1 r, C_ (d + 8) mX6_some [.ref o] h = some (some (va_rf r), h1) ∧ CT h1 o n t op (.inl q) ∧ GO o h h1 1 2 := by
  have t8 := C.1.1.1
  obtain ⟨h1, a, e1, C1, G1⟩ := kX6_fact_i (d := d) C
  have e1 : C_ (d + 6) mX6_fact [.ref o] h = some (some (va_rf (some a)), h1) := e1
  obtain ⟨h2, q2, e2, C2, G2, -⟩ := JK_p0 (d := d + 2) (A := fun _ => 0) (cd0 := 0) (cd := 0) (x := .inl q) rfl h1 (some a) C1 (fun L z => by cases z)
  have e3 : C_ (d + 7) mX6_all [.ref o] h = some (some (va_rf q2), h2) := by
    refine Eq.trans ?_ e2
    simp (disch := first | assumption | exact nI_ne0 (by decide) (by decide) | exact zb_01 | exact Or.inl rfl | exact Or.inr rfl | with_unfolding_all exact id (by assumption) | with_unfolding_all exact id (xix_8 (by assumption) (by omega) (by omega)) | omega) only [wX6_all_e, wX6_all_0, wX6_all_0q, wX6_all_0n, wX6_all_1, wX6_all_4, wX6_all_4n, wX6_all_4q, wX6_all_6, wX6_all_8, wX6_all_11, wX6_all_14, wX6_all_17, wX6_all_18, wX6_all_19, wX6_all_19q, wX6_all_19n, wX6_all_20, wX6_all_20q, wX6_all_20n, wX6_all_21, wX6_all_24, wX6_all_27, wX6_all_27n, wX6_all_27q, wX6_all_28, wX6_all_31, wX6_all_31q, wX6_all_31n, wX6_all_32, wX6_all_32n, wX6_all_32q, if_true, if_false, ↓reduceIte, xpu_s, xpu_n, Option.bind_some, xk_i, xk_r, xk_0, xk_u, xk_l, xk_k, xk_q, rf_s, rf_n, q_e1, q_e2, Nat.zero_add, Nat.reduceEqDiff, Nat.reduceAdd, Nat.reduceMul, Nat.reduceSub, Nat.reduceLT, Nat.reduceLeDiff, Nat.reduceDiv, Nat.reduceMod, e1, not_true_eq_false, not_false_eq_true, and_self, and_true, true_and, and_false, false_and, or_true, true_or, or_false, false_or, decide_true, decide_false, zb_t, zb_f, zb_0, zb_1, eq_self]
  obtain ⟨h3, q3, e4, C3, G3, -⟩ := JK_q0 (d := d + 3) (A := fun _ => 0) (cd0 := 0) (cd := 0) (x := .inl q) rfl h2 q2 C2 (fun L z => by cases z)
  refine ⟨h3, q3, Eq.trans ?_ e4, C3, GO_le (GO_t (GO_t G1 G2) G3) (by omega) (by omega)⟩
  simp (disch := first | assumption | exact nI_ne0 (by decide) (by decide) | exact zb_01 | exact Or.inl rfl | exact Or.inr rfl | with_unfolding_all exact id (by assumption) | with_unfolding_all exact id (xix_8 (by assumption) (by omega) (by omega)) | omega) only [wX6_some_e, wX6_some_0, wX6_some_0q, wX6_some_0n, wX6_some_1, wX6_some_4, wX6_some_4n, wX6_some_4q, wX6_some_6, wX6_some_8, wX6_some_11, wX6_some_14, wX6_some_17, wX6_some_18, wX6_some_19, wX6_some_19q, wX6_some_19n, wX6_some_20, wX6_some_20q, wX6_some_20n, wX6_some_21, wX6_some_24, wX6_some_27, wX6_some_27n, wX6_some_27q, wX6_some_28, wX6_some_31, wX6_some_31q, wX6_some_31n, wX6_some_32, wX6_some_32n, wX6_some_32q, if_true, if_false, ↓reduceIte, xpu_s, xpu_n, Option.bind_some, xk_i, xk_r, xk_0, xk_u, xk_l, xk_k, xk_q, rf_s, rf_n, q_e1, q_e2, Nat.zero_add, Nat.reduceEqDiff, Nat.reduceAdd, Nat.reduceMul, Nat.reduceSub, Nat.reduceLT, Nat.reduceLeDiff, Nat.reduceDiv, Nat.reduceMod, e3, not_true_eq_false, not_false_eq_true, and_self, and_true, true_and, and_false, false_and, or_true, true_or, or_false, false_or, decide_true, decide_false, zb_t, zb_f, zb_0, zb_1, eq_self]
/-- the lines read so far -/
def LK (h : xH) (X o l : Nat) (A : rI) : Prop := oR h o 2 = some l ∧ LWo h l A ∧ LG h l (sNl A) 18 ∧ X ≤ l ∧ X ≤ rq h l 1
theorem LG_sm (s1 : sm h h1 l) (s2 : sm h h1 (rq h l 1)) (st : ∀ a, 9 ≤ oT h a → oT h a ≤ 18 → sm h h1 a) (ht : 9 ≤ b ∧ b ≤ 18) (G : LG h l m b) : LG h1 l m b ∧ (∀ k, li h1 l k = li h l k) ∧ rq h1 l 1 = rq h l 1 := by
  obtain ⟨g1, g2, g3, g4⟩ := G
  obtain ⟨L1, L2⟩ := LS_m s1 s2 g1
  have e := rq_m (j := 1) s1
  refine ⟨⟨L1, ?_, ?_, fun k hk => ?_⟩, L2, e⟩
  · rw [e, s2.2.1]; exact g2
  · rw [e, s2.2.1]; exact g3
  · have q := g4 k hk
    rw [L2 k, (st _ (by omega) (by omega)).1]
    exact q
theorem LK_GO (C : CT h o n t op x) (G : GO o h h1 k v) (K : LK h X o l A) : LK h1 X o l A := by
  obtain ⟨k1, k2, k3, k4, k5⟩ := K
  have T := C.2.2
  have t8 := C.1.1.1
  have l4 := k3.1.1
  have l45 := k3.1.2.2.2.1
  have st := GO_st G C
  have s1 : sm h h1 l := G.1.2.2.2.2.2 l (TX_lt T (by rw [l4]; decide)) (fun z => by rw [z, t8] at l4; omega)
  have s2 : sm h h1 (rq h l 1) := G.1.2.2.2.2.2 _ (TX_lt T (by rw [l45]; decide)) (fun z => by rw [z, t8] at l45; omega)
  obtain ⟨g1, g2, g3⟩ := LG_sm s1 s2 st (by omega) k3
  exact ⟨by rw [G.2]; exact k1, LW_m s1 s2 st k2, g1, k4, by rw [g3]; exact k5⟩
/-- a line to its test -/
theorem kX6_lw1 (C : CT h o n t 0 (.inr L)) (K : LK h X o l A) (a40 : A 40 = nI m) (hm : m ≤ 12) (hk : ¬ L.2.2.1 = 34) : ∃ h1 v s2', E_ (d + 9) mX6_law 4 [.val (.ref o), s1, s2] [] h = E_ (d + 9) mX6_law 82 [.val (.ref o), .val (.int (nI v)), s2'] [] h1 ∧ v = nbv 0 100 (ll0 t n m L) ∧ CT h1 o n t 0 (ll2 t n m L) ∧ GO o h h1 0 0 := by
  have t8 := C.1.1.1
  have f8 := (CS_inr C.1).1
  have ok := CT_ok C
  have c5 := C.1.2.2.2.2.2.2.2.1
  have cb := ct_b (k := L.2.2.1)
  have n0 : (nI (ct L.2.2.1) = 0) = False := by
    rw [nI_z (by omega)]
    refine eq_false (fun z => ?_)
    have ok3 := ok.2.2.1
    unfold ct at z
    repeat' split at z
    all_goals omega
  have IS := kX6_is (d := d + 7) (j := 17) C.1 C.2.1 (by omega)
  have en : sNl A = m := by unfold sNl; rw [a40]; exact nI_clamp (by omega)
  obtain ⟨k1, k2, k3, k4, k5⟩ := K
  have SZ := kJ2_size (d := d + 8) k3.1
  rw [en] at SZ
  have l4 := k3.1.1
  -- to the number
  have A1 : ∃ h1, E_ (d + 9) mX6_law 4 [.val (.ref o), s1, s2] [] h = E_ (d + 9) mX6_law 60 [.val (.ref o), s1, s2] [] h1 ∧ CT h1 o n t 0 (ll0 t n m L) ∧ GO o h h1 0 0 := by
    by_cases q : L.2.2.1 = 17
    · rw [isx_r, decide_eq_true q] at IS
      have IS : C_ (d + 8) mX6_is [.ref o, .ref 18] h = some (some (.int (zb true)), h) := IS
      obtain ⟨h1, e1, C1, G1⟩ := xC_space (d := d + 4) (u := decide (m = 12)) C
      have e0 : ll0 t n m L = spx t n (decide (m = 12)) (.inr L) := if_pos q
      refine ⟨h1, ?_, by rw [e0]; exact C1, G1⟩
      refine wX6_law_4.trans ?_
      by_cases y : m = 12
      · have e12 : (nI m = nI 12) = True := by rw [y]; exact eq_true rfl
        rw [decide_eq_true y] at e1
        have e1 : C_ (d + 8) mX6_space [.ref o, .int (nI 1)] h = some (none, h1) := e1
        simp (disch := first | exact t8 | exact l4 | first | assumption | exact nI_ne0 (by decide) (by decide) | exact zb_01 | exact Or.inl rfl | exact Or.inr rfl | with_unfolding_all exact id (by assumption) | with_unfolding_all exact id (xix_8 (by assumption) (by omega) (by omega)) | omega) only [wX6_law_e, wX6_law_0, wX6_law_0q, wX6_law_0n, wX6_law_1, wX6_law_5, wX6_law_8, wX6_law_11, wX6_law_11q, wX6_law_11n, wX6_law_12, wX6_law_15, wX6_law_18, wX6_law_18q, wX6_law_18n, wX6_law_19, wX6_law_21, wX6_law_24, wX6_law_27, wX6_law_27q, wX6_law_27n, wX6_law_28, wX6_law_29, wX6_law_32, wX6_law_32q, wX6_law_32n, wX6_law_33, wX6_law_36, wX6_law_39, wX6_law_39q, wX6_law_39n, wX6_law_40, wX6_law_40q, wX6_law_40n, wX6_law_41, wX6_law_44, wX6_law_47, wX6_law_49, wX6_law_52, wX6_law_53, wX6_law_56, wX6_law_57, wX6_law_61, wX6_law_62, wX6_law_64, wX6_law_67, wX6_law_68, wX6_law_68q, wX6_law_68n, wX6_law_69, wX6_law_71, wX6_law_74, wX6_law_77, wX6_law_77q, wX6_law_77n, wX6_law_78, wX6_law_79, wX6_law_82, wX6_law_82q, wX6_law_82n, wX6_law_83, wX6_law_86, wX6_law_86n, wX6_law_86q, wX6_law_87, wX6_law_87q, wX6_law_87n, wX6_law_88, wX6_law_91, wX6_law_91q, wX6_law_91n, wX6_law_92, wX6_law_95, wX6_law_98, wX6_law_99, wX6_law_100, wX6_law_100q, wX6_law_100n, wX6_law_101, wX6_law_104, wX6_law_107, wX6_law_108, wX6_law_111, if_true, if_false, ↓reduceIte, xpu_s, xpu_n, Option.bind_some, xk_i, xk_r, xk_0, xk_u, xk_l, xk_k, xk_q, rf_s, rf_n, q_e1, q_e2, Nat.zero_add, Nat.reduceEqDiff, Nat.reduceAdd, Nat.reduceMul, Nat.reduceSub, Nat.reduceLT, Nat.reduceLeDiff, Nat.reduceDiv, Nat.reduceMod, f8, c5, n0, IS, one_ne0, k1, SZ, e12, e1, not_true_eq_false, not_false_eq_true, and_self, and_true, true_and, and_false, false_and, or_true, true_or, or_false, false_or, decide_true, decide_false, zb_t, zb_f, zb_0, zb_1, eq_self]
      · have e12 : (nI m = nI 12) = False := by rw [nI_eqI (by omega) (by omega)]; exact eq_false y
        rw [decide_eq_false y] at e1
        have e1 : C_ (d + 8) mX6_space [.ref o, .int (nI 0)] h = some (none, h1) := e1
        simp (disch := first | exact t8 | exact l4 | first | assumption | exact nI_ne0 (by decide) (by decide) | exact zb_01 | exact Or.inl rfl | exact Or.inr rfl | with_unfolding_all exact id (by assumption) | with_unfolding_all exact id (xix_8 (by assumption) (by omega) (by omega)) | omega) only [wX6_law_e, wX6_law_0, wX6_law_0q, wX6_law_0n, wX6_law_1, wX6_law_5, wX6_law_8, wX6_law_11, wX6_law_11q, wX6_law_11n, wX6_law_12, wX6_law_15, wX6_law_18, wX6_law_18q, wX6_law_18n, wX6_law_19, wX6_law_21, wX6_law_24, wX6_law_27, wX6_law_27q, wX6_law_27n, wX6_law_28, wX6_law_29, wX6_law_32, wX6_law_32q, wX6_law_32n, wX6_law_33, wX6_law_36, wX6_law_39, wX6_law_39q, wX6_law_39n, wX6_law_40, wX6_law_40q, wX6_law_40n, wX6_law_41, wX6_law_44, wX6_law_47, wX6_law_49, wX6_law_52, wX6_law_53, wX6_law_56, wX6_law_57, wX6_law_61, wX6_law_62, wX6_law_64, wX6_law_67, wX6_law_68, wX6_law_68q, wX6_law_68n, wX6_law_69, wX6_law_71, wX6_law_74, wX6_law_77, wX6_law_77q, wX6_law_77n, wX6_law_78, wX6_law_79, wX6_law_82, wX6_law_82q, wX6_law_82n, wX6_law_83, wX6_law_86, wX6_law_86n, wX6_law_86q, wX6_law_87, wX6_law_87q, wX6_law_87n, wX6_law_88, wX6_law_91, wX6_law_91q, wX6_law_91n, wX6_law_92, wX6_law_95, wX6_law_98, wX6_law_99, wX6_law_100, wX6_law_100q, wX6_law_100n, wX6_law_101, wX6_law_104, wX6_law_107, wX6_law_108, wX6_law_111, if_true, if_false, ↓reduceIte, xpu_s, xpu_n, Option.bind_some, xk_i, xk_r, xk_0, xk_u, xk_l, xk_k, xk_q, rf_s, rf_n, q_e1, q_e2, Nat.zero_add, Nat.reduceEqDiff, Nat.reduceAdd, Nat.reduceMul, Nat.reduceSub, Nat.reduceLT, Nat.reduceLeDiff, Nat.reduceDiv, Nat.reduceMod, f8, c5, n0, IS, one_ne0, k1, SZ, e12, e1, not_true_eq_false, not_false_eq_true, and_self, and_true, true_and, and_false, false_and, or_true, true_or, or_false, false_or, decide_true, decide_false, zb_t, zb_f, zb_0, zb_1, eq_self]
    · rw [isx_r, decide_eq_false q] at IS
      have IS : C_ (d + 8) mX6_is [.ref o, .ref 18] h = some (some (.int (zb false)), h) := IS
      obtain ⟨h1, e1, C1, G1⟩ := xC_wrong (d := d + 8) (c := 2) C (by omega) (by omega)
      have e0 : ll0 t n m L = flx 2 (.inr L) := if_neg q
      have t81 := C1.1.1.1
      have g8 := (CS_inl (q := (if L.2.2.1 = 35 then 1 else 2, L.1)) C1.1).1
      refine ⟨h1, ?_, by rw [e0]; exact C1, G1⟩
      refine wX6_law_4.trans ?_
      simp (disch := first | exact t8 | exact t81 | first | assumption | exact nI_ne0 (by decide) (by decide) | exact zb_01 | exact Or.inl rfl | exact Or.inr rfl | with_unfolding_all exact id (by assumption) | with_unfolding_all exact id (xix_8 (by assumption) (by omega) (by omega)) | omega) only [wX6_law_e, wX6_law_0, wX6_law_0q, wX6_law_0n, wX6_law_1, wX6_law_5, wX6_law_8, wX6_law_11, wX6_law_11q, wX6_law_11n, wX6_law_12, wX6_law_15, wX6_law_18, wX6_law_18q, wX6_law_18n, wX6_law_19, wX6_law_21, wX6_law_24, wX6_law_27, wX6_law_27q, wX6_law_27n, wX6_law_28, wX6_law_29, wX6_law_32, wX6_law_32q, wX6_law_32n, wX6_law_33, wX6_law_36, wX6_law_39, wX6_law_39q, wX6_law_39n, wX6_law_40, wX6_law_40q, wX6_law_40n, wX6_law_41, wX6_law_44, wX6_law_47, wX6_law_49, wX6_law_52, wX6_law_53, wX6_law_56, wX6_law_57, wX6_law_61, wX6_law_62, wX6_law_64, wX6_law_67, wX6_law_68, wX6_law_68q, wX6_law_68n, wX6_law_69, wX6_law_71, wX6_law_74, wX6_law_77, wX6_law_77q, wX6_law_77n, wX6_law_78, wX6_law_79, wX6_law_82, wX6_law_82q, wX6_law_82n, wX6_law_83, wX6_law_86, wX6_law_86n, wX6_law_86q, wX6_law_87, wX6_law_87q, wX6_law_87n, wX6_law_88, wX6_law_91, wX6_law_91q, wX6_law_91n, wX6_law_92, wX6_law_95, wX6_law_98, wX6_law_99, wX6_law_100, wX6_law_100q, wX6_law_100n, wX6_law_101, wX6_law_104, wX6_law_107, wX6_law_108, wX6_law_111, if_true, if_false, ↓reduceIte, xpu_s, xpu_n, Option.bind_some, xk_i, xk_r, xk_0, xk_u, xk_l, xk_k, xk_q, rf_s, rf_n, q_e1, q_e2, Nat.zero_add, Nat.reduceEqDiff, Nat.reduceAdd, Nat.reduceMul, Nat.reduceSub, Nat.reduceLT, Nat.reduceLeDiff, Nat.reduceDiv, Nat.reduceMod, f8, c5, n0, IS, e1, g8, not_true_eq_false, not_false_eq_true, and_self, and_true, true_and, and_false, false_and, or_true, true_or, or_false, false_or, decide_true, decide_false, zb_t, zb_f, zb_0, zb_1, eq_self]
  obtain ⟨h1, e1, C1, G1⟩ := A1
  have t81 := C1.1.1.1
  obtain ⟨h2, e2, C2, G2⟩ := xC_number (d := d + 4) (lo := 0) (hi := 100) C1 (by omega) (by omega)
  have t82 := C2.1.1.1
  have A2 : ∃ h3, E_ (d + 9) mX6_law 68 [.val (.ref o), .val (.int (nI (nbv 0 100 (ll0 t n m L)))), s2] [] h2 = E_ (d + 9) mX6_law 82 [.val (.ref o), .val (.int (nI (nbv 0 100 (ll0 t n m L)))), s2] [] h3 ∧ CT h3 o n t 0 (ll2 t n m L) ∧ GO o h2 h3 0 0 := by
    unfold ll2
    cases hx : isx 18 (nbx t n 0 100 (ll0 t n m L)) with
    | true =>
      rcases sX_inr (nbx t n 0 100 (ll0 t n m L)) with ⟨q, eq⟩ | ⟨L1, eq⟩
      · rw [eq] at hx; cases hx
      · rw [eq] at hx C2 ⊢
        have hj : L1.2.2.1 = 18 := of_decide_eq_true hx
        obtain ⟨h3, e3, C3, G3⟩ := xC_takesT (d := d + 4) (j := 18) C2 (by omega) hj
        have e3 : C_ (d + 8) mX6_takes [.ref o, .ref 19] h2 = some (some (.int (nI 1)), h3) := e3
        have en : ndx t n 18 (.inr L1) = .inr (lx t n L1.2.1) := if_pos hj
        refine ⟨h3, ?_, by rw [en]; exact C3, G3⟩
        simp (disch := first | exact t82 | first | assumption | exact nI_ne0 (by decide) (by decide) | exact zb_01 | exact Or.inl rfl | exact Or.inr rfl | with_unfolding_all exact id (by assumption) | with_unfolding_all exact id (xix_8 (by assumption) (by omega) (by omega)) | omega) only [wX6_law_e, wX6_law_0, wX6_law_0q, wX6_law_0n, wX6_law_1, wX6_law_5, wX6_law_8, wX6_law_11, wX6_law_11q, wX6_law_11n, wX6_law_12, wX6_law_15, wX6_law_18, wX6_law_18q, wX6_law_18n, wX6_law_19, wX6_law_21, wX6_law_24, wX6_law_27, wX6_law_27q, wX6_law_27n, wX6_law_28, wX6_law_29, wX6_law_32, wX6_law_32q, wX6_law_32n, wX6_law_33, wX6_law_36, wX6_law_39, wX6_law_39q, wX6_law_39n, wX6_law_40, wX6_law_40q, wX6_law_40n, wX6_law_41, wX6_law_44, wX6_law_47, wX6_law_49, wX6_law_52, wX6_law_53, wX6_law_56, wX6_law_57, wX6_law_61, wX6_law_62, wX6_law_64, wX6_law_67, wX6_law_68, wX6_law_68q, wX6_law_68n, wX6_law_69, wX6_law_71, wX6_law_74, wX6_law_77, wX6_law_77q, wX6_law_77n, wX6_law_78, wX6_law_79, wX6_law_83, wX6_law_86, wX6_law_86n, wX6_law_86q, wX6_law_87, wX6_law_87q, wX6_law_87n, wX6_law_88, wX6_law_91, wX6_law_91q, wX6_law_91n, wX6_law_92, wX6_law_95, wX6_law_98, wX6_law_99, wX6_law_100, wX6_law_100q, wX6_law_100n, wX6_law_101, wX6_law_104, wX6_law_107, wX6_law_108, wX6_law_111, if_true, if_false, ↓reduceIte, xpu_s, xpu_n, Option.bind_some, xk_i, xk_r, xk_0, xk_u, xk_l, xk_k, xk_q, rf_s, rf_n, q_e1, q_e2, Nat.zero_add, Nat.reduceEqDiff, Nat.reduceAdd, Nat.reduceMul, Nat.reduceSub, Nat.reduceLT, Nat.reduceLeDiff, Nat.reduceDiv, Nat.reduceMod, e3, nI_ne1, not_true_eq_false, not_false_eq_true, and_self, and_true, true_and, and_false, false_and, or_true, true_or, or_false, false_or, decide_true, decide_false, zb_t, zb_f, zb_0, zb_1, eq_self]
    | false =>
      have e3 := kX6_takesF (d := d + 4) (j := 18) C2.1 C2.2.1 (by omega) hx
      have e3 : C_ (d + 8) mX6_takes [.ref o, .ref 19] h2 = some (some (.int (nI 0)), h2) := e3
      obtain ⟨h3, e4, C3, G3⟩ := xC_wrong (d := d + 8) (c := 2) C2 (by omega) (by omega)
      have en : ndx t n 18 (nbx t n 0 100 (ll0 t n m L)) = flx 2 (nbx t n 0 100 (ll0 t n m L)) := by
        rcases sX_inr (nbx t n 0 100 (ll0 t n m L)) with ⟨q, eq⟩ | ⟨L1, eq⟩
        · rw [eq]; rfl
        · rw [eq] at hx ⊢
          exact if_neg (of_decide_eq_false hx)
      refine ⟨h3, ?_, by rw [en]; exact C3, G3⟩
      simp (disch := first | exact t82 | first | assumption | exact nI_ne0 (by decide) (by decide) | exact zb_01 | exact Or.inl rfl | exact Or.inr rfl | with_unfolding_all exact id (by assumption) | with_unfolding_all exact id (xix_8 (by assumption) (by omega) (by omega)) | omega) only [wX6_law_e, wX6_law_0, wX6_law_0q, wX6_law_0n, wX6_law_1, wX6_law_5, wX6_law_8, wX6_law_11, wX6_law_11q, wX6_law_11n, wX6_law_12, wX6_law_15, wX6_law_18, wX6_law_18q, wX6_law_18n, wX6_law_19, wX6_law_21, wX6_law_24, wX6_law_27, wX6_law_27q, wX6_law_27n, wX6_law_28, wX6_law_29, wX6_law_32, wX6_law_32q, wX6_law_32n, wX6_law_33, wX6_law_36, wX6_law_39, wX6_law_39q, wX6_law_39n, wX6_law_40, wX6_law_40q, wX6_law_40n, wX6_law_41, wX6_law_44, wX6_law_47, wX6_law_49, wX6_law_52, wX6_law_53, wX6_law_56, wX6_law_57, wX6_law_61, wX6_law_62, wX6_law_64, wX6_law_67, wX6_law_68, wX6_law_68q, wX6_law_68n, wX6_law_69, wX6_law_71, wX6_law_74, wX6_law_77, wX6_law_77q, wX6_law_77n, wX6_law_78, wX6_law_79, wX6_law_83, wX6_law_86, wX6_law_86n, wX6_law_86q, wX6_law_87, wX6_law_87q, wX6_law_87n, wX6_law_88, wX6_law_91, wX6_law_91q, wX6_law_91n, wX6_law_92, wX6_law_95, wX6_law_98, wX6_law_99, wX6_law_100, wX6_law_100q, wX6_law_100n, wX6_law_101, wX6_law_104, wX6_law_107, wX6_law_108, wX6_law_111, if_true, if_false, ↓reduceIte, xpu_s, xpu_n, Option.bind_some, xk_i, xk_r, xk_0, xk_u, xk_l, xk_k, xk_q, rf_s, rf_n, q_e1, q_e2, Nat.zero_add, Nat.reduceEqDiff, Nat.reduceAdd, Nat.reduceMul, Nat.reduceSub, Nat.reduceLT, Nat.reduceLeDiff, Nat.reduceDiv, Nat.reduceMod, e3, e4, nI_00, not_true_eq_false, not_false_eq_true, and_self, and_true, true_and, and_false, false_and, or_true, true_or, or_false, false_or, decide_true, decide_false, zb_t, zb_f, zb_0, zb_1, eq_self]
  obtain ⟨h3, e3, C3, G3⟩ := A2
  refine ⟨h3, _, s2, e1.trans (Eq.trans ?_ e3), rfl, C3, GO_le (GO_t (GO_t G1 G2) G3) (by omega) (by omega)⟩
  refine wX6_law_60.trans ?_
  simp (disch := first | exact t81 | first | assumption | exact nI_ne0 (by decide) (by decide) | exact zb_01 | exact Or.inl rfl | exact Or.inr rfl | with_unfolding_all exact id (by assumption) | with_unfolding_all exact id (xix_8 (by assumption) (by omega) (by omega)) | omega) only [wX6_law_e, wX6_law_0, wX6_law_0q, wX6_law_0n, wX6_law_1, wX6_law_5, wX6_law_8, wX6_law_11, wX6_law_11q, wX6_law_11n, wX6_law_12, wX6_law_15, wX6_law_18, wX6_law_18q, wX6_law_18n, wX6_law_19, wX6_law_21, wX6_law_24, wX6_law_27, wX6_law_27q, wX6_law_27n, wX6_law_28, wX6_law_29, wX6_law_32, wX6_law_32q, wX6_law_32n, wX6_law_33, wX6_law_36, wX6_law_39, wX6_law_39q, wX6_law_39n, wX6_law_40, wX6_law_40q, wX6_law_40n, wX6_law_41, wX6_law_44, wX6_law_47, wX6_law_49, wX6_law_52, wX6_law_53, wX6_law_56, wX6_law_57, wX6_law_61, wX6_law_62, wX6_law_64, wX6_law_67, wX6_law_69, wX6_law_71, wX6_law_74, wX6_law_77, wX6_law_77q, wX6_law_77n, wX6_law_78, wX6_law_79, wX6_law_83, wX6_law_86, wX6_law_86n, wX6_law_86q, wX6_law_87, wX6_law_87q, wX6_law_87n, wX6_law_88, wX6_law_91, wX6_law_91q, wX6_law_91n, wX6_law_92, wX6_law_95, wX6_law_98, wX6_law_99, wX6_law_100, wX6_law_100q, wX6_law_100n, wX6_law_101, wX6_law_104, wX6_law_107, wX6_law_108, wX6_law_111, if_true, if_false, ↓reduceIte, xpu_s, xpu_n, Option.bind_some, xk_i, xk_r, xk_0, xk_u, xk_l, xk_k, xk_q, rf_s, rf_n, q_e1, q_e2, Nat.zero_add, Nat.reduceEqDiff, Nat.reduceAdd, Nat.reduceMul, Nat.reduceSub, Nat.reduceLT, Nat.reduceLeDiff, Nat.reduceDiv, Nat.reduceMod, e2, not_true_eq_false, not_false_eq_true, and_self, and_true, true_and, and_false, false_and, or_true, true_or, or_false, false_or, decide_true, decide_false, zb_t, zb_f, zb_0, zb_1, eq_self]
/-- its test and its end -/
theorem kX6_lw2 {q : Option Nat} (C : CT h o n t 0 x) (K : LK h X o l A) (ox : X ≤ o) (hX : X ≤ oX h) (hm : sNl A ≤ 12) (C1 : CT h1 o n t 0 x1) (G1 : GO o h h1 k v) (e1 : C_ (d + 8) mX6_some [.ref o] h = some (some (va_rf q), h1)) : ∃ h2, E_ (d + 9) mX6_law 82 [.val (.ref o), .val (.int y1), s2] [] h = E_ (d + 9) mX6_law 4 [.val (.ref o), .val (.int y1), .val (va_rf q)] [] h2 ∧ CT h2 o n t 0 (ndx t n 31 x1) ∧ GX (fun a => X ≤ a) h h2 (k + 2) (v + 42) ∧ oR h2 o 2 = some l ∧ LG h2 l (sNl A + 1) 18 ∧ (∀ k, k < sNl A → li h2 l k = li h1 l k) ∧ (∀ a, 9 ≤ oT h1 a → oT h1 a ≤ 18 → sm h1 h2 a) ∧ X ≤ rq h2 l 1 ∧ oI h2 (li h2 l (sNl A)) 0 = y1 ∧ oR h2 (li h2 l (sNl A)) 1 = q := by
  have t8 := C.1.1.1
  have t81 := C1.1.1.1
  have K1 := LK_GO C G1 K
  obtain ⟨h2, e2, C2, G2⟩ := xC_over (d := d + 4) C1
  have t82 := C2.1.1.1
  have K2 := LK_GO C1 G2 K1
  obtain ⟨l1, l2, l3, l4⟩ := CT_l C2
  obtain ⟨C3, G3⟩ := CT_O (k := 18) (s := 2) C2
  have t83 := C3.1.1.1
  have K3 := LK_GO C2 G3 K2
  have tn : oT (pO h2 18 2) (oX h2) = 18 := by rw [o_TO, if_pos rfl]
  have I := kX18_init (d := d + 8) (y1 := y1) (q := q) tn
  obtain ⟨h4, e4⟩ : ∃ h4, h4 = pR (pI (pO h2 18 2) (oX h2) (va_up (oI (pO h2 18 2) (oX h2)) 0 y1)) (oX h2) (va_up (oR (pO h2 18 2) (oX h2)) 1 q) := ⟨_, rfl⟩
  have C4 : CT h4 o n t 0 (ndx t n 31 x1) := by rw [e4]; exact CT_p (CT_i C3 (by omega) (by omega)) (by omega) (by omega)
  have s4 : ∀ b, ¬ b = oX h2 → sm (pO h2 18 2) h4 b := fun b hb => by rw [e4]; exact sm_R (sm_I sm_refl hb) hb
  have s24 : ∀ b, ¬ b = oX h2 → sm h2 h4 b := fun b hb => sm_trans (sm_O hb) (s4 b hb)
  obtain ⟨k1, k2, k3, k4, k5⟩ := K2
  have T2 := C2.2.2
  have ll := TX_lt T2 (a := l) (by rw [k3.1.1]; decide)
  have lq := TX_lt T2 (a := rq h2 l 1) (by rw [k3.1.2.2.2.1]; decide)
  have st2 : ∀ a, 9 ≤ oT h2 a → oT h2 a ≤ 18 → sm h2 h4 a := fun a h9 _ => s24 a (fun z => by have := TX_lt T2 (a := a) (by omega); omega)
  obtain ⟨g1, g2, g3⟩ := LG_sm (s24 l (by omega)) (s24 _ (by omega)) st2 (by omega) k3
  have te : oT h4 (oX h2) = 18 := by rw [e4]; exact tn
  obtain ⟨h5, e5, g5, li5, ln5, rq5, G5, x5⟩ := kJ2_add (d := d + 4) (e := oX h2) C4.2.2 g1 hm (by omega) te
  have r2 : oR h4 o 2 = some l := by rw [(s24 o (by omega)).2.2.2.1]; exact k1
  have t84 := C4.1.1.1
  have tl : oT h4 l = 4 := g1.1.1
  have ne : ¬ l = o := fun z => by rw [z, t84] at tl; omega
  have nq : ¬ rq h4 l 1 = o := fun z => by have := g1.1.2.2.2.1; rw [z, t84] at this; omega
  have x4 : oX h4 = oX h2 + 1 := by rw [e4]; rfl
  have g0 := G1.1.1
  have g20 := G2.1.1
  have s45 : ∀ a, a < oX h4 → ¬ oT h4 a = 4 → ¬ oT h4 a = 45 → sm h4 h5 a := fun a ha h1 h2 => G5.2.2.2.2.2 a ha (fun z => by
    rcases z with z | z
    · exact h1 (by rw [z]; exact tl)
    · exact h2 (by rw [z]; exact g1.1.2.2.2.1))
  have t8x : ∀ a, oT h4 a = 8 ∨ oT h4 a = 1 ∨ oT h4 a = 41 → sm h4 h5 a := fun a ha => s45 a (TX_lt C4.2.2 (by omega)) (by omega) (by omega)
  have C5 : CT h5 o n t 0 (ndx t n 31 x1) := by
    obtain ⟨D, S, T⟩ := C4
    have T' := TX_G T G5
    refine ⟨CS_m (t8x o (Or.inl D.1.1)) (t8x 64 (Or.inr (Or.inl D.1.2.2.1))) (t8x 78 (Or.inr (Or.inr D.1.2.2.2.2.1))) D, fun a a1 a2 => ?_, T'⟩
    have q := S a a1 a2
    have m := s45 a (by omega) (by omega) (by omega)
    rw [m.1, m.2.1, m.2.2.1]
    exact q
  have st4 : ∀ a, 9 ≤ oT h4 a → oT h4 a ≤ 18 → sm h4 h5 a := fun a h1 h2 => s45 a (TX_lt C4.2.2 (by omega)) (by omega) (by omega)
  refine ⟨h5, ?_, C5, ?_, ?_, g5, ?_, fun a h1 h2 => ?_, ?_, ?_, ?_⟩
  · simp (disch := first | exact t8 | exact t81 | exact t82 | exact t83 | exact t84 | exact tl | first | assumption | exact nI_ne0 (by decide) (by decide) | exact zb_01 | exact Or.inl rfl | exact Or.inr rfl | with_unfolding_all exact id (by assumption) | with_unfolding_all exact id (xix_8 (by assumption) (by omega) (by omega)) | omega) only [wX6_law_e, wX6_law_0, wX6_law_0q, wX6_law_0n, wX6_law_1, wX6_law_5, wX6_law_8, wX6_law_11, wX6_law_11q, wX6_law_11n, wX6_law_12, wX6_law_15, wX6_law_18, wX6_law_18q, wX6_law_18n, wX6_law_19, wX6_law_21, wX6_law_24, wX6_law_27, wX6_law_27q, wX6_law_27n, wX6_law_28, wX6_law_29, wX6_law_32, wX6_law_32q, wX6_law_32n, wX6_law_33, wX6_law_36, wX6_law_39, wX6_law_39q, wX6_law_39n, wX6_law_40, wX6_law_40q, wX6_law_40n, wX6_law_41, wX6_law_44, wX6_law_47, wX6_law_49, wX6_law_52, wX6_law_53, wX6_law_56, wX6_law_57, wX6_law_60, wX6_law_60q, wX6_law_60n, wX6_law_61, wX6_law_62, wX6_law_64, wX6_law_67, wX6_law_68, wX6_law_68q, wX6_law_68n, wX6_law_69, wX6_law_71, wX6_law_74, wX6_law_77, wX6_law_77q, wX6_law_77n, wX6_law_78, wX6_law_79, wX6_law_82, wX6_law_82q, wX6_law_82n, wX6_law_83, wX6_law_86, wX6_law_86n, wX6_law_86q, wX6_law_87, wX6_law_87q, wX6_law_87n, wX6_law_88, wX6_law_91, wX6_law_91q, wX6_law_91n, wX6_law_92, wX6_law_95, wX6_law_98, wX6_law_99, wX6_law_100, wX6_law_100q, wX6_law_100n, wX6_law_104, wX6_law_107, wX6_law_108, wX6_law_111, nX6_law_101, if_true, if_false, ↓reduceIte, xpu_s, xpu_n, Option.bind_some, xk_i, xk_r, xk_0, xk_u, xk_l, xk_k, xk_q, rf_s, rf_n, q_e1, q_e2, Nat.zero_add, Nat.reduceEqDiff, Nat.reduceAdd, Nat.reduceMul, Nat.reduceSub, Nat.reduceLT, Nat.reduceLeDiff, Nat.reduceDiv, Nat.reduceMod, e1, e2, (show oR h2 o 2 = some l from k1), I, ← e4, e5, not_true_eq_false, not_false_eq_true, and_self, and_true, true_and, and_false, false_and, or_true, true_or, or_false, false_or, decide_true, decide_false, zb_t, zb_f, zb_0, zb_1, eq_self]
  · have Ga : GO o h h2 (k + 0) (v + 0) := GO_t G1 G2
    have Gb : GX (fun a => a = o) h h4 (k + 0 + 1) (v + 0 + 2) := by
      rw [e4]
      exact GX_new (GX_new (GO_t Ga G3).1 (GX_I fun _ => rfl) (by omega)) (GX_R fun _ => rfl) (by omega)
    have Gc : GX (fun a => X ≤ a) h h4 (k + 0 + 1) (v + 0 + 2) := GX_W Gb (fun a _ z => by omega)
    refine GX_le (GX_trans Gc G5 (fun a ha z => ?_)) (by omega) (by omega)
    rcases z with z | z
    · omega
    · omega
  · rw [(t8x o (Or.inl t84)).2.2.2.1]; exact r2
  · intro j hj
    rw [li5 j hj, g2 j]
    have := G2
    obtain ⟨-, z, -⟩ := LG_sm (G2.1.2.2.2.2.2 l (TX_lt C1.2.2 (by rw [K1.2.2.1.1.1]; decide)) (fun z => by have := K1.2.2.1.1.1; rw [z, t81] at this; omega)) (G2.1.2.2.2.2.2 _ (TX_lt C1.2.2 (by rw [K1.2.2.1.1.2.2.2.1]; decide)) (fun z => by have := K1.2.2.1.1.2.2.2.1; rw [z, t81] at this; omega)) (GO_st G2 C1) (by omega) K1.2.2.1
    exact z j
  · have q1 := GO_st G2 C1 a h1 h2
    have a1 := q1.1
    have q2 := st2 a (by omega) (by omega)
    have a2 := q2.1
    exact sm_trans q1 (sm_trans q2 (st4 a (by omega) (by omega)))
  · rcases rq5 with z | ⟨z, -⟩
    · rw [z, g3]; exact k5
    · rw [z]; omega
  · rw [ln5]
    have q1 := st4 (oX h2) (by omega) (by omega)
    rw [q1.2.2.1, e4]
    show oI (pI (pO h2 18 2) (oX h2) _) (oX h2) 0 = y1
    rw [o_II, if_pos rfl, up_s]
  · rw [ln5]
    have q1 := st4 (oX h2) (by omega) (by omega)
    rw [q1.2.2.2.1, e4, o_RR, if_pos rfl, up_s]
end
