/-! TEXTS: the second object's words -/
section
variable {d : Nat} {h : xH} {P : sS} {n p b e k v c j i op lo hi m w wp : Nat} {t : Nat → Nat} {f : rI} {x y z u : Int32}
def MX (h : xH) (a b k v : Int32) : xH := pI h 150 (va_up (va_up (va_up (va_up (oI h 150) 7 a) 8 b) 10 k) 11 v)
theorem MX_T : oT (MX h x y z u) = oT h := rfl
theorem MX_N : oN (MX h x y z u) = oN h := rfl
theorem MX_R : oR (MX h x y z u) = oR h := rfl
theorem MX_f : oI (MX h x y z u) 150 = va_up (va_up (va_up (va_up (oI h 150) 7 x) 8 y) 10 z) 11 u := rfl
theorem MX_7 : oI (MX h x y z u) 150 7 = x := rfl
theorem MX_8 : oI (MX h x y z u) 150 8 = y := rfl
theorem MX_10 : oI (MX h x y z u) 150 10 = z := rfl
theorem MX_11 : oI (MX h x y z u) 150 11 = u := rfl
theorem MX_9 : oI (MX h x y z u) 150 9 = oI h 150 9 := rfl
theorem MX_154 : oI (MX h x y z u) 154 = oI h 154 := rfl
theorem MX_o (hj : ¬ j = 7 ∧ ¬ j = 8 ∧ ¬ j = 10 ∧ ¬ j = 11) : oI (MX h x y z u) 150 j = oI h 150 j := by rw [MX_f, up_ne (by omega), up_ne (by omega), up_ne (by omega), up_ne (by omega)]
theorem MX_w7 {x' : Int32} : pI (MX h x y z u) 150 (va_up (oI (MX h x y z u) 150) 7 x') = MX h x' y z u := by
  rw [MX_f]
  unfold MX
  rw [o_pII, up_c (i := 11) (j := 7) (by decide), up_c (i := 10) (j := 7) (by decide), up_c (i := 8) (j := 7) (by decide), up_up]
theorem MX_w8 {x' : Int32} : pI (MX h x y z u) 150 (va_up (oI (MX h x y z u) 150) 8 x') = MX h x x' z u := by
  rw [MX_f]
  unfold MX
  rw [o_pII, up_c (i := 11) (j := 8) (by decide), up_c (i := 10) (j := 8) (by decide), up_up]
theorem MX_w10 {x' : Int32} : pI (MX h x y z u) 150 (va_up (oI (MX h x y z u) 150) 10 x') = MX h x y x' u := by
  rw [MX_f]
  unfold MX
  rw [o_pII, up_c (i := 11) (j := 10) (by decide), up_up]
theorem MX_w11 {x' : Int32} : pI (MX h x y z u) 150 (va_up (oI (MX h x y z u) 150) 11 x') = MX h x y z x' := by
  rw [MX_f]
  unfold MX
  rw [o_pII, up_up]
theorem MX_0 : h = MX h (oI h 150 7) (oI h 150 8) (oI h 150 10) (oI h 150 11) := by
  unfold MX
  rw [up_sf, up_sf, up_sf, up_sf, pI_self]
/-- the second object's text -/
def TMs (h : xH) (n : Nat) (t : Nat → Nat) : Prop := MOK h ∧ n ≤ 400 ∧ (∀ k, k < 400 → oI h 154 k = nI (t k) ∧ t k < 256) ∧ oI h 150 9 = nI n
theorem TMs_MX (T : TMs h n t) : TMs (MX h x y z u) n t := T
def mv (t : Nat → Nat) (n k : Nat) : Int32 := if k < n then nI (t k) else -1
theorem kX5_see (T : TMs h n t) (hk : k ≤ 400) : C_ d mX5_see [.ref 150, .int (nI k)] h = some (some (.int (mv t n k)), h) := by
  obtain ⟨H, hn, a3, a4⟩ := T
  unfold mv
  by_cases q : k < n
  · have lt : (nI k < nI n) = True := eq_true (nI_lt q (by omega))
    have v := (a3 k (by omega)).1
    rw [if_pos q]
    simp (disch := first | exact mok_t H rfl | exact m_x154 H (by omega) | omega) only [wX5_see_e, wX5_see_0, wX5_see_1, wX5_see_2, wX5_see_5, wX5_see_8, wX5_see_9, wX5_see_12, wX5_see_13, wX5_see_14, wX5_see_17, wX5_see_18, if_true, if_false, ↓reduceIte, xpu_s, xpu_n, Option.bind_some, xk_i, xk_r, xk_0, xk_u, xk_l, xk_k, xk_q, rf_s, rf_n, q_e1, q_e2, Nat.zero_add, Nat.reduceEqDiff, Nat.reduceAdd, Nat.reduceMul, Nat.reduceSub, Nat.reduceLT, Nat.reduceLeDiff, Nat.reduceDiv, Nat.reduceMod, m_r1 H, m_r2 H, m_r3 H, m_r4 H, m_r5 H, m_r18 H, m_r19 H, m_r20 H, m_r24 H, m_r25 H, m_r27 H, m_r28 H, m_r29 H, m_r30 H, m_r31 H, m_r32 H, m_r33 H, m_r34 H, m_r35 H, m_n150 H, m_n151 H, m_n152 H, m_n153 H, m_n154 H, m_n155 H, m_n156 H, m_n157 H, m_n158 H, m_n159 H, m_n160 H, m_n161 H, m_n162 H, m_n163 H, m_n164 H, m_n165 H, m_n166 H, m_n167 H, m_n168 H, m_n169 H, a4, lt, v, nI_c, not_true_eq_false, not_false_eq_true, and_self, and_true, true_and, and_false, false_and, or_true, true_or, or_false, false_or, decide_true, decide_false, zb_t, zb_f, zb_0, zb_1, eq_self]
  · have lt : (nI k < nI n) = False := eq_false (nI_nlt (by omega) (by omega))
    rw [if_neg q]
    simp (disch := first | exact mok_t H rfl | omega) only [wX5_see_e, wX5_see_0, wX5_see_1, wX5_see_2, wX5_see_5, wX5_see_8, wX5_see_9, wX5_see_12, wX5_see_13, wX5_see_14, wX5_see_17, wX5_see_18, if_true, if_false, ↓reduceIte, xpu_s, xpu_n, Option.bind_some, xk_i, xk_r, xk_0, xk_u, xk_l, xk_k, xk_q, rf_s, rf_n, q_e1, q_e2, Nat.zero_add, Nat.reduceEqDiff, Nat.reduceAdd, Nat.reduceMul, Nat.reduceSub, Nat.reduceLT, Nat.reduceLeDiff, Nat.reduceDiv, Nat.reduceMod, a4, lt, not_true_eq_false, not_false_eq_true, and_self, and_true, true_and, and_false, false_and, or_true, true_or, or_false, false_or, decide_true, decide_false, zb_t, zb_f, zb_0, zb_1, eq_self]
theorem m1_lt {a : Nat} (ha : a < 256) : ((-1 : Int32) < nI a) = True := by
  refine eq_true ?_
  rw [Int32.lt_iff_toInt_lt, nI_toInt (by omega)]
  have : (-1 : Int32).toInt = -1 := by decide
  omega
theorem kX5_isSmall (ht : k < n → t k < 256) : C_ d mX5_isSmall [.int (mv t n k)] h = some (some (.int (zb (if k < n then sml (t k) else false))), h) := by
  unfold mv
  by_cases q : k < n
  · have ht := ht q
    rw [if_pos q, if_pos q]
    unfold sml
    have c1 : (nI (t k) < nI 97) = (t k < 97) := nI_ltP (by omega) (by omega)
    have c2 : (nI 122 < nI (t k)) = (122 < t k) := nI_ltP (by omega) (by omega)
    by_cases y1 : t k < 97
    · rw [decide_eq_false (by omega)]
      simp (disch := first | exact Or.inl rfl | exact Or.inr rfl | omega) only [wX5_isSmall_e, wX5_isSmall_0, wX5_isSmall_1, wX5_isSmall_3, wX5_isSmall_6, wX5_isSmall_7, wX5_isSmall_9, wX5_isSmall_12, wX5_isSmall_13, wX5_isSmall_16, wX5_isSmall_17, if_true, if_false, ↓reduceIte, xpu_s, xpu_n, Option.bind_some, xk_i, xk_r, xk_0, xk_u, xk_l, xk_k, xk_q, rf_s, rf_n, q_e1, q_e2, Nat.zero_add, Nat.reduceEqDiff, Nat.reduceAdd, Nat.reduceMul, Nat.reduceSub, Nat.reduceLT, Nat.reduceLeDiff, Nat.reduceDiv, Nat.reduceMod, c1, y1, not_true_eq_false, not_false_eq_true, and_self, and_true, true_and, and_false, false_and, or_true, true_or, or_false, false_or, decide_true, decide_false, zb_t, zb_f, zb_0, zb_1, eq_self] <;> rfl
    · by_cases y2 : 122 < t k
      · rw [decide_eq_false (by omega)]
        simp (disch := first | exact Or.inl rfl | exact Or.inr rfl | omega) only [wX5_isSmall_e, wX5_isSmall_0, wX5_isSmall_1, wX5_isSmall_3, wX5_isSmall_6, wX5_isSmall_7, wX5_isSmall_9, wX5_isSmall_12, wX5_isSmall_13, wX5_isSmall_16, wX5_isSmall_17, if_true, if_false, ↓reduceIte, xpu_s, xpu_n, Option.bind_some, xk_i, xk_r, xk_0, xk_u, xk_l, xk_k, xk_q, rf_s, rf_n, q_e1, q_e2, Nat.zero_add, Nat.reduceEqDiff, Nat.reduceAdd, Nat.reduceMul, Nat.reduceSub, Nat.reduceLT, Nat.reduceLeDiff, Nat.reduceDiv, Nat.reduceMod, c1, y1, c2, y2, not_true_eq_false, not_false_eq_true, and_self, and_true, true_and, and_false, false_and, or_true, true_or, or_false, false_or, decide_true, decide_false, zb_t, zb_f, zb_0, zb_1, eq_self] <;> rfl
      · rw [decide_eq_true (by omega)]
        simp (disch := first | exact Or.inl rfl | exact Or.inr rfl | omega) only [wX5_isSmall_e, wX5_isSmall_0, wX5_isSmall_1, wX5_isSmall_3, wX5_isSmall_6, wX5_isSmall_7, wX5_isSmall_9, wX5_isSmall_12, wX5_isSmall_13, wX5_isSmall_16, wX5_isSmall_17, if_true, if_false, ↓reduceIte, xpu_s, xpu_n, Option.bind_some, xk_i, xk_r, xk_0, xk_u, xk_l, xk_k, xk_q, rf_s, rf_n, q_e1, q_e2, Nat.zero_add, Nat.reduceEqDiff, Nat.reduceAdd, Nat.reduceMul, Nat.reduceSub, Nat.reduceLT, Nat.reduceLeDiff, Nat.reduceDiv, Nat.reduceMod, c1, y1, c2, y2, not_true_eq_false, not_false_eq_true, and_self, and_true, true_and, and_false, false_and, or_true, true_or, or_false, false_or, decide_true, decide_false, zb_t, zb_f, zb_0, zb_1, eq_self] <;> rfl
  · rw [if_neg q, if_neg q]
    have c1 : ((-1 : Int32) < nI 97) = True := m1_lt (by omega)
    simp (disch := first | exact Or.inl rfl | exact Or.inr rfl | omega) only [wX5_isSmall_e, wX5_isSmall_0, wX5_isSmall_1, wX5_isSmall_3, wX5_isSmall_6, wX5_isSmall_7, wX5_isSmall_9, wX5_isSmall_12, wX5_isSmall_13, wX5_isSmall_16, wX5_isSmall_17, if_true, if_false, ↓reduceIte, xpu_s, xpu_n, Option.bind_some, xk_i, xk_r, xk_0, xk_u, xk_l, xk_k, xk_q, rf_s, rf_n, q_e1, q_e2, Nat.zero_add, Nat.reduceEqDiff, Nat.reduceAdd, Nat.reduceMul, Nat.reduceSub, Nat.reduceLT, Nat.reduceLeDiff, Nat.reduceDiv, Nat.reduceMod, c1, not_true_eq_false, not_false_eq_true, and_self, and_true, true_and, and_false, false_and, or_true, true_or, or_false, false_or, decide_true, decide_false, zb_t, zb_f, zb_0, zb_1, eq_self] <;> rfl
theorem kX5_isDigit (ht : k < n → t k < 256) : C_ d mX5_isDigit [.int (mv t n k)] h = some (some (.int (zb (if k < n then dgt (t k) else false))), h) := by
  unfold mv
  by_cases q : k < n
  · have ht := ht q
    rw [if_pos q, if_pos q]
    unfold dgt
    have c1 : (nI (t k) < nI 48) = (t k < 48) := nI_ltP (by omega) (by omega)
    have c2 : (nI 57 < nI (t k)) = (57 < t k) := nI_ltP (by omega) (by omega)
    by_cases y1 : t k < 48
    · rw [decide_eq_false (by omega)]
      simp (disch := first | exact Or.inl rfl | exact Or.inr rfl | omega) only [wX5_isDigit_e, wX5_isDigit_0, wX5_isDigit_1, wX5_isDigit_3, wX5_isDigit_6, wX5_isDigit_7, wX5_isDigit_9, wX5_isDigit_12, wX5_isDigit_13, wX5_isDigit_16, wX5_isDigit_17, if_true, if_false, ↓reduceIte, xpu_s, xpu_n, Option.bind_some, xk_i, xk_r, xk_0, xk_u, xk_l, xk_k, xk_q, rf_s, rf_n, q_e1, q_e2, Nat.zero_add, Nat.reduceEqDiff, Nat.reduceAdd, Nat.reduceMul, Nat.reduceSub, Nat.reduceLT, Nat.reduceLeDiff, Nat.reduceDiv, Nat.reduceMod, c1, y1, not_true_eq_false, not_false_eq_true, and_self, and_true, true_and, and_false, false_and, or_true, true_or, or_false, false_or, decide_true, decide_false, zb_t, zb_f, zb_0, zb_1, eq_self] <;> rfl
    · by_cases y2 : 57 < t k
      · rw [decide_eq_false (by omega)]
        simp (disch := first | exact Or.inl rfl | exact Or.inr rfl | omega) only [wX5_isDigit_e, wX5_isDigit_0, wX5_isDigit_1, wX5_isDigit_3, wX5_isDigit_6, wX5_isDigit_7, wX5_isDigit_9, wX5_isDigit_12, wX5_isDigit_13, wX5_isDigit_16, wX5_isDigit_17, if_true, if_false, ↓reduceIte, xpu_s, xpu_n, Option.bind_some, xk_i, xk_r, xk_0, xk_u, xk_l, xk_k, xk_q, rf_s, rf_n, q_e1, q_e2, Nat.zero_add, Nat.reduceEqDiff, Nat.reduceAdd, Nat.reduceMul, Nat.reduceSub, Nat.reduceLT, Nat.reduceLeDiff, Nat.reduceDiv, Nat.reduceMod, c1, y1, c2, y2, not_true_eq_false, not_false_eq_true, and_self, and_true, true_and, and_false, false_and, or_true, true_or, or_false, false_or, decide_true, decide_false, zb_t, zb_f, zb_0, zb_1, eq_self] <;> rfl
      · rw [decide_eq_true (by omega)]
        simp (disch := first | exact Or.inl rfl | exact Or.inr rfl | omega) only [wX5_isDigit_e, wX5_isDigit_0, wX5_isDigit_1, wX5_isDigit_3, wX5_isDigit_6, wX5_isDigit_7, wX5_isDigit_9, wX5_isDigit_12, wX5_isDigit_13, wX5_isDigit_16, wX5_isDigit_17, if_true, if_false, ↓reduceIte, xpu_s, xpu_n, Option.bind_some, xk_i, xk_r, xk_0, xk_u, xk_l, xk_k, xk_q, rf_s, rf_n, q_e1, q_e2, Nat.zero_add, Nat.reduceEqDiff, Nat.reduceAdd, Nat.reduceMul, Nat.reduceSub, Nat.reduceLT, Nat.reduceLeDiff, Nat.reduceDiv, Nat.reduceMod, c1, y1, c2, y2, not_true_eq_false, not_false_eq_true, and_self, and_true, true_and, and_false, false_and, or_true, true_or, or_false, false_or, decide_true, decide_false, zb_t, zb_f, zb_0, zb_1, eq_self] <;> rfl
  · rw [if_neg q, if_neg q]
    have c1 : ((-1 : Int32) < nI 48) = True := m1_lt (by omega)
    simp (disch := first | exact Or.inl rfl | exact Or.inr rfl | omega) only [wX5_isDigit_e, wX5_isDigit_0, wX5_isDigit_1, wX5_isDigit_3, wX5_isDigit_6, wX5_isDigit_7, wX5_isDigit_9, wX5_isDigit_12, wX5_isDigit_13, wX5_isDigit_16, wX5_isDigit_17, if_true, if_false, ↓reduceIte, xpu_s, xpu_n, Option.bind_some, xk_i, xk_r, xk_0, xk_u, xk_l, xk_k, xk_q, rf_s, rf_n, q_e1, q_e2, Nat.zero_add, Nat.reduceEqDiff, Nat.reduceAdd, Nat.reduceMul, Nat.reduceSub, Nat.reduceLT, Nat.reduceLeDiff, Nat.reduceDiv, Nat.reduceMod, c1, not_true_eq_false, not_false_eq_true, and_self, and_true, true_and, and_false, false_and, or_true, true_or, or_false, false_or, decide_true, decide_false, zb_t, zb_f, zb_0, zb_1, eq_self] <;> rfl
/-! which word it is -/
def ks (i : Nat) : Nat := (xtxt.getD 30 []).getD i 0
def ksn : Nat := (xtxt.getD 30 []).length
/-- where a word begins in the row of words -/
def kst : Nat → Nat
  | 0 => 1
  | k + 1 => kst k + (kw k).length + 1
theorem ks_f : ∀ j, j < 29 → kst j + (kw j).length < ksn ∧ ks (kst j + (kw j).length) = 32 ∧ ∀ i, i < (kw j).length → ks (kst j + i) = (kw j).getD i 0 ∧ ¬ ks (kst j + i) = 32 ∧ ks (kst j + i) < 256 := by decide +kernel
theorem ks_n : kst 29 = ksn ∧ ksn < 1000 := by decide +kernel
/-- the row of words -/
def ST3 (h : xH) : Prop := oT h 30 = 38 ∧ oN h 30 = ksn ∧ ∀ k, k < ksn → oI h 30 k = nI (ks k)
theorem STR_3 (S : STR h) : ST3 h := S 30 (by omega) (by omega)
theorem ST3_MX (S : ST3 h) : ST3 (MX h x y z u) := S
theorem ks_x (S : ST3 h) (hk : k < ksn) : xP 1 [.ref 30, .int (nI k)] h = some (some (.int (nI (ks k))), h) := xP1_ S.1 S.2.1 hk (by have := ks_n.2; omega) (S.2.2 k hk)
theorem kX5_keyAt (T : TMs h n t) (S : ST3 h) (e7 : oI h 150 7 = nI b) (e8 : oI h 150 8 = nI e) (hb : b ≤ e) (he : e ≤ 400) : C_ d mX5_keyAt [.ref 150] h = some (some (.int (nI (key_ t b e))), h) := by
  obtain ⟨H, hn, a3, a4⟩ := T
  have kn := ks_n.2
  have X0 := xP0_ S.1 S.2.1
  have t30 := S.1
  have t150 : oT h 150 = 7 := mok_t H rfl
  have t154 : oT h 154 = 40 := mok_t H rfl
  have e0 : C_ d mX5_keyAt [.ref 150] h = E_ d mX5_keyAt 4 [.val (.ref 150), .val (.int (nI 0)), .val (.int (nI (kst 0))), .unset] [] h := by
    simp (disch := first | assumption | exact nI_ne0 (by decide) (by decide) | exact zb_01 | exact Or.inl rfl | exact Or.inr rfl | with_unfolding_all exact id (by assumption) | with_unfolding_all exact id (xix_8 (by assumption) (by omega) (by omega)) | omega) only [wX5_keyAt_e, wX5_keyAt_0, wX5_keyAt_1, wX5_keyAt_2, wX5_keyAt_3, wX5_keyAt_5, wX5_keyAt_7, wX5_keyAt_10, wX5_keyAt_13, wX5_keyAt_14, wX5_keyAt_15, wX5_keyAt_17, wX5_keyAt_18, wX5_keyAt_19, wX5_keyAt_20, wX5_keyAt_23, wX5_keyAt_25, wX5_keyAt_28, wX5_keyAt_29, wX5_keyAt_32, wX5_keyAt_33, wX5_keyAt_34, wX5_keyAt_35, wX5_keyAt_38, wX5_keyAt_41, wX5_keyAt_42, wX5_keyAt_45, wX5_keyAt_46, wX5_keyAt_49, wX5_keyAt_50, wX5_keyAt_51, wX5_keyAt_52, wX5_keyAt_54, wX5_keyAt_55, wX5_keyAt_56, wX5_keyAt_57, wX5_keyAt_60, wX5_keyAt_63, wX5_keyAt_66, wX5_keyAt_69, wX5_keyAt_71, wX5_keyAt_72, wX5_keyAt_73, wX5_keyAt_74, wX5_keyAt_77, wX5_keyAt_79, wX5_keyAt_82, wX5_keyAt_83, wX5_keyAt_86, wX5_keyAt_87, wX5_keyAt_88, wX5_keyAt_89, wX5_keyAt_92, wX5_keyAt_95, wX5_keyAt_96, wX5_keyAt_97, wX5_keyAt_99, wX5_keyAt_100, wX5_keyAt_103, wX5_keyAt_105, wX5_keyAt_108, wX5_keyAt_111, wX5_keyAt_114, wX5_keyAt_117, wX5_keyAt_120, wX5_keyAt_123, wX5_keyAt_125, if_true, if_false, ↓reduceIte, xpu_s, xpu_n, Option.bind_some, xk_i, xk_r, xk_0, xk_u, xk_l, xk_k, xk_q, rf_s, rf_n]
    rfl
  rw [e0]
  unfold key_
  refine lpe_fi (n := 29) (z := (.unset : Slot)) (p := fun k => seq_ t b e (kw k)) (P := fun _ _ => True) (Q := fun q r => r = some (some (.int (nI (q.getD 29))), h)) (F := fun j z => E_ d mX5_keyAt 4 [.val (.ref 150), .val (.int (nI j)), .val (.int (nI (kst j))), z] [] h) trivial (fun j z hj _ => ?_) (fun z _ => ?_)
  · obtain ⟨f1, f2, f3⟩ := ks_f j hj
    obtain ⟨l6, -⟩ := kw_l j hj
    have lt : (nI (kst j) < nI ksn) = True := eq_true (nI_lt (by omega) (by omega))
    -- how far letters agree
    have A : ∀ q : Option Nat, fi_ (fun i => !decide (b + i < e ∧ t (b + i) = (kw j).getD i 0)) (kw j).length = q → E_ d mX5_keyAt 4 [.val (.ref 150), .val (.int (nI j)), .val (.int (nI (kst j))), z] [] h = E_ d mX5_keyAt 69 [.val (.ref 150), .val (.int (nI j)), .val (.int (nI (kst j))), .val (.int (nI (q.getD (kw j).length)))] [] h := by
      have e1 : E_ d mX5_keyAt 4 [.val (.ref 150), .val (.int (nI j)), .val (.int (nI (kst j))), z] [] h = E_ d mX5_keyAt 15 [.val (.ref 150), .val (.int (nI j)), .val (.int (nI (kst j))), .val (.int (nI 0))] [] h := by
        refine wX5_keyAt_4.trans ?_
        simp (disch := first | assumption | exact nI_ne0 (by decide) (by decide) | exact zb_01 | exact Or.inl rfl | exact Or.inr rfl | with_unfolding_all exact id (by assumption) | with_unfolding_all exact id (xix_8 (by assumption) (by omega) (by omega)) | omega) only [wX5_keyAt_5, wX5_keyAt_7, wX5_keyAt_10, wX5_keyAt_13, wX5_keyAt_14, if_true, if_false, ↓reduceIte, xpu_s, xpu_n, Option.bind_some, xk_i, xk_r, xk_0, xk_u, xk_l, xk_k, xk_q, rf_s, rf_n, X0, lt, not_true_eq_false, not_false_eq_true, and_self, and_true, true_and, and_false, false_and, or_true, true_or, or_false, false_or, decide_true, decide_false, zb_t, zb_f, zb_0, zb_1, eq_self]
      rw [e1]
      refine lpe_fi (n := (kw j).length) (z := ()) (p := fun i => !decide (b + i < e ∧ t (b + i) = (kw j).getD i 0)) (P := fun _ _ => True) (Q := fun q' r => ∀ q, q' = q → r = E_ d mX5_keyAt 69 [.val (.ref 150), .val (.int (nI j)), .val (.int (nI (kst j))), .val (.int (nI (q.getD (kw j).length)))] [] h) (F := fun i _ => E_ d mX5_keyAt 15 [.val (.ref 150), .val (.int (nI j)), .val (.int (nI (kst j))), .val (.int (nI i))] [] h) trivial (fun i _ hi _ => ?_) (fun _ _ q hq => ?_)
      · obtain ⟨g1, g2, g3⟩ := f3 i hi
        have X1 := ks_x S (k := kst j + i) (by omega)
        have c32 : (nI (ks (kst j + i)) = nI 32) = False := by rw [nI_eqI (by omega) (by omega)]; exact eq_false g2
        by_cases y1 : b + i < e
        · have cl : (nI (b + i) < nI e) = True := eq_true (nI_lt y1 (by omega))
          have tv := a3 (b + i) (by omega)
          have tv1 := tv.1
          have ce : (nI (t (b + i)) = nI (ks (kst j + i))) = (t (b + i) = (kw j).getD i 0) := by rw [nI_eqI (by omega) (by omega), g1]
          have xi : xix (nI (b + i)) (oN h 154) = true := m_x154 H (by omega)
          by_cases y2 : t (b + i) = (kw j).getD i 0
          · refine Or.inr ⟨by rw [decide_eq_true ⟨y1, y2⟩]; rfl, (), ?_, trivial⟩
            have ce : (nI (t (b + i)) = nI (ks (kst j + i))) = True := by rw [ce]; exact eq_true y2
            refine wX5_keyAt_15.trans ?_
            simp (disch := first | exact xi | first | assumption | exact nI_ne0 (by decide) (by decide) | exact zb_01 | exact Or.inl rfl | exact Or.inr rfl | with_unfolding_all exact id (by assumption) | with_unfolding_all exact id (xix_8 (by assumption) (by omega) (by omega)) | omega) only [wX5_keyAt_e, wX5_keyAt_0, wX5_keyAt_1, wX5_keyAt_2, wX5_keyAt_3, wX5_keyAt_5, wX5_keyAt_7, wX5_keyAt_10, wX5_keyAt_13, wX5_keyAt_14, wX5_keyAt_17, wX5_keyAt_18, wX5_keyAt_19, wX5_keyAt_20, wX5_keyAt_23, wX5_keyAt_25, wX5_keyAt_28, wX5_keyAt_29, wX5_keyAt_32, wX5_keyAt_33, wX5_keyAt_34, wX5_keyAt_35, wX5_keyAt_38, wX5_keyAt_41, wX5_keyAt_42, wX5_keyAt_45, wX5_keyAt_46, wX5_keyAt_49, wX5_keyAt_50, wX5_keyAt_51, wX5_keyAt_52, wX5_keyAt_54, wX5_keyAt_55, wX5_keyAt_56, wX5_keyAt_57, wX5_keyAt_60, wX5_keyAt_63, wX5_keyAt_66, wX5_keyAt_71, wX5_keyAt_72, wX5_keyAt_73, wX5_keyAt_74, wX5_keyAt_77, wX5_keyAt_79, wX5_keyAt_82, wX5_keyAt_83, wX5_keyAt_86, wX5_keyAt_87, wX5_keyAt_88, wX5_keyAt_89, wX5_keyAt_92, wX5_keyAt_95, wX5_keyAt_96, wX5_keyAt_99, wX5_keyAt_100, wX5_keyAt_103, wX5_keyAt_105, wX5_keyAt_108, wX5_keyAt_111, wX5_keyAt_114, wX5_keyAt_117, wX5_keyAt_120, wX5_keyAt_123, wX5_keyAt_125, if_true, if_false, ↓reduceIte, xpu_s, xpu_n, Option.bind_some, xk_i, xk_r, xk_0, xk_u, xk_l, xk_k, xk_q, rf_s, rf_n, q_e1, q_e2, Nat.zero_add, Nat.reduceEqDiff, Nat.reduceAdd, Nat.reduceMul, Nat.reduceSub, Nat.reduceLT, Nat.reduceLeDiff, Nat.reduceDiv, Nat.reduceMod, m_r1 H, m_r2 H, m_r3 H, m_r4 H, m_r5 H, m_r18 H, m_r19 H, m_r20 H, m_r24 H, m_r25 H, m_r27 H, m_r28 H, m_r29 H, m_r30 H, m_r31 H, m_r32 H, m_r33 H, m_r34 H, m_r35 H, m_n150 H, m_n151 H, m_n152 H, m_n153 H, m_n154 H, m_n155 H, m_n156 H, m_n157 H, m_n158 H, m_n159 H, m_n160 H, m_n161 H, m_n162 H, m_n163 H, m_n164 H, m_n165 H, m_n166 H, m_n167 H, m_n168 H, m_n169 H, nI_c, nI_add, X1, c32, e7, e8, cl, tv1, ce, not_true_eq_false, not_false_eq_true, and_self, and_true, true_and, and_false, false_and, or_true, true_or, or_false, false_or, decide_true, decide_false, zb_t, zb_f, zb_0, zb_1, eq_self]
          · refine Or.inl ⟨by rw [decide_eq_false (fun z => y2 z.2)]; rfl, fun q hq => ?_⟩
            subst hq
            have ce : (nI (t (b + i)) = nI (ks (kst j + i))) = False := by rw [ce]; exact eq_false y2
            show _ = E_ d mX5_keyAt 69 [.val (.ref 150), .val (.int (nI j)), .val (.int (nI (kst j))), .val (.int (nI i))] [] h
            refine wX5_keyAt_15.trans ?_
            simp (disch := first | exact xi | first | assumption | exact nI_ne0 (by decide) (by decide) | exact zb_01 | exact Or.inl rfl | exact Or.inr rfl | with_unfolding_all exact id (by assumption) | with_unfolding_all exact id (xix_8 (by assumption) (by omega) (by omega)) | omega) only [wX5_keyAt_e, wX5_keyAt_0, wX5_keyAt_1, wX5_keyAt_2, wX5_keyAt_3, wX5_keyAt_5, wX5_keyAt_7, wX5_keyAt_10, wX5_keyAt_13, wX5_keyAt_14, wX5_keyAt_17, wX5_keyAt_18, wX5_keyAt_19, wX5_keyAt_20, wX5_keyAt_23, wX5_keyAt_25, wX5_keyAt_28, wX5_keyAt_29, wX5_keyAt_32, wX5_keyAt_33, wX5_keyAt_34, wX5_keyAt_35, wX5_keyAt_38, wX5_keyAt_41, wX5_keyAt_42, wX5_keyAt_45, wX5_keyAt_46, wX5_keyAt_49, wX5_keyAt_50, wX5_keyAt_51, wX5_keyAt_52, wX5_keyAt_54, wX5_keyAt_55, wX5_keyAt_56, wX5_keyAt_57, wX5_keyAt_60, wX5_keyAt_63, wX5_keyAt_66, wX5_keyAt_71, wX5_keyAt_72, wX5_keyAt_73, wX5_keyAt_74, wX5_keyAt_77, wX5_keyAt_79, wX5_keyAt_82, wX5_keyAt_83, wX5_keyAt_86, wX5_keyAt_87, wX5_keyAt_88, wX5_keyAt_89, wX5_keyAt_92, wX5_keyAt_95, wX5_keyAt_96, wX5_keyAt_99, wX5_keyAt_100, wX5_keyAt_103, wX5_keyAt_105, wX5_keyAt_108, wX5_keyAt_111, wX5_keyAt_114, wX5_keyAt_117, wX5_keyAt_120, wX5_keyAt_123, wX5_keyAt_125, if_true, if_false, ↓reduceIte, xpu_s, xpu_n, Option.bind_some, xk_i, xk_r, xk_0, xk_u, xk_l, xk_k, xk_q, rf_s, rf_n, q_e1, q_e2, Nat.zero_add, Nat.reduceEqDiff, Nat.reduceAdd, Nat.reduceMul, Nat.reduceSub, Nat.reduceLT, Nat.reduceLeDiff, Nat.reduceDiv, Nat.reduceMod, m_r1 H, m_r2 H, m_r3 H, m_r4 H, m_r5 H, m_r18 H, m_r19 H, m_r20 H, m_r24 H, m_r25 H, m_r27 H, m_r28 H, m_r29 H, m_r30 H, m_r31 H, m_r32 H, m_r33 H, m_r34 H, m_r35 H, m_n150 H, m_n151 H, m_n152 H, m_n153 H, m_n154 H, m_n155 H, m_n156 H, m_n157 H, m_n158 H, m_n159 H, m_n160 H, m_n161 H, m_n162 H, m_n163 H, m_n164 H, m_n165 H, m_n166 H, m_n167 H, m_n168 H, m_n169 H, nI_c, nI_add, X1, c32, e7, e8, cl, tv1, ce, not_true_eq_false, not_false_eq_true, and_self, and_true, true_and, and_false, false_and, or_true, true_or, or_false, false_or, decide_true, decide_false, zb_t, zb_f, zb_0, zb_1, eq_self]
        · refine Or.inl ⟨by rw [decide_eq_false (fun z => y1 z.1)]; rfl, fun q hq => ?_⟩
          subst hq
          have cl : (nI (b + i) < nI e) = False := eq_false (nI_nlt (by omega) (by omega))
          show _ = E_ d mX5_keyAt 69 [.val (.ref 150), .val (.int (nI j)), .val (.int (nI (kst j))), .val (.int (nI i))] [] h
          refine wX5_keyAt_15.trans ?_
          simp (disch := first | assumption | exact nI_ne0 (by decide) (by decide) | exact zb_01 | exact Or.inl rfl | exact Or.inr rfl | with_unfolding_all exact id (by assumption) | with_unfolding_all exact id (xix_8 (by assumption) (by omega) (by omega)) | omega) only [wX5_keyAt_e, wX5_keyAt_0, wX5_keyAt_1, wX5_keyAt_2, wX5_keyAt_3, wX5_keyAt_5, wX5_keyAt_7, wX5_keyAt_10, wX5_keyAt_13, wX5_keyAt_14, wX5_keyAt_17, wX5_keyAt_18, wX5_keyAt_19, wX5_keyAt_20, wX5_keyAt_23, wX5_keyAt_25, wX5_keyAt_28, wX5_keyAt_29, wX5_keyAt_32, wX5_keyAt_33, wX5_keyAt_34, wX5_keyAt_35, wX5_keyAt_38, wX5_keyAt_41, wX5_keyAt_42, wX5_keyAt_45, wX5_keyAt_46, wX5_keyAt_49, wX5_keyAt_50, wX5_keyAt_51, wX5_keyAt_52, wX5_keyAt_54, wX5_keyAt_55, wX5_keyAt_56, wX5_keyAt_57, wX5_keyAt_60, wX5_keyAt_63, wX5_keyAt_66, wX5_keyAt_71, wX5_keyAt_72, wX5_keyAt_73, wX5_keyAt_74, wX5_keyAt_77, wX5_keyAt_79, wX5_keyAt_82, wX5_keyAt_83, wX5_keyAt_86, wX5_keyAt_87, wX5_keyAt_88, wX5_keyAt_89, wX5_keyAt_92, wX5_keyAt_95, wX5_keyAt_96, wX5_keyAt_99, wX5_keyAt_100, wX5_keyAt_103, wX5_keyAt_105, wX5_keyAt_108, wX5_keyAt_111, wX5_keyAt_114, wX5_keyAt_117, wX5_keyAt_120, wX5_keyAt_123, wX5_keyAt_125, if_true, if_false, ↓reduceIte, xpu_s, xpu_n, Option.bind_some, xk_i, xk_r, xk_0, xk_u, xk_l, xk_k, xk_q, rf_s, rf_n, q_e1, q_e2, Nat.zero_add, Nat.reduceEqDiff, Nat.reduceAdd, Nat.reduceMul, Nat.reduceSub, Nat.reduceLT, Nat.reduceLeDiff, Nat.reduceDiv, Nat.reduceMod, nI_add, X1, c32, e7, e8, cl, not_true_eq_false, not_false_eq_true, and_self, and_true, true_and, and_false, false_and, or_true, true_or, or_false, false_or, decide_true, decide_false, zb_t, zb_f, zb_0, zb_1, eq_self]
      · subst hq
        have X1 := ks_x S f1
        rw [f2] at X1
        show _ = E_ d mX5_keyAt 69 [.val (.ref 150), .val (.int (nI j)), .val (.int (nI (kst j))), .val (.int (nI (kw j).length))] [] h
        refine wX5_keyAt_15.trans ?_
        simp (disch := first | assumption | exact nI_ne0 (by decide) (by decide) | exact zb_01 | exact Or.inl rfl | exact Or.inr rfl | with_unfolding_all exact id (by assumption) | with_unfolding_all exact id (xix_8 (by assumption) (by omega) (by omega)) | omega) only [wX5_keyAt_17, wX5_keyAt_18, wX5_keyAt_19, wX5_keyAt_20, wX5_keyAt_23, wX5_keyAt_25, if_true, if_false, ↓reduceIte, xpu_s, xpu_n, Option.bind_some, xk_i, xk_r, xk_0, xk_u, xk_l, xk_k, xk_q, rf_s, rf_n, nI_add, X1, not_true_eq_false, not_false_eq_true, and_self, and_true, true_and, and_false, false_and, or_true, true_or, or_false, false_or, decide_true, decide_false, zb_t, zb_f, zb_0, zb_1, eq_self]
    -- over to the next word
    have B : ∀ s3 : Int32, E_ d mX5_keyAt 97 [.val (.ref 150), .val (.int (nI j)), .val (.int (nI (kst j))), .val (.int s3)] [] h = E_ d mX5_keyAt 4 [.val (.ref 150), .val (.int (nI (j + 1))), .val (.int (nI (kst (j + 1)))), .val (.int s3)] [] h := by
      intro s3
      have I := lpj_go (n := (kw j).length) (X := E_ d mX5_keyAt 4 [.val (.ref 150), .val (.int (nI (j + 1))), .val (.int (nI (kst (j + 1)))), .val (.int s3)] [] h) (F := fun i (_ : Unit) => E_ d mX5_keyAt 97 [.val (.ref 150), .val (.int (nI j)), .val (.int (nI (kst j + i))), .val (.int s3)] [] h) (fun i _ hi => ⟨(), ?_⟩) (fun _ => ?_) ()
      · exact I
      · obtain ⟨g1, g2, g3⟩ := f3 i hi
        have X1 := ks_x S (k := kst j + i) (by omega)
        have c32 : (nI (ks (kst j + i)) = nI 32) = False := by rw [nI_eqI (by omega) (by omega)]; exact eq_false g2
        refine wX5_keyAt_97.trans ?_
        simp (disch := first | assumption | exact nI_ne0 (by decide) (by decide) | exact zb_01 | exact Or.inl rfl | exact Or.inr rfl | with_unfolding_all exact id (by assumption) | with_unfolding_all exact id (xix_8 (by assumption) (by omega) (by omega)) | omega) only [wX5_keyAt_99, wX5_keyAt_100, wX5_keyAt_103, wX5_keyAt_105, wX5_keyAt_108, wX5_keyAt_111, if_true, if_false, ↓reduceIte, xpu_s, xpu_n, Option.bind_some, xk_i, xk_r, xk_0, xk_u, xk_l, xk_k, xk_q, rf_s, rf_n, nI_add, X1, c32, Nat.add_assoc, not_true_eq_false, not_false_eq_true, and_self, and_true, true_and, and_false, false_and, or_true, true_or, or_false, false_or, decide_true, decide_false, zb_t, zb_f, zb_0, zb_1, eq_self]
      · have X1 := ks_x S f1
        rw [f2] at X1
        have e2 : kst (j + 1) = kst j + (kw j).length + 1 := rfl
        rw [e2]
        refine wX5_keyAt_97.trans ?_
        simp (disch := first | assumption | exact nI_ne0 (by decide) (by decide) | exact zb_01 | exact Or.inl rfl | exact Or.inr rfl | with_unfolding_all exact id (by assumption) | with_unfolding_all exact id (xix_8 (by assumption) (by omega) (by omega)) | omega) only [wX5_keyAt_99, wX5_keyAt_100, wX5_keyAt_103, wX5_keyAt_105, wX5_keyAt_114, wX5_keyAt_117, wX5_keyAt_120, if_true, if_false, ↓reduceIte, xpu_s, xpu_n, Option.bind_some, xk_i, xk_r, xk_0, xk_u, xk_l, xk_k, xk_q, rf_s, rf_n, nI_add, X1, not_true_eq_false, not_false_eq_true, and_self, and_true, true_and, and_false, false_and, or_true, true_or, or_false, false_or, decide_true, decide_false, zb_t, zb_f, zb_0, zb_1, eq_self]
    cases q : fi_ (fun i => !decide (b + i < e ∧ t (b + i) = (kw j).getD i 0)) (kw j).length with
    | some i =>
      obtain ⟨i1, i2⟩ := fi_some q
      have i2 : ¬ (b + i < e ∧ t (b + i) = (kw j).getD i 0) := fun z => by
        have i2 : (!decide (b + i < e ∧ t (b + i) = (kw j).getD i 0)) = true := i2
        rw [decide_eq_true z] at i2
        cases i2
      have sf : seq_ t b e (kw j) = false := by
        cases z : seq_ t b e (kw j) with
        | false => rfl
        | true =>
          exfalso
          unfold seq_ at z
          rw [Bool.and_eq_true, decide_eq_true_iff] at z
          refine i2 ⟨by omega, ?_⟩
          by_cases y : t (b + i) = (kw j).getD i 0
          · exact y
          · have : an_ (fun i => !decide (t (b + i) = (kw j).getD i 0)) (kw j).length = true := an_iff.mpr ⟨i, i1, by show (!decide (t (b + i) = (kw j).getD i 0)) = true; rw [decide_eq_false y]; rfl⟩
            rw [this] at z
            cases z.2
      obtain ⟨g1, g2, g3⟩ := f3 i i1
      have X1 := ks_x S (k := kst j + i) (by omega)
      have c32 : (nI (ks (kst j + i)) = nI 32) = False := by rw [nI_eqI (by omega) (by omega)]; exact eq_false g2
      refine Or.inr ⟨sf, .val (.int (nI i)), ?_, trivial⟩
      refine (A _ q).trans (Eq.trans ?_ (B (nI i)))
      show E_ d mX5_keyAt 69 [.val (.ref 150), .val (.int (nI j)), .val (.int (nI (kst j))), .val (.int (nI i))] [] h = _
      simp (disch := first | assumption | exact nI_ne0 (by decide) (by decide) | exact zb_01 | exact Or.inl rfl | exact Or.inr rfl | with_unfolding_all exact id (by assumption) | with_unfolding_all exact id (xix_8 (by assumption) (by omega) (by omega)) | omega) only [wX5_keyAt_69, wX5_keyAt_71, wX5_keyAt_72, wX5_keyAt_73, wX5_keyAt_74, wX5_keyAt_77, wX5_keyAt_79, if_true, if_false, ↓reduceIte, xpu_s, xpu_n, Option.bind_some, xk_i, xk_r, xk_0, xk_u, xk_l, xk_k, xk_q, rf_s, rf_n, nI_add, X1, c32, not_true_eq_false, not_false_eq_true, and_self, and_true, true_and, and_false, false_and, or_true, true_or, or_false, false_or, decide_true, decide_false, zb_t, zb_f, zb_0, zb_1, eq_self]
    | none =>
      have al := fi_none q
      have al : ∀ i, i < (kw j).length → b + i < e ∧ t (b + i) = (kw j).getD i 0 := fun i hi => by
        by_cases z : b + i < e ∧ t (b + i) = (kw j).getD i 0
        · exact z
        · have := al i hi
          rw [decide_eq_false z] at this
          cases this
      have X1 := ks_x S f1
      rw [f2] at X1
      have an0 : an_ (fun i => !decide (t (b + i) = (kw j).getD i 0)) (kw j).length = false := by
        cases z : an_ (fun i => !decide (t (b + i) = (kw j).getD i 0)) (kw j).length with
        | false => rfl
        | true =>
          obtain ⟨i, hi, y⟩ := an_iff.mp z
          rw [decide_eq_true (al i hi).2] at y
          cases y
      have sf : seq_ t b e (kw j) = decide (e - b = (kw j).length) := by
        unfold seq_
        rw [an0, Bool.not_false, Bool.and_true]
      have ce : (nI (b + (kw j).length) = nI e) = (b + (kw j).length = e) := nI_eqI (by omega) (by omega)
      by_cases y : b + (kw j).length = e
      · refine Or.inl ⟨by rw [sf]; exact decide_eq_true (by omega), ?_⟩
        have ce : (nI (b + (kw j).length) = nI e) = True := by rw [ce]; exact eq_true y
        refine (A _ q).trans ?_
        show E_ d mX5_keyAt 69 [.val (.ref 150), .val (.int (nI j)), .val (.int (nI (kst j))), .val (.int (nI (kw j).length))] [] h = some (some (.int (nI j)), h)
        simp (disch := first | assumption | exact nI_ne0 (by decide) (by decide) | exact zb_01 | exact Or.inl rfl | exact Or.inr rfl | with_unfolding_all exact id (by assumption) | with_unfolding_all exact id (xix_8 (by assumption) (by omega) (by omega)) | omega) only [wX5_keyAt_e, wX5_keyAt_0, wX5_keyAt_1, wX5_keyAt_2, wX5_keyAt_3, wX5_keyAt_5, wX5_keyAt_7, wX5_keyAt_10, wX5_keyAt_13, wX5_keyAt_14, wX5_keyAt_17, wX5_keyAt_18, wX5_keyAt_19, wX5_keyAt_20, wX5_keyAt_23, wX5_keyAt_25, wX5_keyAt_28, wX5_keyAt_29, wX5_keyAt_32, wX5_keyAt_33, wX5_keyAt_34, wX5_keyAt_35, wX5_keyAt_38, wX5_keyAt_41, wX5_keyAt_42, wX5_keyAt_45, wX5_keyAt_46, wX5_keyAt_49, wX5_keyAt_50, wX5_keyAt_51, wX5_keyAt_52, wX5_keyAt_54, wX5_keyAt_55, wX5_keyAt_56, wX5_keyAt_57, wX5_keyAt_60, wX5_keyAt_63, wX5_keyAt_66, wX5_keyAt_69, wX5_keyAt_71, wX5_keyAt_72, wX5_keyAt_73, wX5_keyAt_74, wX5_keyAt_77, wX5_keyAt_79, wX5_keyAt_82, wX5_keyAt_83, wX5_keyAt_86, wX5_keyAt_87, wX5_keyAt_88, wX5_keyAt_89, wX5_keyAt_92, wX5_keyAt_95, wX5_keyAt_96, wX5_keyAt_99, wX5_keyAt_100, wX5_keyAt_103, wX5_keyAt_105, wX5_keyAt_108, wX5_keyAt_111, wX5_keyAt_114, wX5_keyAt_117, wX5_keyAt_120, wX5_keyAt_123, wX5_keyAt_125, if_true, if_false, ↓reduceIte, xpu_s, xpu_n, Option.bind_some, xk_i, xk_r, xk_0, xk_u, xk_l, xk_k, xk_q, rf_s, rf_n, nI_add, X1, e7, e8, ce, not_true_eq_false, not_false_eq_true, and_self, and_true, true_and, and_false, false_and, or_true, true_or, or_false, false_or, decide_true, decide_false, zb_t, zb_f, zb_0, zb_1, eq_self]
      · refine Or.inr ⟨by rw [sf]; exact decide_eq_false (by omega), .val (.int (nI (kw j).length)), ?_, trivial⟩
        have ce : (nI (b + (kw j).length) = nI e) = False := by rw [ce]; exact eq_false y
        refine (A _ q).trans (Eq.trans ?_ (B (nI (kw j).length)))
        show E_ d mX5_keyAt 69 [.val (.ref 150), .val (.int (nI j)), .val (.int (nI (kst j))), .val (.int (nI (kw j).length))] [] h = _
        simp (disch := first | assumption | exact nI_ne0 (by decide) (by decide) | exact zb_01 | exact Or.inl rfl | exact Or.inr rfl | with_unfolding_all exact id (by assumption) | with_unfolding_all exact id (xix_8 (by assumption) (by omega) (by omega)) | omega) only [wX5_keyAt_e, wX5_keyAt_0, wX5_keyAt_1, wX5_keyAt_2, wX5_keyAt_3, wX5_keyAt_5, wX5_keyAt_7, wX5_keyAt_10, wX5_keyAt_13, wX5_keyAt_14, wX5_keyAt_17, wX5_keyAt_18, wX5_keyAt_19, wX5_keyAt_20, wX5_keyAt_23, wX5_keyAt_25, wX5_keyAt_28, wX5_keyAt_29, wX5_keyAt_32, wX5_keyAt_33, wX5_keyAt_34, wX5_keyAt_35, wX5_keyAt_38, wX5_keyAt_41, wX5_keyAt_42, wX5_keyAt_45, wX5_keyAt_46, wX5_keyAt_49, wX5_keyAt_50, wX5_keyAt_51, wX5_keyAt_52, wX5_keyAt_54, wX5_keyAt_55, wX5_keyAt_56, wX5_keyAt_57, wX5_keyAt_60, wX5_keyAt_63, wX5_keyAt_66, wX5_keyAt_69, wX5_keyAt_71, wX5_keyAt_72, wX5_keyAt_73, wX5_keyAt_74, wX5_keyAt_77, wX5_keyAt_79, wX5_keyAt_82, wX5_keyAt_83, wX5_keyAt_86, wX5_keyAt_87, wX5_keyAt_88, wX5_keyAt_89, wX5_keyAt_92, wX5_keyAt_95, wX5_keyAt_96, wX5_keyAt_99, wX5_keyAt_100, wX5_keyAt_103, wX5_keyAt_105, wX5_keyAt_108, wX5_keyAt_111, wX5_keyAt_114, wX5_keyAt_117, wX5_keyAt_120, wX5_keyAt_123, wX5_keyAt_125, if_true, if_false, ↓reduceIte, xpu_s, xpu_n, Option.bind_some, xk_i, xk_r, xk_0, xk_u, xk_l, xk_k, xk_q, rf_s, rf_n, nI_add, X1, e7, e8, ce, not_true_eq_false, not_false_eq_true, and_self, and_true, true_and, and_false, false_and, or_true, true_or, or_false, false_or, decide_true, decide_false, zb_t, zb_f, zb_0, zb_1, eq_self]
  · have k29 : (nI (kst 29) < nI ksn) = False := by rw [ks_n.1]; exact i_irr
    show _ = some (some (Value.int (nI 29)), h)
    refine wX5_keyAt_4.trans ?_
    simp (disch := first | assumption | exact nI_ne0 (by decide) (by decide) | exact zb_01 | exact Or.inl rfl | exact Or.inr rfl | with_unfolding_all exact id (by assumption) | with_unfolding_all exact id (xix_8 (by assumption) (by omega) (by omega)) | omega) only [wX5_keyAt_5, wX5_keyAt_7, wX5_keyAt_10, wX5_keyAt_123, wX5_keyAt_125, if_true, if_false, ↓reduceIte, xpu_s, xpu_n, Option.bind_some, xk_i, xk_r, xk_0, xk_u, xk_l, xk_k, xk_q, rf_s, rf_n, X0, k29, not_true_eq_false, not_false_eq_true, and_self, and_true, true_and, and_false, false_and, or_true, true_or, or_false, false_or, decide_true, decide_false, zb_t, zb_f, zb_0, zb_1, eq_self]
end
