/-! THE LAW: rounds, 12 to 23 -/
section
variable {d n i : Nat} {h h1 h2 : xH} {P : sS} {f : rI}
theorem rd_12 (I : LI h P f n) (hi : i + 6 ≤ n) (hn : n ≤ 384) : ∃ h2 P2, E_ (d + 221) mL_law 682 [.val (.ref 31), .val (.ref 64), .val (.ref 150), .val (.int (nI i))] [] h = E_ (d + 221) mL_law 1989 [.val (.ref 31), .val (.ref 64), .val (.ref 150), .val (.int (nI i))] [] h2 ∧ LI h2 P2 f n ∧ oC h2 ≤ oC h + 15000 ∧ oS h2 ≤ oS h + 60000 := by
  obtain ⟨i1, i2, W, i4, i5, i6⟩ := id I
  have hx : XG (d + 220) h mX0_odds [.ref 64, .int (f (i + 1))] (q_odds P (oI h 156) ((f (i + 1)))) := nX0_odds (d := d + 3) (x := (f (i + 1))) i1 W (oI h 156)
  have hm : ∀ h1, MR h1 P → oI h1 156 = oI h 156 → ST3 h1 → MG (d + 220) h1 mX5_odds [.ref 150, .int (f (i + 1))] (q_odds P (oI h 156) ((f (i + 1)))) := fun h1 M ew _ => by
    rw [← ew]
    exact nX5_odds (d := d + 205) (x := (f (i + 1))) M W
  obtain ⟨h1, h2, e1, e2, J, c1, c2, t64, t150, t31, n31, f31⟩ := LI_go I hx hm (W_odds W)
  obtain ⟨r, er⟩ := A_odds (w := oI h 156) (x := (f (i + 1))) (P := P)
  rw [er] at e1 e2
  have x1 : nI i + nI 1 = nI (i + 1) := nI_add _ _
  have x2 : nI i + nI 2 = nI (i + 2) := nI_add _ _
  have x3 : nI i + nI 3 = nI (i + 3) := nI_add _ _
  have x4 : nI i + nI 4 = nI (i + 4) := nI_add _ _
  have x5 : nI i + nI 5 = nI (i + 5) := nI_add _ _
  refine ⟨h2, _, ?_, J, c1, c2⟩
  simp (disch := first | exact i4 | exact t31 | exact t64 | exact t150 | exact xix_8 i5 (by omega) (by omega) | exact xix_8 n31 (by omega) (by omega) | first | assumption | exact nI_ne0 (by decide) (by decide) | exact zb_01 | exact Or.inl rfl | exact Or.inr rfl | with_unfolding_all exact id (by assumption) | with_unfolding_all exact id (xix_8 (by assumption) (by omega) (by omega)) | omega) only [wL_law_682, wL_law_683, wL_law_684, wL_law_685, wL_law_686, wL_law_687, wL_law_688, wL_law_691, wL_law_692, wL_law_693, wL_law_694, wL_law_695, wL_law_696, wL_law_697, wL_law_700, wL_law_701, wL_law_704, wL_law_705, if_true, if_false, ↓reduceIte, xpu_s, xpu_n, Option.bind_some, xk_i, xk_r, xk_0, xk_u, xk_l, xk_k, xk_q, rf_s, rf_n, q_e1, q_e2, Nat.zero_add, Nat.reduceEqDiff, Nat.reduceAdd, Nat.reduceMul, Nat.reduceSub, Nat.reduceLT, Nat.reduceLeDiff, Nat.reduceDiv, Nat.reduceMod, x1, x2, x3, x4, x5, nI_c, i6, f31, e1, e2, lg_cmp_s, nI_00, not_true_eq_false, not_false_eq_true, and_self, and_true, true_and, and_false, false_and, or_true, true_or, or_false, false_or, decide_true, decide_false, zb_t, zb_f, zb_0, zb_1, eq_self]
theorem rd_13 (I : LI h P f n) (hi : i + 6 ≤ n) (hn : n ≤ 384) : ∃ h2 P2, E_ (d + 221) mL_law 706 [.val (.ref 31), .val (.ref 64), .val (.ref 150), .val (.int (nI i))] [] h = E_ (d + 221) mL_law 1989 [.val (.ref 31), .val (.ref 64), .val (.ref 150), .val (.int (nI i))] [] h2 ∧ LI h2 P2 f n ∧ oC h2 ≤ oC h + 15000 ∧ oS h2 ≤ oS h + 60000 := by
  obtain ⟨i1, i2, W, i4, i5, i6⟩ := id I
  have hx : XG (d + 220) h mX0_helps [.ref 64, .int (f (i + 1))] (q_helps P ((f (i + 1)))) := nX0_helps (d := d + 2) (x := (f (i + 1))) i1 W
  have hm : ∀ h1, MR h1 P → oI h1 156 = oI h 156 → ST3 h1 → MG (d + 220) h1 mX5_helps [.ref 150, .int (f (i + 1))] (q_helps P ((f (i + 1)))) := fun h1 M ew _ => by
    exact nX5_helps (d := d + 204) (x := (f (i + 1))) M W
  obtain ⟨h1, h2, e1, e2, J, c1, c2, t64, t150, t31, n31, f31⟩ := LI_go I hx hm (W_helps W)
  obtain ⟨r, er⟩ := A_helps (x := (f (i + 1))) (P := P)
  rw [er] at e1 e2
  have x1 : nI i + nI 1 = nI (i + 1) := nI_add _ _
  have x2 : nI i + nI 2 = nI (i + 2) := nI_add _ _
  have x3 : nI i + nI 3 = nI (i + 3) := nI_add _ _
  have x4 : nI i + nI 4 = nI (i + 4) := nI_add _ _
  have x5 : nI i + nI 5 = nI (i + 5) := nI_add _ _
  refine ⟨h2, _, ?_, J, c1, c2⟩
  simp (disch := first | exact i4 | exact t31 | exact t64 | exact t150 | exact xix_8 i5 (by omega) (by omega) | exact xix_8 n31 (by omega) (by omega) | first | assumption | exact nI_ne0 (by decide) (by decide) | exact zb_01 | exact Or.inl rfl | exact Or.inr rfl | with_unfolding_all exact id (by assumption) | with_unfolding_all exact id (xix_8 (by assumption) (by omega) (by omega)) | omega) only [wL_law_706, wL_law_707, wL_law_708, wL_law_709, wL_law_710, wL_law_711, wL_law_712, wL_law_715, wL_law_716, wL_law_717, wL_law_718, wL_law_719, wL_law_720, wL_law_721, wL_law_724, wL_law_725, wL_law_728, wL_law_729, if_true, if_false, ↓reduceIte, xpu_s, xpu_n, Option.bind_some, xk_i, xk_r, xk_0, xk_u, xk_l, xk_k, xk_q, rf_s, rf_n, q_e1, q_e2, Nat.zero_add, Nat.reduceEqDiff, Nat.reduceAdd, Nat.reduceMul, Nat.reduceSub, Nat.reduceLT, Nat.reduceLeDiff, Nat.reduceDiv, Nat.reduceMod, x1, x2, x3, x4, x5, nI_c, i6, f31, e1, e2, lg_cmp_s, nI_00, not_true_eq_false, not_false_eq_true, and_self, and_true, true_and, and_false, false_and, or_true, true_or, or_false, false_or, decide_true, decide_false, zb_t, zb_f, zb_0, zb_1, eq_self]
theorem rd_14 (I : LI h P f n) (hi : i + 6 ≤ n) (hn : n ≤ 384) : ∃ h2 P2, E_ (d + 221) mL_law 730 [.val (.ref 31), .val (.ref 64), .val (.ref 150), .val (.int (nI i))] [] h = E_ (d + 221) mL_law 1989 [.val (.ref 31), .val (.ref 64), .val (.ref 150), .val (.int (nI i))] [] h2 ∧ LI h2 P2 f n ∧ oC h2 ≤ oC h + 15000 ∧ oS h2 ≤ oS h + 60000 := by
  obtain ⟨i1, i2, W, i4, i5, i6⟩ := id I
  have hx : XG (d + 220) h mX0_best [.ref 64, .int (f (i + 1))] (q_best P ((f (i + 1)))) := nX0_best (d := d + 2) (x := (f (i + 1))) i1 W
  have hm : ∀ h1, MR h1 P → oI h1 156 = oI h 156 → ST3 h1 → MG (d + 220) h1 mX5_best [.ref 150, .int (f (i + 1))] (q_best P ((f (i + 1)))) := fun h1 M ew _ => by
    exact nX5_best (d := d + 204) (x := (f (i + 1))) M W
  obtain ⟨h1, h2, e1, e2, J, c1, c2, t64, t150, t31, n31, f31⟩ := LI_go I hx hm (W_best W)
  obtain ⟨r, er⟩ := A_best (x := (f (i + 1))) (P := P)
  rw [er] at e1 e2
  have x1 : nI i + nI 1 = nI (i + 1) := nI_add _ _
  have x2 : nI i + nI 2 = nI (i + 2) := nI_add _ _
  have x3 : nI i + nI 3 = nI (i + 3) := nI_add _ _
  have x4 : nI i + nI 4 = nI (i + 4) := nI_add _ _
  have x5 : nI i + nI 5 = nI (i + 5) := nI_add _ _
  refine ⟨h2, _, ?_, J, c1, c2⟩
  simp (disch := first | exact i4 | exact t31 | exact t64 | exact t150 | exact xix_8 i5 (by omega) (by omega) | exact xix_8 n31 (by omega) (by omega) | first | assumption | exact nI_ne0 (by decide) (by decide) | exact zb_01 | exact Or.inl rfl | exact Or.inr rfl | with_unfolding_all exact id (by assumption) | with_unfolding_all exact id (xix_8 (by assumption) (by omega) (by omega)) | omega) only [wL_law_730, wL_law_731, wL_law_732, wL_law_733, wL_law_734, wL_law_735, wL_law_736, wL_law_739, wL_law_740, wL_law_741, wL_law_742, wL_law_743, wL_law_744, wL_law_745, wL_law_748, wL_law_751, wL_law_752, if_true, if_false, ↓reduceIte, xpu_s, xpu_n, Option.bind_some, xk_i, xk_r, xk_0, xk_u, xk_l, xk_k, xk_q, rf_s, rf_n, q_e1, q_e2, Nat.zero_add, Nat.reduceEqDiff, Nat.reduceAdd, Nat.reduceMul, Nat.reduceSub, Nat.reduceLT, Nat.reduceLeDiff, Nat.reduceDiv, Nat.reduceMod, x1, x2, x3, x4, x5, nI_c, i6, f31, e1, e2, eq_self, not_true_eq_false, not_false_eq_true, and_self, and_true, true_and, and_false, false_and, or_true, true_or, or_false, false_or, decide_true, decide_false, zb_t, zb_f, zb_0, zb_1, eq_self]
theorem rd_15 (I : LI h P f n) (hi : i + 6 ≤ n) (hn : n ≤ 384) : ∃ h2 P2, E_ (d + 221) mL_law 753 [.val (.ref 31), .val (.ref 64), .val (.ref 150), .val (.int (nI i))] [] h = E_ (d + 221) mL_law 1989 [.val (.ref 31), .val (.ref 64), .val (.ref 150), .val (.int (nI i))] [] h2 ∧ LI h2 P2 f n ∧ oC h2 ≤ oC h + 15000 ∧ oS h2 ≤ oS h + 60000 := by
  obtain ⟨i1, i2, W, i4, i5, i6⟩ := id I
  have hx : XG (d + 220) h mX0_back [.ref 64, .int (f (i + 1))] (q_back P ((f (i + 1)))) := nX0_back (d := d + 3) (x := (f (i + 1))) i1 W
  have hm : ∀ h1, MR h1 P → oI h1 156 = oI h 156 → ST3 h1 → MG (d + 220) h1 mX5_back [.ref 150, .int (f (i + 1))] (q_back P ((f (i + 1)))) := fun h1 M ew _ => by
    exact nX5_back (d := d + 205) (x := (f (i + 1))) M W
  obtain ⟨h1, h2, e1, e2, J, c1, c2, t64, t150, t31, n31, f31⟩ := LI_go I hx hm (W_back W)
  obtain ⟨r, er⟩ := A_back (x := (f (i + 1))) (P := P)
  rw [er] at e1 e2
  have x1 : nI i + nI 1 = nI (i + 1) := nI_add _ _
  have x2 : nI i + nI 2 = nI (i + 2) := nI_add _ _
  have x3 : nI i + nI 3 = nI (i + 3) := nI_add _ _
  have x4 : nI i + nI 4 = nI (i + 4) := nI_add _ _
  have x5 : nI i + nI 5 = nI (i + 5) := nI_add _ _
  refine ⟨h2, _, ?_, J, c1, c2⟩
  simp (disch := first | exact i4 | exact t31 | exact t64 | exact t150 | exact xix_8 i5 (by omega) (by omega) | exact xix_8 n31 (by omega) (by omega) | first | assumption | exact nI_ne0 (by decide) (by decide) | exact zb_01 | exact Or.inl rfl | exact Or.inr rfl | with_unfolding_all exact id (by assumption) | with_unfolding_all exact id (xix_8 (by assumption) (by omega) (by omega)) | omega) only [wL_law_753, wL_law_754, wL_law_755, wL_law_756, wL_law_757, wL_law_758, wL_law_759, wL_law_762, wL_law_763, wL_law_764, wL_law_765, wL_law_766, wL_law_767, wL_law_768, wL_law_771, wL_law_774, wL_law_775, if_true, if_false, ↓reduceIte, xpu_s, xpu_n, Option.bind_some, xk_i, xk_r, xk_0, xk_u, xk_l, xk_k, xk_q, rf_s, rf_n, q_e1, q_e2, Nat.zero_add, Nat.reduceEqDiff, Nat.reduceAdd, Nat.reduceMul, Nat.reduceSub, Nat.reduceLT, Nat.reduceLeDiff, Nat.reduceDiv, Nat.reduceMod, x1, x2, x3, x4, x5, nI_c, i6, f31, e1, e2, eq_self, not_true_eq_false, not_false_eq_true, and_self, and_true, true_and, and_false, false_and, or_true, true_or, or_false, false_or, decide_true, decide_false, zb_t, zb_f, zb_0, zb_1, eq_self]
theorem rd_16 (I : LI h P f n) (hi : i + 6 ≤ n) (hn : n ≤ 384) : ∃ h2 P2, E_ (d + 221) mL_law 776 [.val (.ref 31), .val (.ref 64), .val (.ref 150), .val (.int (nI i))] [] h = E_ (d + 221) mL_law 1989 [.val (.ref 31), .val (.ref 64), .val (.ref 150), .val (.int (nI i))] [] h2 ∧ LI h2 P2 f n ∧ oC h2 ≤ oC h + 15000 ∧ oS h2 ≤ oS h + 60000 := by
  obtain ⟨i1, i2, W, i4, i5, i6⟩ := id I
  have hx : XG (d + 220) h mX0_wise [.ref 64, .int (f (i + 1))] (q_wise P ((f (i + 1)))) := nX0_wise (d := d + 3) (x := (f (i + 1))) i1 W
  have hm : ∀ h1, MR h1 P → oI h1 156 = oI h 156 → ST3 h1 → MG (d + 220) h1 mX5_wise [.ref 150, .int (f (i + 1))] (q_wise P ((f (i + 1)))) := fun h1 M ew _ => by
    exact nX5_wise (d := d + 205) (x := (f (i + 1))) M W
  obtain ⟨h1, h2, e1, e2, J, c1, c2, t64, t150, t31, n31, f31⟩ := LI_go I hx hm (W_wise W)
  obtain ⟨r, er⟩ := A_wise (x := (f (i + 1))) (P := P)
  rw [er] at e1 e2
  have x1 : nI i + nI 1 = nI (i + 1) := nI_add _ _
  have x2 : nI i + nI 2 = nI (i + 2) := nI_add _ _
  have x3 : nI i + nI 3 = nI (i + 3) := nI_add _ _
  have x4 : nI i + nI 4 = nI (i + 4) := nI_add _ _
  have x5 : nI i + nI 5 = nI (i + 5) := nI_add _ _
  refine ⟨h2, _, ?_, J, c1, c2⟩
  simp (disch := first | exact i4 | exact t31 | exact t64 | exact t150 | exact xix_8 i5 (by omega) (by omega) | exact xix_8 n31 (by omega) (by omega) | first | assumption | exact nI_ne0 (by decide) (by decide) | exact zb_01 | exact Or.inl rfl | exact Or.inr rfl | with_unfolding_all exact id (by assumption) | with_unfolding_all exact id (xix_8 (by assumption) (by omega) (by omega)) | omega) only [wL_law_776, wL_law_777, wL_law_778, wL_law_779, wL_law_780, wL_law_781, wL_law_782, wL_law_785, wL_law_786, wL_law_787, wL_law_788, wL_law_789, wL_law_790, wL_law_791, wL_law_794, wL_law_797, wL_law_798, if_true, if_false, ↓reduceIte, xpu_s, xpu_n, Option.bind_some, xk_i, xk_r, xk_0, xk_u, xk_l, xk_k, xk_q, rf_s, rf_n, q_e1, q_e2, Nat.zero_add, Nat.reduceEqDiff, Nat.reduceAdd, Nat.reduceMul, Nat.reduceSub, Nat.reduceLT, Nat.reduceLeDiff, Nat.reduceDiv, Nat.reduceMod, x1, x2, x3, x4, x5, nI_c, i6, f31, e1, e2, eq_self, not_true_eq_false, not_false_eq_true, and_self, and_true, true_and, and_false, false_and, or_true, true_or, or_false, false_or, decide_true, decide_false, zb_t, zb_f, zb_0, zb_1, eq_self]
theorem rd_17 (I : LI h P f n) (hi : i + 6 ≤ n) (hn : n ≤ 384) : ∃ h2 P2, E_ (d + 221) mL_law 799 [.val (.ref 31), .val (.ref 64), .val (.ref 150), .val (.int (nI i))] [] h = E_ (d + 221) mL_law 1989 [.val (.ref 31), .val (.ref 64), .val (.ref 150), .val (.int (nI i))] [] h2 ∧ LI h2 P2 f n ∧ oC h2 ≤ oC h + 15000 ∧ oS h2 ≤ oS h + 60000 := by
  obtain ⟨i1, i2, W, i4, i5, i6⟩ := id I
  have hx : XG (d + 220) h mX0_blame [.ref 64, .int (f (i + 1)), .int (f (i + 2))] (q_blame P (oI h 156) ((f (i + 1))) ((f (i + 2)))) := nX0_blame (d := d + 3) (c := (f (i + 1))) (x := (f (i + 2))) i1 W (oI h 156)
  have hm : ∀ h1, MR h1 P → oI h1 156 = oI h 156 → ST3 h1 → MG (d + 220) h1 mX5_blame [.ref 150, .int (f (i + 1)), .int (f (i + 2))] (q_blame P (oI h 156) ((f (i + 1))) ((f (i + 2)))) := fun h1 M ew _ => by
    rw [← ew]
    exact nX5_blame (d := d + 205) (c := (f (i + 1))) (x := (f (i + 2))) M W
  obtain ⟨h1, h2, e1, e2, J, c1, c2, t64, t150, t31, n31, f31⟩ := LI_go I hx hm (W_blame W)
  obtain ⟨r, er⟩ := A_blame (w := oI h 156) (c := (f (i + 1))) (x := (f (i + 2))) (P := P)
  rw [er] at e1 e2
  have x1 : nI i + nI 1 = nI (i + 1) := nI_add _ _
  have x2 : nI i + nI 2 = nI (i + 2) := nI_add _ _
  have x3 : nI i + nI 3 = nI (i + 3) := nI_add _ _
  have x4 : nI i + nI 4 = nI (i + 4) := nI_add _ _
  have x5 : nI i + nI 5 = nI (i + 5) := nI_add _ _
  refine ⟨h2, _, ?_, J, c1, c2⟩
  simp (disch := first | exact i4 | exact t31 | exact t64 | exact t150 | exact xix_8 i5 (by omega) (by omega) | exact xix_8 n31 (by omega) (by omega) | first | assumption | exact nI_ne0 (by decide) (by decide) | exact zb_01 | exact Or.inl rfl | exact Or.inr rfl | with_unfolding_all exact id (by assumption) | with_unfolding_all exact id (xix_8 (by assumption) (by omega) (by omega)) | omega) only [wL_law_799, wL_law_800, wL_law_801, wL_law_802, wL_law_803, wL_law_804, wL_law_805, wL_law_806, wL_law_807, wL_law_808, wL_law_809, wL_law_810, wL_law_813, wL_law_814, wL_law_815, wL_law_816, wL_law_817, wL_law_818, wL_law_819, wL_law_820, wL_law_821, wL_law_822, wL_law_823, wL_law_824, wL_law_827, wL_law_828, wL_law_831, wL_law_832, if_true, if_false, ↓reduceIte, xpu_s, xpu_n, Option.bind_some, xk_i, xk_r, xk_0, xk_u, xk_l, xk_k, xk_q, rf_s, rf_n, q_e1, q_e2, Nat.zero_add, Nat.reduceEqDiff, Nat.reduceAdd, Nat.reduceMul, Nat.reduceSub, Nat.reduceLT, Nat.reduceLeDiff, Nat.reduceDiv, Nat.reduceMod, x1, x2, x3, x4, x5, nI_c, i6, f31, e1, e2, lg_cmp_s, nI_00, not_true_eq_false, not_false_eq_true, and_self, and_true, true_and, and_false, false_and, or_true, true_or, or_false, false_or, decide_true, decide_false, zb_t, zb_f, zb_0, zb_1, eq_self]
theorem rd_18 (I : LI h P f n) (hi : i + 6 ≤ n) (hn : n ≤ 384) : ∃ h2 P2, E_ (d + 221) mL_law 833 [.val (.ref 31), .val (.ref 64), .val (.ref 150), .val (.int (nI i))] [] h = E_ (d + 221) mL_law 1989 [.val (.ref 31), .val (.ref 64), .val (.ref 150), .val (.int (nI i))] [] h2 ∧ LI h2 P2 f n ∧ oC h2 ≤ oC h + 15000 ∧ oS h2 ≤ oS h + 60000 := by
  obtain ⟨i1, i2, W, i4, i5, i6⟩ := id I
  have hx : XG (d + 220) h mX0_mean [.ref 64, .int (f (i + 1))] (q_mean P ((f (i + 1)))) := nX0_mean (d := d + 3) (x := (f (i + 1))) i1 W
  have hm : ∀ h1, MR h1 P → oI h1 156 = oI h 156 → ST3 h1 → MG (d + 220) h1 mX5_mean [.ref 150, .int (f (i + 1))] (q_mean P ((f (i + 1)))) := fun h1 M ew _ => by
    exact nX5_mean (d := d + 205) (x := (f (i + 1))) M W
  obtain ⟨h1, h2, e1, e2, J, c1, c2, t64, t150, t31, n31, f31⟩ := LI_go I hx hm (W_mean W)
  obtain ⟨r, er⟩ := A_mean (x := (f (i + 1))) (P := P)
  rw [er] at e1 e2
  have x1 : nI i + nI 1 = nI (i + 1) := nI_add _ _
  have x2 : nI i + nI 2 = nI (i + 2) := nI_add _ _
  have x3 : nI i + nI 3 = nI (i + 3) := nI_add _ _
  have x4 : nI i + nI 4 = nI (i + 4) := nI_add _ _
  have x5 : nI i + nI 5 = nI (i + 5) := nI_add _ _
  refine ⟨h2, _, ?_, J, c1, c2⟩
  simp (disch := first | exact i4 | exact t31 | exact t64 | exact t150 | exact xix_8 i5 (by omega) (by omega) | exact xix_8 n31 (by omega) (by omega) | first | assumption | exact nI_ne0 (by decide) (by decide) | exact zb_01 | exact Or.inl rfl | exact Or.inr rfl | with_unfolding_all exact id (by assumption) | with_unfolding_all exact id (xix_8 (by assumption) (by omega) (by omega)) | omega) only [wL_law_833, wL_law_834, wL_law_835, wL_law_836, wL_law_837, wL_law_838, wL_law_839, wL_law_842, wL_law_843, wL_law_844, wL_law_845, wL_law_846, wL_law_847, wL_law_848, wL_law_851, wL_law_852, wL_law_855, wL_law_856, if_true, if_false, ↓reduceIte, xpu_s, xpu_n, Option.bind_some, xk_i, xk_r, xk_0, xk_u, xk_l, xk_k, xk_q, rf_s, rf_n, q_e1, q_e2, Nat.zero_add, Nat.reduceEqDiff, Nat.reduceAdd, Nat.reduceMul, Nat.reduceSub, Nat.reduceLT, Nat.reduceLeDiff, Nat.reduceDiv, Nat.reduceMod, x1, x2, x3, x4, x5, nI_c, i6, f31, e1, e2, lg_cmp_s, nI_00, not_true_eq_false, not_false_eq_true, and_self, and_true, true_and, and_false, false_and, or_true, true_or, or_false, false_or, decide_true, decide_false, zb_t, zb_f, zb_0, zb_1, eq_self]
theorem rd_19 (I : LI h P f n) (hi : i + 6 ≤ n) (hn : n ≤ 384) : ∃ h2 P2, E_ (d + 221) mL_law 857 [.val (.ref 31), .val (.ref 64), .val (.ref 150), .val (.int (nI i))] [] h = E_ (d + 221) mL_law 1989 [.val (.ref 31), .val (.ref 64), .val (.ref 150), .val (.int (nI i))] [] h2 ∧ LI h2 P2 f n ∧ oC h2 ≤ oC h + 15000 ∧ oS h2 ≤ oS h + 60000 := by
  obtain ⟨i1, i2, W, i4, i5, i6⟩ := id I
  have hx : XG (d + 220) h mX0_repeals [.ref 64, .int (f (i + 1))] (q_repeals P ((f (i + 1)))) := nX0_repeals (d := d + 2) (x := (f (i + 1))) i1 W
  have hm : ∀ h1, MR h1 P → oI h1 156 = oI h 156 → ST3 h1 → MG (d + 220) h1 mX5_repeals [.ref 150, .int (f (i + 1))] (q_repeals P ((f (i + 1)))) := fun h1 M ew _ => by
    exact nX5_repeals (d := d + 204) (x := (f (i + 1))) M W
  obtain ⟨h1, h2, e1, e2, J, c1, c2, t64, t150, t31, n31, f31⟩ := LI_go I hx hm (W_repeals W)
  obtain ⟨r, er⟩ := A_repeals (x := (f (i + 1))) (P := P)
  rw [er] at e1 e2
  have x1 : nI i + nI 1 = nI (i + 1) := nI_add _ _
  have x2 : nI i + nI 2 = nI (i + 2) := nI_add _ _
  have x3 : nI i + nI 3 = nI (i + 3) := nI_add _ _
  have x4 : nI i + nI 4 = nI (i + 4) := nI_add _ _
  have x5 : nI i + nI 5 = nI (i + 5) := nI_add _ _
  refine ⟨h2, _, ?_, J, c1, c2⟩
  simp (disch := first | exact i4 | exact t31 | exact t64 | exact t150 | exact xix_8 i5 (by omega) (by omega) | exact xix_8 n31 (by omega) (by omega) | first | assumption | exact nI_ne0 (by decide) (by decide) | exact zb_01 | exact Or.inl rfl | exact Or.inr rfl | with_unfolding_all exact id (by assumption) | with_unfolding_all exact id (xix_8 (by assumption) (by omega) (by omega)) | omega) only [wL_law_857, wL_law_858, wL_law_859, wL_law_860, wL_law_861, wL_law_862, wL_law_863, wL_law_866, wL_law_867, wL_law_868, wL_law_869, wL_law_870, wL_law_871, wL_law_872, wL_law_875, wL_law_876, wL_law_879, wL_law_880, if_true, if_false, ↓reduceIte, xpu_s, xpu_n, Option.bind_some, xk_i, xk_r, xk_0, xk_u, xk_l, xk_k, xk_q, rf_s, rf_n, q_e1, q_e2, Nat.zero_add, Nat.reduceEqDiff, Nat.reduceAdd, Nat.reduceMul, Nat.reduceSub, Nat.reduceLT, Nat.reduceLeDiff, Nat.reduceDiv, Nat.reduceMod, x1, x2, x3, x4, x5, nI_c, i6, f31, e1, e2, lg_cmp_s, nI_00, not_true_eq_false, not_false_eq_true, and_self, and_true, true_and, and_false, false_and, or_true, true_or, or_false, false_or, decide_true, decide_false, zb_t, zb_f, zb_0, zb_1, eq_self]
theorem rd_20 (I : LI h P f n) (hi : i + 6 ≤ n) (hn : n ≤ 384) : ∃ h2 P2, E_ (d + 221) mL_law 881 [.val (.ref 31), .val (.ref 64), .val (.ref 150), .val (.int (nI i))] [] h = E_ (d + 221) mL_law 1989 [.val (.ref 31), .val (.ref 64), .val (.ref 150), .val (.int (nI i))] [] h2 ∧ LI h2 P2 f n ∧ oC h2 ≤ oC h + 15000 ∧ oS h2 ≤ oS h + 60000 := by
  obtain ⟨i1, i2, W, i4, i5, i6⟩ := id I
  have hx : XG (d + 220) h mX0_absent [.ref 64, .int (f (i + 1))] (q_absent P ((f (i + 1)))) := nX0_absent (d := d + 3) (x := (f (i + 1))) i1 W
  have hm : ∀ h1, MR h1 P → oI h1 156 = oI h 156 → ST3 h1 → MG (d + 220) h1 mX5_absent [.ref 150, .int (f (i + 1))] (q_absent P ((f (i + 1)))) := fun h1 M ew _ => by
    exact nX5_absent (d := d + 205) (x := (f (i + 1))) M W
  obtain ⟨h1, h2, e1, e2, J, c1, c2, t64, t150, t31, n31, f31⟩ := LI_go I hx hm (W_absent W)
  obtain ⟨r, er⟩ := A_absent (x := (f (i + 1))) (P := P)
  rw [er] at e1 e2
  have x1 : nI i + nI 1 = nI (i + 1) := nI_add _ _
  have x2 : nI i + nI 2 = nI (i + 2) := nI_add _ _
  have x3 : nI i + nI 3 = nI (i + 3) := nI_add _ _
  have x4 : nI i + nI 4 = nI (i + 4) := nI_add _ _
  have x5 : nI i + nI 5 = nI (i + 5) := nI_add _ _
  refine ⟨h2, _, ?_, J, c1, c2⟩
  simp (disch := first | exact i4 | exact t31 | exact t64 | exact t150 | exact xix_8 i5 (by omega) (by omega) | exact xix_8 n31 (by omega) (by omega) | first | assumption | exact nI_ne0 (by decide) (by decide) | exact zb_01 | exact Or.inl rfl | exact Or.inr rfl | with_unfolding_all exact id (by assumption) | with_unfolding_all exact id (xix_8 (by assumption) (by omega) (by omega)) | omega) only [wL_law_881, wL_law_882, wL_law_883, wL_law_884, wL_law_885, wL_law_886, wL_law_887, wL_law_890, wL_law_891, wL_law_892, wL_law_893, wL_law_894, wL_law_895, wL_law_896, wL_law_899, wL_law_900, wL_law_903, wL_law_904, if_true, if_false, ↓reduceIte, xpu_s, xpu_n, Option.bind_some, xk_i, xk_r, xk_0, xk_u, xk_l, xk_k, xk_q, rf_s, rf_n, q_e1, q_e2, Nat.zero_add, Nat.reduceEqDiff, Nat.reduceAdd, Nat.reduceMul, Nat.reduceSub, Nat.reduceLT, Nat.reduceLeDiff, Nat.reduceDiv, Nat.reduceMod, x1, x2, x3, x4, x5, nI_c, i6, f31, e1, e2, lg_cmp_s, nI_00, not_true_eq_false, not_false_eq_true, and_self, and_true, true_and, and_false, false_and, or_true, true_or, or_false, false_or, decide_true, decide_false, zb_t, zb_f, zb_0, zb_1, eq_self]
theorem rd_21 (I : LI h P f n) (hi : i + 6 ≤ n) (hn : n ≤ 384) : ∃ h2 P2, E_ (d + 221) mL_law 905 [.val (.ref 31), .val (.ref 64), .val (.ref 150), .val (.int (nI i))] [] h = E_ (d + 221) mL_law 1989 [.val (.ref 31), .val (.ref 64), .val (.ref 150), .val (.int (nI i))] [] h2 ∧ LI h2 P2 f n ∧ oC h2 ≤ oC h + 15000 ∧ oS h2 ≤ oS h + 60000 := by
  obtain ⟨i1, i2, W, i4, i5, i6⟩ := id I
  have hx : XG (d + 220) h mX0_margin [.ref 64, .int (f (i + 1))] (q_margin P (oI h 156) ((f (i + 1)))) := nX0_margin (d := d + 12) (x := (f (i + 1))) i1 W (oI h 156)
  have hm : ∀ h1, MR h1 P → oI h1 156 = oI h 156 → ST3 h1 → MG (d + 220) h1 mX5_margin [.ref 150, .int (f (i + 1))] (q_margin P (oI h 156) ((f (i + 1)))) := fun h1 M ew _ => by
    rw [← ew]
    exact nX5_margin (d := d + 215) (x := (f (i + 1))) M W
  obtain ⟨h1, h2, e1, e2, J, c1, c2, t64, t150, t31, n31, f31⟩ := LI_go I hx hm (W_margin W)
  obtain ⟨r, er⟩ := A_margin (w := oI h 156) (x := (f (i + 1))) (P := P)
  rw [er] at e1 e2
  have x1 : nI i + nI 1 = nI (i + 1) := nI_add _ _
  have x2 : nI i + nI 2 = nI (i + 2) := nI_add _ _
  have x3 : nI i + nI 3 = nI (i + 3) := nI_add _ _
  have x4 : nI i + nI 4 = nI (i + 4) := nI_add _ _
  have x5 : nI i + nI 5 = nI (i + 5) := nI_add _ _
  refine ⟨h2, _, ?_, J, c1, c2⟩
  simp (disch := first | exact i4 | exact t31 | exact t64 | exact t150 | exact xix_8 i5 (by omega) (by omega) | exact xix_8 n31 (by omega) (by omega) | first | assumption | exact nI_ne0 (by decide) (by decide) | exact zb_01 | exact Or.inl rfl | exact Or.inr rfl | with_unfolding_all exact id (by assumption) | with_unfolding_all exact id (xix_8 (by assumption) (by omega) (by omega)) | omega) only [wL_law_905, wL_law_906, wL_law_907, wL_law_908, wL_law_909, wL_law_910, wL_law_911, wL_law_914, wL_law_915, wL_law_916, wL_law_917, wL_law_918, wL_law_919, wL_law_920, wL_law_923, wL_law_926, wL_law_927, if_true, if_false, ↓reduceIte, xpu_s, xpu_n, Option.bind_some, xk_i, xk_r, xk_0, xk_u, xk_l, xk_k, xk_q, rf_s, rf_n, q_e1, q_e2, Nat.zero_add, Nat.reduceEqDiff, Nat.reduceAdd, Nat.reduceMul, Nat.reduceSub, Nat.reduceLT, Nat.reduceLeDiff, Nat.reduceDiv, Nat.reduceMod, x1, x2, x3, x4, x5, nI_c, i6, f31, e1, e2, eq_self, not_true_eq_false, not_false_eq_true, and_self, and_true, true_and, and_false, false_and, or_true, true_or, or_false, false_or, decide_true, decide_false, zb_t, zb_f, zb_0, zb_1, eq_self]
theorem rd_22 (I : LI h P f n) (hi : i + 6 ≤ n) (hn : n ≤ 384) : ∃ h2 P2, E_ (d + 221) mL_law 928 [.val (.ref 31), .val (.ref 64), .val (.ref 150), .val (.int (nI i))] [] h = E_ (d + 221) mL_law 1989 [.val (.ref 31), .val (.ref 64), .val (.ref 150), .val (.int (nI i))] [] h2 ∧ LI h2 P2 f n ∧ oC h2 ≤ oC h + 15000 ∧ oS h2 ≤ oS h + 60000 := by
  obtain ⟨i1, i2, W, i4, i5, i6⟩ := id I
  by_cases q : f (i + 1) = 0
  · have hx : XG (d + 220) h mX0_place [.ref 64, .int (nI 0), .int (f (i + 2)), .int (f (i + 3)), .int (f (i + 4)), .int (f (i + 5))] (q_place P (0) ((f (i + 2))) ((f (i + 3))) ((f (i + 4))) ((f (i + 5)))) := nX0_place (d := d + 214) (w := 0) (a := (f (i + 2))) (b := (f (i + 3))) (c := (f (i + 4))) (e := (f (i + 5))) i1 W (by omega)
    have hm : ∀ h1, MR h1 P → oI h1 156 = oI h 156 → ST3 h1 → MG (d + 220) h1 mX5_place [.ref 150, .int (nI 0), .int (f (i + 2)), .int (f (i + 3)), .int (f (i + 4)), .int (f (i + 5))] (q_place P (0) ((f (i + 2))) ((f (i + 3))) ((f (i + 4))) ((f (i + 5)))) := fun h1 M ew _ => by
      exact nX5_place (d := d + 218) (w := 0) (a := (f (i + 2))) (b := (f (i + 3))) (c := (f (i + 4))) (e := (f (i + 5))) M W (by omega)
    obtain ⟨h1, h2, e1, e2, J, c1, c2, t64, t150, t31, n31, f31⟩ := LI_go I hx hm (WF_place (w := 0) W (by omega))
    obtain ⟨r, er⟩ := A_place (k := 0) (a := (f (i + 2))) (b := (f (i + 3))) (c := (f (i + 4))) (e := (f (i + 5))) (P := P)
    rw [er] at e1 e2
    have x1 : nI i + nI 1 = nI (i + 1) := nI_add _ _
    have x2 : nI i + nI 2 = nI (i + 2) := nI_add _ _
    have x3 : nI i + nI 3 = nI (i + 3) := nI_add _ _
    have x4 : nI i + nI 4 = nI (i + 4) := nI_add _ _
    have x5 : nI i + nI 5 = nI (i + 5) := nI_add _ _
    have z0 : (f (i + 1) = 0) = True := eq_true q
    refine ⟨h2, _, ?_, J, c1, c2⟩
    simp (disch := first | exact i4 | exact t31 | exact t64 | exact t150 | exact xix_8 i5 (by omega) (by omega) | exact xix_8 n31 (by omega) (by omega) | first | assumption | exact nI_ne0 (by decide) (by decide) | exact zb_01 | exact Or.inl rfl | exact Or.inr rfl | with_unfolding_all exact id (by assumption) | with_unfolding_all exact id (xix_8 (by assumption) (by omega) (by omega)) | omega) only [wL_law_928, wL_law_929, wL_law_930, wL_law_931, wL_law_932, wL_law_933, wL_law_934, wL_law_937, wL_law_938, wL_law_941, wL_law_942, wL_law_943, wL_law_944, wL_law_945, wL_law_946, wL_law_947, wL_law_948, wL_law_949, wL_law_950, wL_law_951, wL_law_952, wL_law_953, wL_law_954, wL_law_955, wL_law_956, wL_law_957, wL_law_958, wL_law_959, wL_law_960, wL_law_961, wL_law_962, wL_law_965, wL_law_966, wL_law_967, wL_law_968, wL_law_969, wL_law_970, wL_law_971, wL_law_974, wL_law_975, wL_law_978, wL_law_979, wL_law_980, wL_law_981, wL_law_982, wL_law_983, wL_law_984, wL_law_985, wL_law_986, wL_law_987, wL_law_988, wL_law_989, wL_law_990, wL_law_991, wL_law_992, wL_law_993, wL_law_994, wL_law_995, wL_law_996, wL_law_997, wL_law_998, wL_law_999, wL_law_1002, wL_law_1005, wL_law_1006, if_true, if_false, ↓reduceIte, xpu_s, xpu_n, Option.bind_some, xk_i, xk_r, xk_0, xk_u, xk_l, xk_k, xk_q, rf_s, rf_n, q_e1, q_e2, Nat.zero_add, Nat.reduceEqDiff, Nat.reduceAdd, Nat.reduceMul, Nat.reduceSub, Nat.reduceLT, Nat.reduceLeDiff, Nat.reduceDiv, Nat.reduceMod, x1, x2, x3, x4, x5, nI_c, i6, f31, e1, e2, eq_self, z0, nI_00, nI_ne1, not_true_eq_false, not_false_eq_true, and_self, and_true, true_and, and_false, false_and, or_true, true_or, or_false, false_or, decide_true, decide_false, zb_t, zb_f, zb_0, zb_1, eq_self]
  · have hx : XG (d + 220) h mX0_place [.ref 64, .int (nI 1), .int (f (i + 2)), .int (f (i + 3)), .int (f (i + 4)), .int (f (i + 5))] (q_place P (1) ((f (i + 2))) ((f (i + 3))) ((f (i + 4))) ((f (i + 5)))) := nX0_place (d := d + 214) (w := 1) (a := (f (i + 2))) (b := (f (i + 3))) (c := (f (i + 4))) (e := (f (i + 5))) i1 W (by omega)
    have hm : ∀ h1, MR h1 P → oI h1 156 = oI h 156 → ST3 h1 → MG (d + 220) h1 mX5_place [.ref 150, .int (nI 1), .int (f (i + 2)), .int (f (i + 3)), .int (f (i + 4)), .int (f (i + 5))] (q_place P (1) ((f (i + 2))) ((f (i + 3))) ((f (i + 4))) ((f (i + 5)))) := fun h1 M ew _ => by
      exact nX5_place (d := d + 218) (w := 1) (a := (f (i + 2))) (b := (f (i + 3))) (c := (f (i + 4))) (e := (f (i + 5))) M W (by omega)
    obtain ⟨h1, h2, e1, e2, J, c1, c2, t64, t150, t31, n31, f31⟩ := LI_go I hx hm (WF_place (w := 1) W (by omega))
    obtain ⟨r, er⟩ := A_place (k := 1) (a := (f (i + 2))) (b := (f (i + 3))) (c := (f (i + 4))) (e := (f (i + 5))) (P := P)
    rw [er] at e1 e2
    have x1 : nI i + nI 1 = nI (i + 1) := nI_add _ _
    have x2 : nI i + nI 2 = nI (i + 2) := nI_add _ _
    have x3 : nI i + nI 3 = nI (i + 3) := nI_add _ _
    have x4 : nI i + nI 4 = nI (i + 4) := nI_add _ _
    have x5 : nI i + nI 5 = nI (i + 5) := nI_add _ _
    have z0 : (f (i + 1) = 0) = False := eq_false q
    refine ⟨h2, _, ?_, J, c1, c2⟩
    simp (disch := first | exact i4 | exact t31 | exact t64 | exact t150 | exact xix_8 i5 (by omega) (by omega) | exact xix_8 n31 (by omega) (by omega) | first | assumption | exact nI_ne0 (by decide) (by decide) | exact zb_01 | exact Or.inl rfl | exact Or.inr rfl | with_unfolding_all exact id (by assumption) | with_unfolding_all exact id (xix_8 (by assumption) (by omega) (by omega)) | omega) only [wL_law_928, wL_law_929, wL_law_930, wL_law_931, wL_law_932, wL_law_933, wL_law_934, wL_law_937, wL_law_938, wL_law_941, wL_law_942, wL_law_943, wL_law_944, wL_law_945, wL_law_946, wL_law_947, wL_law_948, wL_law_949, wL_law_950, wL_law_951, wL_law_952, wL_law_953, wL_law_954, wL_law_955, wL_law_956, wL_law_957, wL_law_958, wL_law_959, wL_law_960, wL_law_961, wL_law_962, wL_law_965, wL_law_966, wL_law_967, wL_law_968, wL_law_969, wL_law_970, wL_law_971, wL_law_974, wL_law_975, wL_law_978, wL_law_979, wL_law_980, wL_law_981, wL_law_982, wL_law_983, wL_law_984, wL_law_985, wL_law_986, wL_law_987, wL_law_988, wL_law_989, wL_law_990, wL_law_991, wL_law_992, wL_law_993, wL_law_994, wL_law_995, wL_law_996, wL_law_997, wL_law_998, wL_law_999, wL_law_1002, wL_law_1005, wL_law_1006, if_true, if_false, ↓reduceIte, xpu_s, xpu_n, Option.bind_some, xk_i, xk_r, xk_0, xk_u, xk_l, xk_k, xk_q, rf_s, rf_n, q_e1, q_e2, Nat.zero_add, Nat.reduceEqDiff, Nat.reduceAdd, Nat.reduceMul, Nat.reduceSub, Nat.reduceLT, Nat.reduceLeDiff, Nat.reduceDiv, Nat.reduceMod, x1, x2, x3, x4, x5, nI_c, i6, f31, e1, e2, eq_self, z0, nI_00, nI_ne1, not_true_eq_false, not_false_eq_true, and_self, and_true, true_and, and_false, false_and, or_true, true_or, or_false, false_or, decide_true, decide_false, zb_t, zb_f, zb_0, zb_1, eq_self]
theorem rd_23 (I : LI h P f n) (hi : i + 6 ≤ n) (hn : n ≤ 384) : ∃ h2 P2, E_ (d + 221) mL_law 1007 [.val (.ref 31), .val (.ref 64), .val (.ref 150), .val (.int (nI i))] [] h = E_ (d + 221) mL_law 1989 [.val (.ref 31), .val (.ref 64), .val (.ref 150), .val (.int (nI i))] [] h2 ∧ LI h2 P2 f n ∧ oC h2 ≤ oC h + 15000 ∧ oS h2 ≤ oS h + 60000 := by
  obtain ⟨i1, i2, W, i4, i5, i6⟩ := id I
  have hx : XG (d + 220) h mX0_behind [.ref 64, .int (f (i + 1)), .int (f (i + 2))] (q_behind P ((f (i + 1))) ((f (i + 2)))) := nX0_behind (d := d + 217) (x := (f (i + 1))) (y := (f (i + 2))) i1 W
  have hm : ∀ h1, MR h1 P → oI h1 156 = oI h 156 → ST3 h1 → MG (d + 220) h1 mX5_behind [.ref 150, .int (f (i + 1)), .int (f (i + 2))] (q_behind P ((f (i + 1))) ((f (i + 2)))) := fun h1 M ew _ => by
    exact nX5_behind (d := d + 217) (x := (f (i + 1))) (y := (f (i + 2))) M W
  obtain ⟨h1, h2, e1, e2, J, c1, c2, t64, t150, t31, n31, f31⟩ := LI_go I hx hm (WF_behind W)
  obtain ⟨r, er⟩ := A_behind (x := (f (i + 1))) (y := (f (i + 2))) (P := P)
  rw [er] at e1 e2
  have x1 : nI i + nI 1 = nI (i + 1) := nI_add _ _
  have x2 : nI i + nI 2 = nI (i + 2) := nI_add _ _
  have x3 : nI i + nI 3 = nI (i + 3) := nI_add _ _
  have x4 : nI i + nI 4 = nI (i + 4) := nI_add _ _
  have x5 : nI i + nI 5 = nI (i + 5) := nI_add _ _
  refine ⟨h2, _, ?_, J, c1, c2⟩
  simp (disch := first | exact i4 | exact t31 | exact t64 | exact t150 | exact xix_8 i5 (by omega) (by omega) | exact xix_8 n31 (by omega) (by omega) | first | assumption | exact nI_ne0 (by decide) (by decide) | exact zb_01 | exact Or.inl rfl | exact Or.inr rfl | with_unfolding_all exact id (by assumption) | with_unfolding_all exact id (xix_8 (by assumption) (by omega) (by omega)) | omega) only [wL_law_1007, wL_law_1008, wL_law_1009, wL_law_1010, wL_law_1011, wL_law_1012, wL_law_1013, wL_law_1014, wL_law_1015, wL_law_1016, wL_law_1017, wL_law_1018, wL_law_1021, wL_law_1022, wL_law_1023, wL_law_1024, wL_law_1025, wL_law_1026, wL_law_1027, wL_law_1028, wL_law_1029, wL_law_1030, wL_law_1031, wL_law_1032, wL_law_1035, wL_law_1038, wL_law_1039, if_true, if_false, ↓reduceIte, xpu_s, xpu_n, Option.bind_some, xk_i, xk_r, xk_0, xk_u, xk_l, xk_k, xk_q, rf_s, rf_n, q_e1, q_e2, Nat.zero_add, Nat.reduceEqDiff, Nat.reduceAdd, Nat.reduceMul, Nat.reduceSub, Nat.reduceLT, Nat.reduceLeDiff, Nat.reduceDiv, Nat.reduceMod, x1, x2, x3, x4, x5, nI_c, i6, f31, e1, e2, eq_self, not_true_eq_false, not_false_eq_true, and_self, and_true, true_and, and_false, false_and, or_true, true_or, or_false, false_or, decide_true, decide_false, zb_t, zb_f, zb_0, zb_1, eq_self]
end
