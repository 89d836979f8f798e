/-! THE LAW: rounds, 24 to 35 -/
section
variable {d n i : Nat} {h h1 h2 : xH} {P : sS} {f : rI}
theorem rd_24 (I : LI h P f n) (hi : i + 6 ≤ n) (hn : n ≤ 384) : ∃ h2 P2, E_ (d + 221) mL_law 1040 [.val (.ref 31), .val (.ref 64), .val (.ref 150), .val (.int (nI i))] [] h = E_ (d + 221) mL_law 1989 [.val (.ref 31), .val (.ref 64), .val (.ref 150), .val (.int (nI i))] [] h2 ∧ LI h2 P2 f n ∧ oC h2 ≤ oC h + 15000 ∧ oS h2 ≤ oS h + 60000 := by
  obtain ⟨i1, i2, W, i4, i5, i6⟩ := id I
  have hx : XG (d + 220) h mX0_at [.ref 64, .int (f (i + 1)), .int (f (i + 2))] (q_at P ((f (i + 1))) ((f (i + 2)))) := nX0_at (d := d + 217) (x := (f (i + 1))) (y := (f (i + 2))) i1 W
  have hm : ∀ h1, MR h1 P → oI h1 156 = oI h 156 → ST3 h1 → MG (d + 220) h1 mX5_at [.ref 150, .int (f (i + 1)), .int (f (i + 2))] (q_at P ((f (i + 1))) ((f (i + 2)))) := fun h1 M ew _ => by
    exact nX5_at (d := d + 217) (x := (f (i + 1))) (y := (f (i + 2))) M W
  obtain ⟨h1, h2, e1, e2, J, c1, c2, t64, t150, t31, n31, f31⟩ := LI_go I hx hm (W_at W)
  obtain ⟨r, er⟩ := A_at (x := (f (i + 1))) (y := (f (i + 2))) (P := P)
  rw [er] at e1 e2
  have x1 : nI i + nI 1 = nI (i + 1) := nI_add _ _
  have x2 : nI i + nI 2 = nI (i + 2) := nI_add _ _
  have x3 : nI i + nI 3 = nI (i + 3) := nI_add _ _
  have x4 : nI i + nI 4 = nI (i + 4) := nI_add _ _
  have x5 : nI i + nI 5 = nI (i + 5) := nI_add _ _
  refine ⟨h2, _, ?_, J, c1, c2⟩
  simp (disch := first | exact i4 | exact t31 | exact t64 | exact t150 | exact xix_8 i5 (by omega) (by omega) | exact xix_8 n31 (by omega) (by omega) | first | assumption | exact nI_ne0 (by decide) (by decide) | exact zb_01 | exact Or.inl rfl | exact Or.inr rfl | with_unfolding_all exact id (by assumption) | with_unfolding_all exact id (xix_8 (by assumption) (by omega) (by omega)) | omega) only [wL_law_1040, wL_law_1041, wL_law_1042, wL_law_1043, wL_law_1044, wL_law_1045, wL_law_1046, wL_law_1047, wL_law_1048, wL_law_1049, wL_law_1050, wL_law_1051, wL_law_1054, wL_law_1055, wL_law_1056, wL_law_1057, wL_law_1058, wL_law_1059, wL_law_1060, wL_law_1061, wL_law_1062, wL_law_1063, wL_law_1064, wL_law_1065, wL_law_1068, wL_law_1071, wL_law_1072, if_true, if_false, ↓reduceIte, xpu_s, xpu_n, Option.bind_some, xk_i, xk_r, xk_0, xk_u, xk_l, xk_k, xk_q, rf_s, rf_n, q_e1, q_e2, Nat.zero_add, Nat.reduceEqDiff, Nat.reduceAdd, Nat.reduceMul, Nat.reduceSub, Nat.reduceLT, Nat.reduceLeDiff, Nat.reduceDiv, Nat.reduceMod, x1, x2, x3, x4, x5, nI_c, i6, f31, e1, e2, eq_self, not_true_eq_false, not_false_eq_true, and_self, and_true, true_and, and_false, false_and, or_true, true_or, or_false, false_or, decide_true, decide_false, zb_t, zb_f, zb_0, zb_1, eq_self]
theorem rd_25 (I : LI h P f n) (hi : i + 6 ≤ n) (hn : n ≤ 384) : ∃ h2 P2, E_ (d + 221) mL_law 1073 [.val (.ref 31), .val (.ref 64), .val (.ref 150), .val (.int (nI i))] [] h = E_ (d + 221) mL_law 1989 [.val (.ref 31), .val (.ref 64), .val (.ref 150), .val (.int (nI i))] [] h2 ∧ LI h2 P2 f n ∧ oC h2 ≤ oC h + 15000 ∧ oS h2 ≤ oS h + 60000 := by
  obtain ⟨i1, i2, W, i4, i5, i6⟩ := id I
  by_cases q : f (i + 1) = 0
  · have hx : XG (d + 220) h mX0_rate [.ref 64, .int (nI 0), .int (f (i + 2))] (q_rate P (0) ((f (i + 2)))) := nX0_rate (d := d + 190) (w := 0) (x := (f (i + 2))) i1 W (by omega)
    have hm : ∀ h1, MR h1 P → oI h1 156 = oI h 156 → ST3 h1 → MG (d + 220) h1 mX5_rate [.ref 150, .int (nI 0), .int (f (i + 2))] (q_rate P (0) ((f (i + 2)))) := fun h1 M ew _ => by
      exact nX5_rate (d := d + 218) (w := 0) (x := (f (i + 2))) M W (by omega)
    obtain ⟨h1, h2, e1, e2, J, c1, c2, t64, t150, t31, n31, f31⟩ := LI_go I hx hm (W_rate W)
    obtain ⟨r, er⟩ := A_rate (k := 0) (x := (f (i + 2))) (P := P)
    rw [er] at e1 e2
    have x1 : nI i + nI 1 = nI (i + 1) := nI_add _ _
    have x2 : nI i + nI 2 = nI (i + 2) := nI_add _ _
    have x3 : nI i + nI 3 = nI (i + 3) := nI_add _ _
    have x4 : nI i + nI 4 = nI (i + 4) := nI_add _ _
    have x5 : nI i + nI 5 = nI (i + 5) := nI_add _ _
    have z0 : (f (i + 1) = 0) = True := eq_true q
    refine ⟨h2, _, ?_, J, c1, c2⟩
    simp (disch := first | exact i4 | exact t31 | exact t64 | exact t150 | exact xix_8 i5 (by omega) (by omega) | exact xix_8 n31 (by omega) (by omega) | first | assumption | exact nI_ne0 (by decide) (by decide) | exact zb_01 | exact Or.inl rfl | exact Or.inr rfl | with_unfolding_all exact id (by assumption) | with_unfolding_all exact id (xix_8 (by assumption) (by omega) (by omega)) | omega) only [wL_law_1073, wL_law_1074, wL_law_1075, wL_law_1076, wL_law_1077, wL_law_1078, wL_law_1079, wL_law_1082, wL_law_1083, wL_law_1086, wL_law_1087, wL_law_1088, wL_law_1089, wL_law_1090, wL_law_1091, wL_law_1092, wL_law_1095, wL_law_1096, wL_law_1097, wL_law_1098, wL_law_1099, wL_law_1100, wL_law_1101, wL_law_1104, wL_law_1105, wL_law_1108, wL_law_1109, wL_law_1110, wL_law_1111, wL_law_1112, wL_law_1113, wL_law_1114, wL_law_1117, wL_law_1120, wL_law_1121, if_true, if_false, ↓reduceIte, xpu_s, xpu_n, Option.bind_some, xk_i, xk_r, xk_0, xk_u, xk_l, xk_k, xk_q, rf_s, rf_n, q_e1, q_e2, Nat.zero_add, Nat.reduceEqDiff, Nat.reduceAdd, Nat.reduceMul, Nat.reduceSub, Nat.reduceLT, Nat.reduceLeDiff, Nat.reduceDiv, Nat.reduceMod, x1, x2, x3, x4, x5, nI_c, i6, f31, e1, e2, eq_self, z0, nI_00, nI_ne1, not_true_eq_false, not_false_eq_true, and_self, and_true, true_and, and_false, false_and, or_true, true_or, or_false, false_or, decide_true, decide_false, zb_t, zb_f, zb_0, zb_1, eq_self]
  · have hx : XG (d + 220) h mX0_rate [.ref 64, .int (nI 1), .int (f (i + 2))] (q_rate P (1) ((f (i + 2)))) := nX0_rate (d := d + 190) (w := 1) (x := (f (i + 2))) i1 W (by omega)
    have hm : ∀ h1, MR h1 P → oI h1 156 = oI h 156 → ST3 h1 → MG (d + 220) h1 mX5_rate [.ref 150, .int (nI 1), .int (f (i + 2))] (q_rate P (1) ((f (i + 2)))) := fun h1 M ew _ => by
      exact nX5_rate (d := d + 218) (w := 1) (x := (f (i + 2))) M W (by omega)
    obtain ⟨h1, h2, e1, e2, J, c1, c2, t64, t150, t31, n31, f31⟩ := LI_go I hx hm (W_rate W)
    obtain ⟨r, er⟩ := A_rate (k := 1) (x := (f (i + 2))) (P := P)
    rw [er] at e1 e2
    have x1 : nI i + nI 1 = nI (i + 1) := nI_add _ _
    have x2 : nI i + nI 2 = nI (i + 2) := nI_add _ _
    have x3 : nI i + nI 3 = nI (i + 3) := nI_add _ _
    have x4 : nI i + nI 4 = nI (i + 4) := nI_add _ _
    have x5 : nI i + nI 5 = nI (i + 5) := nI_add _ _
    have z0 : (f (i + 1) = 0) = False := eq_false q
    refine ⟨h2, _, ?_, J, c1, c2⟩
    simp (disch := first | exact i4 | exact t31 | exact t64 | exact t150 | exact xix_8 i5 (by omega) (by omega) | exact xix_8 n31 (by omega) (by omega) | first | assumption | exact nI_ne0 (by decide) (by decide) | exact zb_01 | exact Or.inl rfl | exact Or.inr rfl | with_unfolding_all exact id (by assumption) | with_unfolding_all exact id (xix_8 (by assumption) (by omega) (by omega)) | omega) only [wL_law_1073, wL_law_1074, wL_law_1075, wL_law_1076, wL_law_1077, wL_law_1078, wL_law_1079, wL_law_1082, wL_law_1083, wL_law_1086, wL_law_1087, wL_law_1088, wL_law_1089, wL_law_1090, wL_law_1091, wL_law_1092, wL_law_1095, wL_law_1096, wL_law_1097, wL_law_1098, wL_law_1099, wL_law_1100, wL_law_1101, wL_law_1104, wL_law_1105, wL_law_1108, wL_law_1109, wL_law_1110, wL_law_1111, wL_law_1112, wL_law_1113, wL_law_1114, wL_law_1117, wL_law_1120, wL_law_1121, if_true, if_false, ↓reduceIte, xpu_s, xpu_n, Option.bind_some, xk_i, xk_r, xk_0, xk_u, xk_l, xk_k, xk_q, rf_s, rf_n, q_e1, q_e2, Nat.zero_add, Nat.reduceEqDiff, Nat.reduceAdd, Nat.reduceMul, Nat.reduceSub, Nat.reduceLT, Nat.reduceLeDiff, Nat.reduceDiv, Nat.reduceMod, x1, x2, x3, x4, x5, nI_c, i6, f31, e1, e2, eq_self, z0, nI_00, nI_ne1, not_true_eq_false, not_false_eq_true, and_self, and_true, true_and, and_false, false_and, or_true, true_or, or_false, false_or, decide_true, decide_false, zb_t, zb_f, zb_0, zb_1, eq_self]
theorem rd_26 (I : LI h P f n) (hi : i + 6 ≤ n) (hn : n ≤ 384) : ∃ h2 P2, E_ (d + 221) mL_law 1122 [.val (.ref 31), .val (.ref 64), .val (.ref 150), .val (.int (nI i))] [] h = E_ (d + 221) mL_law 1989 [.val (.ref 31), .val (.ref 64), .val (.ref 150), .val (.int (nI i))] [] h2 ∧ LI h2 P2 f n ∧ oC h2 ≤ oC h + 15000 ∧ oS h2 ≤ oS h + 60000 := by
  obtain ⟨i1, i2, W, i4, i5, i6⟩ := id I
  have hx : XG (d + 220) h mX0_parted [.ref 64] (q_parted P) := nX0_parted (d := d + 214) i1 W
  have hm : ∀ h1, MR h1 P → oI h1 156 = oI h 156 → ST3 h1 → MG (d + 220) h1 mX5_parted [.ref 150] (q_parted P) := fun h1 M ew _ => by
    exact nX5_parted (d := d + 218) M W
  obtain ⟨h1, h2, e1, e2, J, c1, c2, t64, t150, t31, n31, f31⟩ := LI_go I hx hm (W_parted W)
  obtain ⟨r, er⟩ := A_parted (P := P)
  rw [er] at e1 e2
  have x1 : nI i + nI 1 = nI (i + 1) := nI_add _ _
  have x2 : nI i + nI 2 = nI (i + 2) := nI_add _ _
  have x3 : nI i + nI 3 = nI (i + 3) := nI_add _ _
  have x4 : nI i + nI 4 = nI (i + 4) := nI_add _ _
  have x5 : nI i + nI 5 = nI (i + 5) := nI_add _ _
  refine ⟨h2, _, ?_, J, c1, c2⟩
  simp (disch := first | exact i4 | exact t31 | exact t64 | exact t150 | exact xix_8 i5 (by omega) (by omega) | exact xix_8 n31 (by omega) (by omega) | first | assumption | exact nI_ne0 (by decide) (by decide) | exact zb_01 | exact Or.inl rfl | exact Or.inr rfl | with_unfolding_all exact id (by assumption) | with_unfolding_all exact id (xix_8 (by assumption) (by omega) (by omega)) | omega) only [wL_law_1122, wL_law_1123, wL_law_1126, wL_law_1127, wL_law_1130, wL_law_1133, wL_law_1134, if_true, if_false, ↓reduceIte, xpu_s, xpu_n, Option.bind_some, xk_i, xk_r, xk_0, xk_u, xk_l, xk_k, xk_q, rf_s, rf_n, q_e1, q_e2, Nat.zero_add, Nat.reduceEqDiff, Nat.reduceAdd, Nat.reduceMul, Nat.reduceSub, Nat.reduceLT, Nat.reduceLeDiff, Nat.reduceDiv, Nat.reduceMod, x1, x2, x3, x4, x5, nI_c, i6, f31, e1, e2, eq_self, not_true_eq_false, not_false_eq_true, and_self, and_true, true_and, and_false, false_and, or_true, true_or, or_false, false_or, decide_true, decide_false, zb_t, zb_f, zb_0, zb_1, eq_self]
theorem rd_27 (I : LI h P f n) (hi : i + 6 ≤ n) (hn : n ≤ 384) : ∃ h2 P2, E_ (d + 221) mL_law 1135 [.val (.ref 31), .val (.ref 64), .val (.ref 150), .val (.int (nI i))] [] h = E_ (d + 221) mL_law 1989 [.val (.ref 31), .val (.ref 64), .val (.ref 150), .val (.int (nI i))] [] h2 ∧ LI h2 P2 f n ∧ oC h2 ≤ oC h + 15000 ∧ oS h2 ≤ oS h + 60000 := by
  obtain ⟨i1, i2, W, i4, i5, i6⟩ := id I
  have hx : XG (d + 220) h mX0_worst [.ref 64, .int (f (i + 1)), .int (f (i + 2))] (q_worst P ((f (i + 1))) ((f (i + 2)))) := nX0_worst (d := d + 215) (x := (f (i + 1))) (y := (f (i + 2))) i1 W
  have hm : ∀ h1, MR h1 P → oI h1 156 = oI h 156 → ST3 h1 → MG (d + 220) h1 mX5_worst [.ref 150, .int (f (i + 1)), .int (f (i + 2))] (q_worst P ((f (i + 1))) ((f (i + 2)))) := fun h1 M ew _ => by
    exact nX5_worst (d := d + 216) (x := (f (i + 1))) (y := (f (i + 2))) M W
  obtain ⟨h1, h2, e1, e2, J, c1, c2, t64, t150, t31, n31, f31⟩ := LI_go I hx hm (W_worst W)
  obtain ⟨r, er⟩ := A_worst (x := (f (i + 1))) (y := (f (i + 2))) (P := P)
  rw [er] at e1 e2
  have x1 : nI i + nI 1 = nI (i + 1) := nI_add _ _
  have x2 : nI i + nI 2 = nI (i + 2) := nI_add _ _
  have x3 : nI i + nI 3 = nI (i + 3) := nI_add _ _
  have x4 : nI i + nI 4 = nI (i + 4) := nI_add _ _
  have x5 : nI i + nI 5 = nI (i + 5) := nI_add _ _
  refine ⟨h2, _, ?_, J, c1, c2⟩
  simp (disch := first | exact i4 | exact t31 | exact t64 | exact t150 | exact xix_8 i5 (by omega) (by omega) | exact xix_8 n31 (by omega) (by omega) | first | assumption | exact nI_ne0 (by decide) (by decide) | exact zb_01 | exact Or.inl rfl | exact Or.inr rfl | with_unfolding_all exact id (by assumption) | with_unfolding_all exact id (xix_8 (by assumption) (by omega) (by omega)) | omega) only [wL_law_1135, wL_law_1136, wL_law_1137, wL_law_1138, wL_law_1139, wL_law_1140, wL_law_1141, wL_law_1142, wL_law_1143, wL_law_1144, wL_law_1145, wL_law_1146, wL_law_1149, wL_law_1150, wL_law_1151, wL_law_1152, wL_law_1153, wL_law_1154, wL_law_1155, wL_law_1156, wL_law_1157, wL_law_1158, wL_law_1159, wL_law_1160, wL_law_1163, wL_law_1166, wL_law_1167, if_true, if_false, ↓reduceIte, xpu_s, xpu_n, Option.bind_some, xk_i, xk_r, xk_0, xk_u, xk_l, xk_k, xk_q, rf_s, rf_n, q_e1, q_e2, Nat.zero_add, Nat.reduceEqDiff, Nat.reduceAdd, Nat.reduceMul, Nat.reduceSub, Nat.reduceLT, Nat.reduceLeDiff, Nat.reduceDiv, Nat.reduceMod, x1, x2, x3, x4, x5, nI_c, i6, f31, e1, e2, eq_self, not_true_eq_false, not_false_eq_true, and_self, and_true, true_and, and_false, false_and, or_true, true_or, or_false, false_or, decide_true, decide_false, zb_t, zb_f, zb_0, zb_1, eq_self]
theorem rd_28 (I : LI h P f n) (hi : i + 6 ≤ n) (hn : n ≤ 384) : ∃ h2 P2, E_ (d + 221) mL_law 1168 [.val (.ref 31), .val (.ref 64), .val (.ref 150), .val (.int (nI i))] [] h = E_ (d + 221) mL_law 1989 [.val (.ref 31), .val (.ref 64), .val (.ref 150), .val (.int (nI i))] [] h2 ∧ LI h2 P2 f n ∧ oC h2 ≤ oC h + 15000 ∧ oS h2 ≤ oS h + 60000 := by
  obtain ⟨i1, i2, W, i4, i5, i6⟩ := id I
  have hx : XG (d + 220) h mX0_ranked [.ref 64, .int (f (i + 1))] (q_ranked P ((f (i + 1)))) := nX0_ranked (d := d + 216) (x := (f (i + 1))) i1 W
  have hm : ∀ h1, MR h1 P → oI h1 156 = oI h 156 → ST3 h1 → MG (d + 220) h1 mX5_ranked [.ref 150, .int (f (i + 1))] (q_ranked P ((f (i + 1)))) := fun h1 M ew _ => by
    exact nX5_ranked (d := d + 218) (x := (f (i + 1))) M W
  obtain ⟨h1, h2, e1, e2, J, c1, c2, t64, t150, t31, n31, f31⟩ := LI_go I hx hm (W_ranked W)
  obtain ⟨r, er⟩ := A_ranked (x := (f (i + 1))) (P := P)
  rw [er] at e1 e2
  have x1 : nI i + nI 1 = nI (i + 1) := nI_add _ _
  have x2 : nI i + nI 2 = nI (i + 2) := nI_add _ _
  have x3 : nI i + nI 3 = nI (i + 3) := nI_add _ _
  have x4 : nI i + nI 4 = nI (i + 4) := nI_add _ _
  have x5 : nI i + nI 5 = nI (i + 5) := nI_add _ _
  refine ⟨h2, _, ?_, J, c1, c2⟩
  simp (disch := first | exact i4 | exact t31 | exact t64 | exact t150 | exact xix_8 i5 (by omega) (by omega) | exact xix_8 n31 (by omega) (by omega) | first | assumption | exact nI_ne0 (by decide) (by decide) | exact zb_01 | exact Or.inl rfl | exact Or.inr rfl | with_unfolding_all exact id (by assumption) | with_unfolding_all exact id (xix_8 (by assumption) (by omega) (by omega)) | omega) only [wL_law_1168, wL_law_1169, wL_law_1170, wL_law_1171, wL_law_1172, wL_law_1173, wL_law_1174, wL_law_1177, wL_law_1178, wL_law_1179, wL_law_1180, wL_law_1181, wL_law_1182, wL_law_1183, wL_law_1186, wL_law_1189, wL_law_1190, if_true, if_false, ↓reduceIte, xpu_s, xpu_n, Option.bind_some, xk_i, xk_r, xk_0, xk_u, xk_l, xk_k, xk_q, rf_s, rf_n, q_e1, q_e2, Nat.zero_add, Nat.reduceEqDiff, Nat.reduceAdd, Nat.reduceMul, Nat.reduceSub, Nat.reduceLT, Nat.reduceLeDiff, Nat.reduceDiv, Nat.reduceMod, x1, x2, x3, x4, x5, nI_c, i6, f31, e1, e2, eq_self, not_true_eq_false, not_false_eq_true, and_self, and_true, true_and, and_false, false_and, or_true, true_or, or_false, false_or, decide_true, decide_false, zb_t, zb_f, zb_0, zb_1, eq_self]
theorem rd_29 (I : LI h P f n) (hi : i + 6 ≤ n) (hn : n ≤ 384) : ∃ h2 P2, E_ (d + 221) mL_law 1191 [.val (.ref 31), .val (.ref 64), .val (.ref 150), .val (.int (nI i))] [] h = E_ (d + 221) mL_law 1989 [.val (.ref 31), .val (.ref 64), .val (.ref 150), .val (.int (nI i))] [] h2 ∧ LI h2 P2 f n ∧ oC h2 ≤ oC h + 15000 ∧ oS h2 ≤ oS h + 60000 := by
  obtain ⟨i1, i2, W, i4, i5, i6⟩ := id I
  have hx : XG (d + 220) h mX0_measure [.ref 64, .int (f (i + 1)), .int (f (i + 2)), .int (f (i + 3))] (q_measure P ((f (i + 1))) ((f (i + 2))) ((f (i + 3)))) := nX0_measure (d := d + 219) (a := (f (i + 1))) (b := (f (i + 2))) (c := (f (i + 3))) i1 W
  have hm : ∀ h1, MR h1 P → oI h1 156 = oI h 156 → ST3 h1 → MG (d + 220) h1 mX5_measure [.ref 150, .int (f (i + 1)), .int (f (i + 2)), .int (f (i + 3))] (q_measure P ((f (i + 1))) ((f (i + 2))) ((f (i + 3)))) := fun h1 M ew _ => by
    exact nX5_measure (d := d + 219) (a := (f (i + 1))) (b := (f (i + 2))) (c := (f (i + 3))) M
  obtain ⟨h1, h2, e1, e2, J, c1, c2, t64, t150, t31, n31, f31⟩ := LI_go I hx hm (WF_measure W)
  obtain ⟨r, er⟩ := A_measure (a := (f (i + 1))) (b := (f (i + 2))) (c := (f (i + 3))) (P := P)
  rw [er] at e1 e2
  have x1 : nI i + nI 1 = nI (i + 1) := nI_add _ _
  have x2 : nI i + nI 2 = nI (i + 2) := nI_add _ _
  have x3 : nI i + nI 3 = nI (i + 3) := nI_add _ _
  have x4 : nI i + nI 4 = nI (i + 4) := nI_add _ _
  have x5 : nI i + nI 5 = nI (i + 5) := nI_add _ _
  refine ⟨h2, _, ?_, J, c1, c2⟩
  simp (disch := first | exact i4 | exact t31 | exact t64 | exact t150 | exact xix_8 i5 (by omega) (by omega) | exact xix_8 n31 (by omega) (by omega) | first | assumption | exact nI_ne0 (by decide) (by decide) | exact zb_01 | exact Or.inl rfl | exact Or.inr rfl | with_unfolding_all exact id (by assumption) | with_unfolding_all exact id (xix_8 (by assumption) (by omega) (by omega)) | omega) only [wL_law_1191, wL_law_1192, wL_law_1193, wL_law_1194, wL_law_1195, wL_law_1196, wL_law_1197, wL_law_1198, wL_law_1199, wL_law_1200, wL_law_1201, wL_law_1202, wL_law_1203, wL_law_1204, wL_law_1205, wL_law_1206, wL_law_1207, wL_law_1210, wL_law_1211, wL_law_1212, wL_law_1213, wL_law_1214, wL_law_1215, wL_law_1216, wL_law_1217, wL_law_1218, wL_law_1219, wL_law_1220, wL_law_1221, wL_law_1222, wL_law_1223, wL_law_1224, wL_law_1225, wL_law_1226, wL_law_1229, wL_law_1232, wL_law_1233, if_true, if_false, ↓reduceIte, xpu_s, xpu_n, Option.bind_some, xk_i, xk_r, xk_0, xk_u, xk_l, xk_k, xk_q, rf_s, rf_n, q_e1, q_e2, Nat.zero_add, Nat.reduceEqDiff, Nat.reduceAdd, Nat.reduceMul, Nat.reduceSub, Nat.reduceLT, Nat.reduceLeDiff, Nat.reduceDiv, Nat.reduceMod, x1, x2, x3, x4, x5, nI_c, i6, f31, e1, e2, eq_self, not_true_eq_false, not_false_eq_true, and_self, and_true, true_and, and_false, false_and, or_true, true_or, or_false, false_or, decide_true, decide_false, zb_t, zb_f, zb_0, zb_1, eq_self]
theorem rd_30 (I : LI h P f n) (hi : i + 6 ≤ n) (hn : n ≤ 384) : ∃ h2 P2, E_ (d + 221) mL_law 1234 [.val (.ref 31), .val (.ref 64), .val (.ref 150), .val (.int (nI i))] [] h = E_ (d + 221) mL_law 1989 [.val (.ref 31), .val (.ref 64), .val (.ref 150), .val (.int (nI i))] [] h2 ∧ LI h2 P2 f n ∧ oC h2 ≤ oC h + 15000 ∧ oS h2 ≤ oS h + 60000 := by
  obtain ⟨i1, i2, W, i4, i5, i6⟩ := id I
  have hx : XG (d + 220) h mX0_spent [.ref 64, .int (f (i + 1)), .int (f (i + 2))] (q_spent P ((f (i + 1))) ((f (i + 2)))) := nX0_spent (d := d + 214) (x := (f (i + 1))) (y := (f (i + 2))) i1 W
  have hm : ∀ h1, MR h1 P → oI h1 156 = oI h 156 → ST3 h1 → MG (d + 220) h1 mX5_spent [.ref 150, .int (f (i + 1)), .int (f (i + 2))] (q_spent P ((f (i + 1))) ((f (i + 2)))) := fun h1 M ew _ => by
    exact nX5_spent (d := d + 217) (x := (f (i + 1))) (y := (f (i + 2))) M W
  obtain ⟨h1, h2, e1, e2, J, c1, c2, t64, t150, t31, n31, f31⟩ := LI_go I hx hm (W_spent W)
  obtain ⟨r, er⟩ := A_spent (x := (f (i + 1))) (y := (f (i + 2))) (P := P)
  rw [er] at e1 e2
  have x1 : nI i + nI 1 = nI (i + 1) := nI_add _ _
  have x2 : nI i + nI 2 = nI (i + 2) := nI_add _ _
  have x3 : nI i + nI 3 = nI (i + 3) := nI_add _ _
  have x4 : nI i + nI 4 = nI (i + 4) := nI_add _ _
  have x5 : nI i + nI 5 = nI (i + 5) := nI_add _ _
  refine ⟨h2, _, ?_, J, c1, c2⟩
  simp (disch := first | exact i4 | exact t31 | exact t64 | exact t150 | exact xix_8 i5 (by omega) (by omega) | exact xix_8 n31 (by omega) (by omega) | first | assumption | exact nI_ne0 (by decide) (by decide) | exact zb_01 | exact Or.inl rfl | exact Or.inr rfl | with_unfolding_all exact id (by assumption) | with_unfolding_all exact id (xix_8 (by assumption) (by omega) (by omega)) | omega) only [wL_law_1234, wL_law_1235, wL_law_1236, wL_law_1237, wL_law_1238, wL_law_1239, wL_law_1240, wL_law_1241, wL_law_1242, wL_law_1243, wL_law_1244, wL_law_1245, wL_law_1248, wL_law_1249, wL_law_1250, wL_law_1251, wL_law_1252, wL_law_1253, wL_law_1254, wL_law_1255, wL_law_1256, wL_law_1257, wL_law_1258, wL_law_1259, wL_law_1262, wL_law_1265, wL_law_1266, if_true, if_false, ↓reduceIte, xpu_s, xpu_n, Option.bind_some, xk_i, xk_r, xk_0, xk_u, xk_l, xk_k, xk_q, rf_s, rf_n, q_e1, q_e2, Nat.zero_add, Nat.reduceEqDiff, Nat.reduceAdd, Nat.reduceMul, Nat.reduceSub, Nat.reduceLT, Nat.reduceLeDiff, Nat.reduceDiv, Nat.reduceMod, x1, x2, x3, x4, x5, nI_c, i6, f31, e1, e2, eq_self, not_true_eq_false, not_false_eq_true, and_self, and_true, true_and, and_false, false_and, or_true, true_or, or_false, false_or, decide_true, decide_false, zb_t, zb_f, zb_0, zb_1, eq_self]
theorem rd_31 (I : LI h P f n) (hi : i + 6 ≤ n) (hn : n ≤ 384) : ∃ h2 P2, E_ (d + 221) mL_law 1267 [.val (.ref 31), .val (.ref 64), .val (.ref 150), .val (.int (nI i))] [] h = E_ (d + 221) mL_law 1989 [.val (.ref 31), .val (.ref 64), .val (.ref 150), .val (.int (nI i))] [] h2 ∧ LI h2 P2 f n ∧ oC h2 ≤ oC h + 15000 ∧ oS h2 ≤ oS h + 60000 := by
  obtain ⟨i1, i2, W, i4, i5, i6⟩ := id I
  have hx : XG (d + 220) h mX0_fine [.ref 64, .int (f (i + 1)), .int (f (i + 2)), .int (f (i + 3)), .int (f (i + 4))] (q_fine P ((f (i + 1))) ((f (i + 2))) ((f (i + 3))) ((f (i + 4)))) := nX0_fine (d := d + 219) (a := (f (i + 1))) (b := (f (i + 2))) (c := (f (i + 3))) (e := (f (i + 4))) i1
  have hm : ∀ h1, MR h1 P → oI h1 156 = oI h 156 → ST3 h1 → MG (d + 220) h1 mX5_fine [.ref 150, .int (f (i + 1)), .int (f (i + 2)), .int (f (i + 3)), .int (f (i + 4))] (q_fine P ((f (i + 1))) ((f (i + 2))) ((f (i + 3))) ((f (i + 4)))) := fun h1 M ew _ => by
    exact nX5_fine (d := d + 219) (a := (f (i + 1))) (b := (f (i + 2))) (c := (f (i + 3))) (e := (f (i + 4))) M
  obtain ⟨h1, h2, e1, e2, J, c1, c2, t64, t150, t31, n31, f31⟩ := LI_go I hx hm (W_fine W)
  obtain ⟨r, er⟩ := A_fine (a := (f (i + 1))) (b := (f (i + 2))) (c := (f (i + 3))) (e := (f (i + 4))) (P := P)
  rw [er] at e1 e2
  have x1 : nI i + nI 1 = nI (i + 1) := nI_add _ _
  have x2 : nI i + nI 2 = nI (i + 2) := nI_add _ _
  have x3 : nI i + nI 3 = nI (i + 3) := nI_add _ _
  have x4 : nI i + nI 4 = nI (i + 4) := nI_add _ _
  have x5 : nI i + nI 5 = nI (i + 5) := nI_add _ _
  refine ⟨h2, _, ?_, J, c1, c2⟩
  simp (disch := first | exact i4 | exact t31 | exact t64 | exact t150 | exact xix_8 i5 (by omega) (by omega) | exact xix_8 n31 (by omega) (by omega) | first | assumption | exact nI_ne0 (by decide) (by decide) | exact zb_01 | exact Or.inl rfl | exact Or.inr rfl | with_unfolding_all exact id (by assumption) | with_unfolding_all exact id (xix_8 (by assumption) (by omega) (by omega)) | omega) only [wL_law_1267, wL_law_1268, wL_law_1269, wL_law_1270, wL_law_1271, wL_law_1272, wL_law_1273, wL_law_1274, wL_law_1275, wL_law_1276, wL_law_1277, wL_law_1278, wL_law_1279, wL_law_1280, wL_law_1281, wL_law_1282, wL_law_1283, wL_law_1284, wL_law_1285, wL_law_1286, wL_law_1287, wL_law_1288, wL_law_1291, wL_law_1292, wL_law_1293, wL_law_1294, wL_law_1295, wL_law_1296, wL_law_1297, wL_law_1298, wL_law_1299, wL_law_1300, wL_law_1301, wL_law_1302, wL_law_1303, wL_law_1304, wL_law_1305, wL_law_1306, wL_law_1307, wL_law_1308, wL_law_1309, wL_law_1310, wL_law_1311, wL_law_1312, wL_law_1315, wL_law_1318, wL_law_1319, if_true, if_false, ↓reduceIte, xpu_s, xpu_n, Option.bind_some, xk_i, xk_r, xk_0, xk_u, xk_l, xk_k, xk_q, rf_s, rf_n, q_e1, q_e2, Nat.zero_add, Nat.reduceEqDiff, Nat.reduceAdd, Nat.reduceMul, Nat.reduceSub, Nat.reduceLT, Nat.reduceLeDiff, Nat.reduceDiv, Nat.reduceMod, x1, x2, x3, x4, x5, nI_c, i6, f31, e1, e2, eq_self, not_true_eq_false, not_false_eq_true, and_self, and_true, true_and, and_false, false_and, or_true, true_or, or_false, false_or, decide_true, decide_false, zb_t, zb_f, zb_0, zb_1, eq_self]
theorem rd_32 (I : LI h P f n) (hi : i + 6 ≤ n) (hn : n ≤ 384) : ∃ h2 P2, E_ (d + 221) mL_law 1320 [.val (.ref 31), .val (.ref 64), .val (.ref 150), .val (.int (nI i))] [] h = E_ (d + 221) mL_law 1989 [.val (.ref 31), .val (.ref 64), .val (.ref 150), .val (.int (nI i))] [] h2 ∧ LI h2 P2 f n ∧ oC h2 ≤ oC h + 15000 ∧ oS h2 ≤ oS h + 60000 := by
  obtain ⟨i1, i2, W, i4, i5, i6⟩ := id I
  have hx : XG (d + 220) h mX0_until [.ref 64, .int (f (i + 1)), .int (f (i + 2)), .int (f (i + 3)), .int (f (i + 4))] (q_until P ((f (i + 1))) ((f (i + 2))) ((f (i + 3))) ((f (i + 4)))) := nX0_until (d := d + 219) (a := (f (i + 1))) (b := (f (i + 2))) (c := (f (i + 3))) (e := (f (i + 4))) i1
  have hm : ∀ h1, MR h1 P → oI h1 156 = oI h 156 → ST3 h1 → MG (d + 220) h1 mX5_until [.ref 150, .int (f (i + 1)), .int (f (i + 2)), .int (f (i + 3)), .int (f (i + 4))] (q_until P ((f (i + 1))) ((f (i + 2))) ((f (i + 3))) ((f (i + 4)))) := fun h1 M ew _ => by
    exact nX5_until (d := d + 219) (a := (f (i + 1))) (b := (f (i + 2))) (c := (f (i + 3))) (e := (f (i + 4))) M
  obtain ⟨h1, h2, e1, e2, J, c1, c2, t64, t150, t31, n31, f31⟩ := LI_go I hx hm (W_until W)
  obtain ⟨r, er⟩ := A_until (a := (f (i + 1))) (b := (f (i + 2))) (c := (f (i + 3))) (e := (f (i + 4))) (P := P)
  rw [er] at e1 e2
  have x1 : nI i + nI 1 = nI (i + 1) := nI_add _ _
  have x2 : nI i + nI 2 = nI (i + 2) := nI_add _ _
  have x3 : nI i + nI 3 = nI (i + 3) := nI_add _ _
  have x4 : nI i + nI 4 = nI (i + 4) := nI_add _ _
  have x5 : nI i + nI 5 = nI (i + 5) := nI_add _ _
  refine ⟨h2, _, ?_, J, c1, c2⟩
  simp (disch := first | exact i4 | exact t31 | exact t64 | exact t150 | exact xix_8 i5 (by omega) (by omega) | exact xix_8 n31 (by omega) (by omega) | first | assumption | exact nI_ne0 (by decide) (by decide) | exact zb_01 | exact Or.inl rfl | exact Or.inr rfl | with_unfolding_all exact id (by assumption) | with_unfolding_all exact id (xix_8 (by assumption) (by omega) (by omega)) | omega) only [wL_law_1320, wL_law_1321, wL_law_1322, wL_law_1323, wL_law_1324, wL_law_1325, wL_law_1326, wL_law_1327, wL_law_1328, wL_law_1329, wL_law_1330, wL_law_1331, wL_law_1332, wL_law_1333, wL_law_1334, wL_law_1335, wL_law_1336, wL_law_1337, wL_law_1338, wL_law_1339, wL_law_1340, wL_law_1341, wL_law_1344, wL_law_1345, wL_law_1346, wL_law_1347, wL_law_1348, wL_law_1349, wL_law_1350, wL_law_1351, wL_law_1352, wL_law_1353, wL_law_1354, wL_law_1355, wL_law_1356, wL_law_1357, wL_law_1358, wL_law_1359, wL_law_1360, wL_law_1361, wL_law_1362, wL_law_1363, wL_law_1364, wL_law_1365, wL_law_1368, wL_law_1371, wL_law_1372, if_true, if_false, ↓reduceIte, xpu_s, xpu_n, Option.bind_some, xk_i, xk_r, xk_0, xk_u, xk_l, xk_k, xk_q, rf_s, rf_n, q_e1, q_e2, Nat.zero_add, Nat.reduceEqDiff, Nat.reduceAdd, Nat.reduceMul, Nat.reduceSub, Nat.reduceLT, Nat.reduceLeDiff, Nat.reduceDiv, Nat.reduceMod, x1, x2, x3, x4, x5, nI_c, i6, f31, e1, e2, eq_self, not_true_eq_false, not_false_eq_true, and_self, and_true, true_and, and_false, false_and, or_true, true_or, or_false, false_or, decide_true, decide_false, zb_t, zb_f, zb_0, zb_1, eq_self]
theorem rd_33 (I : LI h P f n) (hi : i + 6 ≤ n) (hn : n ≤ 384) : ∃ h2 P2, E_ (d + 221) mL_law 1373 [.val (.ref 31), .val (.ref 64), .val (.ref 150), .val (.int (nI i))] [] h = E_ (d + 221) mL_law 1989 [.val (.ref 31), .val (.ref 64), .val (.ref 150), .val (.int (nI i))] [] h2 ∧ LI h2 P2 f n ∧ oC h2 ≤ oC h + 15000 ∧ oS h2 ≤ oS h + 60000 := by
  obtain ⟨i1, i2, W, i4, i5, i6⟩ := id I
  have hx : XG (d + 220) h mX0_lot [.ref 64, .int (f (i + 1)), .int (f (i + 2))] (q_lot P ((f (i + 1))) ((f (i + 2)))) := nX0_lot (d := d + 219) (a := (f (i + 1))) (b := (f (i + 2))) i1
  have hm : ∀ h1, MR h1 P → oI h1 156 = oI h 156 → ST3 h1 → MG (d + 220) h1 mX5_lot [.ref 150, .int (f (i + 1)), .int (f (i + 2))] (q_lot P ((f (i + 1))) ((f (i + 2)))) := fun h1 M ew _ => by
    exact nX5_lot (d := d + 219) (a := (f (i + 1))) (b := (f (i + 2))) M
  obtain ⟨h1, h2, e1, e2, J, c1, c2, t64, t150, t31, n31, f31⟩ := LI_go I hx hm (W_lot W)
  obtain ⟨r, er⟩ := A_lot (a := (f (i + 1))) (b := (f (i + 2))) (P := P)
  rw [er] at e1 e2
  have x1 : nI i + nI 1 = nI (i + 1) := nI_add _ _
  have x2 : nI i + nI 2 = nI (i + 2) := nI_add _ _
  have x3 : nI i + nI 3 = nI (i + 3) := nI_add _ _
  have x4 : nI i + nI 4 = nI (i + 4) := nI_add _ _
  have x5 : nI i + nI 5 = nI (i + 5) := nI_add _ _
  refine ⟨h2, _, ?_, J, c1, c2⟩
  simp (disch := first | exact i4 | exact t31 | exact t64 | exact t150 | exact xix_8 i5 (by omega) (by omega) | exact xix_8 n31 (by omega) (by omega) | first | assumption | exact nI_ne0 (by decide) (by decide) | exact zb_01 | exact Or.inl rfl | exact Or.inr rfl | with_unfolding_all exact id (by assumption) | with_unfolding_all exact id (xix_8 (by assumption) (by omega) (by omega)) | omega) only [wL_law_1373, wL_law_1374, wL_law_1375, wL_law_1376, wL_law_1377, wL_law_1378, wL_law_1379, wL_law_1380, wL_law_1381, wL_law_1382, wL_law_1383, wL_law_1384, wL_law_1387, wL_law_1388, wL_law_1389, wL_law_1390, wL_law_1391, wL_law_1392, wL_law_1393, wL_law_1394, wL_law_1395, wL_law_1396, wL_law_1397, wL_law_1398, wL_law_1401, wL_law_1404, wL_law_1405, if_true, if_false, ↓reduceIte, xpu_s, xpu_n, Option.bind_some, xk_i, xk_r, xk_0, xk_u, xk_l, xk_k, xk_q, rf_s, rf_n, q_e1, q_e2, Nat.zero_add, Nat.reduceEqDiff, Nat.reduceAdd, Nat.reduceMul, Nat.reduceSub, Nat.reduceLT, Nat.reduceLeDiff, Nat.reduceDiv, Nat.reduceMod, x1, x2, x3, x4, x5, nI_c, i6, f31, e1, e2, eq_self, not_true_eq_false, not_false_eq_true, and_self, and_true, true_and, and_false, false_and, or_true, true_or, or_false, false_or, decide_true, decide_false, zb_t, zb_f, zb_0, zb_1, eq_self]
theorem rd_34 (I : LI h P f n) (hi : i + 6 ≤ n) (hn : n ≤ 384) : ∃ h2 P2, E_ (d + 221) mL_law 1406 [.val (.ref 31), .val (.ref 64), .val (.ref 150), .val (.int (nI i))] [] h = E_ (d + 221) mL_law 1989 [.val (.ref 31), .val (.ref 64), .val (.ref 150), .val (.int (nI i))] [] h2 ∧ LI h2 P2 f n ∧ oC h2 ≤ oC h + 15000 ∧ oS h2 ≤ oS h + 60000 := by
  obtain ⟨i1, i2, W, i4, i5, i6⟩ := id I
  have hx : XG (d + 220) h mX0_shown [.ref 64, .int (f (i + 1)), .int (f (i + 2)), .int (f (i + 3)), .int (f (i + 4))] (q_shown P ((f (i + 1))) ((f (i + 2))) ((f (i + 3))) ((f (i + 4)))) := nX0_shown (d := d + 219) (x := (f (i + 1))) (y := (f (i + 2))) (z := (f (i + 3))) (u := (f (i + 4))) i1
  have hm : ∀ h1, MR h1 P → oI h1 156 = oI h 156 → ST3 h1 → MG (d + 220) h1 mX5_shown [.ref 150, .int (f (i + 1)), .int (f (i + 2)), .int (f (i + 3)), .int (f (i + 4))] (q_shown P ((f (i + 1))) ((f (i + 2))) ((f (i + 3))) ((f (i + 4)))) := fun h1 M ew _ => by
    exact nX5_shown (d := d + 219) (x := (f (i + 1))) (y := (f (i + 2))) (z := (f (i + 3))) (u := (f (i + 4))) M
  obtain ⟨h1, h2, e1, e2, J, c1, c2, t64, t150, t31, n31, f31⟩ := LI_go I hx hm (W_shown W)
  obtain ⟨r, er⟩ := A_shown (x := (f (i + 1))) (y := (f (i + 2))) (z := (f (i + 3))) (u := (f (i + 4))) (P := P)
  rw [er] at e1 e2
  have x1 : nI i + nI 1 = nI (i + 1) := nI_add _ _
  have x2 : nI i + nI 2 = nI (i + 2) := nI_add _ _
  have x3 : nI i + nI 3 = nI (i + 3) := nI_add _ _
  have x4 : nI i + nI 4 = nI (i + 4) := nI_add _ _
  have x5 : nI i + nI 5 = nI (i + 5) := nI_add _ _
  refine ⟨h2, _, ?_, J, c1, c2⟩
  simp (disch := first | exact i4 | exact t31 | exact t64 | exact t150 | exact xix_8 i5 (by omega) (by omega) | exact xix_8 n31 (by omega) (by omega) | first | assumption | exact nI_ne0 (by decide) (by decide) | exact zb_01 | exact Or.inl rfl | exact Or.inr rfl | with_unfolding_all exact id (by assumption) | with_unfolding_all exact id (xix_8 (by assumption) (by omega) (by omega)) | omega) only [wL_law_1406, wL_law_1407, wL_law_1408, wL_law_1409, wL_law_1410, wL_law_1411, wL_law_1412, wL_law_1413, wL_law_1414, wL_law_1415, wL_law_1416, wL_law_1417, wL_law_1418, wL_law_1419, wL_law_1420, wL_law_1421, wL_law_1422, wL_law_1423, wL_law_1424, wL_law_1425, wL_law_1426, wL_law_1427, wL_law_1430, wL_law_1431, wL_law_1432, wL_law_1433, wL_law_1434, wL_law_1435, wL_law_1436, wL_law_1437, wL_law_1438, wL_law_1439, wL_law_1440, wL_law_1441, wL_law_1442, wL_law_1443, wL_law_1444, wL_law_1445, wL_law_1446, wL_law_1447, wL_law_1448, wL_law_1449, wL_law_1450, wL_law_1451, wL_law_1454, wL_law_1457, wL_law_1458, if_true, if_false, ↓reduceIte, xpu_s, xpu_n, Option.bind_some, xk_i, xk_r, xk_0, xk_u, xk_l, xk_k, xk_q, rf_s, rf_n, q_e1, q_e2, Nat.zero_add, Nat.reduceEqDiff, Nat.reduceAdd, Nat.reduceMul, Nat.reduceSub, Nat.reduceLT, Nat.reduceLeDiff, Nat.reduceDiv, Nat.reduceMod, x1, x2, x3, x4, x5, nI_c, i6, f31, e1, e2, eq_self, not_true_eq_false, not_false_eq_true, and_self, and_true, true_and, and_false, false_and, or_true, true_or, or_false, false_or, decide_true, decide_false, zb_t, zb_f, zb_0, zb_1, eq_self]
theorem rd_35 (I : LI h P f n) (hi : i + 6 ≤ n) (hn : n ≤ 384) : ∃ h2 P2, E_ (d + 221) mL_law 1459 [.val (.ref 31), .val (.ref 64), .val (.ref 150), .val (.int (nI i))] [] h = E_ (d + 221) mL_law 1989 [.val (.ref 31), .val (.ref 64), .val (.ref 150), .val (.int (nI i))] [] h2 ∧ LI h2 P2 f n ∧ oC h2 ≤ oC h + 15000 ∧ oS h2 ≤ oS h + 60000 := by
  obtain ⟨i1, i2, W, i4, i5, i6⟩ := id I
  have hx : XG (d + 220) h mX0_clumps [.ref 64, .int (f (i + 1)), .int (f (i + 2)), .int (f (i + 3)), .int (f (i + 4))] (q_clumps P ((f (i + 1))) ((f (i + 2))) ((f (i + 3))) ((f (i + 4)))) := nX0_clumps (d := d + 218) (x := (f (i + 1))) (y := (f (i + 2))) (z := (f (i + 3))) (w := (f (i + 4))) i1 W
  have hm : ∀ h1, MR h1 P → oI h1 156 = oI h 156 → ST3 h1 → MG (d + 220) h1 mX5_clumps [.ref 150, .int (f (i + 1)), .int (f (i + 2)), .int (f (i + 3)), .int (f (i + 4))] (q_clumps P ((f (i + 1))) ((f (i + 2))) ((f (i + 3))) ((f (i + 4)))) := fun h1 M ew _ => by
    exact nX5_clumps (d := d + 218) (x := (f (i + 1))) (y := (f (i + 2))) (z := (f (i + 3))) (w := (f (i + 4))) M W
  obtain ⟨h1, h2, e1, e2, J, c1, c2, t64, t150, t31, n31, f31⟩ := LI_go I hx hm (W_clumps W)
  obtain ⟨r, er⟩ := A_clumps (x := (f (i + 1))) (y := (f (i + 2))) (z := (f (i + 3))) (w := (f (i + 4))) (P := P)
  rw [er] at e1 e2
  have x1 : nI i + nI 1 = nI (i + 1) := nI_add _ _
  have x2 : nI i + nI 2 = nI (i + 2) := nI_add _ _
  have x3 : nI i + nI 3 = nI (i + 3) := nI_add _ _
  have x4 : nI i + nI 4 = nI (i + 4) := nI_add _ _
  have x5 : nI i + nI 5 = nI (i + 5) := nI_add _ _
  refine ⟨h2, _, ?_, J, c1, c2⟩
  simp (disch := first | exact i4 | exact t31 | exact t64 | exact t150 | exact xix_8 i5 (by omega) (by omega) | exact xix_8 n31 (by omega) (by omega) | first | assumption | exact nI_ne0 (by decide) (by decide) | exact zb_01 | exact Or.inl rfl | exact Or.inr rfl | with_unfolding_all exact id (by assumption) | with_unfolding_all exact id (xix_8 (by assumption) (by omega) (by omega)) | omega) only [wL_law_1459, wL_law_1460, wL_law_1461, wL_law_1462, wL_law_1463, wL_law_1464, wL_law_1465, wL_law_1466, wL_law_1467, wL_law_1468, wL_law_1469, wL_law_1470, wL_law_1471, wL_law_1472, wL_law_1473, wL_law_1474, wL_law_1475, wL_law_1476, wL_law_1477, wL_law_1478, wL_law_1479, wL_law_1480, wL_law_1483, wL_law_1484, wL_law_1485, wL_law_1486, wL_law_1487, wL_law_1488, wL_law_1489, wL_law_1490, wL_law_1491, wL_law_1492, wL_law_1493, wL_law_1494, wL_law_1495, wL_law_1496, wL_law_1497, wL_law_1498, wL_law_1499, wL_law_1500, wL_law_1501, wL_law_1502, wL_law_1503, wL_law_1504, wL_law_1507, wL_law_1510, wL_law_1511, if_true, if_false, ↓reduceIte, xpu_s, xpu_n, Option.bind_some, xk_i, xk_r, xk_0, xk_u, xk_l, xk_k, xk_q, rf_s, rf_n, q_e1, q_e2, Nat.zero_add, Nat.reduceEqDiff, Nat.reduceAdd, Nat.reduceMul, Nat.reduceSub, Nat.reduceLT, Nat.reduceLeDiff, Nat.reduceDiv, Nat.reduceMod, x1, x2, x3, x4, x5, nI_c, i6, f31, e1, e2, eq_self, not_true_eq_false, not_false_eq_true, and_self, and_true, true_and, and_false, false_and, or_true, true_or, or_false, false_or, decide_true, decide_false, zb_t, zb_f, zb_0, zb_1, eq_self]
end
