/-! CONSTRUCTORS: their steps -/
section
variable {d : Nat} {g z : xH} {o j t n k s : Nat} {f : rI}
/-- a new array, laid into a field -/
def hAl (g : xH) (o j t n : Nat) : xH := pR (pO g t n) o (va_up (oR g o) j (some (oX g)))
theorem hAl_f (ho : o < oX g) : GX (fun a => a = o) g (hAl g o j t n) 1 n ∧ oR (hAl g o j t n) o = va_up (oR g o) j (some (oX g)) ∧ oX (hAl g o j t n) = oX g + 1 ∧ oT (hAl g o j t n) (oX g) = t ∧ oN (hAl g o j t n) (oX g) = n ∧ oI (hAl g o j t n) (oX g) = (fun _ => 0) ∧ oL (hAl g o j t n) (oX g) = (fun _ => 0) ∧ oR (hAl g o j t n) (oX g) = (fun _ => none) ∧ oT (hAl g o j t n) o = oT g o ∧ oI (hAl g o j t n) o = oI g o := by
  unfold hAl
  refine ⟨?_, by rw [o_RR, if_pos rfl], rfl, ?_, ?_, ?_, ?_, ?_, ?_, ?_⟩
  · exact GX_le (GX_trans (GX_O (W := fun a => a = o)) (GX_R (W := fun a => a = o) (fun _ => rfl)) (fun _ _ z => z)) (by omega) (by omega)
  · show oT (pO g t n) (oX g) = _
    rw [o_TO, if_pos rfl]
  · show oN (pO g t n) (oX g) = _
    rw [o_NO, if_pos rfl]
  · show oI (pO g t n) (oX g) = _
    rw [o_IO, if_pos rfl]
  · show oL (pO g t n) (oX g) = _
    rw [o_LO, if_pos rfl]
  · rw [o_RR, if_neg (by omega), o_RO, if_pos rfl]
  · show oT (pO g t n) o = _
    rw [o_TO, if_neg (by omega)]
  · show oI (pO g t n) o = _
    rw [o_IO, if_neg (by omega)]
theorem ic0_15 (to : oT g o = 1) (ho : o < oX g) : E_ d mX0_init 15 [.val (.ref o)] [] g = E_ d mX0_init 23 [.val (.ref o)] [] (hAl g o 1 48 2) := by
  have t1 : oT (pO g 48 2) o = 1 := by rw [o_TO, if_neg (by omega)]; exact to
  have r1 : oR (pO g 48 2) o = oR g o := by rw [o_RO, if_neg (by omega)]
  have c1 : (nI 2).toNatClampNeg = 2 := nI_clamp (by omega)
  have z0 : 0 ≤ (nI 2).toInt := by rw [nI_toInt (by omega)]; omega
  have z1 : (nI 2).toInt ≤ 65536 := by rw [nI_toInt (by omega)]; omega
  unfold hAl
  simp (disch := first | exact t1 | exact z0 | exact z1 | first | assumption | exact nI_ne0 (by decide) (by decide) | exact zb_01 | exact Or.inl rfl | exact Or.inr rfl | with_unfolding_all exact id (by assumption) | with_unfolding_all exact id (xix_8 (by assumption) (by omega) (by omega)) | omega) only [wX0_init_15, wX0_init_16, wX0_init_17, wX0_init_20, wX0_init_20q, if_true, if_false, ↓reduceIte, xpu_s, xpu_n, Option.bind_some, xk_i, xk_r, xk_0, xk_u, xk_l, xk_k, xk_q, rf_s, rf_n, q_e1, q_e2, Nat.zero_add, Nat.reduceEqDiff, Nat.reduceAdd, Nat.reduceMul, Nat.reduceSub, Nat.reduceLT, Nat.reduceLeDiff, Nat.reduceDiv, Nat.reduceMod, c1, r1]
theorem ic0_23 (to : oT g o = 1) (ho : o < oX g) : E_ d mX0_init 23 [.val (.ref o)] [] g = E_ d mX0_init 31 [.val (.ref o)] [] (hAl g o 2 40 6) := by
  have t1 : oT (pO g 40 6) o = 1 := by rw [o_TO, if_neg (by omega)]; exact to
  have r1 : oR (pO g 40 6) o = oR g o := by rw [o_RO, if_neg (by omega)]
  have c1 : (nI 6).toNatClampNeg = 6 := nI_clamp (by omega)
  have z0 : 0 ≤ (nI 6).toInt := by rw [nI_toInt (by omega)]; omega
  have z1 : (nI 6).toInt ≤ 65536 := by rw [nI_toInt (by omega)]; omega
  unfold hAl
  simp (disch := first | exact t1 | exact z0 | exact z1 | first | assumption | exact nI_ne0 (by decide) (by decide) | exact zb_01 | exact Or.inl rfl | exact Or.inr rfl | with_unfolding_all exact id (by assumption) | with_unfolding_all exact id (xix_8 (by assumption) (by omega) (by omega)) | omega) only [wX0_init_23, wX0_init_24, wX0_init_26, wX0_init_28, wX0_init_28q, if_true, if_false, ↓reduceIte, xpu_s, xpu_n, Option.bind_some, xk_i, xk_r, xk_0, xk_u, xk_l, xk_k, xk_q, rf_s, rf_n, q_e1, q_e2, Nat.zero_add, Nat.reduceEqDiff, Nat.reduceAdd, Nat.reduceMul, Nat.reduceSub, Nat.reduceLT, Nat.reduceLeDiff, Nat.reduceDiv, Nat.reduceMod, c1, r1]
theorem ic0_31 (to : oT g o = 1) (ho : o < oX g) : E_ d mX0_init 31 [.val (.ref o)] [] g = E_ d mX0_init 40 [.val (.ref o)] [] (hAl g o 3 41 400) := by
  have t1 : oT (pO g 41 400) o = 1 := by rw [o_TO, if_neg (by omega)]; exact to
  have r1 : oR (pO g 41 400) o = oR g o := by rw [o_RO, if_neg (by omega)]
  have c1 : (nI 400).toNatClampNeg = 400 := nI_clamp (by omega)
  have z0 : 0 ≤ (nI 400).toInt := by rw [nI_toInt (by omega)]; omega
  have z1 : (nI 400).toInt ≤ 65536 := by rw [nI_toInt (by omega)]; omega
  unfold hAl
  simp (disch := first | exact t1 | exact z0 | exact z1 | first | assumption | exact nI_ne0 (by decide) (by decide) | exact zb_01 | exact Or.inl rfl | exact Or.inr rfl | with_unfolding_all exact id (by assumption) | with_unfolding_all exact id (xix_8 (by assumption) (by omega) (by omega)) | omega) only [wX0_init_31, wX0_init_32, wX0_init_35, wX0_init_37, wX0_init_37q, if_true, if_false, ↓reduceIte, xpu_s, xpu_n, Option.bind_some, xk_i, xk_r, xk_0, xk_u, xk_l, xk_k, xk_q, rf_s, rf_n, q_e1, q_e2, Nat.zero_add, Nat.reduceEqDiff, Nat.reduceAdd, Nat.reduceMul, Nat.reduceSub, Nat.reduceLT, Nat.reduceLeDiff, Nat.reduceDiv, Nat.reduceMod, c1, r1]
theorem ic0_63 (to : oT g o = 1) (ho : o < oX g) : E_ d mX0_init 63 [.val (.ref o)] [] g = E_ d mX0_init 71 [.val (.ref o)] [] (hAl g o 10 44 6) := by
  have t1 : oT (pO g 44 6) o = 1 := by rw [o_TO, if_neg (by omega)]; exact to
  have r1 : oR (pO g 44 6) o = oR g o := by rw [o_RO, if_neg (by omega)]
  have c1 : (nI 6).toNatClampNeg = 6 := nI_clamp (by omega)
  have z0 : 0 ≤ (nI 6).toInt := by rw [nI_toInt (by omega)]; omega
  have z1 : (nI 6).toInt ≤ 65536 := by rw [nI_toInt (by omega)]; omega
  unfold hAl
  simp (disch := first | exact t1 | exact z0 | exact z1 | first | assumption | exact nI_ne0 (by decide) (by decide) | exact zb_01 | exact Or.inl rfl | exact Or.inr rfl | with_unfolding_all exact id (by assumption) | with_unfolding_all exact id (xix_8 (by assumption) (by omega) (by omega)) | omega) only [wX0_init_63, wX0_init_64, wX0_init_66, wX0_init_68, wX0_init_68q, if_true, if_false, ↓reduceIte, xpu_s, xpu_n, Option.bind_some, xk_i, xk_r, xk_0, xk_u, xk_l, xk_k, xk_q, rf_s, rf_n, q_e1, q_e2, Nat.zero_add, Nat.reduceEqDiff, Nat.reduceAdd, Nat.reduceMul, Nat.reduceSub, Nat.reduceLT, Nat.reduceLeDiff, Nat.reduceDiv, Nat.reduceMod, c1, r1]
theorem ic0_71 (to : oT g o = 1) (ho : o < oX g) : E_ d mX0_init 71 [.val (.ref o)] [] g = E_ d mX0_init 79 [.val (.ref o)] [] (hAl g o 11 44 8) := by
  have t1 : oT (pO g 44 8) o = 1 := by rw [o_TO, if_neg (by omega)]; exact to
  have r1 : oR (pO g 44 8) o = oR g o := by rw [o_RO, if_neg (by omega)]
  have c1 : (nI 8).toNatClampNeg = 8 := nI_clamp (by omega)
  have z0 : 0 ≤ (nI 8).toInt := by rw [nI_toInt (by omega)]; omega
  have z1 : (nI 8).toInt ≤ 65536 := by rw [nI_toInt (by omega)]; omega
  unfold hAl
  simp (disch := first | exact t1 | exact z0 | exact z1 | first | assumption | exact nI_ne0 (by decide) (by decide) | exact zb_01 | exact Or.inl rfl | exact Or.inr rfl | with_unfolding_all exact id (by assumption) | with_unfolding_all exact id (xix_8 (by assumption) (by omega) (by omega)) | omega) only [wX0_init_71, wX0_init_72, wX0_init_74, wX0_init_76, wX0_init_76q, if_true, if_false, ↓reduceIte, xpu_s, xpu_n, Option.bind_some, xk_i, xk_r, xk_0, xk_u, xk_l, xk_k, xk_q, rf_s, rf_n, q_e1, q_e2, Nat.zero_add, Nat.reduceEqDiff, Nat.reduceAdd, Nat.reduceMul, Nat.reduceSub, Nat.reduceLT, Nat.reduceLeDiff, Nat.reduceDiv, Nat.reduceMod, c1, r1]
theorem ic0_79 (to : oT g o = 1) (ho : o < oX g) : E_ d mX0_init 79 [.val (.ref o)] [] g = E_ d mX0_init 87 [.val (.ref o)] [] (hAl g o 12 44 8) := by
  have t1 : oT (pO g 44 8) o = 1 := by rw [o_TO, if_neg (by omega)]; exact to
  have r1 : oR (pO g 44 8) o = oR g o := by rw [o_RO, if_neg (by omega)]
  have c1 : (nI 8).toNatClampNeg = 8 := nI_clamp (by omega)
  have z0 : 0 ≤ (nI 8).toInt := by rw [nI_toInt (by omega)]; omega
  have z1 : (nI 8).toInt ≤ 65536 := by rw [nI_toInt (by omega)]; omega
  unfold hAl
  simp (disch := first | exact t1 | exact z0 | exact z1 | first | assumption | exact nI_ne0 (by decide) (by decide) | exact zb_01 | exact Or.inl rfl | exact Or.inr rfl | with_unfolding_all exact id (by assumption) | with_unfolding_all exact id (xix_8 (by assumption) (by omega) (by omega)) | omega) only [wX0_init_79, wX0_init_80, wX0_init_82, wX0_init_84, wX0_init_84q, if_true, if_false, ↓reduceIte, xpu_s, xpu_n, Option.bind_some, xk_i, xk_r, xk_0, xk_u, xk_l, xk_k, xk_q, rf_s, rf_n, q_e1, q_e2, Nat.zero_add, Nat.reduceEqDiff, Nat.reduceAdd, Nat.reduceMul, Nat.reduceSub, Nat.reduceLT, Nat.reduceLeDiff, Nat.reduceDiv, Nat.reduceMod, c1, r1]
theorem ic0_87 (to : oT g o = 1) (ho : o < oX g) : E_ d mX0_init 87 [.val (.ref o)] [] g = E_ d mX0_init 96 [.val (.ref o)] [] (hAl g o 13 44 13000) := by
  have t1 : oT (pO g 44 13000) o = 1 := by rw [o_TO, if_neg (by omega)]; exact to
  have r1 : oR (pO g 44 13000) o = oR g o := by rw [o_RO, if_neg (by omega)]
  have c1 : (nI 13000).toNatClampNeg = 13000 := nI_clamp (by omega)
  have z0 : 0 ≤ (nI 13000).toInt := by rw [nI_toInt (by omega)]; omega
  have z1 : (nI 13000).toInt ≤ 65536 := by rw [nI_toInt (by omega)]; omega
  unfold hAl
  simp (disch := first | exact t1 | exact z0 | exact z1 | first | assumption | exact nI_ne0 (by decide) (by decide) | exact zb_01 | exact Or.inl rfl | exact Or.inr rfl | with_unfolding_all exact id (by assumption) | with_unfolding_all exact id (xix_8 (by assumption) (by omega) (by omega)) | omega) only [wX0_init_87, wX0_init_88, wX0_init_91, wX0_init_93, wX0_init_93q, if_true, if_false, ↓reduceIte, xpu_s, xpu_n, Option.bind_some, xk_i, xk_r, xk_0, xk_u, xk_l, xk_k, xk_q, rf_s, rf_n, q_e1, q_e2, Nat.zero_add, Nat.reduceEqDiff, Nat.reduceAdd, Nat.reduceMul, Nat.reduceSub, Nat.reduceLT, Nat.reduceLeDiff, Nat.reduceDiv, Nat.reduceMod, c1, r1]
theorem ic0_96 (to : oT g o = 1) (ho : o < oX g) : E_ d mX0_init 96 [.val (.ref o)] [] g = E_ d mX0_init 104 [.val (.ref o)] [] (hAl g o 14 40 40) := by
  have t1 : oT (pO g 40 40) o = 1 := by rw [o_TO, if_neg (by omega)]; exact to
  have r1 : oR (pO g 40 40) o = oR g o := by rw [o_RO, if_neg (by omega)]
  have c1 : (nI 40).toNatClampNeg = 40 := nI_clamp (by omega)
  have z0 : 0 ≤ (nI 40).toInt := by rw [nI_toInt (by omega)]; omega
  have z1 : (nI 40).toInt ≤ 65536 := by rw [nI_toInt (by omega)]; omega
  unfold hAl
  simp (disch := first | exact t1 | exact z0 | exact z1 | first | assumption | exact nI_ne0 (by decide) (by decide) | exact zb_01 | exact Or.inl rfl | exact Or.inr rfl | with_unfolding_all exact id (by assumption) | with_unfolding_all exact id (xix_8 (by assumption) (by omega) (by omega)) | omega) only [wX0_init_96, wX0_init_97, wX0_init_99, wX0_init_101, wX0_init_101q, if_true, if_false, ↓reduceIte, xpu_s, xpu_n, Option.bind_some, xk_i, xk_r, xk_0, xk_u, xk_l, xk_k, xk_q, rf_s, rf_n, q_e1, q_e2, Nat.zero_add, Nat.reduceEqDiff, Nat.reduceAdd, Nat.reduceMul, Nat.reduceSub, Nat.reduceLT, Nat.reduceLeDiff, Nat.reduceDiv, Nat.reduceMod, c1, r1]
theorem ic3_4 (to : oT g o = 5) (ho : o < oX g) : E_ d mX3_init 4 [.val (.ref o)] [] g = E_ d mX3_init 12 [.val (.ref o)] [] (hAl g o 0 40 8) := by
  have t1 : oT (pO g 40 8) o = 5 := by rw [o_TO, if_neg (by omega)]; exact to
  have r1 : oR (pO g 40 8) o = oR g o := by rw [o_RO, if_neg (by omega)]
  have c1 : (nI 8).toNatClampNeg = 8 := nI_clamp (by omega)
  have z0 : 0 ≤ (nI 8).toInt := by rw [nI_toInt (by omega)]; omega
  have z1 : (nI 8).toInt ≤ 65536 := by rw [nI_toInt (by omega)]; omega
  unfold hAl
  simp (disch := first | exact t1 | exact z0 | exact z1 | first | assumption | exact nI_ne0 (by decide) (by decide) | exact zb_01 | exact Or.inl rfl | exact Or.inr rfl | with_unfolding_all exact id (by assumption) | with_unfolding_all exact id (xix_8 (by assumption) (by omega) (by omega)) | omega) only [wX3_init_4, wX3_init_5, wX3_init_7, wX3_init_9, wX3_init_9q, if_true, if_false, ↓reduceIte, xpu_s, xpu_n, Option.bind_some, xk_i, xk_r, xk_0, xk_u, xk_l, xk_k, xk_q, rf_s, rf_n, q_e1, q_e2, Nat.zero_add, Nat.reduceEqDiff, Nat.reduceAdd, Nat.reduceMul, Nat.reduceSub, Nat.reduceLT, Nat.reduceLeDiff, Nat.reduceDiv, Nat.reduceMod, c1, r1]
theorem ic3_12 (to : oT g o = 5) (ho : o < oX g) : E_ d mX3_init 12 [.val (.ref o)] [] g = E_ d mX3_init 20 [.val (.ref o)] [] (hAl g o 1 40 8) := by
  have t1 : oT (pO g 40 8) o = 5 := by rw [o_TO, if_neg (by omega)]; exact to
  have r1 : oR (pO g 40 8) o = oR g o := by rw [o_RO, if_neg (by omega)]
  have c1 : (nI 8).toNatClampNeg = 8 := nI_clamp (by omega)
  have z0 : 0 ≤ (nI 8).toInt := by rw [nI_toInt (by omega)]; omega
  have z1 : (nI 8).toInt ≤ 65536 := by rw [nI_toInt (by omega)]; omega
  unfold hAl
  simp (disch := first | exact t1 | exact z0 | exact z1 | first | assumption | exact nI_ne0 (by decide) (by decide) | exact zb_01 | exact Or.inl rfl | exact Or.inr rfl | with_unfolding_all exact id (by assumption) | with_unfolding_all exact id (xix_8 (by assumption) (by omega) (by omega)) | omega) only [wX3_init_12, wX3_init_13, wX3_init_15, wX3_init_17, wX3_init_17q, if_true, if_false, ↓reduceIte, xpu_s, xpu_n, Option.bind_some, xk_i, xk_r, xk_0, xk_u, xk_l, xk_k, xk_q, rf_s, rf_n, q_e1, q_e2, Nat.zero_add, Nat.reduceEqDiff, Nat.reduceAdd, Nat.reduceMul, Nat.reduceSub, Nat.reduceLT, Nat.reduceLeDiff, Nat.reduceDiv, Nat.reduceMod, c1, r1]
theorem ic3_20 (to : oT g o = 5) (ho : o < oX g) : E_ d mX3_init 20 [.val (.ref o)] [] g = E_ d mX3_init 28 [.val (.ref o)] [] (hAl g o 2 40 8) := by
  have t1 : oT (pO g 40 8) o = 5 := by rw [o_TO, if_neg (by omega)]; exact to
  have r1 : oR (pO g 40 8) o = oR g o := by rw [o_RO, if_neg (by omega)]
  have c1 : (nI 8).toNatClampNeg = 8 := nI_clamp (by omega)
  have z0 : 0 ≤ (nI 8).toInt := by rw [nI_toInt (by omega)]; omega
  have z1 : (nI 8).toInt ≤ 65536 := by rw [nI_toInt (by omega)]; omega
  unfold hAl
  simp (disch := first | exact t1 | exact z0 | exact z1 | first | assumption | exact nI_ne0 (by decide) (by decide) | exact zb_01 | exact Or.inl rfl | exact Or.inr rfl | with_unfolding_all exact id (by assumption) | with_unfolding_all exact id (xix_8 (by assumption) (by omega) (by omega)) | omega) only [wX3_init_20, wX3_init_21, wX3_init_23, wX3_init_25, wX3_init_25q, if_true, if_false, ↓reduceIte, xpu_s, xpu_n, Option.bind_some, xk_i, xk_r, xk_0, xk_u, xk_l, xk_k, xk_q, rf_s, rf_n, q_e1, q_e2, Nat.zero_add, Nat.reduceEqDiff, Nat.reduceAdd, Nat.reduceMul, Nat.reduceSub, Nat.reduceLT, Nat.reduceLeDiff, Nat.reduceDiv, Nat.reduceMod, c1, r1]
theorem ic3_28 (to : oT g o = 5) (ho : o < oX g) : E_ d mX3_init 28 [.val (.ref o)] [] g = E_ d mX3_init 36 [.val (.ref o)] [] (hAl g o 3 42 8) := by
  have t1 : oT (pO g 42 8) o = 5 := by rw [o_TO, if_neg (by omega)]; exact to
  have r1 : oR (pO g 42 8) o = oR g o := by rw [o_RO, if_neg (by omega)]
  have c1 : (nI 8).toNatClampNeg = 8 := nI_clamp (by omega)
  have z0 : 0 ≤ (nI 8).toInt := by rw [nI_toInt (by omega)]; omega
  have z1 : (nI 8).toInt ≤ 65536 := by rw [nI_toInt (by omega)]; omega
  unfold hAl
  simp (disch := first | exact t1 | exact z0 | exact z1 | first | assumption | exact nI_ne0 (by decide) (by decide) | exact zb_01 | exact Or.inl rfl | exact Or.inr rfl | with_unfolding_all exact id (by assumption) | with_unfolding_all exact id (xix_8 (by assumption) (by omega) (by omega)) | omega) only [wX3_init_28, wX3_init_29, wX3_init_31, wX3_init_33, wX3_init_33q, if_true, if_false, ↓reduceIte, xpu_s, xpu_n, Option.bind_some, xk_i, xk_r, xk_0, xk_u, xk_l, xk_k, xk_q, rf_s, rf_n, q_e1, q_e2, Nat.zero_add, Nat.reduceEqDiff, Nat.reduceAdd, Nat.reduceMul, Nat.reduceSub, Nat.reduceLT, Nat.reduceLeDiff, Nat.reduceDiv, Nat.reduceMod, c1, r1]
theorem ic3_36 (to : oT g o = 5) (ho : o < oX g) : E_ d mX3_init 36 [.val (.ref o)] [] g = E_ d mX3_init 44 [.val (.ref o)] [] (hAl g o 4 42 8) := by
  have t1 : oT (pO g 42 8) o = 5 := by rw [o_TO, if_neg (by omega)]; exact to
  have r1 : oR (pO g 42 8) o = oR g o := by rw [o_RO, if_neg (by omega)]
  have c1 : (nI 8).toNatClampNeg = 8 := nI_clamp (by omega)
  have z0 : 0 ≤ (nI 8).toInt := by rw [nI_toInt (by omega)]; omega
  have z1 : (nI 8).toInt ≤ 65536 := by rw [nI_toInt (by omega)]; omega
  unfold hAl
  simp (disch := first | exact t1 | exact z0 | exact z1 | first | assumption | exact nI_ne0 (by decide) (by decide) | exact zb_01 | exact Or.inl rfl | exact Or.inr rfl | with_unfolding_all exact id (by assumption) | with_unfolding_all exact id (xix_8 (by assumption) (by omega) (by omega)) | omega) only [wX3_init_36, wX3_init_37, wX3_init_39, wX3_init_41, wX3_init_41q, if_true, if_false, ↓reduceIte, xpu_s, xpu_n, Option.bind_some, xk_i, xk_r, xk_0, xk_u, xk_l, xk_k, xk_q, rf_s, rf_n, q_e1, q_e2, Nat.zero_add, Nat.reduceEqDiff, Nat.reduceAdd, Nat.reduceMul, Nat.reduceSub, Nat.reduceLT, Nat.reduceLeDiff, Nat.reduceDiv, Nat.reduceMod, c1, r1]
theorem ic5_4 {s1 : Slot} (to : oT g o = 7) (ho : o < oX g) : E_ d mX5_init 4 [.val (.ref o), s1] [] g = E_ d mX5_init 12 [.val (.ref o), s1] [] (hAl g o 1 40 6) := by
  have t1 : oT (pO g 40 6) o = 7 := by rw [o_TO, if_neg (by omega)]; exact to
  have r1 : oR (pO g 40 6) o = oR g o := by rw [o_RO, if_neg (by omega)]
  have c1 : (nI 6).toNatClampNeg = 6 := nI_clamp (by omega)
  have z0 : 0 ≤ (nI 6).toInt := by rw [nI_toInt (by omega)]; omega
  have z1 : (nI 6).toInt ≤ 65536 := by rw [nI_toInt (by omega)]; omega
  unfold hAl
  simp (disch := first | exact t1 | exact z0 | exact z1 | first | assumption | exact nI_ne0 (by decide) (by decide) | exact zb_01 | exact Or.inl rfl | exact Or.inr rfl | with_unfolding_all exact id (by assumption) | with_unfolding_all exact id (xix_8 (by assumption) (by omega) (by omega)) | omega) only [wX5_init_4, wX5_init_5, wX5_init_7, wX5_init_9, wX5_init_9q, if_true, if_false, ↓reduceIte, xpu_s, xpu_n, Option.bind_some, xk_i, xk_r, xk_0, xk_u, xk_l, xk_k, xk_q, rf_s, rf_n, q_e1, q_e2, Nat.zero_add, Nat.reduceEqDiff, Nat.reduceAdd, Nat.reduceMul, Nat.reduceSub, Nat.reduceLT, Nat.reduceLeDiff, Nat.reduceDiv, Nat.reduceMod, c1, r1]
theorem ic5_12 {s1 : Slot} (to : oT g o = 7) (ho : o < oX g) : E_ d mX5_init 12 [.val (.ref o), s1] [] g = E_ d mX5_init 21 [.val (.ref o), s1] [] (hAl g o 2 40 1734) := by
  have t1 : oT (pO g 40 1734) o = 7 := by rw [o_TO, if_neg (by omega)]; exact to
  have r1 : oR (pO g 40 1734) o = oR g o := by rw [o_RO, if_neg (by omega)]
  have c1 : (nI 1734).toNatClampNeg = 1734 := nI_clamp (by omega)
  have z0 : 0 ≤ (nI 1734).toInt := by rw [nI_toInt (by omega)]; omega
  have z1 : (nI 1734).toInt ≤ 65536 := by rw [nI_toInt (by omega)]; omega
  unfold hAl
  simp (disch := first | exact t1 | exact z0 | exact z1 | first | assumption | exact nI_ne0 (by decide) (by decide) | exact zb_01 | exact Or.inl rfl | exact Or.inr rfl | with_unfolding_all exact id (by assumption) | with_unfolding_all exact id (xix_8 (by assumption) (by omega) (by omega)) | omega) only [wX5_init_12, wX5_init_13, wX5_init_16, wX5_init_18, wX5_init_18q, if_true, if_false, ↓reduceIte, xpu_s, xpu_n, Option.bind_some, xk_i, xk_r, xk_0, xk_u, xk_l, xk_k, xk_q, rf_s, rf_n, q_e1, q_e2, Nat.zero_add, Nat.reduceEqDiff, Nat.reduceAdd, Nat.reduceMul, Nat.reduceSub, Nat.reduceLT, Nat.reduceLeDiff, Nat.reduceDiv, Nat.reduceMod, c1, r1]
theorem ic5_21 {s1 : Slot} (to : oT g o = 7) (ho : o < oX g) : E_ d mX5_init 21 [.val (.ref o), s1] [] g = E_ d mX5_init 28 [.val (.ref o), s1] [] (hAl g o 3 42 2) := by
  have t1 : oT (pO g 42 2) o = 7 := by rw [o_TO, if_neg (by omega)]; exact to
  have r1 : oR (pO g 42 2) o = oR g o := by rw [o_RO, if_neg (by omega)]
  have c1 : (nI 2).toNatClampNeg = 2 := nI_clamp (by omega)
  have z0 : 0 ≤ (nI 2).toInt := by rw [nI_toInt (by omega)]; omega
  have z1 : (nI 2).toInt ≤ 65536 := by rw [nI_toInt (by omega)]; omega
  unfold hAl
  simp (disch := first | exact t1 | exact z0 | exact z1 | first | assumption | exact nI_ne0 (by decide) (by decide) | exact zb_01 | exact Or.inl rfl | exact Or.inr rfl | with_unfolding_all exact id (by assumption) | with_unfolding_all exact id (xix_8 (by assumption) (by omega) (by omega)) | omega) only [wX5_init_21, wX5_init_22, wX5_init_23, wX5_init_25, wX5_init_25q, if_true, if_false, ↓reduceIte, xpu_s, xpu_n, Option.bind_some, xk_i, xk_r, xk_0, xk_u, xk_l, xk_k, xk_q, rf_s, rf_n, q_e1, q_e2, Nat.zero_add, Nat.reduceEqDiff, Nat.reduceAdd, Nat.reduceMul, Nat.reduceSub, Nat.reduceLT, Nat.reduceLeDiff, Nat.reduceDiv, Nat.reduceMod, c1, r1]
theorem ic5_28 {s1 : Slot} (to : oT g o = 7) (ho : o < oX g) : E_ d mX5_init 28 [.val (.ref o), s1] [] g = E_ d mX5_init 37 [.val (.ref o), s1] [] (hAl g o 4 40 400) := by
  have t1 : oT (pO g 40 400) o = 7 := by rw [o_TO, if_neg (by omega)]; exact to
  have r1 : oR (pO g 40 400) o = oR g o := by rw [o_RO, if_neg (by omega)]
  have c1 : (nI 400).toNatClampNeg = 400 := nI_clamp (by omega)
  have z0 : 0 ≤ (nI 400).toInt := by rw [nI_toInt (by omega)]; omega
  have z1 : (nI 400).toInt ≤ 65536 := by rw [nI_toInt (by omega)]; omega
  unfold hAl
  simp (disch := first | exact t1 | exact z0 | exact z1 | first | assumption | exact nI_ne0 (by decide) (by decide) | exact zb_01 | exact Or.inl rfl | exact Or.inr rfl | with_unfolding_all exact id (by assumption) | with_unfolding_all exact id (xix_8 (by assumption) (by omega) (by omega)) | omega) only [wX5_init_28, wX5_init_29, wX5_init_32, wX5_init_34, wX5_init_34q, if_true, if_false, ↓reduceIte, xpu_s, xpu_n, Option.bind_some, xk_i, xk_r, xk_0, xk_u, xk_l, xk_k, xk_q, rf_s, rf_n, q_e1, q_e2, Nat.zero_add, Nat.reduceEqDiff, Nat.reduceAdd, Nat.reduceMul, Nat.reduceSub, Nat.reduceLT, Nat.reduceLeDiff, Nat.reduceDiv, Nat.reduceMod, c1, r1]
theorem ic5_37 {s1 : Slot} (to : oT g o = 7) (ho : o < oX g) : E_ d mX5_init 37 [.val (.ref o), s1] [] g = E_ d mX5_init 46 [.val (.ref o), s1] [] (hAl g o 5 40 477) := by
  have t1 : oT (pO g 40 477) o = 7 := by rw [o_TO, if_neg (by omega)]; exact to
  have r1 : oR (pO g 40 477) o = oR g o := by rw [o_RO, if_neg (by omega)]
  have c1 : (nI 477).toNatClampNeg = 477 := nI_clamp (by omega)
  have z0 : 0 ≤ (nI 477).toInt := by rw [nI_toInt (by omega)]; omega
  have z1 : (nI 477).toInt ≤ 65536 := by rw [nI_toInt (by omega)]; omega
  unfold hAl
  simp (disch := first | exact t1 | exact z0 | exact z1 | first | assumption | exact nI_ne0 (by decide) (by decide) | exact zb_01 | exact Or.inl rfl | exact Or.inr rfl | with_unfolding_all exact id (by assumption) | with_unfolding_all exact id (xix_8 (by assumption) (by omega) (by omega)) | omega) only [wX5_init_37, wX5_init_38, wX5_init_41, wX5_init_43, wX5_init_43q, if_true, if_false, ↓reduceIte, xpu_s, xpu_n, Option.bind_some, xk_i, xk_r, xk_0, xk_u, xk_l, xk_k, xk_q, rf_s, rf_n, q_e1, q_e2, Nat.zero_add, Nat.reduceEqDiff, Nat.reduceAdd, Nat.reduceMul, Nat.reduceSub, Nat.reduceLT, Nat.reduceLeDiff, Nat.reduceDiv, Nat.reduceMod, c1, r1]
theorem ic5_51 {s1 : Slot} (to : oT g o = 7) (ho : o < oX g) : E_ d mX5_init 51 [.val (.ref o), s1] [] g = E_ d mX5_init 59 [.val (.ref o), s1] [] (hAl g o 18 40 42) := by
  have t1 : oT (pO g 40 42) o = 7 := by rw [o_TO, if_neg (by omega)]; exact to
  have r1 : oR (pO g 40 42) o = oR g o := by rw [o_RO, if_neg (by omega)]
  have c1 : (nI 42).toNatClampNeg = 42 := nI_clamp (by omega)
  have z0 : 0 ≤ (nI 42).toInt := by rw [nI_toInt (by omega)]; omega
  have z1 : (nI 42).toInt ≤ 65536 := by rw [nI_toInt (by omega)]; omega
  unfold hAl
  simp (disch := first | exact t1 | exact z0 | exact z1 | first | assumption | exact nI_ne0 (by decide) (by decide) | exact zb_01 | exact Or.inl rfl | exact Or.inr rfl | with_unfolding_all exact id (by assumption) | with_unfolding_all exact id (xix_8 (by assumption) (by omega) (by omega)) | omega) only [wX5_init_51, wX5_init_52, wX5_init_54, wX5_init_56, wX5_init_56q, if_true, if_false, ↓reduceIte, xpu_s, xpu_n, Option.bind_some, xk_i, xk_r, xk_0, xk_u, xk_l, xk_k, xk_q, rf_s, rf_n, q_e1, q_e2, Nat.zero_add, Nat.reduceEqDiff, Nat.reduceAdd, Nat.reduceMul, Nat.reduceSub, Nat.reduceLT, Nat.reduceLeDiff, Nat.reduceDiv, Nat.reduceMod, c1, r1]
theorem ic5_59 {s1 : Slot} (to : oT g o = 7) (ho : o < oX g) : E_ d mX5_init 59 [.val (.ref o), s1] [] g = E_ d mX5_init 68 [.val (.ref o), s1] [] (hAl g o 19 40 504) := by
  have t1 : oT (pO g 40 504) o = 7 := by rw [o_TO, if_neg (by omega)]; exact to
  have r1 : oR (pO g 40 504) o = oR g o := by rw [o_RO, if_neg (by omega)]
  have c1 : (nI 504).toNatClampNeg = 504 := nI_clamp (by omega)
  have z0 : 0 ≤ (nI 504).toInt := by rw [nI_toInt (by omega)]; omega
  have z1 : (nI 504).toInt ≤ 65536 := by rw [nI_toInt (by omega)]; omega
  unfold hAl
  simp (disch := first | exact t1 | exact z0 | exact z1 | first | assumption | exact nI_ne0 (by decide) (by decide) | exact zb_01 | exact Or.inl rfl | exact Or.inr rfl | with_unfolding_all exact id (by assumption) | with_unfolding_all exact id (xix_8 (by assumption) (by omega) (by omega)) | omega) only [wX5_init_59, wX5_init_60, wX5_init_63, wX5_init_65, wX5_init_65q, if_true, if_false, ↓reduceIte, xpu_s, xpu_n, Option.bind_some, xk_i, xk_r, xk_0, xk_u, xk_l, xk_k, xk_q, rf_s, rf_n, q_e1, q_e2, Nat.zero_add, Nat.reduceEqDiff, Nat.reduceAdd, Nat.reduceMul, Nat.reduceSub, Nat.reduceLT, Nat.reduceLeDiff, Nat.reduceDiv, Nat.reduceMod, c1, r1]
theorem ic5_68 {s1 : Slot} (to : oT g o = 7) (ho : o < oX g) : E_ d mX5_init 68 [.val (.ref o), s1] [] g = E_ d mX5_init 77 [.val (.ref o), s1] [] (hAl g o 20 42 220) := by
  have t1 : oT (pO g 42 220) o = 7 := by rw [o_TO, if_neg (by omega)]; exact to
  have r1 : oR (pO g 42 220) o = oR g o := by rw [o_RO, if_neg (by omega)]
  have c1 : (nI 220).toNatClampNeg = 220 := nI_clamp (by omega)
  have z0 : 0 ≤ (nI 220).toInt := by rw [nI_toInt (by omega)]; omega
  have z1 : (nI 220).toInt ≤ 65536 := by rw [nI_toInt (by omega)]; omega
  unfold hAl
  simp (disch := first | exact t1 | exact z0 | exact z1 | first | assumption | exact nI_ne0 (by decide) (by decide) | exact zb_01 | exact Or.inl rfl | exact Or.inr rfl | with_unfolding_all exact id (by assumption) | with_unfolding_all exact id (xix_8 (by assumption) (by omega) (by omega)) | omega) only [wX5_init_68, wX5_init_69, wX5_init_72, wX5_init_74, wX5_init_74q, if_true, if_false, ↓reduceIte, xpu_s, xpu_n, Option.bind_some, xk_i, xk_r, xk_0, xk_u, xk_l, xk_k, xk_q, rf_s, rf_n, q_e1, q_e2, Nat.zero_add, Nat.reduceEqDiff, Nat.reduceAdd, Nat.reduceMul, Nat.reduceSub, Nat.reduceLT, Nat.reduceLeDiff, Nat.reduceDiv, Nat.reduceMod, c1, r1]
theorem ic5_87 {s1 : Slot} (to : oT g o = 7) (ho : o < oX g) : E_ d mX5_init 87 [.val (.ref o), s1] [] g = E_ d mX5_init 95 [.val (.ref o), s1] [] (hAl g o 24 42 8) := by
  have t1 : oT (pO g 42 8) o = 7 := by rw [o_TO, if_neg (by omega)]; exact to
  have r1 : oR (pO g 42 8) o = oR g o := by rw [o_RO, if_neg (by omega)]
  have c1 : (nI 8).toNatClampNeg = 8 := nI_clamp (by omega)
  have z0 : 0 ≤ (nI 8).toInt := by rw [nI_toInt (by omega)]; omega
  have z1 : (nI 8).toInt ≤ 65536 := by rw [nI_toInt (by omega)]; omega
  unfold hAl
  simp (disch := first | exact t1 | exact z0 | exact z1 | first | assumption | exact nI_ne0 (by decide) (by decide) | exact zb_01 | exact Or.inl rfl | exact Or.inr rfl | with_unfolding_all exact id (by assumption) | with_unfolding_all exact id (xix_8 (by assumption) (by omega) (by omega)) | omega) only [wX5_init_87, wX5_init_88, wX5_init_90, wX5_init_92, wX5_init_92q, if_true, if_false, ↓reduceIte, xpu_s, xpu_n, Option.bind_some, xk_i, xk_r, xk_0, xk_u, xk_l, xk_k, xk_q, rf_s, rf_n, q_e1, q_e2, Nat.zero_add, Nat.reduceEqDiff, Nat.reduceAdd, Nat.reduceMul, Nat.reduceSub, Nat.reduceLT, Nat.reduceLeDiff, Nat.reduceDiv, Nat.reduceMod, c1, r1]
theorem ic5_95 {s1 : Slot} (to : oT g o = 7) (ho : o < oX g) : E_ d mX5_init 95 [.val (.ref o), s1] [] g = E_ d mX5_init 103 [.val (.ref o), s1] [] (hAl g o 25 42 8) := by
  have t1 : oT (pO g 42 8) o = 7 := by rw [o_TO, if_neg (by omega)]; exact to
  have r1 : oR (pO g 42 8) o = oR g o := by rw [o_RO, if_neg (by omega)]
  have c1 : (nI 8).toNatClampNeg = 8 := nI_clamp (by omega)
  have z0 : 0 ≤ (nI 8).toInt := by rw [nI_toInt (by omega)]; omega
  have z1 : (nI 8).toInt ≤ 65536 := by rw [nI_toInt (by omega)]; omega
  unfold hAl
  simp (disch := first | exact t1 | exact z0 | exact z1 | first | assumption | exact nI_ne0 (by decide) (by decide) | exact zb_01 | exact Or.inl rfl | exact Or.inr rfl | with_unfolding_all exact id (by assumption) | with_unfolding_all exact id (xix_8 (by assumption) (by omega) (by omega)) | omega) only [wX5_init_95, wX5_init_96, wX5_init_98, wX5_init_100, wX5_init_100q, if_true, if_false, ↓reduceIte, xpu_s, xpu_n, Option.bind_some, xk_i, xk_r, xk_0, xk_u, xk_l, xk_k, xk_q, rf_s, rf_n, q_e1, q_e2, Nat.zero_add, Nat.reduceEqDiff, Nat.reduceAdd, Nat.reduceMul, Nat.reduceSub, Nat.reduceLT, Nat.reduceLeDiff, Nat.reduceDiv, Nat.reduceMod, c1, r1]
theorem ic5_103 {s1 : Slot} (to : oT g o = 7) (ho : o < oX g) : E_ d mX5_init 103 [.val (.ref o), s1] [] g = E_ d mX5_init 110 [.val (.ref o), s1] [] (hAl g o 27 44 5) := by
  have t1 : oT (pO g 44 5) o = 7 := by rw [o_TO, if_neg (by omega)]; exact to
  have r1 : oR (pO g 44 5) o = oR g o := by rw [o_RO, if_neg (by omega)]
  have c1 : (nI 5).toNatClampNeg = 5 := nI_clamp (by omega)
  have z0 : 0 ≤ (nI 5).toInt := by rw [nI_toInt (by omega)]; omega
  have z1 : (nI 5).toInt ≤ 65536 := by rw [nI_toInt (by omega)]; omega
  unfold hAl
  simp (disch := first | exact t1 | exact z0 | exact z1 | first | assumption | exact nI_ne0 (by decide) (by decide) | exact zb_01 | exact Or.inl rfl | exact Or.inr rfl | with_unfolding_all exact id (by assumption) | with_unfolding_all exact id (xix_8 (by assumption) (by omega) (by omega)) | omega) only [wX5_init_103, wX5_init_104, wX5_init_105, wX5_init_107, wX5_init_107q, if_true, if_false, ↓reduceIte, xpu_s, xpu_n, Option.bind_some, xk_i, xk_r, xk_0, xk_u, xk_l, xk_k, xk_q, rf_s, rf_n, q_e1, q_e2, Nat.zero_add, Nat.reduceEqDiff, Nat.reduceAdd, Nat.reduceMul, Nat.reduceSub, Nat.reduceLT, Nat.reduceLeDiff, Nat.reduceDiv, Nat.reduceMod, c1, r1]
theorem ic5_110 {s1 : Slot} (to : oT g o = 7) (ho : o < oX g) : E_ d mX5_init 110 [.val (.ref o), s1] [] g = E_ d mX5_init 118 [.val (.ref o), s1] [] (hAl g o 28 44 8) := by
  have t1 : oT (pO g 44 8) o = 7 := by rw [o_TO, if_neg (by omega)]; exact to
  have r1 : oR (pO g 44 8) o = oR g o := by rw [o_RO, if_neg (by omega)]
  have c1 : (nI 8).toNatClampNeg = 8 := nI_clamp (by omega)
  have z0 : 0 ≤ (nI 8).toInt := by rw [nI_toInt (by omega)]; omega
  have z1 : (nI 8).toInt ≤ 65536 := by rw [nI_toInt (by omega)]; omega
  unfold hAl
  simp (disch := first | exact t1 | exact z0 | exact z1 | first | assumption | exact nI_ne0 (by decide) (by decide) | exact zb_01 | exact Or.inl rfl | exact Or.inr rfl | with_unfolding_all exact id (by assumption) | with_unfolding_all exact id (xix_8 (by assumption) (by omega) (by omega)) | omega) only [wX5_init_110, wX5_init_111, wX5_init_113, wX5_init_115, wX5_init_115q, if_true, if_false, ↓reduceIte, xpu_s, xpu_n, Option.bind_some, xk_i, xk_r, xk_0, xk_u, xk_l, xk_k, xk_q, rf_s, rf_n, q_e1, q_e2, Nat.zero_add, Nat.reduceEqDiff, Nat.reduceAdd, Nat.reduceMul, Nat.reduceSub, Nat.reduceLT, Nat.reduceLeDiff, Nat.reduceDiv, Nat.reduceMod, c1, r1]
theorem ic5_118 {s1 : Slot} (to : oT g o = 7) (ho : o < oX g) : E_ d mX5_init 118 [.val (.ref o), s1] [] g = E_ d mX5_init 126 [.val (.ref o), s1] [] (hAl g o 29 44 8) := by
  have t1 : oT (pO g 44 8) o = 7 := by rw [o_TO, if_neg (by omega)]; exact to
  have r1 : oR (pO g 44 8) o = oR g o := by rw [o_RO, if_neg (by omega)]
  have c1 : (nI 8).toNatClampNeg = 8 := nI_clamp (by omega)
  have z0 : 0 ≤ (nI 8).toInt := by rw [nI_toInt (by omega)]; omega
  have z1 : (nI 8).toInt ≤ 65536 := by rw [nI_toInt (by omega)]; omega
  unfold hAl
  simp (disch := first | exact t1 | exact z0 | exact z1 | first | assumption | exact nI_ne0 (by decide) (by decide) | exact zb_01 | exact Or.inl rfl | exact Or.inr rfl | with_unfolding_all exact id (by assumption) | with_unfolding_all exact id (xix_8 (by assumption) (by omega) (by omega)) | omega) only [wX5_init_118, wX5_init_119, wX5_init_121, wX5_init_123, wX5_init_123q, if_true, if_false, ↓reduceIte, xpu_s, xpu_n, Option.bind_some, xk_i, xk_r, xk_0, xk_u, xk_l, xk_k, xk_q, rf_s, rf_n, q_e1, q_e2, Nat.zero_add, Nat.reduceEqDiff, Nat.reduceAdd, Nat.reduceMul, Nat.reduceSub, Nat.reduceLT, Nat.reduceLeDiff, Nat.reduceDiv, Nat.reduceMod, c1, r1]
theorem ic5_126 {s1 : Slot} (to : oT g o = 7) (ho : o < oX g) : E_ d mX5_init 126 [.val (.ref o), s1] [] g = E_ d mX5_init 135 [.val (.ref o), s1] [] (hAl g o 30 40 13000) := by
  have t1 : oT (pO g 40 13000) o = 7 := by rw [o_TO, if_neg (by omega)]; exact to
  have r1 : oR (pO g 40 13000) o = oR g o := by rw [o_RO, if_neg (by omega)]
  have c1 : (nI 13000).toNatClampNeg = 13000 := nI_clamp (by omega)
  have z0 : 0 ≤ (nI 13000).toInt := by rw [nI_toInt (by omega)]; omega
  have z1 : (nI 13000).toInt ≤ 65536 := by rw [nI_toInt (by omega)]; omega
  unfold hAl
  simp (disch := first | exact t1 | exact z0 | exact z1 | first | assumption | exact nI_ne0 (by decide) (by decide) | exact zb_01 | exact Or.inl rfl | exact Or.inr rfl | with_unfolding_all exact id (by assumption) | with_unfolding_all exact id (xix_8 (by assumption) (by omega) (by omega)) | omega) only [wX5_init_126, wX5_init_127, wX5_init_130, wX5_init_132, wX5_init_132q, if_true, if_false, ↓reduceIte, xpu_s, xpu_n, Option.bind_some, xk_i, xk_r, xk_0, xk_u, xk_l, xk_k, xk_q, rf_s, rf_n, q_e1, q_e2, Nat.zero_add, Nat.reduceEqDiff, Nat.reduceAdd, Nat.reduceMul, Nat.reduceSub, Nat.reduceLT, Nat.reduceLeDiff, Nat.reduceDiv, Nat.reduceMod, c1, r1]
theorem ic5_135 {s1 : Slot} (to : oT g o = 7) (ho : o < oX g) : E_ d mX5_init 135 [.val (.ref o), s1] [] g = E_ d mX5_init 144 [.val (.ref o), s1] [] (hAl g o 31 40 13000) := by
  have t1 : oT (pO g 40 13000) o = 7 := by rw [o_TO, if_neg (by omega)]; exact to
  have r1 : oR (pO g 40 13000) o = oR g o := by rw [o_RO, if_neg (by omega)]
  have c1 : (nI 13000).toNatClampNeg = 13000 := nI_clamp (by omega)
  have z0 : 0 ≤ (nI 13000).toInt := by rw [nI_toInt (by omega)]; omega
  have z1 : (nI 13000).toInt ≤ 65536 := by rw [nI_toInt (by omega)]; omega
  unfold hAl
  simp (disch := first | exact t1 | exact z0 | exact z1 | first | assumption | exact nI_ne0 (by decide) (by decide) | exact zb_01 | exact Or.inl rfl | exact Or.inr rfl | with_unfolding_all exact id (by assumption) | with_unfolding_all exact id (xix_8 (by assumption) (by omega) (by omega)) | omega) only [wX5_init_135, wX5_init_136, wX5_init_139, wX5_init_141, wX5_init_141q, if_true, if_false, ↓reduceIte, xpu_s, xpu_n, Option.bind_some, xk_i, xk_r, xk_0, xk_u, xk_l, xk_k, xk_q, rf_s, rf_n, q_e1, q_e2, Nat.zero_add, Nat.reduceEqDiff, Nat.reduceAdd, Nat.reduceMul, Nat.reduceSub, Nat.reduceLT, Nat.reduceLeDiff, Nat.reduceDiv, Nat.reduceMod, c1, r1]
theorem ic5_144 {s1 : Slot} (to : oT g o = 7) (ho : o < oX g) : E_ d mX5_init 144 [.val (.ref o), s1] [] g = E_ d mX5_init 152 [.val (.ref o), s1] [] (hAl g o 32 40 40) := by
  have t1 : oT (pO g 40 40) o = 7 := by rw [o_TO, if_neg (by omega)]; exact to
  have r1 : oR (pO g 40 40) o = oR g o := by rw [o_RO, if_neg (by omega)]
  have c1 : (nI 40).toNatClampNeg = 40 := nI_clamp (by omega)
  have z0 : 0 ≤ (nI 40).toInt := by rw [nI_toInt (by omega)]; omega
  have z1 : (nI 40).toInt ≤ 65536 := by rw [nI_toInt (by omega)]; omega
  unfold hAl
  simp (disch := first | exact t1 | exact z0 | exact z1 | first | assumption | exact nI_ne0 (by decide) (by decide) | exact zb_01 | exact Or.inl rfl | exact Or.inr rfl | with_unfolding_all exact id (by assumption) | with_unfolding_all exact id (xix_8 (by assumption) (by omega) (by omega)) | omega) only [wX5_init_144, wX5_init_145, wX5_init_147, wX5_init_149, wX5_init_149q, if_true, if_false, ↓reduceIte, xpu_s, xpu_n, Option.bind_some, xk_i, xk_r, xk_0, xk_u, xk_l, xk_k, xk_q, rf_s, rf_n, q_e1, q_e2, Nat.zero_add, Nat.reduceEqDiff, Nat.reduceAdd, Nat.reduceMul, Nat.reduceSub, Nat.reduceLT, Nat.reduceLeDiff, Nat.reduceDiv, Nat.reduceMod, c1, r1]
theorem ic5_175 {s1 : Slot} (to : oT g o = 7) (ho : o < oX g) : E_ d mX5_init 175 [.val (.ref o), s1] [] g = E_ d mX5_init 182 [.val (.ref o), s1] [] (hAl g o 34 40 4) := by
  have t1 : oT (pO g 40 4) o = 7 := by rw [o_TO, if_neg (by omega)]; exact to
  have r1 : oR (pO g 40 4) o = oR g o := by rw [o_RO, if_neg (by omega)]
  have c1 : (nI 4).toNatClampNeg = 4 := nI_clamp (by omega)
  have z0 : 0 ≤ (nI 4).toInt := by rw [nI_toInt (by omega)]; omega
  have z1 : (nI 4).toInt ≤ 65536 := by rw [nI_toInt (by omega)]; omega
  unfold hAl
  simp (disch := first | exact t1 | exact z0 | exact z1 | first | assumption | exact nI_ne0 (by decide) (by decide) | exact zb_01 | exact Or.inl rfl | exact Or.inr rfl | with_unfolding_all exact id (by assumption) | with_unfolding_all exact id (xix_8 (by assumption) (by omega) (by omega)) | omega) only [wX5_init_175, wX5_init_176, wX5_init_177, wX5_init_179, wX5_init_179q, if_true, if_false, ↓reduceIte, xpu_s, xpu_n, Option.bind_some, xk_i, xk_r, xk_0, xk_u, xk_l, xk_k, xk_q, rf_s, rf_n, q_e1, q_e2, Nat.zero_add, Nat.reduceEqDiff, Nat.reduceAdd, Nat.reduceMul, Nat.reduceSub, Nat.reduceLT, Nat.reduceLeDiff, Nat.reduceDiv, Nat.reduceMod, c1, r1]
theorem ic5_182 {s1 : Slot} (to : oT g o = 7) (ho : o < oX g) : E_ d mX5_init 182 [.val (.ref o), s1] [] g = E_ d mX5_init 191 [.val (.ref o), s1] [] (hAl g o 35 44 160) := by
  have t1 : oT (pO g 44 160) o = 7 := by rw [o_TO, if_neg (by omega)]; exact to
  have r1 : oR (pO g 44 160) o = oR g o := by rw [o_RO, if_neg (by omega)]
  have c1 : (nI 160).toNatClampNeg = 160 := nI_clamp (by omega)
  have z0 : 0 ≤ (nI 160).toInt := by rw [nI_toInt (by omega)]; omega
  have z1 : (nI 160).toInt ≤ 65536 := by rw [nI_toInt (by omega)]; omega
  unfold hAl
  simp (disch := first | exact t1 | exact z0 | exact z1 | first | assumption | exact nI_ne0 (by decide) (by decide) | exact zb_01 | exact Or.inl rfl | exact Or.inr rfl | with_unfolding_all exact id (by assumption) | with_unfolding_all exact id (xix_8 (by assumption) (by omega) (by omega)) | omega) only [wX5_init_182, wX5_init_183, wX5_init_186, wX5_init_188, wX5_init_188q, if_true, if_false, ↓reduceIte, xpu_s, xpu_n, Option.bind_some, xk_i, xk_r, xk_0, xk_u, xk_l, xk_k, xk_q, rf_s, rf_n, q_e1, q_e2, Nat.zero_add, Nat.reduceEqDiff, Nat.reduceAdd, Nat.reduceMul, Nat.reduceSub, Nat.reduceLT, Nat.reduceLeDiff, Nat.reduceDiv, Nat.reduceMod, c1, r1]
end
