/-! CONTRACTS of the component: a leaf counts -/
def HX (h : xH) (a : aC) : xH := pL (pL (pL h 140 a.1) 141 a.2.1) 142 a.2.2
/-- the arrays of the odds -/
def PO (h : xH) : Prop := oT h 64 = 1 ∧ oR h 64 9 = some 85 ∧ oR h 64 10 = some 140 ∧ oR h 64 11 = some 141 ∧ oR h 64 12 = some 142 ∧ oT h 140 = 44 ∧ oT h 141 = 44 ∧ oT h 142 = 44 ∧ oN h 140 = 6 ∧ oN h 141 = 8 ∧ oN h 142 = 8 ∧ (45 ≤ oT h 85 ∧ oT h 85 ≤ 48) ∧ oN h 85 = 9 ∧ ∀ k, k < 9 → oR h 85 k = some (86 + 6 * k)
section
variable {h : xH} {a : aC} {y : rL}
theorem HX_T : oT (HX h a) = oT h := rfl
theorem HX_N : oN (HX h a) = oN h := rfl
theorem HX_R : oR (HX h a) = oR h := rfl
theorem HX_I : oI (HX h a) = oI h := rfl
theorem HX_140 : oL (HX h a) 140 = a.1 := rfl
theorem HX_141 : oL (HX h a) 141 = a.2.1 := rfl
theorem HX_142 : oL (HX h a) 142 = a.2.2 := rfl
theorem HXp_140 : pL (HX h a) 140 y = HX h (y, a.2) := by
  unfold HX
  simp (disch := omega) only [o_qLc, o_pLL, id_eq]
theorem HXp_141 : pL (HX h a) 141 y = HX h (a.1, y, a.2.2) := by
  unfold HX
  simp (disch := omega) only [o_qLc, o_pLL, id_eq]
theorem HXp_142 : pL (HX h a) 142 y = HX h (a.1, a.2.1, y) := by
  unfold HX
  simp (disch := omega) only [o_pLL]
theorem HX_self : HX h (oL h 140, oL h 141, oL h 142) = h := by
  unfold HX
  simp only [o_pLi]
end
theorem ud_up {k : Nat} {w : rI} : ud (k + 1) w = ud k w + (if w (16 + k) = 0 then 1 else 0) := by
  show ud k w + (if (!decide (w (16 + k) = 0)) = false then 1 else 0) = _
  by_cases q : w (16 + k) = 0
  · simp [q]
  · simp [q]
section
variable {d : Nat} {h : xH} {q c : Nat} {A w : rI}
theorem counts_1 (O : WO h q) (hs : oR h q 5 = some c) (S : SCo h c A) (R : WR h q A w) (W2 : sN A ≤ 8) (P : PO h) {a : aC} {x : Int64} : C_ (d + 2) mX0_counts [.ref 64, .ref q, .long x] (HX h a) = E_ (d + 2) mX0_counts 43 [.val (.ref 64), .val (.ref q), .val (.long x), .unset, .val (.long (x * lN (100 ^ ud (sN A) w))), .unset, .val (.int (nI (sN A)))] [] (HX h a) := by
  have M := kX3_many (d := d) (h := HX h a) (A := A) O hs S
  have R3 := R.2.2.1
  obtain ⟨o1, o2, o3, o4, o5, o6, o7, o8, o9, o10, o11, o12, o13, o14, o15, o16⟩ := O
  have e0 : C_ (d + 2) mX0_counts [.ref 64, .ref q, .long x] (HX h a) = E_ (d + 2) mX0_counts 6 [.val (.ref 64), .val (.ref q), .val (.long x), .unset, .val (.long (x * lN (100 ^ ud 0 w))), .unset, .val (.int (nI 0))] [] (HX h a) := by
    have x1 : x * lN (100 ^ ud 0 w) = x := Int64.mul_one x
    rw [x1]
    simp only [wX0_counts_e, wX0_counts_0, wX0_counts_1, wX0_counts_3, wX0_counts_4, if_true, if_false, ↓reduceIte, xpu_s, xpu_n, Option.bind_some, xk_i, xk_r, xk_0, xk_u, xk_l, xk_k, xk_q, rf_s, rf_n]
  rw [e0]
  refine (lp_go (n := sN A) (F := fun k => E_ (d + 2) mX0_counts 6 [.val (.ref 64), .val (.ref q), .val (.long x), .unset, .val (.long (x * lN (100 ^ ud k w))), .unset, .val (.int (nI k))] [] (HX h a)) (fun k hk => ?_)).trans ?_
  · refine wX0_counts_6.trans ?_
    have r3 := R3 k hk
    have k8 : k < 8 := by omega
    by_cases z : w (16 + k) = 0
    · have u : x * lN (100 ^ ud (k + 1) w) = x * lN (100 ^ ud k w) * 100 := by
        rw [ud_up, if_pos z, Int64.mul_assoc]
        exact congrArg (x * ·) (lN_mul (100 ^ ud k w) 100).symm
      rw [u]
      simp (disch := first | exact xix_k (by omega) (by omega) | first | assumption | exact nI_ne0 (by decide) (by decide) | exact zb_01 | exact Or.inl rfl | exact Or.inr rfl | with_unfolding_all exact id (by assumption) | with_unfolding_all exact id (xix_8 (by assumption) (by omega) (by omega)) | omega) only [wX0_counts_8, wX0_counts_9, wX0_counts_12, wX0_counts_15, wX0_counts_17, wX0_counts_18, wX0_counts_21, wX0_counts_23, wX0_counts_24, wX0_counts_27, wX0_counts_30, wX0_counts_33, wX0_counts_34, wX0_counts_35, wX0_counts_37, wX0_counts_40, if_true, if_false, ↓reduceIte, xpu_s, xpu_n, Option.bind_some, xk_i, xk_r, xk_0, xk_u, xk_l, xk_k, xk_q, rf_s, rf_n, q_e1, q_e2, Nat.zero_add, Nat.reduceEqDiff, Nat.reduceAdd, Nat.reduceMul, Nat.reduceSub, Nat.reduceLT, Nat.reduceLeDiff, Nat.reduceDiv, Nat.reduceMod, HX_R, HX_I, nI_c, nI_add, M, o4, r3, z, nI_ltP, hk]
    · have u : x * lN (100 ^ ud (k + 1) w) = x * lN (100 ^ ud k w) := by rw [ud_up, if_neg z, Nat.add_zero]
      rw [u]
      simp (disch := first | exact xix_k (by omega) (by omega) | first | assumption | exact nI_ne0 (by decide) (by decide) | exact zb_01 | exact Or.inl rfl | exact Or.inr rfl | with_unfolding_all exact id (by assumption) | with_unfolding_all exact id (xix_8 (by assumption) (by omega) (by omega)) | omega) only [wX0_counts_8, wX0_counts_9, wX0_counts_12, wX0_counts_15, wX0_counts_17, wX0_counts_18, wX0_counts_21, wX0_counts_23, wX0_counts_24, wX0_counts_27, wX0_counts_30, wX0_counts_33, wX0_counts_34, wX0_counts_35, wX0_counts_37, wX0_counts_40, if_true, if_false, ↓reduceIte, xpu_s, xpu_n, Option.bind_some, xk_i, xk_r, xk_0, xk_u, xk_l, xk_k, xk_q, rf_s, rf_n, q_e1, q_e2, Nat.zero_add, Nat.reduceEqDiff, Nat.reduceAdd, Nat.reduceMul, Nat.reduceSub, Nat.reduceLT, Nat.reduceLeDiff, Nat.reduceDiv, Nat.reduceMod, HX_R, HX_I, nI_c, nI_add, M, o4, r3, z, nI_ltP, hk, Int64.mul_one]
  · refine wX0_counts_6.trans ?_
    simp (disch := first | assumption | exact nI_ne0 (by decide) (by decide) | exact zb_01 | exact Or.inl rfl | exact Or.inr rfl | with_unfolding_all exact id (by assumption) | with_unfolding_all exact id (xix_8 (by assumption) (by omega) (by omega)) | omega) only [wX0_counts_8, wX0_counts_9, wX0_counts_12, if_true, if_false, ↓reduceIte, xpu_s, xpu_n, Option.bind_some, xk_i, xk_r, xk_0, xk_u, xk_l, xk_k, xk_q, rf_s, rf_n, q_e1, q_e2, Nat.zero_add, Nat.reduceEqDiff, Nat.reduceAdd, Nat.reduceMul, Nat.reduceSub, Nat.reduceLT, Nat.reduceLeDiff, Nat.reduceDiv, Nat.reduceMod, M, i_irr]
theorem counts_3 (O : WO h q) (hs : oR h q 5 = some c) (S : SCo h c A) (R : WR h q A w) (W2 : sN A ≤ 8) (P : PO h) {p b s : rL} {x W : Int64} : E_ (d + 2) mX0_counts 129 [.val (.ref 64), .val (.ref q), .val (.long x), .unset, .val (.long W), .unset, .val (.int (nI 0))] [] (HX h (p, b, s)) = some (none, HX h (p, b, fun k => if k < sN A ∧ w (16 + k) = nI 2 then s k + W else s k)) := by
  have M := fun s2 : rL => kX3_many (d := d) (h := HX h (p, b, s2)) (A := A) O hs S
  have R3 := R.2.2.1
  obtain ⟨o1, o2, o3, o4, o5, o6, o7, o8, o9, o10, o11, o12, o13, o14, o15, o16⟩ := O
  obtain ⟨p1, p2, p3, p4, p5, p6, p7, p8, p9, p10, p11, -⟩ := P
  have e0 : s = fun j => if j < 0 ∧ w (16 + j) = nI 2 then s j + W else s j := by
    funext j
    rw [if_neg (fun y => Nat.not_lt_zero _ y.1)]
  conv => lhs; rw [e0]
  refine (lp_go (n := sN A) (F := fun k => E_ (d + 2) mX0_counts 129 [.val (.ref 64), .val (.ref q), .val (.long x), .unset, .val (.long W), .unset, .val (.int (nI k))] [] (HX h (p, b, fun j => if j < k ∧ w (16 + j) = nI 2 then s j + W else s j))) (fun k hk => ?_)).trans ?_
  · refine wX0_counts_129.trans ?_
    have r3 := R3 k hk
    have k8 : k < 8 := by omega
    have st : ∀ x : Int64, x = (if w (16 + k) = nI 2 then s k + W else s k) → va_up (fun j => if j < k ∧ w (16 + j) = nI 2 then s j + W else s j) k x = fun j => if j < k + 1 ∧ w (16 + j) = nI 2 then s j + W else s j := by
      intro x hx
      funext j
      unfold va_up
      by_cases q : j = k
      · subst q
        rw [if_pos rfl, hx]
        by_cases q2 : w (16 + j) = nI 2
        · rw [if_pos q2, if_pos ⟨Nat.lt_succ_self j, q2⟩]
        · rw [if_neg q2, if_neg (fun y => q2 y.2)]
      · rw [if_neg q]
        by_cases q2 : j < k
        · have q3 : j < k + 1 := by omega
          simp only [q2, q3]
        · have q3 : ¬ j < k + 1 := by omega
          simp only [q2, q3]
    have rk : (fun j => if j < k ∧ w (16 + j) = nI 2 then s j + W else s j) k = s k := if_neg (fun y => Nat.lt_irrefl _ y.1)
    generalize hg : (fun j => if j < k ∧ w (16 + j) = nI 2 then s j + W else s j) = g at *
    by_cases z : w (16 + k) = nI 2
    · rw [← st (s k + W) (by rw [if_pos z])]
      simp (disch := first | exact xix_k (by omega) (by omega) | first | assumption | exact nI_ne0 (by decide) (by decide) | exact zb_01 | exact Or.inl rfl | exact Or.inr rfl | with_unfolding_all exact id (by assumption) | with_unfolding_all exact id (xix_8 (by assumption) (by omega) (by omega)) | omega) only [wX0_counts_131, wX0_counts_132, wX0_counts_135, wX0_counts_138, wX0_counts_139, wX0_counts_142, wX0_counts_144, wX0_counts_145, wX0_counts_146, wX0_counts_147, wX0_counts_150, wX0_counts_152, wX0_counts_153, wX0_counts_154, wX0_counts_157, wX0_counts_159, wX0_counts_162, wX0_counts_163, wX0_counts_164, wX0_counts_165, wX0_counts_168, if_true, if_false, ↓reduceIte, xpu_s, xpu_n, Option.bind_some, xk_i, xk_r, xk_0, xk_u, xk_l, xk_k, xk_q, rf_s, rf_n, q_e1, q_e2, Nat.zero_add, Nat.reduceEqDiff, Nat.reduceAdd, Nat.reduceMul, Nat.reduceSub, Nat.reduceLT, Nat.reduceLeDiff, Nat.reduceDiv, Nat.reduceMod, HX_R, HX_I, HX_142, HXp_142, nI_c, nI_add, M, o4, p5, r3, z, nI_ltP, hk, rk]
    · rw [← st (s k) (by rw [if_neg z])]
      simp (disch := first | exact xix_k (by omega) (by omega) | first | assumption | exact nI_ne0 (by decide) (by decide) | exact zb_01 | exact Or.inl rfl | exact Or.inr rfl | with_unfolding_all exact id (by assumption) | with_unfolding_all exact id (xix_8 (by assumption) (by omega) (by omega)) | omega) only [wX0_counts_131, wX0_counts_132, wX0_counts_135, wX0_counts_138, wX0_counts_139, wX0_counts_142, wX0_counts_144, wX0_counts_145, wX0_counts_146, wX0_counts_147, wX0_counts_150, wX0_counts_152, wX0_counts_153, wX0_counts_154, wX0_counts_157, wX0_counts_159, wX0_counts_162, wX0_counts_163, wX0_counts_164, wX0_counts_165, wX0_counts_168, if_true, if_false, ↓reduceIte, xpu_s, xpu_n, Option.bind_some, xk_i, xk_r, xk_0, xk_u, xk_l, xk_k, xk_q, rf_s, rf_n, q_e1, q_e2, Nat.zero_add, Nat.reduceEqDiff, Nat.reduceAdd, Nat.reduceMul, Nat.reduceSub, Nat.reduceLT, Nat.reduceLeDiff, Nat.reduceDiv, Nat.reduceMod, HX_R, HX_I, HX_142, HXp_142, nI_c, nI_add, M, o4, p5, r3, z, nI_ltP, hk, rk, i64_0]
  · refine wX0_counts_129.trans ?_
    simp (disch := first | assumption | exact nI_ne0 (by decide) (by decide) | exact zb_01 | exact Or.inl rfl | exact Or.inr rfl | with_unfolding_all exact id (by assumption) | with_unfolding_all exact id (xix_8 (by assumption) (by omega) (by omega)) | omega) only [wX0_counts_131, wX0_counts_132, wX0_counts_135, wX0_counts_171, if_true, if_false, ↓reduceIte, xpu_s, xpu_n, Option.bind_some, xk_i, xk_r, xk_0, xk_u, xk_l, xk_k, xk_q, rf_s, rf_n, q_e1, q_e2, Nat.zero_add, Nat.reduceEqDiff, Nat.reduceAdd, Nat.reduceMul, Nat.reduceSub, Nat.reduceLT, Nat.reduceLeDiff, Nat.reduceDiv, Nat.reduceMod, M, i_irr]
theorem kX0_counts (O : WO h q) (hs : oR h q 5 = some c) (S : SCo h c A) (R : WR h q A w) (W2 : sN A ≤ 8) (P : PO h) (h37 : w 37 = nI 1 ∨ w 37 = nI 2 ∨ w 37 = nI 3) (h39 : w 39 = -1 ∨ ∃ j, w 39 = nI j ∧ j < sN A) {a : aC} {x : Int64} : C_ (d + 2) mX0_counts [.ref 64, .ref q, .long x] (HX h a) = some (none, HX h (lF A w (x * lN (100 ^ ud (sN A) w)) a)) := by
  rw [counts_1 O hs S R W2 P]
  generalize x * lN (100 ^ ud (sN A) w) = W
  have l3 := fun (p b s : rL) => counts_3 (d := d) (p := p) (b := b) (s := s) (x := x) (W := W) O hs S R W2 P
  obtain ⟨-, -, -, -, -, -, -, i9, i10, i11, i12⟩ := R
  obtain ⟨p1, p2, p3, p4, p5, p6, p7, p8, p9, p10, p11, -⟩ := P
  have T5 := O.1
  obtain ⟨p, b, s⟩ := a
  have key : ∀ e : Nat, e < 3 → w 37 - nI 1 = nI e → E_ (d + 2) mX0_counts 43 [.val (.ref 64), .val (.ref q), .val (.long x), .unset, .val (.long W), .unset, .val (.int (nI (sN A)))] [] (HX h (p, b, s)) = some (none, HX h (lF A w W (p, b, s))) := by
    intro e he e1
    have cl : (w 37 - nI 1).toNatClampNeg = e := by rw [e1]; exact nI_clamp (by omega)
    rcases h39 with h39 | ⟨j, h39, hj⟩
    · have lf : lF A w W (p, b, s) = (va_up (va_up (va_up (va_up p e (p e + W)) 3 (p 3 + W * (w 36).toInt64)) 4 (p 4 + W * (w 38).toInt64)) 5 (p 5 + W), b, fun k => if k < sN A ∧ w (16 + k) = nI 2 then s k + W else s k) := by
        unfold lF
        rw [cl, if_pos h39]
      rw [lf, ← l3]
      simp (disch := first | exact xix_k (by omega) (by omega) | first | assumption | exact nI_ne0 (by decide) (by decide) | exact zb_01 | exact Or.inl rfl | exact Or.inr rfl | with_unfolding_all exact id (by assumption) | with_unfolding_all exact id (xix_8 (by assumption) (by omega) (by omega)) | omega) only [wX0_counts_43, wX0_counts_44, wX0_counts_47, wX0_counts_48, wX0_counts_51, wX0_counts_52, wX0_counts_53, wX0_counts_54, wX0_counts_55, wX0_counts_57, wX0_counts_58, wX0_counts_59, wX0_counts_60, wX0_counts_63, wX0_counts_64, wX0_counts_65, wX0_counts_66, wX0_counts_68, wX0_counts_69, wX0_counts_72, wX0_counts_73, wX0_counts_74, wX0_counts_75, wX0_counts_76, wX0_counts_77, wX0_counts_80, wX0_counts_81, wX0_counts_82, wX0_counts_83, wX0_counts_85, wX0_counts_86, wX0_counts_89, wX0_counts_90, wX0_counts_91, wX0_counts_92, wX0_counts_93, wX0_counts_94, wX0_counts_97, wX0_counts_98, wX0_counts_99, wX0_counts_100, wX0_counts_102, wX0_counts_103, wX0_counts_104, wX0_counts_105, wX0_counts_108, wX0_counts_109, wX0_counts_112, wX0_counts_113, wX0_counts_116, wX0_counts_117, wX0_counts_120, wX0_counts_121, wX0_counts_122, wX0_counts_124, wX0_counts_125, wX0_counts_126, wX0_counts_127, if_true, if_false, ↓reduceIte, xpu_s, xpu_n, Option.bind_some, xk_i, xk_r, xk_0, xk_u, xk_l, xk_k, xk_q, rf_s, rf_n, q_e1, q_e2, Nat.zero_add, Nat.reduceEqDiff, Nat.reduceAdd, Nat.reduceMul, Nat.reduceSub, Nat.reduceLT, Nat.reduceLeDiff, Nat.reduceDiv, Nat.reduceMod, HX_R, HX_I, HX_140, HX_141, HXp_140, HXp_141, nI_c, nI_add, up_ne, p3, p4, i9, i10, i11, i12, e1, h39]
    · have nj : (nI j = -1) = False := nI_nm1 (by omega)
      have lf : lF A w W (p, b, s) = (va_up (va_up (va_up (va_up p e (p e + W)) 3 (p 3 + W * (w 36).toInt64)) 4 (p 4 + W * (w 38).toInt64)) 5 (p 5 + W), va_up b j (b j + W), fun k => if k < sN A ∧ w (16 + k) = nI 2 then s k + W else s k) := by
        unfold lF
        rw [cl, if_neg (by rw [h39, nj]; exact fun y => y), h39, nI_clamp (by omega)]
      rw [lf, ← l3]
      have j8 : j < 8 := by omega
      simp (disch := first | exact xix_k (by omega) (by omega) | first | assumption | exact nI_ne0 (by decide) (by decide) | exact zb_01 | exact Or.inl rfl | exact Or.inr rfl | with_unfolding_all exact id (by assumption) | with_unfolding_all exact id (xix_8 (by assumption) (by omega) (by omega)) | omega) only [wX0_counts_43, wX0_counts_44, wX0_counts_47, wX0_counts_48, wX0_counts_51, wX0_counts_52, wX0_counts_53, wX0_counts_54, wX0_counts_55, wX0_counts_57, wX0_counts_58, wX0_counts_59, wX0_counts_60, wX0_counts_63, wX0_counts_64, wX0_counts_65, wX0_counts_66, wX0_counts_68, wX0_counts_69, wX0_counts_72, wX0_counts_73, wX0_counts_74, wX0_counts_75, wX0_counts_76, wX0_counts_77, wX0_counts_80, wX0_counts_81, wX0_counts_82, wX0_counts_83, wX0_counts_85, wX0_counts_86, wX0_counts_89, wX0_counts_90, wX0_counts_91, wX0_counts_92, wX0_counts_93, wX0_counts_94, wX0_counts_97, wX0_counts_98, wX0_counts_99, wX0_counts_100, wX0_counts_102, wX0_counts_103, wX0_counts_104, wX0_counts_105, wX0_counts_108, wX0_counts_109, wX0_counts_112, wX0_counts_113, wX0_counts_116, wX0_counts_117, wX0_counts_120, wX0_counts_121, wX0_counts_122, wX0_counts_124, wX0_counts_125, wX0_counts_126, wX0_counts_127, if_true, if_false, ↓reduceIte, xpu_s, xpu_n, Option.bind_some, xk_i, xk_r, xk_0, xk_u, xk_l, xk_k, xk_q, rf_s, rf_n, q_e1, q_e2, Nat.zero_add, Nat.reduceEqDiff, Nat.reduceAdd, Nat.reduceMul, Nat.reduceSub, Nat.reduceLT, Nat.reduceLeDiff, Nat.reduceDiv, Nat.reduceMod, HX_R, HX_I, HX_140, HX_141, HXp_140, HXp_141, nI_c, nI_add, up_ne, p3, p4, i9, i10, i11, i12, e1, h39, nj]
  rcases h37 with e | e | e
  · exact key 0 (by omega) (by rw [e]; decide)
  · exact key 1 (by omega) (by rw [e]; decide)
  · exact key 2 (by omega) (by rw [e]; decide)
end
