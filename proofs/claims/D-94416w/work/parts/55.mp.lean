/-! CONTRACTS of the model: branches -/
def HB (h : xH) (w : rI) (z : rI × rI × rI × rI) (kp : rI) (p b s : rL) : xH := pL (pL (pL (pI (pI (pI (pI (pI (pI h 150 z.1) 156 w) 157 kp) 158 z.2.1) 159 z.2.2.1) 160 z.2.2.2) 161 p) 162 b) 163 s
/-- of the fields none but 23 and 26 changes -/
def zOK (h : xH) (z : rI × rI × rI × rI) : Prop := ∀ j, j ≠ 23 → j ≠ 26 → z.1 j = oI h 150 j
def AC (p b s : rL) (a : aC) : Prop := (∀ k, k < 5 → p k = a.1 k) ∧ (∀ k, k < 8 → b k = a.2.1 k) ∧ ∀ k, k < 8 → s k = a.2.2 k
theorem i64_0 {x : Int64} : x + 0 = x := by simp
section
variable {h : xH} {w : rI} {z : rI × rI × rI × rI} {kp x : rI} {p b s y : rL}
theorem HB_ok (H : MOK h) : MOK (HB h w z kp p b s) := H
theorem HB_150 : oI (HB h w z kp p b s) 150 = z.1 := rfl
theorem HB_152 : oI (HB h w z kp p b s) 152 = oI h 152 := rfl
theorem HB_156 : oI (HB h w z kp p b s) 156 = w := rfl
theorem HB_157 : oI (HB h w z kp p b s) 157 = kp := rfl
theorem HB_161 : oL (HB h w z kp p b s) 161 = p := rfl
theorem HB_162 : oL (HB h w z kp p b s) 162 = b := rfl
theorem HB_163 : oL (HB h w z kp p b s) 163 = s := rfl
theorem HBp_156 : pI (HB h w z kp p b s) 156 x = HB h x z kp p b s := by
  unfold HB
  simp (disch := omega) only [o_qLI, o_qIc, o_pII, id_eq]
theorem HBp_157 : pI (HB h w z kp p b s) 157 x = HB h w z x p b s := by
  unfold HB
  simp (disch := omega) only [o_qLI, o_qIc, o_pII, id_eq]
theorem HBp_161 : pL (HB h w z kp p b s) 161 y = HB h w z kp y b s := by
  unfold HB
  simp (disch := omega) only [o_qLc, o_pLL, id_eq]
theorem HBp_162 : pL (HB h w z kp p b s) 162 y = HB h w z kp p y s := by
  unfold HB
  simp (disch := omega) only [o_qLc, o_pLL, id_eq]
theorem HBp_163 : pL (HB h w z kp p b s) 163 y = HB h w z kp p b y := by
  unfold HB
  simp (disch := omega) only [o_pLL]
theorem hb_r2 (H : MOK h) : oR (HB h w z kp p b s) 150 2 = some 152 := m_r2 H
theorem hb_r18 (H : MOK h) : oR (HB h w z kp p b s) 150 18 = some 156 := m_r18 H
theorem hb_r19 (H : MOK h) : oR (HB h w z kp p b s) 150 19 = some 157 := m_r19 H
theorem hb_r27 (H : MOK h) : oR (HB h w z kp p b s) 150 27 = some 161 := m_r27 H
theorem hb_r28 (H : MOK h) : oR (HB h w z kp p b s) 150 28 = some 162 := m_r28 H
theorem hb_r29 (H : MOK h) : oR (HB h w z kp p b s) 150 29 = some 163 := m_r29 H
end
section
variable {d : Nat} {h : xH}
theorem br_stop (H : MOK h) (W1 : oI h 152 1 = nI (sN (oI h 152))) (W2 : sN (oI h 152) ≤ 8) {w : rI} {z : rI × rI × rI × rI} {kp : rI} {p b s : rL} {lv : Int32} {W : Int64} {c : Int32} {s6 : Slot} : E_ d mX5_branches 135 [.val (.ref 150), .val (.int lv), .val (.long W), .unset, .val (.int c), .val (.int (nI 0)), s6] [] (HB h w z kp p b s) = some (none, HB h w z kp p b (fun k => if k < sN (oI h 152) ∧ w (16 + k) = nI 2 then s k + W else s k)) := by
  have e0 : s = fun j => if j < 0 ∧ w (16 + j) = nI 2 then s j + W else s j := by
    funext j
    rw [if_neg (fun y => Nat.not_lt_zero _ y.1)]
  conv => lhs; rw [e0]
  refine (lp_go (n := sN (oI h 152)) (F := fun k => E_ d mX5_branches 135 [.val (.ref 150), .val (.int lv), .val (.long W), .unset, .val (.int c), .val (.int (nI k)), s6] [] (HB h w z kp p b (fun j => if j < k ∧ w (16 + j) = nI 2 then s j + W else s j))) (fun k hk => ?_)).trans ?_
  · refine wX5_branches_135.trans ?_
    have k8 : k < 8 := by omega
    have st : ∀ x : Int64, x = (if w (16 + k) = nI 2 then s k + W else s k) → va_up (fun j => if j < k ∧ w (16 + j) = nI 2 then s j + W else s j) k x = fun j => if j < k + 1 ∧ w (16 + j) = nI 2 then s j + W else s j := by
      intro x hx
      funext j
      unfold va_up
      by_cases q : j = k
      · subst q
        rw [if_pos rfl, hx]
        by_cases q2 : w (16 + j) = nI 2
        · rw [if_pos q2, if_pos ⟨Nat.lt_succ_self j, q2⟩]
        · rw [if_neg q2, if_neg (fun y => q2 y.2)]
      · rw [if_neg q]
        by_cases q2 : j < k
        · have q3 : j < k + 1 := by omega
          simp only [q2, q3]
        · have q3 : ¬ j < k + 1 := by omega
          simp only [q2, q3]
    have rk : (fun j => if j < k ∧ w (16 + j) = nI 2 then s j + W else s j) k = s k := if_neg (fun y => Nat.lt_irrefl _ y.1)
    generalize hg : (fun j => if j < k ∧ w (16 + j) = nI 2 then s j + W else s j) = g at *
    by_cases q : w (16 + k) = nI 2
    · rw [← st (s k + W) (by rw [if_pos q])]
      simp (disch := first | exact mok_t (HB_ok H) rfl | exact nI_ne0 (by decide) (by decide) | exact m_x152 (HB_ok H) (by omega) | exact m_x156 (HB_ok H) (by omega) | exact m_x157 (HB_ok H) (by omega) | exact m_x161 (HB_ok H) (by omega) | exact m_x162 (HB_ok H) (by omega) | exact m_x163 (HB_ok H) (by omega) | omega) only [wX5_branches_137, wX5_branches_138, wX5_branches_141, wX5_branches_142, wX5_branches_143, wX5_branches_146, wX5_branches_147, wX5_branches_150, wX5_branches_152, wX5_branches_153, wX5_branches_154, wX5_branches_155, wX5_branches_158, wX5_branches_160, wX5_branches_162, wX5_branches_163, wX5_branches_164, wX5_branches_165, wX5_branches_168, wX5_branches_169, wX5_branches_172, wX5_branches_173, wX5_branches_174, wX5_branches_175, wX5_branches_178, if_true, if_false, ↓reduceIte, xpu_s, xpu_n, Option.bind_some, xk_i, xk_r, xk_0, xk_u, xk_l, xk_k, xk_q, rf_s, rf_n, HB_150, HB_152, HB_156, HB_157, HB_161, HB_162, HB_163, HBp_156, HBp_157, HBp_161, HBp_162, HBp_163, hb_r2 H, hb_r18 H, hb_r19 H, hb_r27 H, hb_r28 H, hb_r29 H, q_e1, q_e2, Nat.zero_add, Nat.reduceEqDiff, Nat.reduceAdd, Nat.reduceMul, Nat.reduceSub, Nat.reduceLT, Nat.reduceLeDiff, Nat.reduceDiv, Nat.reduceMod, up_s, nI_c, nI_add, up_ne, W1, nI_ltP, hk, q, rk]
    · rw [← st (s k) (by rw [if_neg q])]
      simp (disch := first | exact mok_t (HB_ok H) rfl | exact nI_ne0 (by decide) (by decide) | exact m_x152 (HB_ok H) (by omega) | exact m_x156 (HB_ok H) (by omega) | exact m_x157 (HB_ok H) (by omega) | exact m_x161 (HB_ok H) (by omega) | exact m_x162 (HB_ok H) (by omega) | exact m_x163 (HB_ok H) (by omega) | omega) only [wX5_branches_137, wX5_branches_138, wX5_branches_141, wX5_branches_142, wX5_branches_143, wX5_branches_146, wX5_branches_147, wX5_branches_150, wX5_branches_152, wX5_branches_153, wX5_branches_154, wX5_branches_155, wX5_branches_158, wX5_branches_160, wX5_branches_162, wX5_branches_163, wX5_branches_164, wX5_branches_165, wX5_branches_168, wX5_branches_169, wX5_branches_172, wX5_branches_173, wX5_branches_174, wX5_branches_175, wX5_branches_178, if_true, if_false, ↓reduceIte, xpu_s, xpu_n, Option.bind_some, xk_i, xk_r, xk_0, xk_u, xk_l, xk_k, xk_q, rf_s, rf_n, HB_150, HB_152, HB_156, HB_157, HB_161, HB_162, HB_163, HBp_156, HBp_157, HBp_161, HBp_162, HBp_163, hb_r2 H, hb_r18 H, hb_r19 H, hb_r27 H, hb_r28 H, hb_r29 H, q_e1, q_e2, Nat.zero_add, Nat.reduceEqDiff, Nat.reduceAdd, Nat.reduceMul, Nat.reduceSub, Nat.reduceLT, Nat.reduceLeDiff, Nat.reduceDiv, Nat.reduceMod, up_s, nI_c, nI_add, up_ne, W1, nI_ltP, hk, q, rk, i64_0]
  · refine wX5_branches_135.trans ?_
    simp (disch := first | exact mok_t (HB_ok H) rfl | exact nI_ne0 (by decide) (by decide) | exact m_x152 (HB_ok H) (by omega) | exact m_x156 (HB_ok H) (by omega) | exact m_x157 (HB_ok H) (by omega) | exact m_x161 (HB_ok H) (by omega) | exact m_x162 (HB_ok H) (by omega) | exact m_x163 (HB_ok H) (by omega) | omega) only [wX5_branches_137, wX5_branches_138, wX5_branches_141, wX5_branches_142, wX5_branches_143, wX5_branches_181, if_true, if_false, ↓reduceIte, xpu_s, xpu_n, Option.bind_some, xk_i, xk_r, xk_0, xk_u, xk_l, xk_k, xk_q, rf_s, rf_n, HB_150, HB_152, HB_156, HB_157, HB_161, HB_162, HB_163, HBp_156, HBp_157, HBp_161, HBp_162, HBp_163, hb_r2 H, hb_r18 H, hb_r19 H, hb_r27 H, hb_r28 H, hb_r29 H, q_e1, q_e2, Nat.zero_add, Nat.reduceEqDiff, Nat.reduceAdd, Nat.reduceMul, Nat.reduceSub, Nat.reduceLT, Nat.reduceLeDiff, Nat.reduceDiv, Nat.reduceMod, up_s, nI_c, nI_add, up_ne, W1, i_irr]
theorem br_leaf (H : MOK h) (W1 : oI h 152 1 = nI (sN (oI h 152))) (W2 : sN (oI h 152) ≤ 8) {w : rI} (h37 : w 37 = nI 1 ∨ w 37 = nI 2 ∨ w 37 = nI 3) (h39 : w 39 = -1 ∨ ∃ j, w 39 = nI j ∧ j < sN (oI h 152)) {z : rI × rI × rI × rI} {kp : rI} {p b s : rL} {a : aC} (C : AC p b s a) {lv : Int32} {W : Int64} {c : Int32} {s5 s6 : Slot} : ∃ p' b' s', E_ d mX5_branches 39 [.val (.ref 150), .val (.int lv), .val (.long W), .unset, .val (.int c), s5, s6] [] (HB h w z kp p b s) = some (none, HB h w z kp p' b' s') ∧ AC p' b' s' (lF (oI h 152) w W a) := by
  obtain ⟨C1, C2, C3⟩ := C
  have key : ∀ e : Nat, e < 3 → w 37 - nI 1 = nI e → ¬ w 37 = 0 → ∃ p' b' s', E_ d mX5_branches 39 [.val (.ref 150), .val (.int lv), .val (.long W), .unset, .val (.int c), s5, s6] [] (HB h w z kp p b s) = some (none, HB h w z kp p' b' s') ∧ AC p' b' s' (lF (oI h 152) w W a) := by
    intro e he e1 e2
    have cl : (w 37 - nI 1).toNatClampNeg = e := by rw [e1]; exact nI_clamp (by omega)
    have st := fun (p2 b2 : rL) => br_stop (d := d) H W1 W2 (w := w) (z := z) (kp := kp) (p := p2) (b := b2) (s := s) (lv := lv) (W := W) (c := c) (s6 := s6)
    have C3' : ∀ k, k < 8 → (fun k => if k < sN (oI h 152) ∧ w (16 + k) = nI 2 then s k + W else s k) k = (lF (oI h 152) w W a).2.2 k := fun k hk => by
      show (if k < sN (oI h 152) ∧ w (16 + k) = nI 2 then s k + W else s k) = (if k < sN (oI h 152) ∧ w (16 + k) = nI 2 then a.2.2 k + W else a.2.2 k)
      rw [C3 k hk]
    have C1' : ∀ k, k < 5 → va_up (va_up (va_up p e (p e + W)) 3 (p 3 + W * (w 36).toInt64)) 4 (p 4 + W * (w 38).toInt64) k = (lF (oI h 152) w W a).1 k := fun k hk => by
      show _ = va_up (va_up (va_up (va_up a.1 (w 37 - nI 1).toNatClampNeg (a.1 (w 37 - nI 1).toNatClampNeg + W)) 3 (a.1 3 + W * (w 36).toInt64)) 4 (a.1 4 + W * (w 38).toInt64)) 5 (a.1 5 + W) k
      rw [cl, up_ne (show k ≠ 5 by omega)]
      unfold va_up
      by_cases q4 : k = 4
      · rw [if_pos q4, if_pos q4, C1 4 (by omega)]
      · rw [if_neg q4, if_neg q4]
        by_cases q3 : k = 3
        · rw [if_pos q3, if_pos q3, C1 3 (by omega)]
        · rw [if_neg q3, if_neg q3]
          by_cases qe : k = e
          · rw [if_pos qe, if_pos qe, C1 e (by omega)]
          · rw [if_neg qe, if_neg qe, C1 k hk]
    rcases h39 with h39 | ⟨j, h39, hj⟩
    · refine ⟨va_up (va_up (va_up p e (p e + W)) 3 (p 3 + W * (w 36).toInt64)) 4 (p 4 + W * (w 38).toInt64), b, _, Eq.trans ?_ (st _ _), C1', fun k hk => ?_, C3'⟩
      · simp (disch := first | exact mok_t (HB_ok H) rfl | exact nI_ne0 (by decide) (by decide) | exact m_x152 (HB_ok H) (by omega) | exact m_x156 (HB_ok H) (by omega) | exact m_x157 (HB_ok H) (by omega) | exact m_x161 (HB_ok H) (by omega) | exact m_x162 (HB_ok H) (by omega) | exact m_x163 (HB_ok H) (by omega) | omega) only [wX5_branches_e, wX5_branches_0, wX5_branches_1, wX5_branches_4, wX5_branches_7, wX5_branches_9, wX5_branches_10, wX5_branches_13, wX5_branches_15, wX5_branches_16, wX5_branches_19, wX5_branches_20, wX5_branches_21, wX5_branches_24, wX5_branches_26, wX5_branches_28, wX5_branches_29, wX5_branches_32, wX5_branches_33, wX5_branches_36, wX5_branches_39, wX5_branches_40, wX5_branches_43, wX5_branches_45, wX5_branches_46, wX5_branches_49, wX5_branches_50, wX5_branches_53, wX5_branches_54, wX5_branches_57, wX5_branches_59, wX5_branches_60, wX5_branches_61, wX5_branches_62, wX5_branches_63, wX5_branches_64, wX5_branches_65, wX5_branches_66, wX5_branches_67, wX5_branches_68, wX5_branches_71, wX5_branches_72, wX5_branches_73, wX5_branches_74, wX5_branches_75, wX5_branches_76, wX5_branches_79, wX5_branches_81, wX5_branches_82, wX5_branches_83, wX5_branches_84, wX5_branches_85, wX5_branches_86, wX5_branches_87, wX5_branches_90, wX5_branches_91, wX5_branches_92, wX5_branches_93, wX5_branches_94, wX5_branches_95, wX5_branches_98, wX5_branches_100, wX5_branches_101, wX5_branches_102, wX5_branches_103, wX5_branches_104, wX5_branches_105, wX5_branches_106, wX5_branches_109, wX5_branches_111, wX5_branches_112, wX5_branches_113, wX5_branches_116, wX5_branches_117, wX5_branches_120, wX5_branches_121, wX5_branches_124, wX5_branches_126, wX5_branches_127, wX5_branches_128, wX5_branches_129, wX5_branches_130, wX5_branches_131, wX5_branches_132, wX5_branches_133, wX5_branches_137, wX5_branches_138, wX5_branches_141, wX5_branches_142, wX5_branches_143, wX5_branches_146, wX5_branches_147, wX5_branches_150, wX5_branches_152, wX5_branches_153, wX5_branches_154, wX5_branches_155, wX5_branches_158, wX5_branches_160, wX5_branches_162, wX5_branches_163, wX5_branches_164, wX5_branches_165, wX5_branches_168, wX5_branches_169, wX5_branches_172, wX5_branches_173, wX5_branches_174, wX5_branches_175, wX5_branches_178, wX5_branches_181, wX5_branches_182, wX5_branches_183, wX5_branches_186, wX5_branches_188, wX5_branches_189, wX5_branches_191, wX5_branches_193, wX5_branches_195, wX5_branches_198, wX5_branches_199, wX5_branches_202, wX5_branches_204, wX5_branches_205, wX5_branches_206, wX5_branches_208, wX5_branches_209, wX5_branches_210, wX5_branches_213, wX5_branches_215, wX5_branches_216, wX5_branches_217, wX5_branches_220, wX5_branches_223, wX5_branches_224, wX5_branches_227, wX5_branches_229, wX5_branches_231, wX5_branches_232, wX5_branches_233, wX5_branches_234, wX5_branches_235, wX5_branches_236, wX5_branches_237, wX5_branches_238, wX5_branches_239, wX5_branches_242, wX5_branches_243, wX5_branches_245, wX5_branches_246, wX5_branches_247, wX5_branches_250, wX5_branches_251, wX5_branches_253, wX5_branches_255, wX5_branches_257, wX5_branches_260, wX5_branches_261, wX5_branches_264, wX5_branches_266, wX5_branches_267, wX5_branches_270, wX5_branches_272, wX5_branches_273, wX5_branches_274, wX5_branches_276, wX5_branches_277, wX5_branches_278, wX5_branches_279, wX5_branches_282, wX5_branches_285, wX5_branches_286, wX5_branches_289, wX5_branches_291, wX5_branches_293, wX5_branches_294, wX5_branches_295, wX5_branches_296, wX5_branches_297, wX5_branches_298, wX5_branches_299, wX5_branches_300, wX5_branches_301, wX5_branches_304, wX5_branches_305, wX5_branches_307, wX5_branches_309, wX5_branches_310, wX5_branches_311, wX5_branches_312, wX5_branches_315, if_true, if_false, ↓reduceIte, xpu_s, xpu_n, Option.bind_some, xk_i, xk_r, xk_0, xk_u, xk_l, xk_k, xk_q, rf_s, rf_n, HB_150, HB_152, HB_156, HB_157, HB_161, HB_162, HB_163, HBp_156, HBp_157, HBp_161, HBp_162, HBp_163, hb_r2 H, hb_r18 H, hb_r19 H, hb_r27 H, hb_r28 H, hb_r29 H, q_e1, q_e2, Nat.zero_add, Nat.reduceEqDiff, Nat.reduceAdd, Nat.reduceMul, Nat.reduceSub, Nat.reduceLT, Nat.reduceLeDiff, Nat.reduceDiv, Nat.reduceMod, up_s, nI_c, nI_add, up_ne, e1, e2, h39]
      · show _ = (if w 39 = -1 then a.2.1 else _) k
        rw [if_pos h39]; exact C2 k hk
    · have nj : (nI j = -1) = False := nI_nm1 (by omega)
      refine ⟨va_up (va_up (va_up p e (p e + W)) 3 (p 3 + W * (w 36).toInt64)) 4 (p 4 + W * (w 38).toInt64), va_up b j (b j + W), _, Eq.trans ?_ (st _ _), C1', fun k hk => ?_, C3'⟩
      · simp (disch := first | exact mok_t (HB_ok H) rfl | exact nI_ne0 (by decide) (by decide) | exact m_x152 (HB_ok H) (by omega) | exact m_x156 (HB_ok H) (by omega) | exact m_x157 (HB_ok H) (by omega) | exact m_x161 (HB_ok H) (by omega) | exact m_x162 (HB_ok H) (by omega) | exact m_x163 (HB_ok H) (by omega) | omega) only [wX5_branches_e, wX5_branches_0, wX5_branches_1, wX5_branches_4, wX5_branches_7, wX5_branches_9, wX5_branches_10, wX5_branches_13, wX5_branches_15, wX5_branches_16, wX5_branches_19, wX5_branches_20, wX5_branches_21, wX5_branches_24, wX5_branches_26, wX5_branches_28, wX5_branches_29, wX5_branches_32, wX5_branches_33, wX5_branches_36, wX5_branches_39, wX5_branches_40, wX5_branches_43, wX5_branches_45, wX5_branches_46, wX5_branches_49, wX5_branches_50, wX5_branches_53, wX5_branches_54, wX5_branches_57, wX5_branches_59, wX5_branches_60, wX5_branches_61, wX5_branches_62, wX5_branches_63, wX5_branches_64, wX5_branches_65, wX5_branches_66, wX5_branches_67, wX5_branches_68, wX5_branches_71, wX5_branches_72, wX5_branches_73, wX5_branches_74, wX5_branches_75, wX5_branches_76, wX5_branches_79, wX5_branches_81, wX5_branches_82, wX5_branches_83, wX5_branches_84, wX5_branches_85, wX5_branches_86, wX5_branches_87, wX5_branches_90, wX5_branches_91, wX5_branches_92, wX5_branches_93, wX5_branches_94, wX5_branches_95, wX5_branches_98, wX5_branches_100, wX5_branches_101, wX5_branches_102, wX5_branches_103, wX5_branches_104, wX5_branches_105, wX5_branches_106, wX5_branches_109, wX5_branches_111, wX5_branches_112, wX5_branches_113, wX5_branches_116, wX5_branches_117, wX5_branches_120, wX5_branches_121, wX5_branches_124, wX5_branches_126, wX5_branches_127, wX5_branches_128, wX5_branches_129, wX5_branches_130, wX5_branches_131, wX5_branches_132, wX5_branches_133, wX5_branches_137, wX5_branches_138, wX5_branches_141, wX5_branches_142, wX5_branches_143, wX5_branches_146, wX5_branches_147, wX5_branches_150, wX5_branches_152, wX5_branches_153, wX5_branches_154, wX5_branches_155, wX5_branches_158, wX5_branches_160, wX5_branches_162, wX5_branches_163, wX5_branches_164, wX5_branches_165, wX5_branches_168, wX5_branches_169, wX5_branches_172, wX5_branches_173, wX5_branches_174, wX5_branches_175, wX5_branches_178, wX5_branches_181, wX5_branches_182, wX5_branches_183, wX5_branches_186, wX5_branches_188, wX5_branches_189, wX5_branches_191, wX5_branches_193, wX5_branches_195, wX5_branches_198, wX5_branches_199, wX5_branches_202, wX5_branches_204, wX5_branches_205, wX5_branches_206, wX5_branches_208, wX5_branches_209, wX5_branches_210, wX5_branches_213, wX5_branches_215, wX5_branches_216, wX5_branches_217, wX5_branches_220, wX5_branches_223, wX5_branches_224, wX5_branches_227, wX5_branches_229, wX5_branches_231, wX5_branches_232, wX5_branches_233, wX5_branches_234, wX5_branches_235, wX5_branches_236, wX5_branches_237, wX5_branches_238, wX5_branches_239, wX5_branches_242, wX5_branches_243, wX5_branches_245, wX5_branches_246, wX5_branches_247, wX5_branches_250, wX5_branches_251, wX5_branches_253, wX5_branches_255, wX5_branches_257, wX5_branches_260, wX5_branches_261, wX5_branches_264, wX5_branches_266, wX5_branches_267, wX5_branches_270, wX5_branches_272, wX5_branches_273, wX5_branches_274, wX5_branches_276, wX5_branches_277, wX5_branches_278, wX5_branches_279, wX5_branches_282, wX5_branches_285, wX5_branches_286, wX5_branches_289, wX5_branches_291, wX5_branches_293, wX5_branches_294, wX5_branches_295, wX5_branches_296, wX5_branches_297, wX5_branches_298, wX5_branches_299, wX5_branches_300, wX5_branches_301, wX5_branches_304, wX5_branches_305, wX5_branches_307, wX5_branches_309, wX5_branches_310, wX5_branches_311, wX5_branches_312, wX5_branches_315, if_true, if_false, ↓reduceIte, xpu_s, xpu_n, Option.bind_some, xk_i, xk_r, xk_0, xk_u, xk_l, xk_k, xk_q, rf_s, rf_n, HB_150, HB_152, HB_156, HB_157, HB_161, HB_162, HB_163, HBp_156, HBp_157, HBp_161, HBp_162, HBp_163, hb_r2 H, hb_r18 H, hb_r19 H, hb_r27 H, hb_r28 H, hb_r29 H, q_e1, q_e2, Nat.zero_add, Nat.reduceEqDiff, Nat.reduceAdd, Nat.reduceMul, Nat.reduceSub, Nat.reduceLT, Nat.reduceLeDiff, Nat.reduceDiv, Nat.reduceMod, up_s, nI_c, nI_add, up_ne, e1, e2, h39, nj]
      · show _ = (if w 39 = -1 then a.2.1 else va_up a.2.1 (w 39).toNatClampNeg (a.2.1 (w 39).toNatClampNeg + W)) k
        rw [if_neg (by rw [h39, nj]; exact fun y => y), h39, nI_clamp (by omega)]
        unfold va_up
        by_cases q : k = j
        · rw [if_pos q, if_pos q, C2 j (by omega)]
        · rw [if_neg q, if_neg q, C2 k hk]
  rcases h37 with e | e | e
  · exact key 0 (by omega) (by rw [e]; decide) (by rw [e]; decide)
  · exact key 1 (by omega) (by rw [e]; decide) (by rw [e]; decide)
  · exact key 2 (by omega) (by rw [e]; decide) (by rw [e]; decide)
/-- what stands is kept -/
def kpS (u kp : rI) (l k : Nat) : rI := fun j => if 42 * l ≤ j ∧ j < 42 * l + k then u (j - 42 * l) else kp j
theorem kpS_up {u kp : rI} {l k : Nat} : va_up (kpS u kp l k) (42 * l + k) (u k) = kpS u kp l (k + 1) := by
  funext j
  unfold va_up kpS
  by_cases q : j = 42 * l + k
  · rw [if_pos q, if_pos (show 42 * l ≤ j ∧ j < 42 * l + (k + 1) by omega), show j - 42 * l = k by omega]
  · rw [if_neg q]
    by_cases q2 : 42 * l ≤ j ∧ j < 42 * l + k
    · rw [if_pos q2, if_pos (show 42 * l ≤ j ∧ j < 42 * l + (k + 1) by omega)]
    · rw [if_neg q2, if_neg (show ¬ (42 * l ≤ j ∧ j < 42 * l + (k + 1)) by omega)]
theorem kpS_0 {u kp : rI} {l : Nat} : kpS u kp l 0 = kp := by
  funext j
  exact if_neg (show ¬ (42 * l ≤ j ∧ j < 42 * l + 0) by omega)
theorem br_keep (H : MOK h) {l : Nat} (hl : l < 12) {u : rI} {z : rI × rI × rI × rI} {kp : rI} {p b s : rL} {W : Int64} {c n : Int32} {s6 : Slot} : E_ d mX5_branches 188 [.val (.ref 150), .val (.int (nI l)), .val (.long W), .unset, .val (.int c), .val (.int n), s6] [] (HB h u z kp p b s) = E_ d mX5_branches 223 [.val (.ref 150), .val (.int (nI l)), .val (.long W), .unset, .val (.int c), .val (.int n), .val (.int (nI 42))] [] (HB h u z (kpS u kp l 42) p b s) := by
  have e0 : E_ d mX5_branches 188 [.val (.ref 150), .val (.int (nI l)), .val (.long W), .unset, .val (.int c), .val (.int n), s6] [] (HB h u z kp p b s) = E_ d mX5_branches 191 [.val (.ref 150), .val (.int (nI l)), .val (.long W), .unset, .val (.int c), .val (.int n), .val (.int (nI 0))] [] (HB h u z (kpS u kp l 0) p b s) := by
    rw [kpS_0]
    simp only [wX5_branches_188, wX5_branches_189, xk_i]
  rw [e0]
  refine (lp_go (n := 42) (F := fun k => E_ d mX5_branches 191 [.val (.ref 150), .val (.int (nI l)), .val (.long W), .unset, .val (.int c), .val (.int n), .val (.int (nI k))] [] (HB h u z (kpS u kp l k) p b s)) (fun k hk => ?_)).trans ?_
  · refine wX5_branches_191.trans ?_
    rw [← kpS_up]
    generalize kpS u kp l k = g
    simp (disch := first | first | exact mok_t (HB_ok H) rfl | exact nI_ne0 (by decide) (by decide) | exact m_x152 (HB_ok H) (by omega) | exact m_x156 (HB_ok H) (by omega) | exact m_x157 (HB_ok H) (by omega) | exact m_x161 (HB_ok H) (by omega) | exact m_x162 (HB_ok H) (by omega) | exact m_x163 (HB_ok H) (by omega) | omega) only [wX5_branches_193, wX5_branches_195, wX5_branches_198, wX5_branches_199, wX5_branches_202, wX5_branches_204, wX5_branches_205, wX5_branches_206, wX5_branches_208, wX5_branches_209, wX5_branches_210, wX5_branches_213, wX5_branches_215, wX5_branches_216, wX5_branches_217, wX5_branches_220, if_true, if_false, ↓reduceIte, xpu_s, xpu_n, Option.bind_some, xk_i, xk_r, xk_0, xk_u, xk_l, xk_k, xk_q, rf_s, rf_n, HB_150, HB_152, HB_156, HB_157, HB_161, HB_162, HB_163, HBp_156, HBp_157, HBp_161, HBp_162, HBp_163, hb_r2 H, hb_r18 H, hb_r19 H, hb_r27 H, hb_r28 H, hb_r29 H, q_e1, q_e2, Nat.zero_add, Nat.reduceEqDiff, Nat.reduceAdd, Nat.reduceMul, Nat.reduceSub, Nat.reduceLT, Nat.reduceLeDiff, Nat.reduceDiv, Nat.reduceMod, up_s, nI_c, nI_add, up_ne, nI_ltP, hk, pk_mul]
  · refine wX5_branches_191.trans ?_
    simp (disch := first | exact mok_t (HB_ok H) rfl | exact nI_ne0 (by decide) (by decide) | exact m_x152 (HB_ok H) (by omega) | exact m_x156 (HB_ok H) (by omega) | exact m_x157 (HB_ok H) (by omega) | exact m_x161 (HB_ok H) (by omega) | exact m_x162 (HB_ok H) (by omega) | exact m_x163 (HB_ok H) (by omega) | omega) only [wX5_branches_193, wX5_branches_195, if_true, if_false, ↓reduceIte, xpu_s, xpu_n, Option.bind_some, xk_i, xk_r, xk_0, xk_u, xk_l, xk_k, xk_q, rf_s, rf_n, HB_150, HB_152, HB_156, HB_157, HB_161, HB_162, HB_163, HBp_156, HBp_157, HBp_161, HBp_162, HBp_163, hb_r2 H, hb_r18 H, hb_r19 H, hb_r27 H, hb_r28 H, hb_r29 H, q_e1, q_e2, Nat.zero_add, Nat.reduceEqDiff, Nat.reduceAdd, Nat.reduceMul, Nat.reduceSub, Nat.reduceLT, Nat.reduceLeDiff, Nat.reduceDiv, Nat.reduceMod, up_s, nI_c, nI_add, up_ne, i_irr]
theorem br_back (H : MOK h) {l : Nat} (hl : l < 12) {u w : rI} {z : rI × rI × rI × rI} {kp : rI} {p b s : rL} {W : Int64} {c n : Int32} {s6 : Slot} (hk : ∀ k, k < 42 → kp (42 * l + k) = u k) (hw : ∀ j, 42 ≤ j → w j = u j) : E_ d mX5_branches 250 [.val (.ref 150), .val (.int (nI l)), .val (.long W), .unset, .val (.int c), .val (.int n), s6] [] (HB h w z kp p b s) = E_ d mX5_branches 285 [.val (.ref 150), .val (.int (nI l)), .val (.long W), .unset, .val (.int c), .val (.int n), .val (.int (nI 42))] [] (HB h u z kp p b s) := by
  have e0 : E_ d mX5_branches 250 [.val (.ref 150), .val (.int (nI l)), .val (.long W), .unset, .val (.int c), .val (.int n), s6] [] (HB h w z kp p b s) = E_ d mX5_branches 253 [.val (.ref 150), .val (.int (nI l)), .val (.long W), .unset, .val (.int c), .val (.int n), .val (.int (nI 0))] [] (HB h (fun j => if j < 0 then u j else w j) z kp p b s) := by
    rw [fill_0]
    simp only [wX5_branches_250, wX5_branches_251, xk_i]
  have e9 : u = fun j => if j < 42 then u j else w j := by
    funext j
    by_cases q : j < 42
    · rw [if_pos q]
    · rw [if_neg q, hw j (by omega)]
  rw [e0]
  refine (lp_go (n := 42) (F := fun k => E_ d mX5_branches 253 [.val (.ref 150), .val (.int (nI l)), .val (.long W), .unset, .val (.int c), .val (.int n), .val (.int (nI k))] [] (HB h (fun j => if j < k then u j else w j) z kp p b s)) (fun k hk2 => ?_)).trans ?_
  · refine wX5_branches_253.trans ?_
    have e1 := hk k hk2
    simp (disch := first | first | exact mok_t (HB_ok H) rfl | exact nI_ne0 (by decide) (by decide) | exact m_x152 (HB_ok H) (by omega) | exact m_x156 (HB_ok H) (by omega) | exact m_x157 (HB_ok H) (by omega) | exact m_x161 (HB_ok H) (by omega) | exact m_x162 (HB_ok H) (by omega) | exact m_x163 (HB_ok H) (by omega) | omega | rfl) only [wX5_branches_255, wX5_branches_257, wX5_branches_260, wX5_branches_261, wX5_branches_264, wX5_branches_266, wX5_branches_267, wX5_branches_270, wX5_branches_272, wX5_branches_273, wX5_branches_274, wX5_branches_276, wX5_branches_277, wX5_branches_278, wX5_branches_279, wX5_branches_282, if_true, if_false, ↓reduceIte, xpu_s, xpu_n, Option.bind_some, xk_i, xk_r, xk_0, xk_u, xk_l, xk_k, xk_q, rf_s, rf_n, HB_150, HB_152, HB_156, HB_157, HB_161, HB_162, HB_163, HBp_156, HBp_157, HBp_161, HBp_162, HBp_163, hb_r2 H, hb_r18 H, hb_r19 H, hb_r27 H, hb_r28 H, hb_r29 H, q_e1, q_e2, Nat.zero_add, Nat.reduceEqDiff, Nat.reduceAdd, Nat.reduceMul, Nat.reduceSub, Nat.reduceLT, Nat.reduceLeDiff, Nat.reduceDiv, Nat.reduceMod, up_s, nI_c, nI_add, up_ne, nI_ltP, hk2, pk_mul, e1, up_fill]
  · refine wX5_branches_253.trans ?_
    show E_ d mX5_branches 255 _ _ (HB h (fun j => if j < 42 then u j else w j) z kp p b s) = _
    rw [← e9]
    simp (disch := first | exact mok_t (HB_ok H) rfl | exact nI_ne0 (by decide) (by decide) | exact m_x152 (HB_ok H) (by omega) | exact m_x156 (HB_ok H) (by omega) | exact m_x157 (HB_ok H) (by omega) | exact m_x161 (HB_ok H) (by omega) | exact m_x162 (HB_ok H) (by omega) | exact m_x163 (HB_ok H) (by omega) | omega) only [wX5_branches_255, wX5_branches_257, if_true, if_false, ↓reduceIte, xpu_s, xpu_n, Option.bind_some, xk_i, xk_r, xk_0, xk_u, xk_l, xk_k, xk_q, rf_s, rf_n, HB_150, HB_152, HB_156, HB_157, HB_161, HB_162, HB_163, HBp_156, HBp_157, HBp_161, HBp_162, HBp_163, hb_r2 H, hb_r18 H, hb_r19 H, hb_r27 H, hb_r28 H, hb_r29 H, q_e1, q_e2, Nat.zero_add, Nat.reduceEqDiff, Nat.reduceAdd, Nat.reduceMul, Nat.reduceSub, Nat.reduceLT, Nat.reduceLeDiff, Nat.reduceDiv, Nat.reduceMod, up_s, nI_c, nI_add, up_ne, i_irr]
end
