/-! A SCENE without one car -/
section
variable {d : Nat} {h h1 h2 : xH} {P : sS} {A B : rI} {x : Int32} {ow : Nat → Nat} {s cc l k n t : Nat} {w : rI}
def ec (A : rI) (c : Nat) : rI := fun i => if i = 1 then nI (sN A - 1) else if 2 ≤ i ∧ i < 34 then A (2 + (i - 2) / 8 * 8 + sk c ((i - 2) % 8)) else A i
theorem ec_lo {i : Nat} (h : i = 0 ∨ 34 ≤ i) : ec A k i = A i := by
  unfold ec
  rw [if_neg (by omega), if_neg (by omega)]
theorem ec_n (hn : sN A ≤ 8) : sN (ec A k) = sN A - 1 := by
  show (ec A k 1).toNatClampNeg = _
  unfold ec
  rw [if_pos rfl]
  exact nI_clamp (by omega)
theorem ec_at {b j : Nat} (hb : b = 2 ∨ b = 10 ∨ b = 18 ∨ b = 26) (hj : j < 8) : ec A k (b + j) = A (b + sk k j) := by
  unfold ec
  rw [if_neg (by omega), if_pos (by omega)]
  have e1 : 2 + (b + j - 2) / 8 * 8 = b := by rcases hb with rfl | rfl | rfl | rfl <;> omega
  have e2 : (b + j - 2) % 8 = j := by rcases hb with rfl | rfl | rfl | rfl <;> omega
  rw [e1, e2]
theorem WFs_ec (W : WFs A) (hk : k < sN A) : WFs (ec A k) := by
  have en := ec_n (A := A) (k := k) W.2.1
  have el : sL (ec A k) = sL A := by unfold sL; rw [ec_lo (by omega)]
  obtain ⟨w1, w2, w3, w4, w5, w6, w7, w8, w9, w10⟩ := W
  unfold WFs
  rw [en, el, ec_lo (i := 0) (by omega), ec_lo (i := 34) (by omega), ec_lo (i := 35) (by omega), ec_lo (i := 36) (by omega), ec_lo (i := 37) (by omega), ec_lo (i := 38) (by omega), ec_lo (i := 39) (by omega)]
  refine ⟨?_, by omega, w3, w4, w5, fun c hc => ?_, fun c hc => ?_, fun c hc => ?_, fun c hc => ?_, w10⟩
  · unfold ec
    rw [if_pos rfl]
  · rw [ec_at (by omega) (by omega)]; exact w6 _ (sk_lt hk hc)
  · rw [ec_at (by omega) (by omega)]; exact w7 _ (sk_lt hk hc)
  · rw [ec_at (by omega) (by omega)]; exact w8 _ (sk_lt hk hc)
  · rw [ec_at (by omega) (by omega)]; exact w9 _ (sk_lt hk hc)
theorem RA_ec (W : WFs A) (hk : k < sN A) : RA (sk k) A (ec A k) := by
  have en := ec_n (A := A) (k := k) W.2.1
  have w2 := W.2.1
  refine ⟨W.2.1, fun c hc => sk_lt hk (by omega), fun j c h1 h2 => by unfold sk; split <;> split <;> omega, fun c hc => ?_, ?_, ?_, ?_, ?_, ?_, ?_⟩
  · rw [ec_at (by omega) (by omega), ec_at (by omega) (by omega)]; exact ⟨rfl, rfl⟩
  all_goals rw [ec_lo (by omega)]
theorem RW_ec {u : rI} (W : WFs A) (hk : k < sN A) : RW (sk k) A (ec A k) (sBg A w (nI k) (nI 0)) (sBg (ec A k) u (-1) (nI 0)) := by
  have en := ec_n (A := A) (k := k) W.2.1
  have w2 := W.2.1
  have eB : ∀ j, j < 8 → sBp A (sk k j) = sBp (ec A k) j := fun j hj => by
    unfold sBp sT
    rw [ec_lo (i := 34) (by omega), ec_at (b := 18) (by omega) hj]
  have z : ∀ j, 16 ≤ j → j < 39 → sBg A w (nI k) (nI 0) j = sBg (ec A k) u (-1) (nI 0) j := fun j h1 h2 => by
    rw [sBg_at w2 h1 (by omega) (by omega) (by omega), sBg_at (by omega) h1 (by omega) (by omega) (by omega)]
  have lo : ∀ {C v : rI} {m : Int32} {j : Nat}, j < sN C → sN C ≤ 8 → sBg C v m (nI 0) j = if nI j = m then nI 0 else C (10 + j) := fun {C v m j} h1 h2 => by
    unfold sBg
    rw [up_ne (by omega), up_ne (by omega)]
    unfold sB0
    rw [if_pos h1]
  have hi : ∀ {C v : rI} {m : Int32} {j : Nat}, j < sN C → sN C ≤ 8 → sBg C v m (nI 0) (8 + j) = sBp C j := fun {C v m j} h1 h2 => by
    unfold sBg
    rw [up_ne (by omega), up_ne (by omega)]
    unfold sB0
    rw [if_neg (by omega), if_pos (by omega)]
    congr 1
    omega
  refine ⟨fun c hc => ?_, fun c hc hx => ?_, z 32 (by omega) (by omega), z 33 (by omega) (by omega), z 34 (by omega) (by omega), z 35 (by omega) (by omega), z 36 (by omega) (by omega), z 37 (by omega) (by omega), z 38 (by omega) (by omega)⟩
  · have lt := sk_lt hk (show c < sN A - 1 by omega)
    have ne : ¬ sk k c = k := by unfold sk; split <;> omega
    refine ⟨?_, ?_, ?_, ?_⟩
    · rw [lo lt w2, lo hc (by omega), if_neg (fun y => ne ((nI_eq (by omega) (by omega)).mp y)), if_neg (by rw [nI_nm1 (by omega)]; exact fun y => y), ec_at (by omega) (by omega)]
    · rw [hi lt w2, hi hc (by omega)]; exact eB c (by omega)
    · rw [sBg_at w2 (by omega) (by omega) (by omega) (by omega), sBg_at (by omega) (by omega) (by omega) (by omega) (by omega)]
    · rw [sBg_at w2 (by omega) (by omega) (by omega) (by omega), sBg_at (by omega) (by omega) (by omega) (by omega) (by omega)]
  · have : c = k := by
      rcases Nat.lt_trichotomy c k with z | z | z
      · exact absurd (by unfold sk; rw [if_pos z]) (hx c (by omega))
      · exact z
      · exact absurd (by unfold sk; rw [if_neg (by omega)]; omega) (hx (c - 1) (by omega))
    subst this
    rw [lo hc w2, if_pos rfl]
    decide
/-- odds without a car, both ways told -/
theorem sOd_ec {u : rI} {j : Nat} (W : WFs A) (WL : WFl A) (hk : k < sN A) (hj : j < 5) : (sOd A w (-1) (nI k)).1 j = lN 100 * (sOd (ec A k) u (-1) (-1)).1 j := by
  have w2 := W.2.1
  have en := ec_n (A := A) (k := k) W.2.1
  have ra := RA_ec W hk
  have ul := ud_le (n := sN (ec A k)) (w := sBg (ec A k) u (-1) (nI 0))
  have e : 100 ^ sN A = 100 * 100 ^ sN (ec A k) := by
    rw [en, Nat.mul_comm, ← Nat.pow_succ]
    congr 1
    omega
  have g := sBr_i (K := 100) ra (HS_same (wl := -1) ra WL (fun i h1 h2 => (ec_lo (by omega)).symm)) 108 _ _ 0 0 (100 ^ sN (ec A k)) aC0 aC0 (RW_ec (w := w) (u := u) W hk) (sBg_at w2 (by omega) (by omega) (by omega) (by omega)) (sBg_at (by omega) (by omega) (by omega) (by omega) (by omega)) (Nat.zero_le _) (Nat.zero_le _) ⟨fun k hk => by omega, fun k _ _ => Nat.zero_le _⟩ (Nat.pow_dvd_pow 100 ul) (fun j _ => by show (0 : Int64) = lN 100 * 0; rw [Int64.mul_zero]) j hj
  rw [← e] at g
  exact g
def q_absent (P : sS) (x : Int32) : sV := bif wi x (nI 0) (pA P 1 - nI 1) then vl P ((sOd (pA P) (fun _ => nI 0) (-1) x).1 1 - (sOd (pA P) (fun _ => nI 0) (-1) (-1)).1 1) else nl P (-2)
theorem nX5_absent (M : MR h P) (W : WF P) : MG (d + 15) h mX5_absent [.ref 150, .int x] (q_absent P x) := by
  obtain ⟨H, m152, m154, m151, m153, m167, m168, m169, m6, m16, m17, m21, m22⟩ := id M
  have no := fun k : Int32 => nX5_no (d := d + 14) k M
  have ic := kX5_isCar (d := d + 13) (h := R0 h) (x := x) H
  rw [R0_r (by decide), m152] at ic
  unfold q_absent
  cases h1 : wi x (nI 0) (pA P 1 - nI 1) with
  | false =>
    refine MG_nl M ?_
    simp (disch := first | with_unfolding_all exact id (mok_t H rfl) | exact Or.inr (by with_unfolding_all exact mok_t H rfl) | exact nI_ne0 (by decide) (by decide) | with_unfolding_all exact id (m_x152 H (by omega)) | with_unfolding_all exact id (m_x156 H (by omega)) | with_unfolding_all exact id (m_x158 H (by omega)) | with_unfolding_all exact id (m_x159 H (by omega)) | with_unfolding_all exact id (m_x160 H (by omega)) | exact zb_01 | exact Or.inl rfl | exact Or.inr rfl | omega) only [wX5_absent_e, wX5_absent_0, wX5_absent_1, wX5_absent_2, wX5_absent_5, wX5_absent_6, wX5_absent_7, wX5_absent_10, wX5_absent_13, wX5_absent_14, wX5_absent_16, wX5_absent_19, wX5_absent_20, wX5_absent_21, wX5_absent_22, wX5_absent_23, wX5_absent_26, wX5_absent_27, wX5_absent_30, wX5_absent_31, wX5_absent_34, wX5_absent_35, wX5_absent_36, wX5_absent_37, wX5_absent_38, wX5_absent_39, wX5_absent_42, wX5_absent_43, wX5_absent_46, wX5_absent_47, wX5_absent_48, wX5_absent_51, wX5_absent_52, wX5_absent_53, wX5_absent_54, if_true, if_false, ↓reduceIte, xpu_s, xpu_n, Option.bind_some, xk_i, xk_r, xk_0, xk_u, xk_l, xk_k, xk_q, rf_s, rf_n, R0_p, R0_L, R0_T, R0_N, R0_R, R0_r, R0_6, o_TI, o_TL, o_TR, o_NI, o_NL, o_NR, o_XI, o_XL, o_XR, o_RI, o_RL, o_LI, o_LR, o_IL, o_IR, o_II, o_LL, o_RR, o_pII, o_pLL, up_s, q_e1, q_e2, Nat.zero_add, Nat.reduceEqDiff, Nat.reduceAdd, Nat.reduceMul, Nat.reduceSub, Nat.reduceLT, Nat.reduceLeDiff, Nat.reduceDiv, Nat.reduceMod, m_r1 H, m_r2 H, m_r3 H, m_r4 H, m_r5 H, m_r18 H, m_r19 H, m_r20 H, m_r24 H, m_r25 H, m_r27 H, m_r28 H, m_r29 H, m_r30 H, m_r31 H, m_r32 H, m_r33 H, m_r34 H, m_r35 H, m_n150 H, m_n151 H, m_n152 H, m_n153 H, m_n154 H, m_n155 H, m_n156 H, m_n157 H, m_n158 H, m_n159 H, m_n160 H, m_n161 H, m_n162 H, m_n163 H, m_n164 H, m_n165 H, m_n166 H, m_n167 H, m_n168 H, m_n169 H, nI_c, nI_add, up_ne, kX5_within, l6a_0, l6b_0, l6a_1, l6b_1, l6a_2, l6b_2, l6a_3, l6b_3, l6a_4, l6b_4, l6a_5, l6b_5, l6a_7, l6b_7, l6a_20, l6b_20, l6a_30, l6b_30, l6a_39, l6b_39, l6a_40, l6b_40, l6a_60, l6b_60, l6a_99, l6b_99, l6a_100, l6b_100, l6a_200, l6b_200, l6a_300, l6b_300, l6a_600, l6b_600, l6a_999, l6b_999, l6a_1000, l6b_1000, l6a_9999, l6b_9999, l6a_1000000, l6b_1000000, l6a_12, l6b_12, l64_xx, wi_d, one_ne0, zb_0, not_true_eq_false, not_false_eq_true, and_self, and_true, true_and, and_false, false_and, or_true, true_or, or_false, false_or, decide_true, decide_false, zb_t, zb_f, zb_0, zb_1, eq_self, cond_true, cond_false, Bool.true_eq_false, Bool.false_eq_true, Bool.and_true, Bool.true_and, Bool.and_false, Bool.false_and, Bool.or_true, Bool.true_or, Bool.or_false, Bool.false_or, no, ic, h1]
  | true =>
    have hn := W.1.1.2.1
    obtain ⟨k, hk, rfl⟩ := wi_car W.1.1.1 (by omega) h1
    obtain ⟨g, hg⟩ : ∃ g, g = pI (R0 h) 150 (va_up (oI (R0 h) 150) 22 (nI k)) := ⟨_, rfl⟩
    have Hg : MOK g := by rw [hg]; exact H
    have g152 : oI g 152 = pA P := by rw [hg]; exact m152
    have g22 : oI g 150 22 = nI k := by rw [hg, o_II, if_pos rfl, up_s]
    have g21 : oI g 150 21 = -1 := by rw [hg, o_II, if_pos rfl, up_ne (by omega), R0_6 (by omega)]; exact m21
    obtain ⟨h2, e2, w2, C2⟩ := kW_worksOdds (d := d) Hg (by rw [g152]; exact W.1.1) (by rw [g152]; exact W.1.2.1)
    rw [g152, g21, g22] at C2
    have v2 := (C2.1 1 (by omega)).trans (sOd_w (u := fun _ => nI 0) W.1.1 W.1.2.1 (by omega))
    obtain ⟨w21, w22, w23, w24⟩ := w2
    have kg : KX (R0 h) g := by rw [hg]; exact KX_I KX_refl (by omega) (by omega)
    have M3 : MR (pI h2 150 (va_up (oI h2 150) 22 (-1))) P := by
      obtain ⟨H', a1, a2, a3, a4, a5, a6, a7, a8, a9, a10, a11, a12⟩ := MR_0 M
      have gi : ∀ a, a ≠ 150 → oI g a = oI (R0 h) a := fun a ha => by rw [hg, o_II, if_neg ha]
      have gj : ∀ j, j ≠ 22 → oI g 150 j = oI (R0 h) 150 j := fun j hj => by rw [hg, o_II, if_pos rfl, up_ne hj]
      have i2 : ∀ a, 150 < a → ¬ (156 ≤ a ∧ a ≤ 163) → oI (pI h2 150 (va_up (oI h2 150) 22 (-1))) a = oI (R0 h) a := fun a q1 q2 => by
        rw [o_II, if_neg (by omega), w22 a q1 q2, gi a (by omega)]
      have j2 : ∀ j, j ≠ 22 → j ≠ 23 → j ≠ 26 → oI (pI h2 150 (va_up (oI h2 150) 22 (-1))) 150 j = oI (R0 h) 150 j := fun j q1 q2 q3 => by
        rw [o_II, if_pos rfl, up_ne q1, w24 j q2 q3, gj j q1]
      refine ⟨(show MOK h2 from MOK_KX w21 Hg), ?_⟩
      rw [i2 152 (by omega) (by omega), i2 154 (by omega) (by omega), i2 151 (by omega) (by omega), i2 153 (by omega) (by omega), i2 167 (by omega) (by omega), i2 168 (by omega) (by omega), j2 6 (by omega) (by omega) (by omega), j2 16 (by omega) (by omega) (by omega), j2 17 (by omega) (by omega) (by omega), j2 21 (by omega) (by omega) (by omega)]
      refine ⟨a1, a2, a3, a4, a5, a6, ?_, a8, a9, a10, a11, ?_⟩
      · show oL h2 169 = _
        rw [w23, hg]
        exact a7
      · rw [o_II, if_pos rfl, up_s]
    obtain ⟨h3, e3, M4, k4, C4⟩ := nX5_worksOdds (d := d) M3 W
    have v3 := (C4.1 1 (by omega)).trans (sOd_w (u := fun _ => nI 0) W.1.1 W.1.2.1 (by omega))
    have H2 : MOK h2 := MOK_KX w21 Hg
    have H3 := M4.1
    have t7 : oT h2 150 = 7 := mok_t H2 rfl
    have t7b : oT (pI h2 150 (va_up (oI h2 150) 22 (-1))) 150 = 7 := t7
    have t70 : oT g 150 = 7 := mok_t Hg rfl
    have t73 : oT h3 150 = 7 := mok_t H3 rfl
    have r2 := m_r27 H2
    have r3 := m_r27 H3
    have y2 : xix (nI 1) (oN h2 161) = true := m_x161 H2 (by omega)
    have y3 : xix (nI 1) (oN h3 161) = true := m_x161 H3 (by omega)
    have u2 : oT h2 161 = 44 := mok_t H2 rfl
    have u3 : oT h3 161 = 44 := mok_t H3 rfl
    refine MG_of ?_ M4 (KX_trans (KX_I (KX_trans kg w21) (by omega) (by omega)) k4)
    rw [hg] at e2 t70
    simp (disch := first | assumption | first | with_unfolding_all exact id (mok_t H rfl) | exact Or.inr (by with_unfolding_all exact mok_t H rfl) | exact nI_ne0 (by decide) (by decide) | with_unfolding_all exact id (m_x152 H (by omega)) | with_unfolding_all exact id (m_x156 H (by omega)) | with_unfolding_all exact id (m_x158 H (by omega)) | with_unfolding_all exact id (m_x159 H (by omega)) | with_unfolding_all exact id (m_x160 H (by omega)) | exact zb_01 | exact Or.inl rfl | exact Or.inr rfl | omega) only [wX5_absent_e, wX5_absent_0, wX5_absent_1, wX5_absent_2, wX5_absent_5, wX5_absent_6, wX5_absent_7, wX5_absent_10, wX5_absent_13, wX5_absent_14, wX5_absent_16, wX5_absent_19, wX5_absent_20, wX5_absent_21, wX5_absent_22, wX5_absent_23, wX5_absent_26, wX5_absent_27, wX5_absent_30, wX5_absent_31, wX5_absent_34, wX5_absent_35, wX5_absent_36, wX5_absent_37, wX5_absent_38, wX5_absent_39, wX5_absent_42, wX5_absent_43, wX5_absent_46, wX5_absent_47, wX5_absent_48, wX5_absent_51, wX5_absent_52, wX5_absent_53, wX5_absent_54, if_true, if_false, ↓reduceIte, xpu_s, xpu_n, Option.bind_some, xk_i, xk_r, xk_0, xk_u, xk_l, xk_k, xk_q, rf_s, rf_n, R0_p, R0_T, R0_N, R0_R, R0_r, q_e1, q_e2, Nat.zero_add, Nat.reduceEqDiff, Nat.reduceAdd, Nat.reduceMul, Nat.reduceSub, Nat.reduceLT, Nat.reduceLeDiff, Nat.reduceDiv, Nat.reduceMod, m_r1 H, m_r2 H, m_r3 H, m_r4 H, m_r5 H, m_r18 H, m_r19 H, m_r20 H, m_r24 H, m_r25 H, m_r27 H, m_r28 H, m_r29 H, m_r30 H, m_r31 H, m_r32 H, m_r33 H, m_r34 H, m_r35 H, m_n150 H, m_n151 H, m_n152 H, m_n153 H, m_n154 H, m_n155 H, m_n156 H, m_n157 H, m_n158 H, m_n159 H, m_n160 H, m_n161 H, m_n162 H, m_n163 H, m_n164 H, m_n165 H, m_n166 H, m_n167 H, m_n168 H, m_n169 H, nI_c, kX5_within, l6a_0, l6b_0, l6a_1, l6b_1, l6a_2, l6b_2, l6a_3, l6b_3, l6a_4, l6b_4, l6a_5, l6b_5, l6a_7, l6b_7, l6a_20, l6b_20, l6a_30, l6b_30, l6a_39, l6b_39, l6a_40, l6b_40, l6a_60, l6b_60, l6a_99, l6b_99, l6a_100, l6b_100, l6a_200, l6b_200, l6a_300, l6b_300, l6a_600, l6b_600, l6a_999, l6b_999, l6a_1000, l6b_1000, l6a_9999, l6b_9999, l6a_1000000, l6b_1000000, l6a_12, l6b_12, l64_xx, wi_d, one_ne0, zb_0, not_true_eq_false, not_false_eq_true, and_self, and_true, true_and, and_false, false_and, or_true, true_or, or_false, false_or, decide_true, decide_false, zb_t, zb_f, zb_0, zb_1, eq_self, cond_true, cond_false, Bool.true_eq_false, Bool.false_eq_true, Bool.and_true, Bool.true_and, Bool.and_false, Bool.false_and, Bool.or_true, Bool.true_or, Bool.or_false, Bool.false_or, m152, no, ic, h1, e2, e3, r2, r3, v2, v3]
end
