/-! CALLS of the component: a car that is not there -/
section
variable {d : Nat} {h h1 h2 : xH} {P : sS} {A B : rI} {x : Int32} {ow : Nat → Nat} {s cc c l k n t : Nat} {w : rI}
/-- a copy of the scene, one car removed -/
theorem SC_ec {o r : Nat} (S : SCo h o A) (W : WFs A) (hk : k < sN A) (r0 : rq h o 0 = r) (G : LG h1 r (sN A - 1) 9) (el : ∀ j, j < sN A - 1 → li h1 r j = li h r (sk k j)) (so : sm h h1 o) (sc_ : ∀ j, j < sN A → sm h h1 (sc h o j)) : SCo h1 o (ec A k) := by
  obtain ⟨c1, c2, c3, c4, c5, c6, c7, c8, c9, c10, c11⟩ := S
  have w2 := W.2.1
  have en := ec_n (A := A) (k := k) w2
  have e0 := (rq_m (j := 0) so).trans r0
  unfold SCo
  rw [en, e0, so.1, so.2.2.1, so.2.2.2.1, ec_lo (i := 0) (by omega), ec_lo (i := 34) (by omega), ec_lo (i := 35) (by omega), ec_lo (i := 36) (by omega), ec_lo (i := 37) (by omega), ec_lo (i := 38) (by omega), ec_lo (i := 39) (by omega)]
  rw [r0] at c9
  refine ⟨c1, c2, c3, c4, c5, c6, c7, c8, c9, G.1, fun j hj => ?_⟩
  have lt := sk_lt hk hj
  have e1 : sc h1 o j = sc h o (sk k j) := by
    unfold sc
    rw [e0, r0, el j hj]
  rw [e1]
  have v := c11 _ lt
  have z := sc_ _ lt
  unfold CAo at *
  rw [z.1, z.2.2.1, ec_at (by omega) (by omega), ec_at (by omega) (by omega), ec_at (by omega) (by omega), ec_at (by omega) (by omega)]
  exact v
theorem nX0_absent (X : XR h P) (W : WF P) : XG (d + 217) h mX0_absent [.ref 64, .int x] (q_absent P x) := by
  obtain ⟨ow, s, cc, l, E⟩ := XE_of X
  have T := E.1.1
  have no := fun k : Int32 => kX0_no (d := d + 216) T (k := k)
  have x1 := E.2.1.1
  have x2 := E.2.1.2.1
  have x3 := E.2.1.2.2.1
  have hc := E.2.2.1
  have ic := kX0_isCar (d := d + 215) (x := x) E.2.1 hc E.2.2.2.1
  rw [← W.1.1.1] at ic
  unfold q_absent
  cases hx : wi x (nI 0) (pA P 1 - nI 1) with
  | false =>
    refine XG_nl X ?_
    simp (disch := first | assumption | exact nI_ne0 (by decide) (by decide) | exact zb_01 | exact Or.inl rfl | exact Or.inr rfl | with_unfolding_all exact id (by assumption) | with_unfolding_all exact id (xix_8 (by assumption) (by omega) (by omega)) | omega) only [wX0_absent_e, wX0_absent_0, wX0_absent_1, wX0_absent_2, wX0_absent_5, wX0_absent_8, wX0_absent_9, wX0_absent_11, wX0_absent_14, wX0_absent_15, wX0_absent_16, wX0_absent_17, wX0_absent_18, wX0_absent_21, wX0_absent_24, wX0_absent_27, wX0_absent_28, wX0_absent_31, wX0_absent_32, wX0_absent_33, wX0_absent_34, wX0_absent_35, wX0_absent_38, wX0_absent_41, wX0_absent_44, wX0_absent_46, wX0_absent_48, wX0_absent_51, wX0_absent_52, wX0_absent_55, wX0_absent_56, wX0_absent_57, wX0_absent_59, wX0_absent_62, wX0_absent_65, wX0_absent_66, wX0_absent_69, wX0_absent_70, wX0_absent_71, wX0_absent_72, wX0_absent_73, wX0_absent_74, if_true, if_false, ↓reduceIte, xpu_s, xpu_n, Option.bind_some, xk_i, xk_r, xk_0, xk_u, xk_l, xk_k, xk_q, rf_s, rf_n, o_TI, o_TL, o_TR, o_NI, o_NL, o_NR, o_XI, o_XL, o_XR, o_RI, o_RL, o_LI, o_LR, o_IL, o_IR, o_II, o_LL, o_RR, o_pII, o_pLL, up_s, q_e1, q_e2, Nat.zero_add, Nat.reduceEqDiff, Nat.reduceAdd, Nat.reduceMul, Nat.reduceSub, Nat.reduceLT, Nat.reduceLeDiff, Nat.reduceDiv, Nat.reduceMod, nI_c, nI_add, up_ne, kX0_in, l6a_0, l6b_0, l6a_1, l6b_1, l6a_2, l6b_2, l6a_3, l6b_3, l6a_4, l6b_4, l6a_5, l6b_5, l6a_7, l6b_7, l6a_20, l6b_20, l6a_30, l6b_30, l6a_39, l6b_39, l6a_40, l6b_40, l6a_60, l6b_60, l6a_99, l6b_99, l6a_100, l6b_100, l6a_200, l6b_200, l6a_300, l6b_300, l6a_600, l6b_600, l6a_999, l6b_999, l6a_1000, l6b_1000, l6a_9999, l6b_9999, l6a_1000000, l6b_1000000, l6a_12, l6b_12, l64_xx, wi_d, one_ne0, zb_0, not_true_eq_false, not_false_eq_true, and_self, and_true, true_and, and_false, false_and, or_true, true_or, or_false, false_or, decide_true, decide_false, zb_t, zb_f, zb_0, zb_1, eq_self, cond_true, cond_false, Bool.true_eq_false, Bool.false_eq_true, Bool.and_true, Bool.true_and, Bool.and_false, Bool.false_and, Bool.or_true, Bool.true_or, Bool.or_false, Bool.false_or, nx_2, nx_3, nx_5, nx_6, nx_7, nx_f, nx_s, nx_w, ns_2, ns_3, ns_5, ns_6, ns_7, no, ic, hx]
  | true =>
    have W2 := W.1.1.2.1
    obtain ⟨k, hk, rfl⟩ := wi_car W.1.1.1 (by omega) hx
    obtain ⟨g1, e1, E1, k1, oc1, os1, v1, -, -⟩ := XB_gathers (d := d) E W
    have E10 := E1
    obtain ⟨X1, ⟨y1, y2, y3, y4⟩, hc1, S1, L1, wc1⟩ := E10
    have TX1 := XR_TX X1
    have P1 := X1.1.1
    have p3 := P1.2.2.1
    have p6 := P1.2.2.2.2.2.1
    have p9 := P1.2.2.2.2.2.2.2.2.1
    have n1 : oL g1 140 1 = (sOd (pA P) (fun _ => nI 0) (-1) (-1)).1 1 := (v1 _).1 1 (by omega)
    -- the copy, and the car taken out
    obtain ⟨z, ez, Sz, rz, Gz, lz, gz, q1, q2, q3⟩ := kX2_copy (d := d + 206) TX1 S1 W2
    have TZ := TX_G TX1 gz
    obtain ⟨z', r, er, G', el, rq', gx', ox'⟩ := kJ2_remove (d := d + 212) TZ Gz (by omega) (by omega) hk
    have gxx : GX (fun _ => False) g1 z' 20 500 := GX_le (GX_trans gz gx' (fun a ha y => by rcases y with y | y <;> omega)) (by omega) (by omega)
    obtain ⟨E2, k2⟩ := XE_GX E1 gxx
    have x170 := X1.2.2.2.2.2.2.2.2.2.2.1
    have sz' : ∀ a, ¬ a = oX g1 + 1 → ¬ a = rq z (oX g1 + 1) 1 → a < oX z → sm z z' a := fun a h1 h2 h3 => gx'.2.2.2.2.2 a h3 (fun y => by rcases y with y | y <;> omega)
    have so : sm z z' (oX g1) := sz' _ (by omega) (by omega) (by omega)
    have S2 : SCo z' (oX g1) (ec (pA P) k) := by
      refine SC_ec Sz W.1.1 hk rz G' el so (fun j hj => ?_)
      have e9 := (Sz.2.2.2.2.2.2.2.2.2.2 j hj).1
      have t4 := Gz.1.1
      have t45 := Gz.1.2.2.2.1
      exact sz' _ (fun y => by rw [y] at e9; omega) (fun y => by rw [y] at e9; omega) (TX_lt TZ (by rw [e9]; decide))
    have L2 : LWo z' l (ec (pA P) k) := LW_A (fun i h1 h2 => ec_lo (by omega)) W.1.2.1 E2.2.2.2.2.1
    have F2 : FE z' (oX g1) s l (ec (pA P) k) := XB_FE E2.1 E2.2.1 S2 L2
    obtain ⟨g3, e3, f3, v3⟩ := kX0_gathers (d := d) (WFs_ec W.1.1 hk) (WFl_A (fun i h1 h2 => ec_lo (by omega)) W.1.2.1) F2
    obtain ⟨X3, k3, oc3, os3⟩ := XR_FG E2.1 f3
    have P3 := X3.1.1
    have u6 := P3.2.2.2.2.2.1
    have u9 := P3.2.2.2.2.2.2.2.2.1
    have u3 := P3.2.2.1
    have n3 : oL g3 140 1 = (sOd (ec (pA P) k) (fun _ => nI 0) (-1) (-1)).1 1 := (v3 _).1 1 (by omega)
    have z1 : oT z 64 = 1 := by rw [(gz.2.2.2.2.2 64 (by omega) (fun y => y)).1]; exact y1
    have z1' : oT z' 64 = 1 := E2.2.1.1
    have w1 : oT g3 64 = 1 := X3.1.1.1
    have tO : oT z (oX g1) = 3 := Sz.1
    have rO : oR z (oX g1) 0 = some (oX g1 + 1) := by rw [Sz.2.2.2.2.2.2.2.2.1, rz]
    have tL : oT z (oX g1 + 1) = 4 := Gz.1.1
    have tc : oT g1 cc = 3 := S1.1
    have tk : C_ (d + 217) mX0_absent [.ref 64, .int (nI k)] h = some (some (.long (100 * (sOd (ec (pA P) k) (fun _ => nI 0) (-1) (-1)).1 1 - (sOd (pA P) (fun _ => nI 0) (-1) (-1)).1 1)), g3) := by
      simp (disch := first | exact xix_8 p9 (by omega) (by omega) | exact xix_8 u9 (by omega) (by omega) | first | assumption | exact nI_ne0 (by decide) (by decide) | exact zb_01 | exact Or.inl rfl | exact Or.inr rfl | with_unfolding_all exact id (by assumption) | with_unfolding_all exact id (xix_8 (by assumption) (by omega) (by omega)) | omega) only [wX0_absent_e, wX0_absent_0, wX0_absent_1, wX0_absent_2, wX0_absent_5, wX0_absent_8, wX0_absent_9, wX0_absent_11, wX0_absent_14, wX0_absent_15, wX0_absent_16, wX0_absent_17, wX0_absent_18, wX0_absent_21, wX0_absent_24, wX0_absent_27, wX0_absent_28, wX0_absent_31, wX0_absent_32, wX0_absent_33, wX0_absent_34, wX0_absent_35, wX0_absent_38, wX0_absent_41, wX0_absent_44, wX0_absent_46, wX0_absent_48, wX0_absent_51, wX0_absent_52, wX0_absent_55, wX0_absent_56, wX0_absent_57, wX0_absent_59, wX0_absent_62, wX0_absent_65, wX0_absent_66, wX0_absent_69, wX0_absent_70, wX0_absent_71, wX0_absent_72, wX0_absent_73, wX0_absent_74, if_true, if_false, ↓reduceIte, xpu_s, xpu_n, Option.bind_some, xk_i, xk_r, xk_0, xk_u, xk_l, xk_k, xk_q, rf_s, rf_n, o_TI, o_TL, o_TR, o_NI, o_NL, o_NR, o_XI, o_XL, o_XR, o_RI, o_RL, o_LI, o_LR, o_IL, o_IR, o_II, o_LL, o_RR, o_pII, o_pLL, up_s, q_e1, q_e2, Nat.zero_add, Nat.reduceEqDiff, Nat.reduceAdd, Nat.reduceMul, Nat.reduceSub, Nat.reduceLT, Nat.reduceLeDiff, Nat.reduceDiv, Nat.reduceMod, nI_c, nI_add, up_ne, kX0_in, l6a_0, l6b_0, l6a_1, l6b_1, l6a_2, l6b_2, l6a_3, l6b_3, l6a_4, l6b_4, l6a_5, l6b_5, l6a_7, l6b_7, l6a_20, l6b_20, l6a_30, l6b_30, l6a_39, l6b_39, l6a_40, l6b_40, l6a_60, l6b_60, l6a_99, l6b_99, l6a_100, l6b_100, l6a_200, l6b_200, l6a_300, l6b_300, l6a_600, l6b_600, l6a_999, l6b_999, l6a_1000, l6b_1000, l6a_9999, l6b_9999, l6a_1000000, l6b_1000000, l6a_12, l6b_12, l64_xx, wi_d, one_ne0, zb_0, not_true_eq_false, not_false_eq_true, and_self, and_true, true_and, and_false, false_and, or_true, true_or, or_false, false_or, decide_true, decide_false, zb_t, zb_f, zb_0, zb_1, eq_self, cond_true, cond_false, Bool.true_eq_false, Bool.false_eq_true, Bool.and_true, Bool.true_and, Bool.and_false, Bool.false_and, Bool.or_true, Bool.true_or, Bool.or_false, Bool.false_or, nx_2, nx_3, nx_5, nx_6, nx_7, nx_f, nx_s, nx_w, ns_2, ns_3, ns_5, ns_6, ns_7, ic, hx, x2, hc, e1, p3, n1, y2, hc1, ez, rO, er, e3, u3, n3]
    rw [sOd_ec (u := fun _ => nI 0) W.1.1 W.1.2.1 hk (by omega)]
    refine ⟨g3, tk, ⟨ow, s, X3⟩, KM_trans k1 (KM_trans k2 k3), ?_, ?_⟩
    · have a1 := gxx.2.1
      omega
    · have a1 := gxx.2.2.1
      omega
end
