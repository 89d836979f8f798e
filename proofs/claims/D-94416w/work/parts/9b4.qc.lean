/-! WHAT a set of measures at a place brings -/
section
variable {d : Nat} {h : xH} {P : sS} {A : rI} {x : Int32} {s p i q q4 c u : Nat}
theorem lef_le (W : WFp A) (hp : p < sP_ A) : lef A p x ≤ 6000000 := by
  obtain ⟨-, -, a3, a4⟩ := hc_b W hp
  exact fo_in (P := fun _ v => v ≤ 6000000) (show hN A p * 10000 ≤ 6000000 by omega) fun m v hm hv => by
    show (if bt x m = true then v * nb A 554 m / 100 else v) ≤ 6000000
    split
    · exact lv_b hv (MC W hm).2.2.2.2
    · exact hv
theorem co_le (W : WFp A) : co A x ≤ 396 := by
  have : co A x ≤ 99 * 4 := fo_in (P := fun k n => n ≤ 99 * k) (Nat.le_refl _) fun m n hm hn => by
    have := (MC W hm).2.2.1
    have hn : n ≤ 99 * m := hn
    show n + _ ≤ 99 * (m + 1)
    split <;> omega
  omega
theorem l_10000 : (10000 : Int64) = lN 10000 := rfl
theorem kX0_spends (Y : XPs h s i A) (t : oR h 64 13 = some 143) (t44 : oT h 143 = 44) (n13 : oN h 143 = 13000) (d3 : oR h s 3 = some q) (a3 : AR h q 4 (fun j => A (550 + j))) (d4 : oR h s 4 = some q4) (a4 : AR h q4 4 (fun j => A (554 + j))) (W : WFp A) (hp : p < sP_ A) (hc : c ≤ 999) (hx : co A x ≤ c) (e : oL h 143 (1000 * (p + 1) + c - co A x) = lN u) : C_ (d + 4) mX0_spends [.ref 64, .int (nI p), .int (nI c), .int x] h = some (some (.long (lN (10000 * lef A p x + co A x + u))), h) := by
  have LE := kX0_leftAt (d := d) (x := x) Y d4 a4 W hp
  have t2 := Y.2.1
  have x0 := Y.1
  have CO := kX0_costOf (d := d + 2) (x := x) Y.1 Y.2.1 Y.2.2.1 d3 a3 W
  have h12 := W.2.1
  have b1 := lef_le (x := x) W hp
  have b2 := co_le (x := x) W
  have l1 : (nI (lef A p x)).toInt64 = lN (lef A p x) := nI_l (by omega)
  have l2 : (nI (co A x)).toInt64 = lN (co A x) := nI_l (by omega)
  have m1 : nI 1000 * nI (p + 1) = nI (1000 * (p + 1)) := pk_mul _ _
  have m2 : nI (1000 * (p + 1) + c) - nI (co A x) = nI (1000 * (p + 1) + c - co A x) := pk_sub (by omega)
  simp (disch := first | exact xix_8 n13 (by omega) (by omega) | first | assumption | exact nI_ne0 (by decide) (by decide) | exact zb_01 | exact Or.inl rfl | exact Or.inr rfl | with_unfolding_all exact id (by assumption) | with_unfolding_all exact id (xix_8 (by assumption) (by omega) (by omega)) | omega) only [wX0_spends_e, wX0_spends_0, wX0_spends_3, wX0_spends_4, wX0_spends_5, wX0_spends_6, wX0_spends_9, wX0_spends_10, wX0_spends_11, wX0_spends_12, wX0_spends_13, wX0_spends_16, wX0_spends_17, wX0_spends_18, wX0_spends_19, wX0_spends_22, wX0_spends_25, wX0_spends_26, wX0_spends_27, wX0_spends_28, wX0_spends_29, wX0_spends_30, wX0_spends_31, wX0_spends_32, wX0_spends_33, wX0_spends_36, wX0_spends_37, wX0_spends_38, wX0_spends_39, if_true, if_false, ↓reduceIte, xpu_s, xpu_n, Option.bind_some, xk_i, xk_r, xk_0, xk_u, xk_l, xk_k, xk_q, rf_s, rf_n, o_TI, o_TL, o_TR, o_NI, o_NL, o_NR, o_XI, o_XL, o_XR, o_RI, o_RL, o_LI, o_LR, o_IL, o_IR, o_II, o_LL, o_RR, o_pII, o_pLL, up_s, q_e1, q_e2, Nat.zero_add, Nat.reduceEqDiff, Nat.reduceAdd, Nat.reduceMul, Nat.reduceSub, Nat.reduceLT, Nat.reduceLeDiff, Nat.reduceDiv, Nat.reduceMod, nI_c, nI_add, up_ne, LE, CO, t, l1, l2, l_10000, m1, m2, e, lN_mul, lN_add]
end
