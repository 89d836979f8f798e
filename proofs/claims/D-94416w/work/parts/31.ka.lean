/-! CONTRACTS, what all of them use -/
theorem l64_xx {x y : Int32} : x.toInt64 < y.toInt64 ↔ x < y := by
  rw [Int64.lt_iff_toInt_lt, Int32.lt_iff_toInt_lt, Int32.toInt_toInt64, Int32.toInt_toInt64]
theorem l64_lit {n : Nat} (hn : n < 2147483648) : (OfNat.ofNat n : Int64) = (nI n).toInt64 := (nI_l hn).symm
theorem l64_xn {x : Int32} {n : Nat} (hn : n < 2147483648) : x.toInt64 < (OfNat.ofNat n : Int64) ↔ x < nI n := by
  rw [l64_lit hn, l64_xx]
theorem l64_nx {x : Int32} {n : Nat} (hn : n < 2147483648) : (OfNat.ofNat n : Int64) < x.toInt64 ↔ nI n < x := by
  rw [l64_lit hn, l64_xx]
theorem l6a_0 {x : Int32} : (x.toInt64 < 0) = (x < nI 0) := propext (l64_xn (n := 0) (by decide))
theorem l6b_0 {x : Int32} : (0 < x.toInt64) = (nI 0 < x) := propext (l64_nx (n := 0) (by decide))
theorem l6a_1 {x : Int32} : (x.toInt64 < 1) = (x < nI 1) := propext (l64_xn (n := 1) (by decide))
theorem l6b_1 {x : Int32} : (1 < x.toInt64) = (nI 1 < x) := propext (l64_nx (n := 1) (by decide))
theorem l6a_2 {x : Int32} : (x.toInt64 < 2) = (x < nI 2) := propext (l64_xn (n := 2) (by decide))
theorem l6b_2 {x : Int32} : (2 < x.toInt64) = (nI 2 < x) := propext (l64_nx (n := 2) (by decide))
theorem l6a_3 {x : Int32} : (x.toInt64 < 3) = (x < nI 3) := propext (l64_xn (n := 3) (by decide))
theorem l6b_3 {x : Int32} : (3 < x.toInt64) = (nI 3 < x) := propext (l64_nx (n := 3) (by decide))
theorem l6a_4 {x : Int32} : (x.toInt64 < 4) = (x < nI 4) := propext (l64_xn (n := 4) (by decide))
theorem l6b_4 {x : Int32} : (4 < x.toInt64) = (nI 4 < x) := propext (l64_nx (n := 4) (by decide))
theorem l6a_5 {x : Int32} : (x.toInt64 < 5) = (x < nI 5) := propext (l64_xn (n := 5) (by decide))
theorem l6b_5 {x : Int32} : (5 < x.toInt64) = (nI 5 < x) := propext (l64_nx (n := 5) (by decide))
theorem l6a_7 {x : Int32} : (x.toInt64 < 7) = (x < nI 7) := propext (l64_xn (n := 7) (by decide))
theorem l6b_7 {x : Int32} : (7 < x.toInt64) = (nI 7 < x) := propext (l64_nx (n := 7) (by decide))
theorem l6a_20 {x : Int32} : (x.toInt64 < 20) = (x < nI 20) := propext (l64_xn (n := 20) (by decide))
theorem l6b_20 {x : Int32} : (20 < x.toInt64) = (nI 20 < x) := propext (l64_nx (n := 20) (by decide))
theorem l6a_30 {x : Int32} : (x.toInt64 < 30) = (x < nI 30) := propext (l64_xn (n := 30) (by decide))
theorem l6b_30 {x : Int32} : (30 < x.toInt64) = (nI 30 < x) := propext (l64_nx (n := 30) (by decide))
theorem l6a_39 {x : Int32} : (x.toInt64 < 39) = (x < nI 39) := propext (l64_xn (n := 39) (by decide))
theorem l6b_39 {x : Int32} : (39 < x.toInt64) = (nI 39 < x) := propext (l64_nx (n := 39) (by decide))
theorem l6a_40 {x : Int32} : (x.toInt64 < 40) = (x < nI 40) := propext (l64_xn (n := 40) (by decide))
theorem l6b_40 {x : Int32} : (40 < x.toInt64) = (nI 40 < x) := propext (l64_nx (n := 40) (by decide))
theorem l6a_60 {x : Int32} : (x.toInt64 < 60) = (x < nI 60) := propext (l64_xn (n := 60) (by decide))
theorem l6b_60 {x : Int32} : (60 < x.toInt64) = (nI 60 < x) := propext (l64_nx (n := 60) (by decide))
theorem l6a_99 {x : Int32} : (x.toInt64 < 99) = (x < nI 99) := propext (l64_xn (n := 99) (by decide))
theorem l6b_99 {x : Int32} : (99 < x.toInt64) = (nI 99 < x) := propext (l64_nx (n := 99) (by decide))
theorem l6a_100 {x : Int32} : (x.toInt64 < 100) = (x < nI 100) := propext (l64_xn (n := 100) (by decide))
theorem l6b_100 {x : Int32} : (100 < x.toInt64) = (nI 100 < x) := propext (l64_nx (n := 100) (by decide))
theorem l6a_200 {x : Int32} : (x.toInt64 < 200) = (x < nI 200) := propext (l64_xn (n := 200) (by decide))
theorem l6b_200 {x : Int32} : (200 < x.toInt64) = (nI 200 < x) := propext (l64_nx (n := 200) (by decide))
theorem l6a_300 {x : Int32} : (x.toInt64 < 300) = (x < nI 300) := propext (l64_xn (n := 300) (by decide))
theorem l6b_300 {x : Int32} : (300 < x.toInt64) = (nI 300 < x) := propext (l64_nx (n := 300) (by decide))
theorem l6a_600 {x : Int32} : (x.toInt64 < 600) = (x < nI 600) := propext (l64_xn (n := 600) (by decide))
theorem l6b_600 {x : Int32} : (600 < x.toInt64) = (nI 600 < x) := propext (l64_nx (n := 600) (by decide))
theorem l6a_999 {x : Int32} : (x.toInt64 < 999) = (x < nI 999) := propext (l64_xn (n := 999) (by decide))
theorem l6b_999 {x : Int32} : (999 < x.toInt64) = (nI 999 < x) := propext (l64_nx (n := 999) (by decide))
theorem l6a_1000 {x : Int32} : (x.toInt64 < 1000) = (x < nI 1000) := propext (l64_xn (n := 1000) (by decide))
theorem l6b_1000 {x : Int32} : (1000 < x.toInt64) = (nI 1000 < x) := propext (l64_nx (n := 1000) (by decide))
theorem l6a_9999 {x : Int32} : (x.toInt64 < 9999) = (x < nI 9999) := propext (l64_xn (n := 9999) (by decide))
theorem l6b_9999 {x : Int32} : (9999 < x.toInt64) = (nI 9999 < x) := propext (l64_nx (n := 9999) (by decide))
theorem l6a_1000000 {x : Int32} : (x.toInt64 < 1000000) = (x < nI 1000000) := propext (l64_xn (n := 1000000) (by decide))
theorem l6b_1000000 {x : Int32} : (1000000 < x.toInt64) = (nI 1000000 < x) := propext (l64_nx (n := 1000000) (by decide))
theorem l6a_12 {x : Int32} : (x.toInt64 < 12) = (x < nI 12) := propext (l64_xn (n := 12) (by decide))
theorem l6b_12 {x : Int32} : (12 < x.toInt64) = (nI 12 < x) := propext (l64_nx (n := 12) (by decide))
/-- in the range lo .. hi -/
def wi (x lo hi : Int32) : Bool := decide (¬ x < lo ∧ ¬ hi < x)
theorem wi_of {x : Int32} {n : Nat} (hn : n < 2147483648) (h : wi x (nI 0) (nI n) = true) : ∃ j : Nat, j ≤ n ∧ x = nI j := by
  obtain ⟨h1, h2⟩ := of_decide_eq_true h
  obtain ⟨j, hj, rfl⟩ := nI_of (x := x) (by rw [← nI_0]; exact h1)
  refine ⟨j, ?_, rfl⟩
  rcases Nat.lt_or_ge n j with q | q
  · exact absurd (nI_lt q hj) h2
  · exact q
theorem wi_n {j n : Nat} (hj : j ≤ n) (hn : n < 2147483648) : wi (nI j) (nI 0) (nI n) = true := decide_eq_true ⟨nI_nlt (Nat.zero_le _) (by omega), nI_nlt hj (by omega)⟩
theorem nI_eqI {a b : Nat} (ha : a < 2147483648) (hb : b < 2147483648) : (nI a = nI b) = (a = b) := propext (nI_eq ha hb)
theorem nI_ltP {a b : Nat} (ha : a < 2147483648) (hb : b < 2147483648) : (nI a < nI b) = (a < b) := propext (nI_ltI ha hb)
section
variable {d : Nat} {h : xH} {x y z : Int32} {u v w : Int64}
theorem kX5_within : C_ d mX5_within [.long u, .long v, .long w] h = some (some (.int (zb (decide (¬ u < v ∧ ¬ w < u)))), h) := by
  by_cases h1 : u < v <;> by_cases h2 : w < u <;> simp (disch := first | exact Or.inl rfl | exact Or.inr rfl) only [wX5_within_e, wX5_within_0, wX5_within_1, wX5_within_2, wX5_within_3, wX5_within_6, wX5_within_7, wX5_within_9, wX5_within_10, wX5_within_13, wX5_within_14, wX5_within_17, wX5_within_18, if_true, if_false, ↓reduceIte, xpu_s, xpu_n, Option.bind_some, xk_i, xk_r, xk_0, xk_u, xk_l, xk_k, xk_q, rf_s, rf_n, lc_l, lc_g, h1, h2, nI_0, not_true_eq_false, not_false_eq_true, and_self, and_true, and_false, decide_true, decide_false, zb_t, zb_f] <;> rfl
theorem kX0_in : C_ d mX0_in [.long u, .long v, .long w] h = some (some (.int (zb (decide (¬ u < v ∧ ¬ w < u)))), h) := by
  by_cases h1 : u < v <;> by_cases h2 : w < u <;> simp (disch := first | exact Or.inl rfl | exact Or.inr rfl) only [wX0_in_e, wX0_in_0, wX0_in_1, wX0_in_2, wX0_in_3, wX0_in_6, wX0_in_7, wX0_in_9, wX0_in_10, wX0_in_13, wX0_in_14, wX0_in_17, wX0_in_18, if_true, if_false, ↓reduceIte, xpu_s, xpu_n, Option.bind_some, xk_i, xk_r, xk_0, xk_u, xk_l, xk_k, xk_q, rf_s, rf_n, lc_l, lc_g, h1, h2, nI_0, not_true_eq_false, not_false_eq_true, and_self, and_true, and_false, decide_true, decide_false, zb_t, zb_f] <;> rfl
end
/-- one more refused: which count -/
def nslot (k : Int32) : Nat := if k = -2 then 0 else if k = -3 then 1 else if k = -5 then 2 else if k = -6 then 3 else if k = -7 then 4 else 5
def rbump (f : Nat → Int32) (j : Nat) : Nat → Int32 := va_up f j (f j + nI 1)
section
variable {d : Nat} {h : xH} {x y z : Int32} {u v w : Int64}
theorem kX5_no (H : MOK h) {k : Int32} : C_ d mX5_no [.ref 150, .int k] h = some (some (.int k), pI h 151 (rbump (oI h 151) (nslot k))) := by
  simp (disch := first | with_unfolding_all exact id (mok_t H rfl) | with_unfolding_all exact id (m_x152 H (by omega)) | with_unfolding_all exact id (m_x156 H (by omega)) | with_unfolding_all exact id (m_x151 H (by omega)) | with_unfolding_all exact id (m_x153 H (by omega)) | with_unfolding_all exact id (m_x154 H (by omega)) | with_unfolding_all exact id (m_x155 H (by omega)) | with_unfolding_all exact id (m_x157 H (by omega)) | with_unfolding_all exact id (m_x158 H (by omega)) | with_unfolding_all exact id (m_x159 H (by omega)) | with_unfolding_all exact id (m_x160 H (by omega)) | with_unfolding_all exact id (m_x161 H (by omega)) | with_unfolding_all exact id (m_x162 H (by omega)) | with_unfolding_all exact id (m_x163 H (by omega)) | with_unfolding_all exact id (m_x164 H (by omega)) | with_unfolding_all exact id (m_x165 H (by omega)) | with_unfolding_all exact id (m_x166 H (by omega)) | with_unfolding_all exact id (m_x167 H (by omega)) | with_unfolding_all exact id (m_x168 H (by omega)) | with_unfolding_all exact id (m_x169 H (by omega)) | exact Or.inl rfl | exact Or.inr rfl | omega) only [wX5_no_e, wX5_no_0, wX5_no_1, wX5_no_4, wX5_no_5, wX5_no_7, wX5_no_10, wX5_no_11, wX5_no_14, wX5_no_15, wX5_no_17, wX5_no_20, wX5_no_21, wX5_no_24, wX5_no_25, wX5_no_27, wX5_no_30, wX5_no_31, wX5_no_34, wX5_no_35, wX5_no_37, wX5_no_40, wX5_no_41, wX5_no_44, wX5_no_45, wX5_no_47, wX5_no_50, wX5_no_51, wX5_no_54, wX5_no_55, wX5_no_56, wX5_no_57, wX5_no_58, wX5_no_59, wX5_no_60, wX5_no_61, if_true, if_false, ↓reduceIte, xpu_s, xpu_n, Option.bind_some, xk_i, xk_r, xk_0, xk_u, xk_l, xk_k, xk_q, rf_s, rf_n, o_TI, o_TL, o_TR, o_NI, o_NL, o_NR, o_XI, o_XL, o_XR, o_RI, o_RL, o_LI, o_LR, o_IL, o_IR, o_II, o_LL, o_RR, o_pII, o_pLL, up_s, q_e1, q_e2, Nat.zero_add, Nat.reduceEqDiff, Nat.reduceAdd, Nat.reduceMul, Nat.reduceSub, Nat.reduceLT, Nat.reduceLeDiff, Nat.reduceDiv, Nat.reduceMod, m_r1 H, m_r2 H, m_r3 H, m_r4 H, m_r5 H, m_r18 H, m_r19 H, m_r20 H, m_r24 H, m_r25 H, m_r27 H, m_r28 H, m_r29 H, m_r30 H, m_r31 H, m_r32 H, m_r33 H, m_r34 H, m_r35 H, m_n150 H, m_n151 H, m_n152 H, m_n153 H, m_n154 H, m_n155 H, m_n156 H, m_n157 H, m_n158 H, m_n159 H, m_n160 H, m_n161 H, m_n162 H, m_n163 H, m_n164 H, m_n165 H, m_n166 H, m_n167 H, m_n168 H, m_n169 H, nI_c, nI_add, up_ne]
  unfold nslot rbump
  by_cases h1 : k = -2
  · simp only [h1, if_true]
  · by_cases h2 : k = -3
    · simp only [h1, h2, if_true, if_false]; rfl
    · by_cases h3 : k = -5
      · simp only [h1, h2, h3, if_true, if_false]; rfl
      · by_cases h4 : k = -6
        · simp only [h1, h2, h3, h4, if_true, if_false]; rfl
        · by_cases h5 : k = -7
          · simp only [h1, h2, h3, h4, h5, if_true, if_false]; rfl
          · simp only [h1, h2, h3, h4, h5, if_true, if_false]
theorem kX5_none (H : MOK h) {k : Int32} : C_ d mX5_none [.ref 150, .int k] h = some (some (.int k), pI h 151 (rbump (oI h 151) 0)) := by
  simp (disch := first | with_unfolding_all exact id (mok_t H rfl) | with_unfolding_all exact id (m_x152 H (by omega)) | with_unfolding_all exact id (m_x156 H (by omega)) | with_unfolding_all exact id (m_x151 H (by omega)) | with_unfolding_all exact id (m_x153 H (by omega)) | with_unfolding_all exact id (m_x154 H (by omega)) | with_unfolding_all exact id (m_x155 H (by omega)) | with_unfolding_all exact id (m_x157 H (by omega)) | with_unfolding_all exact id (m_x158 H (by omega)) | with_unfolding_all exact id (m_x159 H (by omega)) | with_unfolding_all exact id (m_x160 H (by omega)) | with_unfolding_all exact id (m_x161 H (by omega)) | with_unfolding_all exact id (m_x162 H (by omega)) | with_unfolding_all exact id (m_x163 H (by omega)) | with_unfolding_all exact id (m_x164 H (by omega)) | with_unfolding_all exact id (m_x165 H (by omega)) | with_unfolding_all exact id (m_x166 H (by omega)) | with_unfolding_all exact id (m_x167 H (by omega)) | with_unfolding_all exact id (m_x168 H (by omega)) | with_unfolding_all exact id (m_x169 H (by omega)) | exact Or.inl rfl | exact Or.inr rfl | omega) only [wX5_none_e, wX5_none_0, wX5_none_1, wX5_none_4, wX5_none_5, wX5_none_6, wX5_none_7, wX5_none_8, wX5_none_9, wX5_none_10, wX5_none_11, if_true, if_false, ↓reduceIte, xpu_s, xpu_n, Option.bind_some, xk_i, xk_r, xk_0, xk_u, xk_l, xk_k, xk_q, rf_s, rf_n, o_TI, o_TL, o_TR, o_NI, o_NL, o_NR, o_XI, o_XL, o_XR, o_RI, o_RL, o_LI, o_LR, o_IL, o_IR, o_II, o_LL, o_RR, o_pII, o_pLL, up_s, q_e1, q_e2, Nat.zero_add, Nat.reduceEqDiff, Nat.reduceAdd, Nat.reduceMul, Nat.reduceSub, Nat.reduceLT, Nat.reduceLeDiff, Nat.reduceDiv, Nat.reduceMod, m_r1 H, m_r2 H, m_r3 H, m_r4 H, m_r5 H, m_r18 H, m_r19 H, m_r20 H, m_r24 H, m_r25 H, m_r27 H, m_r28 H, m_r29 H, m_r30 H, m_r31 H, m_r32 H, m_r33 H, m_r34 H, m_r35 H, m_n150 H, m_n151 H, m_n152 H, m_n153 H, m_n154 H, m_n155 H, m_n156 H, m_n157 H, m_n158 H, m_n159 H, m_n160 H, m_n161 H, m_n162 H, m_n163 H, m_n164 H, m_n165 H, m_n166 H, m_n167 H, m_n168 H, m_n169 H, nI_c, nI_add, up_ne]
  rfl
theorem kX5_hasTrait (H : MOK h) {k : Int32} : C_ d mX5_hasTrait [.ref 150, .int k] h = some (some (.int (zb (decide ((oI h 152 34 >>> (k &&& 31)) &&& nI 1 = nI 1)))), h) := by
  simp (disch := first | with_unfolding_all exact id (mok_t H rfl) | with_unfolding_all exact id (m_x152 H (by omega)) | with_unfolding_all exact id (m_x156 H (by omega)) | with_unfolding_all exact id (m_x151 H (by omega)) | with_unfolding_all exact id (m_x153 H (by omega)) | with_unfolding_all exact id (m_x154 H (by omega)) | with_unfolding_all exact id (m_x155 H (by omega)) | with_unfolding_all exact id (m_x157 H (by omega)) | with_unfolding_all exact id (m_x158 H (by omega)) | with_unfolding_all exact id (m_x159 H (by omega)) | with_unfolding_all exact id (m_x160 H (by omega)) | with_unfolding_all exact id (m_x161 H (by omega)) | with_unfolding_all exact id (m_x162 H (by omega)) | with_unfolding_all exact id (m_x163 H (by omega)) | with_unfolding_all exact id (m_x164 H (by omega)) | with_unfolding_all exact id (m_x165 H (by omega)) | with_unfolding_all exact id (m_x166 H (by omega)) | with_unfolding_all exact id (m_x167 H (by omega)) | with_unfolding_all exact id (m_x168 H (by omega)) | with_unfolding_all exact id (m_x169 H (by omega)) | exact Or.inl rfl | exact Or.inr rfl | omega) only [wX5_hasTrait_e, wX5_hasTrait_0, wX5_hasTrait_1, wX5_hasTrait_4, wX5_hasTrait_6, wX5_hasTrait_7, wX5_hasTrait_8, wX5_hasTrait_9, wX5_hasTrait_10, wX5_hasTrait_11, wX5_hasTrait_12, wX5_hasTrait_15, wX5_hasTrait_16, wX5_hasTrait_19, wX5_hasTrait_20, if_true, if_false, ↓reduceIte, xpu_s, xpu_n, Option.bind_some, xk_i, xk_r, xk_0, xk_u, xk_l, xk_k, xk_q, rf_s, rf_n, o_TI, o_TL, o_TR, o_NI, o_NL, o_NR, o_XI, o_XL, o_XR, o_RI, o_RL, o_LI, o_LR, o_IL, o_IR, o_II, o_LL, o_RR, o_pII, o_pLL, up_s, q_e1, q_e2, Nat.zero_add, Nat.reduceEqDiff, Nat.reduceAdd, Nat.reduceMul, Nat.reduceSub, Nat.reduceLT, Nat.reduceLeDiff, Nat.reduceDiv, Nat.reduceMod, m_r1 H, m_r2 H, m_r3 H, m_r4 H, m_r5 H, m_r18 H, m_r19 H, m_r20 H, m_r24 H, m_r25 H, m_r27 H, m_r28 H, m_r29 H, m_r30 H, m_r31 H, m_r32 H, m_r33 H, m_r34 H, m_r35 H, m_n150 H, m_n151 H, m_n152 H, m_n153 H, m_n154 H, m_n155 H, m_n156 H, m_n157 H, m_n158 H, m_n159 H, m_n160 H, m_n161 H, m_n162 H, m_n163 H, m_n164 H, m_n165 H, m_n166 H, m_n167 H, m_n168 H, m_n169 H, nI_c, nI_add, up_ne]
  by_cases q : (oI h 152 34 >>> (k &&& 31)) &&& nI 1 = nI 1
  · simp only [q, if_true, decide_true]; rfl
  · simp only [q, if_false, decide_false]; rfl
end
theorem wi_ix {k : Int32} {n : Nat} (hn : n < 2147483647) : (¬ k < nI 0 ∧ ¬ nI n - nI 1 < k) ↔ ∃ j, j < n ∧ k = nI j := by
  constructor
  · rintro ⟨h1, h2⟩
    obtain ⟨j, hj, rfl⟩ := nI_of (x := k) (by rw [← nI_0]; exact h1)
    refine ⟨j, ?_, rfl⟩
    cases n with
    | zero =>
      exfalso
      apply h2
      rw [Int32.lt_iff_toInt_lt, nI_toInt hj]
      have : (nI 0 - nI 1).toInt = -1 := by decide
      omega
    | succ n =>
      rw [pk_sub (by omega), Nat.add_sub_cancel, nI_ltP (by omega) hj] at h2
      omega
  · rintro ⟨j, hj, rfl⟩
    refine ⟨nI_nlt (Nat.zero_le _) (by omega), ?_⟩
    cases n with
    | zero => omega
    | succ n =>
      rw [pk_sub (by omega), Nat.add_sub_cancel]
      exact nI_nlt (by omega) (by omega)
