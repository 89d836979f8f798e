/-! CONTRACTS of the component: a run -/
section
variable {d : Nat} {h : xH} {q c s l : Nat} {A w : rI}
theorem xruns_loop (hq : 64 < q) (O : WO h q) (hs : oR h q 5 = some c) (S : SCo h c A) (W : WFs A) (WL : WFl A) (X : XL h s l) (L : LWo h l A) (h7 : oR h 64 7 = some q) {t : Nat} (ht : t ≤ 99) {seed : Int32} : ∀ (f k : Nat) (w : rI) (h1 : xH), k + f = t → XFr q h h1 → WR h1 q A w → WI A w → oI h1 64 8 = w 40 → w 36 = nI k → ∃ h2, E_ (d + 208) mX0_runs 20 [.val (.ref 64), .val (.int seed), .val (.int (nI t))] [] h1 = some (some (.ref q), h2) ∧ XFr q h h2 ∧ WR h2 q A (sRu A (-1) f w)
  | 0, k, w, h1, hk, F, R, I, e40, e36 => by
    have X1 := XL_x F X
    have O1 := WO_x F O
    obtain ⟨x1, x2, x3, x4⟩ := X1
    have T5 := O1.1
    have h71 : oR h1 64 7 = some q := by rw [F.2.2.2.1]; exact h7
    have kt : k = t := by omega
    have i9 := R.2.2.2.2.2.2.2.1
    have i10 := R.2.2.2.2.2.2.2.2.1
    rw [e36] at i9
    refine ⟨h1, wX0_runs_20.trans ?_, F, R⟩
    by_cases z : w 37 = 0
    · rw [z] at i10
      simp (disch := first | assumption | exact nI_ne0 (by decide) (by decide) | exact zb_01 | exact Or.inl rfl | exact Or.inr rfl | with_unfolding_all exact id (by assumption) | with_unfolding_all exact id (xix_8 (by assumption) (by omega) (by omega)) | omega) only [wX0_runs_e, wX0_runs_0, wX0_runs_1, wX0_runs_4, wX0_runs_5, wX0_runs_8, wX0_runs_11, wX0_runs_14, wX0_runs_15, wX0_runs_16, wX0_runs_17, wX0_runs_21, wX0_runs_24, wX0_runs_27, wX0_runs_30, wX0_runs_31, wX0_runs_34, wX0_runs_37, wX0_runs_38, wX0_runs_41, wX0_runs_42, wX0_runs_43, wX0_runs_46, wX0_runs_49, wX0_runs_52, wX0_runs_53, wX0_runs_56, if_true, if_false, ↓reduceIte, xpu_s, xpu_n, Option.bind_some, xk_i, xk_r, xk_0, xk_u, xk_l, xk_k, xk_q, rf_s, rf_n, h71, i9, i10, kt, i_irr]
    · rw [← i10] at z
      simp (disch := first | assumption | exact nI_ne0 (by decide) (by decide) | exact zb_01 | exact Or.inl rfl | exact Or.inr rfl | with_unfolding_all exact id (by assumption) | with_unfolding_all exact id (xix_8 (by assumption) (by omega) (by omega)) | omega) only [wX0_runs_e, wX0_runs_0, wX0_runs_1, wX0_runs_4, wX0_runs_5, wX0_runs_8, wX0_runs_11, wX0_runs_14, wX0_runs_15, wX0_runs_16, wX0_runs_17, wX0_runs_21, wX0_runs_24, wX0_runs_27, wX0_runs_30, wX0_runs_31, wX0_runs_34, wX0_runs_37, wX0_runs_38, wX0_runs_41, wX0_runs_42, wX0_runs_43, wX0_runs_46, wX0_runs_49, wX0_runs_52, wX0_runs_53, wX0_runs_56, if_true, if_false, ↓reduceIte, xpu_s, xpu_n, Option.bind_some, xk_i, xk_r, xk_0, xk_u, xk_l, xk_k, xk_q, rf_s, rf_n, h71, i9, z]
  | f + 1, k, w, h1, hk, F, R, I, e40, e36 => by
    have X1 := XL_x F X
    have O1 := WO_x F O
    have hs1 : oR h1 q 5 = some c := by rw [F.2.2.2.1]; exact hs
    have S1 := SC_x F O X.1 S
    have L1 := LW_x F O X.1 L
    have T5 := O1.1
    have x1 := X1.1
    have h71 : oR h1 64 7 = some q := by rw [F.2.2.2.1]; exact h7
    have i9 := R.2.2.2.2.2.2.2.1
    have i10 := R.2.2.2.2.2.2.2.2.1
    rw [e36] at i9
    by_cases z : w 37 = 0
    · obtain ⟨h2, e1, e2, e3, e4⟩ := kX0_tick (d := d) hq O1 hs1 S1 R W I WL X1 L1 e40 z
      have W2 := W.2.1
      obtain ⟨h3, e5, e6, e7⟩ := xruns_loop hq O hs S W WL X L h7 ht (seed := seed) f (k + 1) (sTk A (sDs A (-1) w)) h2 (by omega) (XFr_trans F e2) e3 (WI_Tk W (WI_Ds W2 I) (by rw [sDs_lo W2 (by omega) (by omega) (by omega)]; exact z)) e4 (by rw [sTk_36 W2, sDs_lo W2 (by omega) (by omega) (by omega), e36, nI_add])
      refine ⟨h3, (wX0_runs_20.trans ?_).trans e5, e6, ?_⟩
      · rw [z] at i10
        have kt : k < t := by omega
        simp (disch := first | assumption | exact nI_ne0 (by decide) (by decide) | exact zb_01 | exact Or.inl rfl | exact Or.inr rfl | with_unfolding_all exact id (by assumption) | with_unfolding_all exact id (xix_8 (by assumption) (by omega) (by omega)) | omega) only [wX0_runs_21, wX0_runs_24, wX0_runs_27, wX0_runs_30, wX0_runs_31, wX0_runs_34, wX0_runs_37, wX0_runs_38, wX0_runs_41, wX0_runs_42, wX0_runs_43, wX0_runs_46, wX0_runs_49, if_true, if_false, ↓reduceIte, xpu_s, xpu_n, Option.bind_some, xk_i, xk_r, xk_0, xk_u, xk_l, xk_k, xk_q, rf_s, rf_n, h71, i9, i10, nI_ltP, kt, e1]
      · show WR h3 q A (if w 37 = 0 then _ else w)
        rw [if_pos z]; exact e7
    · refine ⟨h1, wX0_runs_20.trans ?_, F, ?_⟩
      · have z' := z
        rw [← i10] at z'
        simp (disch := first | assumption | exact nI_ne0 (by decide) (by decide) | exact zb_01 | exact Or.inl rfl | exact Or.inr rfl | with_unfolding_all exact id (by assumption) | with_unfolding_all exact id (xix_8 (by assumption) (by omega) (by omega)) | omega) only [wX0_runs_21, wX0_runs_24, wX0_runs_27, wX0_runs_30, wX0_runs_31, wX0_runs_34, wX0_runs_37, wX0_runs_38, wX0_runs_52, wX0_runs_53, wX0_runs_56, if_true, if_false, ↓reduceIte, xpu_s, xpu_n, Option.bind_some, xk_i, xk_r, xk_0, xk_u, xk_l, xk_k, xk_q, rf_s, rf_n, h71, i9, z']
      · show WR h1 q A (if w 37 = 0 then _ else w)
        rw [if_neg z]; exact R
/-- a run of the component's own walk -/
theorem kX0_runs (hq : 64 < q) (O : WO h q) (S : SCo h c A) (W : WFs A) (WL : WFl A) (X : XL h s l) (hc : oR h s 0 = some c) (L : LWo h l A) (h7 : oR h 64 7 = some q) {t : Nat} (ht : t ≤ 99) {seed : Int32} : ∃ h2, C_ (d + 208) mX0_runs [.ref 64, .int seed, .int (nI t)] h = some (some (.ref q), h2) ∧ XFr q (hR5 h q c) h2 ∧ WR h2 q A (sRu A (-1) t (sBg A w (-1) seed)) := by
  have W2 := W.2.1
  obtain ⟨h1, e1, e2, e3⟩ := kX3_begins (d := d + 202) (w := w) (seed := seed) O S W
  have T5 := O.1
  have x1 := X.1
  have x2 := X.2.1
  have x3 := X.2.2.1
  have O1 := WO_5 (c := c) O
  have F1 : XFr q (hR5 h q c) (pI h1 64 (va_up (oI h1 64) 8 seed)) := XFr_trans (XFr_W hq e2) XFr_8
  have h75 : oR (hR5 h q c) 64 7 = some q := by unfold hR5; rw [o_RR, if_neg (by omega)]; exact h7
  obtain ⟨h2, e4, e5, e6⟩ := xruns_loop (d := d) hq O1 (by unfold hR5; rw [o_RR, if_pos rfl, up_s]) (SC_5 O.1 S) W WL (XL_5 O.1 X) (LW_5 O.1 L) h75 ht (seed := seed) t 0 (sBg A w (-1) seed) (pI h1 64 (va_up (oI h1 64) 8 seed)) (by omega) F1 (WR_8 hq e3) (WI_Bg W) (by
    rw [o_II, if_pos rfl, up_s]
    unfold sBg
    rw [up_s]) (sBg_at W2 (by omega) (by omega) (by omega) (by omega))
  refine ⟨h2, Eq.trans ?_ e4, e5, e6⟩
  have T1 : oT h1 64 = 1 := by rw [e2.2.1]; exact x1
  simp (disch := first | assumption | exact nI_ne0 (by decide) (by decide) | exact zb_01 | exact Or.inl rfl | exact Or.inr rfl | with_unfolding_all exact id (by assumption) | with_unfolding_all exact id (xix_8 (by assumption) (by omega) (by omega)) | omega) only [wX0_runs_e, wX0_runs_0, wX0_runs_1, wX0_runs_4, wX0_runs_5, wX0_runs_8, wX0_runs_11, wX0_runs_14, wX0_runs_15, wX0_runs_16, wX0_runs_17, if_true, if_false, ↓reduceIte, xpu_s, xpu_n, Option.bind_some, xk_i, xk_r, xk_0, xk_u, xk_l, xk_k, xk_q, rf_s, rf_n, h7, x2, hc, e1]
theorem kX0_stopped (O : WO h q) (hs : oR h q 5 = some c) (S : SCo h c A) (R : WR h q A w) (W2 : sN A ≤ 8) : C_ (d + 2) mX0_stopped [.ref 64, .ref q] h = some (some (.int (fo_ (fun k (n : Int32) => n ||| (if w (16 + k) = nI 2 then nI 1 <<< (nI k &&& 31) else nI 0)) (sN A) (nI 0))), h) := by
  have M := kX3_many (d := d) O hs S
  obtain ⟨o1, o2, o3, o4, o5, o6, o7, o8, o9, o10, o11, o12, o13, o14, o15, o16⟩ := O
  obtain ⟨r1, r2, r3, r4, r5, r6, r7, r8, r9, r10, r11⟩ := R
  have e0 : C_ (d + 2) mX0_stopped [.ref 64, .ref q] h = E_ (d + 2) mX0_stopped 4 [.val (.ref 64), .val (.ref q), .val (.int (nI 0)), .val (.int (nI 0))] [] h := by
    simp only [wX0_stopped_e, wX0_stopped_0, wX0_stopped_1, wX0_stopped_2, wX0_stopped_3, xk_i, xk_r]
  rw [e0]
  refine (lp_st (n := sN A) (F := fun k (n : Int32) => E_ (d + 2) mX0_stopped 4 [.val (.ref 64), .val (.ref q), .val (.int n), .val (.int (nI k))] [] h) (f := fun k (n : Int32) => n ||| (if w (16 + k) = nI 2 then nI 1 <<< (nI k &&& 31) else nI 0)) (s := nI 0) (fun k n hk => ?_)).trans ?_
  · refine wX0_stopped_4.trans ?_
    by_cases z : w (16 + k) = nI 2
    · simp (disch := first | assumption | exact nI_ne0 (by decide) (by decide) | exact zb_01 | exact Or.inl rfl | exact Or.inr rfl | with_unfolding_all exact id (by assumption) | with_unfolding_all exact id (xix_8 (by assumption) (by omega) (by omega)) | omega) only [wX0_stopped_e, wX0_stopped_0, wX0_stopped_1, wX0_stopped_2, wX0_stopped_3, wX0_stopped_5, wX0_stopped_6, wX0_stopped_9, wX0_stopped_12, wX0_stopped_13, wX0_stopped_14, wX0_stopped_17, wX0_stopped_18, wX0_stopped_19, wX0_stopped_20, wX0_stopped_23, wX0_stopped_24, wX0_stopped_25, wX0_stopped_26, wX0_stopped_29, wX0_stopped_30, wX0_stopped_31, wX0_stopped_32, wX0_stopped_35, wX0_stopped_38, wX0_stopped_39, if_true, if_false, ↓reduceIte, xpu_s, xpu_n, Option.bind_some, xk_i, xk_r, xk_0, xk_u, xk_l, xk_k, xk_q, rf_s, rf_n, o_TI, o_TL, o_TR, o_NI, o_NL, o_NR, o_XI, o_XL, o_XR, o_RI, o_RL, o_LI, o_LR, o_IL, o_IR, o_II, o_LL, o_RR, o_pII, o_pLL, up_s, q_e1, q_e2, Nat.zero_add, Nat.reduceEqDiff, Nat.reduceAdd, Nat.reduceMul, Nat.reduceSub, Nat.reduceLT, Nat.reduceLeDiff, Nat.reduceDiv, Nat.reduceMod, nI_c, nI_add, up_ne, M, o2, o3, o4, o5, o6, o12, o13, o14, o15, o16, r3, nI_ltP, hk, z]
    · simp (disch := first | assumption | exact nI_ne0 (by decide) (by decide) | exact zb_01 | exact Or.inl rfl | exact Or.inr rfl | with_unfolding_all exact id (by assumption) | with_unfolding_all exact id (xix_8 (by assumption) (by omega) (by omega)) | omega) only [wX0_stopped_e, wX0_stopped_0, wX0_stopped_1, wX0_stopped_2, wX0_stopped_3, wX0_stopped_5, wX0_stopped_6, wX0_stopped_9, wX0_stopped_12, wX0_stopped_13, wX0_stopped_14, wX0_stopped_17, wX0_stopped_18, wX0_stopped_19, wX0_stopped_20, wX0_stopped_23, wX0_stopped_24, wX0_stopped_25, wX0_stopped_26, wX0_stopped_29, wX0_stopped_30, wX0_stopped_31, wX0_stopped_32, wX0_stopped_35, wX0_stopped_38, wX0_stopped_39, if_true, if_false, ↓reduceIte, xpu_s, xpu_n, Option.bind_some, xk_i, xk_r, xk_0, xk_u, xk_l, xk_k, xk_q, rf_s, rf_n, o_TI, o_TL, o_TR, o_NI, o_NL, o_NR, o_XI, o_XL, o_XR, o_RI, o_RL, o_LI, o_LR, o_IL, o_IR, o_II, o_LL, o_RR, o_pII, o_pLL, up_s, q_e1, q_e2, Nat.zero_add, Nat.reduceEqDiff, Nat.reduceAdd, Nat.reduceMul, Nat.reduceSub, Nat.reduceLT, Nat.reduceLeDiff, Nat.reduceDiv, Nat.reduceMod, nI_c, nI_add, up_ne, M, o2, o3, o4, o5, o6, o12, o13, o14, o15, o16, r3, nI_ltP, hk, z]
  · refine wX0_stopped_4.trans ?_
    simp (disch := first | assumption | exact nI_ne0 (by decide) (by decide) | exact zb_01 | exact Or.inl rfl | exact Or.inr rfl | with_unfolding_all exact id (by assumption) | with_unfolding_all exact id (xix_8 (by assumption) (by omega) (by omega)) | omega) only [wX0_stopped_e, wX0_stopped_0, wX0_stopped_1, wX0_stopped_2, wX0_stopped_3, wX0_stopped_5, wX0_stopped_6, wX0_stopped_9, wX0_stopped_12, wX0_stopped_13, wX0_stopped_14, wX0_stopped_17, wX0_stopped_18, wX0_stopped_19, wX0_stopped_20, wX0_stopped_23, wX0_stopped_24, wX0_stopped_25, wX0_stopped_26, wX0_stopped_29, wX0_stopped_30, wX0_stopped_31, wX0_stopped_32, wX0_stopped_35, wX0_stopped_38, wX0_stopped_39, if_true, if_false, ↓reduceIte, xpu_s, xpu_n, Option.bind_some, xk_i, xk_r, xk_0, xk_u, xk_l, xk_k, xk_q, rf_s, rf_n, o_TI, o_TL, o_TR, o_NI, o_NL, o_NR, o_XI, o_XL, o_XR, o_RI, o_RL, o_LI, o_LR, o_IL, o_IR, o_II, o_LL, o_RR, o_pII, o_pLL, up_s, q_e1, q_e2, Nat.zero_add, Nat.reduceEqDiff, Nat.reduceAdd, Nat.reduceMul, Nat.reduceSub, Nat.reduceLT, Nat.reduceLeDiff, Nat.reduceDiv, Nat.reduceMod, nI_c, nI_add, up_ne, M, i_irr]
/-- the least way off of a car of the lane in which she is -/
def sOf (A w : rI) : Int32 := if w 33 = nI 1 then fo_ (fun k (b : Int32) => if A (2 + k) = w 32 ∧ 0 < w k ∧ (b = -1 ∨ w k < b) then w k else b) (sN A) (-1) else -1
theorem kX0_off (O : WO h q) (hs : oR h q 5 = some c) (S : SCo h c A) (R : WR h q A w) (W2 : sN A ≤ 8) (hI : w 33 = 0 ∨ (w 33 = nI 1 ∧ (w 34 = nI 0 ∨ (w 34 = nI 1 ∧ sO A = nI 2)))) : C_ (d + 4) mX0_off [.ref 64, .ref q] h = some (some (.int (sOf A w)), h) := by
  have M := kX3_many (d := d + 2) O hs S
  have CR : ∀ k, k < sN A → C_ (d + 3) mX3_car [.ref q, .int (nI k)] h = some (some (.ref (sc h c k)), h) := fun k hk => kX3_car O hs S hk W2
  have sf := (sF_0 hI).2
  obtain ⟨o1, o2, o3, o4, o5, o6, o7, o8, o9, o10, o11, o12, o13, o14, o15, o16⟩ := O
  obtain ⟨c1, c2, c3, c4, c5, c6, c7, c8, c9, c10, c11⟩ := S; have c12 := c10.1
  obtain ⟨r1, r2, r3, r4, r5, r6, r7, r8, r9, r10, r11⟩ := R
  have e7 : (0 < oI h q 7) = (w 33 = nI 1) := by rw [r6]; exact propext sf
  have e0 : C_ (d + 4) mX0_off [.ref 64, .ref q] h = E_ (d + 4) mX0_off 4 [.val (.ref 64), .val (.ref q), .val (.int (-1)), .val (.int (nI 0))] [] h := by
    simp only [wX0_off_e, wX0_off_0, wX0_off_1, wX0_off_2, wX0_off_3, xk_i, xk_r]
  rw [e0]
  unfold sOf
  by_cases z : w 33 = nI 1
  · rw [if_pos z]
    refine (lpj_if (n := sN A) (p := fun k (b : Int32) => A (2 + k) = w 32 ∧ 0 < w k ∧ (b = -1 ∨ w k < b)) (g := fun k _ => w k) (P := fun _ _ => True) (X := fun b => some (some (.int b), h)) (F := fun k (b : Int32) (_ : Unit) => E_ (d + 4) mX0_off 4 [.val (.ref 64), .val (.ref q), .val (.int b), .val (.int (nI k))] [] h) trivial (fun k b y hk _ => ⟨(), ?_, trivial⟩) (fun b y _ => ?_) ()).1
    · refine wX0_off_4.trans ?_
      have CK := CR k hk
      obtain ⟨v1, v2, -, -, -⟩ := c11 k hk
      simp (disch := first | assumption | exact nI_ne0 (by decide) (by decide) | exact zb_01 | exact Or.inl rfl | exact Or.inr rfl | with_unfolding_all exact id (by assumption) | with_unfolding_all exact id (xix_8 (by assumption) (by omega) (by omega)) | omega) only [wX0_off_e, wX0_off_0, wX0_off_1, wX0_off_2, wX0_off_3, wX0_off_5, wX0_off_6, wX0_off_9, wX0_off_12, wX0_off_13, wX0_off_16, wX0_off_19, wX0_off_20, wX0_off_21, wX0_off_24, wX0_off_27, wX0_off_28, wX0_off_31, wX0_off_34, wX0_off_35, wX0_off_38, wX0_off_39, wX0_off_40, wX0_off_43, wX0_off_44, wX0_off_45, wX0_off_48, wX0_off_49, wX0_off_52, wX0_off_53, wX0_off_54, wX0_off_55, wX0_off_58, wX0_off_59, wX0_off_62, wX0_off_63, wX0_off_64, wX0_off_65, wX0_off_68, wX0_off_71, wX0_off_72, if_true, if_false, ↓reduceIte, xpu_s, xpu_n, Option.bind_some, xk_i, xk_r, xk_0, xk_u, xk_l, xk_k, xk_q, rf_s, rf_n, o_TI, o_TL, o_TR, o_NI, o_NL, o_NR, o_XI, o_XL, o_XR, o_RI, o_RL, o_LI, o_LR, o_IL, o_IR, o_II, o_LL, o_RR, o_pII, o_pLL, up_s, q_e1, q_e2, Nat.zero_add, Nat.reduceEqDiff, Nat.reduceAdd, Nat.reduceMul, Nat.reduceSub, Nat.reduceLT, Nat.reduceLeDiff, Nat.reduceDiv, Nat.reduceMod, nI_c, nI_add, up_ne, M, CK, e7, r5, o2, o3, o4, o5, o6, o12, o13, o14, o15, o16, r1, v2, z, nI_ltP, hk, if_ac, if_oc]
    · refine wX0_off_4.trans ?_
      simp (disch := first | assumption | exact nI_ne0 (by decide) (by decide) | exact zb_01 | exact Or.inl rfl | exact Or.inr rfl | with_unfolding_all exact id (by assumption) | with_unfolding_all exact id (xix_8 (by assumption) (by omega) (by omega)) | omega) only [wX0_off_e, wX0_off_0, wX0_off_1, wX0_off_2, wX0_off_3, wX0_off_5, wX0_off_6, wX0_off_9, wX0_off_12, wX0_off_13, wX0_off_16, wX0_off_19, wX0_off_20, wX0_off_21, wX0_off_24, wX0_off_27, wX0_off_28, wX0_off_31, wX0_off_34, wX0_off_35, wX0_off_38, wX0_off_39, wX0_off_40, wX0_off_43, wX0_off_44, wX0_off_45, wX0_off_48, wX0_off_49, wX0_off_52, wX0_off_53, wX0_off_54, wX0_off_55, wX0_off_58, wX0_off_59, wX0_off_62, wX0_off_63, wX0_off_64, wX0_off_65, wX0_off_68, wX0_off_71, wX0_off_72, if_true, if_false, ↓reduceIte, xpu_s, xpu_n, Option.bind_some, xk_i, xk_r, xk_0, xk_u, xk_l, xk_k, xk_q, rf_s, rf_n, o_TI, o_TL, o_TR, o_NI, o_NL, o_NR, o_XI, o_XL, o_XR, o_RI, o_RL, o_LI, o_LR, o_IL, o_IR, o_II, o_LL, o_RR, o_pII, o_pLL, up_s, q_e1, q_e2, Nat.zero_add, Nat.reduceEqDiff, Nat.reduceAdd, Nat.reduceMul, Nat.reduceSub, Nat.reduceLT, Nat.reduceLeDiff, Nat.reduceDiv, Nat.reduceMod, nI_c, nI_add, up_ne, M, i_irr]
  · rw [if_neg z]
    refine wX0_off_4.trans ?_
    simp (disch := first | assumption | exact nI_ne0 (by decide) (by decide) | exact zb_01 | exact Or.inl rfl | exact Or.inr rfl | with_unfolding_all exact id (by assumption) | with_unfolding_all exact id (xix_8 (by assumption) (by omega) (by omega)) | omega) only [wX0_off_e, wX0_off_0, wX0_off_1, wX0_off_2, wX0_off_3, wX0_off_5, wX0_off_6, wX0_off_9, wX0_off_12, wX0_off_13, wX0_off_16, wX0_off_19, wX0_off_20, wX0_off_21, wX0_off_24, wX0_off_27, wX0_off_28, wX0_off_31, wX0_off_34, wX0_off_35, wX0_off_38, wX0_off_39, wX0_off_40, wX0_off_43, wX0_off_44, wX0_off_45, wX0_off_48, wX0_off_49, wX0_off_52, wX0_off_53, wX0_off_54, wX0_off_55, wX0_off_58, wX0_off_59, wX0_off_62, wX0_off_63, wX0_off_64, wX0_off_65, wX0_off_68, wX0_off_71, wX0_off_72, if_true, if_false, ↓reduceIte, xpu_s, xpu_n, Option.bind_some, xk_i, xk_r, xk_0, xk_u, xk_l, xk_k, xk_q, rf_s, rf_n, q_e1, q_e2, Nat.zero_add, Nat.reduceEqDiff, Nat.reduceAdd, Nat.reduceMul, Nat.reduceSub, Nat.reduceLT, Nat.reduceLeDiff, Nat.reduceDiv, Nat.reduceMod, M, e7, z, ite_self]
end
