/-! CONTRACTS of the component: a walk begins; a run -/
section
variable {d : Nat} {h : xH} {q c s l : Nat} {A w : rI}
/-- a walk is of another scene -/
def hR5 (h : xH) (q c : Nat) : xH := pR h q (va_up (oR h q) 5 (some c))
theorem WO_5 (O : WO h q) : WO (hR5 h q c) q := by
  obtain ⟨o1, o2, o3, o4, o5, o6, o7, o8, o9, o10, o11, o12, o13, o14, o15, o16⟩ := O
  unfold hR5
  refine ⟨o1, ?_, ?_, ?_, ?_, ?_, o7, o8, o9, o10, o11, o12, o13, o14, o15, o16⟩ <;> rw [o_RR, if_pos rfl, up_ne (by omega)] <;> assumption
theorem SC_5 {c' : Nat} (t : oT h q = 5) (S : SCo h c' A) : SCo (hR5 h q c) c' A :=
  SC_fr (h := h) (h' := hR5 h q c) rfl rfl (fun a ha => by unfold hR5; rw [o_RR, if_neg (fun z => ha (by rw [z]; exact t))]) (fun _ _ => rfl) S
theorem LW_5 (t : oT h q = 5) (L : LWo h l A) : LWo (hR5 h q c) l A :=
  LW_fr (h := h) (h' := hR5 h q c) rfl rfl (fun a ha => by unfold hR5; rw [o_RR, if_neg (fun z => ha (by rw [z]; exact t))]) (fun _ _ => rfl) L
theorem XL_5 (t : oT h q = 5) (X : XL h s l) : XL (hR5 h q c) s l := by
  obtain ⟨x1, x2, x3, x4⟩ := X
  unfold hR5
  refine ⟨x1, ?_, x3, ?_⟩
  · rw [o_RR, if_neg (fun z => by rw [← z] at t; omega)]; exact x2
  · rw [o_RR, if_neg (fun z => by rw [← z] at t; omega)]; exact x4
/-- what stands in a walk's arrays at its beginning -/
theorem sBg_c {wc seed : Int32} {k : Nat} (hk : k < sN A) (W2 : sN A ≤ 8) : sBg A w wc seed k = (if nI k = wc then nI 0 else A (10 + k)) ∧ sBg A w wc seed (8 + k) = sBp A k := by
  unfold sBg sB0
  refine ⟨?_, ?_⟩
  · rw [up_ne (by omega), up_ne (by omega), if_pos hk]
  · rw [up_ne (by omega), up_ne (by omega), if_neg (by omega), if_pos (by omega), Nat.add_sub_cancel_left]
theorem kX3_begins (O : WO h q) (S : SCo h c A) (W : WFs A) {seed : Int32} : ∃ h2, C_ (d + 5) mX3_begins [.ref q, .ref c] h = some (some (.ref q), h2) ∧ WFr q (hR5 h q c) h2 ∧ WR h2 q A (sBg A w (-1) seed) := by
  have W2 := W.2.1
  have O1 : WO (hR5 h q c) q := WO_5 O
  have S1 : SCo (hR5 h q c) c A := SC_5 O.1 S
  have hs1 : oR (hR5 h q c) q 5 = some c := by unfold hR5; rw [o_RR, if_pos rfl, up_s]
  generalize hg : hR5 h q c = g at *
  let fq : rI := va_up (va_up (va_up (va_up (va_up (va_up (va_up (oI g q) 6 (nI 0)) 7 (nI 0)) 8 (nI 0)) 9 (nI 0)) 10 (nI 0)) 11 (-1)) 12 (nI 0)
  let HB : Nat → xH := fun k => pI (pI (pI (pI (pI g q fq) (q + 1) (fun j => if j < k then A (10 + j) else oI g (q + 1) j)) (q + 2) (fun j => if j < k then sBp A j else oI g (q + 2) j)) (q + 3) (fun j => if j < k then nI 0 else oI g (q + 3) j)) (q + 4) (fun j => if j < k then nI 0 else oI g (q + 4) j)
  have FB : ∀ k, WFr q g (HB k) := fun k => WFr_I (WFr_I (WFr_I (WFr_I (WFr_I WFr_refl (by omega) (by omega)) (by omega) (by omega)) (by omega) (by omega)) (by omega) (by omega)) (by omega) (by omega)
  have T5 := O.1
  have T5g := O1.1
  have e0 : C_ (d + 5) mX3_begins [.ref q, .ref c] h = E_ (d + 5) mX3_begins 42 [.val (.ref q), .val (.ref c), .val (.int (nI 0))] [] (HB 0) := by
    have z : HB 0 = pI g q fq := by
      show pI (pI (pI (pI (pI g q fq) (q + 1) (fun j => if j < 0 then A (10 + j) else oI g (q + 1) j)) (q + 2) (fun j => if j < 0 then sBp A j else oI g (q + 2) j)) (q + 3) (fun j => if j < 0 then nI 0 else oI g (q + 3) j)) (q + 4) (fun j => if j < 0 then nI 0 else oI g (q + 4) j) = _
      rw [fill_0 (f := oI g (q + 1)) (g := fun j => A (10 + j)), fill_0 (f := oI g (q + 2)) (g := sBp A), fill_0 (f := oI g (q + 3)) (g := fun _ => nI 0), fill_0 (f := oI g (q + 4)) (g := fun _ => nI 0)]
      have s1 : pI (pI g q fq) (q + 1) (oI g (q + 1)) = pI g q fq := by
        have := o_pIi (h := pI g q fq) (a := q + 1)
        rwa [o_II, if_neg (by omega)] at this
      have s2 : pI (pI g q fq) (q + 2) (oI g (q + 2)) = pI g q fq := by
        have := o_pIi (h := pI g q fq) (a := q + 2)
        rwa [o_II, if_neg (by omega)] at this
      have s3 : pI (pI g q fq) (q + 3) (oI g (q + 3)) = pI g q fq := by
        have := o_pIi (h := pI g q fq) (a := q + 3)
        rwa [o_II, if_neg (by omega)] at this
      have s4 : pI (pI g q fq) (q + 4) (oI g (q + 4)) = pI g q fq := by
        have := o_pIi (h := pI g q fq) (a := q + 4)
        rwa [o_II, if_neg (by omega)] at this
      rw [s1, s2, s3, s4]
    rw [z]
    show _ = E_ (d + 5) mX3_begins 42 [.val (.ref q), .val (.ref c), .val (.int (nI 0))] [] (pI g q (va_up (va_up (va_up (va_up (va_up (va_up (va_up (oI g q) 6 (nI 0)) 7 (nI 0)) 8 (nI 0)) 9 (nI 0)) 10 (nI 0)) 11 (-1)) 12 (nI 0)))
    rw [← hg]
    unfold hR5
    simp (disch := first | assumption | exact nI_ne0 (by decide) (by decide) | exact zb_01 | exact Or.inl rfl | exact Or.inr rfl | with_unfolding_all exact id (by assumption) | with_unfolding_all exact id (xix_8 (by assumption) (by omega) (by omega)) | omega) only [wX3_begins_e, wX3_begins_0, wX3_begins_1, wX3_begins_2, wX3_begins_5, wX3_begins_6, wX3_begins_7, wX3_begins_10, wX3_begins_11, wX3_begins_12, wX3_begins_15, wX3_begins_16, wX3_begins_17, wX3_begins_20, wX3_begins_21, wX3_begins_22, wX3_begins_25, wX3_begins_26, wX3_begins_27, wX3_begins_30, wX3_begins_31, wX3_begins_32, wX3_begins_35, wX3_begins_36, wX3_begins_37, wX3_begins_40, wX3_begins_41, wX3_begins_43, wX3_begins_44, wX3_begins_47, wX3_begins_50, wX3_begins_51, wX3_begins_54, wX3_begins_55, wX3_begins_56, wX3_begins_57, wX3_begins_60, wX3_begins_63, wX3_begins_64, wX3_begins_65, wX3_begins_68, wX3_begins_69, wX3_begins_70, wX3_begins_71, wX3_begins_74, wX3_begins_75, wX3_begins_76, wX3_begins_79, wX3_begins_80, wX3_begins_81, wX3_begins_82, wX3_begins_83, wX3_begins_86, wX3_begins_87, wX3_begins_88, wX3_begins_88z, wX3_begins_89, wX3_begins_92, wX3_begins_95, wX3_begins_96, if_true, if_false, ↓reduceIte, xpu_s, xpu_n, Option.bind_some, xk_i, xk_r, xk_0, xk_u, xk_l, xk_k, xk_q, rf_s, rf_n, o_TI, o_TL, o_TR, o_NI, o_NL, o_NR, o_XI, o_XL, o_XR, o_RI, o_RL, o_LI, o_LR, o_IL, o_IR, o_II, o_LL, o_RR, o_pII, o_pLL, up_s, q_e1, q_e2, Nat.zero_add, Nat.reduceEqDiff, Nat.reduceAdd, Nat.reduceMul, Nat.reduceSub, Nat.reduceLT, Nat.reduceLeDiff, Nat.reduceDiv, Nat.reduceMod, nI_c, nI_add, up_ne]
  rw [e0]
  refine ⟨HB (sN A), (lp_go (n := sN A) (F := fun k => E_ (d + 5) mX3_begins 42 [.val (.ref q), .val (.ref c), .val (.int (nI k))] [] (HB k)) (fun k hk => ?_)).trans ?_, FB _, ?_⟩
  · refine wX3_begins_42.trans ?_
    have hsk : oR (HB k) q 5 = some c := hs1
    have M := kX3_many (d := d + 3) (WO_fr (FB k) O1) hsk (SC_w (FB k) O1 S1)
    have CR := kX3_car (d := d + 1) (WO_fr (FB k) O1) hsk (SC_w (FB k) O1 S1) hk W2
    have k8 : k < 8 := by omega
    obtain ⟨v1, v2, v3, v4, v5⟩ := (SC_w (FB k) O1 S1).2.2.2.2.2.2.2.2.2.2 k hk
    have F1 : WFr q g (pI (HB k) (q + 1) (va_up (oI (HB k) (q + 1)) k (A (10 + k)))) := WFr_I (FB k) (by omega) (by omega)
    have PC : C_ (d + 4) mX2_pace [.ref c, .int (nI k)] (pI (HB k) (q + 1) (va_up (oI (HB k) (q + 1)) k (A (10 + k)))) = some (some (.int (sBp A k)), pI (HB k) (q + 1) (va_up (oI (HB k) (q + 1)) k (A (10 + k)))) := kX2_pace (d := d + 1) (SC_w F1 O1 S1) W2 hk
    obtain ⟨u1, u2, u3, u4, u5, u6, u7, u8, u9, u10, u11, u12, u13, u14, u15, u16⟩ := WO_fr (FB k) O1
    have T3 : oT (HB k) c = 3 := S1.1
    have step : pI (pI (pI (pI (HB k) (q + 1) (va_up (oI (HB k) (q + 1)) k (A (10 + k)))) (q + 2) (va_up (oI (HB k) (q + 2)) k (sBp A k))) (q + 3) (va_up (oI (HB k) (q + 3)) k (nI 0))) (q + 4) (va_up (oI (HB k) (q + 4)) k (nI 0)) = HB (k + 1) := by
      have r1 : oI (HB k) (q + 1) = fun j => if j < k then A (10 + j) else oI g (q + 1) j := by
        show oI (pI (pI (pI (pI (pI g q fq) (q + 1) _) (q + 2) _) (q + 3) _) (q + 4) _) (q + 1) = _
        rw [o_II, if_neg (by omega), o_II, if_neg (by omega), o_II, if_neg (by omega), o_II, if_pos rfl]
      have r2 : oI (HB k) (q + 2) = fun j => if j < k then sBp A j else oI g (q + 2) j := by
        show oI (pI (pI (pI (pI (pI g q fq) (q + 1) _) (q + 2) _) (q + 3) _) (q + 4) _) (q + 2) = _
        rw [o_II, if_neg (by omega), o_II, if_neg (by omega), o_II, if_pos rfl]
      have r3 : oI (HB k) (q + 3) = fun j => if j < k then nI 0 else oI g (q + 3) j := by
        show oI (pI (pI (pI (pI (pI g q fq) (q + 1) _) (q + 2) _) (q + 3) _) (q + 4) _) (q + 3) = _
        rw [o_II, if_neg (by omega), o_II, if_pos rfl]
      have r4 : oI (HB k) (q + 4) = fun j => if j < k then nI 0 else oI g (q + 4) j := by
        show oI (pI (pI (pI (pI (pI g q fq) (q + 1) _) (q + 2) _) (q + 3) _) (q + 4) _) (q + 4) = _
        rw [o_II, if_pos rfl]
      rw [r1, r2, r3, r4, up_fill (g := fun j => A (10 + j)) rfl, up_fill (g := sBp A) rfl, up_fill (g := fun _ => nI 0) rfl, up_fill (g := fun _ => nI 0) rfl]
      show pI (pI (pI (pI (pI (pI (pI (pI (pI g q fq) (q + 1) _) (q + 2) _) (q + 3) _) (q + 4) _) (q + 1) _) (q + 2) _) (q + 3) _) (q + 4) _ = pI (pI (pI (pI (pI g q fq) (q + 1) _) (q + 2) _) (q + 3) _) (q + 4) _
      simp (disch := omega) only [o_qIc, o_pII, id_eq]
    generalize hX : HB k = X at *
    rw [← step]
    simp (disch := first | exact xix_k (by omega) (by omega) | first | assumption | exact nI_ne0 (by decide) (by decide) | exact zb_01 | exact Or.inl rfl | exact Or.inr rfl | with_unfolding_all exact id (by assumption) | with_unfolding_all exact id (xix_8 (by assumption) (by omega) (by omega)) | omega) only [wX3_begins_43, wX3_begins_44, wX3_begins_47, wX3_begins_50, wX3_begins_51, wX3_begins_54, wX3_begins_55, wX3_begins_56, wX3_begins_57, wX3_begins_60, wX3_begins_63, wX3_begins_64, wX3_begins_65, wX3_begins_68, wX3_begins_69, wX3_begins_70, wX3_begins_71, wX3_begins_74, wX3_begins_75, wX3_begins_76, wX3_begins_79, wX3_begins_80, wX3_begins_81, wX3_begins_82, wX3_begins_83, wX3_begins_86, wX3_begins_87, wX3_begins_88, wX3_begins_88z, wX3_begins_89, wX3_begins_92, if_true, if_false, ↓reduceIte, xpu_s, xpu_n, Option.bind_some, xk_i, xk_r, xk_0, xk_u, xk_l, xk_k, xk_q, rf_s, rf_n, o_TI, o_TL, o_TR, o_NI, o_NL, o_NR, o_XI, o_XL, o_XR, o_RI, o_RL, o_LI, o_LR, o_IL, o_IR, o_II, o_LL, o_RR, o_pII, o_pLL, up_s, q_e1, q_e2, Nat.zero_add, Nat.reduceEqDiff, Nat.reduceAdd, Nat.reduceMul, Nat.reduceSub, Nat.reduceLT, Nat.reduceLeDiff, Nat.reduceDiv, Nat.reduceMod, nI_c, nI_add, M, CR, PC, v3, u2, u3, u4, u5, u12, u13, u14, u15, nI_ltP, hk, nar_0]
  · refine wX3_begins_42.trans ?_
    have hsk : oR (HB (sN A)) q 5 = some c := hs1
    have M := kX3_many (d := d + 3) (WO_fr (FB (sN A)) O1) hsk (SC_w (FB (sN A)) O1 S1)
    have T5k : oT (HB (sN A)) q = 5 := T5g
    simp (disch := first | assumption | exact nI_ne0 (by decide) (by decide) | exact zb_01 | exact Or.inl rfl | exact Or.inr rfl | with_unfolding_all exact id (by assumption) | with_unfolding_all exact id (xix_8 (by assumption) (by omega) (by omega)) | omega) only [wX3_begins_43, wX3_begins_44, wX3_begins_47, wX3_begins_95, wX3_begins_96, if_true, if_false, ↓reduceIte, xpu_s, xpu_n, Option.bind_some, xk_i, xk_r, xk_0, xk_u, xk_l, xk_k, xk_q, rf_s, rf_n, q_e1, q_e2, Nat.zero_add, Nat.reduceEqDiff, Nat.reduceAdd, Nat.reduceMul, Nat.reduceSub, Nat.reduceLT, Nat.reduceLeDiff, Nat.reduceDiv, Nat.reduceMod, M, i_irr]
  · have lo : ∀ k, 16 ≤ k → k ≠ 39 → k ≠ 40 → k < 42 → sBg A w (-1) seed k = nI 0 := fun k h1 h2 h3 h4 => sBg_at W2 h1 h2 h3 h4
    refine ⟨fun k hk => ?_, fun k hk => ?_, fun k hk => ?_, fun k hk => ?_, ?_, ?_, ?_, ?_, ?_, ?_, ?_⟩
    · rw [(sBg_c hk W2).1, if_neg (by rw [nI_nm1 (by omega)]; exact fun z => z)]
      show oI (pI (pI (pI (pI (pI g q fq) (q + 1) _) (q + 2) _) (q + 3) _) (q + 4) _) (q + 1) k = _
      rw [o_II, if_neg (by omega), o_II, if_neg (by omega), o_II, if_neg (by omega), o_II, if_pos rfl]
      exact if_pos hk
    · rw [(sBg_c hk W2).2]
      show oI (pI (pI (pI (pI (pI g q fq) (q + 1) _) (q + 2) _) (q + 3) _) (q + 4) _) (q + 2) k = _
      rw [o_II, if_neg (by omega), o_II, if_neg (by omega), o_II, if_pos rfl]
      exact if_pos hk
    · rw [lo _ (by omega) (by omega) (by omega) (by omega)]
      show oI (pI (pI (pI (pI (pI g q fq) (q + 1) _) (q + 2) _) (q + 3) _) (q + 4) _) (q + 3) k = _
      rw [o_II, if_neg (by omega), o_II, if_pos rfl]
      exact if_pos hk
    · rw [lo _ (by omega) (by omega) (by omega) (by omega)]
      show oI (pI (pI (pI (pI (pI g q fq) (q + 1) _) (q + 2) _) (q + 3) _) (q + 4) _) (q + 4) k = _
      rw [o_II, if_pos rfl]
      exact if_pos hk
    all_goals show oI (pI (pI (pI (pI (pI g q fq) (q + 1) _) (q + 2) _) (q + 3) _) (q + 4) _) q _ = _
    all_goals rw [o_II, if_neg (by omega), o_II, if_neg (by omega), o_II, if_neg (by omega), o_II, if_neg (by omega), o_II, if_pos rfl]
    · rw [lo _ (by omega) (by omega) (by omega) (by omega)]
      simp (disch := omega) only [fq, up_ne, up_s]
    · rw [lo 33 (by omega) (by omega) (by omega) (by omega), if_neg (by rw [nI_01]; exact fun z => z)]
      simp (disch := omega) only [fq, up_ne, up_s]
    · rw [lo _ (by omega) (by omega) (by omega) (by omega)]
      simp (disch := omega) only [fq, up_ne, up_s]
    · rw [lo _ (by omega) (by omega) (by omega) (by omega)]
      simp (disch := omega) only [fq, up_ne, up_s]
    · rw [lo _ (by omega) (by omega) (by omega) (by omega)]
      simp (disch := omega) only [fq, up_ne, up_s]
    · unfold sBg
      rw [up_ne (by omega), up_s]
      simp (disch := omega) only [fq, up_ne, up_s]
    · rw [lo _ (by omega) (by omega) (by omega) (by omega)]
      simp (disch := omega) only [fq, up_s]
end
