/-! CONTRACTS of the component: a walk is made as another -/
theorem nar_01 {x : Int32} (h : x = nI 0 ∨ x = nI 1) : vp_nar .boolean x = x := by
  rcases h with e | e
  · rw [e]; rfl
  · rw [e]; rfl
section
variable {d : Nat} {h : xH} {q o c : Nat} {A w : rI}
theorem kX3_be (O : WO h q) (Oo : WO h o) (hs : oR h o 5 = some c) (S : SCo h c A) (W2 : sN A ≤ 8) (I : WI A w) (R : WR h o A w) (ne : q + 5 < o ∨ o + 5 < q) : ∃ h2, C_ (d + 2) mX3_be [.ref q, .ref o] h = some (none, h2) ∧ WFr q (hR5 h q c) h2 ∧ WR h2 q A w := by
  have n0 : (o = q) = False := eq_false (by omega)
  have n1 : ∀ i, i ≤ 5 → (o + i = q) = False := fun i hi => eq_false (by omega)
  have n2 : ∀ j, j ≤ 5 → (o = q + j) = False := fun j hj => eq_false (by omega)
  have n3 : ∀ i j, i ≤ 5 → j ≤ 5 → (o + i = q + j) = False := fun i j hi hj => eq_false (by omega)
  have O1 : WO (hR5 h q c) q := WO_5 O
  have S1 : SCo (hR5 h q c) c A := SC_5 O.1 S
  have hs1 : oR (hR5 h q c) q 5 = some c := by unfold hR5; rw [o_RR, if_pos rfl, up_s]
  have R1 : WR (hR5 h q c) o A w := R
  have Oo1 : WO (hR5 h q c) o := by
    obtain ⟨o1, o2, o3, o4, o5, o6, o7, o8, o9, o10, o11, o12, o13, o14, o15, o16⟩ := Oo
    unfold hR5
    refine ⟨o1, ?_, ?_, ?_, ?_, ?_, o7, o8, o9, o10, o11, o12, o13, o14, o15, o16⟩ <;> rw [o_RR, if_neg (by omega)] <;> assumption
  have T5 := O.1
  have T5o := Oo.1
  generalize hg : hR5 h q c = g at *
  let fq : rI := va_up (va_up (va_up (va_up (va_up (va_up (va_up (oI g q) 6 (oI g o 6)) 7 (oI g o 7)) 8 (oI g o 8)) 9 (oI g o 9)) 10 (oI g o 10)) 11 (oI g o 11)) 12 (oI g o 12)
  let HB : Nat → xH := fun k => pI (pI (pI (pI (pI g q fq) (q + 1) (fun j => if j < k then w j else oI g (q + 1) j)) (q + 2) (fun j => if j < k then w (8 + j) else oI g (q + 2) j)) (q + 3) (fun j => if j < k then w (16 + j) else oI g (q + 3) j)) (q + 4) (fun j => if j < k then w (24 + j) else oI g (q + 4) j)
  have FB : ∀ k, WFr q g (HB k) := fun k => WFr_I (WFr_I (WFr_I (WFr_I (WFr_I WFr_refl (by omega) (by omega)) (by omega) (by omega)) (by omega) (by omega)) (by omega) (by omega)) (by omega) (by omega)
  have T5g := O1.1
  have e0 : C_ (d + 2) mX3_be [.ref q, .ref o] h = E_ (d + 2) mX3_be 66 [.val (.ref q), .val (.ref o), .val (.int (nI 0))] [] (HB 0) := by
    have z : HB 0 = pI g q fq := by
      show pI (pI (pI (pI (pI g q fq) (q + 1) (fun j => if j < 0 then w j else oI g (q + 1) j)) (q + 2) (fun j => if j < 0 then w (8 + j) else oI g (q + 2) j)) (q + 3) (fun j => if j < 0 then w (16 + j) else oI g (q + 3) j)) (q + 4) (fun j => if j < 0 then w (24 + j) else oI g (q + 4) j) = _
      rw [fill_0 (f := oI g (q + 1)) (g := w), fill_0 (f := oI g (q + 2)) (g := fun j => w (8 + j)), fill_0 (f := oI g (q + 3)) (g := fun j => w (16 + j)), fill_0 (f := oI g (q + 4)) (g := fun j => w (24 + j))]
      have s1 : pI (pI g q fq) (q + 1) (oI g (q + 1)) = pI g q fq := by
        have := o_pIi (h := pI g q fq) (a := q + 1)
        rwa [o_II, if_neg (by omega)] at this
      have s2 : pI (pI g q fq) (q + 2) (oI g (q + 2)) = pI g q fq := by
        have := o_pIi (h := pI g q fq) (a := q + 2)
        rwa [o_II, if_neg (by omega)] at this
      have s3 : pI (pI g q fq) (q + 3) (oI g (q + 3)) = pI g q fq := by
        have := o_pIi (h := pI g q fq) (a := q + 3)
        rwa [o_II, if_neg (by omega)] at this
      have s4 : pI (pI g q fq) (q + 4) (oI g (q + 4)) = pI g q fq := by
        have := o_pIi (h := pI g q fq) (a := q + 4)
        rwa [o_II, if_neg (by omega)] at this
      rw [s1, s2, s3, s4]
    rw [z]
    show _ = E_ (d + 2) mX3_be 66 [.val (.ref q), .val (.ref o), .val (.int (nI 0))] [] (pI g q (va_up (va_up (va_up (va_up (va_up (va_up (va_up (oI g q) 6 (oI g o 6)) 7 (oI g o 7)) 8 (oI g o 8)) 9 (oI g o 9)) 10 (oI g o 10)) 11 (oI g o 11)) 12 (oI g o 12)))
    rw [← hg]
    unfold hR5
    simp (disch := first | assumption | exact nI_ne0 (by decide) (by decide) | exact zb_01 | exact Or.inl rfl | exact Or.inr rfl | with_unfolding_all exact id (by assumption) | with_unfolding_all exact id (xix_8 (by assumption) (by omega) (by omega)) | omega) only [wX3_be_e, wX3_be_0, wX3_be_1, wX3_be_2, wX3_be_5, wX3_be_8, wX3_be_9, wX3_be_10, wX3_be_13, wX3_be_16, wX3_be_17, wX3_be_18, wX3_be_21, wX3_be_24, wX3_be_25, wX3_be_26, wX3_be_29, wX3_be_32, wX3_be_33, wX3_be_34, wX3_be_37, wX3_be_40, wX3_be_41, wX3_be_42, wX3_be_45, wX3_be_48, wX3_be_49, wX3_be_50, wX3_be_53, wX3_be_56, wX3_be_57, wX3_be_58, wX3_be_61, wX3_be_64, wX3_be_65, wX3_be_67, wX3_be_68, wX3_be_71, wX3_be_74, wX3_be_75, wX3_be_78, wX3_be_79, wX3_be_80, wX3_be_83, wX3_be_84, wX3_be_85, wX3_be_86, wX3_be_87, wX3_be_90, wX3_be_91, wX3_be_92, wX3_be_95, wX3_be_96, wX3_be_97, wX3_be_98, wX3_be_99, wX3_be_102, wX3_be_103, wX3_be_104, wX3_be_107, wX3_be_108, wX3_be_109, wX3_be_110, wX3_be_111, wX3_be_114, wX3_be_115, wX3_be_116, wX3_be_119, wX3_be_120, wX3_be_121, wX3_be_121z, wX3_be_122, wX3_be_125, wX3_be_128, if_true, if_false, ↓reduceIte, xpu_s, xpu_n, Option.bind_some, xk_i, xk_r, xk_0, xk_u, xk_l, xk_k, xk_q, rf_s, rf_n, o_TI, o_TL, o_TR, o_NI, o_NL, o_NR, o_XI, o_XL, o_XR, o_RI, o_RL, o_LI, o_LR, o_IL, o_IR, o_II, o_LL, o_RR, o_pII, o_pLL, up_s, q_e1, q_e2, Nat.zero_add, Nat.reduceEqDiff, Nat.reduceAdd, Nat.reduceMul, Nat.reduceSub, Nat.reduceLT, Nat.reduceLeDiff, Nat.reduceDiv, Nat.reduceMod, nI_c, nI_add, up_ne, hs, n0]
  rw [e0]
  refine ⟨HB (sN A), (lp_go (n := sN A) (F := fun k => E_ (d + 2) mX3_be 66 [.val (.ref q), .val (.ref o), .val (.int (nI k))] [] (HB k)) (fun k hk => ?_)).trans ?_, FB _, ?_⟩
  · refine wX3_be_66.trans ?_
    have hsk : oR (HB k) q 5 = some c := hs1
    have M := kX3_many (d := d) (WO_fr (FB k) O1) hsk (SC_w (FB k) O1 S1)
    have k8 : k < 8 := by omega
    obtain ⟨u1, u2, u3, u4, u5, u6, u7, u8, u9, u10, u11, u12, u13, u14, u15, u16⟩ := WO_fr (FB k) O1
    have ro : ∀ a, oR (HB k) a = oR g a := fun a => rfl
    have to : oT (HB k) = oT g := rfl
    have no : oN (HB k) = oN g := rfl
    obtain ⟨v1, v2, v3, v4, v5, v6, v7, v8, v9, v10, v11, v12, v13, v14, v15, v16⟩ := Oo1
    rw [← ro] at v2 v3 v4 v5 v6
    rw [← to] at v1 v7 v8 v9 v10 v11
    rw [← no] at v12 v13 v14 v15 v16
    have fr := (FB k).2.2.2.2.2
    have i1 : oI (HB k) (o + 1) k = w k := by rw [fr (o + 1) (by omega)]; exact R1.1 k hk
    have i2 : oI (HB k) (o + 2) k = w (8 + k) := by rw [fr (o + 2) (by omega)]; exact R1.2.1 k hk
    have i3 : oI (HB k) (o + 3) k = w (16 + k) := by rw [fr (o + 3) (by omega)]; exact R1.2.2.1 k hk
    have i4 : oI (HB k) (o + 4) k = w (24 + k) := by rw [fr (o + 4) (by omega)]; exact R1.2.2.2.1 k hk
    have nb : vp_nar .boolean (w (24 + k)) = w (24 + k) := nar_01 ((I.2.2 k hk).2.2.2.imp id And.left)
    have step : pI (pI (pI (pI (HB k) (q + 1) (va_up (oI (HB k) (q + 1)) k (w k))) (q + 2) (va_up (oI (HB k) (q + 2)) k (w (8 + k)))) (q + 3) (va_up (oI (HB k) (q + 3)) k (w (16 + k)))) (q + 4) (va_up (oI (HB k) (q + 4)) k (w (24 + k))) = HB (k + 1) := by
      have r1 : oI (HB k) (q + 1) = fun j => if j < k then w j else oI g (q + 1) j := by
        show oI (pI (pI (pI (pI (pI g q fq) (q + 1) _) (q + 2) _) (q + 3) _) (q + 4) _) (q + 1) = _
        rw [o_II, if_neg (by omega), o_II, if_neg (by omega), o_II, if_neg (by omega), o_II, if_pos rfl]
      have r2 : oI (HB k) (q + 2) = fun j => if j < k then w (8 + j) else oI g (q + 2) j := by
        show oI (pI (pI (pI (pI (pI g q fq) (q + 1) _) (q + 2) _) (q + 3) _) (q + 4) _) (q + 2) = _
        rw [o_II, if_neg (by omega), o_II, if_neg (by omega), o_II, if_pos rfl]
      have r3 : oI (HB k) (q + 3) = fun j => if j < k then w (16 + j) else oI g (q + 3) j := by
        show oI (pI (pI (pI (pI (pI g q fq) (q + 1) _) (q + 2) _) (q + 3) _) (q + 4) _) (q + 3) = _
        rw [o_II, if_neg (by omega), o_II, if_pos rfl]
      have r4 : oI (HB k) (q + 4) = fun j => if j < k then w (24 + j) else oI g (q + 4) j := by
        show oI (pI (pI (pI (pI (pI g q fq) (q + 1) _) (q + 2) _) (q + 3) _) (q + 4) _) (q + 4) = _
        rw [o_II, if_pos rfl]
      rw [r1, r2, r3, r4, up_fill (g := w) rfl, up_fill (g := fun j => w (8 + j)) rfl, up_fill (g := fun j => w (16 + j)) rfl, up_fill (g := fun j => w (24 + j)) rfl]
      show pI (pI (pI (pI (pI (pI (pI (pI (pI g q fq) (q + 1) _) (q + 2) _) (q + 3) _) (q + 4) _) (q + 1) _) (q + 2) _) (q + 3) _) (q + 4) _ = pI (pI (pI (pI (pI g q fq) (q + 1) _) (q + 2) _) (q + 3) _) (q + 4) _
      simp (disch := omega) only [o_qIc, o_pII, id_eq]
    generalize hX : HB k = X at *
    rw [← step]
    simp (disch := first | exact xix_k (by omega) (by omega) | exact Or.inr (by with_unfolding_all exact v10) | first | assumption | exact nI_ne0 (by decide) (by decide) | exact zb_01 | exact Or.inl rfl | exact Or.inr rfl | with_unfolding_all exact id (by assumption) | with_unfolding_all exact id (xix_8 (by assumption) (by omega) (by omega)) | omega) only [wX3_be_67, wX3_be_68, wX3_be_71, wX3_be_74, wX3_be_75, wX3_be_78, wX3_be_79, wX3_be_80, wX3_be_83, wX3_be_84, wX3_be_85, wX3_be_86, wX3_be_87, wX3_be_90, wX3_be_91, wX3_be_92, wX3_be_95, wX3_be_96, wX3_be_97, wX3_be_98, wX3_be_99, wX3_be_102, wX3_be_103, wX3_be_104, wX3_be_107, wX3_be_108, wX3_be_109, wX3_be_110, wX3_be_111, wX3_be_114, wX3_be_115, wX3_be_116, wX3_be_119, wX3_be_120, wX3_be_121, wX3_be_121z, wX3_be_122, wX3_be_125, if_true, if_false, ↓reduceIte, xpu_s, xpu_n, Option.bind_some, xk_i, xk_r, xk_0, xk_u, xk_l, xk_k, xk_q, rf_s, rf_n, o_TI, o_TL, o_TR, o_NI, o_NL, o_NR, o_XI, o_XL, o_XR, o_RI, o_RL, o_LI, o_LR, o_IL, o_IR, o_II, o_LL, o_RR, o_pII, o_pLL, up_s, q_e1, q_e2, Nat.zero_add, Nat.reduceEqDiff, Nat.reduceAdd, Nat.reduceMul, Nat.reduceSub, Nat.reduceLT, Nat.reduceLeDiff, Nat.reduceDiv, Nat.reduceMod, nI_c, nI_add, M, u2, u3, u4, u5, u12, u13, u14, u15, v2, v3, v4, v5, v12, v13, v14, v15, n0, n1, n2, n3, i1, i2, i3, i4, nI_ltP, hk, nb]
  · refine wX3_be_66.trans ?_
    have hsk : oR (HB (sN A)) q 5 = some c := hs1
    have M := kX3_many (d := d) (WO_fr (FB (sN A)) O1) hsk (SC_w (FB (sN A)) O1 S1)
    have T5k : oT (HB (sN A)) q = 5 := T5g
    simp (disch := first | assumption | exact nI_ne0 (by decide) (by decide) | exact zb_01 | exact Or.inl rfl | exact Or.inr rfl | with_unfolding_all exact id (by assumption) | with_unfolding_all exact id (xix_8 (by assumption) (by omega) (by omega)) | omega) only [wX3_be_67, wX3_be_68, wX3_be_71, wX3_be_128, if_true, if_false, ↓reduceIte, xpu_s, xpu_n, Option.bind_some, xk_i, xk_r, xk_0, xk_u, xk_l, xk_k, xk_q, rf_s, rf_n, q_e1, q_e2, Nat.zero_add, Nat.reduceEqDiff, Nat.reduceAdd, Nat.reduceMul, Nat.reduceSub, Nat.reduceLT, Nat.reduceLeDiff, Nat.reduceDiv, Nat.reduceMod, M, i_irr]
  · obtain ⟨-, -, -, -, t1, t2, t3, t4, t5, t6, t7⟩ := R1
    refine ⟨fun k hk => ?_, fun k hk => ?_, fun k hk => ?_, fun k hk => ?_, ?_, ?_, ?_, ?_, ?_, ?_, ?_⟩
    · show oI (pI (pI (pI (pI (pI g q fq) (q + 1) _) (q + 2) _) (q + 3) _) (q + 4) _) (q + 1) k = _
      rw [o_II, if_neg (by omega), o_II, if_neg (by omega), o_II, if_neg (by omega), o_II, if_pos rfl]
      exact if_pos hk
    · show oI (pI (pI (pI (pI (pI g q fq) (q + 1) _) (q + 2) _) (q + 3) _) (q + 4) _) (q + 2) k = _
      rw [o_II, if_neg (by omega), o_II, if_neg (by omega), o_II, if_pos rfl]
      exact if_pos hk
    · show oI (pI (pI (pI (pI (pI g q fq) (q + 1) _) (q + 2) _) (q + 3) _) (q + 4) _) (q + 3) k = _
      rw [o_II, if_neg (by omega), o_II, if_pos rfl]
      exact if_pos hk
    · show oI (pI (pI (pI (pI (pI g q fq) (q + 1) _) (q + 2) _) (q + 3) _) (q + 4) _) (q + 4) k = _
      rw [o_II, if_pos rfl]
      exact if_pos hk
    all_goals show oI (pI (pI (pI (pI (pI g q fq) (q + 1) _) (q + 2) _) (q + 3) _) (q + 4) _) q _ = _
    all_goals rw [o_II, if_neg (by omega), o_II, if_neg (by omega), o_II, if_neg (by omega), o_II, if_neg (by omega), o_II, if_pos rfl]
    all_goals simp (disch := omega) only [fq, up_ne, up_s, t1, t2, t3, t4, t5, t6, t7]
end
