/-! A STATE copied -/
section
variable {d : Nat} {h g z z1 : xH} {P : sS} {A : rI} {x : Int32} {ow nw : Nat → Nat} {s o i j k n t p l c a : Nat}
/-- a new place -/
def NPf (z : xH) (A : rI) (j a : Nat) : Prop := oT z a = 19 ∧ oI z a 0 = A (478 + j) ∧ oI z a 3 = A (538 + j) ∧ oR z a 1 = some (a + 1) ∧ oR z a 2 = some (a + 2) ∧ (oT z (a + 1) = 40 ∧ oN z (a + 1) = 2 ∧ oI z (a + 1) 0 = A (490 + j) ∧ oI z (a + 1) 1 = A (502 + j)) ∧ (oT z (a + 2) = 40 ∧ oN z (a + 2) = 2 ∧ oI z (a + 2) 0 = A (514 + j) ∧ oI z (a + 2) 1 = A (526 + j))
theorem NPf_m (s0 : sm z z1 a) (s1 : sm z z1 (a + 1)) (s2 : sm z z1 (a + 2)) (N : NPf z A j a) : NPf z1 A j a := by
  unfold NPf at *
  rw [s0.1, s0.2.2.1, s0.2.2.2.1, s1.1, s1.2.1, s1.2.2.1, s2.1, s2.2.1, s2.2.2.1]
  exact N
/-- the places so far -/
def NPl (g z : xH) (o : Nat) (A : rI) (i : Nat) : Prop := GX (fun a => a = o + 6 ∨ a = o + 7) g z (4 * i) (48 * i) ∧ LG z (o + 6) i 19 ∧ (rq z (o + 6) 1 = o + 7 ∨ (oX g ≤ rq z (o + 6) 1 ∧ rq z (o + 6) 1 < oX z)) ∧ (∀ j, j < i → NPf z A j (li z (o + 6) j) ∧ oX g ≤ li z (o + 6) j ∧ li z (o + 6) j + 2 < oX z) ∧ ∀ j k, j < k → k < i → li z (o + 6) j < li z (o + 6) k
theorem kX1_cp (T : TX g) (ho : o + 11 ≤ oX g) (to : oT g o = 2) (ro : oR g o 2 = some (o + 6)) (h0 : NPl g z o A i) (hi : i < sP_ A) (h12 : sP_ A ≤ 12) (ts : oT g s = 2) (rs : oR g s 2 = some p) (so : s < o) (L : LSn g p (sP_ A)) (po : p < o) (pq : rq g p 1 < o) (Q : PQ g (li g p i) A i) (qo : li g p i < o) (q1 : rq g (li g p i) 1 < o) (q2 : rq g (li g p i) 2 < o) (hw : A (478 + i) = nI 0 ∨ A (478 + i) = nI 1) : ∃ z', E_ (d + 11) mX1_copy 29 [.val (.ref s), .val (.ref o), .val (.int (nI i))] [] z = E_ (d + 11) mX1_copy 29 [.val (.ref s), .val (.ref o), .val (.int (nI (i + 1)))] [] z' ∧ NPl g z' o A (i + 1) := by
  obtain ⟨gz, G, rz, pf, mono⟩ := h0
  have Tz := TX_G T gz
  have sz : ∀ a, a < oX g → ¬ a = o + 6 → ¬ a = o + 7 → sm g z a := fun a h1 h2 h3 => gz.2.2.2.2.2 a h1 (fun y => by omega)
  have ss := sz s (by omega) (by omega) (by omega)
  have sO := sz o (by omega) (by omega) (by omega)
  obtain ⟨Lz, lz⟩ := LS_m (sz p (by omega) (by omega) (by omega)) (sz _ (by omega) (by omega) (by omega)) L
  have SZ := kJ2_size (d := d + 10) Lz
  have GT := kJ2_get (d := d + 8) Lz hi (by omega)
  rw [lz] at GT
  have GT : C_ (d + 10) mJ2_get [.ref p, .int (nI i)] z = some (some (.ref (li g p i)), z) := GT
  have Qz : PQ z (li g p i) A i := by
    have m0 := sz (li g p i) (by omega) (by omega) (by omega)
    have m1 := sz (rq g (li g p i) 1) (by omega) (by omega) (by omega)
    have m2 := sz (rq g (li g p i) 2) (by omega) (by omega) (by omega)
    unfold PQ at *
    rw [rq_m m0, rq_m m0, m0.1, m0.2.2.1, m0.2.2.2.1, m1.1, m1.2.1, m1.2.2.1, m2.1, m2.2.1, m2.2.2.1]
    exact Q
  obtain ⟨z1, e1, n1, n2, n3, n4, n5, n6, n7, g1, x1⟩ := kX19_copy (d := d + 9) Tz Qz hw
  have T1 := TX_G Tz g1
  have s1 : ∀ a, a < oX z → sm z z1 a := fun a ha => g1.2.2.2.2.2 a ha (fun y => y)
  have l6 := TX_lt Tz (a := o + 6) (by rw [G.1.1]; decide)
  have l45 := TX_lt Tz (a := rq z (o + 6) 1) (by rw [G.1.2.2.2.1]; decide)
  obtain ⟨G1, lz1, rz1⟩ := sm_LG (Q := fun a => a < oX z) G s1 l6 l45 (fun j hj => by have := (pf j hj).2.2; omega)
  obtain ⟨z2, e2, G2, l2, l2', r2, g2, x2⟩ := kJ2_add (d := d + 6) T1 G1 (by omega) (by omega) n1
  have t45 : oT z1 (rq z1 (o + 6) 1) = 45 := G1.1.2.2.2.1
  have t4 : oT z1 (o + 6) = 4 := G1.1.1
  have s2 : ∀ a, a < oX z1 → ¬ oT z1 a = 4 → ¬ oT z1 a = 45 → sm z1 z2 a := fun a h1 h2 h3 => g2.2.2.2.2.2 a h1 (fun y => by
    rcases y with y | y
    · rw [y] at h2; exact h2 t4
    · rw [y] at h3; exact h3 t45)
  have ge := gz.1
  have t1s : oT z s = 2 := ss.1.trans ts
  have t1o : oT z o = 2 := sO.1.trans to
  have r1s : oR z s 2 = some p := by rw [ss.2.2.2.1]; exact rs
  have r1o : oR z o 2 = some (o + 6) := by rw [sO.2.2.2.1]; exact ro
  have lt : (nI i < nI (sP_ A)) = True := eq_true (nI_lt hi (by omega))
  have tp : oT z p = 4 := Lz.1
  have t19 : oT z (li g p i) = 19 := Qz.1
  refine ⟨z2, ?_, ?_, G2, ?_, ?_, ?_⟩
  · refine wX1_copy_29.trans ?_
    simp (disch := first | exact t1s | exact t1o | exact tp | exact t19 | first | assumption | exact nI_ne0 (by decide) (by decide) | exact zb_01 | exact Or.inl rfl | exact Or.inr rfl | with_unfolding_all exact id (by assumption) | with_unfolding_all exact id (xix_8 (by assumption) (by omega) (by omega)) | omega) only [wX1_copy_e, wX1_copy_0, wX1_copy_3, wX1_copy_4, wX1_copy_7, wX1_copy_8, wX1_copy_9, wX1_copy_10, wX1_copy_13, wX1_copy_16, wX1_copy_19, wX1_copy_20, wX1_copy_21, wX1_copy_24, wX1_copy_27, wX1_copy_28, wX1_copy_30, wX1_copy_31, wX1_copy_34, wX1_copy_37, wX1_copy_40, wX1_copy_41, wX1_copy_44, wX1_copy_45, wX1_copy_48, wX1_copy_49, wX1_copy_52, wX1_copy_52n, wX1_copy_55, wX1_copy_58, wX1_copy_61, wX1_copy_62, wX1_copy_65, wX1_copy_68, wX1_copy_69, wX1_copy_71, wX1_copy_72, wX1_copy_75, wX1_copy_76, wX1_copy_79, wX1_copy_80, wX1_copy_81, wX1_copy_84, wX1_copy_85, wX1_copy_86, wX1_copy_87, wX1_copy_88, wX1_copy_91, wX1_copy_92, wX1_copy_93, wX1_copy_96, wX1_copy_97, wX1_copy_98, wX1_copy_99, wX1_copy_102, wX1_copy_105, wX1_copy_106, wX1_copy_108, wX1_copy_109, wX1_copy_112, wX1_copy_113, wX1_copy_116, wX1_copy_117, wX1_copy_120, wX1_copy_121, wX1_copy_122, wX1_copy_125, wX1_copy_126, wX1_copy_127, wX1_copy_128, wX1_copy_131, wX1_copy_134, wX1_copy_135, if_true, if_false, ↓reduceIte, xpu_s, xpu_n, Option.bind_some, xk_i, xk_r, xk_0, xk_u, xk_l, xk_k, xk_q, rf_s, rf_n, q_e1, q_e2, Nat.zero_add, Nat.reduceEqDiff, Nat.reduceAdd, Nat.reduceMul, Nat.reduceSub, Nat.reduceLT, Nat.reduceLeDiff, Nat.reduceDiv, Nat.reduceMod, r1s, r1o, SZ, GT, e1, e2, lt, nI_add, not_true_eq_false, not_false_eq_true, and_self, and_true, true_and, and_false, false_and, or_true, true_or, or_false, false_or, decide_true, decide_false, zb_t, zb_f, zb_0, zb_1, eq_self]
  · refine GX_le (GX_trans (GX_trans gz g1 (fun _ _ y => y.elim)) g2 (fun a ha y => ?_)) (by omega) (by omega)
    rcases y with y | y
    · exact Or.inl y
    · rw [rz1] at y
      rcases rz with q | q
      · exact Or.inr (by omega)
      · omega
  · rcases r2 with q | ⟨q, q'⟩
    · rw [q, rz1]
      rcases rz with q | q
      · exact Or.inl q
      · have := g2.1; exact Or.inr (by omega)
    · rw [q]; exact Or.inr (by omega)
  · intro j hj
    by_cases y : j = i
    · subst y
      rw [l2']
      have := g2.1
      refine ⟨NPf_m (s2 _ (by omega) (by rw [n1]; decide) (by rw [n1]; decide)) (s2 _ (by omega) (by rw [n6.1]; decide) (by rw [n6.1]; decide)) (s2 _ (by omega) (by rw [n7.1]; decide) (by rw [n7.1]; decide)) ⟨n1, n2, n3, n4, n5, n6, n7⟩, by omega, by omega⟩
    · obtain ⟨f1, f2, f3⟩ := pf j (by omega)
      rw [l2 j (by omega), lz1]
      have := g2.1
      have F1 := NPf_m (s1 _ (by omega)) (s1 _ (by omega)) (s1 _ (by omega)) f1
      refine ⟨NPf_m (s2 _ (by omega) (by rw [F1.1]; decide) (by rw [F1.1]; decide)) (s2 _ (by omega) (by rw [F1.2.2.2.2.2.1.1]; decide) (by rw [F1.2.2.2.2.2.1.1]; decide)) (s2 _ (by omega) (by rw [F1.2.2.2.2.2.2.1]; decide) (by rw [F1.2.2.2.2.2.2.1]; decide)) F1, f2, by omega⟩
  · intro j k hjk hk
    by_cases y : k = i
    · subst y
      rw [l2', l2 j hjk, lz1]
      have := (pf j hjk).2.2
      omega
    · rw [l2 k (by omega), l2 j (by omega), lz1, lz1]
      exact mono j k hjk (by omega)
/-- rows of ints are copied -/
theorem kX1_c3 {q8 q9 a3 a4 : Nat} (ts : oT z s = 2) (to : oT z o = 2) (n8 : q8 < q9) (o8 : oR z o 3 = some q8) (o9 : oR z o 4 = some q9) (t8 : oT z q8 = 40) (t9 : oT z q9 = 40) (l8 : oN z q8 = 4) (l9 : oN z q9 = 4) (s3 : oR z s 3 = some a3) (s4 : oR z s 4 = some a4) (A3 : AR z a3 4 (fun j => A (550 + j))) (A4 : AR z a4 4 (fun j => A (554 + j))) (n38 : ¬ a3 = q8) (n39 : ¬ a3 = q9) (n48 : ¬ a4 = q8) (n49 : ¬ a4 = q9) : ∃ f g : rI, E_ d mX1_copy 70 [.val (.ref s), .val (.ref o), .val (.int (nI 0))] [] z = E_ d mX1_copy 105 [.val (.ref s), .val (.ref o), .val (.int (nI 4))] [] (pI (pI z q8 f) q9 g) ∧ ∀ j, j < 4 → f j = A (550 + j) ∧ g j = A (554 + j) := by
  obtain ⟨b1, b2, b3⟩ := A3
  obtain ⟨c1, c2, c3⟩ := A4
  have e0 : pI (pI z q8 (oI z q8)) q9 (oI z q9) = z := by
    rw [pI_self, pI_self]
  have m1 : (q8 = q9) = False := eq_false (by omega)
  have m2 : (a3 = q8) = False := eq_false n38
  have m3 : (a3 = q9) = False := eq_false n39
  have m4 : (a4 = q8) = False := eq_false n48
  have m5 : (a4 = q9) = False := eq_false n49
  rw [show E_ d mX1_copy 70 [.val (.ref s), .val (.ref o), .val (.int (nI 0))] [] z = E_ d mX1_copy 70 [.val (.ref s), .val (.ref o), .val (.int (nI 0))] [] (pI (pI z q8 (oI z q8)) q9 (oI z q9)) by rw [e0]]
  refine lpe_st (n := 4) (s := ()) (z := (oI z q8, oI z q9)) (f := fun _ u => u) (P := fun k _ (w : rI × rI) => ∀ j, j < k → w.1 j = A (550 + j) ∧ w.2 j = A (554 + j)) (Q := fun _ r => ∃ f g : rI, r = E_ d mX1_copy 105 [.val (.ref s), .val (.ref o), .val (.int (nI 4))] [] (pI (pI z q8 f) q9 g) ∧ ∀ j, j < 4 → f j = A (550 + j) ∧ g j = A (554 + j)) (F := fun k _ w => E_ d mX1_copy 70 [.val (.ref s), .val (.ref o), .val (.int (nI k))] [] (pI (pI z q8 w.1) q9 w.2)) (fun j hj => absurd hj (Nat.not_lt_zero j)) (fun k _ w hk hw => ⟨(va_up w.1 k (A (550 + k)), va_up w.2 k (A (554 + k))), ?_, fun j hj => ?_⟩) (fun _ w hw => ⟨w.1, w.2, ?_, hw⟩)
  · have lt : (nI k < nI 4) = True := eq_true (nI_lt hk (by omega))
    have v3 := b3 k hk
    have v4 := c3 k hk
    refine wX1_copy_70.trans ?_
    simp (disch := first | with_unfolding_all exact id ts | with_unfolding_all exact id to | with_unfolding_all exact id t8 | with_unfolding_all exact id t9 | with_unfolding_all exact id b1 | with_unfolding_all exact id c1 | with_unfolding_all exact id (xix_8 l8 (by omega) (by omega)) | with_unfolding_all exact id (xix_8 l9 (by omega) (by omega)) | with_unfolding_all exact id (xix_8 b2 (by omega) (by omega)) | with_unfolding_all exact id (xix_8 c2 (by omega) (by omega)) | first | assumption | exact nI_ne0 (by decide) (by decide) | exact zb_01 | exact Or.inl rfl | exact Or.inr rfl | with_unfolding_all exact id (by assumption) | with_unfolding_all exact id (xix_8 (by assumption) (by omega) (by omega)) | omega) only [wX1_copy_e, wX1_copy_0, wX1_copy_3, wX1_copy_4, wX1_copy_7, wX1_copy_8, wX1_copy_9, wX1_copy_10, wX1_copy_13, wX1_copy_16, wX1_copy_19, wX1_copy_20, wX1_copy_21, wX1_copy_24, wX1_copy_27, wX1_copy_28, wX1_copy_29, wX1_copy_30, wX1_copy_31, wX1_copy_34, wX1_copy_37, wX1_copy_40, wX1_copy_41, wX1_copy_44, wX1_copy_45, wX1_copy_48, wX1_copy_49, wX1_copy_52, wX1_copy_52n, wX1_copy_55, wX1_copy_58, wX1_copy_61, wX1_copy_62, wX1_copy_65, wX1_copy_68, wX1_copy_69, wX1_copy_71, wX1_copy_72, wX1_copy_75, wX1_copy_76, wX1_copy_79, wX1_copy_80, wX1_copy_81, wX1_copy_84, wX1_copy_85, wX1_copy_86, wX1_copy_87, wX1_copy_88, wX1_copy_91, wX1_copy_92, wX1_copy_93, wX1_copy_96, wX1_copy_97, wX1_copy_98, wX1_copy_99, wX1_copy_102, wX1_copy_105, wX1_copy_106, wX1_copy_108, wX1_copy_109, wX1_copy_112, wX1_copy_113, wX1_copy_116, wX1_copy_117, wX1_copy_120, wX1_copy_121, wX1_copy_122, wX1_copy_125, wX1_copy_126, wX1_copy_127, wX1_copy_128, wX1_copy_131, wX1_copy_134, wX1_copy_135, if_true, if_false, ↓reduceIte, xpu_s, xpu_n, Option.bind_some, xk_i, xk_r, xk_0, xk_u, xk_l, xk_k, xk_q, rf_s, rf_n, o_TI, o_TL, o_TR, o_NI, o_NL, o_NR, o_XI, o_XL, o_XR, o_RI, o_RL, o_LI, o_LR, o_IL, o_IR, o_II, o_LL, o_RR, o_pII, o_pLL, up_s, q_e1, q_e2, Nat.zero_add, Nat.reduceEqDiff, Nat.reduceAdd, Nat.reduceMul, Nat.reduceSub, Nat.reduceLT, Nat.reduceLeDiff, Nat.reduceDiv, Nat.reduceMod, nI_c, nI_add, up_ne, o_qIc, o_qLc, o_qLI, id_eq, lt, o8, o9, s3, s4, v3, v4, m1, m2, m3, m4, m5, not_true_eq_false, not_false_eq_true, and_self, and_true, true_and, and_false, false_and, or_true, true_or, or_false, false_or, decide_true, decide_false, zb_t, zb_f, zb_0, zb_1, eq_self]
  · show va_up w.1 k _ j = _ ∧ va_up w.2 k _ j = _
    by_cases y : j = k
    · rw [y, up_s, up_s]; exact ⟨rfl, rfl⟩
    · rw [up_ne y, up_ne y]; exact hw j (by omega)
  · refine wX1_copy_70.trans ?_
    simp (disch := first | assumption | exact nI_ne0 (by decide) (by decide) | exact zb_01 | exact Or.inl rfl | exact Or.inr rfl | with_unfolding_all exact id (by assumption) | with_unfolding_all exact id (xix_8 (by assumption) (by omega) (by omega)) | omega) only [wX1_copy_71, wX1_copy_72, if_true, if_false, ↓reduceIte, xpu_s, xpu_n, Option.bind_some, xk_i, xk_r, xk_0, xk_u, xk_l, xk_k, xk_q, rf_s, rf_n, q_e1, q_e2, Nat.zero_add, Nat.reduceEqDiff, Nat.reduceAdd, Nat.reduceMul, Nat.reduceSub, Nat.reduceLT, Nat.reduceLeDiff, Nat.reduceDiv, Nat.reduceMod, i_irr, not_true_eq_false, not_false_eq_true, and_self, and_true, true_and, and_false, false_and, or_true, true_or, or_false, false_or, decide_true, decide_false, zb_t, zb_f, zb_0, zb_1, eq_self]
theorem kX1_c5 {qa a5 : Nat} (ts : oT z s = 2) (to : oT z o = 2) (oa : oR z o 5 = some qa) (ta : oT z qa = 40) (la : oN z qa = 20) (s5 : oR z s 5 = some a5) (A5 : AR z a5 20 (fun j => A (558 + j))) (n5a : ¬ a5 = qa) : ∃ f : rI, E_ d mX1_copy 105 [.val (.ref s), .val (.ref o), .val (.int (nI 4))] [] z = some (some (.ref o), pI z qa f) ∧ ∀ j, j < 20 → f j = A (558 + j) := by
  obtain ⟨b1, b2, b3⟩ := A5
  have m1 : (a5 = qa) = False := eq_false n5a
  have t48 : 39 ≤ oT z a5 ∧ oT z a5 ≤ 48 := by omega
  have e0 : E_ d mX1_copy 105 [.val (.ref s), .val (.ref o), .val (.int (nI 4))] [] z = E_ d mX1_copy 107 [.val (.ref s), .val (.ref o), .val (.int (nI 0))] [] (pI z qa (oI z qa)) := by
    rw [pI_self]
    simp (disch := first | assumption | exact nI_ne0 (by decide) (by decide) | exact zb_01 | exact Or.inl rfl | exact Or.inr rfl | with_unfolding_all exact id (by assumption) | with_unfolding_all exact id (xix_8 (by assumption) (by omega) (by omega)) | omega) only [wX1_copy_105, wX1_copy_106, if_true, if_false, ↓reduceIte, xpu_s, xpu_n, Option.bind_some, xk_i, xk_r, xk_0, xk_u, xk_l, xk_k, xk_q, rf_s, rf_n]
  rw [e0]
  refine lpe_st (n := 20) (s := ()) (z := oI z qa) (f := fun _ u => u) (P := fun k _ (w : rI) => ∀ j, j < k → w j = A (558 + j)) (Q := fun _ r => ∃ f : rI, r = some (some (.ref o), pI z qa f) ∧ ∀ j, j < 20 → f j = A (558 + j)) (F := fun k _ w => E_ d mX1_copy 107 [.val (.ref s), .val (.ref o), .val (.int (nI k))] [] (pI z qa w)) (fun j hj => absurd hj (Nat.not_lt_zero j)) (fun k _ w hk hw => ⟨va_up w k (A (558 + k)), ?_, fun j hj => ?_⟩) (fun _ w hw => ⟨w, ?_, hw⟩)
  · have lt : (nI k < nI 20) = True := eq_true (nI_lt hk (by omega))
    have v5 := b3 k hk
    refine wX1_copy_107.trans ?_
    simp (disch := first | with_unfolding_all exact id ts | with_unfolding_all exact id to | with_unfolding_all exact id ta | with_unfolding_all exact id b1 | with_unfolding_all exact id (xix_8 la (by omega) (by omega)) | with_unfolding_all exact id (xix_8 b2 (by omega) (by omega)) | with_unfolding_all exact id t48 | first | assumption | exact nI_ne0 (by decide) (by decide) | exact zb_01 | exact Or.inl rfl | exact Or.inr rfl | with_unfolding_all exact id (by assumption) | with_unfolding_all exact id (xix_8 (by assumption) (by omega) (by omega)) | omega) only [wX1_copy_e, wX1_copy_0, wX1_copy_3, wX1_copy_4, wX1_copy_7, wX1_copy_8, wX1_copy_9, wX1_copy_10, wX1_copy_13, wX1_copy_16, wX1_copy_19, wX1_copy_20, wX1_copy_21, wX1_copy_24, wX1_copy_27, wX1_copy_28, wX1_copy_29, wX1_copy_30, wX1_copy_31, wX1_copy_34, wX1_copy_37, wX1_copy_40, wX1_copy_41, wX1_copy_44, wX1_copy_45, wX1_copy_48, wX1_copy_49, wX1_copy_52, wX1_copy_52n, wX1_copy_55, wX1_copy_58, wX1_copy_61, wX1_copy_62, wX1_copy_65, wX1_copy_68, wX1_copy_69, wX1_copy_70, wX1_copy_71, wX1_copy_72, wX1_copy_75, wX1_copy_76, wX1_copy_79, wX1_copy_80, wX1_copy_81, wX1_copy_84, wX1_copy_85, wX1_copy_86, wX1_copy_87, wX1_copy_88, wX1_copy_91, wX1_copy_92, wX1_copy_93, wX1_copy_96, wX1_copy_97, wX1_copy_98, wX1_copy_99, wX1_copy_102, wX1_copy_105, wX1_copy_106, wX1_copy_108, wX1_copy_109, wX1_copy_112, wX1_copy_113, wX1_copy_116, wX1_copy_117, wX1_copy_120, wX1_copy_121, wX1_copy_122, wX1_copy_125, wX1_copy_126, wX1_copy_127, wX1_copy_128, wX1_copy_131, wX1_copy_134, wX1_copy_135, if_true, if_false, ↓reduceIte, xpu_s, xpu_n, Option.bind_some, xk_i, xk_r, xk_0, xk_u, xk_l, xk_k, xk_q, rf_s, rf_n, o_TI, o_TL, o_TR, o_NI, o_NL, o_NR, o_XI, o_XL, o_XR, o_RI, o_RL, o_LI, o_LR, o_IL, o_IR, o_II, o_LL, o_RR, o_pII, o_pLL, up_s, q_e1, q_e2, Nat.zero_add, Nat.reduceEqDiff, Nat.reduceAdd, Nat.reduceMul, Nat.reduceSub, Nat.reduceLT, Nat.reduceLeDiff, Nat.reduceDiv, Nat.reduceMod, nI_c, nI_add, up_ne, lt, oa, s5, b2, v5, m1, not_true_eq_false, not_false_eq_true, and_self, and_true, true_and, and_false, false_and, or_true, true_or, or_false, false_or, decide_true, decide_false, zb_t, zb_f, zb_0, zb_1, eq_self]
  · show va_up w k _ j = _
    by_cases y : j = k
    · rw [y, up_s]
    · rw [up_ne y]; exact hw j (by omega)
  · refine wX1_copy_107.trans ?_
    simp (disch := first | with_unfolding_all exact id ts | with_unfolding_all exact id to | with_unfolding_all exact id b1 | with_unfolding_all exact id t48 | first | assumption | exact nI_ne0 (by decide) (by decide) | exact zb_01 | exact Or.inl rfl | exact Or.inr rfl | with_unfolding_all exact id (by assumption) | with_unfolding_all exact id (xix_8 (by assumption) (by omega) (by omega)) | omega) only [wX1_copy_108, wX1_copy_109, wX1_copy_112, wX1_copy_113, wX1_copy_134, wX1_copy_135, if_true, if_false, ↓reduceIte, xpu_s, xpu_n, Option.bind_some, xk_i, xk_r, xk_0, xk_u, xk_l, xk_k, xk_q, rf_s, rf_n, o_TI, o_TL, o_TR, o_NI, o_NL, o_NR, o_XI, o_XL, o_XR, o_RI, o_RL, o_LI, o_LR, o_IL, o_IR, o_II, o_LL, o_RR, o_pII, o_pLL, up_s, q_e1, q_e2, Nat.zero_add, Nat.reduceEqDiff, Nat.reduceAdd, Nat.reduceMul, Nat.reduceSub, Nat.reduceLT, Nat.reduceLeDiff, Nat.reduceDiv, Nat.reduceMod, nI_c, nI_add, up_ne, s5, b2, i_irr, not_true_eq_false, not_false_eq_true, and_self, and_true, true_and, and_false, false_and, or_true, true_or, or_false, false_or, decide_true, decide_false, zb_t, zb_f, zb_0, zb_1, eq_self]
end
