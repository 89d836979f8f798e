/-! A STATE made -/
section
variable {d : Nat} {h g : xH} {P : sS} {A : rI} {x : Int32} {ow : Nat → Nat} {s o i k n t : Nat}
theorem GXo (x : GX (fun _ => False) g h k n) : GX (fun a => a = o) g h k n := GX_W x (fun _ _ z => z.elim)
theorem wSt1 (T : TX g) (to : oT g o = 2) : ∃ z, E_ (d + 5) mX1_init 4 [.val (.ref o)] [] g = E_ (d + 5) mX1_init 15 [.val (.ref o)] [] z ∧ GX (fun a => a = o) g z 3 13 ∧ oR z o = va_up (oR g o) 0 (some (oX g)) ∧ oX z = oX g + 3 ∧ oT z (oX g) = 3 ∧ oR z (oX g) 0 = some (oX g + 1) ∧ LG z (oX g + 1) 0 9 ∧ rq z (oX g + 1) 1 = oX g + 2 ∧ oI z (oX g) = va_up (va_up (va_up (va_up (fun _ => 0) 1 (nI 1)) 4 (nI 3)) 5 (nI 20)) 6 (nI 40) := by
  have ox := TX_lt T (a := o) (by rw [to]; decide)
  obtain ⟨f1, f2, f3, f4, f5, f6, f7⟩ := hS_f (t := 9) T
  have so := f7.2.2.2.2.2 o ox (fun z => z)
  have t2 : oT (hS g) o = 2 := by rw [so.1]; exact to
  have sl : ∀ a, ¬ a = o → sm (hS g) (pR (hS g) o (va_up (oR (hS g) o) 0 (some (oX g)))) a := fun a ha => sm_R sm_refl ha
  obtain ⟨G, -, q⟩ := sm_LG (Q := fun a => ¬ a = o) f3 sl (by omega) (by rw [f4]; omega) (fun j hj => by omega)
  have hini := kX2_init (d := d) T
  refine ⟨pR (hS g) o (va_up (oR (hS g) o) 0 (some (oX g))), ?_, ?_, ?_, f6, f1, ?_, G, q.trans f4, f5⟩
  · simp (disch := first | exact t2 | first | assumption | exact nI_ne0 (by decide) (by decide) | exact zb_01 | exact Or.inl rfl | exact Or.inr rfl | with_unfolding_all exact id (by assumption) | with_unfolding_all exact id (xix_8 (by assumption) (by omega) (by omega)) | omega) only [wX1_init_4, wX1_init_5, wX1_init_8, wX1_init_9, wX1_init_12, if_true, if_false, ↓reduceIte, xpu_s, xpu_n, Option.bind_some, xk_i, xk_r, xk_0, xk_u, xk_l, xk_k, xk_q, rf_s, rf_n, q_e1, q_e2, Nat.zero_add, Nat.reduceEqDiff, Nat.reduceAdd, Nat.reduceMul, Nat.reduceSub, Nat.reduceLT, Nat.reduceLeDiff, Nat.reduceDiv, Nat.reduceMod, hini]
  · exact GX_le (GX_trans (GXo f7) (GX_R (W := fun a => a = o) (fun _ => rfl)) (fun _ _ z => z)) (by omega) (by omega)
  · rw [o_RR, if_pos rfl, so.2.2.2.1]
  · rw [(sl (oX g) (by omega)).2.2.2.1]; exact f2
theorem wSt2 (T : TX g) (to : oT g o = 2) : ∃ z, E_ (d + 4) mX1_init 15 [.val (.ref o)] [] g = E_ (d + 4) mX1_init 27 [.val (.ref o)] [] z ∧ GX (fun a => a = o) g z 2 5 ∧ oR z o = va_up (oR g o) 1 (some (oX g)) ∧ oX z = oX g + 2 ∧ LG z (oX g) 0 t ∧ rq z (oX g) 1 = oX g + 1 := by
  have ox := TX_lt T (a := o) (by rw [to]; decide)
  obtain ⟨g1, g2, g3, g4⟩ := hL_G (t := t) T
  have so := g4.2.2.2.2.2 o ox (fun z => z)
  have t2 : oT (hL g) o = 2 := by rw [so.1]; exact to
  have sl : ∀ a, ¬ a = o → sm (hL g) (pR (hL g) o (va_up (oR (hL g) o) 1 (some (oX g)))) a := fun a ha => sm_R sm_refl ha
  obtain ⟨G, -, q⟩ := sm_LG (Q := fun a => ¬ a = o) g1 sl (by omega) (by rw [g2]; omega) (fun j hj => by omega)
  have hini := kJ2_init (d := d) T
  refine ⟨pR (hL g) o (va_up (oR (hL g) o) 1 (some (oX g))), ?_, ?_, ?_, g3, G, q.trans g2⟩
  · simp (disch := first | exact t2 | first | assumption | exact nI_ne0 (by decide) (by decide) | exact zb_01 | exact Or.inl rfl | exact Or.inr rfl | with_unfolding_all exact id (by assumption) | with_unfolding_all exact id (xix_8 (by assumption) (by omega) (by omega)) | omega) only [wX1_init_15, wX1_init_16, wX1_init_19, wX1_init_20, wX1_init_21, wX1_init_24, if_true, if_false, ↓reduceIte, xpu_s, xpu_n, Option.bind_some, xk_i, xk_r, xk_0, xk_u, xk_l, xk_k, xk_q, rf_s, rf_n, q_e1, q_e2, Nat.zero_add, Nat.reduceEqDiff, Nat.reduceAdd, Nat.reduceMul, Nat.reduceSub, Nat.reduceLT, Nat.reduceLeDiff, Nat.reduceDiv, Nat.reduceMod, hini]
  · exact GX_le (GX_trans (GXo g4) (GX_R (W := fun a => a = o) (fun _ => rfl)) (fun _ _ z => z)) (by omega) (by omega)
  · rw [o_RR, if_pos rfl, so.2.2.2.1]
theorem wSt3 (T : TX g) (to : oT g o = 2) : ∃ z, E_ (d + 4) mX1_init 27 [.val (.ref o)] [] g = E_ (d + 4) mX1_init 39 [.val (.ref o)] [] z ∧ GX (fun a => a = o) g z 2 5 ∧ oR z o = va_up (oR g o) 2 (some (oX g)) ∧ oX z = oX g + 2 ∧ LG z (oX g) 0 t ∧ rq z (oX g) 1 = oX g + 1 := by
  have ox := TX_lt T (a := o) (by rw [to]; decide)
  obtain ⟨g1, g2, g3, g4⟩ := hL_G (t := t) T
  have so := g4.2.2.2.2.2 o ox (fun z => z)
  have t2 : oT (hL g) o = 2 := by rw [so.1]; exact to
  have sl : ∀ a, ¬ a = o → sm (hL g) (pR (hL g) o (va_up (oR (hL g) o) 2 (some (oX g)))) a := fun a ha => sm_R sm_refl ha
  obtain ⟨G, -, q⟩ := sm_LG (Q := fun a => ¬ a = o) g1 sl (by omega) (by rw [g2]; omega) (fun j hj => by omega)
  have hini := kJ2_init (d := d) T
  refine ⟨pR (hL g) o (va_up (oR (hL g) o) 2 (some (oX g))), ?_, ?_, ?_, g3, G, q.trans g2⟩
  · simp (disch := first | exact t2 | first | assumption | exact nI_ne0 (by decide) (by decide) | exact zb_01 | exact Or.inl rfl | exact Or.inr rfl | with_unfolding_all exact id (by assumption) | with_unfolding_all exact id (xix_8 (by assumption) (by omega) (by omega)) | omega) only [wX1_init_27, wX1_init_28, wX1_init_31, wX1_init_32, wX1_init_33, wX1_init_36, wX1_init_36q, if_true, if_false, ↓reduceIte, xpu_s, xpu_n, Option.bind_some, xk_i, xk_r, xk_0, xk_u, xk_l, xk_k, xk_q, rf_s, rf_n, q_e1, q_e2, Nat.zero_add, Nat.reduceEqDiff, Nat.reduceAdd, Nat.reduceMul, Nat.reduceSub, Nat.reduceLT, Nat.reduceLeDiff, Nat.reduceDiv, Nat.reduceMod, hini]
  · exact GX_le (GX_trans (GXo g4) (GX_R (W := fun a => a = o) (fun _ => rfl)) (fun _ _ z => z)) (by omega) (by omega)
  · rw [o_RR, if_pos rfl, so.2.2.2.1]
/-- an array of ints, laid into a state's field -/
def hAr (g : xH) (o j n : Nat) (f : rI) : xH := pR (pI (pO g 40 n) (oX g) f) o (va_up (oR g o) j (some (oX g)))
theorem hAr_f {j : Nat} {f : rI} (ho : o < oX g) : GX (fun a => a = o) g (hAr g o j n f) 1 n ∧ oR (hAr g o j n f) o = va_up (oR g o) j (some (oX g)) ∧ oX (hAr g o j n f) = oX g + 1 ∧ oT (hAr g o j n f) (oX g) = 40 ∧ oN (hAr g o j n f) (oX g) = n ∧ oI (hAr g o j n f) (oX g) = f := by
  unfold hAr
  refine ⟨?_, by rw [o_RR, if_pos rfl], rfl, ?_, ?_, ?_⟩
  · exact GX_le (GX_trans (GX_trans (GX_O (W := fun a => a = o)) (GX_I (W := fun a => a = oX g) (fun _ => rfl)) (fun a ha z => by omega)) (GX_R (W := fun a => a = o) (fun _ => rfl)) (fun _ _ z => z)) (by omega) (by omega)
  · show oT (pO g 40 n) (oX g) = _
    rw [o_TO, if_pos rfl]
  · show oN (pO g 40 n) (oX g) = _
    rw [o_NO, if_pos rfl]
  · show oI (pI (pO g 40 n) (oX g) f) (oX g) = f
    rw [o_II, if_pos rfl]
theorem wSt4 (T : TX g) (to : oT g o = 2) : E_ d mX1_init 39 [.val (.ref o)] [] g = E_ d mX1_init 62 [.val (.ref o)] [] (hAr g o 3 4 (va_up (va_up (va_up (va_up (fun _ => 0) 0 (nI 1)) 1 (nI 1)) 2 (nI 1)) 3 (nI 1))) := by
  have ox := TX_lt T (a := o) (by rw [to]; decide)
  have ne : (o = oX g) = False := eq_false (by omega)
  have t1 : oT (pO g 40 4) (oX g) = 40 := by rw [o_TO, if_pos rfl]
  have n1 : oN (pO g 40 4) (oX g) = 4 := by rw [o_NO, if_pos rfl]
  have t2 : oT (pO g 40 4) o = 2 := by rw [o_TO, if_neg (by omega)]; exact to
  have i1 : oI (pO g 40 4) (oX g) = fun _ => 0 := by rw [o_IO, if_pos rfl]
  have r1 : oR (pO g 40 4) o = oR g o := by rw [o_RO, if_neg (by omega)]
  have c4 : (nI 4).toNatClampNeg = 4 := rfl
  have z2 : 0 ≤ (nI 4).toInt := by decide
  have z3 : (nI 4).toInt ≤ 65536 := by decide
  unfold hAr
  simp (disch := first | exact t1 | exact t2 | exact z2 | exact z3 | exact xix_8 n1 (by omega) (by omega) | first | assumption | exact nI_ne0 (by decide) (by decide) | exact zb_01 | exact Or.inl rfl | exact Or.inr rfl | with_unfolding_all exact id (by assumption) | with_unfolding_all exact id (xix_8 (by assumption) (by omega) (by omega)) | omega) only [wX1_init_39, wX1_init_40, wX1_init_41, wX1_init_43, wX1_init_44, wX1_init_45, wX1_init_46, wX1_init_47, wX1_init_48, wX1_init_49, wX1_init_50, wX1_init_51, wX1_init_52, wX1_init_53, wX1_init_54, wX1_init_55, wX1_init_56, wX1_init_57, wX1_init_58, wX1_init_59, wX1_init_59q, if_true, if_false, ↓reduceIte, xpu_s, xpu_n, Option.bind_some, xk_i, xk_r, xk_0, xk_u, xk_l, xk_k, xk_q, rf_s, rf_n, o_TI, o_TL, o_TR, o_NI, o_NL, o_NR, o_XI, o_XL, o_XR, o_RI, o_RL, o_LI, o_LR, o_IL, o_IR, o_II, o_LL, o_RR, o_pII, o_pLL, up_s, q_e1, q_e2, Nat.zero_add, Nat.reduceEqDiff, Nat.reduceAdd, Nat.reduceMul, Nat.reduceSub, Nat.reduceLT, Nat.reduceLeDiff, Nat.reduceDiv, Nat.reduceMod, nI_c, nI_add, up_ne, c4, i1, r1]
theorem wSt5 (T : TX g) (to : oT g o = 2) : E_ d mX1_init 62 [.val (.ref o)] [] g = E_ d mX1_init 89 [.val (.ref o)] [] (hAr g o 4 4 (va_up (va_up (va_up (va_up (fun _ => 0) 0 (nI 100)) 1 (nI 100)) 2 (nI 100)) 3 (nI 100))) := by
  have ox := TX_lt T (a := o) (by rw [to]; decide)
  have ne : (o = oX g) = False := eq_false (by omega)
  have t1 : oT (pO g 40 4) (oX g) = 40 := by rw [o_TO, if_pos rfl]
  have n1 : oN (pO g 40 4) (oX g) = 4 := by rw [o_NO, if_pos rfl]
  have t2 : oT (pO g 40 4) o = 2 := by rw [o_TO, if_neg (by omega)]; exact to
  have i1 : oI (pO g 40 4) (oX g) = fun _ => 0 := by rw [o_IO, if_pos rfl]
  have r1 : oR (pO g 40 4) o = oR g o := by rw [o_RO, if_neg (by omega)]
  have c4 : (nI 4).toNatClampNeg = 4 := rfl
  have z2 : 0 ≤ (nI 4).toInt := by decide
  have z3 : (nI 4).toInt ≤ 65536 := by decide
  unfold hAr
  simp (disch := first | exact t1 | exact t2 | exact z2 | exact z3 | exact xix_8 n1 (by omega) (by omega) | first | assumption | exact nI_ne0 (by decide) (by decide) | exact zb_01 | exact Or.inl rfl | exact Or.inr rfl | with_unfolding_all exact id (by assumption) | with_unfolding_all exact id (xix_8 (by assumption) (by omega) (by omega)) | omega) only [wX1_init_62, wX1_init_63, wX1_init_64, wX1_init_66, wX1_init_67, wX1_init_68, wX1_init_70, wX1_init_71, wX1_init_72, wX1_init_73, wX1_init_75, wX1_init_76, wX1_init_77, wX1_init_78, wX1_init_80, wX1_init_81, wX1_init_82, wX1_init_83, wX1_init_85, wX1_init_86, wX1_init_86q, if_true, if_false, ↓reduceIte, xpu_s, xpu_n, Option.bind_some, xk_i, xk_r, xk_0, xk_u, xk_l, xk_k, xk_q, rf_s, rf_n, o_TI, o_TL, o_TR, o_NI, o_NL, o_NR, o_XI, o_XL, o_XR, o_RI, o_RL, o_LI, o_LR, o_IL, o_IR, o_II, o_LL, o_RR, o_pII, o_pLL, up_s, q_e1, q_e2, Nat.zero_add, Nat.reduceEqDiff, Nat.reduceAdd, Nat.reduceMul, Nat.reduceSub, Nat.reduceLT, Nat.reduceLeDiff, Nat.reduceDiv, Nat.reduceMod, nI_c, nI_add, up_ne, c4, i1, r1]
theorem wSt6 (T : TX g) (to : oT g o = 2) : E_ d mX1_init 89 [.val (.ref o)] [] g = some (none, hAr g o 5 20 (fun _ => 0)) := by
  have ox := TX_lt T (a := o) (by rw [to]; decide)
  have ne : (o = oX g) = False := eq_false (by omega)
  have t2 : oT (pO g 40 20) o = 2 := by rw [o_TO, if_neg (by omega)]; exact to
  have r1 : oR (pO g 40 20) o = oR g o := by rw [o_RO, if_neg (by omega)]
  have c4 : (nI 20).toNatClampNeg = 20 := rfl
  have z2 : 0 ≤ (nI 20).toInt := by decide
  have z3 : (nI 20).toInt ≤ 65536 := by decide
  have e0 : hAr g o 5 20 (fun _ => 0) = pR (pO g 40 20) o (va_up (oR g o) 5 (some (oX g))) := by
    unfold hAr
    rw [show (fun _ => (0 : Int32)) = oI (pO g 40 20) (oX g) by rw [o_IO, if_pos rfl], pI_self]
  rw [e0]
  simp (disch := first | exact t2 | exact z2 | exact z3 | first | assumption | exact nI_ne0 (by decide) (by decide) | exact zb_01 | exact Or.inl rfl | exact Or.inr rfl | with_unfolding_all exact id (by assumption) | with_unfolding_all exact id (xix_8 (by assumption) (by omega) (by omega)) | omega) only [wX1_init_89, wX1_init_90, wX1_init_92, wX1_init_94, wX1_init_94q, wX1_init_97, if_true, if_false, ↓reduceIte, xpu_s, xpu_n, Option.bind_some, xk_i, xk_r, xk_0, xk_u, xk_l, xk_k, xk_q, rf_s, rf_n, o_TI, o_TL, o_TR, o_NI, o_NL, o_NR, o_XI, o_XL, o_XR, o_RI, o_RL, o_LI, o_LR, o_IL, o_IR, o_II, o_LL, o_RR, o_pII, o_pLL, up_s, q_e1, q_e2, Nat.zero_add, Nat.reduceEqDiff, Nat.reduceAdd, Nat.reduceMul, Nat.reduceSub, Nat.reduceLT, Nat.reduceLeDiff, Nat.reduceDiv, Nat.reduceMod, nI_c, nI_add, up_ne, c4, r1]
/-- what a new state holds -/
def NST (h z : xH) : Prop := GX (fun _ => False) h z 11 57 ∧ oX z = oX h + 11 ∧ oT z (oX h) = 2 ∧ oR z (oX h) 0 = some (oX h + 1) ∧ oR z (oX h) 1 = some (oX h + 4) ∧ oR z (oX h) 2 = some (oX h + 6) ∧ oR z (oX h) 3 = some (oX h + 8) ∧ oR z (oX h) 4 = some (oX h + 9) ∧ oR z (oX h) 5 = some (oX h + 10) ∧ (oT z (oX h + 1) = 3 ∧ oR z (oX h + 1) 0 = some (oX h + 2) ∧ LG z (oX h + 2) 0 9 ∧ rq z (oX h + 2) 1 = oX h + 3 ∧ oI z (oX h + 1) = va_up (va_up (va_up (va_up (fun _ => 0) 1 (nI 1)) 4 (nI 3)) 5 (nI 20)) 6 (nI 40)) ∧ (LG z (oX h + 4) 0 18 ∧ rq z (oX h + 4) 1 = oX h + 5) ∧ (LG z (oX h + 6) 0 19 ∧ rq z (oX h + 6) 1 = oX h + 7) ∧ (oT z (oX h + 8) = 40 ∧ oN z (oX h + 8) = 4 ∧ oI z (oX h + 8) = va_up (va_up (va_up (va_up (fun _ => 0) 0 (nI 1)) 1 (nI 1)) 2 (nI 1)) 3 (nI 1)) ∧ (oT z (oX h + 9) = 40 ∧ oN z (oX h + 9) = 4 ∧ oI z (oX h + 9) = va_up (va_up (va_up (va_up (fun _ => 0) 0 (nI 100)) 1 (nI 100)) 2 (nI 100)) 3 (nI 100)) ∧ (oT z (oX h + 10) = 40 ∧ oN z (oX h + 10) = 20 ∧ oI z (oX h + 10) = fun _ => 0)
theorem kX1_init (T : TX h) : ∃ z, C_ (d + 5) mX1_init [.ref (oX h)] (pO h 2 6) = some (none, z) ∧ NST h z := by
  have T0 := TX_O (t := 2) (n := 6) T
  have t0 : oT (pO h 2 6) (oX h) = 2 := by rw [o_TO, if_pos rfl]
  have x0 : oX (pO h 2 6) = oX h + 1 := rfl
  have r0 : oR (pO h 2 6) (oX h) = fun _ => none := by rw [o_RO, if_pos rfl]
  obtain ⟨z1, e1, g1, r1, x1, a1, a2, a3, a4, a5⟩ := wSt1 (d := d) T0 t0
  rw [x0] at x1 a1 a2 a3 a4 a5 r1
  have T1 := TX_G T0 g1
  have t1 : oT z1 (oX h) = 2 := by rw [(g1.2.2.2.2.1 (oX h) (by omega)).1]; exact t0
  obtain ⟨z2, e2, g2, r2, x2, b1, b2⟩ := wSt2 (d := d + 1) (t := 18) T1 t1
  rw [x1] at x2 b1 b2 r2
  have T2 := TX_G T1 g2
  have t2 : oT z2 (oX h) = 2 := by rw [(g2.2.2.2.2.1 (oX h) (by omega)).1]; exact t1
  obtain ⟨z3, e3, g3, r3, x3, c1, c2⟩ := wSt3 (d := d + 1) (t := 19) T2 t2
  rw [x2] at x3 c1 c2 r3
  have T3 := TX_G T2 g3
  have t3 : oT z3 (oX h) = 2 := by rw [(g3.2.2.2.2.1 (oX h) (by omega)).1]; exact t2
  have e4 := wSt4 (d := d + 5) T3 t3
  obtain ⟨g4, r4, x4, p1, p2, p3⟩ := hAr_f (o := oX h) (g := z3) (j := 3) (n := 4) (f := va_up (va_up (va_up (va_up (fun _ => 0) 0 (nI 1)) 1 (nI 1)) 2 (nI 1)) 3 (nI 1)) (by omega)
  generalize hAr z3 (oX h) 3 4 (va_up (va_up (va_up (va_up (fun _ => 0) 0 (nI 1)) 1 (nI 1)) 2 (nI 1)) 3 (nI 1)) = z4 at *
  rw [x3] at x4 p1 p2 p3 r4
  have T4 := TX_G T3 g4
  have t4 : oT z4 (oX h) = 2 := by rw [(g4.2.2.2.2.1 (oX h) (by omega)).1]; exact t3
  have e5 := wSt5 (d := d + 5) T4 t4
  obtain ⟨g5, r5, x5, q1, q2, q3⟩ := hAr_f (o := oX h) (g := z4) (j := 4) (n := 4) (f := va_up (va_up (va_up (va_up (fun _ => 0) 0 (nI 100)) 1 (nI 100)) 2 (nI 100)) 3 (nI 100)) (by omega)
  generalize hAr z4 (oX h) 4 4 (va_up (va_up (va_up (va_up (fun _ => 0) 0 (nI 100)) 1 (nI 100)) 2 (nI 100)) 3 (nI 100)) = z5 at *
  rw [x4] at x5 q1 q2 q3 r5
  have T5 := TX_G T4 g5
  have t5 : oT z5 (oX h) = 2 := by rw [(g5.2.2.2.2.1 (oX h) (by omega)).1]; exact t4
  have e6 := wSt6 (d := d + 5) T5 t5
  obtain ⟨g6, r6, x6, u1, u2, u3⟩ := hAr_f (o := oX h) (g := z5) (j := 5) (n := 20) (f := fun _ => 0) (by omega)
  generalize hAr z5 (oX h) 5 20 (fun _ => 0) = z6 at *
  rw [x5] at x6 u1 u2 u3 r6
  have s2 : ∀ a, ¬ a = oX h → a < oX h + 4 → sm z1 z2 a := fun a h1 h2 => g2.2.2.2.2.2 a (by omega) h1
  have s3 : ∀ a, ¬ a = oX h → a < oX h + 6 → sm z2 z3 a := fun a h1 h2 => g3.2.2.2.2.2 a (by omega) h1
  have s4 : ∀ a, ¬ a = oX h → a < oX h + 8 → sm z3 z4 a := fun a h1 h2 => g4.2.2.2.2.2 a (by omega) h1
  have s5 : ∀ a, ¬ a = oX h → a < oX h + 9 → sm z4 z5 a := fun a h1 h2 => g5.2.2.2.2.2 a (by omega) h1
  have s6 : ∀ a, ¬ a = oX h → a < oX h + 10 → sm z5 z6 a := fun a h1 h2 => g6.2.2.2.2.2 a (by omega) h1
  have s46 : ∀ a, ¬ a = oX h → a < oX h + 8 → sm z3 z6 a := fun a h1 h2 => sm_trans (sm_trans (s4 a h1 h2) (s5 a h1 (by omega))) (s6 a h1 (by omega))
  have s36 : ∀ a, ¬ a = oX h → a < oX h + 6 → sm z2 z6 a := fun a h1 h2 => sm_trans (s3 a h1 h2) (s46 a h1 (by omega))
  have s26 : ∀ a, ¬ a = oX h → a < oX h + 4 → sm z1 z6 a := fun a h1 h2 => sm_trans (s2 a h1 h2) (s36 a h1 (by omega))
  have s56 : ∀ a, ¬ a = oX h → a < oX h + 9 → sm z4 z6 a := fun a h1 h2 => sm_trans (s5 a h1 h2) (s6 a h1 (by omega))
  have rr : oR z6 (oX h) = va_up (va_up (va_up (va_up (va_up (va_up (fun _ => none) 0 (some (oX h + 1))) 1 (some (oX h + 4))) 2 (some (oX h + 6))) 3 (some (oX h + 8))) 4 (some (oX h + 9))) 5 (some (oX h + 10)) := by
    rw [r6, r5, r4, r3, r2, r1, r0]
  obtain ⟨A3, -, A4⟩ := sm_LG (Q := fun a => ¬ a = oX h ∧ a < oX h + 4) a3 (fun a ha => s26 a ha.1 ha.2) (by omega) (by rw [a4]; omega) (fun j hj => by omega)
  obtain ⟨B1, -, B2⟩ := sm_LG (Q := fun a => ¬ a = oX h ∧ a < oX h + 6) b1 (fun a ha => s36 a ha.1 ha.2) (by omega) (by rw [b2]; omega) (fun j hj => by omega)
  obtain ⟨C1, -, C2⟩ := sm_LG (Q := fun a => ¬ a = oX h ∧ a < oX h + 8) c1 (fun a ha => s46 a ha.1 ha.2) (by omega) (by rw [c2]; omega) (fun j hj => by omega)
  have m1 := s26 (oX h + 1) (by omega) (by omega)
  have m8 := s56 (oX h + 8) (by omega) (by omega)
  have m9 := s6 (oX h + 9) (by omega) (by omega)
  refine ⟨z6, ?_, ?_, x6, ?_, ?_, ?_, ?_, ?_, ?_, ?_, ⟨m1.1.trans a1, by rw [m1.2.2.2.1]; exact a2, A3, A4.trans a4, m1.2.2.1.trans a5⟩, ⟨B1, B2.trans b2⟩, ⟨C1, C2.trans c2⟩, ⟨m8.1.trans p1, m8.2.1.trans p2, m8.2.2.1.trans p3⟩, ⟨m9.1.trans q1, m9.2.1.trans q2, m9.2.2.1.trans q3⟩, u1, u2, u3⟩
  · refine Eq.trans ?_ (((((e1.trans e2).trans e3).trans e4).trans e5).trans e6)
    simp (disch := first | assumption | exact nI_ne0 (by decide) (by decide) | exact zb_01 | exact Or.inl rfl | exact Or.inr rfl | with_unfolding_all exact id (by assumption) | with_unfolding_all exact id (xix_8 (by assumption) (by omega) (by omega)) | omega) only [wX1_init_e, wX1_init_0, wX1_init_1, if_true, if_false, ↓reduceIte, xpu_s, xpu_n, Option.bind_some, xk_i, xk_r, xk_0, xk_u, xk_l, xk_k, xk_q, rf_s, rf_n]
  · have G := GX_trans (GX_trans (GX_trans (GX_trans (GX_trans g1 g2 (fun _ _ z => z)) g3 (fun _ _ z => z)) g4 (fun _ _ z => z)) g5 (fun _ _ z => z)) g6 (fun _ _ z => z)
    exact GX_le (GX_trans (GX_O (W := fun _ => False)) G (fun a ha z => by omega)) (by omega) (by omega)
  · rw [(g6.2.2.2.2.1 (oX h) (by omega)).1]; exact t5
  · rw [rr]; simp only [up_s, up_ne, ne_eq, q_e1, q_e2, Nat.zero_add, Nat.reduceEqDiff, Nat.reduceAdd, Nat.reduceMul, Nat.reduceSub, Nat.reduceLT, Nat.reduceLeDiff, Nat.reduceDiv, Nat.reduceMod, not_false_eq_true]
  · rw [rr]; simp only [up_s, up_ne, ne_eq, q_e1, q_e2, Nat.zero_add, Nat.reduceEqDiff, Nat.reduceAdd, Nat.reduceMul, Nat.reduceSub, Nat.reduceLT, Nat.reduceLeDiff, Nat.reduceDiv, Nat.reduceMod, not_false_eq_true]
  · rw [rr]; simp only [up_s, up_ne, ne_eq, q_e1, q_e2, Nat.zero_add, Nat.reduceEqDiff, Nat.reduceAdd, Nat.reduceMul, Nat.reduceSub, Nat.reduceLT, Nat.reduceLeDiff, Nat.reduceDiv, Nat.reduceMod, not_false_eq_true]
  · rw [rr]; simp only [up_s, up_ne, ne_eq, q_e1, q_e2, Nat.zero_add, Nat.reduceEqDiff, Nat.reduceAdd, Nat.reduceMul, Nat.reduceSub, Nat.reduceLT, Nat.reduceLeDiff, Nat.reduceDiv, Nat.reduceMod, not_false_eq_true]
  · rw [rr]; simp only [up_s, up_ne, ne_eq, q_e1, q_e2, Nat.zero_add, Nat.reduceEqDiff, Nat.reduceAdd, Nat.reduceMul, Nat.reduceSub, Nat.reduceLT, Nat.reduceLeDiff, Nat.reduceDiv, Nat.reduceMod, not_false_eq_true]
  · rw [rr, up_s]
/-- a place copied -/
theorem kX19_copy {a : Nat} (T : TX h) (Q : PQ h a A i) (hw : A (478 + i) = nI 0 ∨ A (478 + i) = nI 1) : ∃ z, C_ (d + 1) mX19_copy [.ref a] h = some (some (.ref (oX h)), z) ∧ oT z (oX h) = 19 ∧ oI z (oX h) 0 = A (478 + i) ∧ oI z (oX h) 3 = A (538 + i) ∧ oR z (oX h) 1 = some (oX h + 1) ∧ oR z (oX h) 2 = some (oX h + 2) ∧ (oT z (oX h + 1) = 40 ∧ oN z (oX h + 1) = 2 ∧ oI z (oX h + 1) 0 = A (490 + i) ∧ oI z (oX h + 1) 1 = A (502 + i)) ∧ (oT z (oX h + 2) = 40 ∧ oN z (oX h + 2) = 2 ∧ oI z (oX h + 2) 0 = A (514 + i) ∧ oI z (oX h + 2) 1 = A (526 + i)) ∧ GX (fun _ => False) h z 3 8 ∧ oX z = oX h + 3 := by
  obtain ⟨v1, v2, v3, v4, v5, v6, v7, v8, v9, v10, v11, v12, v13⟩ := Q
  have ax := TX_lt T (a := a) (by rw [v1]; decide)
  have b1x := TX_lt T (a := rq h a 1) (by rw [v6]; decide)
  have b2x := TX_lt T (a := rq h a 2) (by rw [v10]; decide)
  obtain ⟨w, hw1, ew⟩ : ∃ w, w ≤ 1 ∧ A (478 + i) = nI w := by
    rcases hw with q | q
    · exact ⟨0, by omega, q⟩
    · exact ⟨1, by omega, q⟩
  have so : ∀ b, b < oX h → sm h (pO h 19 4) b := fun b hb => sm_O (by omega)
  have t0 : oT (pO h 19 4) a = 19 := (so a ax).1.trans v1
  have r1 : oR (pO h 19 4) a = oR h a := (so a ax).2.2.2.1
  have i0 : oI (pO h 19 4) a = oI h a := (so a ax).2.2.1
  have s1 := so _ b1x
  have s2 := so _ b2x
  have u1 : oT (pO h 19 4) (rq h a 1) = 40 := s1.1.trans v6
  have u2 : oN (pO h 19 4) (rq h a 1) = 2 := s1.2.1.trans v7
  have u3 : oI (pO h 19 4) (rq h a 1) = oI h (rq h a 1) := s1.2.2.1
  have u4 : oT (pO h 19 4) (rq h a 2) = 40 := s2.1.trans v10
  have u5 : oN (pO h 19 4) (rq h a 2) = 2 := s2.2.1.trans v11
  have u6 : oI (pO h 19 4) (rq h a 2) = oI h (rq h a 2) := s2.2.2.1
  obtain ⟨z, ez, n1, n2, n3, n4, n5, n6, n7, gz, oz⟩ := kX19_new (d := d) (a := A (490 + i)) (b := A (502 + i)) (c := A (514 + i)) (e := A (526 + i)) T hw1
  have sa := gz.2.2.2.2.2 a ax (fun y => y)
  have t1 : oT z a = 19 := sa.1.trans v1
  have i1 : oI z a = oI h a := sa.2.2.1
  have sl : ∀ b, ¬ b = oX h → sm z (pI z (oX h) (va_up (oI z (oX h)) 3 (A (538 + i)))) b := fun b hb => sm_I sm_refl hb
  have m1 := sl (oX h + 1) (by omega)
  have m2 := sl (oX h + 2) (by omega)
  refine ⟨pI z (oX h) (va_up (oI z (oX h)) 3 (A (538 + i))), ?_, n1, ?_, ?_, n4, n5, ?_, ?_, ?_, oz⟩
  · simp (disch := first | exact t0 | exact t1 | exact u1 | exact u4 | exact n1 | exact xix_8 u2 (by omega) (by omega) | exact xix_8 u5 (by omega) (by omega) | first | assumption | exact nI_ne0 (by decide) (by decide) | exact zb_01 | exact Or.inl rfl | exact Or.inr rfl | with_unfolding_all exact id (by assumption) | with_unfolding_all exact id (xix_8 (by assumption) (by omega) (by omega)) | omega) only [wX19_copy_e, wX19_copy_0, wX19_copy_3, wX19_copy_4, wX19_copy_5, wX19_copy_8, wX19_copy_9, wX19_copy_12, wX19_copy_13, wX19_copy_14, wX19_copy_15, wX19_copy_18, wX19_copy_19, wX19_copy_20, wX19_copy_21, wX19_copy_24, wX19_copy_25, wX19_copy_26, wX19_copy_27, wX19_copy_30, wX19_copy_31, wX19_copy_32, wX19_copy_35, wX19_copy_36, wX19_copy_37, wX19_copy_38, wX19_copy_41, wX19_copy_44, wX19_copy_45, if_true, if_false, ↓reduceIte, xpu_s, xpu_n, Option.bind_some, xk_i, xk_r, xk_0, xk_u, xk_l, xk_k, xk_q, rf_s, rf_n, q_e1, q_e2, Nat.zero_add, Nat.reduceEqDiff, Nat.reduceAdd, Nat.reduceMul, Nat.reduceSub, Nat.reduceLT, Nat.reduceLeDiff, Nat.reduceDiv, Nat.reduceMod, nI_c, r1, i0, i1, v2, v3, v4, v5, v8, v9, v12, v13, u3, u6, ew, ez]
  · rw [o_II, if_pos rfl, up_ne (by omega), n2, ew]
  · rw [o_II, if_pos rfl, up_s]
  · rw [m1.1, m1.2.1, m1.2.2.1]; exact n6
  · rw [m2.1, m2.2.1, m2.2.2.1]; exact n7
  · exact GX_le (GX_trans gz (GX_I (W := fun a => a = oX h) (fun _ => rfl)) (fun a ha y => by omega)) (by omega) (by omega)
end
