/-! CONSTRUCTORS: the second object -/
section
variable {d : Nat} {g z h : xH} {o j t n k s : Nat} {f : rI}
/-- the numbers that it begins with -/
def plA0 : rI := fun k => if k < 477 then plN k else if 550 ≤ k ∧ k < 554 then nI 1 else if 554 ≤ k ∧ k < 558 then nI 100 else 0
def MO_ (z : xH) : Prop := MOK z ∧ oI z 152 = plA0 ∧ oI z 154 = (fun _ => 0) ∧ oI z 151 = (fun _ => 0) ∧ oI z 153 = (fun _ => 0) ∧ oI z 167 = va_up (va_up (va_up (va_up (fun _ => 0) 0 (-1)) 1 (-1)) 2 (-1)) 3 (-1) ∧ oI z 168 = (fun _ => 0) ∧ oL z 169 = (fun _ => 0) ∧ oI z 150 = va_up (va_up (va_up (fun _ => 0) 17 (-1)) 21 (-1)) 22 (-1)
theorem plA0_up {m : Nat} (hm : m < 4) : va_up (va_up (fun k => if k < 477 then plN k else if 550 ≤ k ∧ k < 550 + m then nI 1 else if 554 ≤ k ∧ k < 554 + m then nI 100 else (0 : Int32)) (550 + m) (nI 1)) (554 + m) (nI 100) = fun k => if k < 477 then plN k else if 550 ≤ k ∧ k < 550 + (m + 1) then nI 1 else if 554 ≤ k ∧ k < 554 + (m + 1) then nI 100 else 0 := by
  funext k
  unfold va_up
  by_cases q1 : k = 554 + m
  · rw [if_pos q1, if_neg (by omega), if_neg (by omega), if_pos (by omega)]
  · rw [if_neg q1]
    by_cases q2 : k = 550 + m
    · rw [if_pos q2, if_neg (by omega), if_pos (by omega)]
    · rw [if_neg q2]
      by_cases q3 : k < 477
      · exact (if_pos q3).trans (if_pos q3).symm
      · refine (if_neg q3).trans (Eq.trans ?_ (if_neg q3).symm)
        by_cases q4 : 550 ≤ k ∧ k < 550 + m
        · rw [if_pos q4, if_pos (by omega)]
        · refine (if_neg q4).trans (Eq.trans ?_ (if_neg (show ¬ (550 ≤ k ∧ k < 550 + (m + 1)) by omega)).symm)
          by_cases q5 : 554 ≤ k ∧ k < 554 + m
          · exact (if_pos q5).trans (if_pos (show 554 ≤ k ∧ k < 554 + (m + 1) by omega)).symm
          · exact (if_neg q5).trans (if_neg (show ¬ (554 ≤ k ∧ k < 554 + (m + 1)) by omega)).symm
/-- its last loop: costs and what is left -/
theorem mo_loop (t7 : oT g 150 = 7) (t40 : oT g 152 = 40) (n : oN g 152 = 1734) (r2 : oR g 150 2 = some 152) (hI : oI g 152 = fun k => if k < 477 then plN k else 0) : E_ d mX5_init 200 [.val (.ref 150), .val (.int (nI 0))] [] g = some (none, pI g 152 plA0) := by
  have L := lp_go (F := fun m => E_ d mX5_init 200 [.val (.ref 150), .val (.int (nI m))] [] (pI g 152 (fun k => if k < 477 then plN k else if 550 ≤ k ∧ k < 550 + m then nI 1 else if 554 ≤ k ∧ k < 554 + m then nI 100 else (0 : Int32)))) (n := 4) (fun m hm => ?_)
  · have L : E_ d mX5_init 200 [.val (.ref 150), .val (.int (nI 0))] [] (pI g 152 (fun k => if k < 477 then plN k else if 550 ≤ k ∧ k < 550 + 0 then nI 1 else if 554 ≤ k ∧ k < 554 + 0 then nI 100 else (0 : Int32))) = E_ d mX5_init 200 [.val (.ref 150), .val (.int (nI 4))] [] (pI g 152 plA0) := L
    have e0 : (fun k => if k < 477 then plN k else if 550 ≤ k ∧ k < 550 + 0 then nI 1 else if 554 ≤ k ∧ k < 554 + 0 then nI 100 else (0 : Int32)) = oI g 152 := by
      rw [hI]
      funext k
      by_cases q : k < 477
      · rw [if_pos q, if_pos q]
      · rw [if_neg q, if_neg q, if_neg (by omega), if_neg (by omega)]
    rw [e0, pI_self] at L
    refine L.trans ?_
    generalize pI g 152 plA0 = G
    refine wX5_init_200.trans ?_
    simp (disch := first | assumption | exact nI_ne0 (by decide) (by decide) | exact zb_01 | exact Or.inl rfl | exact Or.inr rfl | with_unfolding_all exact id (by assumption) | with_unfolding_all exact id (xix_8 (by assumption) (by omega) (by omega)) | omega) only [wX5_init_201, wX5_init_202, wX5_init_234, if_true, if_false, ↓reduceIte, xpu_s, xpu_n, Option.bind_some, xk_i, xk_r, xk_0, xk_u, xk_l, xk_k, xk_q, rf_s, rf_n, q_e1, q_e2, Nat.zero_add, Nat.reduceEqDiff, Nat.reduceAdd, Nat.reduceMul, Nat.reduceSub, Nat.reduceLT, Nat.reduceLeDiff, Nat.reduceDiv, Nat.reduceMod, i_irr]
  · show E_ d mX5_init 200 [.val (.ref 150), .val (.int (nI m))] [] (pI g 152 (fun k => if k < 477 then plN k else if 550 ≤ k ∧ k < 550 + m then nI 1 else if 554 ≤ k ∧ k < 554 + m then nI 100 else (0 : Int32))) = E_ d mX5_init 200 [.val (.ref 150), .val (.int (nI (m + 1)))] [] (pI g 152 (fun k => if k < 477 then plN k else if 550 ≤ k ∧ k < 550 + (m + 1) then nI 1 else if 554 ≤ k ∧ k < 554 + (m + 1) then nI 100 else (0 : Int32)))
    rw [← plA0_up hm]
    have lt : (nI m < nI 4) = True := eq_true (nI_lt hm (by omega))
    have x1 : xix (nI (550 + m)) (oN g 152) = true := xix_8 n (by omega) (by omega)
    have x2 : xix (nI (554 + m)) (oN g 152) = true := xix_8 n (by omega) (by omega)
    have c1 : (nI (550 + m)).toNatClampNeg = 550 + m := nI_clamp (by omega)
    have c2 : (nI (554 + m)).toNatClampNeg = 554 + m := nI_clamp (by omega)
    generalize (fun k => if k < 477 then plN k else if 550 ≤ k ∧ k < 550 + m then nI 1 else if 554 ≤ k ∧ k < 554 + m then nI 100 else (0 : Int32)) = F
    have tF : ∀ F, oT (pI g 152 F) 150 = 7 := fun F => t7
    have uF : ∀ F, oT (pI g 152 F) 152 = 40 := fun F => t40
    have rF : ∀ F, oR (pI g 152 F) 150 2 = some 152 := fun F => r2
    have xF : ∀ F, xix (nI (550 + m)) (oN (pI g 152 F) 152) = true := fun F => x1
    have yF : ∀ F, xix (nI (554 + m)) (oN (pI g 152 F) 152) = true := fun F => x2
    have iF : ∀ F, oI (pI g 152 F) 152 = F := fun F => by rw [o_II, if_pos rfl]
    refine wX5_init_200.trans ?_
    simp (disch := first | exact tF _ | exact uF _ | exact xF _ | exact yF _ | first | assumption | exact nI_ne0 (by decide) (by decide) | exact zb_01 | exact Or.inl rfl | exact Or.inr rfl | with_unfolding_all exact id (by assumption) | with_unfolding_all exact id (xix_8 (by assumption) (by omega) (by omega)) | omega) only [wX5_init_201, wX5_init_202, wX5_init_205, wX5_init_206, wX5_init_209, wX5_init_212, wX5_init_213, wX5_init_214, wX5_init_215, wX5_init_216, wX5_init_217, wX5_init_220, wX5_init_223, wX5_init_224, wX5_init_225, wX5_init_227, wX5_init_228, wX5_init_231, if_true, if_false, ↓reduceIte, xpu_s, xpu_n, Option.bind_some, xk_i, xk_r, xk_0, xk_u, xk_l, xk_k, xk_q, rf_s, rf_n, q_e1, q_e2, Nat.zero_add, Nat.reduceEqDiff, Nat.reduceAdd, Nat.reduceMul, Nat.reduceSub, Nat.reduceLT, Nat.reduceLeDiff, Nat.reduceDiv, Nat.reduceMod, lt, nI_add, rF, c1, c2, iF, o_pII]
/-- its constructor, whole -/
theorem kX5_init (T : TX h) (hX : oX h = 150) : ∃ z, C_ (d + 2) mX5_init [.ref 150] (pO h 7 36) = some (none, z) ∧ MO_ z ∧ oX z = 170 ∧ GX (fun _ => False) h z 20 31000 := by
  obtain ⟨g0, hg0⟩ : ∃ g0, g0 = pO h 7 36 := ⟨_, rfl⟩
  have x0 : oX g0 = 151 := by rw [hg0]; show oX h + 1 = 151; omega
  have t0 : oT g0 150 = 7 := by rw [hg0, o_TO, if_pos hX.symm]
  have nn0 : oN g0 150 = 36 := by rw [hg0, o_NO, if_pos hX.symm]
  have r0 : oR g0 150 = fun _ => none := by rw [hg0, o_RO, if_pos hX.symm]
  have w0 : oI g0 150 = fun _ => 0 := by rw [hg0, o_IO, if_pos hX.symm]
  have G0 : GX (fun _ => False) h g0 1 36 := by rw [hg0]; exact GX_O
  rw [← hg0]
  have e1 := ic5_4 (d := d + 2) (s1 := .unset) t0 (by omega)
  obtain ⟨G1, r1, x1, a1, n1, i1, l1, q1, t1, w1⟩ := hAl_f (g := g0) (o := 150) (j := 1) (t := 40) (n := 6) (by omega)
  obtain ⟨g1, hg1⟩ : ∃ g1, g1 = hAl g0 150 1 40 6 := ⟨_, rfl⟩
  rw [← hg1] at e1 G1 r1 x1 a1 n1 i1 l1 q1 t1 w1
  rw [t0] at t1
  rw [x0] at a1 n1 i1 l1 q1 r1 x1
  rw [w0] at w1
  rw [r0] at r1
  have e2 := ic5_12 (d := d + 2) (s1 := .unset) t1 (by omega)
  obtain ⟨G2, r2, x2, a2, n2, i2, l2, q2, t2, w2⟩ := hAl_f (g := g1) (o := 150) (j := 2) (t := 40) (n := 1734) (by omega)
  obtain ⟨g2, hg2⟩ : ∃ g2, g2 = hAl g1 150 2 40 1734 := ⟨_, rfl⟩
  rw [← hg2] at e2 G2 r2 x2 a2 n2 i2 l2 q2 t2 w2
  rw [t1] at t2
  rw [x1] at a2 n2 i2 l2 q2 r2 x2
  rw [w1] at w2
  rw [r1] at r2
  have e3 := ic5_21 (d := d + 2) (s1 := .unset) t2 (by omega)
  obtain ⟨G3, r3, x3, a3, n3, i3, l3, q3, t3, w3⟩ := hAl_f (g := g2) (o := 150) (j := 3) (t := 42) (n := 2) (by omega)
  obtain ⟨g3, hg3⟩ : ∃ g3, g3 = hAl g2 150 3 42 2 := ⟨_, rfl⟩
  rw [← hg3] at e3 G3 r3 x3 a3 n3 i3 l3 q3 t3 w3
  rw [t2] at t3
  rw [x2] at a3 n3 i3 l3 q3 r3 x3
  rw [w2] at w3
  rw [r2] at r3
  have e4 := ic5_28 (d := d + 2) (s1 := .unset) t3 (by omega)
  obtain ⟨G4, r4, x4, a4, n4, i4, l4, q4, t4, w4⟩ := hAl_f (g := g3) (o := 150) (j := 4) (t := 40) (n := 400) (by omega)
  obtain ⟨g4, hg4⟩ : ∃ g4, g4 = hAl g3 150 4 40 400 := ⟨_, rfl⟩
  rw [← hg4] at e4 G4 r4 x4 a4 n4 i4 l4 q4 t4 w4
  rw [t3] at t4
  rw [x3] at a4 n4 i4 l4 q4 r4 x4
  rw [w3] at w4
  rw [r3] at r4
  have e5 := ic5_37 (d := d + 2) (s1 := .unset) t4 (by omega)
  obtain ⟨G5, r5, x5, a5, n5, i5, l5, q5, t5, w5⟩ := hAl_f (g := g4) (o := 150) (j := 5) (t := 40) (n := 477) (by omega)
  obtain ⟨g5, hg5⟩ : ∃ g5, g5 = hAl g4 150 5 40 477 := ⟨_, rfl⟩
  rw [← hg5] at e5 G5 r5 x5 a5 n5 i5 l5 q5 t5 w5
  rw [t4] at t5
  rw [x4] at a5 n5 i5 l5 q5 r5 x5
  rw [w4] at w5
  rw [r4] at r5
  obtain ⟨g6, hg6⟩ : ∃ g6, g6 = pI g5 150 (va_up (oI g5 150) 17 (-1)) := ⟨_, rfl⟩
  have e6 : E_ (d + 2) mX5_init 46 [.val (.ref 150), .unset] [] g5 = E_ (d + 2) mX5_init 51 [.val (.ref 150), .unset] [] g6 := by
    rw [hg6]
    have tf : ∀ f, oT (pI g5 150 f) 150 = 7 := fun f => t5
    simp (disch := first | exact t5 | exact tf _ | first | assumption | exact nI_ne0 (by decide) (by decide) | exact zb_01 | exact Or.inl rfl | exact Or.inr rfl | with_unfolding_all exact id (by assumption) | with_unfolding_all exact id (xix_8 (by assumption) (by omega) (by omega)) | omega) only [wX5_init_46, wX5_init_47, wX5_init_48, if_true, if_false, ↓reduceIte, xpu_s, xpu_n, Option.bind_some, xk_i, xk_r, xk_0, xk_u, xk_l, xk_k, xk_q, rf_s, rf_n, o_TI, o_TL, o_TR, o_NI, o_NL, o_NR, o_XI, o_XL, o_XR, o_RI, o_RL, o_LI, o_LR, o_IL, o_IR, o_II, o_LL, o_RR, o_pII, o_pLL, up_s, q_e1, q_e2, Nat.zero_add, Nat.reduceEqDiff, Nat.reduceAdd, Nat.reduceMul, Nat.reduceSub, Nat.reduceLT, Nat.reduceLeDiff, Nat.reduceDiv, Nat.reduceMod, nI_c, nI_add, up_ne]
  have G6 : GX (fun a => a = 150) g5 g6 0 0 := by rw [hg6]; exact GX_I fun _ => rfl
  have t6 : oT g6 150 = 7 := by rw [hg6]; exact t5
  have r6 := r5
  rw [show oR g5 = oR g6 by rw [hg6]; rfl] at r6
  have x6 : oX g6 = 156 := by rw [hg6]; exact x5
  have w6 := (show oI g6 150 = va_up (oI g5 150) 17 (-1) by rw [hg6, o_II, if_pos rfl])
  rw [w5] at w6
  have e7 := ic5_51 (d := d + 2) (s1 := .unset) t6 (by omega)
  obtain ⟨G7, r7, x7, a7, n7, i7, l7, q7, t7, w7⟩ := hAl_f (g := g6) (o := 150) (j := 18) (t := 40) (n := 42) (by omega)
  obtain ⟨g7, hg7⟩ : ∃ g7, g7 = hAl g6 150 18 40 42 := ⟨_, rfl⟩
  rw [← hg7] at e7 G7 r7 x7 a7 n7 i7 l7 q7 t7 w7
  rw [t6] at t7
  rw [x6] at a7 n7 i7 l7 q7 r7 x7
  rw [w6] at w7
  rw [r6] at r7
  have e8 := ic5_59 (d := d + 2) (s1 := .unset) t7 (by omega)
  obtain ⟨G8, r8, x8, a8, n8, i8, l8, q8, t8, w8⟩ := hAl_f (g := g7) (o := 150) (j := 19) (t := 40) (n := 504) (by omega)
  obtain ⟨g8, hg8⟩ : ∃ g8, g8 = hAl g7 150 19 40 504 := ⟨_, rfl⟩
  rw [← hg8] at e8 G8 r8 x8 a8 n8 i8 l8 q8 t8 w8
  rw [t7] at t8
  rw [x7] at a8 n8 i8 l8 q8 r8 x8
  rw [w7] at w8
  rw [r7] at r8
  have e9 := ic5_68 (d := d + 2) (s1 := .unset) t8 (by omega)
  obtain ⟨G9, r9, x9, a9, n9, i9, l9, q9, t9, w9⟩ := hAl_f (g := g8) (o := 150) (j := 20) (t := 42) (n := 220) (by omega)
  obtain ⟨g9, hg9⟩ : ∃ g9, g9 = hAl g8 150 20 42 220 := ⟨_, rfl⟩
  rw [← hg9] at e9 G9 r9 x9 a9 n9 i9 l9 q9 t9 w9
  rw [t8] at t9
  rw [x8] at a9 n9 i9 l9 q9 r9 x9
  rw [w8] at w9
  rw [r8] at r9
  obtain ⟨g10, hg10⟩ : ∃ g10, g10 = pI g9 150 (va_up (va_up (oI g9 150) 21 (-1)) 22 (-1)) := ⟨_, rfl⟩
  have e10 : E_ (d + 2) mX5_init 77 [.val (.ref 150), .unset] [] g9 = E_ (d + 2) mX5_init 87 [.val (.ref 150), .unset] [] g10 := by
    rw [hg10]
    have tf : ∀ f, oT (pI g9 150 f) 150 = 7 := fun f => t9
    simp (disch := first | exact t9 | exact tf _ | first | assumption | exact nI_ne0 (by decide) (by decide) | exact zb_01 | exact Or.inl rfl | exact Or.inr rfl | with_unfolding_all exact id (by assumption) | with_unfolding_all exact id (xix_8 (by assumption) (by omega) (by omega)) | omega) only [wX5_init_77, wX5_init_78, wX5_init_79, wX5_init_82, wX5_init_83, wX5_init_84, if_true, if_false, ↓reduceIte, xpu_s, xpu_n, Option.bind_some, xk_i, xk_r, xk_0, xk_u, xk_l, xk_k, xk_q, rf_s, rf_n, o_TI, o_TL, o_TR, o_NI, o_NL, o_NR, o_XI, o_XL, o_XR, o_RI, o_RL, o_LI, o_LR, o_IL, o_IR, o_II, o_LL, o_RR, o_pII, o_pLL, up_s, q_e1, q_e2, Nat.zero_add, Nat.reduceEqDiff, Nat.reduceAdd, Nat.reduceMul, Nat.reduceSub, Nat.reduceLT, Nat.reduceLeDiff, Nat.reduceDiv, Nat.reduceMod, nI_c, nI_add, up_ne]
  have G10 : GX (fun a => a = 150) g9 g10 0 0 := by rw [hg10]; exact GX_I fun _ => rfl
  have t10 : oT g10 150 = 7 := by rw [hg10]; exact t9
  have r10 := r9
  rw [show oR g9 = oR g10 by rw [hg10]; rfl] at r10
  have x10 : oX g10 = 159 := by rw [hg10]; exact x9
  have w10 := (show oI g10 150 = va_up (va_up (oI g9 150) 21 (-1)) 22 (-1) by rw [hg10, o_II, if_pos rfl])
  rw [w9] at w10
  have e11 := ic5_87 (d := d + 2) (s1 := .unset) t10 (by omega)
  obtain ⟨G11, r11, x11, a11, n11, i11, l11, q11, t11, w11⟩ := hAl_f (g := g10) (o := 150) (j := 24) (t := 42) (n := 8) (by omega)
  obtain ⟨g11, hg11⟩ : ∃ g11, g11 = hAl g10 150 24 42 8 := ⟨_, rfl⟩
  rw [← hg11] at e11 G11 r11 x11 a11 n11 i11 l11 q11 t11 w11
  rw [t10] at t11
  rw [x10] at a11 n11 i11 l11 q11 r11 x11
  rw [w10] at w11
  rw [r10] at r11
  have e12 := ic5_95 (d := d + 2) (s1 := .unset) t11 (by omega)
  obtain ⟨G12, r12, x12, a12, n12, i12, l12, q12, t12, w12⟩ := hAl_f (g := g11) (o := 150) (j := 25) (t := 42) (n := 8) (by omega)
  obtain ⟨g12, hg12⟩ : ∃ g12, g12 = hAl g11 150 25 42 8 := ⟨_, rfl⟩
  rw [← hg12] at e12 G12 r12 x12 a12 n12 i12 l12 q12 t12 w12
  rw [t11] at t12
  rw [x11] at a12 n12 i12 l12 q12 r12 x12
  rw [w11] at w12
  rw [r11] at r12
  have e13 := ic5_103 (d := d + 2) (s1 := .unset) t12 (by omega)
  obtain ⟨G13, r13, x13, a13, n13, i13, l13, q13, t13, w13⟩ := hAl_f (g := g12) (o := 150) (j := 27) (t := 44) (n := 5) (by omega)
  obtain ⟨g13, hg13⟩ : ∃ g13, g13 = hAl g12 150 27 44 5 := ⟨_, rfl⟩
  rw [← hg13] at e13 G13 r13 x13 a13 n13 i13 l13 q13 t13 w13
  rw [t12] at t13
  rw [x12] at a13 n13 i13 l13 q13 r13 x13
  rw [w12] at w13
  rw [r12] at r13
  have e14 := ic5_110 (d := d + 2) (s1 := .unset) t13 (by omega)
  obtain ⟨G14, r14, x14, a14, n14, i14, l14, q14, t14, w14⟩ := hAl_f (g := g13) (o := 150) (j := 28) (t := 44) (n := 8) (by omega)
  obtain ⟨g14, hg14⟩ : ∃ g14, g14 = hAl g13 150 28 44 8 := ⟨_, rfl⟩
  rw [← hg14] at e14 G14 r14 x14 a14 n14 i14 l14 q14 t14 w14
  rw [t13] at t14
  rw [x13] at a14 n14 i14 l14 q14 r14 x14
  rw [w13] at w14
  rw [r13] at r14
  have e15 := ic5_118 (d := d + 2) (s1 := .unset) t14 (by omega)
  obtain ⟨G15, r15, x15, a15, n15, i15, l15, q15, t15, w15⟩ := hAl_f (g := g14) (o := 150) (j := 29) (t := 44) (n := 8) (by omega)
  obtain ⟨g15, hg15⟩ : ∃ g15, g15 = hAl g14 150 29 44 8 := ⟨_, rfl⟩
  rw [← hg15] at e15 G15 r15 x15 a15 n15 i15 l15 q15 t15 w15
  rw [t14] at t15
  rw [x14] at a15 n15 i15 l15 q15 r15 x15
  rw [w14] at w15
  rw [r14] at r15
  have e16 := ic5_126 (d := d + 2) (s1 := .unset) t15 (by omega)
  obtain ⟨G16, r16, x16, a16, n16, i16, l16, q16, t16, w16⟩ := hAl_f (g := g15) (o := 150) (j := 30) (t := 40) (n := 13000) (by omega)
  obtain ⟨g16, hg16⟩ : ∃ g16, g16 = hAl g15 150 30 40 13000 := ⟨_, rfl⟩
  rw [← hg16] at e16 G16 r16 x16 a16 n16 i16 l16 q16 t16 w16
  rw [t15] at t16
  rw [x15] at a16 n16 i16 l16 q16 r16 x16
  rw [w15] at w16
  rw [r15] at r16
  have e17 := ic5_135 (d := d + 2) (s1 := .unset) t16 (by omega)
  obtain ⟨G17, r17, x17, a17, n17, i17, l17, q17, t17, w17⟩ := hAl_f (g := g16) (o := 150) (j := 31) (t := 40) (n := 13000) (by omega)
  obtain ⟨g17, hg17⟩ : ∃ g17, g17 = hAl g16 150 31 40 13000 := ⟨_, rfl⟩
  rw [← hg17] at e17 G17 r17 x17 a17 n17 i17 l17 q17 t17 w17
  rw [t16] at t17
  rw [x16] at a17 n17 i17 l17 q17 r17 x17
  rw [w16] at w17
  rw [r16] at r17
  have e18 := ic5_144 (d := d + 2) (s1 := .unset) t17 (by omega)
  obtain ⟨G18, r18, x18, a18, n18, i18, l18, q18, t18, w18⟩ := hAl_f (g := g17) (o := 150) (j := 32) (t := 40) (n := 40) (by omega)
  obtain ⟨g18, hg18⟩ : ∃ g18, g18 = hAl g17 150 32 40 40 := ⟨_, rfl⟩
  rw [← hg18] at e18 G18 r18 x18 a18 n18 i18 l18 q18 t18 w18
  rw [t17] at t18
  rw [x17] at a18 n18 i18 l18 q18 r18 x18
  rw [w17] at w18
  rw [r17] at r18
  obtain ⟨y19, hy19⟩ : ∃ y19, y19 = pO g18 40 4 := ⟨_, rfl⟩
  obtain ⟨g19, hg19⟩ : ∃ g19, g19 = pR (pI y19 167 (va_up (va_up (va_up (va_up (fun _ => 0) 0 (-1)) 1 (-1)) 2 (-1)) 3 (-1))) 150 (va_up (oR g18 150) 33 (some 167)) := ⟨_, rfl⟩
  have yt : oT y19 167 = 40 := by rw [hy19, o_TO, if_pos x18.symm]
  have yn : oN y19 167 = 4 := by rw [hy19, o_NO, if_pos x18.symm]
  have yi : oI y19 167 = fun _ => 0 := by rw [hy19, o_IO, if_pos x18.symm]
  have y5 : oT y19 150 = 7 := by rw [hy19, o_TO, if_neg (by omega)]; exact t18
  have yr : oR y19 150 = oR g18 150 := by rw [hy19, o_RO, if_neg (by omega)]
  have yw : oI y19 150 = oI g18 150 := by rw [hy19, o_IO, if_neg (by omega)]
  have e19 : E_ (d + 2) mX5_init 152 [.val (.ref 150), .unset] [] g18 = E_ (d + 2) mX5_init 175 [.val (.ref 150), .unset] [] g19 := by
    rw [hg19]
    have m0 : 0 ≤ (nI 4).toInt := by decide
    have m1 : (nI 4).toInt ≤ 65536 := by decide
    have c4 : (nI 4).toNatClampNeg = 4 := nI_clamp (by omega)
    have tf : ∀ f, oT (pI y19 167 f) 167 = 40 := fun f => yt
    have uf : ∀ f, oT (pI y19 167 f) 150 = 7 := fun f => y5
    have nf : ∀ f i, i < 4 → xix (nI i) (oN (pI y19 167 f) 167) = true := fun f i hi => xix_8 yn (by omega) (by omega)
    have rf_ : ∀ f, oR (pI y19 167 f) 150 = oR g18 150 := fun f => yr
    have ni : ∀ i, i < 4 → xix (nI i) (oN y19 167) = true := fun i hi => xix_8 yn (by omega) (by omega)
    have c0 : (nI 0).toNatClampNeg = 0 := rfl
    have c1 : (nI 1).toNatClampNeg = 1 := rfl
    have c2 : (nI 2).toNatClampNeg = 2 := rfl
    have c3 : (nI 3).toNatClampNeg = 3 := rfl
    simp (disch := first | exact m0 | exact m1 | exact yt | exact tf _ | exact uf _ | exact ni _ (by omega) | exact nf _ _ (by omega) | first | assumption | exact nI_ne0 (by decide) (by decide) | exact zb_01 | exact Or.inl rfl | exact Or.inr rfl | with_unfolding_all exact id (by assumption) | with_unfolding_all exact id (xix_8 (by assumption) (by omega) (by omega)) | omega) only [wX5_init_152, wX5_init_153, wX5_init_154, wX5_init_156, wX5_init_157, wX5_init_158, wX5_init_159, wX5_init_160, wX5_init_161, wX5_init_162, wX5_init_163, wX5_init_164, wX5_init_165, wX5_init_166, wX5_init_167, wX5_init_168, wX5_init_169, wX5_init_170, wX5_init_171, wX5_init_172, wX5_init_172q, if_true, if_false, ↓reduceIte, xpu_s, xpu_n, Option.bind_some, xk_i, xk_r, xk_0, xk_u, xk_l, xk_k, xk_q, rf_s, rf_n, q_e1, q_e2, Nat.zero_add, Nat.reduceEqDiff, Nat.reduceAdd, Nat.reduceMul, Nat.reduceSub, Nat.reduceLT, Nat.reduceLeDiff, Nat.reduceDiv, Nat.reduceMod, c4, ← hy19, x18, yi, c0, c1, c2, c3, o_II, o_pII, rf_]
  have G19 : GX (fun a => a = 150) g18 g19 1 4 := by
    rw [hg19, hy19]
    exact GX_le (GX_trans (GX_new (GX_O (W := fun a => a = 150)) (GX_I (f := va_up (va_up (va_up (va_up (fun _ => 0) 0 (-1)) 1 (-1)) 2 (-1)) 3 (-1)) fun _ => rfl) (by omega)) (GX_R (W := fun a => a = 150) (fun _ => rfl)) (fun _ _ z => z)) (by omega) (by omega)
  have t19 : oT g19 150 = 7 := by rw [hg19]; exact y5
  have r19 : oR g19 150 = va_up (oR g18 150) 33 (some 167) := by rw [hg19, o_RR, if_pos rfl]
  rw [r18] at r19
  have x19 : oX g19 = 168 := by rw [hg19, hy19]; show oX g18 + 1 = 168; omega
  have w19 : oI g19 150 = oI g18 150 := by rw [hg19, o_IR, o_II, if_neg (by omega)]; exact yw
  rw [w18] at w19
  have a19 : oT g19 167 = 40 := by rw [hg19]; exact yt
  have n19 : oN g19 167 = 4 := by rw [hg19]; exact yn
  have i19 : oI g19 167 = va_up (va_up (va_up (va_up (fun _ => 0) 0 (-1)) 1 (-1)) 2 (-1)) 3 (-1) := by rw [hg19, o_IR, o_II, if_pos rfl]
  have e20 := ic5_175 (d := d + 2) (s1 := .unset) t19 (by omega)
  obtain ⟨G20, r20, x20, a20, n20, i20, l20, q20, t20, w20⟩ := hAl_f (g := g19) (o := 150) (j := 34) (t := 40) (n := 4) (by omega)
  obtain ⟨g20, hg20⟩ : ∃ g20, g20 = hAl g19 150 34 40 4 := ⟨_, rfl⟩
  rw [← hg20] at e20 G20 r20 x20 a20 n20 i20 l20 q20 t20 w20
  rw [t19] at t20
  rw [x19] at a20 n20 i20 l20 q20 r20 x20
  rw [w19] at w20
  rw [r19] at r20
  have e21 := ic5_182 (d := d + 2) (s1 := .unset) t20 (by omega)
  obtain ⟨G21, r21, x21, a21, n21, i21, l21, q21, t21, w21⟩ := hAl_f (g := g20) (o := 150) (j := 35) (t := 44) (n := 160) (by omega)
  obtain ⟨g21, hg21⟩ : ∃ g21, g21 = hAl g20 150 35 44 160 := ⟨_, rfl⟩
  rw [← hg21] at e21 G21 r21 x21 a21 n21 i21 l21 q21 t21 w21
  rw [t20] at t21
  rw [x20] at a21 n21 i21 l21 q21 r21 x21
  rw [w20] at w21
  rw [r20] at r21
  have S20 := G21
  have S19 := GX_trans G20 S20 (fun _ _ z => z)
  have S18 := GX_trans G19 S19 (fun _ _ z => z)
  have S17 := GX_trans G18 S18 (fun _ _ z => z)
  have S16 := GX_trans G17 S17 (fun _ _ z => z)
  have S15 := GX_trans G16 S16 (fun _ _ z => z)
  have S14 := GX_trans G15 S15 (fun _ _ z => z)
  have S13 := GX_trans G14 S14 (fun _ _ z => z)
  have S12 := GX_trans G13 S13 (fun _ _ z => z)
  have S11 := GX_trans G12 S12 (fun _ _ z => z)
  have S10 := GX_trans G11 S11 (fun _ _ z => z)
  have S9 := GX_trans G10 S10 (fun _ _ z => z)
  have S8 := GX_trans G9 S9 (fun _ _ z => z)
  have S7 := GX_trans G8 S8 (fun _ _ z => z)
  have S6 := GX_trans G7 S7 (fun _ _ z => z)
  have S5 := GX_trans G6 S6 (fun _ _ z => z)
  have S4 := GX_trans G5 S5 (fun _ _ z => z)
  have S3 := GX_trans G4 S4 (fun _ _ z => z)
  have S2 := GX_trans G3 S3 (fun _ _ z => z)
  have S1 := GX_trans G2 S2 (fun _ _ z => z)
  have S21 : GX (fun a => a = 150) g21 g21 0 0 := GX_refl
  have S0 := GX_trans G1 S1 (fun _ _ z => z)
  have k1 := GXs S1 (a := 151) (by omega) (by omega)
  have T151 : oT g21 151 = 40 := k1.1.trans a1
  have N151 : oN g21 151 = 6 := k1.2.1.trans n1
  have k2 := GXs S2 (a := 152) (by omega) (by omega)
  have T152 : oT g21 152 = 40 := k2.1.trans a2
  have N152 : oN g21 152 = 1734 := k2.2.1.trans n2
  have k3 := GXs S3 (a := 153) (by omega) (by omega)
  have T153 : oT g21 153 = 42 := k3.1.trans a3
  have N153 : oN g21 153 = 2 := k3.2.1.trans n3
  have k4 := GXs S4 (a := 154) (by omega) (by omega)
  have T154 : oT g21 154 = 40 := k4.1.trans a4
  have N154 : oN g21 154 = 400 := k4.2.1.trans n4
  have k5 := GXs S5 (a := 155) (by omega) (by omega)
  have T155 : oT g21 155 = 40 := k5.1.trans a5
  have N155 : oN g21 155 = 477 := k5.2.1.trans n5
  have k7 := GXs S7 (a := 156) (by omega) (by omega)
  have T156 : oT g21 156 = 40 := k7.1.trans a7
  have N156 : oN g21 156 = 42 := k7.2.1.trans n7
  have k8 := GXs S8 (a := 157) (by omega) (by omega)
  have T157 : oT g21 157 = 40 := k8.1.trans a8
  have N157 : oN g21 157 = 504 := k8.2.1.trans n8
  have k9 := GXs S9 (a := 158) (by omega) (by omega)
  have T158 : oT g21 158 = 42 := k9.1.trans a9
  have N158 : oN g21 158 = 220 := k9.2.1.trans n9
  have k11 := GXs S11 (a := 159) (by omega) (by omega)
  have T159 : oT g21 159 = 42 := k11.1.trans a11
  have N159 : oN g21 159 = 8 := k11.2.1.trans n11
  have k12 := GXs S12 (a := 160) (by omega) (by omega)
  have T160 : oT g21 160 = 42 := k12.1.trans a12
  have N160 : oN g21 160 = 8 := k12.2.1.trans n12
  have k13 := GXs S13 (a := 161) (by omega) (by omega)
  have T161 : oT g21 161 = 44 := k13.1.trans a13
  have N161 : oN g21 161 = 5 := k13.2.1.trans n13
  have k14 := GXs S14 (a := 162) (by omega) (by omega)
  have T162 : oT g21 162 = 44 := k14.1.trans a14
  have N162 : oN g21 162 = 8 := k14.2.1.trans n14
  have k15 := GXs S15 (a := 163) (by omega) (by omega)
  have T163 : oT g21 163 = 44 := k15.1.trans a15
  have N163 : oN g21 163 = 8 := k15.2.1.trans n15
  have k16 := GXs S16 (a := 164) (by omega) (by omega)
  have T164 : oT g21 164 = 40 := k16.1.trans a16
  have N164 : oN g21 164 = 13000 := k16.2.1.trans n16
  have k17 := GXs S17 (a := 165) (by omega) (by omega)
  have T165 : oT g21 165 = 40 := k17.1.trans a17
  have N165 : oN g21 165 = 13000 := k17.2.1.trans n17
  have k18 := GXs S18 (a := 166) (by omega) (by omega)
  have T166 : oT g21 166 = 40 := k18.1.trans a18
  have N166 : oN g21 166 = 40 := k18.2.1.trans n18
  have k19 := GXs S19 (a := 167) (by omega) (by omega)
  have T167 : oT g21 167 = 40 := k19.1.trans a19
  have N167 : oN g21 167 = 4 := k19.2.1.trans n19
  have k20 := GXs S20 (a := 168) (by omega) (by omega)
  have T168 : oT g21 168 = 40 := k20.1.trans a20
  have N168 : oN g21 168 = 4 := k20.2.1.trans n20
  have k21 := GXs S21 (a := 169) (by omega) (by omega)
  have T169 : oT g21 169 = 44 := k21.1.trans a21
  have N169 : oN g21 169 = 160 := k21.2.1.trans n21
  have NN : oN g21 150 = 36 := (S0.2.2.2.2.1 150 (by omega)).2.trans nn0
  have HK : MOK g21 := by
    refine ⟨fun a t ht => ?_, fun j b hj => ?_⟩
    · unfold mT at ht
      split at ht <;> first | (cases ht) | skip
      · exact ⟨t21, NN⟩
      · exact ⟨T151, N151⟩
      · exact ⟨T152, N152⟩
      · exact ⟨T153, N153⟩
      · exact ⟨T154, N154⟩
      · exact ⟨T155, N155⟩
      · exact ⟨T156, N156⟩
      · exact ⟨T157, N157⟩
      · exact ⟨T158, N158⟩
      · exact ⟨T159, N159⟩
      · exact ⟨T160, N160⟩
      · exact ⟨T161, N161⟩
      · exact ⟨T162, N162⟩
      · exact ⟨T163, N163⟩
      · exact ⟨T164, N164⟩
      · exact ⟨T165, N165⟩
      · exact ⟨T166, N166⟩
      · exact ⟨T167, N167⟩
      · exact ⟨T168, N168⟩
      · exact ⟨T169, N169⟩
    · rw [r21]
      unfold mR at hj
      split at hj <;> first | (cases hj; rfl) | cases hj
  have P0 := kX5_plain (d := d + 1) (a := 152) (h := g21) T152 (by omega) (by omega)
  obtain ⟨gp, hgp⟩ : ∃ gp, gp = pI g21 152 (fun j => if j < 477 then plN j else oI g21 152 j) := ⟨_, rfl⟩
  rw [← hgp] at P0
  have i152 : oI g21 152 = fun _ => 0 := k2.2.2.1.trans i2
  have pt : oT gp 150 = 7 := by rw [hgp]; exact t21
  have pr : oR gp 150 2 = some 152 := by rw [hgp]; exact m_r2 HK
  have ML := mo_loop (d := d + 2) (g := gp) pt (by rw [hgp]; exact T152) (by rw [hgp]; exact N152) pr (by rw [hgp, o_II, if_pos rfl, i152])
  have sp : ∀ a, ¬ a = 152 → oI (pI gp 152 plA0) a = oI g21 a := fun a ha => by rw [hgp, o_pII, o_II, if_neg ha]
  refine ⟨pI gp 152 plA0, ?_, ⟨?_, by rw [o_II, if_pos rfl], (sp 154 (by omega)).trans (k4.2.2.1.trans i4), (sp 151 (by omega)).trans (k1.2.2.1.trans i1), (sp 153 (by omega)).trans (k3.2.2.1.trans i3), (sp 167 (by omega)).trans (k19.2.2.1.trans i19), (sp 168 (by omega)).trans (k20.2.2.1.trans i20), ?_, (sp 150 (by omega)).trans w21⟩, ?_, ?_⟩
  · have e : C_ (d + 2) mX5_init [.ref 150] g0 = E_ (d + 2) mX5_init 4 [.val (.ref 150), .unset] [] g0 := by
      simp (disch := first | assumption | exact nI_ne0 (by decide) (by decide) | exact zb_01 | exact Or.inl rfl | exact Or.inr rfl | with_unfolding_all exact id (by assumption) | with_unfolding_all exact id (xix_8 (by assumption) (by omega) (by omega)) | omega) only [wX5_init_e, wX5_init_0, wX5_init_1, if_true, if_false, ↓reduceIte, xpu_s, xpu_n, Option.bind_some, xk_i, xk_r, xk_0, xk_u, xk_l, xk_k, xk_q, rf_s, rf_n, q_e1, q_e2, Nat.zero_add, Nat.reduceEqDiff, Nat.reduceAdd, Nat.reduceMul, Nat.reduceSub, Nat.reduceLT, Nat.reduceLeDiff, Nat.reduceDiv, Nat.reduceMod]
    have eL : E_ (d + 2) mX5_init 191 [.val (.ref 150), .unset] [] g21 = E_ (d + 2) mX5_init 200 [.val (.ref 150), .val (.int (nI 0))] [] gp := by
      simp (disch := first | exact t21 | first | assumption | exact nI_ne0 (by decide) (by decide) | exact zb_01 | exact Or.inl rfl | exact Or.inr rfl | with_unfolding_all exact id (by assumption) | with_unfolding_all exact id (xix_8 (by assumption) (by omega) (by omega)) | omega) only [wX5_init_191, wX5_init_192, wX5_init_195, wX5_init_198, wX5_init_199, if_true, if_false, ↓reduceIte, xpu_s, xpu_n, Option.bind_some, xk_i, xk_r, xk_0, xk_u, xk_l, xk_k, xk_q, rf_s, rf_n, q_e1, q_e2, Nat.zero_add, Nat.reduceEqDiff, Nat.reduceAdd, Nat.reduceMul, Nat.reduceSub, Nat.reduceLT, Nat.reduceLeDiff, Nat.reduceDiv, Nat.reduceMod, m_r2 HK, P0]
    exact e.trans (e1.trans (e2.trans (e3.trans (e4.trans (e5.trans (e6.trans (e7.trans (e8.trans (e9.trans (e10.trans (e11.trans (e12.trans (e13.trans (e14.trans (e15.trans (e16.trans (e17.trans (e18.trans (e19.trans (e20.trans (e21.trans (eL.trans ML))))))))))))))))))))))
  · rw [hgp]; exact HK
  · show oL gp 169 = _
    rw [hgp]
    exact k21.2.2.2.2.trans l21
  · rw [hgp]
    show oX g21 = 170
    omega
  · have G9 : GX (fun a => 150 ≤ a) g21 (pI gp 152 plA0) 0 0 := by
      rw [hgp, o_pII]
      exact GX_I fun _ => by omega
    exact GX_le (GX_trans (GX_trans G0 S0 (fun a ha z => by omega)) G9 (fun a ha z => by omega)) (by omega) (by omega)
end
