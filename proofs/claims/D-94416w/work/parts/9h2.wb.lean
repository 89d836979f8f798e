/-! CONSTRUCTORS: a walk, nine walks -/
section
variable {d : Nat} {g z h : xH} {o j t n k s : Nat} {f : rI}
theorem GXs (G : GX (fun a => a = o) g z k s) {a : Nat} (ha : a < oX g) (hne : ¬ a = o) : sm g z a := G.2.2.2.2.2 a ha hne
theorem kX3_init : ∃ z, C_ d mX3_init [.ref (oX g)] (pO g 5 13) = some (none, z) ∧ GX (fun _ => False) g z 6 53 ∧ oX z = oX g + 6 ∧ WO z (oX g) ∧ oR z (oX g) 5 = none := by
  obtain ⟨o, ho⟩ : ∃ o, o = oX g := ⟨_, rfl⟩
  rw [← ho]
  obtain ⟨z0, hz0⟩ : ∃ z0, z0 = pO g 5 13 := ⟨_, rfl⟩
  have x0 : oX z0 = o + 1 := by rw [hz0, ho]; rfl
  have t0 : oT z0 o = 5 := by rw [hz0, o_TO, if_pos ho]
  have r0 : oR z0 o = fun _ => none := by rw [hz0, o_RO, if_pos ho]
  have G0 : GX (fun _ => False) g z0 1 13 := by rw [hz0]; exact GX_O
  rw [← hz0]
  have e1 := ic3_4 (d := d) t0 (by omega)
  obtain ⟨G1, r1, x1, a1, n1, -, -, -, t1, -⟩ := hAl_f (g := z0) (o := o) (j := 0) (t := 40) (n := 8) (by omega)
  obtain ⟨z1, hz1⟩ : ∃ z1, z1 = hAl z0 o 0 40 8 := ⟨_, rfl⟩
  rw [← hz1] at e1 G1 r1 x1 a1 n1 t1
  rw [t0] at t1
  rw [x0] at a1 n1 r1
  have x1 : oX z1 = o + 2 := by omega
  have e2 := ic3_12 (d := d) t1 (by omega)
  obtain ⟨G2, r2, x2, a2, n2, -, -, -, t2, -⟩ := hAl_f (g := z1) (o := o) (j := 1) (t := 40) (n := 8) (by omega)
  obtain ⟨z2, hz2⟩ : ∃ z2, z2 = hAl z1 o 1 40 8 := ⟨_, rfl⟩
  rw [← hz2] at e2 G2 r2 x2 a2 n2 t2
  rw [t1] at t2
  rw [x1] at a2 n2 r2
  have x2 : oX z2 = o + 3 := by omega
  have e3 := ic3_20 (d := d) t2 (by omega)
  obtain ⟨G3, r3, x3, a3, n3, -, -, -, t3, -⟩ := hAl_f (g := z2) (o := o) (j := 2) (t := 40) (n := 8) (by omega)
  obtain ⟨z3, hz3⟩ : ∃ z3, z3 = hAl z2 o 2 40 8 := ⟨_, rfl⟩
  rw [← hz3] at e3 G3 r3 x3 a3 n3 t3
  rw [t2] at t3
  rw [x2] at a3 n3 r3
  have x3 : oX z3 = o + 4 := by omega
  have e4 := ic3_28 (d := d) t3 (by omega)
  obtain ⟨G4, r4, x4, a4, n4, -, -, -, t4, -⟩ := hAl_f (g := z3) (o := o) (j := 3) (t := 42) (n := 8) (by omega)
  obtain ⟨z4, hz4⟩ : ∃ z4, z4 = hAl z3 o 3 42 8 := ⟨_, rfl⟩
  rw [← hz4] at e4 G4 r4 x4 a4 n4 t4
  rw [t3] at t4
  rw [x3] at a4 n4 r4
  have x4 : oX z4 = o + 5 := by omega
  have e5 := ic3_36 (d := d) t4 (by omega)
  obtain ⟨G5, r5, x5, a5, n5, -, -, -, t5, -⟩ := hAl_f (g := z4) (o := o) (j := 4) (t := 42) (n := 8) (by omega)
  obtain ⟨z5, hz5⟩ : ∃ z5, z5 = hAl z4 o 4 42 8 := ⟨_, rfl⟩
  rw [← hz5] at e5 G5 r5 x5 a5 n5 t5
  rw [t4] at t5
  rw [x4] at a5 n5 r5
  have x5 : oX z5 = o + 6 := by omega
  have T : ∀ a, a < oX z0 → a = o → a = o := fun _ _ z => z
  have F5 := G5
  have F4 := GX_trans G4 F5 (fun _ _ z => z)
  have F3 := GX_trans G3 F4 (fun _ _ z => z)
  have F2 := GX_trans G2 F3 (fun _ _ z => z)
  have F1 := GX_trans G1 F2 (fun _ _ z => z)
  have s1 := GXs F2 (a := o + 1) (by omega) (by omega)
  have s2 := GXs F3 (a := o + 2) (by omega) (by omega)
  have s3 := GXs F4 (a := o + 3) (by omega) (by omega)
  have s4 := GXs F5 (a := o + 4) (by omega) (by omega)
  have rr : oR z5 o = va_up (va_up (va_up (va_up (va_up (fun _ => none) 0 (some (o + 1))) 1 (some (o + 2))) 2 (some (o + 3))) 3 (some (o + 4))) 4 (some (o + 5)) := by
    rw [r5, r4, r3, r2, r1, r0]
  refine ⟨z5, ?_, GX_le (GX_trans G0 F1 (fun a ha z => by omega)) (by omega) (by omega), by omega, ?_, ?_⟩
  · have e : C_ d mX3_init [.ref o] z0 = E_ d mX3_init 4 [.val (.ref o)] [] z0 := by
      simp (disch := first | assumption | exact nI_ne0 (by decide) (by decide) | exact zb_01 | exact Or.inl rfl | exact Or.inr rfl | with_unfolding_all exact id (by assumption) | with_unfolding_all exact id (xix_8 (by assumption) (by omega) (by omega)) | omega) only [wX3_init_e, wX3_init_0, wX3_init_1, if_true, if_false, ↓reduceIte, xpu_s, xpu_n, Option.bind_some, xk_i, xk_r, xk_0, xk_u, xk_l, xk_k, xk_q, rf_s, rf_n, q_e1, q_e2, Nat.zero_add, Nat.reduceEqDiff, Nat.reduceAdd, Nat.reduceMul, Nat.reduceSub, Nat.reduceLT, Nat.reduceLeDiff, Nat.reduceDiv, Nat.reduceMod]
    refine e.trans (e1.trans (e2.trans (e3.trans (e4.trans (e5.trans ?_)))))
    simp (disch := first | assumption | exact nI_ne0 (by decide) (by decide) | exact zb_01 | exact Or.inl rfl | exact Or.inr rfl | with_unfolding_all exact id (by assumption) | with_unfolding_all exact id (xix_8 (by assumption) (by omega) (by omega)) | omega) only [wX3_init_44, if_true, if_false, ↓reduceIte, xpu_s, xpu_n, Option.bind_some, xk_i, xk_r, xk_0, xk_u, xk_l, xk_k, xk_q, rf_s, rf_n, q_e1, q_e2, Nat.zero_add, Nat.reduceEqDiff, Nat.reduceAdd, Nat.reduceMul, Nat.reduceSub, Nat.reduceLT, Nat.reduceLeDiff, Nat.reduceDiv, Nat.reduceMod]
  · unfold WO
    rw [rr]
    refine ⟨t5, ?_, ?_, ?_, ?_, ?_, s1.1.trans a1, s2.1.trans a2, s3.1.trans a3, s4.1.trans a4, a5, s1.2.1.trans n1, s2.2.1.trans n2, s3.2.1.trans n3, s4.2.1.trans n4, n5⟩
    · rw [up_ne (by omega), up_ne (by omega), up_ne (by omega), up_ne (by omega), up_s]
    · rw [up_ne (by omega), up_ne (by omega), up_ne (by omega), up_s]
    · rw [up_ne (by omega), up_ne (by omega), up_s]
    · rw [up_ne (by omega), up_s]
    · rw [up_s]
  · rw [rr, up_ne (by omega), up_ne (by omega), up_ne (by omega), up_ne (by omega), up_ne (by omega)]
theorem WO_sm {q : Nat} (s : ∀ i, i < 6 → sm g z (q + i)) (O : WO g q) : WO z q := by
  have s0 := s 0 (by omega)
  have s1 := s 1 (by omega)
  have s2 := s 2 (by omega)
  have s3 := s 3 (by omega)
  have s4 := s 4 (by omega)
  have s5 := s 5 (by omega)
  rw [Nat.add_zero] at s0
  unfold WO at *
  rw [s0.1, s0.2.2.2.1, s1.1, s2.1, s3.1, s4.1, s5.1, s1.2.1, s2.2.1, s3.2.1, s4.2.1, s5.2.1]
  exact O
/-- walks(): its array first, its walks behind it -/
def FW (g z : xH) (b k : Nat) : Prop := GX (fun _ => False) g z (1 + 6 * k) (9 + 53 * k) ∧ oX z = b + 1 + 6 * k ∧ oT z b = 46 ∧ oN z b = 9 ∧ ∀ j, j < k → oR z b j = some (b + 1 + 6 * j) ∧ WO z (b + 1 + 6 * j)
theorem FW_s {b k : Nat} (hb : b = oX g) (hk : k < 9) (F : FW g z b k) : ∃ z', E_ (d + 1) mX0_walks 8 [.val (.ref b), .val (.int (nI k))] [] z = E_ (d + 1) mX0_walks 8 [.val (.ref b), .val (.int (nI (k + 1)))] [] z' ∧ FW g z' b (k + 1) := by
  obtain ⟨G, x, t, n, J⟩ := F
  obtain ⟨w, e, G2, x2, O, -⟩ := kX3_init (d := d) (g := z)
  rw [x] at e O
  have sb : ∀ a, a < oX z → sm z w a := fun a ha => G2.2.2.2.2.2 a ha (fun z => z)
  have tb : oT w b = 46 := (sb b (by omega)).1.trans t
  have tw : oT w (b + 1 + 6 * k) = 5 := O.1
  have xe : xel (oT w b) (oT w (b + 1 + 6 * k)) = true := by rw [tb, tw]; rfl
  have xi : xix (nI k) (oN w b) = true := xix_k (by rw [(sb b (by omega)).2.1, n]; omega) (by omega)
  have lt : (nI 8 < nI k) = False := eq_false (nI_nlt (by omega) (by omega))
  have ck : (nI k).toNatClampNeg = k := nI_clamp (by omega)
  have s0 : ∀ a, ¬ a = b → sm w (pR w b (va_up (oR w b) k (some (b + 1 + 6 * k)))) a := fun a ha => sm_R sm_refl ha
  refine ⟨pR w b (va_up (oR w b) k (some (b + 1 + 6 * k))), ?_, ?_, ?_, tb, (sb b (by omega)).2.1.trans n, fun j hj => ?_⟩
  · refine wX0_walks_8.trans ?_
    simp (disch := first | exact xe | exact xi | first | assumption | exact nI_ne0 (by decide) (by decide) | exact zb_01 | exact Or.inl rfl | exact Or.inr rfl | with_unfolding_all exact id (by assumption) | with_unfolding_all exact id (xix_8 (by assumption) (by omega) (by omega)) | omega) only [wX0_walks_e, wX0_walks_0, wX0_walks_2, wX0_walks_5, wX0_walks_6, wX0_walks_7, wX0_walks_9, wX0_walks_11, wX0_walks_14, wX0_walks_15, wX0_walks_16, wX0_walks_19, wX0_walks_20, wX0_walks_23, wX0_walks_23n, wX0_walks_24, wX0_walks_27, wX0_walks_30, wX0_walks_31, if_true, if_false, ↓reduceIte, xpu_s, xpu_n, Option.bind_some, xk_i, xk_r, xk_0, xk_u, xk_l, xk_k, xk_q, rf_s, rf_n, q_e1, q_e2, Nat.zero_add, Nat.reduceEqDiff, Nat.reduceAdd, Nat.reduceMul, Nat.reduceSub, Nat.reduceLT, Nat.reduceLeDiff, Nat.reduceDiv, Nat.reduceMod, lt, x, e, ck, nI_add]
  · exact GX_le (GX_new (GX_trans G G2 (fun _ _ z => z)) (GX_R fun _ => rfl) (by omega)) (by omega) (by omega)
  · show oX w = _
    omega
  · by_cases y : j = k
    · subst y
      refine ⟨by rw [o_RR, if_pos rfl, up_s], WO_sm (g := w) (fun i hi => s0 _ (by omega)) O⟩
    · obtain ⟨j1, j2⟩ := J j (by omega)
      refine ⟨by rw [o_RR, if_pos rfl, up_ne y, (sb b (by omega)).2.2.2.1]; exact j1, WO_sm (g := w) (fun i hi => s0 _ (by omega)) (WO_sm (g := z) (fun i hi => sb _ (by omega)) j2)⟩
theorem kX0_walks : ∃ z, C_ (d + 1) mX0_walks [] g = some (some (.ref (oX g)), z) ∧ FW g z (oX g) 9 := by
  have st : ∀ k, k ≤ 9 → ∃ z, E_ (d + 1) mX0_walks 8 [.val (.ref (oX g)), .val (.int (nI 0))] [] (pO g 46 9) = E_ (d + 1) mX0_walks 8 [.val (.ref (oX g)), .val (.int (nI k))] [] z ∧ FW g z (oX g) k := by
    intro k
    induction k with
    | zero => exact fun _ => ⟨_, rfl, GX_O, rfl, by rw [o_TO, if_pos rfl], by rw [o_NO, if_pos rfl], fun j hj => by omega⟩
    | succ k ih =>
      intro hk
      obtain ⟨z, e, F⟩ := ih (by omega)
      obtain ⟨z', e', F'⟩ := FW_s (d := d) rfl (by omega) F
      exact ⟨z', e.trans e', F'⟩
  obtain ⟨z, e, F⟩ := st 9 (by omega)
  refine ⟨z, ?_, F⟩
  have z0 : 0 ≤ (nI 9).toInt := by decide
  have z1 : (nI 9).toInt ≤ 65536 := by decide
  have c9 : (nI 9).toNatClampNeg = 9 := nI_clamp (by omega)
  have e0 : C_ (d + 1) mX0_walks [] g = E_ (d + 1) mX0_walks 8 [.val (.ref (oX g)), .val (.int (nI 0))] [] (pO g 46 9) := by
    simp (disch := first | exact z0 | exact z1 | first | assumption | exact nI_ne0 (by decide) (by decide) | exact zb_01 | exact Or.inl rfl | exact Or.inr rfl | with_unfolding_all exact id (by assumption) | with_unfolding_all exact id (xix_8 (by assumption) (by omega) (by omega)) | omega) only [wX0_walks_e, wX0_walks_0, wX0_walks_2, wX0_walks_5, wX0_walks_6, wX0_walks_7, if_true, if_false, ↓reduceIte, xpu_s, xpu_n, Option.bind_some, xk_i, xk_r, xk_0, xk_u, xk_l, xk_k, xk_q, rf_s, rf_n, q_e1, q_e2, Nat.zero_add, Nat.reduceEqDiff, Nat.reduceAdd, Nat.reduceMul, Nat.reduceSub, Nat.reduceLT, Nat.reduceLeDiff, Nat.reduceDiv, Nat.reduceMod, c9]
  have lt : (nI 8 < nI 9) = True := eq_true (nI_lt (by omega) (by omega))
  refine e0.trans (e.trans ?_)
  refine wX0_walks_8.trans ?_
  simp (disch := first | assumption | exact nI_ne0 (by decide) (by decide) | exact zb_01 | exact Or.inl rfl | exact Or.inr rfl | with_unfolding_all exact id (by assumption) | with_unfolding_all exact id (xix_8 (by assumption) (by omega) (by omega)) | omega) only [wX0_walks_9, wX0_walks_11, wX0_walks_30, wX0_walks_31, if_true, if_false, ↓reduceIte, xpu_s, xpu_n, Option.bind_some, xk_i, xk_r, xk_0, xk_u, xk_l, xk_k, xk_q, rf_s, rf_n, q_e1, q_e2, Nat.zero_add, Nat.reduceEqDiff, Nat.reduceAdd, Nat.reduceMul, Nat.reduceSub, Nat.reduceLT, Nat.reduceLeDiff, Nat.reduceDiv, Nat.reduceMod, lt]
end
