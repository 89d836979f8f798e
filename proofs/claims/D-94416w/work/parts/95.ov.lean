/-! A SCENE copied; a car that is not there -/
section
variable {d : Nat} {h h1 h2 : xH} {P : sS} {A B : rI} {x : Int32} {ow : Nat → Nat} {s cc c l k n t : Nat} {w : rI}
/-- what a copy of a scene is -/
def CP (h : xH) (c : Nat) (A : rI) (z : xH) : Prop := SCo z (oX h) A ∧ rq z (oX h) 0 = oX h + 1 ∧ LG z (oX h + 1) (sN A) 9 ∧ (∀ j, j < sN A → li z (oX h + 1) j = sc h c j) ∧ GX (fun _ => False) h z 20 500 ∧ oX h + 2 ≤ rq z (oX h + 1) 1 ∧ rq z (oX h + 1) 1 < oX z ∧ oX h + 2 < oX z
theorem kX2_copy (T : TX h) (S : SCo h c A) (h8 : sN A ≤ 8) : ∃ z, C_ (d + 10) mX2_copy [.ref c] h = some (some (.ref (oX h)), z) ∧ CP h c A z := by
  obtain ⟨f1, f2, f3, f4, f5, f6, f7⟩ := hS_f (t := 9) T
  obtain ⟨c1, c2, c3, c4, c5, c6, c7, c8, c9, c10, c11⟩ := S
  have cx := TX_lt T (a := c) (by rw [c1]; decide)
  have lx := TX_lt T (a := rq h c 0) (by rw [c10.1]; decide)
  have qx := TX_lt T (a := rq h (rq h c 0) 1) (by rw [c10.2.2.2.1]; decide)
  have hini := kX2_init (d := d + 5) T
  have key : ∀ i, i ≤ sN A → ∃ z, C_ (d + 10) mX2_copy [.ref c] h = E_ (d + 10) mX2_copy 10 [.val (.ref c), .val (.ref (oX h)), .val (.int (nI i))] [] z ∧ LG z (oX h + 1) i 9 ∧ (∀ j, j < i → li z (oX h + 1) j = sc h c j) ∧ GX (fun _ => False) h z (3 + i) (13 + 40 * i) ∧ oX h + 2 ≤ rq z (oX h + 1) 1 ∧ rq z (oX h + 1) 1 < oX z ∧ oX h + 2 < oX z ∧ oT z (oX h) = 3 ∧ oR z (oX h) 0 = some (oX h + 1) := by
    intro i
    induction i with
    | zero =>
      intro _
      refine ⟨hS h, ?_, f3, fun j hj => by omega, f7, by omega, by omega, by omega, f1, f2⟩
      simp (disch := first | assumption | exact nI_ne0 (by decide) (by decide) | exact zb_01 | exact Or.inl rfl | exact Or.inr rfl | with_unfolding_all exact id (by assumption) | with_unfolding_all exact id (xix_8 (by assumption) (by omega) (by omega)) | omega) only [wX2_copy_e, wX2_copy_0, wX2_copy_3, wX2_copy_4, wX2_copy_7, wX2_copy_8, wX2_copy_9, wX2_copy_11, wX2_copy_12, wX2_copy_15, wX2_copy_18, wX2_copy_21, wX2_copy_22, wX2_copy_25, wX2_copy_26, wX2_copy_29, wX2_copy_30, wX2_copy_33, wX2_copy_33n, wX2_copy_36, wX2_copy_39, wX2_copy_40, wX2_copy_43, wX2_copy_46, wX2_copy_47, wX2_copy_48, wX2_copy_51, wX2_copy_54, wX2_copy_55, wX2_copy_56, wX2_copy_59, wX2_copy_62, wX2_copy_63, wX2_copy_64, wX2_copy_67, wX2_copy_70, wX2_copy_71, wX2_copy_72, wX2_copy_75, wX2_copy_78, wX2_copy_79, wX2_copy_80, wX2_copy_83, wX2_copy_86, wX2_copy_87, wX2_copy_88, wX2_copy_91, wX2_copy_94, wX2_copy_95, wX2_copy_96, wX2_copy_99, wX2_copy_102, wX2_copy_103, if_true, if_false, ↓reduceIte, xpu_s, xpu_n, Option.bind_some, xk_i, xk_r, xk_0, xk_u, xk_l, xk_k, xk_q, rf_s, rf_n, q_e1, q_e2, Nat.zero_add, Nat.reduceEqDiff, Nat.reduceAdd, Nat.reduceMul, Nat.reduceSub, Nat.reduceLT, Nat.reduceLeDiff, Nat.reduceDiv, Nat.reduceMod, hini]
    | succ i ih =>
      intro hi
      obtain ⟨z, e, G, el, gx, r1, r2, r3, r4, r5⟩ := ih (by omega)
      have Tz := TX_G T gx
      have s0 : ∀ a, a < oX h → sm h z a := fun a ha => gx.2.2.2.2.2 a ha (fun y => y)
      obtain ⟨Lz, lz⟩ := LS_m (s0 _ lx) (s0 _ qx) c10
      have SZ := kJ2_size (d := d + 9) Lz
      have GT := kJ2_get (d := d + 7) Lz (i := i) (by omega) (by omega)
      rw [lz] at GT
      have e9 := (c11 i (by omega)).1
      have GT : C_ (d + 9) mJ2_get [.ref (rq h c 0), .int (nI i)] z = some (some (.ref (sc h c i)), z) := GT
      have ex := TX_lt T (a := sc h c i) (by rw [e9]; decide)
      have t9 : oT z (sc h c i) = 9 := by rw [(s0 _ ex).1]; exact e9
      have tc : oT z c = 3 := by rw [(s0 c cx).1]; exact c1
      have rc : oR z c 0 = some (rq h c 0) := by rw [(s0 c cx).2.2.2.1]; exact c9
      have tl : oT z (rq h c 0) = 4 := Lz.1
      have tn : oT z (oX h + 1) = 4 := G.1.1
      have lt : i < sN A := by omega
      obtain ⟨z', a1, a2, a3, a4, a5, a6, a7⟩ := kJ2_add (d := d + 5) Tz G (by omega) (by omega) t9
      have so := a6.2.2.2.2.2 (oX h) (by omega) (by omega)
      refine ⟨z', e.trans ?_, a2, fun j hj => ?_, ?_, ?_, ?_, ?_, ?_, ?_⟩
      · refine wX2_copy_10.trans ?_
        simp (disch := first | assumption | exact nI_ne0 (by decide) (by decide) | exact zb_01 | exact Or.inl rfl | exact Or.inr rfl | with_unfolding_all exact id (by assumption) | with_unfolding_all exact id (xix_8 (by assumption) (by omega) (by omega)) | omega) only [wX2_copy_e, wX2_copy_0, wX2_copy_3, wX2_copy_4, wX2_copy_7, wX2_copy_8, wX2_copy_9, wX2_copy_11, wX2_copy_12, wX2_copy_15, wX2_copy_18, wX2_copy_21, wX2_copy_22, wX2_copy_25, wX2_copy_26, wX2_copy_29, wX2_copy_30, wX2_copy_33, wX2_copy_33n, wX2_copy_36, wX2_copy_39, wX2_copy_40, wX2_copy_43, wX2_copy_47, wX2_copy_48, wX2_copy_51, wX2_copy_54, wX2_copy_55, wX2_copy_56, wX2_copy_59, wX2_copy_62, wX2_copy_63, wX2_copy_64, wX2_copy_67, wX2_copy_70, wX2_copy_71, wX2_copy_72, wX2_copy_75, wX2_copy_78, wX2_copy_79, wX2_copy_80, wX2_copy_83, wX2_copy_86, wX2_copy_87, wX2_copy_88, wX2_copy_91, wX2_copy_94, wX2_copy_95, wX2_copy_96, wX2_copy_99, wX2_copy_102, wX2_copy_103, if_true, if_false, ↓reduceIte, xpu_s, xpu_n, Option.bind_some, xk_i, xk_r, xk_0, xk_u, xk_l, xk_k, xk_q, rf_s, rf_n, q_e1, q_e2, Nat.zero_add, Nat.reduceEqDiff, Nat.reduceAdd, Nat.reduceMul, Nat.reduceSub, Nat.reduceLT, Nat.reduceLeDiff, Nat.reduceDiv, Nat.reduceMod, nI_add, nI_ltP, lt, rc, r5, SZ, GT, a1, not_true_eq_false, not_false_eq_true, and_self, and_true, true_and, and_false, false_and, or_true, true_or, or_false, false_or, decide_true, decide_false, zb_t, zb_f, zb_0, zb_1, eq_self]
      · by_cases y : j = i
        · rw [y, a4]
        · rw [a3 j (by omega)]; exact el j (by omega)
      · exact GX_le (GX_trans gx a6 (fun a ha y => by rcases y with y | y <;> omega)) (by omega) (by omega)
      · rcases a5 with y | ⟨y, y2⟩
        · rw [y]; exact r1
        · rw [y]; omega
      · rcases a5 with y | ⟨y, y2⟩
        · rw [y]; have := a6.1; omega
        · rw [y]; exact y2
      · have := a6.1; omega
      · rw [so.1]; exact r4
      · rw [so.2.2.2.1]; exact r5
  obtain ⟨z, e, G, el, gx, r1, r2, r3, r4, r5⟩ := key (sN A) (Nat.le_refl _)
  have s0 : ∀ a, a < oX h → sm h z a := fun a ha => gx.2.2.2.2.2 a ha (fun y => y)
  obtain ⟨Lz, lz⟩ := LS_m (s0 _ lx) (s0 _ qx) c10
  have SZ := kJ2_size (d := d + 9) Lz
  have tc : oT z c = 3 := by rw [(s0 c cx).1]; exact c1
  have rc : oR z c 0 = some (rq h c 0) := by rw [(s0 c cx).2.2.2.1]; exact c9
  have ic : oI z c = oI h c := (s0 c cx).2.2.1
  have tl : oT z (rq h c 0) = 4 := Lz.1
  have ne : ¬ c = oX h := by omega
  obtain ⟨f, hf⟩ : ∃ f, f = va_up (va_up (va_up (va_up (va_up (va_up (va_up (oI z (oX h)) 1 (A 0)) 2 (A 34)) 3 (A 35)) 4 (A 36)) 5 (A 37)) 6 (A 38)) 7 (A 39) := ⟨_, rfl⟩
  have sl : ∀ a, ¬ a = oX h → sm z (pI z (oX h) f) a := fun a ha => sm_I sm_refl ha
  refine ⟨pI z (oX h) f, e.trans ?_, ?_, ?_, ?_, ?_, ?_, ?_, ?_, ?_⟩
  · rw [hf]
    refine wX2_copy_10.trans ?_
    simp (disch := first | exact ne | first | assumption | exact nI_ne0 (by decide) (by decide) | exact zb_01 | exact Or.inl rfl | exact Or.inr rfl | with_unfolding_all exact id (by assumption) | with_unfolding_all exact id (xix_8 (by assumption) (by omega) (by omega)) | omega) only [wX2_copy_e, wX2_copy_0, wX2_copy_3, wX2_copy_4, wX2_copy_7, wX2_copy_8, wX2_copy_9, wX2_copy_11, wX2_copy_12, wX2_copy_15, wX2_copy_18, wX2_copy_21, wX2_copy_22, wX2_copy_25, wX2_copy_26, wX2_copy_29, wX2_copy_30, wX2_copy_33, wX2_copy_33n, wX2_copy_36, wX2_copy_39, wX2_copy_40, wX2_copy_43, wX2_copy_46, wX2_copy_47, wX2_copy_48, wX2_copy_51, wX2_copy_54, wX2_copy_55, wX2_copy_56, wX2_copy_59, wX2_copy_62, wX2_copy_63, wX2_copy_64, wX2_copy_67, wX2_copy_70, wX2_copy_71, wX2_copy_72, wX2_copy_75, wX2_copy_78, wX2_copy_79, wX2_copy_80, wX2_copy_83, wX2_copy_86, wX2_copy_87, wX2_copy_88, wX2_copy_91, wX2_copy_94, wX2_copy_95, wX2_copy_96, wX2_copy_99, wX2_copy_102, wX2_copy_103, if_true, if_false, ↓reduceIte, xpu_s, xpu_n, Option.bind_some, xk_i, xk_r, xk_0, xk_u, xk_l, xk_k, xk_q, rf_s, rf_n, o_TI, o_TL, o_TR, o_NI, o_NL, o_NR, o_XI, o_XL, o_XR, o_RI, o_RL, o_LI, o_LR, o_IL, o_IR, o_II, o_LL, o_RR, o_pII, o_pLL, up_s, q_e1, q_e2, Nat.zero_add, Nat.reduceEqDiff, Nat.reduceAdd, Nat.reduceMul, Nat.reduceSub, Nat.reduceLT, Nat.reduceLeDiff, Nat.reduceDiv, Nat.reduceMod, nI_c, nI_add, up_ne, SZ, rc, ic, c2, c3, c4, c5, c6, c7, c8, i_irr, ne, if_false, not_true_eq_false, not_false_eq_true, and_self, and_true, true_and, and_false, false_and, or_true, true_or, or_false, false_or, decide_true, decide_false, zb_t, zb_f, zb_0, zb_1, eq_self]
  · have e0 : rq (pI z (oX h) f) (oX h) 0 = oX h + 1 := by
      unfold rq
      show (oR z (oX h) 0).getD 0 = _
      rw [r5]
      rfl
    obtain ⟨G2, l2, q2⟩ := sm_LG (Q := fun a => ¬ a = oX h) G sl (by omega) (by omega) (fun j hj y => by have := G.2.2.2 j hj; rw [y, r4] at this; omega)
    have fi : oI (pI z (oX h) f) (oX h) = f := by rw [o_II, if_pos rfl]
    unfold SCo
    rw [e0, fi, hf]
    refine ⟨r4, by simp only [up_s, up_ne, ne_eq, q_e1, q_e2, Nat.zero_add, Nat.reduceEqDiff, Nat.reduceAdd, Nat.reduceMul, Nat.reduceSub, Nat.reduceLT, Nat.reduceLeDiff, Nat.reduceDiv, Nat.reduceMod, not_false_eq_true], by simp only [up_s, up_ne, ne_eq, q_e1, q_e2, Nat.zero_add, Nat.reduceEqDiff, Nat.reduceAdd, Nat.reduceMul, Nat.reduceSub, Nat.reduceLT, Nat.reduceLeDiff, Nat.reduceDiv, Nat.reduceMod, not_false_eq_true], by simp only [up_s, up_ne, ne_eq, q_e1, q_e2, Nat.zero_add, Nat.reduceEqDiff, Nat.reduceAdd, Nat.reduceMul, Nat.reduceSub, Nat.reduceLT, Nat.reduceLeDiff, Nat.reduceDiv, Nat.reduceMod, not_false_eq_true], by simp only [up_s, up_ne, ne_eq, q_e1, q_e2, Nat.zero_add, Nat.reduceEqDiff, Nat.reduceAdd, Nat.reduceMul, Nat.reduceSub, Nat.reduceLT, Nat.reduceLeDiff, Nat.reduceDiv, Nat.reduceMod, not_false_eq_true], by simp only [up_s, up_ne, ne_eq, q_e1, q_e2, Nat.zero_add, Nat.reduceEqDiff, Nat.reduceAdd, Nat.reduceMul, Nat.reduceSub, Nat.reduceLT, Nat.reduceLeDiff, Nat.reduceDiv, Nat.reduceMod, not_false_eq_true], by simp only [up_s, up_ne, ne_eq, q_e1, q_e2, Nat.zero_add, Nat.reduceEqDiff, Nat.reduceAdd, Nat.reduceMul, Nat.reduceSub, Nat.reduceLT, Nat.reduceLeDiff, Nat.reduceDiv, Nat.reduceMod, not_false_eq_true], up_s, r5, ?_, fun j hj => ?_⟩
    · rw [hf] at G2; exact G2.1
    · have eq : sc (pI z (oX h) f) (oX h) j = sc h c j := by
        unfold sc
        rw [e0, l2, el j hj]
        rfl
      rw [hf] at eq
      rw [eq]
      have v := c11 j hj
      have ex := TX_lt T (a := sc h c j) (by rw [v.1]; decide)
      have s1 := sm_trans (s0 _ ex) (sl (sc h c j) (by omega))
      rw [hf] at s1
      unfold CAo at *
      rw [s1.1, s1.2.2.1]
      exact v
  · unfold rq
    show (oR z (oX h) 0).getD 0 = _
    rw [r5]
    rfl
  · exact (sm_LG (Q := fun a => ¬ a = oX h) G sl (by omega) (by omega) (fun j hj y => by have := G.2.2.2 j hj; rw [y, r4] at this; omega)).1
  · intro j hj
    rw [(sm_LG (Q := fun a => ¬ a = oX h) G sl (by omega) (by omega) (fun j hj y => by have := G.2.2.2 j hj; rw [y, r4] at this; omega)).2.1]
    exact el j hj
  · exact GX_le (GX_trans gx (GX_I (W := fun a => a = oX h) (fun _ => rfl)) (fun a ha y => by omega)) (by omega) (by omega)
  · exact r1
  · exact r2
  · exact r3
end
