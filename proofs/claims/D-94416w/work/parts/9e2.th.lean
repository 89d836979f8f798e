/-! TEXTS: lines of a scene, what they bring -/
section
variable {d : Nat} {h h1 h2 : xH} {P : sS} {n p b e k v c j i op lo hi m w wp : Nat} {t : Nat → Nat} {f g A B : rI} {x : (Nat × Nat) ⊕ (Nat × Nat × Nat × Nat)} {L : Nat × Nat × Nat × Nat}
abbrev sX : Type := (Nat × Nat) ⊕ (Nat × Nat × Nat × Nat)
def la (A : rI) (c : Nat) : Nat := (A (2 + c)).toNatClampNeg
def lnN (A : rI) : Nat := fo_ (fun c m => if m < la A c + 1 then la A c + 1 else m) (sN A) 1
def carA (A : rI) (n l d p k : Nat) : rI := va_up (va_up (va_up (va_up (va_up A (2 + n) (nI l)) (10 + n) (nI d)) (18 + n) (nI p)) (26 + n) (nI k)) 1 (nI (n + 1))
def tc0 (t : Nat → Nat) (n : Nat) (A : rI) (x : sX) : sX := spx t n (decide (sN A = 8)) x
def tc1 (t : Nat → Nat) (n : Nat) (A : rI) (x : sX) : sX := nbx t n 0 (sL A - 1) (tc0 t n A x)
def tc2 (t : Nat → Nat) (n : Nat) (A : rI) (x : sX) : sX := ndx t n 2 (tc1 t n A x)
def tc3 (t : Nat → Nat) (n : Nat) (A : rI) (x : sX) : sX := nbx t n 1 200 (tc2 t n A x)
def tc4 (t : Nat → Nat) (n : Nat) (A : rI) (x : sX) : sX := ndx t n 3 (tc3 t n A x)
def tc5 (t : Nat → Nat) (n : Nat) (A : rI) (x : sX) : sX := nbx t n 1 9 (tc4 t n A x)
def tc6 (t : Nat → Nat) (n : Nat) (A : rI) (x : sX) : sX := ndx t n 4 (tc5 t n A x)
def tc7 (t : Nat → Nat) (n : Nat) (A : rI) (x : sX) : sX := nbx t n 0 3 (tc6 t n A x)
def tcA (t : Nat → Nat) (n : Nat) (A : rI) (x : sX) : rI := carA A (sN A) (nbv 0 (sL A - 1) (tc0 t n A x)) (nbv 1 200 (tc2 t n A x)) (nbv 1 9 (tc4 t n A x)) (nbv 0 3 (tc6 t n A x))
/-- what a line holds ahead of its end -/
def tl0 (t : Nat → Nat) (n : Nat) (A : rI) (L : Nat × Nat × Nat × Nat) : sX × rI :=
  if L.2.2.1 = 0 then (nbx t n (lnN A) 4 (.inr (lx t n L.2.1)), va_up A 0 (nI (nbv (lnN A) 4 (.inr (lx t n L.2.1)))))
  else if L.2.2.1 = 1 then (tc7 t n A (.inr L), tcA t n A (.inr L))
  else if L.2.2.1 = 13 then (nbx t n 0 30 (.inr (lx t n L.2.1)), va_up A 35 (nI (nbv 0 30 (.inr (lx t n L.2.1)))))
  else if L.2.2.1 = 14 then (nbx t n 0 20 (.inr (lx t n L.2.1)), va_up A 36 (nI (nbv 0 20 (.inr (lx t n L.2.1)))))
  else if L.2.2.1 = 15 then (nbx t n 0 60 (.inr (lx t n L.2.1)), va_up A 37 (nI (nbv 0 60 (.inr (lx t n L.2.1)))))
  else if L.2.2.1 = 16 then (nbx t n 1 200 (.inr (lx t n L.2.1)), va_up A 38 (nI (nbv 1 200 (.inr (lx t n L.2.1)))))
  else if 5 ≤ L.2.2.1 ∧ L.2.2.1 ≤ 12 then (.inr (lx t n L.2.1), va_up A 34 (A 34 ||| (nI 1 <<< (nI (L.2.2.1 - 5) &&& 31))))
  else (flx 2 (.inr L), A)
def tli (t : Nat → Nat) (n : Nat) (A : rI) (L : Nat × Nat × Nat × Nat) : sX × rI := (ndx t n 31 (tl0 t n A L).1, va_up (tl0 t n A L).2 39 ((tl0 t n A L).2 39 + nI 1))
theorem lnN_le (W : ∀ c, c < sN A → la A c < 4) : 1 ≤ lnN A ∧ lnN A ≤ 4 := fo_in (P := fun _ (v : Nat) => 1 ≤ v ∧ v ≤ 4) ⟨Nat.le_refl _, by omega⟩ fun c v hc hv => by
  have := W c hc
  show 1 ≤ (if v < la A c + 1 then la A c + 1 else v) ∧ (if v < la A c + 1 then la A c + 1 else v) ≤ 4
  have hv : 1 ≤ v ∧ v ≤ 4 := hv
  split <;> omega
/-! the second object's frame -/
def MF (h h1 : xH) : Prop := KX h h1 ∧ (∀ a, ¬ a = 150 → ¬ a = 155 → oI h1 a = oI h a) ∧ oL h1 = oL h ∧ gE (oI h1 150) (oI h 150)
theorem MF_r : MF h h := ⟨KX_refl, fun _ _ _ => rfl, rfl, gE_r⟩
theorem MF_t (a : MF h h1) (b : MF h1 h2) : MF h h2 := ⟨KX_trans a.1 b.1, fun x h1 h2 => (b.2.1 x h1 h2).trans (a.2.1 x h1 h2), b.2.2.1.trans a.2.2.1, gE_t a.2.2.2 b.2.2.2⟩
theorem MF_0 (E : gE g (oI h 150)) : MF h (pI h 150 g) := ⟨KX_I KX_refl (by omega) (by omega), fun a h1 _ => by rw [o_II, if_neg h1], rfl, E⟩
theorem MF_5 : MF h (pI h 155 B) := ⟨KX_I KX_refl (by omega) (by omega), fun a _ h2 => by rw [o_II, if_neg h2], rfl, gE_r⟩
theorem MF_x (F : MF h h1) (H : MOK h) : oT h1 150 = 7 ∧ oT h1 155 = 40 ∧ oN h1 155 = 477 ∧ oR h1 150 5 = some 155 := by
  obtain ⟨⟨-, e1, e2, e3, -⟩, -⟩ := F
  rw [e1, e2, e3]
  exact ⟨mok_t H rfl, mok_t H rfl, m_n155 H, m_r5 H⟩
theorem MS_5 (M : MS h n t x) : MS (pI h 155 B) n t x := M
theorem xM_takes (M : MS h n t x) (hl : lo ≤ 999) (hh : hi ≤ 999) : ∃ (h1 : xH) (r : Int32), C_ (d + 2) mX5_takes [.ref 150, .int (nI lo), .int (nI hi)] h = some (some (.int r), h1) ∧ MS h1 n t (nbx t n lo hi x) ∧ MF h h1 ∧ oI h1 155 = oI h 155 ∧ (∀ L', nbx t n lo hi x = .inr L' → r = nI (nbv lo hi x)) := by
  obtain ⟨g, r, e, M', E, v⟩ := kX5_takes (d := d) M hl hh
  exact ⟨_, r, e, M', MF_0 E, rfl, v⟩
theorem xM_needs (M : MS h n t x) (hj : j < 100) : ∃ h1 : xH, C_ (d + 3) mX5_needs [.ref 150, .int (nI j)] h = some (none, h1) ∧ MS h1 n t (ndx t n j x) ∧ MF h h1 ∧ oI h1 155 = oI h 155 := by
  obtain ⟨g, e, M', E⟩ := kX5_needs (d := d) M hj
  exact ⟨_, e, M', MF_0 E, rfl⟩
theorem xM_nx (M : MS h n t (.inr L)) : ∃ h1 : xH, C_ (d + 1) mX5_next [.ref 150] h = some (none, h1) ∧ MS h1 n t (.inr (lx t n L.2.1)) ∧ MF h h1 ∧ oI h1 155 = oI h 155 := by
  obtain ⟨g, e, M', E⟩ := kX5_nx (d := d) M
  exact ⟨_, e, M', MF_0 E, rfl⟩
theorem xM_eatsT (M : MS h n t (.inr L)) (hj : j < 100) (hx : L.2.2.1 = j) : ∃ h1 : xH, C_ (d + 2) mX5_eats [.ref 150, .int (nI j)] h = some (some (.int (nI 1)), h1) ∧ MS h1 n t (.inr (lx t n L.2.1)) ∧ MF h h1 ∧ oI h1 155 = oI h 155 := by
  obtain ⟨g, e, M', E⟩ := kX5_eatsT (d := d) M hj hx
  exact ⟨_, e, M', MF_0 E, rfl⟩
theorem xM_fails (M : MS h n t x) (h1 : 1 ≤ c) (h5 : c ≤ 5) : ∃ h1 : xH, C_ d mX5_fails [.ref 150, .int (nI c)] h = some (none, h1) ∧ MS h1 n t (flx c x) ∧ MF h h1 ∧ oI h1 155 = oI h 155 := by
  obtain ⟨g, e, M', E⟩ := kX5_fails (d := d) M h1 h5
  exact ⟨_, e, M', MF_0 E, rfl⟩
/-- fresh numbers -/
def FRo (h : xH) (A : rI) : Prop := ∀ k, k < 477 → oI h 155 k = A k
theorem kX5_lanesNeeded (H : MOK h) (F : FRo h A) (h1 : A 1 = nI (sN A)) (h8 : sN A ≤ 8) (W : ∀ c, c < sN A → A (2 + c) = nI (la A c) ∧ la A c < 4) : C_ d mX5_lanesNeeded [.ref 150] h = some (some (.int (nI (lnN A))), h) := by
  have t1 : oT h 150 = 7 := mok_t H rfl
  have t2 : oT h 155 = 40 := mok_t H rfl
  have F1 := F 1 (by omega)
  have e0 : C_ d mX5_lanesNeeded [.ref 150] h = E_ d mX5_lanesNeeded 4 [.val (.ref 150), .val (.int (nI 1)), .val (.int (nI 0))] [] h := by
    simp (disch := first | assumption | exact nI_ne0 (by decide) (by decide) | exact zb_01 | exact Or.inl rfl | exact Or.inr rfl | with_unfolding_all exact id (by assumption) | with_unfolding_all exact id (xix_8 (by assumption) (by omega) (by omega)) | omega) only [wX5_lanesNeeded_e, wX5_lanesNeeded_0, wX5_lanesNeeded_1, wX5_lanesNeeded_2, wX5_lanesNeeded_3, wX5_lanesNeeded_5, wX5_lanesNeeded_6, wX5_lanesNeeded_9, wX5_lanesNeeded_10, wX5_lanesNeeded_11, wX5_lanesNeeded_14, wX5_lanesNeeded_15, wX5_lanesNeeded_18, wX5_lanesNeeded_19, wX5_lanesNeeded_20, wX5_lanesNeeded_21, wX5_lanesNeeded_22, wX5_lanesNeeded_23, wX5_lanesNeeded_24, wX5_lanesNeeded_25, wX5_lanesNeeded_28, wX5_lanesNeeded_29, wX5_lanesNeeded_32, wX5_lanesNeeded_33, wX5_lanesNeeded_34, wX5_lanesNeeded_35, wX5_lanesNeeded_36, wX5_lanesNeeded_37, wX5_lanesNeeded_38, wX5_lanesNeeded_41, wX5_lanesNeeded_42, wX5_lanesNeeded_43, wX5_lanesNeeded_46, wX5_lanesNeeded_49, wX5_lanesNeeded_50, if_true, if_false, ↓reduceIte, xpu_s, xpu_n, Option.bind_some, xk_i, xk_r, xk_0, xk_u, xk_l, xk_k, xk_q, rf_s, rf_n]
  rw [e0]
  refine (lpj_st (n := sN A) (s := 1) (P := fun _ v => v ≤ 4) (f := fun c m => if m < la A c + 1 then la A c + 1 else m) (X := fun v => some (some (.int (nI v)), h)) (F := fun c v (_ : Unit) => E_ d mX5_lanesNeeded 4 [.val (.ref 150), .val (.int (nI v)), .val (.int (nI c))] [] h) (by omega) (fun c v z hc hv => ⟨(), ?_, ?_⟩) (fun v z _ => ?_) ()).1
  · have lt : (nI c < nI (sN A)) = True := eq_true (nI_lt hc (by omega))
    obtain ⟨w1, w2⟩ := W c hc
    have Fc := (F (2 + c) (by omega)).trans w1
    have cmp : (nI v < nI (la A c + 1)) = (v < la A c + 1) := nI_ltP (by omega) (by omega)
    refine wX5_lanesNeeded_4.trans ?_
    by_cases y : v < la A c + 1
    · simp (disch := first | exact mok_t H rfl | exact m_x155 H (by omega) | first | assumption | exact nI_ne0 (by decide) (by decide) | exact zb_01 | exact Or.inl rfl | exact Or.inr rfl | with_unfolding_all exact id (by assumption) | with_unfolding_all exact id (xix_8 (by assumption) (by omega) (by omega)) | omega) only [wX5_lanesNeeded_e, wX5_lanesNeeded_0, wX5_lanesNeeded_1, wX5_lanesNeeded_2, wX5_lanesNeeded_3, wX5_lanesNeeded_5, wX5_lanesNeeded_6, wX5_lanesNeeded_9, wX5_lanesNeeded_10, wX5_lanesNeeded_11, wX5_lanesNeeded_14, wX5_lanesNeeded_15, wX5_lanesNeeded_18, wX5_lanesNeeded_19, wX5_lanesNeeded_20, wX5_lanesNeeded_21, wX5_lanesNeeded_22, wX5_lanesNeeded_23, wX5_lanesNeeded_24, wX5_lanesNeeded_25, wX5_lanesNeeded_28, wX5_lanesNeeded_29, wX5_lanesNeeded_32, wX5_lanesNeeded_33, wX5_lanesNeeded_34, wX5_lanesNeeded_35, wX5_lanesNeeded_36, wX5_lanesNeeded_37, wX5_lanesNeeded_38, wX5_lanesNeeded_41, wX5_lanesNeeded_42, wX5_lanesNeeded_43, wX5_lanesNeeded_46, wX5_lanesNeeded_49, wX5_lanesNeeded_50, if_true, if_false, ↓reduceIte, xpu_s, xpu_n, Option.bind_some, xk_i, xk_r, xk_0, xk_u, xk_l, xk_k, xk_q, rf_s, rf_n, q_e1, q_e2, Nat.zero_add, Nat.reduceEqDiff, Nat.reduceAdd, Nat.reduceMul, Nat.reduceSub, Nat.reduceLT, Nat.reduceLeDiff, Nat.reduceDiv, Nat.reduceMod, m_r1 H, m_r2 H, m_r3 H, m_r4 H, m_r5 H, m_r18 H, m_r19 H, m_r20 H, m_r24 H, m_r25 H, m_r27 H, m_r28 H, m_r29 H, m_r30 H, m_r31 H, m_r32 H, m_r33 H, m_r34 H, m_r35 H, m_n150 H, m_n151 H, m_n152 H, m_n153 H, m_n154 H, m_n155 H, m_n156 H, m_n157 H, m_n158 H, m_n159 H, m_n160 H, m_n161 H, m_n162 H, m_n163 H, m_n164 H, m_n165 H, m_n166 H, m_n167 H, m_n168 H, m_n169 H, nI_c, nI_add, F1, h1, lt, Fc, cmp, y, not_true_eq_false, not_false_eq_true, and_self, and_true, true_and, and_false, false_and, or_true, true_or, or_false, false_or, decide_true, decide_false, zb_t, zb_f, zb_0, zb_1, eq_self]
    · simp (disch := first | exact mok_t H rfl | exact m_x155 H (by omega) | first | assumption | exact nI_ne0 (by decide) (by decide) | exact zb_01 | exact Or.inl rfl | exact Or.inr rfl | with_unfolding_all exact id (by assumption) | with_unfolding_all exact id (xix_8 (by assumption) (by omega) (by omega)) | omega) only [wX5_lanesNeeded_e, wX5_lanesNeeded_0, wX5_lanesNeeded_1, wX5_lanesNeeded_2, wX5_lanesNeeded_3, wX5_lanesNeeded_5, wX5_lanesNeeded_6, wX5_lanesNeeded_9, wX5_lanesNeeded_10, wX5_lanesNeeded_11, wX5_lanesNeeded_14, wX5_lanesNeeded_15, wX5_lanesNeeded_18, wX5_lanesNeeded_19, wX5_lanesNeeded_20, wX5_lanesNeeded_21, wX5_lanesNeeded_22, wX5_lanesNeeded_23, wX5_lanesNeeded_24, wX5_lanesNeeded_25, wX5_lanesNeeded_28, wX5_lanesNeeded_29, wX5_lanesNeeded_32, wX5_lanesNeeded_33, wX5_lanesNeeded_34, wX5_lanesNeeded_35, wX5_lanesNeeded_36, wX5_lanesNeeded_37, wX5_lanesNeeded_38, wX5_lanesNeeded_41, wX5_lanesNeeded_42, wX5_lanesNeeded_43, wX5_lanesNeeded_46, wX5_lanesNeeded_49, wX5_lanesNeeded_50, if_true, if_false, ↓reduceIte, xpu_s, xpu_n, Option.bind_some, xk_i, xk_r, xk_0, xk_u, xk_l, xk_k, xk_q, rf_s, rf_n, q_e1, q_e2, Nat.zero_add, Nat.reduceEqDiff, Nat.reduceAdd, Nat.reduceMul, Nat.reduceSub, Nat.reduceLT, Nat.reduceLeDiff, Nat.reduceDiv, Nat.reduceMod, m_r1 H, m_r2 H, m_r3 H, m_r4 H, m_r5 H, m_r18 H, m_r19 H, m_r20 H, m_r24 H, m_r25 H, m_r27 H, m_r28 H, m_r29 H, m_r30 H, m_r31 H, m_r32 H, m_r33 H, m_r34 H, m_r35 H, m_n150 H, m_n151 H, m_n152 H, m_n153 H, m_n154 H, m_n155 H, m_n156 H, m_n157 H, m_n158 H, m_n159 H, m_n160 H, m_n161 H, m_n162 H, m_n163 H, m_n164 H, m_n165 H, m_n166 H, m_n167 H, m_n168 H, m_n169 H, nI_c, nI_add, F1, h1, lt, Fc, cmp, y, not_true_eq_false, not_false_eq_true, and_self, and_true, true_and, and_false, false_and, or_true, true_or, or_false, false_or, decide_true, decide_false, zb_t, zb_f, zb_0, zb_1, eq_self]
  · have := (W c hc).2
    split <;> omega
  · refine wX5_lanesNeeded_4.trans ?_
    simp (disch := first | exact mok_t H rfl | exact m_x155 H (by omega) | first | assumption | exact nI_ne0 (by decide) (by decide) | exact zb_01 | exact Or.inl rfl | exact Or.inr rfl | with_unfolding_all exact id (by assumption) | with_unfolding_all exact id (xix_8 (by assumption) (by omega) (by omega)) | omega) only [wX5_lanesNeeded_e, wX5_lanesNeeded_0, wX5_lanesNeeded_1, wX5_lanesNeeded_2, wX5_lanesNeeded_3, wX5_lanesNeeded_5, wX5_lanesNeeded_6, wX5_lanesNeeded_9, wX5_lanesNeeded_10, wX5_lanesNeeded_11, wX5_lanesNeeded_14, wX5_lanesNeeded_15, wX5_lanesNeeded_18, wX5_lanesNeeded_19, wX5_lanesNeeded_20, wX5_lanesNeeded_21, wX5_lanesNeeded_22, wX5_lanesNeeded_23, wX5_lanesNeeded_24, wX5_lanesNeeded_25, wX5_lanesNeeded_28, wX5_lanesNeeded_29, wX5_lanesNeeded_32, wX5_lanesNeeded_33, wX5_lanesNeeded_34, wX5_lanesNeeded_35, wX5_lanesNeeded_36, wX5_lanesNeeded_37, wX5_lanesNeeded_38, wX5_lanesNeeded_41, wX5_lanesNeeded_42, wX5_lanesNeeded_43, wX5_lanesNeeded_46, wX5_lanesNeeded_49, wX5_lanesNeeded_50, if_true, if_false, ↓reduceIte, xpu_s, xpu_n, Option.bind_some, xk_i, xk_r, xk_0, xk_u, xk_l, xk_k, xk_q, rf_s, rf_n, q_e1, q_e2, Nat.zero_add, Nat.reduceEqDiff, Nat.reduceAdd, Nat.reduceMul, Nat.reduceSub, Nat.reduceLT, Nat.reduceLeDiff, Nat.reduceDiv, Nat.reduceMod, m_r1 H, m_r2 H, m_r3 H, m_r4 H, m_r5 H, m_r18 H, m_r19 H, m_r20 H, m_r24 H, m_r25 H, m_r27 H, m_r28 H, m_r29 H, m_r30 H, m_r31 H, m_r32 H, m_r33 H, m_r34 H, m_r35 H, m_n150 H, m_n151 H, m_n152 H, m_n153 H, m_n154 H, m_n155 H, m_n156 H, m_n157 H, m_n158 H, m_n159 H, m_n160 H, m_n161 H, m_n162 H, m_n163 H, m_n164 H, m_n165 H, m_n166 H, m_n167 H, m_n168 H, m_n169 H, nI_c, F1, h1, i_irr, not_true_eq_false, not_false_eq_true, and_self, and_true, true_and, and_false, false_and, or_true, true_or, or_false, false_or, decide_true, decide_false, zb_t, zb_f, zb_0, zb_1, eq_self]
theorem sX_inr (x : sX) : (∃ q, x = .inl q) ∨ ∃ L, x = .inr L := by
  cases x with
  | inl q => exact Or.inl ⟨q, rfl⟩
  | inr L => exact Or.inr ⟨L, rfl⟩
theorem nbx_i {q : Nat × Nat} (hx : x = .inl q) : nbx t n lo hi x = .inl q := by subst hx; rfl
theorem ndx_i {q : Nat × Nat} (hx : x = .inl q) : ndx t n j x = .inl q := by subst hx; rfl
theorem nbx_r {L' : Nat × Nat × Nat × Nat} (z : nbx t n lo hi x = .inr L') : ∃ L, x = .inr L := by
  cases x with
  | inl q => cases z
  | inr L => exact ⟨L, rfl⟩
theorem ndx_r {L' : Nat × Nat × Nat × Nat} (z : ndx t n j x = .inr L') : ∃ L, x = .inr L := by
  cases x with
  | inl q => cases z
  | inr L => exact ⟨L, rfl⟩
/-- one car -/
theorem kX5_readCar (M : MS h n t (.inr L)) (F : FRo h A) (a1 : A 1 = nI (sN A)) (h8 : sN A ≤ 8) (a0 : A 0 = nI (sL A)) (l1 : 1 ≤ sL A) (l4 : sL A ≤ 4) : ∃ h1 : xH, C_ (d + 4) mX5_readCar [.ref 150] h = some (none, h1) ∧ MS h1 n t (tc7 t n A (.inr L)) ∧ MF h h1 ∧ (∀ L', tc7 t n A (.inr L) = .inr L' → FRo h1 (tcA t n A (.inr L))) := by
  have H := M.1.1
  have t1 : oT h 150 = 7 := mok_t H rfl
  have t2 : oT h 155 = 40 := mok_t H rfl
  have F1 := (F 1 (by omega)).trans a1
  by_cases q8 : sN A = 8
  · have e8 : (nI (sN A) = nI 8) = True := by rw [q8]; exact eq_true rfl
    obtain ⟨h1, e1, M1, G1, -⟩ := xM_fails (d := d + 3) M (c := 4) (by omega) (by omega)
    have e0 : tc0 t n A (.inr L) = flx 4 (.inr L) := by
      unfold tc0 spx
      rw [decide_eq_true q8]
      rfl
    obtain ⟨q, eq⟩ : ∃ q, flx 4 (.inr L) = .inl q := ⟨_, rfl⟩
    have e7 : tc7 t n A (.inr L) = .inl q := by
      unfold tc7 tc6 tc5 tc4 tc3 tc2 tc1
      rw [e0, eq]
      rfl
    rw [eq] at M1
    have f12 := MS_inl M1
    have tt := (MF_x G1 H).1
    refine ⟨h1, ?_, by rw [e7]; exact M1, G1, fun L' z => by rw [e7] at z; cases z⟩
    simp (disch := first | exact mok_t H rfl | exact tt | exact m_x155 H (by omega) | first | assumption | exact nI_ne0 (by decide) (by decide) | exact zb_01 | exact Or.inl rfl | exact Or.inr rfl | with_unfolding_all exact id (by assumption) | with_unfolding_all exact id (xix_8 (by assumption) (by omega) (by omega)) | omega) only [wX5_readCar_e, wX5_readCar_0, wX5_readCar_1, wX5_readCar_4, wX5_readCar_5, wX5_readCar_6, wX5_readCar_7, wX5_readCar_8, wX5_readCar_10, wX5_readCar_13, wX5_readCar_14, wX5_readCar_15, wX5_readCar_18, wX5_readCar_19, wX5_readCar_22, wX5_readCar_25, wX5_readCar_26, wX5_readCar_27, wX5_readCar_30, wX5_readCar_31, wX5_readCar_34, wX5_readCar_35, wX5_readCar_36, wX5_readCar_37, wX5_readCar_38, wX5_readCar_39, wX5_readCar_40, wX5_readCar_43, wX5_readCar_44, wX5_readCar_45, wX5_readCar_46, wX5_readCar_47, wX5_readCar_50, wX5_readCar_51, wX5_readCar_52, wX5_readCar_53, wX5_readCar_56, wX5_readCar_57, wX5_readCar_60, wX5_readCar_62, wX5_readCar_63, wX5_readCar_64, wX5_readCar_65, wX5_readCar_66, wX5_readCar_69, wX5_readCar_72, wX5_readCar_73, wX5_readCar_74, wX5_readCar_75, wX5_readCar_78, wX5_readCar_79, wX5_readCar_82, wX5_readCar_84, wX5_readCar_85, wX5_readCar_86, wX5_readCar_87, wX5_readCar_88, wX5_readCar_90, wX5_readCar_93, wX5_readCar_94, wX5_readCar_95, wX5_readCar_96, wX5_readCar_99, wX5_readCar_100, wX5_readCar_103, wX5_readCar_105, wX5_readCar_106, wX5_readCar_107, wX5_readCar_108, wX5_readCar_109, wX5_readCar_110, wX5_readCar_113, wX5_readCar_114, wX5_readCar_115, wX5_readCar_118, wX5_readCar_119, wX5_readCar_120, wX5_readCar_121, wX5_readCar_122, wX5_readCar_123, wX5_readCar_124, if_true, if_false, ↓reduceIte, xpu_s, xpu_n, Option.bind_some, xk_i, xk_r, xk_0, xk_u, xk_l, xk_k, xk_q, rf_s, rf_n, q_e1, q_e2, Nat.zero_add, Nat.reduceEqDiff, Nat.reduceAdd, Nat.reduceMul, Nat.reduceSub, Nat.reduceLT, Nat.reduceLeDiff, Nat.reduceDiv, Nat.reduceMod, m_r1 H, m_r2 H, m_r3 H, m_r4 H, m_r5 H, m_r18 H, m_r19 H, m_r20 H, m_r24 H, m_r25 H, m_r27 H, m_r28 H, m_r29 H, m_r30 H, m_r31 H, m_r32 H, m_r33 H, m_r34 H, m_r35 H, m_n150 H, m_n151 H, m_n152 H, m_n153 H, m_n154 H, m_n155 H, m_n156 H, m_n157 H, m_n158 H, m_n159 H, m_n160 H, m_n161 H, m_n162 H, m_n163 H, m_n164 H, m_n165 H, m_n166 H, m_n167 H, m_n168 H, m_n169 H, nI_c, F1, e8, e1, f12, not_true_eq_false, not_false_eq_true, and_self, and_true, true_and, and_false, false_and, or_true, true_or, or_false, false_or, decide_true, decide_false, zb_t, zb_f, zb_0, zb_1, eq_self]
  · have e8 : (nI (sN A) = nI 8) = False := by rw [nI_eqI (by omega) (by omega)]; exact eq_false q8
    have f12 := MS_inr M
    have e0 : tc0 t n A (.inr L) = .inr (lx t n L.2.1) := by
      unfold tc0 spx
      rw [decide_eq_false q8]
      rfl
    obtain ⟨h1, e1, M1, G1, k1⟩ := xM_nx (d := d + 2) M
    rw [← e0] at M1
    obtain ⟨h2, r1, e2, M2, G2, k2, v2⟩ := xM_takes (d := d + 1) (lo := 0) (hi := sL A - 1) M1 (by omega) (by omega)
    have M2 : MS h2 n t (tc1 t n A (.inr L)) := M2
    obtain ⟨H2, hH2⟩ : ∃ H2, H2 = pI h2 155 (va_up (oI h2 155) (2 + sN A) r1) := ⟨_, rfl⟩
    have M2' : MS H2 n t (tc1 t n A (.inr L)) := by rw [hH2]; exact M2
    have G2' : MF h2 H2 := by rw [hH2]; exact MF_5
    obtain ⟨h3, e3, M3, G3, k3⟩ := xM_needs (d := d) (j := 2) M2' (by omega)
    have M3 : MS h3 n t (tc2 t n A (.inr L)) := M3
    obtain ⟨h4, r2, e4, M4, G4, k4, v4⟩ := xM_takes (d := d + 1) (lo := 1) (hi := 200) M3 (by omega) (by omega)
    have M4 : MS h4 n t (tc3 t n A (.inr L)) := M4
    obtain ⟨H4, hH4⟩ : ∃ H4, H4 = pI h4 155 (va_up (oI h4 155) (10 + sN A) r2) := ⟨_, rfl⟩
    have M4' : MS H4 n t (tc3 t n A (.inr L)) := by rw [hH4]; exact M4
    have G4' : MF h4 H4 := by rw [hH4]; exact MF_5
    obtain ⟨h5, e5, M5, G5, k5⟩ := xM_needs (d := d) (j := 3) M4' (by omega)
    have M5 : MS h5 n t (tc4 t n A (.inr L)) := M5
    obtain ⟨h6, r3, e6, M6, G6, k6, v6⟩ := xM_takes (d := d + 1) (lo := 1) (hi := 9) M5 (by omega) (by omega)
    have M6 : MS h6 n t (tc5 t n A (.inr L)) := M6
    obtain ⟨H6, hH6⟩ : ∃ H6, H6 = pI h6 155 (va_up (oI h6 155) (18 + sN A) r3) := ⟨_, rfl⟩
    have M6' : MS H6 n t (tc5 t n A (.inr L)) := by rw [hH6]; exact M6
    have G6' : MF h6 H6 := by rw [hH6]; exact MF_5
    obtain ⟨h7, e7, M7, G7, k7⟩ := xM_needs (d := d) (j := 4) M6' (by omega)
    have M7 : MS h7 n t (tc6 t n A (.inr L)) := M7
    obtain ⟨h8', r4, e8', M8, G8, k8, v8⟩ := xM_takes (d := d + 1) (lo := 0) (hi := 3) M7 (by omega) (by omega)
    have M8 : MS h8' n t (tc7 t n A (.inr L)) := M8
    obtain ⟨H8, hH8⟩ : ∃ H8, H8 = pI h8' 155 (va_up (oI h8' 155) (26 + sN A) r4) := ⟨_, rfl⟩
    obtain ⟨H9, hH9⟩ : ∃ H9, H9 = pI H8 155 (va_up (oI H8 155) 1 (oI H8 155 1 + nI 1)) := ⟨_, rfl⟩
    have A1 : MF h h2 := MF_t G1 G2
    have A2 : MF h H2 := MF_t A1 G2'
    have A3 : MF h h3 := MF_t A2 G3
    have A4 : MF h h4 := MF_t A3 G4
    have A4' : MF h H4 := MF_t A4 G4'
    have A5 : MF h h5 := MF_t A4' G5
    have A6 : MF h h6 := MF_t A5 G6
    have A6' : MF h H6 := MF_t A6 G6'
    have A7 : MF h h7 := MF_t A6' G7
    have A8 : MF h h8' := MF_t A7 G8
    have A8' : MF h H8 := MF_t A8 (by rw [hH8]; exact MF_5)
    have A9 : MF h H9 := MF_t A8' (by rw [hH9]; exact MF_5)
    obtain ⟨p11, p12, p13, p14⟩ := MF_x G1 H
    obtain ⟨p21, p22, p23, p24⟩ := MF_x A1 H
    obtain ⟨q21, q22, q23, q24⟩ := MF_x A2 H
    obtain ⟨p31, p32, p33, p34⟩ := MF_x A3 H
    obtain ⟨p41, p42, p43, p44⟩ := MF_x A4 H
    obtain ⟨q41, q42, q43, q44⟩ := MF_x A4' H
    obtain ⟨p51, p52, p53, p54⟩ := MF_x A5 H
    obtain ⟨p61, p62, p63, p64⟩ := MF_x A6 H
    obtain ⟨q61, q62, q63, q64⟩ := MF_x A6' H
    obtain ⟨p71, p72, p73, p74⟩ := MF_x A7 H
    obtain ⟨p81, p82, p83, p84⟩ := MF_x A8 H
    obtain ⟨q81, q82, q83, q84⟩ := MF_x A8' H
    have F0 : oI h1 155 0 = nI (sL A) := by rw [k1]; exact (F 0 (by omega)).trans a0
    have sl : nI (sL A) - nI 1 = nI (sL A - 1) := pk_sub l1
    -- what is fresh at the end
    have f8 : oI H8 155 = va_up (va_up (va_up (va_up (oI h 155) (2 + sN A) r1) (10 + sN A) r2) (18 + sN A) r3) (26 + sN A) r4 := by
      rw [hH8]
      show va_up (oI h8' 155) _ _ = _
      rw [k8, k7, hH6]
      show va_up (va_up (oI h6 155) _ _) _ _ = _
      rw [k6, k5, hH4]
      show va_up (va_up (va_up (oI h4 155) _ _) _ _) _ _ = _
      rw [k4, k3, hH2]
      show va_up (va_up (va_up (va_up (oI h2 155) _ _) _ _) _ _) _ _ = _
      rw [k2, k1]
    have f81 : oI H8 155 1 = nI (sN A) := by rw [f8, up_ne (by omega), up_ne (by omega), up_ne (by omega), up_ne (by omega)]; exact F1
    refine ⟨H9, ?_, by rw [hH9, hH8]; exact M8, A9, fun L' z => ?_⟩
    · rw [hH9]
      have xn : ∀ {g : xH} {i}, oN g 155 = 477 → i < 477 → xix (nI i) (oN g 155) = true := fun en hi => xix_8 en hi (by omega)
      simp (disch := first | exact mok_t H rfl | assumption | exact m_x155 H (by omega) | exact xn p23 (by omega) | exact xn p13 (by omega) | exact xn p43 (by omega) | exact xn p63 (by omega) | exact xn p83 (by omega) | exact xn q83 (by omega) | omega) only [wX5_readCar_e, wX5_readCar_0, wX5_readCar_1, wX5_readCar_4, wX5_readCar_5, wX5_readCar_6, wX5_readCar_7, wX5_readCar_8, wX5_readCar_10, wX5_readCar_13, wX5_readCar_14, wX5_readCar_15, wX5_readCar_18, wX5_readCar_19, wX5_readCar_22, wX5_readCar_25, wX5_readCar_26, wX5_readCar_27, wX5_readCar_30, wX5_readCar_31, wX5_readCar_34, wX5_readCar_35, wX5_readCar_36, wX5_readCar_37, wX5_readCar_38, wX5_readCar_39, wX5_readCar_40, wX5_readCar_43, wX5_readCar_44, wX5_readCar_45, wX5_readCar_46, wX5_readCar_47, wX5_readCar_50, wX5_readCar_51, wX5_readCar_52, wX5_readCar_53, wX5_readCar_56, wX5_readCar_57, wX5_readCar_60, wX5_readCar_62, wX5_readCar_63, wX5_readCar_64, wX5_readCar_65, wX5_readCar_66, wX5_readCar_69, wX5_readCar_72, wX5_readCar_73, wX5_readCar_74, wX5_readCar_75, wX5_readCar_78, wX5_readCar_79, wX5_readCar_82, wX5_readCar_84, wX5_readCar_85, wX5_readCar_86, wX5_readCar_87, wX5_readCar_88, wX5_readCar_90, wX5_readCar_93, wX5_readCar_94, wX5_readCar_95, wX5_readCar_96, wX5_readCar_99, wX5_readCar_100, wX5_readCar_103, wX5_readCar_105, wX5_readCar_106, wX5_readCar_107, wX5_readCar_108, wX5_readCar_109, wX5_readCar_110, wX5_readCar_113, wX5_readCar_114, wX5_readCar_115, wX5_readCar_118, wX5_readCar_119, wX5_readCar_120, wX5_readCar_121, wX5_readCar_122, wX5_readCar_123, wX5_readCar_124, if_true, if_false, ↓reduceIte, xpu_s, xpu_n, Option.bind_some, xk_i, xk_r, xk_0, xk_u, xk_l, xk_k, xk_q, rf_s, rf_n, q_e1, q_e2, Nat.zero_add, Nat.reduceEqDiff, Nat.reduceAdd, Nat.reduceMul, Nat.reduceSub, Nat.reduceLT, Nat.reduceLeDiff, Nat.reduceDiv, Nat.reduceMod, m_r1 H, m_r2 H, m_r3 H, m_r4 H, m_r5 H, m_r18 H, m_r19 H, m_r20 H, m_r24 H, m_r25 H, m_r27 H, m_r28 H, m_r29 H, m_r30 H, m_r31 H, m_r32 H, m_r33 H, m_r34 H, m_r35 H, m_n150 H, m_n151 H, m_n152 H, m_n153 H, m_n154 H, m_n155 H, m_n156 H, m_n157 H, m_n158 H, m_n159 H, m_n160 H, m_n161 H, m_n162 H, m_n163 H, m_n164 H, m_n165 H, m_n166 H, m_n167 H, m_n168 H, m_n169 H, nI_c, nI_add, F1, e8, f12, e1, p14, F0, sl, e2, p24, ← hH2, e3, q24, p34, e4, p44, ← hH4, e5, q44, p54, e6, p64, ← hH6, e7, q64, p74, e8', p84, ← hH8, q84, f81, not_true_eq_false, not_false_eq_true, and_self, and_true, true_and, and_false, false_and, or_true, true_or, or_false, false_or, decide_true, decide_false, zb_t, zb_f, zb_0, zb_1, eq_self]
    · obtain ⟨L6, z6⟩ := nbx_r z
      obtain ⟨L5, z5⟩ := ndx_r z6
      obtain ⟨L4, z4⟩ := nbx_r z5
      obtain ⟨L3, z3⟩ := ndx_r z4
      obtain ⟨L2, z2⟩ := nbx_r z3
      obtain ⟨L1, z1⟩ := ndx_r z2
      have w4 := v8 L' z
      have w3 := v6 L5 z5
      have w2 := v4 L3 z3
      have w1 := v2 L1 z1
      intro k hk
      have f9 : oI H9 155 = va_up (oI H8 155) 1 (nI (sN A + 1)) := by
        rw [hH9]
        show va_up (oI H8 155) 1 _ = _
        rw [f81, nI_add]
      rw [f9, f8, w1, w2, w3, w4]
      unfold tcA carA
      have fk := F k hk
      by_cases y1 : k = 1
      · rw [y1, up_s, up_s]
      · rw [up_ne y1, up_ne y1]
        by_cases y2 : k = 26 + sN A
        · rw [y2, up_s, up_s]
        · rw [up_ne y2, up_ne y2]
          by_cases y3 : k = 18 + sN A
          · rw [y3, up_s, up_s]
          · rw [up_ne y3, up_ne y3]
            by_cases y4 : k = 10 + sN A
            · rw [y4, up_s, up_s]
            · rw [up_ne y4, up_ne y4]
              by_cases y5 : k = 2 + sN A
              · rw [y5, up_s, up_s]
              · rw [up_ne y5, up_ne y5]; exact fk
end
