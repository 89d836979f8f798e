/-! TEXTS: facts made -/
section
variable {d : Nat} {h h1 h2 : xH} {P : sS} {X o n p b e k v c j i op lo hi m w a r2 r3 : Nat} {t : Nat → Nat} {f g A B : rI} {x : sX} {L L' : Nat × Nat × Nat × Nat} {q q1 q2 : Option Nat} {y1 y2 : Int32} {ls : List Slot}
theorem nX6_fact_28 : E_ (d + 1) mX6_fact 28 ls [va_rf q, .ref a, .ref r2] h = (C_ d mX9_init [.ref a, va_rf q] h).bind fun r => E_ (d + 1) mX6_fact 31 ls (xpu r.1 [.ref r2]) r.2 := by cases q <;> exact e_call dX6_fact_28 rfl rfl
theorem nX6_all_24 : E_ (d + 1) mX6_all 24 ls [va_rf q2, va_rf q1, .int y1, .ref a, .ref r3] h = (C_ d mX17_init [.ref a, .int y1, va_rf q1, va_rf q2] h).bind fun r => E_ (d + 1) mX6_all 27 ls (xpu r.1 [.ref r3]) r.2 := by cases q1 <;> cases q2 <;> exact e_call dX6_all_24 rfl rfl
theorem nX6_some_24 : E_ (d + 1) mX6_some 24 ls [va_rf q2, va_rf q1, .int y1, .ref a, .ref r3] h = (C_ d mX17_init [.ref a, .int y1, va_rf q1, va_rf q2] h).bind fun r => E_ (d + 1) mX6_some 27 ls (xpu r.1 [.ref r3]) r.2 := by cases q1 <;> cases q2 <;> exact e_call dX6_some_24 rfl rfl
theorem nX6_law_101 : E_ (d + 1) mX6_law 101 ls [va_rf q, .int y1, .ref a, .ref r2, .ref r3] h = (C_ d mX18_init [.ref a, .int y1, va_rf q] h).bind fun r => E_ (d + 1) mX6_law 104 ls (xpu r.1 [.ref r2, .ref r3]) r.2 := by cases q <;> exact e_call dX6_law_101 rfl rfl
theorem kX8_init : C_ d mX8_init [.ref a] h = some (none, h) := by
  simp (disch := first | assumption | exact nI_ne0 (by decide) (by decide) | exact zb_01 | exact Or.inl rfl | exact Or.inr rfl | with_unfolding_all exact id (by assumption) | with_unfolding_all exact id (xix_8 (by assumption) (by omega) (by omega)) | omega) only [wX8_init_e, wX8_init_0, wX8_init_1, wX8_init_4, if_true, if_false, ↓reduceIte, xpu_s, xpu_n, Option.bind_some, xk_i, xk_r, xk_0, xk_u, xk_l, xk_k, xk_q, rf_s, rf_n]
theorem kX9_init (ha : oT h a = 10) : C_ (d + 1) mX9_init [.ref a, va_rf q] h = some (none, pR h a (va_up (oR h a) 0 q)) := by
  have e : C_ (d + 1) mX9_init [.ref a, va_rf q] h = E_ (d + 1) mX9_init 0 [.val (.ref a), .val (va_rf q)] [] h := by cases q <;> rfl
  have I : C_ d mX8_init [.ref a] h = some (none, h) := kX8_init
  rw [e]
  simp (disch := first | exact ha | first | assumption | exact nI_ne0 (by decide) (by decide) | exact zb_01 | exact Or.inl rfl | exact Or.inr rfl | with_unfolding_all exact id (by assumption) | with_unfolding_all exact id (xix_8 (by assumption) (by omega) (by omega)) | omega) only [wX9_init_e, wX9_init_0, wX9_init_0q, wX9_init_0n, wX9_init_1, wX9_init_4, wX9_init_4q, wX9_init_4n, wX9_init_5, wX9_init_5q, wX9_init_5n, wX9_init_6, wX9_init_6q, wX9_init_9, if_true, if_false, ↓reduceIte, xpu_s, xpu_n, Option.bind_some, xk_i, xk_r, xk_0, xk_u, xk_l, xk_k, xk_q, rf_s, rf_n, I]
theorem kX17_init (ha : oT h a = 17) (hy : y1 = 0 ∨ y1 = 1) : C_ (d + 1) mX17_init [.ref a, .int y1, va_rf q1, va_rf q2] h = some (none, pR (pI h a (va_up (oI h a) 0 y1)) a (va_up (va_up (oR h a) 1 q1) 2 q2)) := by
  have e : C_ (d + 1) mX17_init [.ref a, .int y1, va_rf q1, va_rf q2] h = E_ (d + 1) mX17_init 0 [.val (.ref a), .val (.int y1), .val (va_rf q1), .val (va_rf q2)] [] h := by cases q1 <;> cases q2 <;> rfl
  have I : C_ d mX8_init [.ref a] h = some (none, h) := kX8_init
  have t2 : oT (pI h a (va_up (oI h a) 0 y1)) a = 17 := ha
  have t3 : oT (pR (pI h a (va_up (oI h a) 0 y1)) a (va_up (oR h a) 1 q1)) a = 17 := ha
  rw [e]
  simp (disch := first | exact ha | exact hy | exact t2 | exact t3 | first | assumption | exact nI_ne0 (by decide) (by decide) | exact zb_01 | exact Or.inl rfl | exact Or.inr rfl | with_unfolding_all exact id (by assumption) | with_unfolding_all exact id (xix_8 (by assumption) (by omega) (by omega)) | omega) only [wX17_init_e, wX17_init_0, wX17_init_0q, wX17_init_0n, wX17_init_1, wX17_init_4, wX17_init_4q, wX17_init_4n, wX17_init_5, wX17_init_6, wX17_init_9, wX17_init_9q, wX17_init_9n, wX17_init_10, wX17_init_10q, wX17_init_10n, wX17_init_11, wX17_init_11q, wX17_init_14, wX17_init_14q, wX17_init_14n, wX17_init_15, wX17_init_15q, wX17_init_15n, wX17_init_16, wX17_init_16q, wX17_init_19, if_true, if_false, ↓reduceIte, xpu_s, xpu_n, Option.bind_some, xk_i, xk_r, xk_0, xk_u, xk_l, xk_k, xk_q, rf_s, rf_n, I, o_RI, o_RR, o_pRR, if_true, eq_self]
theorem kX18_init (ha : oT h a = 18) : C_ d mX18_init [.ref a, .int y1, va_rf q] h = some (none, pR (pI h a (va_up (oI h a) 0 y1)) a (va_up (oR h a) 1 q)) := by
  have e : C_ d mX18_init [.ref a, .int y1, va_rf q] h = E_ d mX18_init 0 [.val (.ref a), .val (.int y1), .val (va_rf q)] [] h := by cases q <;> rfl
  have t2 : oT (pI h a (va_up (oI h a) 0 y1)) a = 18 := ha
  rw [e]
  simp (disch := first | exact ha | exact t2 | first | assumption | exact nI_ne0 (by decide) (by decide) | exact zb_01 | exact Or.inl rfl | exact Or.inr rfl | with_unfolding_all exact id (by assumption) | with_unfolding_all exact id (xix_8 (by assumption) (by omega) (by omega)) | omega) only [wX18_init_e, wX18_init_0, wX18_init_0q, wX18_init_0n, wX18_init_1, wX18_init_4, wX18_init_4q, wX18_init_4n, wX18_init_5, wX18_init_6, wX18_init_9, wX18_init_9q, wX18_init_9n, wX18_init_10, wX18_init_10q, wX18_init_10n, wX18_init_11, wX18_init_11q, wX18_init_14, if_true, if_false, ↓reduceIte, xpu_s, xpu_n, Option.bind_some, xk_i, xk_r, xk_0, xk_u, xk_l, xk_k, xk_q, rf_s, rf_n, o_RI]
theorem kX10_init (ha : oT h a = 11) : C_ (d + 1) mX10_init [.ref a, .int y1] h = some (none, pI h a (va_up (oI h a) 0 y1)) := by
  have I : C_ d mX8_init [.ref a] h = some (none, h) := kX8_init
  simp (disch := first | exact ha | first | assumption | exact nI_ne0 (by decide) (by decide) | exact zb_01 | exact Or.inl rfl | exact Or.inr rfl | with_unfolding_all exact id (by assumption) | with_unfolding_all exact id (xix_8 (by assumption) (by omega) (by omega)) | omega) only [wX10_init_e, wX10_init_0, wX10_init_1, wX10_init_4, wX10_init_5, wX10_init_6, wX10_init_9, if_true, if_false, ↓reduceIte, xpu_s, xpu_n, Option.bind_some, xk_i, xk_r, xk_0, xk_u, xk_l, xk_k, xk_q, rf_s, rf_n, I]
theorem kX16_init (ha : oT h a = 16) : C_ (d + 1) mX16_init [.ref a, .int y1, .int y2] h = some (none, pI h a (va_up (va_up (oI h a) 0 y1) 1 y2)) := by
  have I : C_ d mX8_init [.ref a] h = some (none, h) := kX8_init
  have t2 : oT (pI h a (va_up (oI h a) 0 y1)) a = 16 := ha
  simp (disch := first | exact ha | exact t2 | first | assumption | exact nI_ne0 (by decide) (by decide) | exact zb_01 | exact Or.inl rfl | exact Or.inr rfl | with_unfolding_all exact id (by assumption) | with_unfolding_all exact id (xix_8 (by assumption) (by omega) (by omega)) | omega) only [wX16_init_e, wX16_init_0, wX16_init_1, wX16_init_4, wX16_init_5, wX16_init_6, wX16_init_9, wX16_init_10, wX16_init_11, wX16_init_14, if_true, if_false, ↓reduceIte, xpu_s, xpu_n, Option.bind_some, xk_i, xk_r, xk_0, xk_u, xk_l, xk_k, xk_q, rf_s, rf_n, I, o_II, o_pII, if_true, eq_self]
theorem kX11_init : C_ (d + 1) mX11_init [.ref a] h = some (none, h) := by
  have I : C_ d mX8_init [.ref a] h = some (none, h) := kX8_init
  simp (disch := first | assumption | exact nI_ne0 (by decide) (by decide) | exact zb_01 | exact Or.inl rfl | exact Or.inr rfl | with_unfolding_all exact id (by assumption) | with_unfolding_all exact id (xix_8 (by assumption) (by omega) (by omega)) | omega) only [wX11_init_e, wX11_init_0, wX11_init_1, wX11_init_4, if_true, if_false, ↓reduceIte, xpu_s, xpu_n, Option.bind_some, xk_i, xk_r, xk_0, xk_u, xk_l, xk_k, xk_q, rf_s, rf_n, I]
theorem kX12_init : C_ (d + 2) mX12_init [.ref a] h = some (none, h) := by
  have I : C_ (d + 1) mX11_init [.ref a] h = some (none, h) := kX11_init
  simp (disch := first | assumption | exact nI_ne0 (by decide) (by decide) | exact zb_01 | exact Or.inl rfl | exact Or.inr rfl | with_unfolding_all exact id (by assumption) | with_unfolding_all exact id (xix_8 (by assumption) (by omega) (by omega)) | omega) only [wX12_init_e, wX12_init_0, wX12_init_1, wX12_init_4, if_true, if_false, ↓reduceIte, xpu_s, xpu_n, Option.bind_some, xk_i, xk_r, xk_0, xk_u, xk_l, xk_k, xk_q, rf_s, rf_n, I]
theorem kX13_init : C_ (d + 2) mX13_init [.ref a] h = some (none, h) := by
  have I : C_ (d + 1) mX11_init [.ref a] h = some (none, h) := kX11_init
  simp (disch := first | assumption | exact nI_ne0 (by decide) (by decide) | exact zb_01 | exact Or.inl rfl | exact Or.inr rfl | with_unfolding_all exact id (by assumption) | with_unfolding_all exact id (xix_8 (by assumption) (by omega) (by omega)) | omega) only [wX13_init_e, wX13_init_0, wX13_init_1, wX13_init_4, if_true, if_false, ↓reduceIte, xpu_s, xpu_n, Option.bind_some, xk_i, xk_r, xk_0, xk_u, xk_l, xk_k, xk_q, rf_s, rf_n, I]
theorem kX14_init : C_ (d + 2) mX14_init [.ref a] h = some (none, h) := by
  have I : C_ (d + 1) mX11_init [.ref a] h = some (none, h) := kX11_init
  simp (disch := first | assumption | exact nI_ne0 (by decide) (by decide) | exact zb_01 | exact Or.inl rfl | exact Or.inr rfl | with_unfolding_all exact id (by assumption) | with_unfolding_all exact id (xix_8 (by assumption) (by omega) (by omega)) | omega) only [wX14_init_e, wX14_init_0, wX14_init_1, wX14_init_4, if_true, if_false, ↓reduceIte, xpu_s, xpu_n, Option.bind_some, xk_i, xk_r, xk_0, xk_u, xk_l, xk_k, xk_q, rf_s, rf_n, I]
theorem kX15_init : C_ (d + 1) mX15_init [.ref a] h = some (none, h) := by
  have I : C_ d mX8_init [.ref a] h = some (none, h) := kX8_init
  simp (disch := first | assumption | exact nI_ne0 (by decide) (by decide) | exact zb_01 | exact Or.inl rfl | exact Or.inr rfl | with_unfolding_all exact id (by assumption) | with_unfolding_all exact id (xix_8 (by assumption) (by omega) (by omega)) | omega) only [wX15_init_e, wX15_init_0, wX15_init_1, wX15_init_4, if_true, if_false, ↓reduceIte, xpu_s, xpu_n, Option.bind_some, xk_i, xk_r, xk_0, xk_u, xk_l, xk_k, xk_q, rf_s, rf_n, I]
/-! trees of facts: what they rest on, how high they are -/
theorem FT_B : ∀ {m f i j : Nat}, (∀ k, 77 + 2 * i ≤ k → k < 77 + 2 * j → B k = A k) → FT h A m f i j → FT h B m f i j
  | 0, _, _, _, _, F => F.elim
  | m + 1, f, i, j, e, F => by
    rcases F with ⟨e1, L⟩ | ⟨t0, g, k, g0, e1, e2, F⟩ | ⟨t0, g1, g2, k, l, g3, g4, e1, e2, F1, F2⟩
    · exact Or.inl ⟨e1, by rw [e _ (by omega) (by omega), e _ (by omega) (by omega)]; exact L⟩
    · have := FT_lt F
      exact Or.inr (Or.inl ⟨t0, g, k, g0, e1, by rw [e _ (by omega) (by omega)]; exact e2, FT_B (fun k h1 h2 => e k h1 (by omega)) F⟩)
    · have := FT_lt F1; have := FT_lt F2
      exact Or.inr (Or.inr ⟨t0, g1, g2, k, l, g3, g4, e1, by rw [e _ (by omega) (by omega)]; exact e2, FT_B (fun k h1 h2 => e k h1 (by omega)) F1, FT_B (fun k h1 h2 => e k (by omega) (by omega)) F2⟩)
theorem FT_up : ∀ {m m' f i j : Nat}, m ≤ m' → FT h A m f i j → FT h A m' f i j
  | 0, _, _, _, _, _, F => F.elim
  | m + 1, 0, _, _, _, hm, _ => absurd hm (by omega)
  | m + 1, m' + 1, f, i, j, hm, F => by
    rcases F with ⟨e1, L⟩ | ⟨t0, g, k, g0, e1, e2, F⟩ | ⟨t0, g1, g2, k, l, g3, g4, e1, e2, F1, F2⟩
    · exact Or.inl ⟨e1, L⟩
    · exact Or.inr (Or.inl ⟨t0, g, k, g0, e1, e2, FT_up (by omega) F⟩)
    · exact Or.inr (Or.inr ⟨t0, g1, g2, k, l, g3, g4, e1, e2, FT_up (by omega) F1, FT_up (by omega) F2⟩)
/-- a fact by codes, of any height -/
def FU (h : xH) (A : rI) (f i j : Nat) : Prop := FT h A (j - i) f i j
theorem FU_leaf (L : LF h a (A (77 + 2 * i)) (A (77 + 2 * i + 1))) : FU h A a i (i + 1) := by
  unfold FU
  rw [show i + 1 - i = 0 + 1 by omega]
  exact Or.inl ⟨rfl, L⟩
theorem FU_not {f2 : Nat} (t0 : oT h a = 10) (r0 : oR h a 0 = some f2) (e : A (77 + 2 * k) = nI 21) (F : FU h A f2 i k) : FU h A a i (k + 1) := by
  have := FT_lt F
  unfold FU at *
  rw [show k + 1 - i = (k - i) + 1 by omega]
  exact Or.inr (Or.inl ⟨t0, f2, k, r0, rfl, e, F⟩)
theorem FU_both {f1 f2 l : Nat} (t0 : oT h a = 17) (r1 : oR h a 1 = some f1) (r2 : oR h a 2 = some f2) (e : (A (77 + 2 * l) = nI 20 ∧ oI h a 0 = nI 1) ∨ (A (77 + 2 * l) = nI 19 ∧ oI h a 0 = nI 0)) (F1 : FU h A f1 i k) (F2 : FU h A f2 k l) : FU h A a i (l + 1) := by
  have := FT_lt F1; have := FT_lt F2
  unfold FU at *
  rw [show l + 1 - i = (l - i) + 1 by omega]
  exact Or.inr (Or.inr ⟨t0, f1, f2, k, l, r1, r2, rfl, e, FT_up (by omega) F1, FT_up (by omega) F2⟩)
theorem FU_m (st : ∀ a, 9 ≤ oT h a → oT h a ≤ 18 → sm h h1 a) (e : ∀ k, 77 + 2 * i ≤ k → k < 77 + 2 * j → B k = A k) (F : FU h A a i j) : FU h1 B a i j := FT_B e (FT_m st F)
theorem FU_200 (F : FU h A a i j) (hj : j ≤ 200) : FT h A 200 a i j := FT_up (by omega) F
end
