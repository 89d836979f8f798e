/-! TEXTS: facts read, the second object -/
section
variable {d : Nat} {h h1 h2 : xH} {P : sS} {n p b e k v c j i op lo hi m w cd : Nat} {t : Nat → Nat} {f g A B : rI} {x x' : sX} {L : Nat × Nat × Nat × Nat} {y1 y2 : Int32}
theorem l6a_22 {x : Int32} : (x.toInt64 < 22) = (x < nI 22) := propext (l64_xn (n := 22) (by decide))
theorem l6b_28 {x : Int32} : (28 < x.toInt64) = (nI 28 < x) := propext (l64_nx (n := 28) (by decide))
theorem l6b_24 {x : Int32} : (24 < x.toInt64) = (nI 24 < x) := propext (l64_nx (n := 24) (by decide))
/-- fields that a fact's reading leaves -/
def gC (g f : rI) : Prop := ∀ j, ¬ (j = 7 ∨ j = 8 ∨ (10 ≤ j ∧ j ≤ 15)) → g j = f j
theorem gC_r : gC f f := fun _ _ => rfl
theorem gC_t {e : rI} (a : gC g f) (b : gC e g) : gC e f := fun j hj => (b j hj).trans (a j hj)
theorem gC_E (a : gE g f) : gC g f := fun j hj => a j (by omega)
def MD_ (h h1 : xH) : Prop := KX h h1 ∧ (∀ a, ¬ a = 150 → ¬ a = 155 → oI h1 a = oI h a) ∧ oL h1 = oL h ∧ gC (oI h1 150) (oI h 150)
theorem MD_r : MD_ h h := ⟨KX_refl, fun _ _ _ => rfl, rfl, gC_r⟩
theorem MD_t (a : MD_ h h1) (b : MD_ h1 h2) : MD_ h h2 := ⟨KX_trans a.1 b.1, fun x h1 h2 => (b.2.1 x h1 h2).trans (a.2.1 x h1 h2), b.2.2.1.trans a.2.2.1, gC_t a.2.2.2 b.2.2.2⟩
theorem MD_F (a : MF h h1) : MD_ h h1 := ⟨a.1, a.2.1, a.2.2.1, gC_E a.2.2.2⟩
theorem MD_0 (E : gC g (oI h 150)) : MD_ h (pI h 150 g) := ⟨KX_I KX_refl (by omega) (by omega), fun a h1 _ => by rw [o_II, if_neg h1], rfl, E⟩
theorem MD_x (F : MD_ h h1) (H : MOK h) : oT h1 150 = 7 ∧ oT h1 155 = 40 ∧ oN h1 155 = 477 ∧ oR h1 150 5 = some 155 := by
  obtain ⟨⟨-, e1, e2, e3, -⟩, -⟩ := F
  rw [e1, e2, e3]
  exact ⟨mok_t H rfl, mok_t H rfl, m_n155 H, m_r5 H⟩
/-- a law's text at a place: what comes, how deep, how many codes, the numbers -/
def ML (h : xH) (n : Nat) (t : Nat → Nat) (x : sX) (op : Nat) (A : rI) (cd : Nat) : Prop := MS h n t x ∧ oI h 150 14 = nI op ∧ ∀ L, x = .inr L → oI h 150 15 = nI cd ∧ FRo h A
theorem ML_F (M : ML h n t x op A cd) (M1 : MS h1 n t x') (F : MF h h1) (e : oI h1 155 = oI h 155) (r : ∀ L', x' = .inr L' → ∃ L, x = .inr L) : ML h1 n t x' op A cd := by
  obtain ⟨-, a2, a3⟩ := M
  refine ⟨M1, (F.2.2.2 14 (by omega)).trans a2, fun L' z => ?_⟩
  obtain ⟨L, q⟩ := r L' z
  obtain ⟨b1, b2⟩ := a3 L q
  exact ⟨(F.2.2.2 15 (by omega)).trans b1, fun k hk => by rw [e]; exact b2 k hk⟩
/-- a code more -/
def emA (A : rI) (cd : Nat) (k v : Int32) : rI := va_up (va_up A (77 + 2 * cd) k) (78 + 2 * cd) v
theorem kX5_emit (M : ML h n t (.inr L) op A cd) (hc : cd < 200) : ∃ h1, C_ d mX5_emit [.ref 150, .int y1, .int y2] h = some (none, h1) ∧ ML h1 n t (.inr L) op (emA A cd y1 y2) (cd + 1) ∧ MD_ h h1 := by
  obtain ⟨M0, a2, a3⟩ := M
  obtain ⟨b1, b2⟩ := a3 L rfl
  have H := M0.1.1
  have t1 : oT h 150 = 7 := mok_t H rfl
  have t2 : oT h 155 = 40 := mok_t H rfl
  have n5 := m_n155 H
  have e2 : nI 2 * nI cd = nI (2 * cd) := pk_mul _ _
  have e3 : 77 + 2 * cd + 1 = 78 + 2 * cd := by omega
  obtain ⟨h5, hh5⟩ : ∃ h5, h5 = pI h 155 (emA (oI h 155) cd y1 y2) := ⟨_, rfl⟩
  have hh : pI h 155 (va_up (va_up (oI h 155) (77 + 2 * cd) y1) (78 + 2 * cd) y2) = h5 := hh5.symm
  have o5 : oI h5 150 = oI h 150 := by rw [hh5, o_II, if_neg (by decide)]
  have t5 : oT h5 150 = 7 := by rw [hh5]; exact t1
  have M5 : MS h5 n t (.inr L) := by rw [hh5]; exact MS_5 M0
  have c5 : MD_ h h5 := by rw [hh5]; exact MD_F MF_5
  refine ⟨pI h5 150 (va_up (oI h5 150) 15 (nI (cd + 1))), ?_, ?_, MD_t c5 (MD_0 fun j hj => by rw [up_ne (by omega)])⟩
  · simp (disch := first | exact t1 | exact t2 | exact t5 | exact m_x155 H (by omega) | first | assumption | exact nI_ne0 (by decide) (by decide) | exact zb_01 | exact Or.inl rfl | exact Or.inr rfl | with_unfolding_all exact id (by assumption) | with_unfolding_all exact id (xix_8 (by assumption) (by omega) (by omega)) | omega) only [wX5_emit_e, wX5_emit_0, wX5_emit_1, wX5_emit_4, wX5_emit_6, wX5_emit_7, wX5_emit_8, wX5_emit_11, wX5_emit_12, wX5_emit_13, wX5_emit_14, wX5_emit_15, wX5_emit_16, wX5_emit_19, wX5_emit_21, wX5_emit_22, wX5_emit_23, wX5_emit_26, wX5_emit_27, wX5_emit_28, wX5_emit_29, wX5_emit_30, wX5_emit_31, wX5_emit_32, wX5_emit_33, wX5_emit_34, wX5_emit_37, wX5_emit_38, wX5_emit_39, wX5_emit_42, if_true, if_false, ↓reduceIte, xpu_s, xpu_n, Option.bind_some, xk_i, xk_r, xk_0, xk_u, xk_l, xk_k, xk_q, rf_s, rf_n, q_e1, q_e2, Nat.zero_add, Nat.reduceEqDiff, Nat.reduceAdd, Nat.reduceMul, Nat.reduceSub, Nat.reduceLT, Nat.reduceLeDiff, Nat.reduceDiv, Nat.reduceMod, m_r1 H, m_r2 H, m_r3 H, m_r4 H, m_r5 H, m_r18 H, m_r19 H, m_r20 H, m_r24 H, m_r25 H, m_r27 H, m_r28 H, m_r29 H, m_r30 H, m_r31 H, m_r32 H, m_r33 H, m_r34 H, m_r35 H, m_n150 H, m_n151 H, m_n152 H, m_n153 H, m_n154 H, m_n155 H, m_n156 H, m_n157 H, m_n158 H, m_n159 H, m_n160 H, m_n161 H, m_n162 H, m_n163 H, m_n164 H, m_n165 H, m_n166 H, m_n167 H, m_n168 H, m_n169 H, nI_c, nI_add, b1, e2, e3, o_TI, o_NI, o_RI, o_II, o_pII, hh, o5, not_true_eq_false, not_false_eq_true, and_self, and_true, true_and, and_false, false_and, or_true, true_or, or_false, false_or, decide_true, decide_false, zb_t, zb_f, zb_0, zb_1, eq_self]
  · obtain ⟨T, S3, c12, ok, c7, c8, c10, c11⟩ := M5
    refine ⟨⟨TMs_I T ?_, S3, ?_⟩, ?_, fun L' z => ⟨rfl, fun k hk => ?_⟩⟩
    · rw [up_ne (by omega)]; exact T.2.2.2
    · exact ⟨c12, ok, c7, c8, c10, c11⟩
    · show va_up (oI h5 150) 15 (nI (cd + 1)) 14 = _
      rw [up_ne (by omega), o5]
      exact a2
    · show oI h5 155 k = _
      rw [hh5]
      show emA (oI h 155) cd y1 y2 k = _
      unfold emA va_up
      rw [b2 k hk]
end
