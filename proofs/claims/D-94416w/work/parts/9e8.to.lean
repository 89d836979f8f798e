/-! TEXTS: a scene read -/
section
variable {d : Nat} {h h1 h2 : xH} {P : sS} {X o n p b e k v c j i op lo hi m w a u : Nat} {t : Nat → Nat} {f g A B : rI} {x : sX} {L L' : Nat × Nat × Nat × Nat}
/-- lines up to the end, so many at most -/
def tsc (t : Nat → Nat) (n : Nat) : Nat → sX × rI → sX × rI
  | 0 => fun s => s
  | u + 1 => fun s => match s.1 with
    | .inl _ => s
    | .inr L => if L.2.2.1 = 34 then s else tsc t n u (tli t n s.2 L)
theorem tsc_i {q : Nat × Nat} (hx : x = .inl q) : tsc t n (u + 1) (x, A) = (x, A) := by subst hx; rfl
theorem tsc_e (hk : L.2.2.1 = 34) : tsc t n (u + 1) (.inr L, A) = (.inr L, A) := if_pos hk
theorem tsc_s (hk : ¬ L.2.2.1 = 34) : tsc t n (u + 1) (.inr L, A) = tsc t n u (tli t n A L) := if_neg hk
/-- how a reading stands: at a token with ranges kept -/
def TG (t : Nat → Nat) (n u : Nat) (x : sX) (A : rI) : Prop := ∀ L, x = .inr L → LOK t n L ∧ n < L.2.1 + u ∧ SWx A ∧ ∃ c, A 39 = nI c ∧ c ≤ L.2.1
theorem TG_s (ht : ∀ j, j < n → t j < 256) (G : TG t n (u + 1) (.inr L) A) : TG t n u (tli t n A L).1 (tli t n A L).2 := by
  intro L' z
  obtain ⟨ok, g, W, c, hc, hl⟩ := G L rfl
  obtain ⟨a1, a2, a3, a4, a5⟩ := tli_x ht W ok hc hl z
  exact ⟨a4, by omega, a1, c + 1, a2, a3⟩
theorem TG_e : ∀ {u : Nat} {x : sX} {A : rI}, (∀ j, j < n → t j < 256) → TG t n u x A → ∀ L, (tsc t n u (x, A)).1 = .inr L → L.2.2.1 = 34 ∧ SWx (tsc t n u (x, A)).2 ∧ ∃ c, (tsc t n u (x, A)).2 39 = nI c ∧ c ≤ n
  | 0, x, A, _, G, L, z => by
    obtain ⟨ok, g, -⟩ := G L z
    have := ok.2.1
    omega
  | u + 1, x, A, ht, G, L, z => by
    rcases sX_inr x with ⟨q, rfl⟩ | ⟨L0, rfl⟩
    · cases z
    · by_cases hk : L0.2.2.1 = 34
      · rw [tsc_e hk] at z ⊢
        obtain ⟨ok, g, W, c, hc, hl⟩ := G L0 rfl
        cases z
        exact ⟨hk, W, c, hc, Nat.le_trans hl ok.2.1⟩
      · rw [tsc_s hk] at z ⊢
        exact TG_e ht (TG_s ht G) L z
theorem STR_G (gx : GX (fun a => X ≤ a) h h1 k v) (hX : X ≥ 170) (hX2 : X ≤ oX h) (S : STR h) : STR h1 := STR_m (fun a ha => gx.2.2.2.2.2 a (by omega) (fun y => by omega)) S
theorem kX6_scL : ∀ {u : Nat} {x : sX} {A : rI} {h : xH}, TX h → X ≤ oX h → X ≥ 170 → CS h o n t 0 x → X ≤ o → (∀ L, x = .inr L → SK h X o c A) → STR h → TG t n u x A → ∃ h1, E_ (d + 8) mX6_scene 4 [.val (.ref o)] [] h = some (none, h1) ∧ CS h1 o n t 0 (tsc t n u (x, A)).1 ∧ (∀ L, (tsc t n u (x, A)).1 = .inr L → SK h1 X o c (tsc t n u (x, A)).2) ∧ TX h1 ∧ GX (fun a => X ≤ a) h h1 (2 * u) (44 * u)
  | 0, x, A, h, T, hX, hX0, C, ox, S, SR, G => by
    rcases sX_inr x with ⟨q, rfl⟩ | ⟨L, rfl⟩
    · have T8 := C.1.1
      have f8 := (CS_inl C).1
      refine ⟨h, ?_, C, fun L z => (by cases z), T, GX_refl⟩
      refine wX6_scene_4.trans ?_
      simp (disch := first | assumption | exact nI_ne0 (by decide) (by decide) | exact zb_01 | exact Or.inl rfl | exact Or.inr rfl | with_unfolding_all exact id (by assumption) | with_unfolding_all exact id (xix_8 (by assumption) (by omega) (by omega)) | omega) only [wX6_scene_e, wX6_scene_0, wX6_scene_0q, wX6_scene_0n, wX6_scene_1, wX6_scene_5, wX6_scene_8, wX6_scene_11, wX6_scene_11q, wX6_scene_11n, wX6_scene_12, wX6_scene_15, wX6_scene_18, wX6_scene_18q, wX6_scene_18n, wX6_scene_19, wX6_scene_22, wX6_scene_22q, wX6_scene_22n, wX6_scene_23, wX6_scene_26, wX6_scene_26q, wX6_scene_26n, wX6_scene_27, wX6_scene_30, wX6_scene_31, wX6_scene_34, wX6_scene_35, wX6_scene_36, wX6_scene_39, wX6_scene_42, if_true, if_false, ↓reduceIte, xpu_s, xpu_n, Option.bind_some, xk_i, xk_r, xk_0, xk_u, xk_l, xk_k, xk_q, rf_s, rf_n, q_e1, q_e2, Nat.zero_add, Nat.reduceEqDiff, Nat.reduceAdd, Nat.reduceMul, Nat.reduceSub, Nat.reduceLT, Nat.reduceLeDiff, Nat.reduceDiv, Nat.reduceMod, f8, not_true_eq_false, not_false_eq_true, and_self, and_true, true_and, and_false, false_and, or_true, true_or, or_false, false_or, decide_true, decide_false, zb_t, zb_f, zb_0, zb_1, eq_self]
    · obtain ⟨ok, g, -⟩ := G L rfl
      have := ok.2.1
      omega
  | u + 1, x, A, h, T, hX, hX0, C, ox, S, SR, G => by
    have T8 := C.1.1
    rcases sX_inr x with ⟨q, rfl⟩ | ⟨L, rfl⟩
    · have f8 := (CS_inl C).1
      refine ⟨h, ?_, C, fun L z => (by cases z), T, GX_le GX_refl (by omega) (by omega)⟩
      refine wX6_scene_4.trans ?_
      simp (disch := first | assumption | exact nI_ne0 (by decide) (by decide) | exact zb_01 | exact Or.inl rfl | exact Or.inr rfl | with_unfolding_all exact id (by assumption) | with_unfolding_all exact id (xix_8 (by assumption) (by omega) (by omega)) | omega) only [wX6_scene_e, wX6_scene_0, wX6_scene_0q, wX6_scene_0n, wX6_scene_1, wX6_scene_5, wX6_scene_8, wX6_scene_11, wX6_scene_11q, wX6_scene_11n, wX6_scene_12, wX6_scene_15, wX6_scene_18, wX6_scene_18q, wX6_scene_18n, wX6_scene_19, wX6_scene_22, wX6_scene_22q, wX6_scene_22n, wX6_scene_23, wX6_scene_26, wX6_scene_26q, wX6_scene_26n, wX6_scene_27, wX6_scene_30, wX6_scene_31, wX6_scene_34, wX6_scene_35, wX6_scene_36, wX6_scene_39, wX6_scene_42, if_true, if_false, ↓reduceIte, xpu_s, xpu_n, Option.bind_some, xk_i, xk_r, xk_0, xk_u, xk_l, xk_k, xk_q, rf_s, rf_n, q_e1, q_e2, Nat.zero_add, Nat.reduceEqDiff, Nat.reduceAdd, Nat.reduceMul, Nat.reduceSub, Nat.reduceLT, Nat.reduceLeDiff, Nat.reduceDiv, Nat.reduceMod, f8, not_true_eq_false, not_false_eq_true, and_self, and_true, true_and, and_false, false_and, or_true, true_or, or_false, false_or, decide_true, decide_false, zb_t, zb_f, zb_0, zb_1, eq_self]
    · by_cases hk : L.2.2.1 = 34
      · rw [tsc_e hk]
        have f8 := (CS_inr C).1
        have c5 := C.2.2.2.2.2.2.2.1
        have z5 : (oI h o 5 = 0) = True := by rw [c5, hk]; exact eq_true nI_0
        refine ⟨h, ?_, C, fun L' z => (by cases z; exact S L rfl), T, GX_le GX_refl (by omega) (by omega)⟩
        refine wX6_scene_4.trans ?_
        simp (disch := first | assumption | exact nI_ne0 (by decide) (by decide) | exact zb_01 | exact Or.inl rfl | exact Or.inr rfl | with_unfolding_all exact id (by assumption) | with_unfolding_all exact id (xix_8 (by assumption) (by omega) (by omega)) | omega) only [wX6_scene_e, wX6_scene_0, wX6_scene_0q, wX6_scene_0n, wX6_scene_1, wX6_scene_5, wX6_scene_8, wX6_scene_11, wX6_scene_11q, wX6_scene_11n, wX6_scene_12, wX6_scene_15, wX6_scene_18, wX6_scene_18q, wX6_scene_18n, wX6_scene_19, wX6_scene_22, wX6_scene_22q, wX6_scene_22n, wX6_scene_23, wX6_scene_26, wX6_scene_26q, wX6_scene_26n, wX6_scene_27, wX6_scene_30, wX6_scene_31, wX6_scene_34, wX6_scene_35, wX6_scene_36, wX6_scene_39, wX6_scene_42, if_true, if_false, ↓reduceIte, xpu_s, xpu_n, Option.bind_some, xk_i, xk_r, xk_0, xk_u, xk_l, xk_k, xk_q, rf_s, rf_n, q_e1, q_e2, Nat.zero_add, Nat.reduceEqDiff, Nat.reduceAdd, Nat.reduceMul, Nat.reduceSub, Nat.reduceLT, Nat.reduceLeDiff, Nat.reduceDiv, Nat.reduceMod, f8, z5, not_true_eq_false, not_false_eq_true, and_self, and_true, true_and, and_false, false_and, or_true, true_or, or_false, false_or, decide_true, decide_false, zb_t, zb_f, zb_0, zb_1, eq_self]
      · rw [tsc_s hk]
        obtain ⟨h1, e1, C1, S1, T1, G1⟩ := kX6_sc1 (d := d) T hX hX0 C ox (S L rfl) SR (G L rfl).2.2.1 hk
        obtain ⟨h2, e2, C2, S2, T2, G2⟩ := kX6_scL (u := u) (x := (tli t n A L).1) (A := (tli t n A L).2) T1 (Nat.le_trans hX G1.1) hX0 C1 ox S1 (STR_G G1 hX0 hX SR) (TG_s (TBs_t C.1) G)
        exact ⟨h2, e1.trans e2, C2, S2, T2, GX_le (GX_trans G1 G2 (fun _ _ y => y)) (by omega) (by omega)⟩
/-- the second object's loop over lines -/
theorem kX5_scL {w : Int32} : ∀ {u : Nat} {x : sX} {A : rI} {h : xH}, MS h n t x → (∀ L, x = .inr L → FRo h A) → TG t n u x A → ∃ h1, E_ (d + 6) mX5_text 84 [.val (.ref 150), .val (.int (nI 0)), .val (.int w), .unset, .unset, .unset] [] h = E_ (d + 6) mX5_text 118 [.val (.ref 150), .val (.int (nI 0)), .val (.int w), .unset, .unset, .unset] [] h1 ∧ MS h1 n t (tsc t n u (x, A)).1 ∧ (∀ L, (tsc t n u (x, A)).1 = .inr L → FRo h1 (tsc t n u (x, A)).2) ∧ MF h h1
  | 0, x, A, h, M, F, G => by
    have t1 : oT h 150 = 7 := mok_t M.1.1 rfl
    rcases sX_inr x with ⟨q, rfl⟩ | ⟨L, rfl⟩
    · have f12 := MS_inl M
      refine ⟨h, ?_, M, fun L z => (by cases z), MF_r⟩
      refine wX5_text_84.trans ?_
      simp (disch := first | assumption | exact nI_ne0 (by decide) (by decide) | exact zb_01 | exact Or.inl rfl | exact Or.inr rfl | with_unfolding_all exact id (by assumption) | with_unfolding_all exact id (xix_8 (by assumption) (by omega) (by omega)) | omega) only [wX5_text_85, wX5_text_88, if_true, if_false, ↓reduceIte, xpu_s, xpu_n, Option.bind_some, xk_i, xk_r, xk_0, xk_u, xk_l, xk_k, xk_q, rf_s, rf_n, q_e1, q_e2, Nat.zero_add, Nat.reduceEqDiff, Nat.reduceAdd, Nat.reduceMul, Nat.reduceSub, Nat.reduceLT, Nat.reduceLeDiff, Nat.reduceDiv, Nat.reduceMod, f12, not_true_eq_false, not_false_eq_true, and_self, and_true, true_and, and_false, false_and, or_true, true_or, or_false, false_or, decide_true, decide_false, zb_t, zb_f, zb_0, zb_1, eq_self]
    · obtain ⟨ok, g, -⟩ := G L rfl
      have := ok.2.1
      omega
  | u + 1, x, A, h, M, F, G => by
    have t1 : oT h 150 = 7 := mok_t M.1.1 rfl
    rcases sX_inr x with ⟨q, rfl⟩ | ⟨L, rfl⟩
    · have f12 := MS_inl M
      refine ⟨h, ?_, M, fun L z => (by cases z), MF_r⟩
      refine wX5_text_84.trans ?_
      simp (disch := first | assumption | exact nI_ne0 (by decide) (by decide) | exact zb_01 | exact Or.inl rfl | exact Or.inr rfl | with_unfolding_all exact id (by assumption) | with_unfolding_all exact id (xix_8 (by assumption) (by omega) (by omega)) | omega) only [wX5_text_85, wX5_text_88, if_true, if_false, ↓reduceIte, xpu_s, xpu_n, Option.bind_some, xk_i, xk_r, xk_0, xk_u, xk_l, xk_k, xk_q, rf_s, rf_n, q_e1, q_e2, Nat.zero_add, Nat.reduceEqDiff, Nat.reduceAdd, Nat.reduceMul, Nat.reduceSub, Nat.reduceLT, Nat.reduceLeDiff, Nat.reduceDiv, Nat.reduceMod, f12, not_true_eq_false, not_false_eq_true, and_self, and_true, true_and, and_false, false_and, or_true, true_or, or_false, false_or, decide_true, decide_false, zb_t, zb_f, zb_0, zb_1, eq_self]
    · have f12 := MS_inr M
      have c10 := M.2.2.2.2.2.2.1
      have b3 := M.2.2.2.1.2.2.1
      have ek : (nI L.2.2.1 = nI 34) = (L.2.2.1 = 34) := nI_eqI (by omega) (by omega)
      by_cases hk : L.2.2.1 = 34
      · rw [tsc_e hk]
        have ek : (nI L.2.2.1 = nI 34) = True := by rw [ek]; exact eq_true hk
        refine ⟨h, ?_, M, fun L' z => (by cases z; exact F L rfl), MF_r⟩
        refine wX5_text_84.trans ?_
        simp (disch := first | assumption | exact nI_ne0 (by decide) (by decide) | exact zb_01 | exact Or.inl rfl | exact Or.inr rfl | with_unfolding_all exact id (by assumption) | with_unfolding_all exact id (xix_8 (by assumption) (by omega) (by omega)) | omega) only [wX5_text_85, wX5_text_88, wX5_text_91, wX5_text_92, wX5_text_95, wX5_text_97, if_true, if_false, ↓reduceIte, xpu_s, xpu_n, Option.bind_some, xk_i, xk_r, xk_0, xk_u, xk_l, xk_k, xk_q, rf_s, rf_n, q_e1, q_e2, Nat.zero_add, Nat.reduceEqDiff, Nat.reduceAdd, Nat.reduceMul, Nat.reduceSub, Nat.reduceLT, Nat.reduceLeDiff, Nat.reduceDiv, Nat.reduceMod, f12, c10, ek, not_true_eq_false, not_false_eq_true, and_self, and_true, true_and, and_false, false_and, or_true, true_or, or_false, false_or, decide_true, decide_false, zb_t, zb_f, zb_0, zb_1, eq_self]
      · rw [tsc_s hk]
        have ek : (nI L.2.2.1 = nI 34) = False := by rw [ek]; exact eq_false hk
        obtain ⟨h1, e1, M1, G1, F1⟩ := kX5_readLine (d := d) M (F L rfl) (G L rfl).2.2.1.1
        obtain ⟨h2, e2, M2, F2, G2⟩ := kX5_scL (u := u) (x := (tli t n A L).1) (A := (tli t n A L).2) M1 F1 (TG_s (TMs_t M.1) G)
        refine ⟨h2, Eq.trans ?_ e2, M2, F2, MF_t G1 G2⟩
        refine wX5_text_84.trans ?_
        simp (disch := first | assumption | exact nI_ne0 (by decide) (by decide) | exact zb_01 | exact Or.inl rfl | exact Or.inr rfl | with_unfolding_all exact id (by assumption) | with_unfolding_all exact id (xix_8 (by assumption) (by omega) (by omega)) | omega) only [wX5_text_85, wX5_text_88, wX5_text_91, wX5_text_92, wX5_text_95, wX5_text_97, wX5_text_100, wX5_text_101, wX5_text_104, wX5_text_105, wX5_text_108, if_true, if_false, ↓reduceIte, xpu_s, xpu_n, Option.bind_some, xk_i, xk_r, xk_0, xk_u, xk_l, xk_k, xk_q, rf_s, rf_n, q_e1, q_e2, Nat.zero_add, Nat.reduceEqDiff, Nat.reduceAdd, Nat.reduceMul, Nat.reduceSub, Nat.reduceLT, Nat.reduceLeDiff, Nat.reduceDiv, Nat.reduceMod, f12, c10, ek, e1, nI_00, not_true_eq_false, not_false_eq_true, and_self, and_true, true_and, and_false, false_and, or_true, true_or, or_false, false_or, decide_true, decide_false, zb_t, zb_f, zb_0, zb_1, eq_self]
end
