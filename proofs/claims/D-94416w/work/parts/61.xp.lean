/-! CONTRACTS of the component: forks -/
section
variable {A w u : rI} {wl : Int32} {f W k : Nat} {a : aC}
theorem sBr_c (q : w 37 = 0) (q2 : u 37 = 0) (e : dN A wl (sN A - (w 41).toNatClampNeg) (w 41).toNatClampNeg w = dN A wl (sN A - (u 41).toNatClampNeg) (u 41).toNatClampNeg u) : sBr A wl (f + 1) w W a = sBr A wl (f + 1) u W a := by
  refine (if_pos q).trans (Eq.trans ?_ (if_pos q2).symm)
  rw [e]
theorem sBr_go (W2 : sN A ≤ 8) (hk : k < sN A) (q : w 37 = 0) (q2 : u 37 = 0) (e1 : w 41 = nI k) (e2 : u 41 = nI (k + 1)) (e : ∀ m, dN A wl (m + 1) k w = dN A wl m (k + 1) u) : sBr A wl (f + 1) w W a = sBr A wl (f + 1) u W a := by
  refine sBr_c q q2 ?_
  rw [e1, e2, nI_clamp (by omega), nI_clamp (by omega), show sN A - k = (sN A - (k + 1)) + 1 by omega]
  exact e _
theorem dN_skip {m : Nat} (h : ¬ sAs A w k = true) : dN A wl (m + 1) k w = dN A wl m (k + 1) (va_up w 41 (nI (k + 1))) := if_neg h
theorem dN_0 {m : Nat} (h : sAs A w k = true) (h0 : sCh A w wl k = 0) : dN A wl (m + 1) k w = dN A wl m (k + 1) (va_up (va_up w (16 + k) (nI 1)) 41 (nI (k + 1))) := (if_pos h).trans (if_pos h0)
theorem dN_1 {m : Nat} (h : sAs A w k = true) (h0 : ¬ sCh A w wl k = 0) (h1 : sCh A w wl k = nI 100) : dN A wl (m + 1) k w = dN A wl m (k + 1) (va_up (va_up w (16 + k) (nI 2)) 41 (nI (k + 1))) := (if_pos h).trans ((if_neg h0).trans (if_pos h1))
theorem dN_s {m : Nat} (h : sAs A w k = true) (h0 : ¬ sCh A w wl k = 0) (h1 : ¬ sCh A w wl k = nI 100) : dN A wl (m + 1) k w = (w, some k) := (if_pos h).trans ((if_neg h0).trans (if_neg h1))
theorem WR_at {h h2 : xH} {q : Nat} (R : WR h q A w) (e : ∀ a, q ≤ a → a ≤ q + 5 → oI h2 a = oI h a) : WR h2 q A w := by
  unfold WR at *
  rw [e q (by omega) (by omega), e (q + 1) (by omega) (by omega), e (q + 2) (by omega) (by omega), e (q + 3) (by omega) (by omega), e (q + 4) (by omega) (by omega)]
  exact R
theorem WB_41 {x : Nat} (W2 : sN A ≤ 8) (hx : x ≤ sN A) (B : WB A w) : WB A (va_up w 41 (nI x)) := by
  obtain ⟨I, ⟨t, t1, t2, t3⟩, h3, h4, h5⟩ := B
  refine ⟨WI_41 W2 I, ⟨t, by rw [up_ne (by omega)]; exact t1, t2, fun y => t3 (by rw [up_ne (by omega)] at y; exact y)⟩, ?_, ?_, x, up_s, hx⟩
  · rw [up_ne (show 37 ≠ 41 by omega)]; exact h3
  · rw [up_ne (show 39 ≠ 41 by omega)]; exact h4
theorem ud_41 {x : Int32} (W2 : sN A ≤ 8) : ud (sN A) (va_up w 41 x) = ud (sN A) w := ud_eq fun k hk => up_ne (by omega)
end
def P14 (c s l : Nat) (A : rI) (f : Nat) : Prop := ∀ (D dep k : Nat) (g : xH) (w : rI) (N : Nat) (x1 : Int32) (u1 : Int64) (s9 s10 : Slot), FE g c s l A → oR g (86 + 6 * dep) 5 = some c → WR g (86 + 6 * dep) A w → WB A w → w 41 = nI k → k ≤ sN A → dep + ud (sN A) w ≤ 8 → 99 - (w 36).toNatClampNeg + ud (sN A) w + 1 ≤ f → ud (sN A) w + 207 ≤ D → ∃ g2, E_ D mX0_forks 14 [.val (.ref 64), .val (.int (nI dep)), .val (.int x1), .val (.long u1), .unset, .val (.ref (86 + 6 * dep)), .val (.long (lN N)), .unset, .val (.int (nI k)), s9, s10] [] g = some (none, g2) ∧ FF dep g g2 ∧ PA g2 = sBr A (-1) f w (N * 100 ^ ud (sN A) w) (PA g)
def P26 (c s l : Nat) (A : rI) (f : Nat) : Prop := ∀ (D dep k : Nat) (g : xH) (w : rI) (N : Nat) (x1 : Int32) (u1 : Int64) (s8 s10 : Slot), FE g c s l A → oR g (86 + 6 * dep) 5 = some c → WR g (86 + 6 * dep) A w → WB A w → w 37 = 0 → w 41 = nI k → k ≤ sN A → dep + ud (sN A) w ≤ 8 → 99 - (w 36).toNatClampNeg + ud (sN A) w + 1 ≤ f → ud (sN A) w + 207 ≤ D → ∃ g2, E_ D mX0_forks 26 [.val (.ref 64), .val (.int (nI dep)), .val (.int x1), .val (.long u1), .unset, .val (.ref (86 + 6 * dep)), .val (.long (lN N)), .unset, s8, .val (.int (nI k)), s10] [] g = some (none, g2) ∧ FF dep g g2 ∧ PA g2 = sBr A (-1) f w (N * 100 ^ ud (sN A) w) (PA g)
theorem fk_14 {c s l : Nat} {A : rI} {f : Nat} (W2 : sN A ≤ 8) (P : P26 c s l A f) : P14 c s l A f := by
  intro D dep k g w N x1 u1 s9 s10 E hs R B e41 hk hl hf hD
  have O := E.2.1 dep (by omega)
  have T5 := O.1
  have i10 := R.2.2.2.2.2.2.2.2.1
  by_cases q : w 37 = 0
  · obtain ⟨g2, e, F, Q⟩ := P D dep k g w N x1 u1 (.val (.int (nI k))) s10 E hs R B q e41 hk hl hf hD
    refine ⟨g2, (wX0_forks_14.trans ?_).trans e, F, Q⟩
    rw [q] at i10
    simp (disch := first | assumption | exact nI_ne0 (by decide) (by decide) | exact zb_01 | exact Or.inl rfl | exact Or.inr rfl | with_unfolding_all exact id (by assumption) | with_unfolding_all exact id (xix_8 (by assumption) (by omega) (by omega)) | omega) only [wX0_forks_16, wX0_forks_19, wX0_forks_22, wX0_forks_24, if_true, if_false, ↓reduceIte, xpu_s, xpu_n, Option.bind_some, xk_i, xk_r, xk_0, xk_u, xk_l, xk_k, xk_q, rf_s, rf_n, q_e1, q_e2, Nat.zero_add, Nat.reduceEqDiff, Nat.reduceAdd, Nat.reduceMul, Nat.reduceSub, Nat.reduceLT, Nat.reduceLeDiff, Nat.reduceDiv, Nat.reduceMod, i10]
  · obtain ⟨e, rfl⟩ : ∃ e, D = e + 3 := ⟨D - 3, by omega⟩
    obtain ⟨f', rfl⟩ : ∃ f', f = f' + 1 := ⟨f - 1, by omega⟩
    have ct := kX0_counts (d := e) (h := g) (x := lN N) (a := PA g) O hs E.2.2.1 R W2 E.1 (B.2.2.1.resolve_left q) B.2.2.2.1
    rw [HX_PA] at ct
    refine ⟨_, wX0_forks_14.trans ?_, FF_X (a := lF A w (lN N * lN (100 ^ ud (sN A) w)) (PA g)), ?_⟩
    · have x1 := E.1.1
      have q' := q
      rw [← i10] at q'
      simp (disch := first | assumption | exact nI_ne0 (by decide) (by decide) | exact zb_01 | exact Or.inl rfl | exact Or.inr rfl | with_unfolding_all exact id (by assumption) | with_unfolding_all exact id (xix_8 (by assumption) (by omega) (by omega)) | omega) only [wX0_forks_16, wX0_forks_19, wX0_forks_189, wX0_forks_190, wX0_forks_192, wX0_forks_194, wX0_forks_197, if_true, if_false, ↓reduceIte, xpu_s, xpu_n, Option.bind_some, xk_i, xk_r, xk_0, xk_u, xk_l, xk_k, xk_q, rf_s, rf_n, q_e1, q_e2, Nat.zero_add, Nat.reduceEqDiff, Nat.reduceAdd, Nat.reduceMul, Nat.reduceSub, Nat.reduceLT, Nat.reduceLeDiff, Nat.reduceDiv, Nat.reduceMod, q', ct]
    · rw [PA_HX, sBr_l q, lN_mul]
