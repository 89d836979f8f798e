/-! CONTRACTS of the component: forks from the first car of a walk -/
theorem fk_P26 {c s l : Nat} {A : rI} (W : WFs A) (WL : WFl A) : ∀ f, P26 c s l A f
  | 0 => fun D dep k g w N x1 u1 s8 s10 E hs R B q e41 hk hl hf hD => by omega
  | f + 1 => fk_26 W WL (fk_14 W.2.1 (fk_P26 W WL f)) (fk_P26 W WL f)
theorem fk_P14 {c s l : Nat} {A : rI} (W : WFs A) (WL : WFl A) (f : Nat) : P14 c s l A f := fk_14 W.2.1 (fk_P26 W WL f)
theorem kX0_forks0 {d c s l : Nat} {A w : rI} {g : xH} {seed : Int32} (W : WFs A) (WL : WFl A) (E : FE g c s l A) (hs : oR g 86 5 = some c) (R : WR g 86 A (sBg A w (-1) seed)) : ∃ g2, C_ (d + 215) mX0_forks [.ref 64, .int (nI 0), .int (nI 0), .long 1] g = some (none, g2) ∧ FF 0 g g2 ∧ PA g2 = sBr A (-1) 108 (sBg A w (-1) seed) (100 ^ sN A) (PA g) := by
  have W2 := W.2.1
  have ul := ud_le (n := sN A) (w := sBg A w (-1) seed)
  have un : ud (sN A) (sBg A w (-1) seed) = sN A := by
    have : ∀ n, n ≤ sN A → ud n (sBg A w (-1) seed) = n := by
      intro n
      induction n with
      | zero => intro _; rfl
      | succ n ih =>
        intro hn
        rw [ud_up, ih (by omega), if_pos ((sBg_at W2 (by omega) (by omega) (by omega) (by omega)).trans nI_0)]
    exact this _ (Nat.le_refl _)
  have e36 : (sBg A w (-1) seed 36).toNatClampNeg = 0 := by
    rw [sBg_at W2 (by omega) (by omega) (by omega) (by omega)]; exact nI_clamp (by omega)
  obtain ⟨g2, e, F, Q⟩ := fk_P14 (c := c) (s := s) (l := l) W WL 108 (d + 215) 0 0 g (sBg A w (-1) seed) 1 (nI 0) 1 .unset .unset E hs R (WB_Bg W) (sBg_at W2 (by omega) (by omega) (by omega) (by omega)) (Nat.zero_le _) (by omega) (by rw [e36]; omega) (by omega)
  obtain ⟨T1, y2, -, -, -, -, -, -, -, -, -, y12, y13, y14⟩ := E.1
  have y15 := y14 0 (by omega)
  refine ⟨g2, Eq.trans ?_ e, F, by rw [Q, un, Nat.one_mul]⟩
  have l1 : lN 1 = 1 := rfl
  simp (disch := first | exact T1 | exact y12 | exact xix_8 y13 (by omega) (by omega) | omega) only [wX0_forks_e, wX0_forks_0, wX0_forks_1, wX0_forks_4, wX0_forks_5, wX0_forks_6, wX0_forks_8, wX0_forks_9, wX0_forks_11, wX0_forks_12, if_true, if_false, ↓reduceIte, xpu_s, xpu_n, Option.bind_some, xk_i, xk_r, xk_0, xk_u, xk_l, xk_k, xk_q, rf_s, rf_n, q_e1, q_e2, Nat.zero_add, Nat.reduceEqDiff, Nat.reduceAdd, Nat.reduceMul, Nat.reduceSub, Nat.reduceLT, Nat.reduceLeDiff, Nat.reduceDiv, Nat.reduceMod, nI_c, y2, y15, l1]
