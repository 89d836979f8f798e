/-! CONTRACTS of the component: forks, the cars of a tick -/
theorem pw_100 {N u : Nat} {m : Nat} : N * 100 ^ (u + 1) / 100 * m = N * m * 100 ^ u := by
  rw [Nat.pow_succ, ← Nat.mul_assoc, Nat.mul_div_cancel _ (by omega : 0 < 100), Nat.mul_right_comm]
theorem nI_gt0 {m : Nat} (h0 : 0 < m) (h : m < 2147483648) : (nI 0 < nI m) = True := by
  rw [nI_ltP (by omega) h]; exact eq_true h0
theorem zlt_n {m : Nat} (h : m < 2147483648) : ((0 : Int32) < nI m) = (0 < m) := by
  have := nI_ltP (a := 0) (b := m) (by omega) h
  rwa [nI_0] at this
theorem sBr_41 {A w : rI} {f W k : Nat} {v : Int32} {a : aC} (hf : 1 ≤ f) (W2 : sN A ≤ 8) (hk : k < sN A) (q : w 37 = 0) (e1 : w 41 = nI k) (hv : v = nI 1 ∨ v = nI 2) : sBr A (-1) f (va_up (va_up w (16 + k) v) 41 (nI (k + 1))) W a = sBr A (-1) f (va_up w (16 + k) v) W a := by
  obtain ⟨f', rfl⟩ : ∃ f', f = f' + 1 := ⟨f - 1, by omega⟩
  refine (sBr_go W2 hk (by rw [up_ne (by omega)]; exact q) (by rw [up_ne (by omega), up_ne (by omega)]; exact q) (by rw [up_ne (by omega)]; exact e1) up_s fun m => dN_skip fun z => ?_).symm
  have := sAs_0 z
  rw [up_s] at this
  rcases hv with y | y
  · rw [y] at this; exact absurd this (by decide)
  · rw [y] at this; exact absurd this (by decide)
theorem fk_26 {c s l : Nat} {A : rI} {f : Nat} (W : WFs A) (WL : WFl A) (P4 : P14 c s l A f) (P6 : P26 c s l A f) : P26 c s l A (f + 1) := by
  have W2 := W.2.1
  have key : ∀ (m D dep k : Nat) (g : xH) (w : rI) (N : Nat) (x1 : Int32) (u1 : Int64) (s8 s10 : Slot), k + m = sN A → FE g c s l A → oR g (86 + 6 * dep) 5 = some c → WR g (86 + 6 * dep) A w → WB A w → w 37 = 0 → w 41 = nI k → dep + ud (sN A) w ≤ 8 → 99 - (w 36).toNatClampNeg + ud (sN A) w + 1 ≤ f + 1 → ud (sN A) w + 207 ≤ D → ∃ g2, E_ D mX0_forks 26 [.val (.ref 64), .val (.int (nI dep)), .val (.int x1), .val (.long u1), .unset, .val (.ref (86 + 6 * dep)), .val (.long (lN N)), .unset, s8, .val (.int (nI k)), s10] [] g = some (none, g2) ∧ FF dep g g2 ∧ PA g2 = sBr A (-1) (f + 1) w (N * 100 ^ ud (sN A) w) (PA g) := by
    intro m
    induction m with
    | zero =>
      intro D dep k g w N x1 u1 s8 s10 hk E hs R B q e41 hl hf hD
      obtain ⟨e, rfl⟩ : ∃ e, D = e + 207 := ⟨D - 207, by omega⟩
      have O := E.2.1 dep (by omega)
      have T5 := O.1
      have kn : k = sN A := by omega
      have M := kX3_many (d := e + 205) O hs E.2.2.1
      obtain ⟨t, t1, t2, t3⟩ := B.2.1
      have t4 := t3 q
      have et : (w 36).toNatClampNeg = t := by rw [t1]; exact nI_clamp (by omega)
      rw [et] at hf
      obtain ⟨g1, e1, F1, R1⟩ := kX3_goesOn (d := e + 200) O hs E.2.2.1 R W B.1 q
      have FF1 : FF dep g g1 := FF_W (by omega) F1
      have us : ud (sN A) (sTk A w) = ud (sN A) w := ud_eq fun k hk => sTk_16 W2 (by omega)
      have pa : PA g1 = PA g := by unfold PA; rw [F1.2.2.2.2.1]
      obtain ⟨g2, e2, F2, Q2⟩ := P4 (e + 207) dep 0 g1 (sTk A w) N x1 u1 (.val (.int (nI k))) s10 (FE_FF FF1 E) (by rw [F1.2.2.2.1]; exact hs) R1 (WB_Tk W B q) sTk_41 (Nat.zero_le _) (by omega) (by rw [sTk_36 W2, t1, nI_add, nI_clamp (by omega)]; omega) (by omega)
      refine ⟨g2, (wX0_forks_26.trans ?_).trans e2, FF_trans FF1 F2, ?_⟩
      · simp (disch := first | assumption | exact nI_ne0 (by decide) (by decide) | exact zb_01 | exact Or.inl rfl | exact Or.inr rfl | with_unfolding_all exact id (by assumption) | with_unfolding_all exact id (xix_8 (by assumption) (by omega) (by omega)) | omega) only [wX0_forks_28, wX0_forks_30, wX0_forks_33, wX0_forks_178, wX0_forks_179, wX0_forks_181, wX0_forks_183, wX0_forks_186, if_true, if_false, ↓reduceIte, xpu_s, xpu_n, Option.bind_some, xk_i, xk_r, xk_0, xk_u, xk_l, xk_k, xk_q, rf_s, rf_n, q_e1, q_e2, Nat.zero_add, Nat.reduceEqDiff, Nat.reduceAdd, Nat.reduceMul, Nat.reduceSub, Nat.reduceLT, Nat.reduceLeDiff, Nat.reduceDiv, Nat.reduceMod, M, kn, i_irr, e1]
      · rw [Q2, us, pa]
        exact (sBr_n q (by rw [e41, nI_clamp (by omega), kn, Nat.sub_self]; rfl)).symm
    | succ m ih =>
      intro D dep k g w N x1 u1 s8 s10 hk E hs R B q e41 hl hf hD
      obtain ⟨e, rfl⟩ : ∃ e, D = e + 207 := ⟨D - 207, by omega⟩
      have O := E.2.1 dep (by omega)
      have T5 := O.1
      have x1' := E.1.1
      have kn : k < sN A := by omega
      have k8 : k < 8 := by omega
      have M := kX3_many (d := e + 205) O hs E.2.2.1
      have AS := kX3_isAsked (d := e + 205) O hs E.2.2.1 R W2 kn
      have CN := kX3_can (d := e + 206) O hs E.2.2.1 R W2 kn
      have CH := kX0_chanceOf (d := e) O hs E.2.2.1 R W B.1 WL E.2.2.2.1 E.2.2.2.2 kn
      by_cases qa : sAs A w k = true
      · rw [qa] at AS
        obtain ⟨n, hn, hn1⟩ := sCh_le (A := A) (w := w) (wl := -1) WL k
        have c0 := sAs_0 qa
        have pre : E_ (e + 207) mX0_forks 26 [.val (.ref 64), .val (.int (nI dep)), .val (.int x1), .val (.long u1), .unset, .val (.ref (86 + 6 * dep)), .val (.long (lN N)), .unset, s8, .val (.int (nI k)), s10] [] g = E_ (e + 207) mX0_forks 71 [.val (.ref 64), .val (.int (nI dep)), .val (.int x1), .val (.long u1), .unset, .val (.ref (86 + 6 * dep)), .val (.long (lN N)), .unset, s8, .val (.int (nI k)), s10] [.int (sCh A w (-1) k)] g := by
          unfold sCh
          cases qc : sCan A w k with
          | false =>
            rw [qc] at CN
            refine wX0_forks_26.trans ?_
            simp (disch := first | assumption | exact nI_ne0 (by decide) (by decide) | exact zb_01 | exact Or.inl rfl | exact Or.inr rfl | with_unfolding_all exact id (by assumption) | with_unfolding_all exact id (xix_8 (by assumption) (by omega) (by omega)) | omega) only [wX0_forks_28, wX0_forks_30, wX0_forks_33, wX0_forks_36, wX0_forks_38, wX0_forks_40, wX0_forks_43, wX0_forks_49, wX0_forks_51, wX0_forks_53, wX0_forks_56, wX0_forks_70, if_true, if_false, ↓reduceIte, xpu_s, xpu_n, Option.bind_some, xk_i, xk_r, xk_0, xk_u, xk_l, xk_k, xk_q, rf_s, rf_n, q_e1, q_e2, Nat.zero_add, Nat.reduceEqDiff, Nat.reduceAdd, Nat.reduceMul, Nat.reduceSub, Nat.reduceLT, Nat.reduceLeDiff, Nat.reduceDiv, Nat.reduceMod, M, nI_ltP, kn, AS, zb_t, zb_f, one_ne0, CN, Bool.false_eq_true]
          | true =>
            rw [qc] at CN
            refine wX0_forks_26.trans ?_
            simp (disch := first | assumption | exact nI_ne0 (by decide) (by decide) | exact zb_01 | exact Or.inl rfl | exact Or.inr rfl | with_unfolding_all exact id (by assumption) | with_unfolding_all exact id (xix_8 (by assumption) (by omega) (by omega)) | omega) only [wX0_forks_28, wX0_forks_30, wX0_forks_33, wX0_forks_36, wX0_forks_38, wX0_forks_40, wX0_forks_43, wX0_forks_49, wX0_forks_51, wX0_forks_53, wX0_forks_56, wX0_forks_59, wX0_forks_60, wX0_forks_62, wX0_forks_64, wX0_forks_67, if_true, if_false, ↓reduceIte, xpu_s, xpu_n, Option.bind_some, xk_i, xk_r, xk_0, xk_u, xk_l, xk_k, xk_q, rf_s, rf_n, q_e1, q_e2, Nat.zero_add, Nat.reduceEqDiff, Nat.reduceAdd, Nat.reduceMul, Nat.reduceSub, Nat.reduceLT, Nat.reduceLeDiff, Nat.reduceDiv, Nat.reduceMod, M, nI_ltP, kn, AS, zb_t, one_ne0, CN, CH]
        rw [hn] at pre
        have go : ∀ v : Int32, (v = nI 1 ∨ v = nI 2) → (∀ m, dN A (-1) (m + 1) k w = dN A (-1) m (k + 1) (va_up (va_up w (16 + k) v) 41 (nI (k + 1)))) → E_ (e + 207) mX0_forks 71 [.val (.ref 64), .val (.int (nI dep)), .val (.int x1), .val (.long u1), .unset, .val (.ref (86 + 6 * dep)), .val (.long (lN N)), .unset, s8, .val (.int (nI k)), s10] [.int (nI n)] g = E_ (e + 207) mX0_forks 26 [.val (.ref 64), .val (.int (nI dep)), .val (.int x1), .val (.long u1), .unset, .val (.ref (86 + 6 * dep)), .val (.long (lN (N * 100))), .unset, xk s8, .val (.int (nI (k + 1))), .val (.int (nI n))] [] (pI g (86 + 6 * dep + 3) (va_up (oI g (86 + 6 * dep + 3)) k v)) → ∃ g2, E_ (e + 207) mX0_forks 26 [.val (.ref 64), .val (.int (nI dep)), .val (.int x1), .val (.long u1), .unset, .val (.ref (86 + 6 * dep)), .val (.long (lN N)), .unset, s8, .val (.int (nI k)), s10] [] g = some (none, g2) ∧ FF dep g g2 ∧ PA g2 = sBr A (-1) (f + 1) w (N * 100 ^ ud (sN A) w) (PA g) := by
          intro v hv hd e1
          have uv := ud_16 (v := v) W2 kn c0 hv
          have FF1 : FF dep g (pI g (86 + 6 * dep + 3) (va_up (oI g (86 + 6 * dep + 3)) k v)) := FF_W (by omega) (WFr_I WFr_refl (by omega) (by omega))
          have R1 : WR (pI g (86 + 6 * dep + 3) (va_up (oI g (86 + 6 * dep + 3)) k v)) (86 + 6 * dep) A (va_up (va_up w (16 + k) v) 41 (nI (k + 1))) := WR_dec W2 kn R (by rw [up_ne (by omega), up_s]) fun i h1 h2 => by rw [up_ne (by omega), up_ne h1]
          obtain ⟨g2, e2, F2, Q2⟩ := ih (e + 207) dep (k + 1) _ (va_up (va_up w (16 + k) v) 41 (nI (k + 1))) (N * 100) x1 u1 (xk s8) (.val (.int (nI n))) (by omega) (FE_FF FF1 E) hs R1 (WB_41 W2 (by omega) (WB_16 W2 kn c0 hv e41 B)) (by rw [up_ne (by omega), up_ne (by omega)]; exact q) up_s (by rw [ud_41 W2]; omega) (by rw [ud_41 W2, up_ne (by omega), up_ne (by omega)]; omega) (by rw [ud_41 W2]; omega)
          refine ⟨g2, (pre.trans e1).trans e2, FF_trans FF1 F2, ?_⟩
          rw [Q2, ud_41 W2, show N * 100 * 100 ^ ud (sN A) (va_up w (16 + k) v) = N * 100 ^ ud (sN A) w by rw [← uv, Nat.pow_succ, Nat.mul_assoc, Nat.mul_comm 100]]
          exact (sBr_go W2 kn q (by rw [up_ne (by omega), up_ne (by omega)]; exact q) e41 up_s hd).symm
        obtain ⟨o1, o2, o3, o4, o5, o6, o7, o8, o9, o10, o11, o12, o13, o14, o15, o16⟩ := O
        have lm : lN N * 100 = lN (N * 100) := lN_mul N 100
        by_cases n0 : n = 0
        · subst n0
          have z1 : (nI 0 = nI 100) = False := eq_false (by decide)
          refine go (nI 1) (Or.inl rfl) (fun m => dN_0 qa (hn.trans nI_0)) ?_
          simp (disch := first | exact o1 | exact o9 | exact xix_8 o14 k8 (by omega) | omega) only [wX0_forks_71, wX0_forks_73, wX0_forks_75, wX0_forks_78, wX0_forks_80, wX0_forks_82, wX0_forks_84, wX0_forks_91, wX0_forks_92, wX0_forks_93, wX0_forks_95, wX0_forks_164, wX0_forks_166, wX0_forks_169, wX0_forks_170, wX0_forks_172, wX0_forks_175, if_true, if_false, ↓reduceIte, xpu_s, xpu_n, Option.bind_some, xk_i, xk_r, xk_0, xk_u, xk_l, xk_k, xk_q, rf_s, rf_n, q_e1, q_e2, Nat.zero_add, Nat.reduceEqDiff, Nat.reduceAdd, Nat.reduceMul, Nat.reduceSub, Nat.reduceLT, Nat.reduceLeDiff, Nat.reduceDiv, Nat.reduceMod, nI_c, nI_add, o4, z1, zlt_n, Nat.lt_irrefl, Nat.reduceLT, i_irr, lm]
        · by_cases n1 : n = 100
          · subst n1
            have z1 : (nI 0 < nI 100) = True := nI_gt0 (by omega) (by omega)
            refine go (nI 2) (Or.inr rfl) (fun m => dN_1 qa (by rw [hn]; exact nI_ne0 (by omega) (by omega)) hn) ?_
            simp (disch := first | exact o1 | exact o9 | exact xix_8 o14 k8 (by omega) | omega) only [wX0_forks_71, wX0_forks_73, wX0_forks_75, wX0_forks_78, wX0_forks_80, wX0_forks_82, wX0_forks_84, wX0_forks_87, wX0_forks_88, wX0_forks_92, wX0_forks_93, wX0_forks_95, wX0_forks_98, wX0_forks_100, wX0_forks_102, wX0_forks_164, wX0_forks_166, wX0_forks_169, wX0_forks_170, wX0_forks_172, wX0_forks_175, if_true, if_false, ↓reduceIte, xpu_s, xpu_n, Option.bind_some, xk_i, xk_r, xk_0, xk_u, xk_l, xk_k, xk_q, rf_s, rf_n, q_e1, q_e2, Nat.zero_add, Nat.reduceEqDiff, Nat.reduceAdd, Nat.reduceMul, Nat.reduceSub, Nat.reduceLT, Nat.reduceLeDiff, Nat.reduceDiv, Nat.reduceMod, nI_c, nI_add, o4, z1, zlt_n, Nat.lt_irrefl, Nat.reduceLT, i_irr, lm]
          · have q0 : ¬ sCh A w (-1) k = 0 := by rw [hn]; exact nI_ne0 (by omega) (by omega)
            have q1' : ¬ nI n = nI 100 := fun z => n1 (by
              have := congrArg Int32.toNatClampNeg z
              rwa [nI_clamp (by omega), nI_clamp (by omega)] at this)
            have q1 : ¬ sCh A w (-1) k = nI 100 := by rw [hn]; exact q1'
            have z1 : (nI n = nI 100) = False := eq_false q1'
            have z2 : (0 < n) = True := eq_true (by omega)
            have z3 : (n < 100) = True := eq_true (by omega)
            have u1' := ud_16 (v := nI 1) W2 kn c0 (Or.inl rfl)
            have u2' := ud_16 (v := nI 2) W2 kn c0 (Or.inr rfl)
            have hd9 : dep + 1 < 9 := by omega
            have FF1 : FF dep g (pI g (86 + 6 * dep + 3) (va_up (oI g (86 + 6 * dep + 3)) k (nI 1))) := FF_W (by omega) (WFr_I WFr_refl (by omega) (by omega))
            have R1 : WR (pI g (86 + 6 * dep + 3) (va_up (oI g (86 + 6 * dep + 3)) k (nI 1))) (86 + 6 * dep) A (va_up w (16 + k) (nI 1)) := WR_dec W2 kn R up_s fun i h1 h2 => by rw [up_ne h1]
            have hs1 : oR (pI g (86 + 6 * dep + 3) (va_up (oI g (86 + 6 * dep + 3)) k (nI 1))) (86 + 6 * dep) 5 = some c := hs
            have pa1 : PA (pI g (86 + 6 * dep + 3) (va_up (oI g (86 + 6 * dep + 3)) k (nI 1))) = PA g := rfl
            have step1 : E_ (e + 207) mX0_forks 71 [.val (.ref 64), .val (.int (nI dep)), .val (.int x1), .val (.long u1), .unset, .val (.ref (86 + 6 * dep)), .val (.long (lN N)), .unset, s8, .val (.int (nI k)), s10] [.int (nI n)] g = E_ (e + 207) mX0_forks 105 [.val (.ref 64), .val (.int (nI dep)), .val (.int x1), .val (.long u1), .unset, .val (.ref (86 + 6 * dep)), .val (.long (lN N)), .unset, s8, .val (.int (nI k)), .val (.int (nI n))] [] (pI g (86 + 6 * dep + 3) (va_up (oI g (86 + 6 * dep + 3)) k (nI 1))) := by
              simp (disch := first | exact o1 | exact o9 | exact xix_8 o14 k8 (by omega) | omega) only [wX0_forks_71, wX0_forks_73, wX0_forks_75, wX0_forks_78, wX0_forks_80, wX0_forks_82, wX0_forks_84, wX0_forks_91, wX0_forks_92, wX0_forks_93, wX0_forks_95, wX0_forks_98, wX0_forks_100, wX0_forks_102, if_true, if_false, ↓reduceIte, xpu_s, xpu_n, Option.bind_some, xk_i, xk_r, xk_0, xk_u, xk_l, xk_k, xk_q, rf_s, rf_n, q_e1, q_e2, Nat.zero_add, Nat.reduceEqDiff, Nat.reduceAdd, Nat.reduceMul, Nat.reduceSub, Nat.reduceLT, Nat.reduceLeDiff, Nat.reduceDiv, Nat.reduceMod, nI_c, o4, z1, zlt_n, nI_ltP, z2, z3]
            have E1 := FE_FF FF1 E
            generalize pI g (86 + 6 * dep + 3) (va_up (oI g (86 + 6 * dep + 3)) k (nI 1)) = g1 at *
            have Wd := E1.2.1 (dep + 1) hd9
            obtain ⟨g2, b1, b2, b3⟩ := kX3_be (d := e + 204) Wd (E1.2.1 dep (by omega)) hs1 E1.2.2.1 W2 (WI_16 W2 kn c0 (Or.inl rfl) B.1) R1 (by omega)
            have FF2 : FF dep g1 g2 := FF_trans (FF_5 hd9 (by omega)) (FF_up (FF_W hd9 b2))
            have E2 := FE_FF FF2 E1
            have hs2 : oR g2 (86 + 6 * (dep + 1)) 5 = some c := by
              rw [b2.2.2.2.1]; unfold hR5; rw [o_RR, if_pos rfl, up_s]
            have pa2 : PA g2 = PA g1 := by unfold PA; rw [b2.2.2.2.2.1]; rfl
            have R3 : WR (pI g2 (86 + 6 * (dep + 1) + 3) (va_up (oI g2 (86 + 6 * (dep + 1) + 3)) k (nI 2))) (86 + 6 * (dep + 1)) A (va_up (va_up w (16 + k) (nI 2)) 41 (nI (k + 1))) := WR_dec W2 kn b3 (by rw [up_ne (by omega), up_s]) fun i h1 h2 => by rw [up_ne (by omega), up_ne h1, up_ne h1]
            have FF3 : FF dep g2 (pI g2 (86 + 6 * (dep + 1) + 3) (va_up (oI g2 (86 + 6 * (dep + 1) + 3)) k (nI 2))) := FF_up (FF_W hd9 (WFr_I WFr_refl (by omega) (by omega)))
            have E3 := FE_FF FF3 E2
            obtain ⟨g4, r1, r2, r3⟩ := P4 (e + 206) (dep + 1) (k + 1) _ (va_up (va_up w (16 + k) (nI 2)) 41 (nI (k + 1))) (N * n) (nI (k + 1)) (lN (N * n)) .unset .unset E3 hs2 R3 (WB_41 W2 (by omega) (WB_16 W2 kn c0 (Or.inr rfl) e41 B)) up_s (by omega) (by rw [ud_41 W2]; omega) (by rw [ud_41 W2, up_ne (by omega), up_ne (by omega)]; omega) (by rw [ud_41 W2]; omega)
            have E4 := FE_FF (FF_up r2) E3
            have R4 : WR g4 (86 + 6 * dep) A (va_up (va_up w (16 + k) (nI 1)) 41 (nI (k + 1))) := WR_41 W2 (WR_at R1 fun a h1 h2 => by
              rw [r2.2.2.2.2.2.2 a (by omega), o_II, if_neg (by omega), b2.2.2.2.2.2 a (by omega)]
              rfl)
            have FF5 : FF dep g g4 := FF_trans (FF_trans (FF_trans FF1 FF2) FF3) (FF_up r2)
            have hs4 : oR g4 (86 + 6 * dep) 5 = some c := by rw [FF5.2.2.2.1 _ (fun k _ h2 => by omega)]; exact hs
            obtain ⟨g5, v1, v2, v3⟩ := P6 (e + 207) dep (k + 1) g4 (va_up (va_up w (16 + k) (nI 1)) 41 (nI (k + 1))) (N * (100 - n)) x1 u1 (xk s8) (.val (.int (nI n))) E4 hs4 R4 (WB_41 W2 (by omega) (WB_16 W2 kn c0 (Or.inl rfl) e41 B)) (by rw [up_ne (by omega), up_ne (by omega)]; exact q) up_s (by omega) (by rw [ud_41 W2]; omega) (by rw [ud_41 W2, up_ne (by omega), up_ne (by omega)]; omega) (by rw [ud_41 W2]; omega)
            have pa3 : PA (pI g2 (86 + 6 * (dep + 1) + 3) (va_up (oI g2 (86 + 6 * (dep + 1) + 3)) k (nI 2))) = PA g2 := rfl
            obtain ⟨-, y2, -, -, -, -, -, -, -, -, -, y12, y13, y14⟩ := E1.1
            obtain ⟨-, j2, -, -, -, -, -, -, -, -, -, j12, j13, j14⟩ := E2.1
            have y15 := y14 (dep + 1) hd9
            have j15 := j14 (dep + 1) hd9
            have T1 := E1.1.1
            have T2 := E2.1.1
            have T4 := E4.1.1
            have V1 := E2.2.1 (dep + 1) hd9
            have V9 := V1.2.2.2.2.2.2.2.2.1
            have V14 := V1.2.2.2.2.2.2.2.2.2.2.2.2.2.1
            have V4 := V1.2.2.2.1
            have V0 := V1.1
            have Wd0 := Wd.1
            have eW : lN N * (nI n).toInt64 = lN (N * n) := by rw [nI_l (by omega), lN_mul]
            have eV : lN N * (nI 100 - nI n).toInt64 = lN (N * (100 - n)) := by rw [pk_sub hn1, nI_l (by omega), lN_mul]
            generalize hg3 : pI g2 (86 + 6 * (dep + 1) + 3) (va_up (oI g2 (86 + 6 * (dep + 1) + 3)) k (nI 2)) = g3 at *
            obtain ⟨T3, i2, -, -, -, -, -, -, -, -, -, i12, i13, i14⟩ := E3.1
            have i15 := i14 (dep + 1) hd9
            have fc : C_ (e + 206) mX0_forks [.ref 64, .int (nI (dep + 1)), .int (nI (k + 1)), .long (lN (N * n))] g3 = some (none, g4) := by
              refine Eq.trans ?_ r1
              simp (disch := first | exact T3 | exact i12 | exact xix_8 i13 hd9 (by omega) | omega) only [wX0_forks_e, wX0_forks_0, wX0_forks_1, wX0_forks_4, wX0_forks_5, wX0_forks_6, wX0_forks_8, wX0_forks_9, wX0_forks_11, wX0_forks_12, if_true, if_false, ↓reduceIte, xpu_s, xpu_n, Option.bind_some, xk_i, xk_r, xk_0, xk_u, xk_l, xk_k, xk_q, rf_s, rf_n, q_e1, q_e2, Nat.zero_add, Nat.reduceEqDiff, Nat.reduceAdd, Nat.reduceMul, Nat.reduceSub, Nat.reduceLT, Nat.reduceLeDiff, Nat.reduceDiv, Nat.reduceMod, nI_c, i2, i15]
            have step2 : E_ (e + 207) mX0_forks 105 [.val (.ref 64), .val (.int (nI dep)), .val (.int x1), .val (.long u1), .unset, .val (.ref (86 + 6 * dep)), .val (.long (lN N)), .unset, s8, .val (.int (nI k)), .val (.int (nI n))] [] g1 = E_ (e + 207) mX0_forks 26 [.val (.ref 64), .val (.int (nI dep)), .val (.int x1), .val (.long u1), .unset, .val (.ref (86 + 6 * dep)), .val (.long (lN (N * (100 - n)))), .unset, xk s8, .val (.int (nI (k + 1))), .val (.int (nI n))] [] g4 := by
              simp (disch := first | exact T1 | exact T2 | exact T3 | exact T4 | exact y12 | exact j12 | exact Wd0 | exact V0 | exact V9 | exact xix_8 y13 hd9 (by omega) | exact xix_8 j13 hd9 (by omega) | exact xix_8 V14 k8 (by omega) | omega) only [wX0_forks_105, wX0_forks_106, wX0_forks_109, wX0_forks_110, wX0_forks_111, wX0_forks_112, wX0_forks_113, wX0_forks_115, wX0_forks_118, wX0_forks_119, wX0_forks_122, wX0_forks_123, wX0_forks_124, wX0_forks_125, wX0_forks_126, wX0_forks_129, wX0_forks_131, wX0_forks_132, wX0_forks_133, wX0_forks_134, wX0_forks_135, wX0_forks_136, wX0_forks_137, wX0_forks_139, wX0_forks_140, wX0_forks_141, wX0_forks_143, wX0_forks_145, wX0_forks_146, wX0_forks_147, wX0_forks_150, wX0_forks_152, wX0_forks_154, wX0_forks_156, wX0_forks_157, wX0_forks_158, wX0_forks_159, wX0_forks_161, wX0_forks_172, wX0_forks_175, if_true, if_false, ↓reduceIte, xpu_s, xpu_n, Option.bind_some, xk_i, xk_r, xk_0, xk_u, xk_l, xk_k, xk_q, rf_s, rf_n, q_e1, q_e2, Nat.zero_add, Nat.reduceEqDiff, Nat.reduceAdd, Nat.reduceMul, Nat.reduceSub, Nat.reduceLT, Nat.reduceLeDiff, Nat.reduceDiv, Nat.reduceMod, nI_c, nI_add, y2, y15, j2, j15, b1, V4, hg3, fc, eW, eV]
            refine ⟨g5, ((pre.trans step1).trans step2).trans v1, FF_trans FF5 v2, ?_⟩
            rw [v3, r3, pa3, pa2, pa1, ud_41 W2, ud_41 W2, sBr_41 (by omega) W2 kn q e41 (Or.inl rfl), sBr_41 (by omega) W2 kn q e41 (Or.inr rfl), sBr_s q (by rw [e41, nI_clamp (by omega), show sN A - k = m + 1 by omega]; exact dN_s qa q0 q1) hn hn1]
            have h1 : N * 100 ^ ud (sN A) w / 100 * (100 - n) = N * (100 - n) * 100 ^ ud (sN A) (va_up w (16 + k) (nI 1)) := by rw [← u1', pw_100]
            have h2 : N * 100 ^ ud (sN A) w / 100 * n = N * n * 100 ^ ud (sN A) (va_up w (16 + k) (nI 2)) := by rw [← u2', pw_100]
            rw [h1, h2]
      · have qf : sAs A w k = false := by
          cases z : sAs A w k
          · rfl
          · exact absurd z qa
        rw [qf] at AS
        obtain ⟨g2, e2, F2, Q2⟩ := ih (e + 207) dep (k + 1) g (va_up w 41 (nI (k + 1))) N x1 u1 (xk s8) s10 (by omega) E hs (WR_41 W2 R) (WB_41 W2 (by omega) B) (by rw [up_ne (by omega)]; exact q) up_s (by rw [ud_41 W2]; exact hl) (by rw [ud_41 W2, up_ne (by omega)]; exact hf) (by rw [ud_41 W2]; exact hD)
        refine ⟨g2, (wX0_forks_26.trans ?_).trans e2, F2, ?_⟩
        · simp (disch := first | assumption | exact nI_ne0 (by decide) (by decide) | exact zb_01 | exact Or.inl rfl | exact Or.inr rfl | with_unfolding_all exact id (by assumption) | with_unfolding_all exact id (xix_8 (by assumption) (by omega) (by omega)) | omega) only [wX0_forks_28, wX0_forks_30, wX0_forks_33, wX0_forks_36, wX0_forks_38, wX0_forks_40, wX0_forks_43, wX0_forks_46, wX0_forks_172, wX0_forks_175, if_true, if_false, ↓reduceIte, xpu_s, xpu_n, Option.bind_some, xk_i, xk_r, xk_0, xk_u, xk_l, xk_k, xk_q, rf_s, rf_n, q_e1, q_e2, Nat.zero_add, Nat.reduceEqDiff, Nat.reduceAdd, Nat.reduceMul, Nat.reduceSub, Nat.reduceLT, Nat.reduceLeDiff, Nat.reduceDiv, Nat.reduceMod, nI_add, M, nI_ltP, kn, AS, zb_f]
        · rw [Q2, ud_41 W2]
          exact (sBr_go W2 kn q (by rw [up_ne (by omega)]; exact q) e41 up_s fun _ => dN_skip qa).symm
  intro D dep k g w N x1 u1 s8 s10 E hs R B q e41 hk hl hf hD
  exact key (sN A - k) D dep k g w N x1 u1 s8 s10 (by omega) E hs R B q e41 hl hf hD
