/-! TEXTS: a law's lines on both sides -/
section
variable {d e : Nat} {h h1 h2 h3 h4 : xH} {P : sS} {X o l n p b k v c j i op lo hi m w a u cd cd0 cd1 cd' : Nat} {t : Nat → Nat} {f g A B A1 A' : rI} {x x1 x' : sX} {L L' L1 L2 : Nat × Nat × Nat × Nat} {y1 y2 : Int32} {s1 s2 : Slot}
/-- a law's numbers so far -/
def WN (A : rI) (m cd : Nat) : Prop := A 40 = nI m ∧ m ≤ 12 ∧ ∀ k, k < m → (∃ x, A (41 + k) = nI x ∧ x ≤ 100) ∧ A (53 + k) = nI (sFm A k) ∧ A (65 + k) = nI (sTo A k) ∧ sFm A k ≤ sTo A k ∧ sTo A k ≤ cd
theorem WN_n (W : WN A m cd) : sNl A = m := by
  unfold sNl
  rw [W.1]
  exact nI_clamp (by have := W.2.1; omega)
theorem llE_at (e : ∀ k, k < 77 → A' k = llB A m v cd k) (hm : m < 12) : (∀ k, k < 77 → ¬ k = 40 → ¬ k = 41 + m → ¬ k = 53 + m → ¬ k = 65 + m → llE A' m cd' k = A k) ∧ llE A' m cd' 40 = nI (m + 1) ∧ llE A' m cd' (41 + m) = nI v ∧ llE A' m cd' (53 + m) = nI cd ∧ llE A' m cd' (65 + m) = nI cd' := by
  unfold llE
  refine ⟨fun k h1 h2 h3 h4 h5 => ?_, up_s, ?_, ?_, ?_⟩
  · rw [up_ne h2, up_ne h5, e k h1]
    unfold llB
    rw [up_ne h4, up_ne h3]
  · rw [up_ne (by omega), up_ne (by omega), e _ (by omega)]
    unfold llB
    rw [up_ne (by omega), up_s]
  · rw [up_ne (by omega), up_ne (by omega), e _ (by omega)]
    unfold llB
    rw [up_s]
  · rw [up_ne (by omega), up_s]
theorem llE_hi (hk : 77 ≤ k) (hm : m < 12) : llE A' m cd' k = A' k := by
  unfold llE
  rw [up_ne (by omega), up_ne (by omega)]
theorem WN_up (W : WN A m cd) (hm : m < 12) (hv : v ≤ 100) (hc : cd ≤ cd') (h200 : cd' ≤ 200) (e : ∀ k, k < 77 → A' k = llB A m v cd k) : WN (llE A' m cd') (m + 1) cd' ∧ (∀ k, k < m → sFm (llE A' m cd') k = sFm A k ∧ sTo (llE A' m cd') k = sTo A k ∧ llE A' m cd' (41 + k) = A (41 + k)) ∧ sFm (llE A' m cd') m = cd ∧ sTo (llE A' m cd') m = cd' := by
  obtain ⟨w1, w2, w3⟩ := W
  obtain ⟨q1, q2, q3, q4, q5⟩ := llE_at (cd' := cd') e hm
  have e1 : ∀ k, k < m → sFm (llE A' m cd') k = sFm A k := fun k hk => by
    unfold sFm
    rw [q1 (53 + k) (by omega) (by omega) (by omega) (by omega) (by omega)]
  have e2 : ∀ k, k < m → sTo (llE A' m cd') k = sTo A k := fun k hk => by
    unfold sTo
    rw [q1 (65 + k) (by omega) (by omega) (by omega) (by omega) (by omega)]
  have e3 : sFm (llE A' m cd') m = cd := by
    unfold sFm
    rw [q4]
    exact nI_clamp (by omega)
  have e4 : sTo (llE A' m cd') m = cd' := by
    unfold sTo
    rw [q5]
    exact nI_clamp (by omega)
  refine ⟨⟨q2, by omega, fun k hk => ?_⟩, fun k hk => ⟨e1 k hk, e2 k hk, q1 (41 + k) (by omega) (by omega) (by omega) (by omega) (by omega)⟩, e3, e4⟩
  by_cases y : k = m
  · subst y
    rw [e3, e4]
    exact ⟨⟨v, q3, hv⟩, q4, q5, hc, Nat.le_refl _⟩
  · obtain ⟨v1, v2, v3, v4, v5⟩ := w3 k (by omega)
    rw [e1 k (by omega), e2 k (by omega), q1 (41 + k) (by omega) (by omega) (by omega) (by omega) (by omega), q1 (53 + k) (by omega) (by omega) (by omega) (by omega) (by omega), q1 (65 + k) (by omega) (by omega) (by omega) (by omega) (by omega)]
    exact ⟨v1, v2, v3, v4, by omega⟩
/-- a line, the component -/
def JL (d : Nat) (X o l : Nat) (t : Nat → Nat) (n : Nat) (L : Nat × Nat × Nat × Nat) (A : rI) (x' : sX) (A' : rI) : Prop := ∀ h s1 s2, CT h o n t 0 (.inr L) → X ≤ oX h → X ≤ o → LK h X o l A → ∃ h1 s1' s2', E_ d mX6_law 4 [.val (.ref o), s1, s2] [] h = E_ d mX6_law 4 [.val (.ref o), s1', s2'] [] h1 ∧ CT h1 o n t 0 x' ∧ (∀ L', x' = .inr L' → LK h1 X o l A') ∧ GX (fun a => X ≤ a) h h1 (4 * (kb n x' - L.1)) (48 * (kb n x' - L.1))
theorem JL_i {q : Nat × Nat} (W : WN A m cd) (hk : ¬ L.2.2.1 = 34) (hq : ll2 t n m L = .inl q) : JL (d + 9) X o l t n L A (.inl q) A := fun h s1 s2 C hX ox K => by
  have ok := CT_ok C
  have en := WN_n W
  obtain ⟨h1, v, s2', e1, -, C1, G1⟩ := kX6_lw1 (d := d) (s1 := s1) (s2 := s2) C K W.1 W.2.1 hk
  rw [hq] at C1
  have K1 := LK_GO C G1 K
  obtain ⟨h2, r, e2, C2, G2⟩ := kX6_some_i (d := d) C1
  obtain ⟨h3, e3, C3, G3, -⟩ := kX6_lw2 (s2 := s2') (y1 := nI v) C1 K1 ox (Nat.le_trans hX G1.1.1) (by rw [en]; exact W.2.1) C2 G2 e2
  have l1 := ok.1
  have l2 := ok.2.1
  refine ⟨h3, _, _, e1.trans e3, C3, fun L' z => (by cases z), GX_le (GX_trans (GX_W G1.1 (fun a _ z => by omega)) G3 (fun _ _ z => z)) ?_ ?_⟩
  · show 0 + (1 + 2) ≤ 4 * (n + 1 - L.1)
    omega
  · show 0 + (2 + 42) ≤ 48 * (n + 1 - L.1)
    omega
theorem JL_r (W : WN A m cd) (hm : m < 12) (hk : ¬ L.2.2.1 = 34) (hq : ll2 t n m L = .inr L2) (J : JC (d + 8) mX6_some o t n 0 L2 cd x' A' cd') (P : JP t n L2 (llB A m (nbv 0 100 (ll0 t n m L)) cd) cd x' A' cd') (h2 : L.1 + 2 ≤ L2.1) (hv : nbv 0 100 (ll0 t n m L) ≤ 100) (h200 : ∀ L', x' = .inr L' → cd' ≤ 200) (hy : kb n x' ≤ kb n (ndx t n 31 x')) : JL (d + 9) X o l t n L A (ndx t n 31 x') (llE A' m cd') := fun h s1 s2 C hX ox K => by
  have ok := CT_ok C
  have en := WN_n W
  obtain ⟨h1, v, s2', e1, ev, C1, G1⟩ := kX6_lw1 (d := d) (s1 := s1) (s2 := s2) C K W.1 W.2.1 hk
  rw [hq] at C1
  have K1 := LK_GO C G1 K
  obtain ⟨h3, r, e2, C2, G2, F2⟩ := J h1 C1
  have K2 := LK_GO C1 G2 K1
  obtain ⟨h4, e3, C3, G3, r3, g3, li3, st3, X3, i3, q3⟩ := kX6_lw2 (s2 := s2') (y1 := nI v) C1 K1 ox (Nat.le_trans hX G1.1.1) (by rw [en]; exact W.2.1) C2 G2 e2
  obtain ⟨p1, p2, p3, p4⟩ := P
  refine ⟨h4, _, _, e1.trans e3, C3, fun L' z => ?_, GX_le (GX_trans (GX_W G1.1 (fun a _ z => by omega)) G3 (fun _ _ z => z)) (by omega) (by omega)⟩
  obtain ⟨Lt, zt⟩ := ndx_r z
  have hc := h200 Lt zt
  obtain ⟨r1, r2, r3', r4⟩ := p4 Lt zt
  obtain ⟨f, ef, F⟩ := F2 Lt zt
  have lo : ∀ k, k < 77 → A' k = llB A m (nbv 0 100 (ll0 t n m L)) cd k := fun k hk => r4 k (by omega)
  obtain ⟨W', w1, w2, w3⟩ := WN_up W hm hv (by omega) hc lo
  have en' := WN_n W'
  rw [en] at g3 li3 i3 q3
  have k2 := K.2.2.2.1
  have gl := g3.2.2.2
  refine ⟨r3, ⟨?_, fun k hk => ?_⟩, by rw [en']; exact g3, k2, X3⟩
  · rw [en']; exact g3.1
  · rw [en'] at hk
    by_cases y : k = m
    · subst y
      rw [i3, q3, w2, w3, ef]
      have er : rq h4 (li h4 l k) 1 = f := by unfold rq; rw [q3, ef]; rfl
      rw [er]
      refine ⟨gl k (by omega), ?_, rfl, FT_m st3 (FT_B (fun i h1 h2 => llE_hi (by omega) hm) (FU_200 F hc))⟩
      rw [ev, (llE_at (cd' := cd') lo hm).2.2.1]
    · have hk : k < m := by omega
      have K2' := K2.2.1.2 k (by rw [en]; exact hk)
      obtain ⟨v1, v2, v3, v4⟩ := K2'
      obtain ⟨u1, u2, u3⟩ := w1 k hk
      rw [li3 k hk, u1, u2, u3]
      have s3 := st3 (li h3 l k) (by omega) (by omega)
      rw [rq_m s3, s3.1, s3.2.2.1, s3.2.2.2.1]
      obtain ⟨-, -, -, w4, w5⟩ := W.2.2 k hk
      refine ⟨v1, v2, v3, FT_m st3 (FT_B (fun i h1 h2 => ?_) v4)⟩
      rw [llE_hi (by omega) hm, r4 i (by omega)]
      unfold llB
      rw [up_ne (by omega), up_ne (by omega)]
/-- a line on both sides -/
theorem TL_line (ht : ∀ j, j < n → t j < 256) (hn : n ≤ 400) (ok : LOK t n L) (hc : 2 * cd ≤ L.1) (W : WN A m cd) (hk : ¬ L.2.2.1 = 34) : ∃ x1 A1 m1 cd1, (L.1 < kb n x1 ∧ kb n x1 ≤ n + 1) ∧ (∀ L1, x1 = .inr L1 → LOK t n L1 ∧ 2 * cd1 ≤ L1.1 ∧ WN A1 m1 cd1) ∧ JM (d + 45) mX5_readLaw t n 0 L A cd x1 A1 cd1 ∧ JL (d + 45) X o l t n L A x1 A1 := by
  have b1 := ok.1
  have b2 := ok.2.1
  rcases sX_inr (ll2 t n m L) with ⟨q, eq⟩ | ⟨L2, eq⟩
  · refine ⟨.inl q, A, m, cd, ⟨by show L.1 < n + 1; omega, Nat.le_refl _⟩, fun L1 z => (by cases z), ?_, JL_i (d := d + 36) W hk eq⟩
    rcases sX_inr (ll0 t n m L) with ⟨q0, e0⟩ | ⟨L0, e0⟩
    · have eq2 : q = q0 := by
        unfold ll2 at eq
        rw [nbx_i e0, ndx_i rfl] at eq
        cases eq
        rfl
      subst eq2
      exact JM_lw0 (d := d + 40) W.1 W.2.1 e0
    · have h17 : L.2.2.1 = 17 := by
        by_cases z : L.2.2.1 = 17
        · exact z
        · unfold ll0 at e0
          rw [if_neg z] at e0
          cases e0
      have hm : m < 12 := by
        have := W.2.1
        by_cases z : m = 12
        · unfold ll0 at e0
          rw [if_pos h17, decide_eq_true z] at e0
          cases e0
        · omega
      exact JM_lw1 (d := d + 40) W.1 hm h17 eq
  · have eq' := eq
    unfold ll2 at eq'
    obtain ⟨L1, e1⟩ := ndx_r eq'
    obtain ⟨L0, e0⟩ := nbx_r e1
    have h17 : L.2.2.1 = 17 := by
      by_cases z : L.2.2.1 = 17
      · exact z
      · unfold ll0 at e0
        rw [if_neg z] at e0
        cases e0
    have hm : m < 12 := by
      have := W.2.1
      by_cases z : m = 12
      · unfold ll0 at e0
        rw [if_pos h17, decide_eq_true z] at e0
        cases e0
      · omega
    obtain ⟨l1, l2, l3, l4⟩ := lx_2 ht ok
    have l3 := l3 (by omega)
    have o0 : ∀ L0, ll0 t n m L = .inr L0 → LOK t n L0 ∧ L.1 + 2 ≤ L0.1 := fun L0 z => by
      unfold ll0 at z
      rw [if_pos h17, decide_eq_false (by omega)] at z
      have z : (.inr (lx t n L.2.1) : sX) = .inr L0 := z
      cases z
      exact ⟨l1, l3⟩
    have o1 : ∀ L1, nbx t n 0 100 (ll0 t n m L) = .inr L1 → LOK t n L1 ∧ L.1 + 2 ≤ L1.1 := fun L1 z => nbx_ok ht o0 z
    have o2 := ndx_ok ht o1 eq'
    obtain ⟨x', A', cd', P, jm, jc⟩ := J_test (d := d) (o := o) (A := llB A m (nbv 0 100 (ll0 t n m L)) cd) ht hn o2.1 (cd := cd) (by omega)
    obtain ⟨p1, p2, p3, p4⟩ := id P
    have hv : nbv 0 100 (ll0 t n m L) ≤ 100 := (nbv_r (by omega) e1).2
    have h200 : ∀ L', x' = .inr L' → cd' ≤ 200 := fun L' z => by
      obtain ⟨r1, r2, r3, r4⟩ := p4 L' z
      have := r1.1
      have := r1.2.1
      omega
    have nd : ∀ L', ndx t n 31 x' = .inr L' → LOK t n L' ∧ kb n x' ≤ L'.1 := fun L' z => ndx_ok ht (c := kb n x') (fun L1 z1 => ⟨(p4 L1 z1).1, by subst z1; exact Nat.le_refl _⟩) z
    have kl : kb n x' ≤ kb n (ndx t n 31 x') ∧ kb n (ndx t n 31 x') ≤ n + 1 := by
      rcases sX_inr (ndx t n 31 x') with ⟨q, eq⟩ | ⟨L', eq⟩
      · rw [eq]; exact ⟨p2, Nat.le_refl _⟩
      · have := nd L' eq
        rw [eq]
        have a1 := this.1.1
        have a2 := this.1.2.1
        exact ⟨this.2, by show L'.1 ≤ n + 1; omega⟩
    have h2 := o2.2
    refine ⟨ndx t n 31 x', llE A' m cd', m + 1, cd', ⟨by omega, kl.2⟩, fun L1 z => ?_, JM_lw2 (d := d + 40) W.1 hm h17 eq jm (fun L4 z => ?_), JL_r (d := d + 36) W hm hk eq jc P h2 hv h200 kl.1⟩
    · obtain ⟨Lt, zt⟩ := ndx_r z
      obtain ⟨r1, r2, r3, r4⟩ := p4 Lt zt
      have q := nd L1 z
      have k1 : kb n x' = Lt.1 := by rw [zt]; rfl
      exact ⟨q.1, by omega, (WN_up W hm hv (by omega) (h200 Lt zt) (fun k hk => r4 k (by omega))).1⟩
    · obtain ⟨r1, r2, r3, r4⟩ := p4 L4 z
      rw [r4 40 (by omega)]
      unfold llB
      rw [up_ne (by omega), up_ne (by omega)]
      exact W.1
/-- all lines on both sides -/
theorem TL_all (ht : ∀ j, j < n → t j < 256) (hn : n ≤ 400) : ∀ u x A m cd, (∀ L, x = .inr L → LOK t n L ∧ 2 * cd ≤ L.1 ∧ n < L.1 + u ∧ WN A m cd) → ∃ x' A' m' cd', kb n x ≤ kb n x' ∧ kb n x' ≤ n + 1 ∧ (∀ L', x' = .inr L' → L'.2.2.1 = 34 ∧ WN A' m' cd' ∧ cd' ≤ 200) ∧ (∀ h (w : Int32), ML h n t x 0 A cd → ∃ h1, E_ (d + 46) mX5_text 84 [.val (.ref 150), .val (.int (nI 1)), .val (.int w), .unset, .unset, .unset] [] h = E_ (d + 46) mX5_text 118 [.val (.ref 150), .val (.int (nI 1)), .val (.int w), .unset, .unset, .unset] [] h1 ∧ ML h1 n t x' 0 A' cd' ∧ MD_ h h1) ∧ (∀ h s1 s2, CT h o n t 0 x → X ≤ oX h → X ≤ o → (∀ L, x = .inr L → LK h X o l A) → ∃ h1, E_ (d + 45) mX6_law 4 [.val (.ref o), s1, s2] [] h = some (none, h1) ∧ CT h1 o n t 0 x' ∧ (∀ L', x' = .inr L' → LK h1 X o l A') ∧ GX (fun a => X ≤ a) h h1 (4 * (kb n x' - kb n x)) (48 * (kb n x' - kb n x)))
  | u, .inl q, A, m, cd, G => by
    refine ⟨.inl q, A, m, cd, Nat.le_refl _, Nat.le_refl _, fun L' z => (by cases z), fun h w M => ?_, fun h s1 s2 C hX ox K => ?_⟩
    · have t1 : oT h 150 = 7 := mok_t M.1.1.1 rfl
      have f12 := MS_inl M.1
      refine ⟨h, ?_, M, MD_r⟩
      refine wX5_text_84.trans ?_
      simp (disch := first | assumption | exact nI_ne0 (by decide) (by decide) | exact zb_01 | exact Or.inl rfl | exact Or.inr rfl | with_unfolding_all exact id (by assumption) | with_unfolding_all exact id (xix_8 (by assumption) (by omega) (by omega)) | omega) only [wX5_text_85, wX5_text_88, if_true, if_false, ↓reduceIte, xpu_s, xpu_n, Option.bind_some, xk_i, xk_r, xk_0, xk_u, xk_l, xk_k, xk_q, rf_s, rf_n, q_e1, q_e2, Nat.zero_add, Nat.reduceEqDiff, Nat.reduceAdd, Nat.reduceMul, Nat.reduceSub, Nat.reduceLT, Nat.reduceLeDiff, Nat.reduceDiv, Nat.reduceMod, f12, not_true_eq_false, not_false_eq_true, and_self, and_true, true_and, and_false, false_and, or_true, true_or, or_false, false_or, decide_true, decide_false, zb_t, zb_f, zb_0, zb_1, eq_self]
    · have t8 := C.1.1.1
      have f8 := (CS_inl C.1).1
      refine ⟨h, ?_, C, fun L z => (by cases z), GX_le GX_refl (by omega) (by omega)⟩
      refine wX6_law_4.trans ?_
      simp (disch := first | assumption | exact nI_ne0 (by decide) (by decide) | exact zb_01 | exact Or.inl rfl | exact Or.inr rfl | with_unfolding_all exact id (by assumption) | with_unfolding_all exact id (xix_8 (by assumption) (by omega) (by omega)) | omega) only [wX6_law_e, wX6_law_0, wX6_law_0q, wX6_law_0n, wX6_law_1, wX6_law_5, wX6_law_8, wX6_law_11, wX6_law_11q, wX6_law_11n, wX6_law_12, wX6_law_15, wX6_law_18, wX6_law_18q, wX6_law_18n, wX6_law_19, wX6_law_21, wX6_law_24, wX6_law_27, wX6_law_27q, wX6_law_27n, wX6_law_28, wX6_law_29, wX6_law_32, wX6_law_32q, wX6_law_32n, wX6_law_33, wX6_law_36, wX6_law_39, wX6_law_39q, wX6_law_39n, wX6_law_40, wX6_law_40q, wX6_law_40n, wX6_law_41, wX6_law_44, wX6_law_47, wX6_law_49, wX6_law_52, wX6_law_53, wX6_law_56, wX6_law_57, wX6_law_60, wX6_law_60q, wX6_law_60n, wX6_law_61, wX6_law_62, wX6_law_64, wX6_law_67, wX6_law_68, wX6_law_68q, wX6_law_68n, wX6_law_69, wX6_law_71, wX6_law_74, wX6_law_77, wX6_law_77q, wX6_law_77n, wX6_law_78, wX6_law_79, wX6_law_82, wX6_law_82q, wX6_law_82n, wX6_law_83, wX6_law_86, wX6_law_86n, wX6_law_86q, wX6_law_87, wX6_law_87q, wX6_law_87n, wX6_law_88, wX6_law_91, wX6_law_91q, wX6_law_91n, wX6_law_92, wX6_law_95, wX6_law_98, wX6_law_99, wX6_law_100, wX6_law_100q, wX6_law_100n, wX6_law_101, wX6_law_104, wX6_law_107, wX6_law_108, wX6_law_111, if_true, if_false, ↓reduceIte, xpu_s, xpu_n, Option.bind_some, xk_i, xk_r, xk_0, xk_u, xk_l, xk_k, xk_q, rf_s, rf_n, q_e1, q_e2, Nat.zero_add, Nat.reduceEqDiff, Nat.reduceAdd, Nat.reduceMul, Nat.reduceSub, Nat.reduceLT, Nat.reduceLeDiff, Nat.reduceDiv, Nat.reduceMod, f8, not_true_eq_false, not_false_eq_true, and_self, and_true, true_and, and_false, false_and, or_true, true_or, or_false, false_or, decide_true, decide_false, zb_t, zb_f, zb_0, zb_1, eq_self]
  | 0, .inr L, A, m, cd, G => by
    obtain ⟨ok, -, g, -⟩ := G L rfl
    have := ok.1
    have := ok.2.1
    omega
  | u + 1, .inr L, A, m, cd, G => by
    obtain ⟨ok, hc, g, W⟩ := G L rfl
    have b1 := ok.1
    have b2 := ok.2.1
    by_cases hk : L.2.2.1 = 34
    · refine ⟨.inr L, A, m, cd, Nat.le_refl _, by show L.1 ≤ n + 1; omega, fun L' z => (by cases z; exact ⟨hk, W, by omega⟩), fun h w M => ?_, fun h s1 s2 C hX ox K => ?_⟩
      · have t1 : oT h 150 = 7 := mok_t M.1.1.1 rfl
        have f12 := MS_inr M.1
        have c10 := M.1.2.2.2.2.2.2.1
        have ek : (nI L.2.2.1 = nI 34) = True := by rw [hk]; exact eq_true rfl
        refine ⟨h, ?_, M, MD_r⟩
        refine wX5_text_84.trans ?_
        simp (disch := first | assumption | exact nI_ne0 (by decide) (by decide) | exact zb_01 | exact Or.inl rfl | exact Or.inr rfl | with_unfolding_all exact id (by assumption) | with_unfolding_all exact id (xix_8 (by assumption) (by omega) (by omega)) | omega) only [wX5_text_85, wX5_text_88, wX5_text_91, wX5_text_92, wX5_text_95, wX5_text_97, if_true, if_false, ↓reduceIte, xpu_s, xpu_n, Option.bind_some, xk_i, xk_r, xk_0, xk_u, xk_l, xk_k, xk_q, rf_s, rf_n, q_e1, q_e2, Nat.zero_add, Nat.reduceEqDiff, Nat.reduceAdd, Nat.reduceMul, Nat.reduceSub, Nat.reduceLT, Nat.reduceLeDiff, Nat.reduceDiv, Nat.reduceMod, f12, c10, ek, not_true_eq_false, not_false_eq_true, and_self, and_true, true_and, and_false, false_and, or_true, true_or, or_false, false_or, decide_true, decide_false, zb_t, zb_f, zb_0, zb_1, eq_self]
      · have t8 := C.1.1.1
        have f8 := (CS_inr C.1).1
        have c5 := C.1.2.2.2.2.2.2.2.1
        have z5 : (oI h o 5 = 0) = True := by rw [c5, hk]; exact eq_true nI_0
        refine ⟨h, ?_, C, fun L' z => (by cases z; exact K L rfl), GX_le GX_refl (by omega) (by omega)⟩
        refine wX6_law_4.trans ?_
        simp (disch := first | assumption | exact nI_ne0 (by decide) (by decide) | exact zb_01 | exact Or.inl rfl | exact Or.inr rfl | with_unfolding_all exact id (by assumption) | with_unfolding_all exact id (xix_8 (by assumption) (by omega) (by omega)) | omega) only [wX6_law_e, wX6_law_0, wX6_law_0q, wX6_law_0n, wX6_law_1, wX6_law_5, wX6_law_8, wX6_law_11, wX6_law_11q, wX6_law_11n, wX6_law_12, wX6_law_15, wX6_law_18, wX6_law_18q, wX6_law_18n, wX6_law_19, wX6_law_21, wX6_law_24, wX6_law_27, wX6_law_27q, wX6_law_27n, wX6_law_28, wX6_law_29, wX6_law_32, wX6_law_32q, wX6_law_32n, wX6_law_33, wX6_law_36, wX6_law_39, wX6_law_39q, wX6_law_39n, wX6_law_40, wX6_law_40q, wX6_law_40n, wX6_law_41, wX6_law_44, wX6_law_47, wX6_law_49, wX6_law_52, wX6_law_53, wX6_law_56, wX6_law_57, wX6_law_60, wX6_law_60q, wX6_law_60n, wX6_law_61, wX6_law_62, wX6_law_64, wX6_law_67, wX6_law_68, wX6_law_68q, wX6_law_68n, wX6_law_69, wX6_law_71, wX6_law_74, wX6_law_77, wX6_law_77q, wX6_law_77n, wX6_law_78, wX6_law_79, wX6_law_82, wX6_law_82q, wX6_law_82n, wX6_law_83, wX6_law_86, wX6_law_86n, wX6_law_86q, wX6_law_87, wX6_law_87q, wX6_law_87n, wX6_law_88, wX6_law_91, wX6_law_91q, wX6_law_91n, wX6_law_92, wX6_law_95, wX6_law_98, wX6_law_99, wX6_law_100, wX6_law_100q, wX6_law_100n, wX6_law_101, wX6_law_104, wX6_law_107, wX6_law_108, wX6_law_111, if_true, if_false, ↓reduceIte, xpu_s, xpu_n, Option.bind_some, xk_i, xk_r, xk_0, xk_u, xk_l, xk_k, xk_q, rf_s, rf_n, q_e1, q_e2, Nat.zero_add, Nat.reduceEqDiff, Nat.reduceAdd, Nat.reduceMul, Nat.reduceSub, Nat.reduceLT, Nat.reduceLeDiff, Nat.reduceDiv, Nat.reduceMod, f8, z5, not_true_eq_false, not_false_eq_true, and_self, and_true, true_and, and_false, false_and, or_true, true_or, or_false, false_or, decide_true, decide_false, zb_t, zb_f, zb_0, zb_1, eq_self]
    · obtain ⟨x1, A1, m1, cd1, ⟨q1, q2⟩, q3, jm, jl⟩ := TL_line (d := d) (X := X) (o := o) (l := l) ht hn ok hc W hk
      obtain ⟨x', A', m', cd', r1, r2, r3, r4, r5⟩ := TL_all ht hn u x1 A1 m1 cd1 (fun L1 z => by
        obtain ⟨z1, z2, z3⟩ := q3 L1 z
        have k1 : kb n x1 = L1.1 := by rw [z]; rfl
        exact ⟨z1, z2, by omega, z3⟩)
      have k0 : kb n (.inr L) = L.1 := rfl
      refine ⟨x', A', m', cd', by omega, r2, r3, fun h w M => ?_, fun h s1 s2 C hX ox K => ?_⟩
      · have t1 : oT h 150 = 7 := mok_t M.1.1.1 rfl
        have f12 := MS_inr M.1
        have c10 := M.1.2.2.2.2.2.2.1
        have b3 := ok.2.2.1
        have ek : (nI L.2.2.1 = nI 34) = False := by rw [nI_eqI (by omega) (by omega)]; exact eq_false hk
        obtain ⟨h1, e1, M1, G1⟩ := jm h M
        obtain ⟨h2, e2, M2, G2⟩ := r4 h1 w M1
        refine ⟨h2, Eq.trans ?_ e2, M2, MD_t G1 G2⟩
        refine wX5_text_84.trans ?_
        simp (disch := first | assumption | exact nI_ne0 (by decide) (by decide) | exact zb_01 | exact Or.inl rfl | exact Or.inr rfl | with_unfolding_all exact id (by assumption) | with_unfolding_all exact id (xix_8 (by assumption) (by omega) (by omega)) | omega) only [wX5_text_85, wX5_text_88, wX5_text_91, wX5_text_92, wX5_text_95, wX5_text_97, wX5_text_100, wX5_text_101, wX5_text_111, wX5_text_112, wX5_text_115, if_true, if_false, ↓reduceIte, xpu_s, xpu_n, Option.bind_some, xk_i, xk_r, xk_0, xk_u, xk_l, xk_k, xk_q, rf_s, rf_n, q_e1, q_e2, Nat.zero_add, Nat.reduceEqDiff, Nat.reduceAdd, Nat.reduceMul, Nat.reduceSub, Nat.reduceLT, Nat.reduceLeDiff, Nat.reduceDiv, Nat.reduceMod, f12, c10, ek, e1, nI_ne1, not_true_eq_false, not_false_eq_true, and_self, and_true, true_and, and_false, false_and, or_true, true_or, or_false, false_or, decide_true, decide_false, zb_t, zb_f, zb_0, zb_1, eq_self]
      · obtain ⟨h1, s1', s2', e1, C1, K1, G1⟩ := jl h s1 s2 C hX ox (K L rfl)
        obtain ⟨h2, e2, C2, K2, G2⟩ := r5 h1 s1' s2' C1 (Nat.le_trans hX G1.1) ox K1
        exact ⟨h2, e1.trans e2, C2, K2, GX_le (GX_trans G1 G2 (fun _ _ z => z)) (by omega) (by omega)⟩
end
