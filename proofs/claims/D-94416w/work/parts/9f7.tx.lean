/-! TEXTS: facts read on both sides -/
section
variable {d e : Nat} {h h1 h2 h3 : xH} {P : sS} {X o n p b k v c j i op lo hi m w a u cd cd0 cd1 cd' : Nat} {t : Nat → Nat} {f g A B A1 A' : rI} {x x1 x' : sX} {L L' : Nat × Nat × Nat × Nat} {y1 y2 : Int32} {q : Option Nat}
/-- what a fact's reading leaves of the numbers, how far it goes -/
def JP (t : Nat → Nat) (n : Nat) (L : Nat × Nat × Nat × Nat) (A : rI) (cd : Nat) (x' : sX) (A' : rI) (cd' : Nat) : Prop := L.1 < kb n x' ∧ kb n x' ≤ n + 1 ∧ cd ≤ cd' ∧ ∀ L', x' = .inr L' → LOK t n L' ∧ cd < cd' ∧ L.1 + 2 * (cd' - cd) ≤ L'.1 ∧ ∀ k, ¬ (77 + 2 * cd ≤ k ∧ k < 77 + 2 * cd') → A' k = A k
/-- so a loop's rest -/
def JQ (t : Nat → Nat) (n : Nat) (x : sX) (A : rI) (cd : Nat) (x' : sX) (A' : rI) (cd' : Nat) : Prop := kb n x ≤ kb n x' ∧ kb n x' ≤ n + 1 ∧ cd ≤ cd' ∧ ∀ L', x' = .inr L' → ∃ L, x = .inr L ∧ LOK t n L' ∧ L.1 + 2 * (cd' - cd) ≤ L'.1 ∧ ∀ k, ¬ (77 + 2 * cd ≤ k ∧ k < 77 + 2 * cd') → A' k = A k
def FJ (o : Nat) (t : Nat → Nat) (n u z : Nat) (m m' : xM) : Prop := ∀ L A cd op e e', LOK t n L → n < L.1 + u → 2 * cd ≤ L.1 → op ≤ 8 → z + 4 * (8 - op) ≤ e → z + 4 * (8 - op) ≤ e' → ∃ x' A' cd', JP t n L A cd x' A' cd' ∧ JM e m t n op L A cd x' A' cd' ∧ JC e' m' o t n op L cd x' A' cd'
theorem kw_2 : ∀ j, j < 29 → 2 ≤ (kw j).length := by decide
theorem wd_2 (ok : LOK t n L) (hk : L.2.2.1 < 29) : L.1 + 2 ≤ L.2.1 := by
  have q := key_is (t := t) (b := L.1) (e := L.2.1) (k := L.2.2.1) (j := L.2.2.1) hk (ok.2.2.2.1 (by omega))
  rw [decide_eq_true rfl] at q
  unfold seq_ at q
  rw [Bool.and_eq_true, decide_eq_true_iff] at q
  have := kw_2 _ hk
  have := ok.1
  omega
theorem lx_2 (ht : ∀ j, j < n → t j < 256) (ok : LOK t n L) : LOK t n (lx t n L.2.1) ∧ L.1 ≤ (lx t n L.2.1).1 ∧ (L.2.2.1 < 29 → L.1 + 2 ≤ (lx t n L.2.1).1) ∧ (¬ L.2.2.1 = 34 → L.1 + 1 ≤ (lx t n L.2.1).1) := by
  have l := lx_ok ok.2.1 ht
  have := l.2
  have := ok.1
  exact ⟨l.1, by omega, fun z => by have := wd_2 ok z; omega, fun z => by have := ok.2.2.2.2.2 z; omega⟩
theorem kb_le (ok : ∀ L, x = .inr L → LOK t n L) : kb n x ≤ n + 1 := by
  cases x with
  | inl q => exact Nat.le_refl _
  | inr L =>
    have := ok L rfl
    have a1 := this.1
    have a2 := this.2.1
    show L.1 ≤ n + 1
    omega
/-- where a number is wanted -/
theorem nbx_ok (ht : ∀ j, j < n → t j < 256) (ok : ∀ L, x = .inr L → LOK t n L ∧ c ≤ L.1) (z : nbx t n lo hi x = .inr L') : LOK t n L' ∧ c ≤ L'.1 := by
  cases x with
  | inl q => cases z
  | inr L =>
    obtain ⟨ok, hc⟩ := ok L rfl
    obtain ⟨l1, l2, -, -⟩ := lx_2 ht ok
    have z : (if L.2.2.1 = 30 then (if lo ≤ L.2.2.2 ∧ L.2.2.2 ≤ hi then .inr (lx t n L.2.1) else .inl (3, L.1)) else flx 2 (.inr L)) = (.inr L' : sX) := z
    split at z
    · split at z
      · cases z
        exact ⟨l1, by omega⟩
      · cases z
    · cases z
theorem ndx_ok (ht : ∀ j, j < n → t j < 256) (ok : ∀ L, x = .inr L → LOK t n L ∧ c ≤ L.1) (z : ndx t n j x = .inr L') : LOK t n L' ∧ c ≤ L'.1 := by
  cases x with
  | inl q => cases z
  | inr L =>
    obtain ⟨ok, hc⟩ := ok L rfl
    obtain ⟨l1, l2, -, -⟩ := lx_2 ht ok
    have z : (if L.2.2.1 = j then .inr (lx t n L.2.1) else flx 2 (.inr L)) = (.inr L' : sX) := z
    split at z
    · cases z
      exact ⟨l1, by omega⟩
    · cases z
theorem kb_gt (ok : ∀ L', x = .inr L' → LOK t n L' ∧ c < L'.1) (hc : c ≤ n) : c < kb n x ∧ kb n x ≤ n + 1 := by
  cases x with
  | inl q => exact ⟨by show c < n + 1; omega, Nat.le_refl _⟩
  | inr L =>
    obtain ⟨a, b⟩ := ok L rfl
    have := a.1
    have := a.2.1
    exact ⟨b, by show L.1 ≤ n + 1; omega⟩
theorem emA_o (hk : ¬ (77 + 2 * cd ≤ k ∧ k < 77 + 2 * (cd + 1))) : emA A cd y1 y2 k = A k := by
  unfold emA
  rw [up_ne (by omega), up_ne (by omega)]
theorem kX5_end (M : ML h n t (.inr L) op A cd) (hk : L.2.2.1 = 34) : ∃ h1, C_ (d + 3) mX5_readFact [.ref 150] h = some (none, h1) ∧ ML h1 n t (.inl (if L.2.2.1 = 35 then 1 else 2, L.1)) op A cd ∧ MD_ h h1 := by
  have M0 := M.1
  have H := M0.1.1
  have t1 : oT h 150 = 7 := mok_t H rfl
  have f12 := MS_inr M0
  obtain ⟨T, S3, c12, ok, c7, c8, c10, c11⟩ := id M0
  have e21 : (nI L.2.2.1 = nI 21) = False := by rw [hk]; exact eq_false (by decide)
  have e32 : (nI L.2.2.1 = nI 32) = False := by rw [hk]; exact eq_false (by decide)
  have e4 : (nI L.2.2.1 = nI 4) = False := by rw [hk]; exact eq_false (by decide)
  have W1 : wi (nI L.2.2.1) (nI 5) (nI 12) = false := by rw [hk]; decide
  have W2 : wi (nI L.2.2.1) (nI 22) (nI 28) = false := by rw [hk]; decide
  obtain ⟨h1, e1, M1, G1, k1⟩ := xM_fails (d := d + 2) M0 (c := 2) (by omega) (by omega)
  have g1 := MS_inl (q := (if L.2.2.1 = 35 then 1 else 2, L.1)) M1
  have p1 := (MF_x G1 H).1
  have N1 := ML_F M M1 G1 k1 fun _ _ => ⟨L, rfl⟩
  refine ⟨h1, ?_, ⟨M1, N1.2.1, fun L' z => by cases z⟩, MD_F G1⟩
  simp (disch := first | exact t1 | exact p1 | first | assumption | exact nI_ne0 (by decide) (by decide) | exact zb_01 | exact Or.inl rfl | exact Or.inr rfl | with_unfolding_all exact id (by assumption) | with_unfolding_all exact id (xix_8 (by assumption) (by omega) (by omega)) | omega) only [wX5_readFact_e, wX5_readFact_0, wX5_readFact_1, wX5_readFact_4, wX5_readFact_7, wX5_readFact_8, wX5_readFact_9, wX5_readFact_12, wX5_readFact_13, wX5_readFact_14, wX5_readFact_16, wX5_readFact_19, wX5_readFact_20, wX5_readFact_22, wX5_readFact_25, wX5_readFact_26, wX5_readFact_29, wX5_readFact_31, wX5_readFact_34, wX5_readFact_35, wX5_readFact_36, wX5_readFact_39, wX5_readFact_40, wX5_readFact_43, wX5_readFact_46, wX5_readFact_47, wX5_readFact_48, wX5_readFact_51, wX5_readFact_52, wX5_readFact_53, wX5_readFact_56, wX5_readFact_57, wX5_readFact_58, wX5_readFact_61, wX5_readFact_62, wX5_readFact_64, wX5_readFact_67, wX5_readFact_68, wX5_readFact_71, wX5_readFact_74, wX5_readFact_75, wX5_readFact_78, wX5_readFact_79, wX5_readFact_80, wX5_readFact_83, wX5_readFact_84, wX5_readFact_85, wX5_readFact_88, wX5_readFact_89, wX5_readFact_91, wX5_readFact_94, wX5_readFact_95, wX5_readFact_97, wX5_readFact_100, wX5_readFact_103, wX5_readFact_104, wX5_readFact_107, wX5_readFact_110, wX5_readFact_111, wX5_readFact_113, wX5_readFact_114, wX5_readFact_117, wX5_readFact_118, wX5_readFact_119, wX5_readFact_120, wX5_readFact_123, wX5_readFact_124, wX5_readFact_125, wX5_readFact_128, wX5_readFact_131, wX5_readFact_134, wX5_readFact_137, wX5_readFact_138, wX5_readFact_139, wX5_readFact_142, wX5_readFact_145, wX5_readFact_148, wX5_readFact_151, wX5_readFact_152, wX5_readFact_153, wX5_readFact_156, wX5_readFact_157, wX5_readFact_160, wX5_readFact_163, wX5_readFact_164, wX5_readFact_165, wX5_readFact_168, wX5_readFact_169, wX5_readFact_170, wX5_readFact_173, wX5_readFact_174, wX5_readFact_175, wX5_readFact_178, wX5_readFact_181, wX5_readFact_184, wX5_readFact_187, wX5_readFact_188, wX5_readFact_189, wX5_readFact_192, wX5_readFact_195, wX5_readFact_198, wX5_readFact_199, wX5_readFact_200, wX5_readFact_201, wX5_readFact_204, wX5_readFact_207, wX5_readFact_208, wX5_readFact_209, wX5_readFact_210, wX5_readFact_213, if_true, if_false, ↓reduceIte, xpu_s, xpu_n, Option.bind_some, xk_i, xk_r, xk_0, xk_u, xk_l, xk_k, xk_q, rf_s, rf_n, q_e1, q_e2, Nat.zero_add, Nat.reduceEqDiff, Nat.reduceAdd, Nat.reduceMul, Nat.reduceSub, Nat.reduceLT, Nat.reduceLeDiff, Nat.reduceDiv, Nat.reduceMod, kX5_within, l6a_0, l6b_0, l6a_1, l6b_1, l6a_2, l6b_2, l6a_3, l6b_3, l6a_4, l6b_4, l6a_5, l6b_5, l6a_7, l6b_7, l6a_20, l6b_20, l6a_30, l6b_30, l6a_39, l6b_39, l6a_40, l6b_40, l6a_60, l6b_60, l6a_99, l6b_99, l6a_100, l6b_100, l6a_200, l6b_200, l6a_300, l6b_300, l6a_600, l6b_600, l6a_999, l6b_999, l6a_1000, l6b_1000, l6a_9999, l6b_9999, l6a_1000000, l6b_1000000, l6a_12, l6b_12, l64_xx, wi_d, one_ne0, zb_0, l6a_22, l6b_28, l6b_24, f12, c10, e21, e32, e4, W1, W2, e1, g1, not_true_eq_false, not_false_eq_true, and_self, and_true, true_and, and_false, false_and, or_true, true_or, or_false, false_or, decide_true, decide_false, zb_t, zb_f, zb_0, zb_1, eq_self]
theorem JM_end (hk : L.2.2.1 = 34) : JM (d + 3) mX5_readFact t n op L A cd (.inl (if L.2.2.1 = 35 then 1 else 2, L.1)) A cd := fun _ M => kX5_end M hk
theorem JC_i {q : Nat × Nat} {m : xM} (J : JC e m o t n op L cd (.inl q) B i) : JC e m o t n op L cd (.inl q) A j := fun h C => by
  obtain ⟨h1, q1, e1, C1, G1, -⟩ := J h C
  exact ⟨h1, q1, e1, C1, G1, fun L' z => by cases z⟩
theorem FJ_f (ht : ∀ j, j < n → t j < 256) (hn : n ≤ 400) (F : FJ o t n u 10 mX5_readFact mX6_fact) (S : FJ o t n u 12 mX5_readTest mX6_some) : FJ o t n (u + 1) 10 mX5_readFact mX6_fact := fun L A cd op e e' ok hu hc hop he he' => by
  have b1 := ok.1
  have b2 := ok.2.1
  obtain ⟨l1, l2, l3, l4⟩ := lx_2 ht ok
  obtain ⟨d, rfl⟩ : ∃ d, e = d + 4 := ⟨e - 4, by omega⟩
  obtain ⟨d', rfl⟩ : ∃ d, e' = d + 6 := ⟨e' - 6, by omega⟩
  by_cases k1 : L.2.2.1 = 21 ∨ L.2.2.1 = 32
  · by_cases h8 : op = 8
    · exact ⟨flx 5 (.inr L), A, cd, ⟨by show L.1 < n + 1; omega, Nat.le_refl _, Nat.le_refl _, fun L' z => by cases z⟩, JM_deep k1 h8, JC_deep k1 h8⟩
    · have l4 := l4 (by omega)
      rcases k1 with k1 | k1
      · have l3 := l3 (by omega)
        obtain ⟨x', A', cd', ⟨p1, p2, p3, p4⟩, jm, jc⟩ := F (lx t n L.2.1) A cd (op + 1) (d + 3) (d' + 5) l1 (by omega) (by omega) (by omega) (by omega) (by omega)
        refine ⟨x', emA A' cd' (nI 21) (nI 0), cd' + 1, ⟨by omega, p2, by omega, fun L' z => ?_⟩, JM_not k1 (by omega) jm fun L' z => ?_, JC_not k1 (by omega) jc p1 p3⟩
        · obtain ⟨r1, r2, r3, r4⟩ := p4 L' z
          refine ⟨r1, by omega, by omega, fun k hk => ?_⟩
          rw [emA_o (by omega)]
          exact r4 k (by omega)
        · obtain ⟨r1, r2, r3, r4⟩ := p4 L' z
          have := r1.1
          have := r1.2.1
          omega
      · obtain ⟨x1, A', cd', ⟨p1, p2, p3, p4⟩, jm, jc⟩ := S (lx t n L.2.1) A cd (op + 1) (d + 3) (d' + 5) l1 (by omega) (by omega) (by omega) (by omega) (by omega)
        have nd : ∀ L', ndx t n 33 x1 = .inr L' → LOK t n L' ∧ kb n x1 ≤ L'.1 := fun L' z => ndx_ok ht (c := kb n x1) (fun L1 z1 => ⟨(p4 L1 z1).1, by subst z1; exact Nat.le_refl _⟩) z
        have kl : kb n x1 ≤ kb n (ndx t n 33 x1) ∧ kb n (ndx t n 33 x1) ≤ n + 1 := by
          rcases sX_inr (ndx t n 33 x1) with ⟨q, eq⟩ | ⟨L', eq⟩
          · rw [eq]; exact ⟨p2, Nat.le_refl _⟩
          · have := nd L' eq
            rw [eq]
            have a1 := this.1.1
            have a2 := this.1.2.1
            exact ⟨this.2, by show L'.1 ≤ n + 1; omega⟩
        refine ⟨ndx t n 33 x1, A', cd', ⟨by omega, kl.2, p3, fun L' z => ?_⟩, JM_par k1 (by omega) jm, JC_par k1 (by omega) jc p1 kl.1⟩
        obtain ⟨L1, z1⟩ := ndx_r z
        obtain ⟨r1, r2, r3, r4⟩ := p4 L1 z1
        have q := nd L' z
        have k1 : kb n x1 = L1.1 := by rw [z1]; rfl
        exact ⟨q.1, r2, by omega, r4⟩
  · have h21 : ¬ L.2.2.1 = 21 := fun z => k1 (Or.inl z)
    have h32 : ¬ L.2.2.1 = 32 := fun z => k1 (Or.inr z)
    -- what comes behind
    have ok' : ∀ L', lfx t n L = .inr L' → LOK t n L' ∧ L.1 + 2 ≤ L'.1 := fun L' z => by
      unfold lfx at z
      cases q1 : lfn L.2.2.1 with
      | true =>
        have k2 : L.2.2.1 = 4 ∨ (22 ≤ L.2.2.1 ∧ L.2.2.1 ≤ 24) := of_decide_eq_true q1
        have l3 := l3 (by omega)
        rw [q1] at z
        exact nbx_ok ht (x := .inr (lx t n L.2.1)) (fun L2 z2 => by cases z2; exact ⟨l1, l3⟩) z
      | false =>
        cases q2 : lfk L.2.2.1 with
        | true =>
          have k2 : (5 ≤ L.2.2.1 ∧ L.2.2.1 ≤ 12) ∨ (25 ≤ L.2.2.1 ∧ L.2.2.1 ≤ 28) := of_decide_eq_true q2
          have l3 := l3 (by omega)
          rw [q1, q2] at z
          have z : (.inr (lx t n L.2.1) : sX) = .inr L' := z
          cases z
          exact ⟨l1, l3⟩
        | false =>
          rw [q1, q2] at z
          have z : flx 2 (.inr L) = .inr L' := z
          cases z
    have kg := kb_gt (n := n) (x := lfx t n L) (c := L.1) (fun L' z => ⟨(ok' L' z).1, by have := (ok' L' z).2; omega⟩) (by omega)
    by_cases hc2 : cd < 200
    · refine ⟨lfx t n L, emA A cd (nI L.2.2.1) (nI (lfv t n L)), cd + 1, ⟨kg.1, kg.2, by omega, fun L' z => ?_⟩, JM_leaf (d := d + 1) hc2 h21 h32, JC_leaf h21 h32 kg.1⟩
      have q := ok' L' z
      exact ⟨q.1, by omega, by omega, fun k hk => emA_o hk⟩
    · have k34 : L.2.2.1 = 34 := by
        by_cases z : L.2.2.1 = 34
        · exact z
        · have := ok.2.2.2.2.2 z
          omega
      have el : lfx t n L = .inl (if L.2.2.1 = 35 then 1 else 2, L.1) := by
        show (bif lfn L.2.2.1 then _ else bif lfk L.2.2.1 then _ else Sum.inl (if L.2.2.1 = 35 then 1 else 2, L.1)) = _
        rw [k34]
        rfl
      have jc := JC_leaf (d := d') (o := o) (op := op) (A := A) (cd := cd) h21 h32 kg.1
      rw [el] at jc kg
      exact ⟨_, A, cd, ⟨kg.1, kg.2, Nat.le_refl _, fun L' z => by cases z⟩, JM_end (d := d + 1) k34, JC_i jc⟩

theorem LQ_p {e : Nat} (ht : ∀ j, j < n → t j < 256) (hn : n ≤ 400) (F : FJ o t n u 10 mX5_readFact mX6_fact) (hop : op ≤ 8) (he : 10 + 1 + 4 * (8 - op) ≤ e) {e' : Nat} (he' : 10 + 1 + 4 * (8 - op) ≤ e') : ∀ v x A cd, (∀ L, x = .inr L → LOK t n L ∧ 2 * cd ≤ L.1 ∧ n < L.1 + u) → n + 1 < kb n x + v → ∃ x' A' cd', JQ t n x A cd x' A' cd' ∧ JN e mX5_readPart t n op x A cd x' A' cd' ∧ ∀ cd0, cd0 ≤ cd → JK e' mX6_all o t n op x A cd0 cd x' A' cd'
  | 0, x, A, cd, ok, hv => by
    have := kb_le (n := n) (t := t) (x := x) (fun L z => (ok L z).1)
    omega
  | v + 1, x, A, cd, ok, hv => by
    obtain ⟨d, rfl⟩ : ∃ d, e = d + 3 := ⟨e - 3, by omega⟩
    obtain ⟨d', rfl⟩ : ∃ d, e' = d + 5 := ⟨e' - 5, by omega⟩
    cases hx : isx 20 x with
    | false => exact ⟨x, A, cd, ⟨Nat.le_refl _, kb_le (t := t) fun L z => (ok L z).1, Nat.le_refl _, fun L' z => ⟨L', z, (ok L' z).1, by omega, fun _ _ => rfl⟩⟩, JN_p0 hx, fun cd0 _ => JK_p0 hx⟩
    | true =>
      rcases sX_inr x with ⟨q, eq⟩ | ⟨L, eq⟩
      · subst eq; cases hx
      · subst eq
        have hk : L.2.2.1 = 20 := of_decide_eq_true hx
        obtain ⟨ok1, ok2, ok3⟩ := ok L rfl
        obtain ⟨l1, l2, l3, l4⟩ := lx_2 ht ok1
        have l3 := l3 (by omega)
        have ekb : kb n (.inr L) = L.1 := rfl
        obtain ⟨x1, A1, cd1, ⟨p1, p2, p3, p4⟩, jm, jc⟩ := F (lx t n L.2.1) A cd op (d + 2) (d' + 4) l1 (by omega) (by omega) hop (by omega) (by omega)
        have ok' : ∀ L1, x1 = .inr L1 → LOK t n L1 ∧ 2 * (cd1 + 1) ≤ L1.1 ∧ n < L1.1 + u := fun L1 z => by
          obtain ⟨r1, r2, r3, r4⟩ := p4 L1 z
          exact ⟨r1, by omega, by omega⟩
        obtain ⟨x', A', cd', ⟨q1, q2, q3, q4⟩, jn, jk⟩ := LQ_p ht hn F hop he he' v x1 (emA A1 cd1 (nI 20) (nI 0)) (cd1 + 1) ok' (by omega)
        refine ⟨x', A', cd', ⟨by omega, q2, by omega, fun L' z => ?_⟩, JN_p1 hk jm (fun L1 z => ?_) jn, fun cd0 h0 => JK_p1 hk jc h0 (fun L1 z => ?_) p1 q1 (jk cd0 (by omega))⟩
        · obtain ⟨L1, z1, r1, r2, r3⟩ := q4 L' z
          obtain ⟨s1, s2, s3, s4⟩ := p4 L1 z1
          refine ⟨L, rfl, r1, by omega, fun k hk => ?_⟩
          rw [r3 k (by omega), emA_o (by omega)]
          exact s4 k (by omega)
        · have := ok' L1 z
          have a1 := this.1.1
          have a2 := this.1.2.1
          omega
        · obtain ⟨s1, s2, s3, s4⟩ := p4 L1 z
          exact ⟨p3, fun k k1 k2 => s4 k (by omega)⟩
theorem FJ_p (ht : ∀ j, j < n → t j < 256) (hn : n ≤ 400) (F : FJ o t n u 10 mX5_readFact mX6_fact) : FJ o t n u (10 + 1) mX5_readPart mX6_all := fun L A cd op e e' ok hu hc hop he he' => by
  obtain ⟨d, rfl⟩ : ∃ d, e = d + 3 := ⟨e - 3, by omega⟩
  obtain ⟨d', rfl⟩ : ∃ d, e' = d + 5 := ⟨e' - 5, by omega⟩
  obtain ⟨x1, A1, cd1, ⟨p1, p2, p3, p4⟩, jm, jc⟩ := F L A cd op (d + 2) (d' + 4) ok hu hc hop (by omega) (by omega)
  have ok' : ∀ L1, x1 = .inr L1 → LOK t n L1 ∧ 2 * cd1 ≤ L1.1 ∧ n < L1.1 + u := fun L1 z => by
    obtain ⟨r1, r2, r3, r4⟩ := p4 L1 z
    exact ⟨r1, by omega, by omega⟩
  obtain ⟨x', A', cd', ⟨q1, q2, q3, q4⟩, jn, jk⟩ := LQ_p ht hn F hop he he' (n + 2) x1 A1 cd1 ok' (by omega)
  refine ⟨x', A', cd', ⟨by omega, q2, by omega, fun L' z => ?_⟩, JM_p jm jn, JC_p jc (jk cd p3) p1 q1⟩
  obtain ⟨L1, z1, r1, r2, r3⟩ := q4 L' z
  obtain ⟨s1, s2, s3, s4⟩ := p4 L1 z1
  refine ⟨r1, by omega, by omega, fun k hk => ?_⟩
  rw [r3 k (by omega)]
  exact s4 k (by omega)

theorem LQ_q {e : Nat} (ht : ∀ j, j < n → t j < 256) (hn : n ≤ 400) (F : FJ o t n u 11 mX5_readPart mX6_all) (hop : op ≤ 8) (he : 11 + 1 + 4 * (8 - op) ≤ e) {e' : Nat} (he' : 11 + 1 + 4 * (8 - op) ≤ e') : ∀ v x A cd, (∀ L, x = .inr L → LOK t n L ∧ 2 * cd ≤ L.1 ∧ n < L.1 + u) → n + 1 < kb n x + v → ∃ x' A' cd', JQ t n x A cd x' A' cd' ∧ JN e mX5_readTest t n op x A cd x' A' cd' ∧ ∀ cd0, cd0 ≤ cd → JK e' mX6_some o t n op x A cd0 cd x' A' cd'
  | 0, x, A, cd, ok, hv => by
    have := kb_le (n := n) (t := t) (x := x) (fun L z => (ok L z).1)
    omega
  | v + 1, x, A, cd, ok, hv => by
    obtain ⟨d, rfl⟩ : ∃ d, e = d + 3 := ⟨e - 3, by omega⟩
    obtain ⟨d', rfl⟩ : ∃ d, e' = d + 5 := ⟨e' - 5, by omega⟩
    cases hx : isx 19 x with
    | false => exact ⟨x, A, cd, ⟨Nat.le_refl _, kb_le (t := t) fun L z => (ok L z).1, Nat.le_refl _, fun L' z => ⟨L', z, (ok L' z).1, by omega, fun _ _ => rfl⟩⟩, JN_q0 hx, fun cd0 _ => JK_q0 hx⟩
    | true =>
      rcases sX_inr x with ⟨q, eq⟩ | ⟨L, eq⟩
      · subst eq; cases hx
      · subst eq
        have hk : L.2.2.1 = 19 := of_decide_eq_true hx
        obtain ⟨ok1, ok2, ok3⟩ := ok L rfl
        obtain ⟨l1, l2, l3, l4⟩ := lx_2 ht ok1
        have l3 := l3 (by omega)
        have ekb : kb n (.inr L) = L.1 := rfl
        obtain ⟨x1, A1, cd1, ⟨p1, p2, p3, p4⟩, jm, jc⟩ := F (lx t n L.2.1) A cd op (d + 2) (d' + 4) l1 (by omega) (by omega) hop (by omega) (by omega)
        have ok' : ∀ L1, x1 = .inr L1 → LOK t n L1 ∧ 2 * (cd1 + 1) ≤ L1.1 ∧ n < L1.1 + u := fun L1 z => by
          obtain ⟨r1, r2, r3, r4⟩ := p4 L1 z
          exact ⟨r1, by omega, by omega⟩
        obtain ⟨x', A', cd', ⟨q1, q2, q3, q4⟩, jn, jk⟩ := LQ_q ht hn F hop he he' v x1 (emA A1 cd1 (nI 19) (nI 0)) (cd1 + 1) ok' (by omega)
        refine ⟨x', A', cd', ⟨by omega, q2, by omega, fun L' z => ?_⟩, JN_q1 hk jm (fun L1 z => ?_) jn, fun cd0 h0 => JK_q1 hk jc h0 (fun L1 z => ?_) p1 q1 (jk cd0 (by omega))⟩
        · obtain ⟨L1, z1, r1, r2, r3⟩ := q4 L' z
          obtain ⟨s1, s2, s3, s4⟩ := p4 L1 z1
          refine ⟨L, rfl, r1, by omega, fun k hk => ?_⟩
          rw [r3 k (by omega), emA_o (by omega)]
          exact s4 k (by omega)
        · have := ok' L1 z
          have a1 := this.1.1
          have a2 := this.1.2.1
          omega
        · obtain ⟨s1, s2, s3, s4⟩ := p4 L1 z
          exact ⟨p3, fun k k1 k2 => s4 k (by omega)⟩
theorem FJ_q (ht : ∀ j, j < n → t j < 256) (hn : n ≤ 400) (F : FJ o t n u 11 mX5_readPart mX6_all) : FJ o t n u (11 + 1) mX5_readTest mX6_some := fun L A cd op e e' ok hu hc hop he he' => by
  obtain ⟨d, rfl⟩ : ∃ d, e = d + 3 := ⟨e - 3, by omega⟩
  obtain ⟨d', rfl⟩ : ∃ d, e' = d + 5 := ⟨e' - 5, by omega⟩
  obtain ⟨x1, A1, cd1, ⟨p1, p2, p3, p4⟩, jm, jc⟩ := F L A cd op (d + 2) (d' + 4) ok hu hc hop (by omega) (by omega)
  have ok' : ∀ L1, x1 = .inr L1 → LOK t n L1 ∧ 2 * cd1 ≤ L1.1 ∧ n < L1.1 + u := fun L1 z => by
    obtain ⟨r1, r2, r3, r4⟩ := p4 L1 z
    exact ⟨r1, by omega, by omega⟩
  obtain ⟨x', A', cd', ⟨q1, q2, q3, q4⟩, jn, jk⟩ := LQ_q ht hn F hop he he' (n + 2) x1 A1 cd1 ok' (by omega)
  refine ⟨x', A', cd', ⟨by omega, q2, by omega, fun L' z => ?_⟩, JM_q jm jn, JC_q jc (jk cd p3) p1 q1⟩
  obtain ⟨L1, z1, r1, r2, r3⟩ := q4 L' z
  obtain ⟨s1, s2, s3, s4⟩ := p4 L1 z1
  refine ⟨r1, by omega, by omega, fun k hk => ?_⟩
  rw [r3 k (by omega)]
  exact s4 k (by omega)

theorem FJ_all (ht : ∀ j, j < n → t j < 256) (hn : n ≤ 400) : ∀ u, FJ o t n u 10 mX5_readFact mX6_fact ∧ FJ o t n u 11 mX5_readPart mX6_all ∧ FJ o t n u 12 mX5_readTest mX6_some
  | 0 => by
    have no : ∀ {z m m'}, FJ o t n 0 z m m' := fun L A cd op e e' ok hu => by
      have := ok.1
      have := ok.2.1
      omega
    exact ⟨no, no, no⟩
  | u + 1 => by
    obtain ⟨f1, f2, f3⟩ := FJ_all ht hn u
    have g1 := FJ_f ht hn f1 f3
    have g2 := FJ_p ht hn g1
    exact ⟨g1, g2, FJ_q ht hn g2⟩
/-- a test is read on both sides -/
theorem J_test (ht : ∀ j, j < n → t j < 256) (hn : n ≤ 400) (ok : LOK t n L) (hc : 2 * cd ≤ L.1) : ∃ x' A' cd', JP t n L A cd x' A' cd' ∧ JM (d + 44) mX5_readTest t n 0 L A cd x' A' cd' ∧ JC (d + 44) mX6_some o t n 0 L cd x' A' cd' := (FJ_all ht hn (n + 1)).2.2 L A cd 0 (d + 44) (d + 44) ok (by omega) hc (by omega) (by omega) (by omega)
end
