/-! TEXTS: the component's reader, words and numbers -/
section
variable {d : Nat} {h : xH} {P : sS} {o n p b e k v c j i op lo hi m w wp : Nat} {t : Nat → Nat} {f : rI} {x : (Nat × Nat) ⊕ (Nat × Nat × Nat × Nat)} {L : Nat × Nat × Nat × Nat}
/-- what stands behind a token -/
def LOK (t : Nat → Nat) (n : Nat) (L : Nat × Nat × Nat × Nat) : Prop := L.1 ≤ L.2.1 ∧ L.2.1 ≤ n ∧ L.2.2.1 ≤ 35 ∧ (L.2.2.1 ≤ 29 → L.2.2.1 = key_ t L.1 L.2.1) ∧ (L.2.2.1 = 30 → L.2.2.2 ≤ 40000) ∧ (¬ L.2.2.1 = 34 → L.1 < L.2.1)
theorem lx_ok (hp : p ≤ n) (ht : ∀ j, j < n → t j < 256) : LOK t n (lx t n p) ∧ p ≤ (lx t n p).1 := by
  obtain ⟨b1, b2⟩ := run_le (t := t) (n := n) (f := spc) hp
  unfold lx LOK
  generalize run_ t n spc p = b at *
  show (_ ∧ _) ∧ _
  by_cases q : n ≤ b
  · rw [if_pos q]
    exact ⟨⟨Nat.le_refl _, b2, by show (34 : Nat) ≤ 35; omega, fun z => by have z : (34 : Nat) ≤ 29 := z; omega, fun z => by have z : (34 : Nat) = 30 := z; omega, fun z => absurd rfl z⟩, b1⟩
  · rw [if_neg q]
    cases q1 : sml (t b) with
    | true =>
      rw [if_pos rfl]
      have g := run_gt (f := sml) (by omega : b < n) q1
      have r := (run_le (t := t) (n := n) (f := sml) (p := b) (by omega)).2
      have kl := key_le (t := t) (b := b) (e := run_ t n sml b)
      exact ⟨⟨Nat.le_of_lt g, r, by show key_ t b _ ≤ 35; omega, fun _ => rfl, fun _ => Nat.zero_le _, fun _ => g⟩, b1⟩
    | false =>
      rw [if_neg Bool.false_ne_true]
      cases q2 : dgt (t b) with
      | true =>
        rw [if_pos rfl]
        have g := run_gt (f := dgt) (by omega : b < n) q2
        have r := (run_le (t := t) (n := n) (f := dgt) (p := b) (by omega)).2
        have nl := nmb_le (t := t) (b := b) (i := run_ t n dgt b - b) (fun j hj => ht _ (by omega))
        refine ⟨⟨Nat.le_of_lt g, r, ?_, fun z => ?_, fun _ => nl, fun _ => g⟩, b1⟩
        · show (if 3 < run_ t n dgt b - b then 35 else 30) ≤ 35
          split <;> omega
        · have z : (if 3 < run_ t n dgt b - b then 35 else 30) ≤ 29 := z
          split at z <;> omega
      | false =>
        rw [if_neg Bool.false_ne_true]
        refine ⟨⟨Nat.le_succ _, by show b + 1 ≤ n; omega, ?_, fun z => ?_, fun _ => Nat.zero_le _, fun _ => Nat.lt_succ_self _⟩, b1⟩
        · show (if t b = 59 then 31 else if t b = 40 then 32 else if t b = 41 then 33 else 35) ≤ 35
          repeat' split
          all_goals omega
        · have z : (if t b = 59 then 31 else if t b = 40 then 32 else if t b = 41 then 33 else 35) ≤ 29 := z
          split at z
          · omega
          · split at z
            · omega
            · split at z <;> omega
/-- the component's reader stands so: wrong (which, where), or at a token -/
def CS (h : xH) (o n : Nat) (t : Nat → Nat) (op : Nat) (x : (Nat × Nat) ⊕ (Nat × Nat × Nat × Nat)) : Prop := TBs h o n t ∧ oI h o 7 = nI op ∧ match x with
  | .inl q => oI h o 8 = nI q.1 ∧ oI h o 9 = nI q.2 ∧ 1 ≤ q.1 ∧ q.1 ≤ 5 ∧ q.2 ≤ 400
  | .inr L => oI h o 8 = nI 0 ∧ oI h o 9 = -1 ∧ LOK t n L ∧ oI h o 3 = nI L.2.1 ∧ oI h o 4 = nI L.1 ∧ oI h o 5 = nI (ct L.2.2.1) ∧ (L.2.2.1 = 30 → oI h o 6 = nI L.2.2.2)
theorem TBs_t (T : TBs h o n t) : ∀ j, j < n → t j < 256 := fun j hj => (T.2.2.2.2.2.2.2.2.1 j (by have := T.2.2.2.2.2.2.1; omega)).2
theorem kX6_nx (C : CS h o n t op (.inr L)) : ∃ f, C_ (d + 3) mX6_next [.ref o] h = some (none, pI h o f) ∧ CS (pI h o f) o n t op (.inr (lx t n L.2.1)) := by
  obtain ⟨T, c7, c8, c9, ok, c3, c4, c5, c6⟩ := C
  obtain ⟨v', e, hv⟩ := kX6_next (d := d) T ok.2.1 c3
  refine ⟨_, e, TBs_RX T, ?_, ?_, ?_, (lx_ok ok.2.1 (TBs_t T)).1, RX_3, RX_4, RX_5, fun z => RX_6.trans (hv z)⟩
  · exact (RX_o (by decide)).trans c7
  · exact (RX_o (by decide)).trans c8
  · exact (RX_o (by decide)).trans c9
/-- a fault by its kind -/
def flx (c : Nat) (x : (Nat × Nat) ⊕ (Nat × Nat × Nat × Nat)) : (Nat × Nat) ⊕ (Nat × Nat × Nat × Nat) := match x with
  | .inl q => .inl q
  | .inr L => .inl (if L.2.2.1 = 35 then 1 else c, L.1)
theorem ct_b : ct k ≤ 59 := by
  unfold ct
  repeat' split
  all_goals omega
theorem ct_35 (h : k ≤ 35) : (nI (ct k) = nI 3) = (k = 35) := by
  have cb := ct_b (k := k)
  rw [nI_eqI (by omega) (by omega)]
  unfold ct
  refine propext ⟨fun z => ?_, fun z => by subst z; decide⟩
  repeat' split at z
  all_goals omega
theorem kX6_wrong (C : CS h o n t op x) (h1 : 1 ≤ c) (h5 : c ≤ 5) : ∃ f, C_ d mX6_wrong [.ref o, .int (nI c)] h = some (none, pI h o f) ∧ CS (pI h o f) o n t op (flx c x) := by
  cases x with
  | inl q =>
    obtain ⟨T, c7, c8, c9, q1, q2, q3⟩ := C
    refine ⟨oI h o, ?_, by rw [pI_self]; exact ⟨T, c7, c8, c9, q1, q2, q3⟩⟩
    have x0 := T.1
    have ne : (nI q.1 = 0) = False := by rw [nI_z (by omega)]; exact eq_false (by omega)
    rw [pI_self]
    simp (disch := first | assumption | exact nI_ne0 (by decide) (by decide) | exact zb_01 | exact Or.inl rfl | exact Or.inr rfl | with_unfolding_all exact id (by assumption) | with_unfolding_all exact id (xix_8 (by assumption) (by omega) (by omega)) | omega) only [wX6_wrong_e, wX6_wrong_0, wX6_wrong_0q, wX6_wrong_0n, wX6_wrong_1, wX6_wrong_4, wX6_wrong_7, wX6_wrong_8, wX6_wrong_8q, wX6_wrong_8n, wX6_wrong_9, wX6_wrong_9q, wX6_wrong_9n, wX6_wrong_10, wX6_wrong_13, wX6_wrong_14, wX6_wrong_17, wX6_wrong_18, wX6_wrong_21, wX6_wrong_22, wX6_wrong_25, wX6_wrong_25q, wX6_wrong_25n, wX6_wrong_26, wX6_wrong_26q, wX6_wrong_26n, wX6_wrong_27, wX6_wrong_30, wX6_wrong_33, if_true, if_false, ↓reduceIte, xpu_s, xpu_n, Option.bind_some, xk_i, xk_r, xk_0, xk_u, xk_l, xk_k, xk_q, rf_s, rf_n, q_e1, q_e2, Nat.zero_add, Nat.reduceEqDiff, Nat.reduceAdd, Nat.reduceMul, Nat.reduceSub, Nat.reduceLT, Nat.reduceLeDiff, Nat.reduceDiv, Nat.reduceMod, c8, ne, not_true_eq_false, not_false_eq_true, and_self, and_true, true_and, and_false, false_and, or_true, true_or, or_false, false_or, decide_true, decide_false, zb_t, zb_f, zb_0, zb_1, eq_self]
  | inr L =>
    obtain ⟨T, c7, c8, c9, ok, c3, c4, c5, c6⟩ := C
    have x0 := T.1
    have hn := T.2.2.2.2.2.2.1
    have e5 := ct_35 ok.2.2.1
    have b1 := ok.1
    have b2 := ok.2.1
    refine ⟨va_up (va_up (oI h o) 8 (nI (if L.2.2.1 = 35 then 1 else c))) 9 (nI L.1), ?_, TBs_I T (by rw [up_ne (by decide), up_ne (by decide)]; exact T.2.2.2.2.2.2.2.2.2), ?_, ?_, ?_, ?_, ?_, ?_⟩
    · by_cases y : L.2.2.1 = 35
      · have e5 : (nI (ct L.2.2.1) = nI 3) = True := by rw [e5]; exact eq_true y
        rw [if_pos y]
        simp (disch := first | assumption | exact nI_ne0 (by decide) (by decide) | exact zb_01 | exact Or.inl rfl | exact Or.inr rfl | with_unfolding_all exact id (by assumption) | with_unfolding_all exact id (xix_8 (by assumption) (by omega) (by omega)) | omega) only [wX6_wrong_e, wX6_wrong_0, wX6_wrong_0q, wX6_wrong_0n, wX6_wrong_1, wX6_wrong_4, wX6_wrong_7, wX6_wrong_8, wX6_wrong_8q, wX6_wrong_8n, wX6_wrong_9, wX6_wrong_9q, wX6_wrong_9n, wX6_wrong_10, wX6_wrong_13, wX6_wrong_14, wX6_wrong_17, wX6_wrong_18, wX6_wrong_21, wX6_wrong_22, wX6_wrong_25, wX6_wrong_25q, wX6_wrong_25n, wX6_wrong_26, wX6_wrong_26q, wX6_wrong_26n, wX6_wrong_27, wX6_wrong_30, wX6_wrong_33, if_true, if_false, ↓reduceIte, xpu_s, xpu_n, Option.bind_some, xk_i, xk_r, xk_0, xk_u, xk_l, xk_k, xk_q, rf_s, rf_n, o_TI, o_TL, o_TR, o_NI, o_NL, o_NR, o_XI, o_XL, o_XR, o_RI, o_RL, o_LI, o_LR, o_IL, o_IR, o_II, o_LL, o_RR, o_pII, o_pLL, up_s, q_e1, q_e2, Nat.zero_add, Nat.reduceEqDiff, Nat.reduceAdd, Nat.reduceMul, Nat.reduceSub, Nat.reduceLT, Nat.reduceLeDiff, Nat.reduceDiv, Nat.reduceMod, nI_c, nI_add, up_ne, c8, nI_00, c4, c5, e5, not_true_eq_false, not_false_eq_true, and_self, and_true, true_and, and_false, false_and, or_true, true_or, or_false, false_or, decide_true, decide_false, zb_t, zb_f, zb_0, zb_1, eq_self]
      · have e5 : (nI (ct L.2.2.1) = nI 3) = False := by rw [e5]; exact eq_false y
        rw [if_neg y]
        simp (disch := first | assumption | exact nI_ne0 (by decide) (by decide) | exact zb_01 | exact Or.inl rfl | exact Or.inr rfl | with_unfolding_all exact id (by assumption) | with_unfolding_all exact id (xix_8 (by assumption) (by omega) (by omega)) | omega) only [wX6_wrong_e, wX6_wrong_0, wX6_wrong_0q, wX6_wrong_0n, wX6_wrong_1, wX6_wrong_4, wX6_wrong_7, wX6_wrong_8, wX6_wrong_8q, wX6_wrong_8n, wX6_wrong_9, wX6_wrong_9q, wX6_wrong_9n, wX6_wrong_10, wX6_wrong_13, wX6_wrong_14, wX6_wrong_17, wX6_wrong_18, wX6_wrong_21, wX6_wrong_22, wX6_wrong_25, wX6_wrong_25q, wX6_wrong_25n, wX6_wrong_26, wX6_wrong_26q, wX6_wrong_26n, wX6_wrong_27, wX6_wrong_30, wX6_wrong_33, if_true, if_false, ↓reduceIte, xpu_s, xpu_n, Option.bind_some, xk_i, xk_r, xk_0, xk_u, xk_l, xk_k, xk_q, rf_s, rf_n, o_TI, o_TL, o_TR, o_NI, o_NL, o_NR, o_XI, o_XL, o_XR, o_RI, o_RL, o_LI, o_LR, o_IL, o_IR, o_II, o_LL, o_RR, o_pII, o_pLL, up_s, q_e1, q_e2, Nat.zero_add, Nat.reduceEqDiff, Nat.reduceAdd, Nat.reduceMul, Nat.reduceSub, Nat.reduceLT, Nat.reduceLeDiff, Nat.reduceDiv, Nat.reduceMod, nI_c, nI_add, up_ne, c8, nI_00, c4, c5, e5, not_true_eq_false, not_false_eq_true, and_self, and_true, true_and, and_false, false_and, or_true, true_or, or_false, false_or, decide_true, decide_false, zb_t, zb_f, zb_0, zb_1, eq_self]
    · rw [o_II, if_pos rfl, up_ne (by decide), up_ne (by decide)]; exact c7
    · rw [o_II, if_pos rfl, up_ne (by decide), up_s]
    · rw [o_II, if_pos rfl, up_s]
    · show 1 ≤ (if L.2.2.1 = 35 then 1 else c)
      split <;> omega
    · show (if L.2.2.1 = 35 then 1 else c) ≤ 5
      split <;> omega
    · show L.1 ≤ 400
      omega
/-! words -/
def STR (h : xH) : Prop := ∀ a, 1 ≤ a → a ≤ 30 → oT h a = 38 ∧ oN h a = (xtxt.getD a []).length ∧ ∀ k, k < (xtxt.getD a []).length → oI h a k = nI ((xtxt.getD a []).getD k 0)
theorem xP0_ {a l : Nat} (ht : oT h a = 38) (hl : oN h a = l) : xP 0 [.ref a] h = some (some (.int (nI l)), h) := by
  show (if oT h a = 38 then some (some (Value.int (nI (oN h a))), h) else none) = _
  rw [if_pos ht, hl]
theorem xP1_ {a l c : Nat} (ht : oT h a = 38) (hl : oN h a = l) (hk : k < l) (h31 : k < 2147483648) (hc : oI h a k = nI c) : xP 1 [.ref a, .int (nI k)] h = some (some (.int (nI c)), h) := by
  show (if oT h a = 38 ∧ xin_ (nI k) (oN h a) = true then some (some (Value.int (oI h a (nI k).toNatClampNeg)), h) else none) = _
  have e : xin_ (nI k) (oN h a) = true := by
    rw [hl]
    unfold xin_
    rw [nI_toInt h31, decide_eq_true (by omega), decide_eq_true (by omega)]
    rfl
  rw [if_pos ⟨ht, e⟩, nI_clamp h31, hc]
def isx (j : Nat) (x : (Nat × Nat) ⊕ (Nat × Nat × Nat × Nat)) : Bool := match x with
  | .inl _ => false
  | .inr L => decide (L.2.2.1 = j)
theorem kw_l : ∀ j, j < 29 → (kw j).length ≤ 6 ∧ 1 ≤ kid.getD j 0 ∧ kid.getD j 0 ≤ 30 ∧ ∀ i, i < (kw j).length → (kw j).getD i 0 < 256 := by decide
theorem kw_i : ∀ i, i < 29 → ∀ j, j < 29 → kw i = kw j → i = j := by decide
theorem seq_eq {l1 l2 : List Nat} (h1 : seq_ t b e l1 = true) (h2 : seq_ t b e l2 = true) : l1 = l2 := by
  unfold seq_ at h1 h2
  rw [Bool.and_eq_true, decide_eq_true_iff] at h1 h2
  have f : ∀ (l : List Nat), (!an_ (fun i => !decide (t (b + i) = l.getD i 0)) l.length) = true → ∀ i, i < l.length → t (b + i) = l.getD i 0 := fun l hl i hi => by
    by_cases y : t (b + i) = l.getD i 0
    · exact y
    · have : an_ (fun i => !decide (t (b + i) = l.getD i 0)) l.length = true := an_iff.mpr ⟨i, hi, by show (!decide (t (b + i) = l.getD i 0)) = true; rw [decide_eq_false y]; rfl⟩
      rw [this] at hl
      cases hl
  have g1 := f l1 h1.2
  have g2 := f l2 h2.2
  refine List.ext_getElem (by omega) fun i hi1 hi2 => ?_
  have a1 := g1 i hi1
  have a2 := g2 i hi2
  rw [List.getD_eq_getElem?_getD, List.getElem?_eq_getElem hi1] at a1
  rw [List.getD_eq_getElem?_getD, List.getElem?_eq_getElem hi2] at a2
  exact a1.symm.trans a2
theorem key_is (hj : j < 29) (hk : k = key_ t b e) : seq_ t b e (kw j) = decide (k = j) := by
  unfold key_ at hk
  cases q : fi_ (fun k => seq_ t b e (kw k)) 29 with
  | none =>
    rw [q] at hk
    have hk : k = 29 := hk
    rw [fi_none q j hj, decide_eq_false (by omega)]
  | some i =>
    rw [q] at hk
    have hk : k = i := hk
    subst hk
    obtain ⟨f1, f2⟩ := fi_some q
    cases z : seq_ t b e (kw j) with
    | true => rw [decide_eq_true (kw_i _ f1 _ hj (seq_eq f2 z))]
    | false =>
      rw [decide_eq_false (fun y => ?_)]
      subst y
      rw [z] at f2
      cases f2
theorem ct_1 (h : k ≤ 35) (h2 : ¬ k ≤ 29) : (nI (ct k) = nI 1) = False := by
  have cb := ct_b (k := k)
  rw [nI_eqI (by omega) (by omega)]
  unfold ct
  refine eq_false (fun z => ?_)
  repeat' split at z
  all_goals omega
theorem kX6_is (C : CS h o n t op x) (S : STR h) (hj : j < 29) : C_ (d + 1) mX6_is [.ref o, .ref (kid.getD j 0)] h = some (some (.int (zb (isx j x))), h) := by
  obtain ⟨l6, a1, a2, lc⟩ := kw_l j hj
  obtain ⟨s1, s2, s3⟩ := S _ a1 a2
  have s2 : oN h (kid.getD j 0) = (kw j).length := s2
  have s3 : ∀ i, i < (kw j).length → oI h (kid.getD j 0) i = nI ((kw j).getD i 0) := s3
  generalize kid.getD j 0 = a at *
  have X0 := xP0_ s1 s2
  cases x with
  | inl q =>
    obtain ⟨T, c7, c8, c9, q1, q2, q3⟩ := C
    have x0 := T.1
    have ne : (nI q.1 = 0) = False := by rw [nI_z (by omega)]; exact eq_false (by omega)
    show _ = some (some (Value.int (zb false)), h)
    simp (disch := first | assumption | exact nI_ne0 (by decide) (by decide) | exact zb_01 | exact Or.inl rfl | exact Or.inr rfl | with_unfolding_all exact id (by assumption) | with_unfolding_all exact id (xix_8 (by assumption) (by omega) (by omega)) | omega) only [wX6_is_e, wX6_is_0, wX6_is_0q, wX6_is_0n, wX6_is_1, wX6_is_4, wX6_is_7, wX6_is_7q, wX6_is_7n, wX6_is_8, wX6_is_11, wX6_is_12, wX6_is_15, wX6_is_15q, wX6_is_15n, wX6_is_16, wX6_is_19, wX6_is_19q, wX6_is_19n, wX6_is_20, wX6_is_23, wX6_is_24, wX6_is_24q, wX6_is_24n, wX6_is_25, wX6_is_28, wX6_is_31, wX6_is_32, wX6_is_33, wX6_is_34, wX6_is_36, wX6_is_36q, wX6_is_36n, wX6_is_37, wX6_is_40, wX6_is_43, wX6_is_43q, wX6_is_43n, wX6_is_44, wX6_is_44q, wX6_is_44n, wX6_is_45, wX6_is_48, wX6_is_49, wX6_is_50, wX6_is_53, wX6_is_53q, wX6_is_53n, wX6_is_54, wX6_is_55, wX6_is_58, wX6_is_61, wX6_is_62, wX6_is_63, wX6_is_66, wX6_is_69, wX6_is_70, if_true, if_false, ↓reduceIte, xpu_s, xpu_n, Option.bind_some, xk_i, xk_r, xk_0, xk_u, xk_l, xk_k, xk_q, rf_s, rf_n, q_e1, q_e2, Nat.zero_add, Nat.reduceEqDiff, Nat.reduceAdd, Nat.reduceMul, Nat.reduceSub, Nat.reduceLT, Nat.reduceLeDiff, Nat.reduceDiv, Nat.reduceMod, c8, ne, not_true_eq_false, not_false_eq_true, and_self, and_true, true_and, and_false, false_and, or_true, true_or, or_false, false_or, decide_true, decide_false, zb_t, zb_f, zb_0, zb_1, eq_self] <;> rfl
  | inr L =>
    obtain ⟨T, c7, c8, c9, ok, c3, c4, c5, c6⟩ := C
    have x0 := T.1
    have hn := T.2.2.2.2.2.2.1
    have b1 := ok.1
    have b2 := ok.2.1
    show _ = some (some (Value.int (zb (decide (L.2.2.1 = j)))), h)
    by_cases k29 : L.2.2.1 ≤ 29
    · rw [← key_is hj (ok.2.2.2.1 k29)]
      rw [ct_le k29] at c5
      have sb : nI L.2.1 - nI L.1 = nI (L.2.1 - L.1) := pk_sub b1
      have cmp : (nI (L.2.1 - L.1) = nI (kw j).length) = (L.2.1 - L.1 = (kw j).length) := nI_eqI (by omega) (by omega)
      unfold seq_
      by_cases y : L.2.1 - L.1 = (kw j).length
      · rw [decide_eq_true y, Bool.true_and]
        have e0 : C_ (d + 1) mX6_is [.ref o, .ref a] h = E_ (d + 1) mX6_is 35 [.val (.ref o), .val (.ref a), .val (.int (nI 0))] [] h := by
          simp (disch := first | assumption | exact nI_ne0 (by decide) (by decide) | exact zb_01 | exact Or.inl rfl | exact Or.inr rfl | with_unfolding_all exact id (by assumption) | with_unfolding_all exact id (xix_8 (by assumption) (by omega) (by omega)) | omega) only [wX6_is_e, wX6_is_0, wX6_is_0q, wX6_is_0n, wX6_is_1, wX6_is_4, wX6_is_7, wX6_is_7q, wX6_is_7n, wX6_is_8, wX6_is_11, wX6_is_12, wX6_is_15, wX6_is_15q, wX6_is_15n, wX6_is_16, wX6_is_19, wX6_is_19q, wX6_is_19n, wX6_is_20, wX6_is_23, wX6_is_24, wX6_is_24q, wX6_is_24n, wX6_is_25, wX6_is_28, wX6_is_31, wX6_is_32, wX6_is_33, wX6_is_34, wX6_is_36, wX6_is_36q, wX6_is_36n, wX6_is_37, wX6_is_40, wX6_is_43, wX6_is_43q, wX6_is_43n, wX6_is_44, wX6_is_44q, wX6_is_44n, wX6_is_45, wX6_is_48, wX6_is_49, wX6_is_50, wX6_is_53, wX6_is_53q, wX6_is_53n, wX6_is_54, wX6_is_55, wX6_is_58, wX6_is_61, wX6_is_62, wX6_is_63, wX6_is_66, wX6_is_69, wX6_is_70, if_true, if_false, ↓reduceIte, xpu_s, xpu_n, Option.bind_some, xk_i, xk_r, xk_0, xk_u, xk_l, xk_k, xk_q, rf_s, rf_n, q_e1, q_e2, Nat.zero_add, Nat.reduceEqDiff, Nat.reduceAdd, Nat.reduceMul, Nat.reduceSub, Nat.reduceLT, Nat.reduceLeDiff, Nat.reduceDiv, Nat.reduceMod, c8, nI_00, c5, c3, c4, sb, X0, cmp, y, not_true_eq_false, not_false_eq_true, and_self, and_true, true_and, and_false, false_and, or_true, true_or, or_false, false_or, decide_true, decide_false, zb_t, zb_f, zb_0, zb_1, eq_self]
        rw [e0]
        refine (lpj_an (n := (kw j).length) (R := some (some (.int (nI 0)), h)) (X := some (some (.int (nI 1)), h)) (p := fun i => !decide (t (L.1 + i) = (kw j).getD i 0)) (F := fun i (_ : Unit) => E_ (d + 1) mX6_is 35 [.val (.ref o), .val (.ref a), .val (.int (nI i))] [] h) (fun i z hi => ⟨(), ?_⟩) (fun z => ?_) ()).trans zb_ifn
        · have lt : (nI i < nI (kw j).length) = True := eq_true (nI_lt hi (by omega))
          have SE := kX6_see (d := d) (k := L.1 + i) T (by omega)
          have e1 : sv t n (L.1 + i) = t (L.1 + i) := if_pos (by omega)
          rw [e1] at SE
          have X1 := xP1_ s1 s2 hi (by omega) (s3 i hi)
          have tl := TBs_t T (L.1 + i) (by omega)
          have ci := lc i hi
          have ce : (nI (t (L.1 + i)) = nI ((kw j).getD i 0)) = (t (L.1 + i) = (kw j).getD i 0) := nI_eqI (by omega) (by omega)
          refine wX6_is_35.trans ?_
          by_cases y2 : t (L.1 + i) = (kw j).getD i 0
          · simp (disch := first | assumption | exact nI_ne0 (by decide) (by decide) | exact zb_01 | exact Or.inl rfl | exact Or.inr rfl | with_unfolding_all exact id (by assumption) | with_unfolding_all exact id (xix_8 (by assumption) (by omega) (by omega)) | omega) only [wX6_is_e, wX6_is_0, wX6_is_0q, wX6_is_0n, wX6_is_1, wX6_is_4, wX6_is_7, wX6_is_7q, wX6_is_7n, wX6_is_8, wX6_is_11, wX6_is_12, wX6_is_15, wX6_is_15q, wX6_is_15n, wX6_is_16, wX6_is_19, wX6_is_19q, wX6_is_19n, wX6_is_20, wX6_is_23, wX6_is_24, wX6_is_24q, wX6_is_24n, wX6_is_25, wX6_is_28, wX6_is_31, wX6_is_32, wX6_is_33, wX6_is_34, wX6_is_36, wX6_is_36q, wX6_is_36n, wX6_is_37, wX6_is_40, wX6_is_43, wX6_is_43q, wX6_is_43n, wX6_is_44, wX6_is_44q, wX6_is_44n, wX6_is_45, wX6_is_48, wX6_is_49, wX6_is_50, wX6_is_53, wX6_is_53q, wX6_is_53n, wX6_is_54, wX6_is_55, wX6_is_58, wX6_is_61, wX6_is_62, wX6_is_63, wX6_is_66, wX6_is_69, wX6_is_70, if_true, if_false, ↓reduceIte, xpu_s, xpu_n, Option.bind_some, xk_i, xk_r, xk_0, xk_u, xk_l, xk_k, xk_q, rf_s, rf_n, q_e1, q_e2, Nat.zero_add, Nat.reduceEqDiff, Nat.reduceAdd, Nat.reduceMul, Nat.reduceSub, Nat.reduceLT, Nat.reduceLeDiff, Nat.reduceDiv, Nat.reduceMod, X0, X1, lt, c4, SE, ce, y2, nI_add, not_true_eq_false, not_false_eq_true, and_self, and_true, true_and, and_false, false_and, or_true, true_or, or_false, false_or, decide_true, decide_false, zb_t, zb_f, zb_0, zb_1, eq_self, cond_true, cond_false, Bool.true_eq_false, Bool.false_eq_true, Bool.and_true, Bool.true_and, Bool.and_false, Bool.false_and, Bool.or_true, Bool.true_or, Bool.or_false, Bool.false_or, Bool.not_true]
          · simp (disch := first | assumption | exact nI_ne0 (by decide) (by decide) | exact zb_01 | exact Or.inl rfl | exact Or.inr rfl | with_unfolding_all exact id (by assumption) | with_unfolding_all exact id (xix_8 (by assumption) (by omega) (by omega)) | omega) only [wX6_is_e, wX6_is_0, wX6_is_0q, wX6_is_0n, wX6_is_1, wX6_is_4, wX6_is_7, wX6_is_7q, wX6_is_7n, wX6_is_8, wX6_is_11, wX6_is_12, wX6_is_15, wX6_is_15q, wX6_is_15n, wX6_is_16, wX6_is_19, wX6_is_19q, wX6_is_19n, wX6_is_20, wX6_is_23, wX6_is_24, wX6_is_24q, wX6_is_24n, wX6_is_25, wX6_is_28, wX6_is_31, wX6_is_32, wX6_is_33, wX6_is_34, wX6_is_36, wX6_is_36q, wX6_is_36n, wX6_is_37, wX6_is_40, wX6_is_43, wX6_is_43q, wX6_is_43n, wX6_is_44, wX6_is_44q, wX6_is_44n, wX6_is_45, wX6_is_48, wX6_is_49, wX6_is_50, wX6_is_53, wX6_is_53q, wX6_is_53n, wX6_is_54, wX6_is_55, wX6_is_58, wX6_is_61, wX6_is_62, wX6_is_63, wX6_is_66, wX6_is_69, wX6_is_70, if_true, if_false, ↓reduceIte, xpu_s, xpu_n, Option.bind_some, xk_i, xk_r, xk_0, xk_u, xk_l, xk_k, xk_q, rf_s, rf_n, q_e1, q_e2, Nat.zero_add, Nat.reduceEqDiff, Nat.reduceAdd, Nat.reduceMul, Nat.reduceSub, Nat.reduceLT, Nat.reduceLeDiff, Nat.reduceDiv, Nat.reduceMod, X0, X1, lt, c4, SE, ce, y2, nI_add, not_true_eq_false, not_false_eq_true, and_self, and_true, true_and, and_false, false_and, or_true, true_or, or_false, false_or, decide_true, decide_false, zb_t, zb_f, zb_0, zb_1, eq_self, cond_true, cond_false, Bool.true_eq_false, Bool.false_eq_true, Bool.and_true, Bool.true_and, Bool.and_false, Bool.false_and, Bool.or_true, Bool.true_or, Bool.or_false, Bool.false_or, Bool.not_false] <;> rfl
        · refine wX6_is_35.trans ?_
          simp (disch := first | assumption | exact nI_ne0 (by decide) (by decide) | exact zb_01 | exact Or.inl rfl | exact Or.inr rfl | with_unfolding_all exact id (by assumption) | with_unfolding_all exact id (xix_8 (by assumption) (by omega) (by omega)) | omega) only [wX6_is_e, wX6_is_0, wX6_is_0q, wX6_is_0n, wX6_is_1, wX6_is_4, wX6_is_7, wX6_is_7q, wX6_is_7n, wX6_is_8, wX6_is_11, wX6_is_12, wX6_is_15, wX6_is_15q, wX6_is_15n, wX6_is_16, wX6_is_19, wX6_is_19q, wX6_is_19n, wX6_is_20, wX6_is_23, wX6_is_24, wX6_is_24q, wX6_is_24n, wX6_is_25, wX6_is_28, wX6_is_31, wX6_is_32, wX6_is_33, wX6_is_34, wX6_is_36, wX6_is_36q, wX6_is_36n, wX6_is_37, wX6_is_40, wX6_is_43, wX6_is_43q, wX6_is_43n, wX6_is_44, wX6_is_44q, wX6_is_44n, wX6_is_45, wX6_is_48, wX6_is_49, wX6_is_50, wX6_is_53, wX6_is_53q, wX6_is_53n, wX6_is_54, wX6_is_55, wX6_is_58, wX6_is_61, wX6_is_62, wX6_is_63, wX6_is_66, wX6_is_69, wX6_is_70, if_true, if_false, ↓reduceIte, xpu_s, xpu_n, Option.bind_some, xk_i, xk_r, xk_0, xk_u, xk_l, xk_k, xk_q, rf_s, rf_n, q_e1, q_e2, Nat.zero_add, Nat.reduceEqDiff, Nat.reduceAdd, Nat.reduceMul, Nat.reduceSub, Nat.reduceLT, Nat.reduceLeDiff, Nat.reduceDiv, Nat.reduceMod, X0, i_irr, not_true_eq_false, not_false_eq_true, and_self, and_true, true_and, and_false, false_and, or_true, true_or, or_false, false_or, decide_true, decide_false, zb_t, zb_f, zb_0, zb_1, eq_self] <;> rfl
      · rw [decide_eq_false y, Bool.false_and]
        simp (disch := first | assumption | exact nI_ne0 (by decide) (by decide) | exact zb_01 | exact Or.inl rfl | exact Or.inr rfl | with_unfolding_all exact id (by assumption) | with_unfolding_all exact id (xix_8 (by assumption) (by omega) (by omega)) | omega) only [wX6_is_e, wX6_is_0, wX6_is_0q, wX6_is_0n, wX6_is_1, wX6_is_4, wX6_is_7, wX6_is_7q, wX6_is_7n, wX6_is_8, wX6_is_11, wX6_is_12, wX6_is_15, wX6_is_15q, wX6_is_15n, wX6_is_16, wX6_is_19, wX6_is_19q, wX6_is_19n, wX6_is_20, wX6_is_23, wX6_is_24, wX6_is_24q, wX6_is_24n, wX6_is_25, wX6_is_28, wX6_is_31, wX6_is_32, wX6_is_33, wX6_is_34, wX6_is_36, wX6_is_36q, wX6_is_36n, wX6_is_37, wX6_is_40, wX6_is_43, wX6_is_43q, wX6_is_43n, wX6_is_44, wX6_is_44q, wX6_is_44n, wX6_is_45, wX6_is_48, wX6_is_49, wX6_is_50, wX6_is_53, wX6_is_53q, wX6_is_53n, wX6_is_54, wX6_is_55, wX6_is_58, wX6_is_61, wX6_is_62, wX6_is_63, wX6_is_66, wX6_is_69, wX6_is_70, if_true, if_false, ↓reduceIte, xpu_s, xpu_n, Option.bind_some, xk_i, xk_r, xk_0, xk_u, xk_l, xk_k, xk_q, rf_s, rf_n, q_e1, q_e2, Nat.zero_add, Nat.reduceEqDiff, Nat.reduceAdd, Nat.reduceMul, Nat.reduceSub, Nat.reduceLT, Nat.reduceLeDiff, Nat.reduceDiv, Nat.reduceMod, c8, nI_00, c5, c3, c4, sb, X0, cmp, y, not_true_eq_false, not_false_eq_true, and_self, and_true, true_and, and_false, false_and, or_true, true_or, or_false, false_or, decide_true, decide_false, zb_t, zb_f, zb_0, zb_1, eq_self] <;> rfl
    · rw [decide_eq_false (by omega)]
      have n1 := ct_1 ok.2.2.1 k29
      simp (disch := first | assumption | exact nI_ne0 (by decide) (by decide) | exact zb_01 | exact Or.inl rfl | exact Or.inr rfl | with_unfolding_all exact id (by assumption) | with_unfolding_all exact id (xix_8 (by assumption) (by omega) (by omega)) | omega) only [wX6_is_e, wX6_is_0, wX6_is_0q, wX6_is_0n, wX6_is_1, wX6_is_4, wX6_is_7, wX6_is_7q, wX6_is_7n, wX6_is_8, wX6_is_11, wX6_is_12, wX6_is_15, wX6_is_15q, wX6_is_15n, wX6_is_16, wX6_is_19, wX6_is_19q, wX6_is_19n, wX6_is_20, wX6_is_23, wX6_is_24, wX6_is_24q, wX6_is_24n, wX6_is_25, wX6_is_28, wX6_is_31, wX6_is_32, wX6_is_33, wX6_is_34, wX6_is_36, wX6_is_36q, wX6_is_36n, wX6_is_37, wX6_is_40, wX6_is_43, wX6_is_43q, wX6_is_43n, wX6_is_44, wX6_is_44q, wX6_is_44n, wX6_is_45, wX6_is_48, wX6_is_49, wX6_is_50, wX6_is_53, wX6_is_53q, wX6_is_53n, wX6_is_54, wX6_is_55, wX6_is_58, wX6_is_61, wX6_is_62, wX6_is_63, wX6_is_66, wX6_is_69, wX6_is_70, if_true, if_false, ↓reduceIte, xpu_s, xpu_n, Option.bind_some, xk_i, xk_r, xk_0, xk_u, xk_l, xk_k, xk_q, rf_s, rf_n, q_e1, q_e2, Nat.zero_add, Nat.reduceEqDiff, Nat.reduceAdd, Nat.reduceMul, Nat.reduceSub, Nat.reduceLT, Nat.reduceLeDiff, Nat.reduceDiv, Nat.reduceMod, c8, nI_00, c5, n1, not_true_eq_false, not_false_eq_true, and_self, and_true, true_and, and_false, false_and, or_true, true_or, or_false, false_or, decide_true, decide_false, zb_t, zb_f, zb_0, zb_1, eq_self] <;> rfl
end
