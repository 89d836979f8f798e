/-! TEXTS: one fact, the component -/
section
variable {d : Nat} {h h1 h2 : xH} {P : sS} {X o n p b e k v c j i op lo hi m w a T s k1 s1 k2 s2 cd : Nat} {t : Nat → Nat} {f g A B : rI} {x x' y : sX} {L : Nat × Nat × Nat × Nat} {y1 y2 : Int32}
def GO (o : Nat) (h h1 : xH) (k s : Nat) : Prop := GX (fun a => a = o) h h1 k s ∧ oR h1 o = oR h o
def CT (h : xH) (o n : Nat) (t : Nat → Nat) (op : Nat) (x : sX) : Prop := CS h o n t op x ∧ STR h ∧ TX h
theorem GO_r : GO o h h 0 0 := ⟨GX_refl, rfl⟩
theorem GO_t (x : GO o h h1 k s) (y : GO o h1 h2 k1 s1) : GO o h h2 (k + k1) (s + s1) := ⟨GX_trans x.1 y.1 (fun _ _ z => z), y.2.trans x.2⟩
theorem GO_le (x : GO o h h1 k s) (hk : k ≤ k2) (hs : s ≤ s2) : GO o h h1 k2 s2 := ⟨GX_le x.1 hk hs, x.2⟩
theorem GO_I : GO o h (pI h o f) 0 0 := ⟨GX_I fun _ => rfl, rfl⟩
theorem CT_l (C : CT h o n t op x) : o < oX h ∧ 64 < oX h ∧ 78 < oX h ∧ 170 ≤ o := by
  obtain ⟨C, S, T⟩ := C
  exact ⟨TX_lt T (by rw [C.1.1]; decide), TX_lt T (by rw [C.1.2.2.1]; decide), TX_lt T (by rw [C.1.2.2.2.2.1]; decide), C.1.2.2.2.2.2.2.2.1⟩
theorem CT_I (C : CT h o n t op x) (C1 : CS (pI h o f) o n t op y) : CT (pI h o f) o n t op y := ⟨C1, STR_I C.2.1 (CT_l C).2.2.2, C.2.2⟩
theorem CT_O (C : CT h o n t op x) : CT (pO h k s) o n t op x ∧ GO o h (pO h k s) 1 s := by
  obtain ⟨l1, l2, l3, l4⟩ := CT_l C
  obtain ⟨C, S, T⟩ := C
  refine ⟨⟨CS_m (sm_O (by omega)) (sm_O (by omega)) (sm_O (by omega)) C, STR_m (fun a ha => sm_O (by omega)) S, TX_O T⟩, GX_O, ?_⟩
  rw [o_RO, if_neg (by omega)]
theorem CT_i (C : CT h o n t op x) (ha : 170 ≤ a) (hao : ¬ a = o) : CT (pI h a f) o n t op x := by
  obtain ⟨C, S, T⟩ := C
  exact ⟨CS_c ⟨hao, by omega, by omega⟩ C, STR_I S ha, T⟩
theorem CT_p {f : Nat → Option Nat} (C : CT h o n t op x) (ha : 170 ≤ a) (hao : ¬ a = o) : CT (pR h a f) o n t op x := by
  obtain ⟨C, S, T⟩ := C
  exact ⟨CS_m (sm_R sm_refl (fun z => hao z.symm)) (sm_R sm_refl (by omega)) (sm_R sm_refl (by omega)) C, STR_m (fun b hb => sm_R sm_refl (by omega)) S, T⟩
/-- a place that is new is written -/
theorem GX_new {W : Nat → Prop} (G : GX W h h1 k s) (g : GX (fun b => b = a) h1 h2 0 0) (ha : oX h ≤ a) : GX W h h2 k s := by
  obtain ⟨x1, x2, x3, x4, x5, x6⟩ := G
  obtain ⟨y1, y2, y3, y4, y5, y6⟩ := g
  refine ⟨by omega, by omega, by omega, fun b hb => (y4 b hb).trans (x4 b (by omega)), fun b hb => ⟨((y5 b (by omega)).1).trans (x5 b hb).1, ((y5 b (by omega)).2).trans (x5 b hb).2⟩, fun b hb hw => sm_trans (x6 b hb hw) (y6 b (by omega) (by omega))⟩
theorem GO_i (G : GO o h h1 k s) (ha : oX h ≤ a) : GO o h (pI h1 a f) k s := ⟨GX_new G.1 (GX_I fun _ => rfl) ha, G.2⟩
theorem GO_p {f : Nat → Option Nat} (G : GO o h h1 k s) (ha : oX h ≤ a) (ho : o < oX h) : GO o h (pR h1 a f) k s := ⟨GX_new G.1 (GX_R fun _ => rfl) ha, by rw [o_RR, if_neg (by omega)]; exact G.2⟩
theorem xC_wrong (C : CT h o n t op x) (h1 : 1 ≤ c) (h5 : c ≤ 5) : ∃ h1, C_ d mX6_wrong [.ref o, .int (nI c)] h = some (none, h1) ∧ CT h1 o n t op (flx c x) ∧ GO o h h1 0 0 := by
  obtain ⟨f, e, C1⟩ := kX6_wrong (d := d) C.1 h1 h5
  exact ⟨_, e, CT_I C C1, GO_I⟩
theorem xC_nx (C : CT h o n t op (.inr L)) : ∃ h1, C_ (d + 3) mX6_next [.ref o] h = some (none, h1) ∧ CT h1 o n t op (.inr (lx t n L.2.1)) ∧ GO o h h1 0 0 := by
  obtain ⟨f, e, C1⟩ := kX6_nx (d := d) C.1
  exact ⟨_, e, CT_I C C1, GO_I⟩
theorem xC_takesT (C : CT h o n t op (.inr L)) (hj : j < 29) (hx : L.2.2.1 = j) : ∃ h1, C_ (d + 4) mX6_takes [.ref o, .ref (kid.getD j 0)] h = some (some (.int (nI 1)), h1) ∧ CT h1 o n t op (.inr (lx t n L.2.1)) ∧ GO o h h1 0 0 := by
  obtain ⟨f, e, C1⟩ := kX6_takesT (d := d) C.1 C.2.1 hj hx
  exact ⟨_, e, CT_I C C1, GO_I⟩
theorem xC_number (C : CT h o n t op x) (hh : hi ≤ 999) (hl : lo ≤ 999) : ∃ h1, C_ (d + 4) mX6_number [.ref o, .int (nI lo), .int (nI hi)] h = some (some (.int (nI (nbv lo hi x))), h1) ∧ CT h1 o n t op (nbx t n lo hi x) ∧ GO o h h1 0 0 := by
  obtain ⟨f, e, C1⟩ := kX6_number (d := d) C.1 hh hl
  exact ⟨_, e, CT_I C C1, GO_I⟩
theorem xC_trait (C : CT h o n t op x) : ∃ h1, C_ (d + 5) mX6_trait [.ref o] h = some (some (.int (trv x)), h1) ∧ CT h1 o n t op (trx t n x) ∧ GO o h h1 0 0 := by
  obtain ⟨f, e, C1⟩ := kX6_trait (d := d) C.1 C.2.1
  exact ⟨_, e, CT_I C C1, GO_I⟩
/-- a number of its own, ready -/
theorem own_t (C : CT h o n t op x) : ∃ h1, E_ (d + 5) mX6_own 67 [.val (.ref o), .val (.int y1)] [] h = some (some (.ref (oX h)), h1) ∧ CT h1 o n t op (nbx t n 0 999 x) ∧ GO o h h1 1 2 ∧ oT h1 (oX h) = 16 ∧ oI h1 (oX h) 0 = y1 ∧ oI h1 (oX h) 1 = nI (nbv 0 999 x) := by
  obtain ⟨l1, l2, l3, l4⟩ := CT_l C
  obtain ⟨C1, G1⟩ := CT_O (k := 16) (s := 2) C
  obtain ⟨h2, e2, C2, G2⟩ := xC_number (d := d) (lo := 0) (hi := 999) C1 (by omega) (by omega)
  have t8 : oT (pO h 16 2) o = 8 := C1.1.1.1
  have x1 : oX (pO h 16 2) = oX h + 1 := rfl
  have tn : oT h2 (oX h) = 16 := by rw [(G2.1.2.2.2.2.1 (oX h) (by omega)).1, o_TO, if_pos rfl]
  have I := kX16_init (d := d + 3) (y1 := y1) (y2 := nI (nbv 0 999 x)) tn
  have G := GO_i (f := va_up (va_up (oI h2 (oX h)) 0 y1) 1 (nI (nbv 0 999 x))) (a := oX h) (GO_t G1 G2) (Nat.le_refl _)
  refine ⟨_, ?_, CT_i (a := oX h) (f := va_up (va_up (oI h2 (oX h)) 0 y1) 1 (nI (nbv 0 999 x))) C2 (by omega) (by omega), G, tn, ?_, ?_⟩
  · simp (disch := first | exact t8 | first | assumption | exact nI_ne0 (by decide) (by decide) | exact zb_01 | exact Or.inl rfl | exact Or.inr rfl | with_unfolding_all exact id (by assumption) | with_unfolding_all exact id (xix_8 (by assumption) (by omega) (by omega)) | omega) only [wX6_own_e, wX6_own_0, wX6_own_0q, wX6_own_0n, wX6_own_1, wX6_own_4, wX6_own_7, wX6_own_10, wX6_own_11, wX6_own_14, wX6_own_14q, wX6_own_14n, wX6_own_15, wX6_own_18, wX6_own_21, wX6_own_24, wX6_own_25, wX6_own_28, wX6_own_28q, wX6_own_28n, wX6_own_29, wX6_own_32, wX6_own_35, wX6_own_38, wX6_own_39, wX6_own_42, wX6_own_42q, wX6_own_42n, wX6_own_43, wX6_own_45, wX6_own_48, wX6_own_51, wX6_own_52, wX6_own_55, wX6_own_56, wX6_own_57, wX6_own_58, wX6_own_59, wX6_own_62, wX6_own_62q, wX6_own_62n, wX6_own_63, wX6_own_64, wX6_own_67, wX6_own_70, wX6_own_71, wX6_own_72, wX6_own_72q, wX6_own_72n, wX6_own_73, wX6_own_74, wX6_own_77, wX6_own_80, wX6_own_83, wX6_own_83n, wX6_own_83q, if_true, if_false, ↓reduceIte, xpu_s, xpu_n, Option.bind_some, xk_i, xk_r, xk_0, xk_u, xk_l, xk_k, xk_q, rf_s, rf_n, q_e1, q_e2, Nat.zero_add, Nat.reduceEqDiff, Nat.reduceAdd, Nat.reduceMul, Nat.reduceSub, Nat.reduceLT, Nat.reduceLeDiff, Nat.reduceDiv, Nat.reduceMod, e2, I, not_true_eq_false, not_false_eq_true, and_self, and_true, true_and, and_false, false_and, or_true, true_or, or_false, false_or, decide_true, decide_false, zb_t, zb_f, zb_0, zb_1, eq_self]
  · rw [o_II, if_pos rfl, up_ne (by decide), up_s]
  · rw [o_II, if_pos rfl, up_s]
def owx (t : Nat → Nat) (n : Nat) (x : sX) : sX := match x with
  | .inl q => .inl q
  | .inr L => bif lfn L.2.2.1 then nbx t n 0 999 (.inr (lx t n L.2.1)) else flx 2 (.inr L)
theorem kX6_own (C : CT h o n t op x) : ∃ h1 a, C_ (d + 5) mX6_own [.ref o] h = some (some (.ref a), h1) ∧ CT h1 o n t op (owx t n x) ∧ GO o h h1 1 2 ∧ ∀ L, x = .inr L → lfn L.2.2.1 = true → LF h1 a (nI L.2.2.1) (nI (nbv 0 999 (.inr (lx t n L.2.1)))) := by
  have t8 := C.1.1.1
  have TF : ∀ j b, j < 29 → kid.getD j 0 = b → isx j x = false → C_ (d + 4) mX6_takes [.ref o, .ref b] h = some (some (.int (nI 0)), h) := fun j b hj hb hx => by
    rw [← hb]
    exact kX6_takesF (d := d) C.1 C.2.1 hj hx
  have TT : ∀ L j b, x = .inr L → j < 29 → kid.getD j 0 = b → L.2.2.1 = j → ∃ h1, C_ (d + 4) mX6_takes [.ref o, .ref b] h = some (some (.int (nI 1)), h1) ∧ CT h1 o n t op (.inr (lx t n L.2.1)) ∧ GO o h h1 0 0 := fun L j b hx hj hb hk => by
    subst hx
    rw [← hb]
    exact xC_takesT (d := d) C hj hk
  by_cases y : ∃ L : Nat × Nat × Nat × Nat, x = .inr L ∧ lfn L.2.2.1 = true
  · obtain ⟨L, hx, q⟩ := y
    have eo : owx t n x = nbx t n 0 999 (.inr (lx t n L.2.1)) := by
      subst hx
      show (bif lfn L.2.2.1 then _ else _) = _
      rw [q]
      rfl
    rw [eo]
    have q : L.2.2.1 = 4 ∨ (22 ≤ L.2.2.1 ∧ L.2.2.1 ≤ 24) := of_decide_eq_true q
    have F : ∀ j b, j < 29 → kid.getD j 0 = b → ¬ L.2.2.1 = j → C_ (d + 4) mX6_takes [.ref o, .ref b] h = some (some (.int (nI 0)), h) := fun j b hj hb hn => TF j b hj hb (by subst hx; exact decide_eq_false hn)
    have fin : ∀ w : Nat, w ≤ 3 → (∀ h1, GO o h h1 0 0 → CT h1 o n t op (.inr (lx t n L.2.1)) → C_ (d + 5) mX6_own [.ref o] h = E_ (d + 5) mX6_own 67 [.val (.ref o), .val (.int (nI w))] [] h1 → (nI w = nI 0 ∧ nI L.2.2.1 = nI 22) ∨ (nI w = nI 1 ∧ nI L.2.2.1 = nI 23) ∨ (nI w = nI 2 ∧ nI L.2.2.1 = nI 24) ∨ (nI w = nI 3 ∧ nI L.2.2.1 = nI 4) → ∃ h1 a, C_ (d + 5) mX6_own [.ref o] h = some (some (.ref a), h1) ∧ CT h1 o n t op (nbx t n 0 999 (.inr (lx t n L.2.1))) ∧ GO o h h1 1 2 ∧ ∀ L', x = .inr L' → lfn L'.2.2.1 = true → LF h1 a (nI L'.2.2.1) (nI (nbv 0 999 (.inr (lx t n L'.2.1))))) := fun w _ h1 G1 C1 e1 hw => by
      obtain ⟨h2, e2, C2, G2, a1, a2, a3⟩ := own_t (d := d) (y1 := nI w) C1
      refine ⟨h2, _, e1.trans e2, C2, GO_le (GO_t G1 G2) (by omega) (by omega), fun L' hx' _ => ?_⟩
      rw [hx] at hx'
      cases hx'
      refine Or.inr (Or.inr (Or.inr (Or.inr (Or.inr ⟨a1, a3, ?_⟩))))
      rw [a2]
      exact hw
    rcases (show L.2.2.1 = 22 ∨ L.2.2.1 = 23 ∨ L.2.2.1 = 24 ∨ L.2.2.1 = 4 by omega) with z | z | z | z
    · obtain ⟨h1, e1, C1, G1⟩ := TT L 22 25 hx (by omega) rfl z
      refine fin 0 (by omega) h1 G1 C1 ?_ (by rw [z]; exact Or.inl ⟨rfl, rfl⟩)
      have m1 : (nI 0 = -1) = False := eq_false (by decide)
      simp (disch := first | assumption | exact nI_ne0 (by decide) (by decide) | exact zb_01 | exact Or.inl rfl | exact Or.inr rfl | with_unfolding_all exact id (by assumption) | with_unfolding_all exact id (xix_8 (by assumption) (by omega) (by omega)) | omega) only [wX6_own_e, wX6_own_0, wX6_own_0q, wX6_own_0n, wX6_own_1, wX6_own_4, wX6_own_7, wX6_own_10, wX6_own_11, wX6_own_14, wX6_own_14q, wX6_own_14n, wX6_own_15, wX6_own_18, wX6_own_21, wX6_own_24, wX6_own_25, wX6_own_28, wX6_own_28q, wX6_own_28n, wX6_own_29, wX6_own_32, wX6_own_35, wX6_own_38, wX6_own_39, wX6_own_42, wX6_own_42q, wX6_own_42n, wX6_own_43, wX6_own_45, wX6_own_48, wX6_own_51, wX6_own_52, wX6_own_55, wX6_own_56, wX6_own_57, wX6_own_58, wX6_own_59, wX6_own_62, wX6_own_62q, wX6_own_62n, wX6_own_63, wX6_own_64, wX6_own_70, wX6_own_71, wX6_own_72, wX6_own_72q, wX6_own_72n, wX6_own_73, wX6_own_74, wX6_own_77, wX6_own_80, wX6_own_83, wX6_own_83n, wX6_own_83q, if_true, if_false, ↓reduceIte, xpu_s, xpu_n, Option.bind_some, xk_i, xk_r, xk_0, xk_u, xk_l, xk_k, xk_q, rf_s, rf_n, q_e1, q_e2, Nat.zero_add, Nat.reduceEqDiff, Nat.reduceAdd, Nat.reduceMul, Nat.reduceSub, Nat.reduceLT, Nat.reduceLeDiff, Nat.reduceDiv, Nat.reduceMod, e1, nI_ne1, m1, not_true_eq_false, not_false_eq_true, and_self, and_true, true_and, and_false, false_and, or_true, true_or, or_false, false_or, decide_true, decide_false, zb_t, zb_f, zb_0, zb_1, eq_self]
    · obtain ⟨h1, e1, C1, G1⟩ := TT L 23 26 hx (by omega) rfl z
      refine fin 1 (by omega) h1 G1 C1 ?_ (by rw [z]; exact Or.inr (Or.inl ⟨rfl, rfl⟩))
      have m1 : (nI 1 = -1) = False := eq_false (by decide)
      have F1 := F 22 25 (by omega) rfl (by omega)
      simp (disch := first | assumption | exact nI_ne0 (by decide) (by decide) | exact zb_01 | exact Or.inl rfl | exact Or.inr rfl | with_unfolding_all exact id (by assumption) | with_unfolding_all exact id (xix_8 (by assumption) (by omega) (by omega)) | omega) only [wX6_own_e, wX6_own_0, wX6_own_0q, wX6_own_0n, wX6_own_1, wX6_own_4, wX6_own_7, wX6_own_10, wX6_own_11, wX6_own_14, wX6_own_14q, wX6_own_14n, wX6_own_15, wX6_own_18, wX6_own_21, wX6_own_24, wX6_own_25, wX6_own_28, wX6_own_28q, wX6_own_28n, wX6_own_29, wX6_own_32, wX6_own_35, wX6_own_38, wX6_own_39, wX6_own_42, wX6_own_42q, wX6_own_42n, wX6_own_43, wX6_own_45, wX6_own_48, wX6_own_51, wX6_own_52, wX6_own_55, wX6_own_56, wX6_own_57, wX6_own_58, wX6_own_59, wX6_own_62, wX6_own_62q, wX6_own_62n, wX6_own_63, wX6_own_64, wX6_own_70, wX6_own_71, wX6_own_72, wX6_own_72q, wX6_own_72n, wX6_own_73, wX6_own_74, wX6_own_77, wX6_own_80, wX6_own_83, wX6_own_83n, wX6_own_83q, if_true, if_false, ↓reduceIte, xpu_s, xpu_n, Option.bind_some, xk_i, xk_r, xk_0, xk_u, xk_l, xk_k, xk_q, rf_s, rf_n, q_e1, q_e2, Nat.zero_add, Nat.reduceEqDiff, Nat.reduceAdd, Nat.reduceMul, Nat.reduceSub, Nat.reduceLT, Nat.reduceLeDiff, Nat.reduceDiv, Nat.reduceMod, F1, e1, nI_00, nI_ne1, m1, not_true_eq_false, not_false_eq_true, and_self, and_true, true_and, and_false, false_and, or_true, true_or, or_false, false_or, decide_true, decide_false, zb_t, zb_f, zb_0, zb_1, eq_self]
    · obtain ⟨h1, e1, C1, G1⟩ := TT L 24 27 hx (by omega) rfl z
      refine fin 2 (by omega) h1 G1 C1 ?_ (by rw [z]; exact Or.inr (Or.inr (Or.inl ⟨rfl, rfl⟩)))
      have m1 : (nI 2 = -1) = False := eq_false (by decide)
      have F1 := F 22 25 (by omega) rfl (by omega)
      have F2 := F 23 26 (by omega) rfl (by omega)
      simp (disch := first | assumption | exact nI_ne0 (by decide) (by decide) | exact zb_01 | exact Or.inl rfl | exact Or.inr rfl | with_unfolding_all exact id (by assumption) | with_unfolding_all exact id (xix_8 (by assumption) (by omega) (by omega)) | omega) only [wX6_own_e, wX6_own_0, wX6_own_0q, wX6_own_0n, wX6_own_1, wX6_own_4, wX6_own_7, wX6_own_10, wX6_own_11, wX6_own_14, wX6_own_14q, wX6_own_14n, wX6_own_15, wX6_own_18, wX6_own_21, wX6_own_24, wX6_own_25, wX6_own_28, wX6_own_28q, wX6_own_28n, wX6_own_29, wX6_own_32, wX6_own_35, wX6_own_38, wX6_own_39, wX6_own_42, wX6_own_42q, wX6_own_42n, wX6_own_43, wX6_own_45, wX6_own_48, wX6_own_51, wX6_own_52, wX6_own_55, wX6_own_56, wX6_own_57, wX6_own_58, wX6_own_59, wX6_own_62, wX6_own_62q, wX6_own_62n, wX6_own_63, wX6_own_64, wX6_own_70, wX6_own_71, wX6_own_72, wX6_own_72q, wX6_own_72n, wX6_own_73, wX6_own_74, wX6_own_77, wX6_own_80, wX6_own_83, wX6_own_83n, wX6_own_83q, if_true, if_false, ↓reduceIte, xpu_s, xpu_n, Option.bind_some, xk_i, xk_r, xk_0, xk_u, xk_l, xk_k, xk_q, rf_s, rf_n, q_e1, q_e2, Nat.zero_add, Nat.reduceEqDiff, Nat.reduceAdd, Nat.reduceMul, Nat.reduceSub, Nat.reduceLT, Nat.reduceLeDiff, Nat.reduceDiv, Nat.reduceMod, F1, F2, e1, nI_00, nI_ne1, m1, not_true_eq_false, not_false_eq_true, and_self, and_true, true_and, and_false, false_and, or_true, true_or, or_false, false_or, decide_true, decide_false, zb_t, zb_f, zb_0, zb_1, eq_self]
    · obtain ⟨h1, e1, C1, G1⟩ := TT L 4 4 hx (by omega) rfl z
      refine fin 3 (by omega) h1 G1 C1 ?_ (by rw [z]; exact Or.inr (Or.inr (Or.inr ⟨rfl, rfl⟩)))
      have m1 : (nI 3 = -1) = False := eq_false (by decide)
      have F1 := F 22 25 (by omega) rfl (by omega)
      have F2 := F 23 26 (by omega) rfl (by omega)
      have F3 := F 24 27 (by omega) rfl (by omega)
      simp (disch := first | assumption | exact nI_ne0 (by decide) (by decide) | exact zb_01 | exact Or.inl rfl | exact Or.inr rfl | with_unfolding_all exact id (by assumption) | with_unfolding_all exact id (xix_8 (by assumption) (by omega) (by omega)) | omega) only [wX6_own_e, wX6_own_0, wX6_own_0q, wX6_own_0n, wX6_own_1, wX6_own_4, wX6_own_7, wX6_own_10, wX6_own_11, wX6_own_14, wX6_own_14q, wX6_own_14n, wX6_own_15, wX6_own_18, wX6_own_21, wX6_own_24, wX6_own_25, wX6_own_28, wX6_own_28q, wX6_own_28n, wX6_own_29, wX6_own_32, wX6_own_35, wX6_own_38, wX6_own_39, wX6_own_42, wX6_own_42q, wX6_own_42n, wX6_own_43, wX6_own_45, wX6_own_48, wX6_own_51, wX6_own_52, wX6_own_55, wX6_own_56, wX6_own_57, wX6_own_58, wX6_own_59, wX6_own_62, wX6_own_62q, wX6_own_62n, wX6_own_63, wX6_own_64, wX6_own_70, wX6_own_71, wX6_own_72, wX6_own_72q, wX6_own_72n, wX6_own_73, wX6_own_74, wX6_own_77, wX6_own_80, wX6_own_83, wX6_own_83n, wX6_own_83q, if_true, if_false, ↓reduceIte, xpu_s, xpu_n, Option.bind_some, xk_i, xk_r, xk_0, xk_u, xk_l, xk_k, xk_q, rf_s, rf_n, q_e1, q_e2, Nat.zero_add, Nat.reduceEqDiff, Nat.reduceAdd, Nat.reduceMul, Nat.reduceSub, Nat.reduceLT, Nat.reduceLeDiff, Nat.reduceDiv, Nat.reduceMod, F1, F2, F3, e1, nI_00, nI_ne1, m1, not_true_eq_false, not_false_eq_true, and_self, and_true, true_and, and_false, false_and, or_true, true_or, or_false, false_or, decide_true, decide_false, zb_t, zb_f, zb_0, zb_1, eq_self]
  · have F : ∀ j b, j < 29 → kid.getD j 0 = b → (j = 4 ∨ (22 ≤ j ∧ j ≤ 24)) → C_ (d + 4) mX6_takes [.ref o, .ref b] h = some (some (.int (nI 0)), h) := fun j b hj hb hq => TF j b hj hb (by
      cases x with
      | inl q => rfl
      | inr L => exact decide_eq_false (fun z => y ⟨L, rfl, decide_eq_true (by omega)⟩))
    have F1 := F 22 25 (by omega) rfl (by omega)
    have F2 := F 23 26 (by omega) rfl (by omega)
    have F3 := F 24 27 (by omega) rfl (by omega)
    have F4 := F 4 4 (by omega) rfl (by omega)
    have eo : owx t n x = nbx t n 0 999 (flx 2 x) := by
      cases x with
      | inl q => rfl
      | inr L =>
        show (bif lfn L.2.2.1 then _ else _) = _
        have : lfn L.2.2.1 = false := by
          cases z : lfn L.2.2.1 with
          | false => rfl
          | true => exact absurd ⟨L, rfl, z⟩ y
        rw [this]
        rfl
    obtain ⟨h1, e1, C1, G1⟩ := xC_wrong (d := d + 4) (c := 2) C (by omega) (by omega)
    obtain ⟨h2, e2, C2, G2, a1, a2, a3⟩ := own_t (d := d) (y1 := -1) C1
    rw [eo]
    refine ⟨h2, _, Eq.trans ?_ e2, C2, GO_le (GO_t G1 G2) (by omega) (by omega), fun L hx hq => absurd ⟨L, hx, hq⟩ y⟩
    simp (disch := first | assumption | exact nI_ne0 (by decide) (by decide) | exact zb_01 | exact Or.inl rfl | exact Or.inr rfl | with_unfolding_all exact id (by assumption) | with_unfolding_all exact id (xix_8 (by assumption) (by omega) (by omega)) | omega) only [wX6_own_e, wX6_own_0, wX6_own_0q, wX6_own_0n, wX6_own_1, wX6_own_4, wX6_own_7, wX6_own_10, wX6_own_11, wX6_own_14, wX6_own_14q, wX6_own_14n, wX6_own_15, wX6_own_18, wX6_own_21, wX6_own_24, wX6_own_25, wX6_own_28, wX6_own_28q, wX6_own_28n, wX6_own_29, wX6_own_32, wX6_own_35, wX6_own_38, wX6_own_39, wX6_own_42, wX6_own_42q, wX6_own_42n, wX6_own_43, wX6_own_45, wX6_own_48, wX6_own_51, wX6_own_52, wX6_own_55, wX6_own_56, wX6_own_57, wX6_own_58, wX6_own_59, wX6_own_62, wX6_own_62q, wX6_own_62n, wX6_own_63, wX6_own_64, wX6_own_70, wX6_own_71, wX6_own_72, wX6_own_72q, wX6_own_72n, wX6_own_73, wX6_own_74, wX6_own_77, wX6_own_80, wX6_own_83, wX6_own_83n, wX6_own_83q, if_true, if_false, ↓reduceIte, xpu_s, xpu_n, Option.bind_some, xk_i, xk_r, xk_0, xk_u, xk_l, xk_k, xk_q, rf_s, rf_n, q_e1, q_e2, Nat.zero_add, Nat.reduceEqDiff, Nat.reduceAdd, Nat.reduceMul, Nat.reduceSub, Nat.reduceLT, Nat.reduceLeDiff, Nat.reduceDiv, Nat.reduceMod, F1, F2, F3, F4, e1, nI_00, not_true_eq_false, not_false_eq_true, and_self, and_true, true_and, and_false, false_and, or_true, true_or, or_false, false_or, decide_true, decide_false, zb_t, zb_f, zb_0, zb_1, eq_self]
end
