/-! CONTRACTS of the component: the cars of a lane go -/
/-- nothing but a walk's numbers is changed -/
def WFr (q : Nat) (h h' : xH) : Prop := h'.2.2.2.2.2 = h.2.2.2.2.2 ∧ oT h' = oT h ∧ oN h' = oN h ∧ oR h' = oR h ∧ oL h' = oL h ∧ ∀ a, (a < q ∨ q + 5 < a) → oI h' a = oI h a
theorem WFr_refl {q : Nat} {h : xH} : WFr q h h := ⟨rfl, rfl, rfl, rfl, rfl, fun _ _ => rfl⟩
theorem WFr_trans {q : Nat} {h h1 h2 : xH} (a : WFr q h h1) (b : WFr q h1 h2) : WFr q h h2 :=
  ⟨b.1.trans a.1, b.2.1.trans a.2.1, b.2.2.1.trans a.2.2.1, b.2.2.2.1.trans a.2.2.2.1, b.2.2.2.2.1.trans a.2.2.2.2.1, fun x hx => (b.2.2.2.2.2 x hx).trans (a.2.2.2.2.2 x hx)⟩
theorem WFr_I {q : Nat} {h h1 : xH} {a : Nat} {f : rI} (w : WFr q h h1) (h2 : q ≤ a) (h3 : a ≤ q + 5) : WFr q h (pI h1 a f) :=
  ⟨w.1, w.2.1, w.2.2.1, w.2.2.2.1, w.2.2.2.2.1, fun x hx => by
    rw [o_II, if_neg (by omega)]
    exact w.2.2.2.2.2 x hx⟩
theorem rq_at {h h' : xH} {a j : Nat} (e : oR h' a = oR h a) : rq h' a j = rq h a j := by
  unfold rq
  rw [e]
theorem WO_fr {q : Nat} {h h' : xH} (F : WFr q h h') (O : WO h q) : WO h' q := by
  obtain ⟨-, f2, f3, f4, -, -⟩ := F
  unfold WO at *
  rw [f2, f3, f4]
  exact O
theorem LS_fr {h h' : xH} {l n : Nat} (f2 : oT h' = oT h) (f3 : oN h' = oN h) (f4 : ∀ a, ¬ oT h a = 5 → oR h' a = oR h a) (f6 : oI h' l = oI h l) (L : LSn h l n) : LSn h' l n := by
  obtain ⟨l1, l2, l3, l4, l5, l6⟩ := L
  have e1 := f4 l (by omega)
  have e2 := f4 (rq h l 1) (by omega)
  unfold LSn
  rw [rq_at (j := 1) e1, f2, f3, e1, e2, f6]
  exact ⟨l1, l2, l3, l4, l5, fun k hk => by rw [rq_at e2]; exact l6 k hk⟩
theorem li_fr {h h' : xH} {l n k : Nat} (f4 : ∀ a, ¬ oT h a = 5 → oR h' a = oR h a) (L : LSn h l n) : li h' l k = li h l k := by
  obtain ⟨l1, -, -, l4, -, -⟩ := L
  unfold li
  rw [rq_at (j := 1) (f4 l (by omega)), rq_at (f4 (rq h l 1) (by omega))]
theorem SC_fr {h h' : xH} {c : Nat} {A : rI} (f2 : oT h' = oT h) (f3 : oN h' = oN h) (f4 : ∀ a, ¬ oT h a = 5 → oR h' a = oR h a) (f6 : ∀ a, oT h a = 3 ∨ oT h a = 4 ∨ oT h a = 9 → oI h' a = oI h a) (S : SCo h c A) : SCo h' c A := by
  obtain ⟨c1, c2, c3, c4, c5, c6, c7, c8, c9, c10, c11⟩ := S
  have e1 := f6 c (Or.inl c1)
  have e0 := f4 c (by omega)
  have e2 : rq h' c 0 = rq h c 0 := rq_at e0
  have e3 : ∀ k, sc h' c k = sc h c k := fun k => by unfold sc; rw [e2, li_fr f4 c10]
  refine ⟨by rw [f2]; exact c1, by rw [e1]; exact c2, by rw [e1]; exact c3, by rw [e1]; exact c4, by rw [e1]; exact c5, by rw [e1]; exact c6, by rw [e1]; exact c7, by rw [e1]; exact c8, by rw [e0, e2]; exact c9, ?_, fun k hk => ?_⟩
  · rw [e2]
    exact LS_fr f2 f3 f4 (f6 _ (Or.inr (Or.inl c10.1))) c10
  · obtain ⟨v1, v2, v3, v4, v5⟩ := c11 k hk
    have e4 := f6 _ (Or.inr (Or.inr v1))
    rw [e3]
    exact ⟨by rw [f2]; exact v1, by rw [e4]; exact v2, by rw [e4]; exact v3, by rw [e4]; exact v4, by rw [e4]; exact v5⟩
theorem SC_w {q : Nat} {h h' : xH} {c : Nat} {A : rI} (F : WFr q h h') (O : WO h q) (S : SCo h c A) : SCo h' c A := by
  obtain ⟨-, f2, f3, f4, -, f6⟩ := F
  refine SC_fr f2 f3 (fun a _ => by rw [f4]) (fun a ha => f6 a ?_) S
  obtain ⟨o1, o2, o3, o4, o5, o6, o7, o8, o9, o10, o11, o12, o13, o14, o15, o16⟩ := O
  rcases Nat.lt_or_ge a q with z | z
  · exact Or.inl z
  · rcases Nat.lt_or_ge (q + 5) a with y | y
    · exact Or.inr y
    · exfalso
      have : a = q ∨ a = q + 1 ∨ a = q + 2 ∨ a = q + 3 ∨ a = q + 4 ∨ a = q + 5 := by omega
      rcases this with rfl | rfl | rfl | rfl | rfl | rfl <;> omega
/-- the numbers of a walk within a tick's lanes -/
def CL (q : Nat) (A w : rI) (lane : Int32) (h h1 : xH) (s : sM) : Prop := WFr q h h1 ∧ oI h1 q = oI h q ∧ (∀ k, k < sN A → oI h1 (q + 1) k = s.1 k) ∧ (∀ k, k < sN A → oI h1 (q + 2) k = s.1 (8 + k)) ∧ (∀ k, k < sN A → oI h1 (q + 3) k = s.1 (16 + k)) ∧ (∀ k, k < sN A → (s.2.1 k = true ∨ ¬ 0 < w k) → oI h1 (q + 4) k = s.1 (24 + k)) ∧ (∀ k, k < sN A → A (2 + k) = lane → oI h1 (q + 5) k = zb (s.2.1 k)) ∧ (∀ k, k < sN A → s.2.1 k = false → s.1 k = w k ∧ s.1 (8 + k) = w (8 + k) ∧ s.1 (16 + k) = w (16 + k)) ∧ ∀ j, s.2.2.2 = some j → j < 8
theorem gp_eq : ∀ p, p ≤ 9 → (if nI 0 < nI p - nI 1 then nI p - nI 1 else nI 0) = (if 0 < nI p then nI p - nI 1 else nI 0) := by
  intro p hp
  have : p = 0 ∨ p = 1 ∨ p = 2 ∨ p = 3 ∨ p = 4 ∨ p = 5 ∨ p = 6 ∨ p = 7 ∨ p = 8 ∨ p = 9 := by omega
  rcases this with rfl | rfl | rfl | rfl | rfl | rfl | rfl | rfl | rfl | rfl <;> decide
theorem to_le {x p : Nat} (hx : x ≤ 200) (hp : p ≤ 9) : ¬ nI x < nI x - nI p := by
  rw [Int32.lt_iff_toInt_lt, pk_sub_toInt (by omega) (by omega), nI_toInt (by omega)]
  omega
theorem gL_eq {w : rI} {b : Int32} {c : Nat} (h : ¬ w c < w c - w (8 + c)) : (if b = -1 then w c - w (8 + c) else if b + nI 2 < w c then b + nI 2 else w c) = gL w b c := by
  unfold gL
  by_cases q : b = -1
  · rw [if_pos q, if_pos q, if_neg h]
  · rw [if_neg q, if_neg q, i_mm]
theorem oe_s {i : Nat} : oe (some i) = nI i := rfl
theorem oe_n : oe none = -1 := rfl
theorem fmin_n {i : Nat} : fmin i none = some i := rfl
theorem fmin_s {i j : Nat} : fmin i (some j) = if i < j then some i else some j := rfl
section
variable {d : Nat} {h : xH} {q c : Nat} {A w : rI}
/-- one car goes, and is marked as gone -/
theorem cl_goes (O : WO h q) (W2 : sN A ≤ 8) (P : WP A w) {lane : Int32} {h1 : xH} {s : sM} (C : CL q A w lane h h1 s) {i : Nat} (hi : i < sN A) (hm : s.2.1 i = false) (hl : 0 < s.1 i) : ∃ h2, C_ d mX3_goes [.ref q, .int (nI i), .int s.2.2.1] h1 = some (none, h2) ∧ CL q A w lane h (pI h2 (q + 5) (va_up (oI h2 (q + 5)) i (nI 1))) (sMv i s) := by
  obtain ⟨l1, l2, l3, l4, l5, l6, l7, l8, l9⟩ := C
  have O1 := WO_fr l1 O
  have a1 := l3 i hi
  have a2 := l4 i hi
  have a3 := l5 i hi
  obtain ⟨u1, u2, u3⟩ := l8 i hi hm
  obtain ⟨⟨p, p1, p2⟩, p3⟩ := P i hi
  have p3 := p3 (by rw [← u1]; exact hl)
  obtain ⟨x, x1, x2⟩ := p3
  have tl : ¬ s.1 i < s.1 i - s.1 (8 + i) := by rw [u1, u2, x1, p1]; exact to_le x2 p2
  have gp : (if nI 0 < s.1 (8 + i) - nI 1 then s.1 (8 + i) - nI 1 else nI 0) = gP s.1 i := by unfold gP; rw [u2, p1]; exact gp_eq p p2
  have nj : ∀ j, (if 0 < sGo s.1 s.2.2.1 i i then s.2.2.2 else fmin i s.2.2.2) = some j → j < 8 := by
    intro j e
    by_cases q1 : 0 < sGo s.1 s.2.2.1 i i
    · rw [if_pos q1] at e; exact l9 j e
    · rw [if_neg q1] at e
      cases qf : s.2.2.2 with
      | none => rw [qf] at e; injection e with e; subst e; omega
      | some y =>
        rw [qf] at e
        have e : (if i < y then some i else some y) = some j := e
        by_cases q2 : i < y
        · rw [if_pos q2] at e; cases e; omega
        · rw [if_neg q2] at e; cases e; exact l9 _ qf
  have rest : ∀ h2 : xH, WFr q h1 h2 → oI h2 q = oI h1 q → oI h2 (q + 1) = va_up (oI h1 (q + 1)) i (sGo s.1 s.2.2.1 i i) → (∀ k, k < sN A → oI h2 (q + 2) k = sGo s.1 s.2.2.1 i (8 + k)) → oI h2 (q + 3) = oI h1 (q + 3) → oI h2 (q + 4) = va_up (oI h1 (q + 4)) i (sGo s.1 s.2.2.1 i (24 + i)) → oI h2 (q + 5) = oI h1 (q + 5) → sGo s.1 s.2.2.1 i (16 + i) = s.1 (16 + i) → CL q A w lane h (pI h2 (q + 5) (va_up (oI h2 (q + 5)) i (nI 1))) (sMv i s) := by
    intro h2 m1 m2 m3 m4 m5 m6 m7 m8
    refine ⟨WFr_I (WFr_trans l1 m1) (by omega) (by omega), ?_, fun k hk => ?_, fun k hk => ?_, fun k hk => ?_, fun k hk hv => ?_, fun k hk hv => ?_, fun k hk hv => ?_, nj⟩
    · rw [o_II, if_neg (by omega)]; exact m2.trans l2
    · rw [o_II, if_neg (by omega), m3]
      show _ = sGo s.1 s.2.2.1 i k
      by_cases z : k = i
      · rw [z, up_s]
      · rw [up_ne z, sGo_at z (by omega) (by omega)]; exact l3 k hk
    · rw [o_II, if_neg (by omega)]
      exact m4 k hk
    · rw [o_II, if_neg (by omega), m5]
      show _ = sGo s.1 s.2.2.1 i (16 + k)
      by_cases z : k = i
      · rw [z, m8]; exact a3
      · rw [sGo_at (by omega) (by omega) (by omega)]; exact l5 k hk
    · rw [o_II, if_neg (by omega), m6]
      show _ = sGo s.1 s.2.2.1 i (24 + k)
      have hv : va_up s.2.1 i true k = true ∨ ¬ 0 < w k := hv
      by_cases z : k = i
      · rw [z, up_s]
      · rw [up_ne z, sGo_at (by omega) (by omega) (by omega)]
        rw [up_ne z] at hv
        exact l6 k hk hv
    · rw [o_II, if_pos rfl, m7]
      show _ = zb (va_up s.2.1 i true k)
      by_cases z : k = i
      · rw [z, up_s, up_s]; rfl
      · rw [up_ne z, up_ne z]; exact l7 k hk hv
    · have hv : va_up s.2.1 i true k = false := hv
      show sGo s.1 s.2.2.1 i k = w k ∧ sGo s.1 s.2.2.1 i (8 + k) = w (8 + k) ∧ sGo s.1 s.2.2.1 i (16 + k) = w (16 + k)
      by_cases z : k = i
      · rw [z, up_s] at hv; cases hv
      · rw [up_ne z] at hv
        rw [sGo_at z (by omega) (by omega), sGo_at (by omega) (by omega) (by omega), sGo_at (by omega) (by omega) (by omega)]
        exact l8 k hk hv
  by_cases st : s.1 (16 + i) = nI 2
  · refine ⟨_, kX3_goes_s O1 (by omega) (by rw [a3]; exact st), rest _ (WFr_I (WFr_I (WFr_I WFr_refl (by omega) (by omega)) (by omega) (by omega)) (by omega) (by omega)) ?_ ?_ (fun k hk => ?_) ?_ ?_ ?_ ?_⟩
    · simp (disch := first | assumption | exact nI_ne0 (by decide) (by decide) | exact zb_01 | exact Or.inl rfl | exact Or.inr rfl | with_unfolding_all exact id (by assumption) | with_unfolding_all exact id (xix_8 (by assumption) (by omega) (by omega)) | omega) only [if_true, if_false, ↓reduceIte, xpu_s, xpu_n, Option.bind_some, xk_i, xk_r, xk_0, xk_u, xk_l, xk_k, xk_q, rf_s, rf_n, o_TI, o_TL, o_TR, o_NI, o_NL, o_NR, o_XI, o_XL, o_XR, o_RI, o_RL, o_LI, o_LR, o_IL, o_IR, o_II, o_LL, o_RR, o_pII, o_pLL, up_s, q_e1, q_e2, Nat.zero_add, Nat.reduceEqDiff, Nat.reduceAdd, Nat.reduceMul, Nat.reduceSub, Nat.reduceLT, Nat.reduceLeDiff, Nat.reduceDiv, Nat.reduceMod, nI_c, nI_add, up_ne]
    · have e : sGo s.1 s.2.2.1 i i = s.1 i - gP s.1 i := by
        unfold sGo gW; rw [if_pos st, up_ne (by omega), up_s]
      simp (disch := first | assumption | exact nI_ne0 (by decide) (by decide) | exact zb_01 | exact Or.inl rfl | exact Or.inr rfl | with_unfolding_all exact id (by assumption) | with_unfolding_all exact id (xix_8 (by assumption) (by omega) (by omega)) | omega) only [if_true, if_false, ↓reduceIte, xpu_s, xpu_n, Option.bind_some, xk_i, xk_r, xk_0, xk_u, xk_l, xk_k, xk_q, rf_s, rf_n, o_TI, o_TL, o_TR, o_NI, o_NL, o_NR, o_XI, o_XL, o_XR, o_RI, o_RL, o_LI, o_LR, o_IL, o_IR, o_II, o_LL, o_RR, o_pII, o_pLL, up_s, q_e1, q_e2, Nat.zero_add, Nat.reduceEqDiff, Nat.reduceAdd, Nat.reduceMul, Nat.reduceSub, Nat.reduceLT, Nat.reduceLeDiff, Nat.reduceDiv, Nat.reduceMod, nI_c, nI_add, up_ne]
      rw [e, a1, a2, gp]
    · have e : sGo s.1 s.2.2.1 i (8 + k) = va_up s.1 (8 + i) (gP s.1 i) (8 + k) := by
        unfold sGo gW; rw [if_pos st, up_ne (show 8 + k ≠ 24 + i by omega), up_ne (show 8 + k ≠ i by omega)]
      rw [e]
      simp (disch := first | assumption | exact nI_ne0 (by decide) (by decide) | exact zb_01 | exact Or.inl rfl | exact Or.inr rfl | with_unfolding_all exact id (by assumption) | with_unfolding_all exact id (xix_8 (by assumption) (by omega) (by omega)) | omega) only [o_TI, o_TL, o_TR, o_NI, o_NL, o_NR, o_XI, o_XL, o_XR, o_RI, o_RL, o_LI, o_LR, o_IL, o_IR, o_II, o_LL, o_RR, o_pII, o_pLL, up_s, q_e1, q_e2, Nat.zero_add, Nat.reduceEqDiff, Nat.reduceAdd, Nat.reduceMul, Nat.reduceSub, Nat.reduceLT, Nat.reduceLeDiff, Nat.reduceDiv, Nat.reduceMod, if_true, if_false]
      rw [a2, gp]
      by_cases z : k = i
      · rw [z, up_s, up_s]
      · rw [up_ne z, up_ne (show 8 + k ≠ 8 + i by omega)]; exact l4 k hk
    · simp (disch := first | assumption | exact nI_ne0 (by decide) (by decide) | exact zb_01 | exact Or.inl rfl | exact Or.inr rfl | with_unfolding_all exact id (by assumption) | with_unfolding_all exact id (xix_8 (by assumption) (by omega) (by omega)) | omega) only [if_true, if_false, ↓reduceIte, xpu_s, xpu_n, Option.bind_some, xk_i, xk_r, xk_0, xk_u, xk_l, xk_k, xk_q, rf_s, rf_n, o_TI, o_TL, o_TR, o_NI, o_NL, o_NR, o_XI, o_XL, o_XR, o_RI, o_RL, o_LI, o_LR, o_IL, o_IR, o_II, o_LL, o_RR, o_pII, o_pLL, up_s, q_e1, q_e2, Nat.zero_add, Nat.reduceEqDiff, Nat.reduceAdd, Nat.reduceMul, Nat.reduceSub, Nat.reduceLT, Nat.reduceLeDiff, Nat.reduceDiv, Nat.reduceMod, nI_c, nI_add, up_ne]
    · have e : sGo s.1 s.2.2.1 i (24 + i) = nI 0 := by
        unfold sGo; rw [up_s, if_pos st]
      simp (disch := first | assumption | exact nI_ne0 (by decide) (by decide) | exact zb_01 | exact Or.inl rfl | exact Or.inr rfl | with_unfolding_all exact id (by assumption) | with_unfolding_all exact id (xix_8 (by assumption) (by omega) (by omega)) | omega) only [if_true, if_false, ↓reduceIte, xpu_s, xpu_n, Option.bind_some, xk_i, xk_r, xk_0, xk_u, xk_l, xk_k, xk_q, rf_s, rf_n, o_TI, o_TL, o_TR, o_NI, o_NL, o_NR, o_XI, o_XL, o_XR, o_RI, o_RL, o_LI, o_LR, o_IL, o_IR, o_II, o_LL, o_RR, o_pII, o_pLL, up_s, q_e1, q_e2, Nat.zero_add, Nat.reduceEqDiff, Nat.reduceAdd, Nat.reduceMul, Nat.reduceSub, Nat.reduceLT, Nat.reduceLeDiff, Nat.reduceDiv, Nat.reduceMod, nI_c, nI_add, up_ne]
      rw [e]
    · simp (disch := first | assumption | exact nI_ne0 (by decide) (by decide) | exact zb_01 | exact Or.inl rfl | exact Or.inr rfl | with_unfolding_all exact id (by assumption) | with_unfolding_all exact id (xix_8 (by assumption) (by omega) (by omega)) | omega) only [if_true, if_false, ↓reduceIte, xpu_s, xpu_n, Option.bind_some, xk_i, xk_r, xk_0, xk_u, xk_l, xk_k, xk_q, rf_s, rf_n, o_TI, o_TL, o_TR, o_NI, o_NL, o_NR, o_XI, o_XL, o_XR, o_RI, o_RL, o_LI, o_LR, o_IL, o_IR, o_II, o_LL, o_RR, o_pII, o_pLL, up_s, q_e1, q_e2, Nat.zero_add, Nat.reduceEqDiff, Nat.reduceAdd, Nat.reduceMul, Nat.reduceSub, Nat.reduceLT, Nat.reduceLeDiff, Nat.reduceDiv, Nat.reduceMod, nI_c, nI_add, up_ne]
    · unfold sGo gW
      rw [if_pos st, up_ne (by omega), up_ne (by omega), up_ne (by omega)]
  · have st' : ¬ oI h1 (q + 3) i = nI 2 := by rw [a3]; exact st
    refine ⟨_, kX3_goes_g O1 (by omega) st', rest _ (WFr_I (WFr_I WFr_refl (by omega) (by omega)) (by omega) (by omega)) ?_ ?_ (fun k hk => ?_) ?_ ?_ ?_ ?_⟩
    · simp (disch := first | assumption | exact nI_ne0 (by decide) (by decide) | exact zb_01 | exact Or.inl rfl | exact Or.inr rfl | with_unfolding_all exact id (by assumption) | with_unfolding_all exact id (xix_8 (by assumption) (by omega) (by omega)) | omega) only [if_true, if_false, ↓reduceIte, xpu_s, xpu_n, Option.bind_some, xk_i, xk_r, xk_0, xk_u, xk_l, xk_k, xk_q, rf_s, rf_n, o_TI, o_TL, o_TR, o_NI, o_NL, o_NR, o_XI, o_XL, o_XR, o_RI, o_RL, o_LI, o_LR, o_IL, o_IR, o_II, o_LL, o_RR, o_pII, o_pLL, up_s, q_e1, q_e2, Nat.zero_add, Nat.reduceEqDiff, Nat.reduceAdd, Nat.reduceMul, Nat.reduceSub, Nat.reduceLT, Nat.reduceLeDiff, Nat.reduceDiv, Nat.reduceMod, nI_c, nI_add, up_ne]
    · have e : sGo s.1 s.2.2.1 i i = if gT s.1 i < gL s.1 s.2.2.1 i then gL s.1 s.2.2.1 i else gT s.1 i := by
        unfold sGo gW; rw [if_neg st, up_ne (by omega), up_s]
      rw [a1, a2, gL_eq tl, e]
      simp (disch := first | assumption | exact nI_ne0 (by decide) (by decide) | exact zb_01 | exact Or.inl rfl | exact Or.inr rfl | with_unfolding_all exact id (by assumption) | with_unfolding_all exact id (xix_8 (by assumption) (by omega) (by omega)) | omega) only [if_true, if_false, ↓reduceIte, xpu_s, xpu_n, Option.bind_some, xk_i, xk_r, xk_0, xk_u, xk_l, xk_k, xk_q, rf_s, rf_n, o_TI, o_TL, o_TR, o_NI, o_NL, o_NR, o_XI, o_XL, o_XR, o_RI, o_RL, o_LI, o_LR, o_IL, o_IR, o_II, o_LL, o_RR, o_pII, o_pLL, up_s, q_e1, q_e2, Nat.zero_add, Nat.reduceEqDiff, Nat.reduceAdd, Nat.reduceMul, Nat.reduceSub, Nat.reduceLT, Nat.reduceLeDiff, Nat.reduceDiv, Nat.reduceMod, nI_c, nI_add, up_ne]
      rfl
    · have e : sGo s.1 s.2.2.1 i (8 + k) = s.1 (8 + k) := by
        unfold sGo gW; rw [if_neg st, up_ne (by omega), up_ne (by omega)]
      simp (disch := first | assumption | exact nI_ne0 (by decide) (by decide) | exact zb_01 | exact Or.inl rfl | exact Or.inr rfl | with_unfolding_all exact id (by assumption) | with_unfolding_all exact id (xix_8 (by assumption) (by omega) (by omega)) | omega) only [if_true, if_false, ↓reduceIte, xpu_s, xpu_n, Option.bind_some, xk_i, xk_r, xk_0, xk_u, xk_l, xk_k, xk_q, rf_s, rf_n, o_TI, o_TL, o_TR, o_NI, o_NL, o_NR, o_XI, o_XL, o_XR, o_RI, o_RL, o_LI, o_LR, o_IL, o_IR, o_II, o_LL, o_RR, o_pII, o_pLL, up_s, q_e1, q_e2, Nat.zero_add, Nat.reduceEqDiff, Nat.reduceAdd, Nat.reduceMul, Nat.reduceSub, Nat.reduceLT, Nat.reduceLeDiff, Nat.reduceDiv, Nat.reduceMod, nI_c, nI_add, up_ne]
      rw [e]; exact l4 k hk
    · simp (disch := first | assumption | exact nI_ne0 (by decide) (by decide) | exact zb_01 | exact Or.inl rfl | exact Or.inr rfl | with_unfolding_all exact id (by assumption) | with_unfolding_all exact id (xix_8 (by assumption) (by omega) (by omega)) | omega) only [if_true, if_false, ↓reduceIte, xpu_s, xpu_n, Option.bind_some, xk_i, xk_r, xk_0, xk_u, xk_l, xk_k, xk_q, rf_s, rf_n, o_TI, o_TL, o_TR, o_NI, o_NL, o_NR, o_XI, o_XL, o_XR, o_RI, o_RL, o_LI, o_LR, o_IL, o_IR, o_II, o_LL, o_RR, o_pII, o_pLL, up_s, q_e1, q_e2, Nat.zero_add, Nat.reduceEqDiff, Nat.reduceAdd, Nat.reduceMul, Nat.reduceSub, Nat.reduceLT, Nat.reduceLeDiff, Nat.reduceDiv, Nat.reduceMod, nI_c, nI_add, up_ne]
    · have e : sGo s.1 s.2.2.1 i (24 + i) = zb (decide (gT s.1 i < gL s.1 s.2.2.1 i)) := by
        unfold sGo; rw [up_s, if_neg st]
      rw [a1, a2, gL_eq tl, e]
      simp (disch := first | assumption | exact nI_ne0 (by decide) (by decide) | exact zb_01 | exact Or.inl rfl | exact Or.inr rfl | with_unfolding_all exact id (by assumption) | with_unfolding_all exact id (xix_8 (by assumption) (by omega) (by omega)) | omega) only [if_true, if_false, ↓reduceIte, xpu_s, xpu_n, Option.bind_some, xk_i, xk_r, xk_0, xk_u, xk_l, xk_k, xk_q, rf_s, rf_n, o_TI, o_TL, o_TR, o_NI, o_NL, o_NR, o_XI, o_XL, o_XR, o_RI, o_RL, o_LI, o_LR, o_IL, o_IR, o_II, o_LL, o_RR, o_pII, o_pLL, up_s, q_e1, q_e2, Nat.zero_add, Nat.reduceEqDiff, Nat.reduceAdd, Nat.reduceMul, Nat.reduceSub, Nat.reduceLT, Nat.reduceLeDiff, Nat.reduceDiv, Nat.reduceMod, nI_c, nI_add, up_ne]
      rfl
    · simp (disch := first | assumption | exact nI_ne0 (by decide) (by decide) | exact zb_01 | exact Or.inl rfl | exact Or.inr rfl | with_unfolding_all exact id (by assumption) | with_unfolding_all exact id (xix_8 (by assumption) (by omega) (by omega)) | omega) only [if_true, if_false, ↓reduceIte, xpu_s, xpu_n, Option.bind_some, xk_i, xk_r, xk_0, xk_u, xk_l, xk_k, xk_q, rf_s, rf_n, o_TI, o_TL, o_TR, o_NI, o_NL, o_NR, o_XI, o_XL, o_XR, o_RI, o_RL, o_LI, o_LR, o_IL, o_IR, o_II, o_LL, o_RR, o_pII, o_pLL, up_s, q_e1, q_e2, Nat.zero_add, Nat.reduceEqDiff, Nat.reduceAdd, Nat.reduceMul, Nat.reduceSub, Nat.reduceLT, Nat.reduceLeDiff, Nat.reduceDiv, Nat.reduceMod, nI_c, nI_add, up_ne]
    · unfold sGo gW
      rw [if_neg st, up_ne (by omega), up_ne (by omega)]
theorem cl_loop (O : WO h q) (hs : oR h q 5 = some c) (S : SCo h c A) (W2 : sN A ≤ 8) (P : WP A w) {lane : Int32} : ∀ (f : Nat) (s : sM) (h1 : xH), cu s.2.1 (sN A) ≤ f → CL q A w lane h h1 s → ∃ h2, E_ (d + 5) mX3_moves 34 [.val (.ref q), .val (.int lane), .val (.int (oe s.2.2.2)), .val (.int s.2.2.1), .val (.int (oe (sNe A s.1 s.2.1 lane)))] [] h1 = some (some (.int (oe (sLn A lane f s).2.2.2)), h2) ∧ CL q A w lane h h2 (sLn A lane f s)
  | f, s, h1, hf, C => by
    have hC := C
    obtain ⟨l1, l2, l3, l4, l5, l6, l7, l8, l9⟩ := C
    have O1 := WO_fr l1 O
    cases qn : sNe A s.1 s.2.1 lane with
    | none =>
      rw [sLn_none qn]
      refine ⟨h1, ?_, hC⟩
      simp (disch := first | assumption | exact nI_ne0 (by decide) (by decide) | exact zb_01 | exact Or.inl rfl | exact Or.inr rfl | with_unfolding_all exact id (by assumption) | with_unfolding_all exact id (xix_8 (by assumption) (by omega) (by omega)) | omega) only [wX3_moves_e, wX3_moves_0, wX3_moves_1, wX3_moves_2, wX3_moves_3, wX3_moves_4, wX3_moves_7, wX3_moves_10, wX3_moves_11, wX3_moves_14, wX3_moves_15, wX3_moves_16, wX3_moves_16z, wX3_moves_17, wX3_moves_20, wX3_moves_23, wX3_moves_24, wX3_moves_25, wX3_moves_26, wX3_moves_27, wX3_moves_28, wX3_moves_29, wX3_moves_32, wX3_moves_34, wX3_moves_36, wX3_moves_37, wX3_moves_40, wX3_moves_41, wX3_moves_43, wX3_moves_44, wX3_moves_47, wX3_moves_48, wX3_moves_51, wX3_moves_53, wX3_moves_54, wX3_moves_54z, wX3_moves_55, wX3_moves_56, wX3_moves_59, wX3_moves_61, wX3_moves_62, wX3_moves_65, wX3_moves_66, wX3_moves_67, wX3_moves_70, wX3_moves_72, wX3_moves_75, wX3_moves_76, wX3_moves_78, wX3_moves_81, wX3_moves_82, wX3_moves_85, wX3_moves_86, wX3_moves_89, wX3_moves_91, wX3_moves_92, wX3_moves_93, wX3_moves_96, wX3_moves_97, wX3_moves_100, wX3_moves_102, wX3_moves_103, wX3_moves_106, wX3_moves_107, wX3_moves_108, wX3_moves_111, wX3_moves_113, wX3_moves_114, wX3_moves_117, wX3_moves_118, wX3_moves_119, wX3_moves_120, wX3_moves_123, wX3_moves_125, wX3_moves_128, wX3_moves_129, if_true, if_false, ↓reduceIte, xpu_s, xpu_n, Option.bind_some, xk_i, xk_r, xk_0, xk_u, xk_l, xk_k, xk_q, rf_s, rf_n, o_TI, o_TL, o_TR, o_NI, o_NL, o_NR, o_XI, o_XL, o_XR, o_RI, o_RL, o_LI, o_LR, o_IL, o_IR, o_II, o_LL, o_RR, o_pII, o_pLL, up_s, q_e1, q_e2, Nat.zero_add, Nat.reduceEqDiff, Nat.reduceAdd, Nat.reduceMul, Nat.reduceSub, Nat.reduceLT, Nat.reduceLeDiff, Nat.reduceDiv, Nat.reduceMod, nI_c, nI_add, up_ne, oe]
    | some i =>
      obtain ⟨i1, i2, i3, i4⟩ := sNe_some qn
      match f, hf with
      | 0, hf =>
        have := cu_pos i3 (sN A) i1
        omega
      | f + 1, hf =>
        rw [sLn_some qn]
        obtain ⟨h2, g1, g2⟩ := cl_goes (d := d + 4) O W2 P hC i1 i3 i4
        have hcu := cu_up i3 (sN A)
        rw [if_pos i1] at hcu
        obtain ⟨h3, e1, e2⟩ := cl_loop O hs S W2 P f (sMv i s) (pI h2 (q + 5) (va_up (oI h2 (q + 5)) i (nI 1))) (by show cu (va_up s.2.1 i true) (sN A) ≤ f; omega) g2
        refine ⟨h3, Eq.trans ?_ e1, e2⟩
        have hg2 := g2
        obtain ⟨m1, m2, m3, m4, m5, m6, m7, m8, m9⟩ := g2
        have O2 := WO_fr m1 O
        have S2 := SC_w m1 O S
        have hs2 : oR (pI h2 (q + 5) (va_up (oI h2 (q + 5)) i (nI 1))) q 5 = some c := by rw [m1.2.2.2.1]; exact hs
        have NE := kX3_nearest (d := d) O2 hs2 S2 W2 (w := (sMv i s).1) (mv := (sMv i s).2.1) (lane := lane) (fun k hk _ => m3 k hk) m7
        have b1 := m3 i i1
        have b2 := m5 i i1
        have b3 := m6 i i1 (Or.inl up_s)
        have e16 : (sMv i s).1 (16 + i) = s.1 (16 + i) := by
          show sGo s.1 s.2.2.1 i (16 + i) = _
          unfold sGo gW
          rw [up_ne (by omega)]
          split
          · rw [up_ne (by omega), up_ne (by omega)]
          · rw [up_ne (by omega)]
        have nc : (nI i = -1) = False := nI_nm1 (by omega)
        obtain ⟨p1, p2, p3, p4, p5, p6, p7, p8, p9, p10, p11, p12, p13, p14, p15, p16⟩ := O2
        generalize hX : pI h2 (q + 5) (va_up (oI h2 (q + 5)) i (nI 1)) = X at *
        have hT2 : oT h2 = oT X := by rw [← hX]; rfl
        have hN2 : oN h2 = oN X := by rw [← hX]; rfl
        have hR2 : oR h2 = oR X := by rw [← hX]; rfl
        have hT1 : oT h1 q = 5 := O1.1
        have T52 : oT h2 q = 5 := by rw [hT2]; exact p1
        have T42 : oT h2 (q + 5) = 42 := by rw [hT2]; exact p11
        have N42 : oN h2 (q + 5) = 8 := by rw [hN2]; exact p16
        have R52 : oR h2 q 4 = some (q + 5) := by rw [hR2]; exact p6
        have ka : (sMv i s).1 i = sGo s.1 s.2.2.1 i i := rfl
        have kb : (sMv i s).1 (16 + i) = sGo s.1 s.2.2.1 i (16 + i) := rfl
        have kc : (sMv i s).1 (24 + i) = sGo s.1 s.2.2.1 i (24 + i) := rfl
        have kd : (sMv i s).2.2.1 = (if 0 < sGo s.1 s.2.2.1 i i ∧ (sGo s.1 s.2.2.1 i (16 + i) = nI 2 ∨ ¬ sGo s.1 s.2.2.1 i (24 + i) = 0) then im s.2.2.1 (sGo s.1 s.2.2.1 i i) else s.2.2.1) := rfl
        have ke : (sMv i s).2.2.2 = (if 0 < sGo s.1 s.2.2.1 i i then s.2.2.2 else fmin i s.2.2.2) := rfl
        rw [ka] at b1
        rw [kb] at b2
        rw [kc] at b3
        rw [kd, ke]
        generalize sGo s.1 s.2.2.1 i i = gx at *
        generalize sGo s.1 s.2.2.1 i (16 + i) = gy at *
        generalize sGo s.1 s.2.2.1 i (24 + i) = gz' at *
        refine wX3_moves_34.trans ?_
        by_cases q1 : 0 < gx
        · by_cases q2 : gy = nI 2
          · simp (disch := first | exact xix_k (by omega) (by omega) | first | assumption | exact nI_ne0 (by decide) (by decide) | exact zb_01 | exact Or.inl rfl | exact Or.inr rfl | with_unfolding_all exact id (by assumption) | with_unfolding_all exact id (xix_8 (by assumption) (by omega) (by omega)) | omega) only [wX3_moves_e, wX3_moves_0, wX3_moves_1, wX3_moves_2, wX3_moves_3, wX3_moves_4, wX3_moves_7, wX3_moves_10, wX3_moves_11, wX3_moves_14, wX3_moves_15, wX3_moves_16, wX3_moves_16z, wX3_moves_17, wX3_moves_20, wX3_moves_23, wX3_moves_24, wX3_moves_25, wX3_moves_26, wX3_moves_27, wX3_moves_28, wX3_moves_29, wX3_moves_32, wX3_moves_36, wX3_moves_37, wX3_moves_40, wX3_moves_41, wX3_moves_43, wX3_moves_44, wX3_moves_47, wX3_moves_48, wX3_moves_51, wX3_moves_53, wX3_moves_54, wX3_moves_54z, wX3_moves_55, wX3_moves_56, wX3_moves_59, wX3_moves_61, wX3_moves_62, wX3_moves_65, wX3_moves_66, wX3_moves_67, wX3_moves_70, wX3_moves_72, wX3_moves_75, wX3_moves_76, wX3_moves_78, wX3_moves_81, wX3_moves_82, wX3_moves_85, wX3_moves_86, wX3_moves_89, wX3_moves_91, wX3_moves_92, wX3_moves_93, wX3_moves_96, wX3_moves_97, wX3_moves_100, wX3_moves_102, wX3_moves_103, wX3_moves_106, wX3_moves_107, wX3_moves_108, wX3_moves_111, wX3_moves_113, wX3_moves_114, wX3_moves_117, wX3_moves_118, wX3_moves_119, wX3_moves_120, wX3_moves_123, wX3_moves_125, wX3_moves_128, wX3_moves_129, if_true, if_false, ↓reduceIte, xpu_s, xpu_n, Option.bind_some, xk_i, xk_r, xk_0, xk_u, xk_l, xk_k, xk_q, rf_s, rf_n, q_e1, q_e2, Nat.zero_add, Nat.reduceEqDiff, Nat.reduceAdd, Nat.reduceMul, Nat.reduceSub, Nat.reduceLT, Nat.reduceLeDiff, Nat.reduceDiv, Nat.reduceMod, nI_c, T52, R52, oe_s, oe_n, fmin_n, fmin_s, nc, g1, nar_1, hX, b1, b2, b3, q1, q2, xP, im, NE, p2, p3, p4, p5, p6, p12, p13, p14, p15, p16, true_or, and_self]
          · by_cases q3 : gz' = 0
            · simp (disch := first | exact xix_k (by omega) (by omega) | first | assumption | exact nI_ne0 (by decide) (by decide) | exact zb_01 | exact Or.inl rfl | exact Or.inr rfl | with_unfolding_all exact id (by assumption) | with_unfolding_all exact id (xix_8 (by assumption) (by omega) (by omega)) | omega) only [wX3_moves_e, wX3_moves_0, wX3_moves_1, wX3_moves_2, wX3_moves_3, wX3_moves_4, wX3_moves_7, wX3_moves_10, wX3_moves_11, wX3_moves_14, wX3_moves_15, wX3_moves_16, wX3_moves_16z, wX3_moves_17, wX3_moves_20, wX3_moves_23, wX3_moves_24, wX3_moves_25, wX3_moves_26, wX3_moves_27, wX3_moves_28, wX3_moves_29, wX3_moves_32, wX3_moves_36, wX3_moves_37, wX3_moves_40, wX3_moves_41, wX3_moves_43, wX3_moves_44, wX3_moves_47, wX3_moves_48, wX3_moves_51, wX3_moves_53, wX3_moves_54, wX3_moves_54z, wX3_moves_55, wX3_moves_56, wX3_moves_59, wX3_moves_61, wX3_moves_62, wX3_moves_65, wX3_moves_66, wX3_moves_67, wX3_moves_70, wX3_moves_72, wX3_moves_75, wX3_moves_76, wX3_moves_78, wX3_moves_81, wX3_moves_82, wX3_moves_85, wX3_moves_86, wX3_moves_89, wX3_moves_91, wX3_moves_92, wX3_moves_93, wX3_moves_96, wX3_moves_97, wX3_moves_100, wX3_moves_102, wX3_moves_103, wX3_moves_106, wX3_moves_107, wX3_moves_108, wX3_moves_111, wX3_moves_113, wX3_moves_114, wX3_moves_117, wX3_moves_118, wX3_moves_119, wX3_moves_120, wX3_moves_123, wX3_moves_125, wX3_moves_128, wX3_moves_129, if_true, if_false, ↓reduceIte, xpu_s, xpu_n, Option.bind_some, xk_i, xk_r, xk_0, xk_u, xk_l, xk_k, xk_q, rf_s, rf_n, q_e1, q_e2, Nat.zero_add, Nat.reduceEqDiff, Nat.reduceAdd, Nat.reduceMul, Nat.reduceSub, Nat.reduceLT, Nat.reduceLeDiff, Nat.reduceDiv, Nat.reduceMod, nI_c, T52, R52, oe_s, oe_n, fmin_n, fmin_s, nc, g1, nar_1, hX, b1, b2, b3, q1, q2, q3, xP, im, NE, p2, p3, p4, p5, p6, p12, p13, p14, p15, p16, not_true_eq_false, or_false, and_false]
            · simp (disch := first | exact xix_k (by omega) (by omega) | first | assumption | exact nI_ne0 (by decide) (by decide) | exact zb_01 | exact Or.inl rfl | exact Or.inr rfl | with_unfolding_all exact id (by assumption) | with_unfolding_all exact id (xix_8 (by assumption) (by omega) (by omega)) | omega) only [wX3_moves_e, wX3_moves_0, wX3_moves_1, wX3_moves_2, wX3_moves_3, wX3_moves_4, wX3_moves_7, wX3_moves_10, wX3_moves_11, wX3_moves_14, wX3_moves_15, wX3_moves_16, wX3_moves_16z, wX3_moves_17, wX3_moves_20, wX3_moves_23, wX3_moves_24, wX3_moves_25, wX3_moves_26, wX3_moves_27, wX3_moves_28, wX3_moves_29, wX3_moves_32, wX3_moves_36, wX3_moves_37, wX3_moves_40, wX3_moves_41, wX3_moves_43, wX3_moves_44, wX3_moves_47, wX3_moves_48, wX3_moves_51, wX3_moves_53, wX3_moves_54, wX3_moves_54z, wX3_moves_55, wX3_moves_56, wX3_moves_59, wX3_moves_61, wX3_moves_62, wX3_moves_65, wX3_moves_66, wX3_moves_67, wX3_moves_70, wX3_moves_72, wX3_moves_75, wX3_moves_76, wX3_moves_78, wX3_moves_81, wX3_moves_82, wX3_moves_85, wX3_moves_86, wX3_moves_89, wX3_moves_91, wX3_moves_92, wX3_moves_93, wX3_moves_96, wX3_moves_97, wX3_moves_100, wX3_moves_102, wX3_moves_103, wX3_moves_106, wX3_moves_107, wX3_moves_108, wX3_moves_111, wX3_moves_113, wX3_moves_114, wX3_moves_117, wX3_moves_118, wX3_moves_119, wX3_moves_120, wX3_moves_123, wX3_moves_125, wX3_moves_128, wX3_moves_129, if_true, if_false, ↓reduceIte, xpu_s, xpu_n, Option.bind_some, xk_i, xk_r, xk_0, xk_u, xk_l, xk_k, xk_q, rf_s, rf_n, q_e1, q_e2, Nat.zero_add, Nat.reduceEqDiff, Nat.reduceAdd, Nat.reduceMul, Nat.reduceSub, Nat.reduceLT, Nat.reduceLeDiff, Nat.reduceDiv, Nat.reduceMod, nI_c, T52, R52, oe_s, oe_n, fmin_n, fmin_s, nc, g1, nar_1, hX, b1, b2, b3, q1, q2, q3, xP, im, NE, p2, p3, p4, p5, p6, p12, p13, p14, p15, p16, not_false_eq_true, or_true, and_self]
        · cases qf : s.2.2.2 with
          | none =>
            simp (disch := first | exact xix_k (by omega) (by omega) | first | assumption | exact nI_ne0 (by decide) (by decide) | exact zb_01 | exact Or.inl rfl | exact Or.inr rfl | with_unfolding_all exact id (by assumption) | with_unfolding_all exact id (xix_8 (by assumption) (by omega) (by omega)) | omega) only [wX3_moves_e, wX3_moves_0, wX3_moves_1, wX3_moves_2, wX3_moves_3, wX3_moves_4, wX3_moves_7, wX3_moves_10, wX3_moves_11, wX3_moves_14, wX3_moves_15, wX3_moves_16, wX3_moves_16z, wX3_moves_17, wX3_moves_20, wX3_moves_23, wX3_moves_24, wX3_moves_25, wX3_moves_26, wX3_moves_27, wX3_moves_28, wX3_moves_29, wX3_moves_32, wX3_moves_36, wX3_moves_37, wX3_moves_40, wX3_moves_41, wX3_moves_43, wX3_moves_44, wX3_moves_47, wX3_moves_48, wX3_moves_51, wX3_moves_53, wX3_moves_54, wX3_moves_54z, wX3_moves_55, wX3_moves_56, wX3_moves_59, wX3_moves_61, wX3_moves_62, wX3_moves_65, wX3_moves_66, wX3_moves_67, wX3_moves_70, wX3_moves_72, wX3_moves_75, wX3_moves_76, wX3_moves_78, wX3_moves_81, wX3_moves_82, wX3_moves_85, wX3_moves_86, wX3_moves_89, wX3_moves_91, wX3_moves_92, wX3_moves_93, wX3_moves_96, wX3_moves_97, wX3_moves_100, wX3_moves_102, wX3_moves_103, wX3_moves_106, wX3_moves_107, wX3_moves_108, wX3_moves_111, wX3_moves_113, wX3_moves_114, wX3_moves_117, wX3_moves_118, wX3_moves_119, wX3_moves_120, wX3_moves_123, wX3_moves_125, wX3_moves_128, wX3_moves_129, if_true, if_false, ↓reduceIte, xpu_s, xpu_n, Option.bind_some, xk_i, xk_r, xk_0, xk_u, xk_l, xk_k, xk_q, rf_s, rf_n, q_e1, q_e2, Nat.zero_add, Nat.reduceEqDiff, Nat.reduceAdd, Nat.reduceMul, Nat.reduceSub, Nat.reduceLT, Nat.reduceLeDiff, Nat.reduceDiv, Nat.reduceMod, nI_c, T52, R52, oe_s, oe_n, fmin_n, fmin_s, nc, g1, nar_1, hX, b1, b2, b3, q1, xP, im, NE, p2, p3, p4, p5, p6, p12, p13, p14, p15, p16, false_and]
          | some j =>
            have j8 := l9 j qf
            have nj : (nI j = -1) = False := nI_nm1 (by omega)
            by_cases q4 : i < j
            · simp (disch := first | exact xix_k (by omega) (by omega) | first | assumption | exact nI_ne0 (by decide) (by decide) | exact zb_01 | exact Or.inl rfl | exact Or.inr rfl | with_unfolding_all exact id (by assumption) | with_unfolding_all exact id (xix_8 (by assumption) (by omega) (by omega)) | omega) only [wX3_moves_e, wX3_moves_0, wX3_moves_1, wX3_moves_2, wX3_moves_3, wX3_moves_4, wX3_moves_7, wX3_moves_10, wX3_moves_11, wX3_moves_14, wX3_moves_15, wX3_moves_16, wX3_moves_16z, wX3_moves_17, wX3_moves_20, wX3_moves_23, wX3_moves_24, wX3_moves_25, wX3_moves_26, wX3_moves_27, wX3_moves_28, wX3_moves_29, wX3_moves_32, wX3_moves_36, wX3_moves_37, wX3_moves_40, wX3_moves_41, wX3_moves_43, wX3_moves_44, wX3_moves_47, wX3_moves_48, wX3_moves_51, wX3_moves_53, wX3_moves_54, wX3_moves_54z, wX3_moves_55, wX3_moves_56, wX3_moves_59, wX3_moves_61, wX3_moves_62, wX3_moves_65, wX3_moves_66, wX3_moves_67, wX3_moves_70, wX3_moves_72, wX3_moves_75, wX3_moves_76, wX3_moves_78, wX3_moves_81, wX3_moves_82, wX3_moves_85, wX3_moves_86, wX3_moves_89, wX3_moves_91, wX3_moves_92, wX3_moves_93, wX3_moves_96, wX3_moves_97, wX3_moves_100, wX3_moves_102, wX3_moves_103, wX3_moves_106, wX3_moves_107, wX3_moves_108, wX3_moves_111, wX3_moves_113, wX3_moves_114, wX3_moves_117, wX3_moves_118, wX3_moves_119, wX3_moves_120, wX3_moves_123, wX3_moves_125, wX3_moves_128, wX3_moves_129, if_true, if_false, ↓reduceIte, xpu_s, xpu_n, Option.bind_some, xk_i, xk_r, xk_0, xk_u, xk_l, xk_k, xk_q, rf_s, rf_n, q_e1, q_e2, Nat.zero_add, Nat.reduceEqDiff, Nat.reduceAdd, Nat.reduceMul, Nat.reduceSub, Nat.reduceLT, Nat.reduceLeDiff, Nat.reduceDiv, Nat.reduceMod, nI_c, T52, R52, oe_s, oe_n, fmin_n, fmin_s, nc, nj, g1, nar_1, hX, b1, b2, b3, q1, q4, nI_ltP, xP, im, NE, p2, p3, p4, p5, p6, p12, p13, p14, p15, p16, false_and]
            · simp (disch := first | exact xix_k (by omega) (by omega) | first | assumption | exact nI_ne0 (by decide) (by decide) | exact zb_01 | exact Or.inl rfl | exact Or.inr rfl | with_unfolding_all exact id (by assumption) | with_unfolding_all exact id (xix_8 (by assumption) (by omega) (by omega)) | omega) only [wX3_moves_e, wX3_moves_0, wX3_moves_1, wX3_moves_2, wX3_moves_3, wX3_moves_4, wX3_moves_7, wX3_moves_10, wX3_moves_11, wX3_moves_14, wX3_moves_15, wX3_moves_16, wX3_moves_16z, wX3_moves_17, wX3_moves_20, wX3_moves_23, wX3_moves_24, wX3_moves_25, wX3_moves_26, wX3_moves_27, wX3_moves_28, wX3_moves_29, wX3_moves_32, wX3_moves_36, wX3_moves_37, wX3_moves_40, wX3_moves_41, wX3_moves_43, wX3_moves_44, wX3_moves_47, wX3_moves_48, wX3_moves_51, wX3_moves_53, wX3_moves_54, wX3_moves_54z, wX3_moves_55, wX3_moves_56, wX3_moves_59, wX3_moves_61, wX3_moves_62, wX3_moves_65, wX3_moves_66, wX3_moves_67, wX3_moves_70, wX3_moves_72, wX3_moves_75, wX3_moves_76, wX3_moves_78, wX3_moves_81, wX3_moves_82, wX3_moves_85, wX3_moves_86, wX3_moves_89, wX3_moves_91, wX3_moves_92, wX3_moves_93, wX3_moves_96, wX3_moves_97, wX3_moves_100, wX3_moves_102, wX3_moves_103, wX3_moves_106, wX3_moves_107, wX3_moves_108, wX3_moves_111, wX3_moves_113, wX3_moves_114, wX3_moves_117, wX3_moves_118, wX3_moves_119, wX3_moves_120, wX3_moves_123, wX3_moves_125, wX3_moves_128, wX3_moves_129, if_true, if_false, ↓reduceIte, xpu_s, xpu_n, Option.bind_some, xk_i, xk_r, xk_0, xk_u, xk_l, xk_k, xk_q, rf_s, rf_n, q_e1, q_e2, Nat.zero_add, Nat.reduceEqDiff, Nat.reduceAdd, Nat.reduceMul, Nat.reduceSub, Nat.reduceLT, Nat.reduceLeDiff, Nat.reduceDiv, Nat.reduceMod, nI_c, T52, R52, oe_s, oe_n, fmin_n, fmin_s, nc, nj, g1, nar_1, hX, b1, b2, b3, q1, q4, nI_ltP, xP, im, NE, p2, p3, p4, p5, p6, p12, p13, p14, p15, p16, false_and]
end
