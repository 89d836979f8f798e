/-! CONTRACTS of the component: how likely a car stops, draws, a tick, a run -/
theorem FT_mono {h : xH} {A : rI} : ∀ {m f i j : Nat}, FT h A m f i j → FT h A (m + 1) f i j
  | 0, _, _, _, F => F.elim
  | m + 1, f, i, j, F => by
    rcases F with F | ⟨t0, g, k, g0, e, e2, F⟩ | ⟨t0, g1, g2, k, l, g3, g4, e, e2, F1, F2⟩
    · exact Or.inl F
    · exact Or.inr (Or.inl ⟨t0, g, k, g0, e, e2, FT_mono F⟩)
    · exact Or.inr (Or.inr ⟨t0, g1, g2, k, l, g3, g4, e, e2, FT_mono F1, FT_mono F2⟩)
/-- a law's list of such numbers -/
def LWo (h : xH) (l : Nat) (A : rI) : Prop := LSn h l (sNl A) ∧ ∀ k, k < sNl A → oT h (li h l k) = 18 ∧ oI h (li h l k) 0 = A (41 + k) ∧ oR h (li h l k) 1 = some (rq h (li h l k) 1) ∧ FT h A 200 (rq h (li h l k) 1) (sFm A k) (sTo A k)
/-- the component, its state, its law -/
def XL (h : xH) (s l : Nat) : Prop := oT h 64 = 1 ∧ oR h 64 0 = some s ∧ oT h s = 2 ∧ oR h s 1 = some l
/-- nothing but a walk's numbers and the last draw is changed -/
def XFr (q : Nat) (h h' : xH) : Prop := h'.2.2.2.2.2 = h.2.2.2.2.2 ∧ oT h' = oT h ∧ oN h' = oN h ∧ oR h' = oR h ∧ oL h' = oL h ∧ (∀ a, (a < q ∨ q + 5 < a) → a ≠ 64 → oI h' a = oI h a) ∧ ∀ j, j ≠ 8 → oI h' 64 j = oI h 64 j
theorem XFr_refl {q : Nat} {h : xH} : XFr q h h := ⟨rfl, rfl, rfl, rfl, rfl, fun _ _ _ => rfl, fun _ _ => rfl⟩
theorem XFr_trans {q : Nat} {h h1 h2 : xH} (a : XFr q h h1) (b : XFr q h1 h2) : XFr q h h2 :=
  ⟨b.1.trans a.1, b.2.1.trans a.2.1, b.2.2.1.trans a.2.2.1, b.2.2.2.1.trans a.2.2.2.1, b.2.2.2.2.1.trans a.2.2.2.2.1, fun x hx h6 => (b.2.2.2.2.2.1 x hx h6).trans (a.2.2.2.2.2.1 x hx h6), fun j hj => (b.2.2.2.2.2.2 j hj).trans (a.2.2.2.2.2.2 j hj)⟩
theorem XFr_W {q : Nat} {h h' : xH} (hq : 64 < q) (w : WFr q h h') : XFr q h h' := ⟨w.1, w.2.1, w.2.2.1, w.2.2.2.1, w.2.2.2.2.1, fun a ha _ => w.2.2.2.2.2 a ha, fun j _ => by rw [w.2.2.2.2.2 64 (Or.inl hq)]⟩
theorem XFr_8 {q : Nat} {h : xH} {x : Int32} : XFr q h (pI h 64 (va_up (oI h 64) 8 x)) := ⟨rfl, rfl, rfl, rfl, rfl, fun a _ h6 => by rw [o_II, if_neg h6], fun j hj => by rw [o_II, if_pos rfl, up_ne hj]⟩
theorem XFr_I {q : Nat} {h h1 : xH} {a : Nat} {f : rI} (w : XFr q h h1) (h2 : q ≤ a) (h3 : a ≤ q + 5) (hq : 64 < q) : XFr q h (pI h1 a f) := XFr_trans w (XFr_W hq (WFr_I WFr_refl h2 h3))
theorem XL_x {q : Nat} {h h' : xH} {s l : Nat} (F : XFr q h h') (X : XL h s l) : XL h' s l := by
  obtain ⟨-, f2, -, f4, -, -, -⟩ := F
  unfold XL at *
  rw [f2, f4]
  exact X
theorem WO_x {q : Nat} {h h' : xH} (F : XFr q h h') (O : WO h q) : WO h' q := by
  obtain ⟨-, f2, f3, f4, -, -⟩ := F
  unfold WO at *
  rw [f2, f3, f4]
  exact O
theorem XFr_tag {q : Nat} {h h' : xH} (F : XFr q h h') (O : WO h q) (X : oT h 64 = 1) {a : Nat} (ha : ¬ oT h a = 1 ∧ ¬ oT h a = 5 ∧ ¬ oT h a = 40 ∧ ¬ oT h a = 42) : oI h' a = oI h a := by
  obtain ⟨-, -, -, -, -, f6, -⟩ := F
  obtain ⟨o1, o2, o3, o4, o5, o6, o7, o8, o9, o10, o11, o12, o13, o14, o15, o16⟩ := O
  obtain ⟨a1, a5, a40, a42⟩ := ha
  refine f6 a ?_ (fun z => a1 (by rw [z]; exact X))
  rcases Nat.lt_or_ge a q with z | z
  · exact Or.inl z
  · rcases Nat.lt_or_ge (q + 5) a with y | y
    · exact Or.inr y
    · exfalso
      have : a = q ∨ a = q + 1 ∨ a = q + 2 ∨ a = q + 3 ∨ a = q + 4 ∨ a = q + 5 := by omega
      rcases this with rfl | rfl | rfl | rfl | rfl | rfl <;> omega
theorem SC_x {q : Nat} {h h' : xH} {c : Nat} {A : rI} (F : XFr q h h') (O : WO h q) (X : oT h 64 = 1) (S : SCo h c A) : SCo h' c A :=
  SC_fr F.2.1 F.2.2.1 (fun a _ => by rw [F.2.2.2.1]) (fun a ha => XFr_tag F O X (by omega)) S
theorem LF_fr {h h' : xH} {f : Nat} {k v : Int32} (f2 : oT h' = oT h) (f6 : oI h' f = oI h f) (L : LF h f k v) : LF h' f k v := by
  unfold LF at *
  rw [f2, f6]
  exact L
theorem FT_fr {h h' : xH} {A : rI} (f2 : oT h' = oT h) (f4 : ∀ a, ¬ oT h a = 5 → oR h' a = oR h a) (f6 : ∀ a, 10 ≤ oT h a → oT h a ≤ 18 → oI h' a = oI h a) : ∀ {m f i j : Nat}, FT h A m f i j → FT h' A m f i j
  | 0, _, _, _, F => F.elim
  | m + 1, f, i, j, F => by
    have tg := FT_tag F
    rcases F with ⟨e, L⟩ | ⟨t0, g, k, g0, e, e2, F⟩ | ⟨t0, g1, g2, k, l, g3, g4, e, e2, F1, F2⟩
    · exact Or.inl ⟨e, LF_fr f2 (f6 f tg.1 (by omega)) L⟩
    · exact Or.inr (Or.inl ⟨by rw [f2]; exact t0, g, k, by rw [f4 f (by omega)]; exact g0, e, e2, FT_fr f2 f4 f6 F⟩)
    · exact Or.inr (Or.inr ⟨by rw [f2]; exact t0, g1, g2, k, l, by rw [f4 f (by omega)]; exact g3, by rw [f4 f (by omega)]; exact g4, e, by rw [f6 f tg.1 (by omega)]; exact e2, FT_fr f2 f4 f6 F1, FT_fr f2 f4 f6 F2⟩)
theorem LW_fr {h h' : xH} {l : Nat} {A : rI} (f2 : oT h' = oT h) (f3 : oN h' = oN h) (f4 : ∀ a, ¬ oT h a = 5 → oR h' a = oR h a) (f6 : ∀ a, oT h a = 4 ∨ (10 ≤ oT h a ∧ oT h a ≤ 18) → oI h' a = oI h a) (L : LWo h l A) : LWo h' l A := by
  obtain ⟨l1, l2⟩ := L
  refine ⟨LS_fr f2 f3 f4 (f6 l (Or.inl l1.1)) l1, fun k hk => ?_⟩
  obtain ⟨v1, v2, v3, v4⟩ := l2 k hk
  have e0 := f4 (li h l k) (by omega)
  rw [li_fr f4 l1, rq_at e0]
  exact ⟨by rw [f2]; exact v1, by rw [f6 _ (Or.inr (by omega))]; exact v2, by rw [e0]; exact v3, FT_fr f2 f4 (fun a h1 h2 => f6 a (Or.inr ⟨h1, h2⟩)) v4⟩
theorem LW_x {q : Nat} {h h' : xH} {l : Nat} {A : rI} (F : XFr q h h') (O : WO h q) (X : oT h 64 = 1) (L : LWo h l A) : LWo h' l A :=
  LW_fr F.2.1 F.2.2.1 (fun a _ => by rw [F.2.2.2.1]) (fun a ha => XFr_tag F O X (by omega)) L
theorem WR_41 {h : xH} {q : Nat} {A w : rI} {x : Int32} (W2 : sN A ≤ 8) (R : WR h q A w) : WR h q A (va_up w 41 x) := by
  obtain ⟨r1, r2, r3, r4, r5, r6, r7, r8, r9, r10, r11⟩ := R
  refine ⟨fun k hk => ?_, fun k hk => ?_, fun k hk => ?_, fun k hk => ?_, ?_, ?_, ?_, ?_, ?_, ?_, ?_⟩
  · rw [up_ne (by omega)]; exact r1 k hk
  · rw [up_ne (by omega)]; exact r2 k hk
  · rw [up_ne (by omega)]; exact r3 k hk
  · rw [up_ne (by omega)]; exact r4 k hk
  · rw [up_ne (by omega)]; exact r5
  · rw [up_ne (by omega), up_ne (by omega)]; exact r6
  · rw [up_ne (by omega)]; exact r7
  · rw [up_ne (by omega)]; exact r8
  · rw [up_ne (by omega)]; exact r9
  · rw [up_ne (by omega)]; exact r10
  · rw [up_ne (by omega)]; exact r11
section
variable {d : Nat} {h : xH} {q c s l : Nat} {A w : rI}
theorem kX0_chanceOf (O : WO h q) (hs : oR h q 5 = some c) (S : SCo h c A) (R : WR h q A w) (W : WFs A) (I : WI A w) (WL : WFl A) (X : XL h s l) (L : LWo h l A) {x : Nat} (hx : x < sN A) : C_ (d + 206) mX0_chanceOf [.ref 64, .ref q, .int (nI x)] h = some (some (.int (sSt A w (-1) x)), h) := by
  obtain ⟨x1, x2, x3, x4⟩ := X
  obtain ⟨L1, L2⟩ := L
  have hn := WL.2.1
  have l4 := L1.1
  have M := kJ2_size (d := d + 205) L1
  simp only [wX0_chanceOf_e, wX0_chanceOf_0, wX0_chanceOf_1, xk_i]
  have key := lpj_fi (n := sNl A) (p := fun k => !decide (nI k = -1) && sSo A w x k) (R := fun k => some (some (Value.int (A (41 + k))), h)) (X := some (some (Value.int (nI 0)), h)) (F := fun k (_ : Unit) => E_ (d + 206) mX0_chanceOf 2 [.val (.ref 64), .val (.ref q), .val (.int (nI x)), .val (.int (nI k))] [] h) (fun k z hk => ⟨(), ?_⟩) (fun z => ?_) ()
  · refine key.trans ?_
    unfold sSt
    cases fi_ (fun k => !decide (nI k = -1) && sSo A w x k) (sNl A) <;> rfl
  · refine wX0_chanceOf_2.trans ?_
    have G := kJ2_get (d := d + 203) L1 hk (by omega)
    obtain ⟨v1, v2, v3, v4⟩ := L2 k hk
    obtain ⟨b, e1, e2⟩ := kFT_is (d := d) O hs S R W I hx 200 _ _ _ v4
    have tg := FT_tag v4
    have cs := v_X0_35 (d := d + 205) (ls := [.val (.ref 64), .val (.ref q), .val (.int (nI x)), .val (.int (nI k))]) (r1 := q) (x := nI x) tg
    have eb : sSo A w x k = b := by unfold sSo; rw [e2]; rfl
    have nk : (nI k = -1) = False := nI_nm1 (by omega)
    simp (disch := first | assumption | exact nI_ne0 (by decide) (by decide) | exact zb_01 | exact Or.inl rfl | exact Or.inr rfl | with_unfolding_all exact id (by assumption) | with_unfolding_all exact id (xix_8 (by assumption) (by omega) (by omega)) | omega) only [wX0_chanceOf_3, wX0_chanceOf_4, wX0_chanceOf_7, wX0_chanceOf_10, wX0_chanceOf_13, wX0_chanceOf_16, wX0_chanceOf_17, wX0_chanceOf_20, wX0_chanceOf_23, wX0_chanceOf_24, wX0_chanceOf_27, wX0_chanceOf_30, wX0_chanceOf_33, wX0_chanceOf_34, cs, wX0_chanceOf_38, wX0_chanceOf_41, wX0_chanceOf_42, wX0_chanceOf_45, wX0_chanceOf_48, wX0_chanceOf_49, wX0_chanceOf_52, wX0_chanceOf_55, wX0_chanceOf_58, wX0_chanceOf_59, wX0_chanceOf_62, if_true, if_false, ↓reduceIte, xpu_s, xpu_n, Option.bind_some, xk_i, xk_r, xk_0, xk_u, xk_l, xk_k, xk_q, rf_s, rf_n, q_e1, q_e2, Nat.zero_add, Nat.reduceEqDiff, Nat.reduceAdd, Nat.reduceMul, Nat.reduceSub, Nat.reduceLT, Nat.reduceLeDiff, Nat.reduceDiv, Nat.reduceMod, x2, x4, M, G, v2, v3, e1, eb, nk, nI_ltP, nI_add, hk, zb_0, if_bf, decide_false, Bool.not_false, Bool.true_and]
  · refine wX0_chanceOf_2.trans ?_
    simp (disch := first | assumption | exact nI_ne0 (by decide) (by decide) | exact zb_01 | exact Or.inl rfl | exact Or.inr rfl | with_unfolding_all exact id (by assumption) | with_unfolding_all exact id (xix_8 (by assumption) (by omega) (by omega)) | omega) only [wX0_chanceOf_3, wX0_chanceOf_4, wX0_chanceOf_7, wX0_chanceOf_10, wX0_chanceOf_13, wX0_chanceOf_65, wX0_chanceOf_66, if_true, if_false, ↓reduceIte, xpu_s, xpu_n, Option.bind_some, xk_i, xk_r, xk_0, xk_u, xk_l, xk_k, xk_q, rf_s, rf_n, q_e1, q_e2, Nat.zero_add, Nat.reduceEqDiff, Nat.reduceAdd, Nat.reduceMul, Nat.reduceSub, Nat.reduceLT, Nat.reduceLeDiff, Nat.reduceDiv, Nat.reduceMod, x2, x4, M, i_irr]
theorem kX0_draw (x1 : oT h 64 = 1) : C_ d mX0_draw [.ref 64, .int (nI 100)] h = some (some (.int (sRm (sSh (sRd (oI h 64 8))) (nI 100))), pI h 64 (va_up (oI h 64) 8 (sRd (oI h 64 8)))) := by
  unfold sRm sSh sRd
  simp (disch := first | exact nI_ne0 (by decide) (by decide) | first | assumption | exact nI_ne0 (by decide) (by decide) | exact zb_01 | exact Or.inl rfl | exact Or.inr rfl | with_unfolding_all exact id (by assumption) | with_unfolding_all exact id (xix_8 (by assumption) (by omega) (by omega)) | omega) only [wX0_draw_e, wX0_draw_0, wX0_draw_1, wX0_draw_3, wX0_draw_4, wX0_draw_7, wX0_draw_8, wX0_draw_11, wX0_draw_12, wX0_draw_15, wX0_draw_16, wX0_draw_19, wX0_draw_21, wX0_draw_22, wX0_draw_23, wX0_draw_24, if_true, if_false, ↓reduceIte, xpu_s, xpu_n, Option.bind_some, xk_i, xk_r, xk_0, xk_u, xk_l, xk_k, xk_q, rf_s, rf_n, o_TI, o_TL, o_TR, o_NI, o_NL, o_NR, o_XI, o_XL, o_XR, o_RI, o_RL, o_LI, o_LR, o_IL, o_IR, o_II, o_LL, o_RR, o_pII, o_pLL, up_s, q_e1, q_e2, Nat.zero_add, Nat.reduceEqDiff, Nat.reduceAdd, Nat.reduceMul, Nat.reduceSub, Nat.reduceLT, Nat.reduceLeDiff, Nat.reduceDiv, Nat.reduceMod, nI_c, nI_add, up_ne]
/-- how likely a car stops is a number up to a hundred -/
theorem sCh_le {wl : Int32} (WL : WFl A) (c : Nat) : ∃ m, sCh A w wl c = nI m ∧ m ≤ 100 := by
  unfold sCh
  split
  · unfold sSt
    split
    · rename_i k e
      obtain ⟨x, x1, x2⟩ := (WL.2.2 k (fi_some e).1).1
      exact ⟨x, x1, x2⟩
    · exact ⟨0, rfl, by omega⟩
  · exact ⟨0, rfl, by omega⟩
end
