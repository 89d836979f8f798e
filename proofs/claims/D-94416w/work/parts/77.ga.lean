/-! CONTRACTS of the component: all that drivers may decide is gathered -/
/-- alike where there are cars and parts -/
def aE (a b : aC) : Prop := (∀ k, k < 6 → a.1 k = b.1 k) ∧ (∀ k, k < 8 → a.2.1 k = b.2.1 k) ∧ ∀ k, k < 8 → a.2.2 k = b.2.2 k
theorem up_al {α : Type} {f g : Nat → α} {n e : Nat} {x y : α} (h : ∀ k, k < n → f k = g k) (hx : e < n → x = y) : ∀ k, k < n → va_up f e x k = va_up g e y k := fun k hk => by
  unfold va_up
  by_cases q : k = e
  · rw [if_pos q, if_pos q]; exact hx (by omega)
  · rw [if_neg q, if_neg q]; exact h k hk
theorem lF_aE {A w : rI} {W : Int64} {a b : aC} (h : aE a b) : aE (lF A w W a) (lF A w W b) := by
  obtain ⟨h1, h2, h3⟩ := h
  unfold lF
  generalize (w 37 - nI 1).toNatClampNeg = e
  have s1 := up_al (e := e) (x := a.1 e + W) (y := b.1 e + W) h1 (fun z => by rw [h1 e z])
  refine ⟨?_, ?_, fun k hk => ?_⟩
  · have i3 : a.1 3 + W * (w 36).toInt64 = b.1 3 + W * (w 36).toInt64 := by rw [h1 3 (by omega)]
    have i4 : a.1 4 + W * (w 38).toInt64 = b.1 4 + W * (w 38).toInt64 := by rw [h1 4 (by omega)]
    have i5 : a.1 5 + W = b.1 5 + W := by rw [h1 5 (by omega)]
    exact up_al (up_al (up_al s1 fun _ => i3) fun _ => i4) fun _ => i5
  · intro k hk
    dsimp only
    by_cases q : w 39 = -1
    · rw [if_pos q, if_pos q]; exact h2 k hk
    · rw [if_neg q, if_neg q]
      exact up_al h2 (fun z => by rw [h2 _ z]) k hk
  · dsimp only
    rw [h3 k hk]
theorem sBr_aE {A : rI} {wl : Int32} : ∀ (f : Nat) (w : rI) (W : Nat) (a b : aC), aE a b → aE (sBr A wl f w W a) (sBr A wl f w W b)
  | 0, w, W, a, b, h => h
  | f + 1, w, W, a, b, h => by
    show aE (if w 37 = 0 then _ else _) (if w 37 = 0 then _ else _)
    by_cases q : w 37 = 0
    · rw [if_pos q, if_pos q]
      cases e : dN A wl (sN A - (w 41).toNatClampNeg) (w 41).toNatClampNeg w with
      | mk u o =>
        cases o with
        | none => exact sBr_aE f _ _ _ _ h
        | some c => exact sBr_aE f _ _ _ _ (sBr_aE f _ _ _ _ h)
    · rw [if_neg q, if_neg q]; exact lF_aE h
/-- what gathering leaves as it is -/
def FG (h h' : xH) : Prop := h'.2.2.2.2.2 = h.2.2.2.2.2 ∧ oT h' = oT h ∧ oN h' = oN h ∧ (∀ a, (∀ k, k < 9 → a ≠ 86 + 6 * k) → oR h' a = oR h a) ∧ (∀ a j, j ≠ 5 → oR h' a j = oR h a j) ∧ (∀ a, a ≠ 140 → a ≠ 141 → a ≠ 142 → oL h' a = oL h a) ∧ ∀ a, (a < 86 ∨ 140 ≤ a) → oI h' a = oI h a
section
variable {h h1 h2 : xH} {c s l : Nat} {A : rI} {d : Nat} {ow : Nat → Nat} {P : sS}
theorem FG_refl : FG h h := ⟨rfl, rfl, rfl, fun _ _ => rfl, fun _ _ _ => rfl, fun _ _ _ _ => rfl, fun _ _ => rfl⟩
theorem FG_trans (a : FG h h1) (b : FG h1 h2) : FG h h2 :=
  ⟨b.1.trans a.1, b.2.1.trans a.2.1, b.2.2.1.trans a.2.2.1, fun x hx => (b.2.2.2.1 x hx).trans (a.2.2.2.1 x hx), fun x j hj => (b.2.2.2.2.1 x j hj).trans (a.2.2.2.2.1 x j hj), fun x h1 h2 h3 => (b.2.2.2.2.2.1 x h1 h2 h3).trans (a.2.2.2.2.2.1 x h1 h2 h3), fun x hx => (b.2.2.2.2.2.2 x hx).trans (a.2.2.2.2.2.2 x hx)⟩
theorem FG_FF (F : FF 0 h h1) : FG h h1 := ⟨F.1, F.2.1, F.2.2.1, fun a ha => F.2.2.2.1 a fun k hk _ => ha k hk, F.2.2.2.2.1, F.2.2.2.2.2.1, fun a ha => F.2.2.2.2.2.2 a (by omega)⟩
theorem FG_W (F : WFr 86 h h1) : FG h h1 := by
  obtain ⟨f1, f2, f3, f4, f5, f6⟩ := F
  exact ⟨f1, f2, f3, fun a _ => by rw [f4], fun a j _ => by rw [f4], fun a _ _ _ => by rw [f5], fun a ha => f6 a (by omega)⟩
theorem FG_5 : FG h (hR5 h 86 c) := by
  unfold hR5
  refine ⟨rfl, rfl, rfl, fun a ha => ?_, fun a j hj => ?_, fun _ _ _ _ => rfl, fun _ _ => rfl⟩
  · rw [o_RR, if_neg (ha 0 (by omega))]
  · rw [o_RR]
    by_cases q : a = 86
    · rw [if_pos q, up_ne hj, q]
    · rw [if_neg q]
theorem FG_X {a : aC} : FG h (HX h a) := FG_FF FF_X
theorem FE_FG (F : FG h h1) (E : FE h c s l A) : FE h1 c s l A := by
  have tg := fun {a : Nat} => FE_tag E (a := a)
  obtain ⟨P, Ws, S, X, L⟩ := E
  obtain ⟨f1, f2, f3, f4, f5, f6, f7⟩ := F
  have r4 : ∀ a, ¬ oT h a = 5 → oR h1 a = oR h a := fun a ha => f4 a fun k hk z => ha (by rw [z]; exact (Ws k hk).1)
  have r6 : ∀ a, ¬ oT h a = 5 → ¬ oT h a = 40 → ¬ oT h a = 42 → oI h1 a = oI h a := fun a t1 t2 t3 => f7 a (by
    rcases Nat.lt_or_ge a 86 with z | z
    · exact Or.inl (by omega)
    · rcases Nat.lt_or_ge a 140 with y | y
      · have := tg z y
        omega
      · exact Or.inr y)
  refine ⟨?_, fun k hk => ?_, SC_fr f2 f3 r4 (fun a ha => r6 a (by omega) (by omega) (by omega)) S, ?_, LW_fr f2 f3 r4 (fun a ha => r6 a (by omega) (by omega) (by omega)) L⟩
  · have e64 := f4 64 fun k _ => by omega
    have e85 := f4 85 fun k _ => by omega
    unfold PO at *
    rw [f2, f3, e64, e85]
    exact P
  · have W := Ws k hk
    unfold WO at *
    rw [f2, f3, f5 _ 0 (by omega), f5 _ 1 (by omega), f5 _ 2 (by omega), f5 _ 3 (by omega), f5 _ 4 (by omega)]
    exact W
  · unfold XL at *
    rw [f2, r4 64 (by rw [X.1]; decide), r4 s (by rw [X.2.2.1]; decide)]
    exact X
theorem kX0_gathers (W : WFs A) (WL : WFl A) (E : FE h c s l A) : ∃ g, C_ (d + 216) mX0_gathers [.ref 64, .ref c] h = some (none, g) ∧ FG h g ∧ ∀ w, aE (PA g) (sOd A w (-1) (-1)) := by
  have W2 := W.2.1
  have P := E.1
  obtain ⟨p1, p2, p3, p4, p5, p6, p7, p8, p9, p10, p11, p12, p13, p14⟩ := P
  have t140 : 39 ≤ oT h 140 ∧ oT h 140 ≤ 48 := by omega
  have e0 : C_ (d + 216) mX0_gathers [.ref 64, .ref c] h = E_ (d + 216) mX0_gathers 2 [.val (.ref 64), .val (.ref c), .val (.int (nI 0))] [] (HX h (fun k => if k < 0 then 0 else oL h 140 k, oL h 141, oL h 142)) := by
    rw [fill_0 (f := oL h 140) (g := fun _ => (0 : Int64)), HX_self]
    simp only [wX0_gathers_e, wX0_gathers_0, wX0_gathers_1, if_true, if_false, ↓reduceIte, xpu_s, xpu_n, Option.bind_some, xk_i, xk_r, xk_0, xk_u, xk_l, xk_k, xk_q, rf_s, rf_n]
  have e1 : E_ (d + 216) mX0_gathers 2 [.val (.ref 64), .val (.ref c), .val (.int (nI 0))] [] (HX h (fun k => if k < 0 then 0 else oL h 140 k, oL h 141, oL h 142)) = E_ (d + 216) mX0_gathers 26 [.val (.ref 64), .val (.ref c), .val (.int (nI 0))] [] (HX h (fun k => if k < 6 then 0 else oL h 140 k, fun k => if k < 0 then 0 else oL h 141 k, fun k => if k < 0 then 0 else oL h 142 k)) := by
    refine (lp_go (n := 6) (F := fun i => E_ (d + 216) mX0_gathers 2 [.val (.ref 64), .val (.ref c), .val (.int (nI i))] [] (HX h (fun k => if k < i then 0 else oL h 140 k, oL h 141, oL h 142))) (fun i hi => ?_)).trans ?_
    · refine wX0_gathers_2.trans ?_
      rw [← up_fill (f := oL h 140) (g := fun _ => (0 : Int64)) (i := i) (x := 0) rfl]
      generalize (fun k => if k < i then (0 : Int64) else oL h 140 k) = q
      simp (disch := first | with_unfolding_all exact id t140 | exact xix_8 p9 (by omega) (by omega) | first | assumption | exact nI_ne0 (by decide) (by decide) | exact zb_01 | exact Or.inl rfl | exact Or.inr rfl | with_unfolding_all exact id (by assumption) | with_unfolding_all exact id (xix_8 (by assumption) (by omega) (by omega)) | omega) only [wX0_gathers_3, wX0_gathers_4, wX0_gathers_7, wX0_gathers_8, wX0_gathers_11, wX0_gathers_12, wX0_gathers_15, wX0_gathers_16, wX0_gathers_17, wX0_gathers_18, wX0_gathers_21, if_true, if_false, ↓reduceIte, xpu_s, xpu_n, Option.bind_some, xk_i, xk_r, xk_0, xk_u, xk_l, xk_k, xk_q, rf_s, rf_n, q_e1, q_e2, Nat.zero_add, Nat.reduceEqDiff, Nat.reduceAdd, Nat.reduceMul, Nat.reduceSub, Nat.reduceLT, Nat.reduceLeDiff, Nat.reduceDiv, Nat.reduceMod, HX_R, HX_N, HX_140, HXp_140, nI_c, nI_add, p3, p9, nI_ltP, hi]
    · refine wX0_gathers_2.trans ?_
      rw [fill_0 (f := oL h 141) (g := fun _ => (0 : Int64)), fill_0 (f := oL h 142) (g := fun _ => (0 : Int64))]
      simp (disch := first | with_unfolding_all exact id t140 | first | assumption | exact nI_ne0 (by decide) (by decide) | exact zb_01 | exact Or.inl rfl | exact Or.inr rfl | with_unfolding_all exact id (by assumption) | with_unfolding_all exact id (xix_8 (by assumption) (by omega) (by omega)) | omega) only [wX0_gathers_3, wX0_gathers_4, wX0_gathers_7, wX0_gathers_8, wX0_gathers_24, wX0_gathers_25, if_true, if_false, ↓reduceIte, xpu_s, xpu_n, Option.bind_some, xk_i, xk_r, xk_0, xk_u, xk_l, xk_k, xk_q, rf_s, rf_n, q_e1, q_e2, Nat.zero_add, Nat.reduceEqDiff, Nat.reduceAdd, Nat.reduceMul, Nat.reduceSub, Nat.reduceLT, Nat.reduceLeDiff, Nat.reduceDiv, Nat.reduceMod, HX_R, HX_N, p3, p9, i_irr]
  have e2 : ∀ q : rL, E_ (d + 216) mX0_gathers 26 [.val (.ref 64), .val (.ref c), .val (.int (nI 0))] [] (HX h (q, fun k => if k < 0 then 0 else oL h 141 k, fun k => if k < 0 then 0 else oL h 142 k)) = E_ (d + 216) mX0_gathers 52 [.val (.ref 64), .val (.ref c), .val (.int (nI 8))] [] (HX h (q, fun k => if k < 8 then 0 else oL h 141 k, fun k => if k < 8 then 0 else oL h 142 k)) := fun q => by
    refine (lp_go (n := 8) (F := fun i => E_ (d + 216) mX0_gathers 26 [.val (.ref 64), .val (.ref c), .val (.int (nI i))] [] (HX h (q, fun k => if k < i then 0 else oL h 141 k, fun k => if k < i then 0 else oL h 142 k))) (fun i hi => ?_)).trans ?_
    · refine wX0_gathers_26.trans ?_
      rw [← up_fill (f := oL h 141) (g := fun _ => (0 : Int64)) (i := i) (x := 0) rfl, ← up_fill (f := oL h 142) (g := fun _ => (0 : Int64)) (i := i) (x := 0) rfl]
      generalize (fun k => if k < i then (0 : Int64) else oL h 141 k) = q1
      generalize (fun k => if k < i then (0 : Int64) else oL h 142 k) = q2
      simp (disch := first | exact xix_8 p10 (by omega) (by omega) | exact xix_8 p11 (by omega) (by omega) | first | assumption | exact nI_ne0 (by decide) (by decide) | exact zb_01 | exact Or.inl rfl | exact Or.inr rfl | with_unfolding_all exact id (by assumption) | with_unfolding_all exact id (xix_8 (by assumption) (by omega) (by omega)) | omega) only [wX0_gathers_27, wX0_gathers_29, wX0_gathers_32, wX0_gathers_33, wX0_gathers_36, wX0_gathers_37, wX0_gathers_38, wX0_gathers_39, wX0_gathers_40, wX0_gathers_43, wX0_gathers_44, wX0_gathers_45, wX0_gathers_46, wX0_gathers_49, if_true, if_false, ↓reduceIte, xpu_s, xpu_n, Option.bind_some, xk_i, xk_r, xk_0, xk_u, xk_l, xk_k, xk_q, rf_s, rf_n, q_e1, q_e2, Nat.zero_add, Nat.reduceEqDiff, Nat.reduceAdd, Nat.reduceMul, Nat.reduceSub, Nat.reduceLT, Nat.reduceLeDiff, Nat.reduceDiv, Nat.reduceMod, HX_R, HX_141, HX_142, HXp_141, HXp_142, nI_c, nI_add, p4, p5, nI_ltP, hi]
    · refine wX0_gathers_26.trans ?_
      simp (disch := first | assumption | exact nI_ne0 (by decide) (by decide) | exact zb_01 | exact Or.inl rfl | exact Or.inr rfl | with_unfolding_all exact id (by assumption) | with_unfolding_all exact id (xix_8 (by assumption) (by omega) (by omega)) | omega) only [wX0_gathers_27, wX0_gathers_29, if_true, if_false, ↓reduceIte, xpu_s, xpu_n, Option.bind_some, xk_i, xk_r, xk_0, xk_u, xk_l, xk_k, xk_q, rf_s, rf_n, q_e1, q_e2, Nat.zero_add, Nat.reduceEqDiff, Nat.reduceAdd, Nat.reduceMul, Nat.reduceSub, Nat.reduceLT, Nat.reduceLeDiff, Nat.reduceDiv, Nat.reduceMod, i_irr]
  let a0 : aC := (fun k => if k < 6 then 0 else oL h 140 k, fun k => if k < 8 then 0 else oL h 141 k, fun k => if k < 8 then 0 else oL h 142 k)
  have EX : FE (HX h a0) c s l A := FE_FG FG_X E
  have O := EX.2.1 0 (by omega)
  have key : ∀ w, ∃ g, C_ (d + 216) mX0_gathers [.ref 64, .ref c] h = some (none, g) ∧ FG h g ∧ aE (PA g) (sOd A w (-1) (-1)) := by
    intro w
    obtain ⟨hb, b1, b2, b3⟩ := kX3_begins (d := d + 210) (w := w) (seed := nI 0) O EX.2.2.1 W
    have G1 : FG (HX h a0) hb := FG_trans (FG_5 (c := c)) (FG_W b2)
    have Eb := FE_FG G1 EX
    have hs : oR hb 86 5 = some c := by
      rw [b2.2.2.2.1]
      unfold hR5
      rw [o_RR, if_pos rfl, up_s]
    obtain ⟨g, g1, g2, g3⟩ := kX0_forks0 (d := d) W WL Eb hs b3
    have Pb : PA hb = a0 := by
      unfold PA
      rw [b2.2.2.2.2.1]
      rfl
    refine ⟨g, (e0.trans e1).trans ((e2 _).trans ?_), FG_trans FG_X (FG_trans G1 (FG_FF g2)), ?_⟩
    · have y85 := p14 0 (by omega)
      have b1' : C_ (d + 215) mX3_begins [.ref 86, .ref c] (HX h a0) = some (some (.ref 86), hb) := b1
      have T1b : oT hb 64 = 1 := Eb.1.1
      have T5 : oT (HX h a0) 86 = 5 := O.1
      show E_ (d + 216) mX0_gathers 52 [.val (.ref 64), .val (.ref c), .val (.int (nI 8))] [] (HX h a0) = _
      simp (disch := first | with_unfolding_all exact id p12 | exact xix_8 p13 (by omega) (by omega) | first | assumption | exact nI_ne0 (by decide) (by decide) | exact zb_01 | exact Or.inl rfl | exact Or.inr rfl | with_unfolding_all exact id (by assumption) | with_unfolding_all exact id (xix_8 (by assumption) (by omega) (by omega)) | omega) only [wX0_gathers_52, wX0_gathers_53, wX0_gathers_56, wX0_gathers_57, wX0_gathers_58, wX0_gathers_59, wX0_gathers_62, wX0_gathers_63, wX0_gathers_64, wX0_gathers_65, wX0_gathers_66, wX0_gathers_67, wX0_gathers_70, if_true, if_false, ↓reduceIte, xpu_s, xpu_n, Option.bind_some, xk_i, xk_r, xk_0, xk_u, xk_l, xk_k, xk_q, rf_s, rf_n, q_e1, q_e2, Nat.zero_add, Nat.reduceEqDiff, Nat.reduceAdd, Nat.reduceMul, Nat.reduceSub, Nat.reduceLT, Nat.reduceLeDiff, Nat.reduceDiv, Nat.reduceMod, HX_R, nI_c, p2, y85, b1', g1]
    · rw [g3, Pb]
      refine sBr_aE _ _ _ _ _ ⟨fun k hk => if_pos hk, fun k hk => if_pos hk, fun k hk => if_pos hk⟩
  obtain ⟨g, g1, g2, -⟩ := key (fun _ => nI 0)
  refine ⟨g, g1, g2, fun w => ?_⟩
  obtain ⟨g', q1, -, q3⟩ := key w
  have : g' = g := by
    have := Option.some.inj (q1.symm.trans g1)
    exact congrArg Prod.snd this
  rw [← this]
  exact q3
end
