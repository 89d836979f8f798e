/-! A PLACE made -/
section
variable {d : Nat} {h h1 g : xH} {P : sS} {A B : rI} {s p q i w o j : Nat} {ow ow1 : Nat → Nat} {a b c e : Int32}
def hP1 (h : xH) (w : Int32) : xH := pI (pO h 19 4) (oX h) (va_up (fun _ => 0) 0 w)
def hPx (g : xH) (o j : Nat) (a b : Int32) : xH := pR (pI (pO g 40 2) (oX g) (va_up (va_up (fun _ => 0) 0 a) 1 b)) o (va_up (oR g o) j (some (oX g)))
theorem hPx_T (ho : o < oX g) : (∀ x, x < oX g → oT (hPx g o j a b) x = oT g x) ∧ oX (hPx g o j a b) = oX g + 1 ∧ oT (hPx g o j a b) (oX g) = 40 ∧ oN (hPx g o j a b) (oX g) = 2 ∧ oI (hPx g o j a b) (oX g) 0 = a ∧ oI (hPx g o j a b) (oX g) 1 = b ∧ oR (hPx g o j a b) o = va_up (oR g o) j (some (oX g)) ∧ (∀ x, x < oX g → oI (hPx g o j a b) x = oI g x) ∧ GX (fun x => x = o) g (hPx g o j a b) 1 2 := by
  unfold hPx
  refine ⟨fun x hx => ?_, rfl, ?_, ?_, ?_, ?_, ?_, fun x hx => ?_, ?_⟩
  · show oT (pO g 40 2) x = _
    rw [o_TO, if_neg (by omega)]
  · show oT (pO g 40 2) (oX g) = 40
    rw [o_TO, if_pos rfl]
  · show oN (pO g 40 2) (oX g) = 2
    rw [o_NO, if_pos rfl]
  · show oI (pI (pO g 40 2) (oX g) _) (oX g) 0 = a
    rw [o_II, if_pos rfl, up_ne (by omega), up_s]
  · show oI (pI (pO g 40 2) (oX g) _) (oX g) 1 = b
    rw [o_II, if_pos rfl, up_s]
  · rw [o_RR, if_pos rfl]
  · show oI (pI (pO g 40 2) (oX g) _) x = _
    rw [o_II, if_neg (by omega), o_IO, if_neg (by omega)]
  · exact GX_le (GX_trans (GX_trans (GX_O (W := fun x => x = o)) (GX_I (W := fun x => x = oX g) (fun _ => rfl)) (fun x hx y => by omega)) (GX_R (W := fun x => x = o) (fun _ => rfl)) (fun _ _ y => y)) (by omega) (by omega)
theorem wP_1 {s1 s4 s5 : Slot} (t : oT g o = 19) (ho : o < oX g) : E_ d mX19_init 9 [.val (.ref o), s1, .val (.int a), .val (.int b), s4, s5] [] g = E_ d mX19_init 24 [.val (.ref o), s1, .val (.int a), .val (.int b), s4, s5] [] (hPx g o 1 a b) := by
  have ne : (o = oX g) = False := eq_false (by omega)
  have t1 : oT (pO g 40 2) (oX g) = 40 := by rw [o_TO, if_pos rfl]
  have n1 : oN (pO g 40 2) (oX g) = 2 := by rw [o_NO, if_pos rfl]
  have t2 : oT (pO g 40 2) o = 19 := by rw [o_TO, if_neg (by omega)]; exact t
  have i1 : oI (pO g 40 2) (oX g) = fun _ => 0 := by rw [o_IO, if_pos rfl]
  have r1 : oR (pO g 40 2) o = oR g o := by rw [o_RO, if_neg (by omega)]
  have c2 : (nI 2).toNatClampNeg = 2 := rfl
  have z2 : 0 ≤ (nI 2).toInt := by decide
  have z3 : (nI 2).toInt ≤ 65536 := by decide
  unfold hPx
  simp (disch := first | exact t1 | exact t2 | exact z2 | exact z3 | exact xix_8 n1 (by omega) (by omega) | first | assumption | exact nI_ne0 (by decide) (by decide) | exact zb_01 | exact Or.inl rfl | exact Or.inr rfl | with_unfolding_all exact id (by assumption) | with_unfolding_all exact id (xix_8 (by assumption) (by omega) (by omega)) | omega) only [wX19_init_9, wX19_init_10, wX19_init_11, wX19_init_13, wX19_init_14, wX19_init_15, wX19_init_16, wX19_init_17, wX19_init_18, wX19_init_19, wX19_init_20, wX19_init_21, wX19_init_21q, if_true, if_false, ↓reduceIte, xpu_s, xpu_n, Option.bind_some, xk_i, xk_r, xk_0, xk_u, xk_l, xk_k, xk_q, rf_s, rf_n, o_TI, o_TL, o_TR, o_NI, o_NL, o_NR, o_XI, o_XL, o_XR, o_RI, o_RL, o_LI, o_LR, o_IL, o_IR, o_II, o_LL, o_RR, o_pII, o_pLL, up_s, q_e1, q_e2, Nat.zero_add, Nat.reduceEqDiff, Nat.reduceAdd, Nat.reduceMul, Nat.reduceSub, Nat.reduceLT, Nat.reduceLeDiff, Nat.reduceDiv, Nat.reduceMod, nI_c, nI_add, up_ne, c2, i1, r1]
theorem wP_2 {s1 s2 s3 : Slot} (t : oT g o = 19) (ho : o < oX g) : E_ d mX19_init 24 [.val (.ref o), s1, s2, s3, .val (.int a), .val (.int b)] [] g = some (none, hPx g o 2 a b) := by
  have ne : (o = oX g) = False := eq_false (by omega)
  have t1 : oT (pO g 40 2) (oX g) = 40 := by rw [o_TO, if_pos rfl]
  have n1 : oN (pO g 40 2) (oX g) = 2 := by rw [o_NO, if_pos rfl]
  have t2 : oT (pO g 40 2) o = 19 := by rw [o_TO, if_neg (by omega)]; exact t
  have i1 : oI (pO g 40 2) (oX g) = fun _ => 0 := by rw [o_IO, if_pos rfl]
  have r1 : oR (pO g 40 2) o = oR g o := by rw [o_RO, if_neg (by omega)]
  have c2 : (nI 2).toNatClampNeg = 2 := rfl
  have z2 : 0 ≤ (nI 2).toInt := by decide
  have z3 : (nI 2).toInt ≤ 65536 := by decide
  unfold hPx
  simp (disch := first | exact t1 | exact t2 | exact z2 | exact z3 | exact xix_8 n1 (by omega) (by omega) | first | assumption | exact nI_ne0 (by decide) (by decide) | exact zb_01 | exact Or.inl rfl | exact Or.inr rfl | with_unfolding_all exact id (by assumption) | with_unfolding_all exact id (xix_8 (by assumption) (by omega) (by omega)) | omega) only [wX19_init_24, wX19_init_25, wX19_init_26, wX19_init_28, wX19_init_29, wX19_init_30, wX19_init_32, wX19_init_33, wX19_init_34, wX19_init_35, wX19_init_37, wX19_init_38, wX19_init_38q, wX19_init_41, if_true, if_false, ↓reduceIte, xpu_s, xpu_n, Option.bind_some, xk_i, xk_r, xk_0, xk_u, xk_l, xk_k, xk_q, rf_s, rf_n, o_TI, o_TL, o_TR, o_NI, o_NL, o_NR, o_XI, o_XL, o_XR, o_RI, o_RL, o_LI, o_LR, o_IL, o_IR, o_II, o_LL, o_RR, o_pII, o_pLL, up_s, q_e1, q_e2, Nat.zero_add, Nat.reduceEqDiff, Nat.reduceAdd, Nat.reduceMul, Nat.reduceSub, Nat.reduceLT, Nat.reduceLeDiff, Nat.reduceDiv, Nat.reduceMod, nI_c, nI_add, up_ne, c2, i1, r1]
theorem kX19_new (T : TX h) (hw : w ≤ 1) : ∃ z, C_ d mX19_init [.ref (oX h), .int (nI w), .int a, .int b, .int c, .int e] (pO h 19 4) = some (none, z) ∧ oT z (oX h) = 19 ∧ oI z (oX h) 0 = nI w ∧ oI z (oX h) 3 = 0 ∧ oR z (oX h) 1 = some (oX h + 1) ∧ oR z (oX h) 2 = some (oX h + 2) ∧ (oT z (oX h + 1) = 40 ∧ oN z (oX h + 1) = 2 ∧ oI z (oX h + 1) 0 = a ∧ oI z (oX h + 1) 1 = b) ∧ (oT z (oX h + 2) = 40 ∧ oN z (oX h + 2) = 2 ∧ oI z (oX h + 2) 0 = c ∧ oI z (oX h + 2) 1 = e) ∧ GX (fun _ => False) h z 3 8 ∧ oX z = oX h + 3 := by
  have t0 : oT (pO h 19 4) (oX h) = 19 := by rw [o_TO, if_pos rfl]
  have i0 : oI (pO h 19 4) (oX h) = fun _ => 0 := by rw [o_IO, if_pos rfl]
  have t1 : oT (hP1 h (nI w)) (oX h) = 19 := t0
  have x1 : oX (hP1 h (nI w)) = oX h + 1 := rfl
  have w01 : nI w = 0 ∨ nI w = 1 := by
    rcases (show w = 0 ∨ w = 1 by omega) with rfl | rfl
    · exact Or.inl nI_0
    · exact Or.inr rfl
  obtain ⟨A1, A2, A3, A4, A5, A6, A7, A8, A9⟩ := hPx_T (g := hP1 h (nI w)) (o := oX h) (j := 1) (a := a) (b := b) (by omega)
  have t2 : oT (hPx (hP1 h (nI w)) (oX h) 1 a b) (oX h) = 19 := (A1 _ (by omega)).trans t1
  rw [x1] at A2 A3 A4 A5 A6 A7
  obtain ⟨B1, B2, B3, B4, B5, B6, B7, B8, B9⟩ := hPx_T (g := hPx (hP1 h (nI w)) (oX h) 1 a b) (o := oX h) (j := 2) (a := c) (b := e) (by omega)
  rw [A2] at B2 B3 B4 B5 B6 B7
  have s1 := B9.2.2.2.2.2 (oX h + 1) (by omega) (by omega)
  have eI : oI (hPx (hPx (hP1 h (nI w)) (oX h) 1 a b) (oX h) 2 c e) (oX h) = va_up (fun _ => 0) 0 (nI w) := by
    rw [B8 _ (by omega), A8 _ (by omega)]
    unfold hP1
    rw [o_II, if_pos rfl]
  refine ⟨_, ?_, (B1 _ (by omega)).trans t2, ?_, ?_, ?_, ?_, ⟨s1.1.trans A3, s1.2.1.trans A4, ?_, ?_⟩, ⟨B3, B4, B5, B6⟩, ?_, B2⟩
  · rw [← wP_2 (d := d) (s1 := .val (.int (nI w))) (s2 := .val (.int a)) (s3 := .val (.int b)) t2 (by omega), ← wP_1 (d := d) (s1 := .val (.int (nI w))) (s4 := .val (.int c)) (s5 := .val (.int e)) t1 (by omega)]
    unfold hP1
    simp (disch := first | exact t0 | exact w01 | first | assumption | exact nI_ne0 (by decide) (by decide) | exact zb_01 | exact Or.inl rfl | exact Or.inr rfl | with_unfolding_all exact id (by assumption) | with_unfolding_all exact id (xix_8 (by assumption) (by omega) (by omega)) | omega) only [wX19_init_e, wX19_init_0, wX19_init_1, wX19_init_4, wX19_init_5, wX19_init_6, if_true, if_false, ↓reduceIte, xpu_s, xpu_n, Option.bind_some, xk_i, xk_r, xk_0, xk_u, xk_l, xk_k, xk_q, rf_s, rf_n, o_TI, o_TL, o_TR, o_NI, o_NL, o_NR, o_XI, o_XL, o_XR, o_RI, o_RL, o_LI, o_LR, o_IL, o_IR, o_II, o_LL, o_RR, o_pII, o_pLL, up_s, q_e1, q_e2, Nat.zero_add, Nat.reduceEqDiff, Nat.reduceAdd, Nat.reduceMul, Nat.reduceSub, Nat.reduceLT, Nat.reduceLeDiff, Nat.reduceDiv, Nat.reduceMod, nI_c, nI_add, up_ne, i0]
  · rw [eI, up_s]
  · rw [eI, up_ne (by omega)]
  · rw [B7, up_ne (by omega), A7, up_s]
  · rw [B7, up_s]
  · rw [s1.2.2.1]; exact A5
  · rw [s1.2.2.1]; exact A6
  · unfold hP1 at *
    exact GX_le (GX_trans (GX_trans (GX_trans (GX_O (W := fun _ => False)) (GX_I (W := fun x => x = oX h) (fun _ => rfl)) (fun x hx y => by omega)) A9 (fun x hx y => by omega)) B9 (fun x hx y => by omega)) (by omega) (by omega)
/-- the state's rows are written, what is new is added -/
theorem XR_g0 {W : Nat → Prop} {k n : Nat} (X : XRo ow s h P) (g : GX W h h1 k n) (hW : ∀ a, a < oX h → W a → ow a < 20 ∧ ¬ (9 ≤ oT h a ∧ oT h a ≤ 18)) (w1 : ∀ a, a < oX h → ow1 a = ow a) (w2 : ∀ a, oX h1 ≤ a → ow1 a = 100) (eB : ∀ i, sh B i = sh (pA P) i) (Y : XS ow1 0 h1 s B) : XRo ow1 s h1 (qA P B) ∧ KM h h1 := by
  have T := XR_TX X
  obtain ⟨x1, x2, x3, x4, x5, x6, x7, x8, x9, x10, x11, x12, x13⟩ := X
  have lt : ∀ a, ¬ ow a = 100 → a < oX h := fun a ha => by
    rcases Nat.lt_or_ge a (oX h) with z | z
    · exact z
    · exact absurd (x12 a z).2 ha
  have s0 : ∀ a, a < oX h → ¬ ow a < 20 → sm h h1 a := fun a ha hn => g.2.2.2.2.2 a ha (fun z => hn (hW a ha z).1)
  have st : ∀ a, 9 ≤ oT h a → oT h a ≤ 18 → sm h h1 a := fun a h2 h3 => g.2.2.2.2.2 a (TX_lt T (by omega)) (fun z => (hW a (TX_lt T (by omega)) z).2 ⟨h2, h3⟩)
  have lo : ∀ a, (a < 65 ∨ (76 ≤ a ∧ a < 170)) → sm h h1 a := fun a ha => s0 a (by omega) (by have := (x13 a ha).1; omega)
  refine ⟨⟨XT_fr (fun a ha => g.2.2.2.2.1 a (by omega)) (fun j _ => by rw [(lo 64 (by omega)).2.2.2.1]) (lo 85 (by omega)).2.2.2.1 (lo 145 (by omega)).2.2.2.1 (fun a j _ _ _ => by rw [(lo a (by omega)).2.2.2.1]) (fun a ha => (lo a (by omega)).2.2.1) x1, by rw [(lo 64 (by omega)).2.2.2.1]; exact x2, Y, fun i hi => ?_, ?_, ?_, ?_, ?_, ?_, fun r hr => NR_m (h := h) (lo _ (by omega)).2.2.2.1 (fun a ha => ⟨s0 a (lt a (by omega)) (by omega), w1 a (lt a (by omega))⟩) (x10 r hr), Nat.le_trans x11 g.1, fun a ha => ⟨(g.2.2.2.1 a ha).trans (T a (Nat.le_trans g.1 ha)), w2 a ha⟩, fun a ha => ?_⟩, fun a ha => lo a (by omega)⟩
  · rcases x4 i hi with ⟨z1, z2⟩ | ⟨z1, t, z2, z3⟩
    · exact Or.inl ⟨z1, by rw [(lo 76 (by omega)).2.2.2.1]; exact z2⟩
    · refine Or.inr ⟨z1, t, by rw [(lo 76 (by omega)).2.2.2.1]; exact z2, ?_⟩
      show XS ow1 (i + 1) h1 t (sh B i)
      rw [eB]
      exact XS_m (by omega) (fun a ha => s0 a (lt a (by omega)) (by omega)) st (fun a ha => w1 a (lt a (by omega))) z3
  · rw [(lo 77 (by omega)).2.2.1]; exact x5
  · rw [(lo 78 (by omega)).2.2.1]; exact x6
  · rw [(lo 64 (by omega)).2.2.1]; exact x7
  · rw [(lo 64 (by omega)).2.2.1]; exact x8
  · rw [(lo 64 (by omega)).2.2.1]; exact x9
  · rw [(lo a ha).1, w1 a (by omega)]; exact x13 a ha
end
