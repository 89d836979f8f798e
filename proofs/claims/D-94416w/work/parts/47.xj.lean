/-! CONTRACTS of the component: the law's facts, whole; how likely a car stops; a tick -/
theorem sRn_app {A w : rI} {c : Nat} : ∀ (a b i : Nat) (st : List Bool), sRn A w c i (a + b) st = sRn A w c (i + a) b (sRn A w c i a st)
  | 0, b, i, st => by rw [Nat.zero_add]; rfl
  | a + 1, b, i, st => by
    rw [show a + 1 + b = (a + b) + 1 by omega]
    show sRn A w c (i + 1) (a + b) (sOp A w c i st) = sRn A w c (i + (a + 1)) b (sRn A w c (i + 1) a (sOp A w c i st))
    rw [sRn_app a b (i + 1), show i + 1 + a = i + (a + 1) by omega]
theorem sOp_leaf {A w : rI} {c i : Nat} {st : List Bool} (h : cOk (A (77 + 2 * i))) : sOp A w c i st = sFa A w c (A (77 + 2 * i)) (A (77 + 2 * i + 1)) :: st := by
  obtain ⟨j, e, hj⟩ := h
  unfold sOp
  rw [if_neg (by rw [e, nI_eqI (by omega) (by omega)]; omega), if_neg (by rw [e, nI_eqI (by omega) (by omega)]; omega), if_neg (by rw [e, nI_eqI (by omega) (by omega)]; omega)]
theorem LF_ok {h : xH} {f : Nat} {k v : Int32} (L : LF h f k v) : cOk k := by
  rcases L with ⟨-, t, t1, -, e⟩ | ⟨-, e⟩ | ⟨-, e⟩ | ⟨-, e⟩ | ⟨-, e⟩ | ⟨-, -, L⟩
  · exact ⟨5 + t, e, by omega⟩
  · exact ⟨25, e, by omega⟩
  · exact ⟨26, e, by omega⟩
  · exact ⟨27, e, by omega⟩
  · exact ⟨28, e, by omega⟩
  · rcases L with ⟨-, e⟩ | ⟨-, e⟩ | ⟨-, e⟩ | ⟨-, e⟩
    · exact ⟨22, e, by omega⟩
    · exact ⟨23, e, by omega⟩
    · exact ⟨24, e, by omega⟩
    · exact ⟨4, e, by omega⟩
theorem FT_le {h : xH} {A : rI} : ∀ {m f i j : Nat}, FT h A m f i j → i < j
  | 0, _, _, _, F => F.elim
  | m + 1, f, i, j, F => by
    rcases F with ⟨F, -⟩ | ⟨-, g, k, -, e, -, F⟩ | ⟨-, g1, g2, k, l, -, -, e, -, F1, F2⟩
    · omega
    · have := FT_le F; omega
    · have := FT_le F1; have := FT_le F2; omega
/-- codes of a fact put one truth on any stack -/
theorem FT_dp {h : xH} {A : rI} : ∀ {m f i j : Nat}, FT h A m f i j → ∀ (r s t : Nat), sDp A j r (s + 1) t → sDp A i (j - i + r) s t
  | 0, _, _, _, F, _, _, _, _ => F.elim
  | m + 1, f, i, j, F, r, s, t, D => by
    rcases F with ⟨e, L⟩ | ⟨-, g, k, -, e, e2, F⟩ | ⟨-, g1, g2, k, l, -, -, e, e2, F1, F2⟩
    · subst e
      rw [show i + 1 - i + r = r + 1 by omega]
      exact Or.inr (Or.inr ⟨LF_ok L, D⟩)
    · subst e
      have lk := FT_le F
      rw [show k + 1 - i + r = k - i + (r + 1) by omega]
      exact FT_dp F (r + 1) s t (Or.inl ⟨e2, by omega, D⟩)
    · subst e
      have l1 := FT_le F1
      have l2 := FT_le F2
      rw [show l + 1 - i + r = k - i + (l - k + (r + 1)) by omega]
      refine FT_dp F1 _ s t (FT_dp F2 (r + 1) (s + 1) t (Or.inr (Or.inl ⟨?_, by omega, D⟩)))
      rcases e2 with ⟨e2, -⟩ | ⟨e2, -⟩
      · exact Or.inl e2
      · exact Or.inr e2
section
variable {d : Nat} {h : xH} {q c : Nat} {A w : rI}
theorem kLF_is (O : WO h q) (hs : oR h q 5 = some c) (S : SCo h c A) (R : WR h q A w) (W : WFs A) (I : WI A w) {f i : Nat} {k v : Int32} (hi : i < sN A) (L : LF h f k v) : V_is (d + 5) f q (nI i) h = some (some (.int (zb (sFa A w i k v))), h) := by
  have W2 := W.2.1
  have hd : ∀ k, k < sN A → 0 < w k → w k < nI 1000 := fun k hk h0 => by
    obtain ⟨x, x1, x2⟩ := (I.2.2 k hk).2.2.1 h0
    rw [x1]; exact nI_lt (by omega) (by omega)
  have cc : ∀ a b : Nat, a ≤ 28 → b ≤ 28 → a ≠ b → ¬ nI a = nI b := fun a b ha hb hn e => hn ((nI_eq (by omega) (by omega)).mp e)
  unfold V_is
  rcases L with ⟨t0, t, t1, t2, e⟩ | ⟨t0, e⟩ | ⟨t0, e⟩ | ⟨t0, e⟩ | ⟨t0, e⟩ | ⟨t0, t1, L⟩
  · rw [t0]
    refine (kX10_is (d := d + 4) O hs S t0 t2).trans ?_
    unfold sFa
    rw [e, if_pos ⟨nI_nlt (by omega) (by omega), nI_nlt (by omega) (by omega)⟩, pk_sub (by omega), Nat.add_sub_cancel_left]
  · rw [t0]
    refine (kX11_is (d := d) O hs S R W2 hi t0 (Or.inl rfl)).trans ?_
    unfold sFa
    rw [e, if_neg (fun z => z.2 (nI_lt (by omega) (by omega))), if_neg (cc _ _ (by omega) (by omega) (by omega)), if_neg (cc _ _ (by omega) (by omega) (by omega)), if_neg (cc _ _ (by omega) (by omega) (by omega)), if_neg (cc _ _ (by omega) (by omega) (by omega)), if_pos rfl, qSn_12 W hi]
  · rw [t0]
    refine (kX11_is (d := d) O hs S R W2 hi t0 (Or.inr (Or.inl rfl))).trans ?_
    unfold sFa
    rw [e, if_neg (fun z => z.2 (nI_lt (by omega) (by omega))), if_neg (cc _ _ (by omega) (by omega) (by omega)), if_neg (cc _ _ (by omega) (by omega) (by omega)), if_neg (cc _ _ (by omega) (by omega) (by omega)), if_neg (cc _ _ (by omega) (by omega) (by omega)), if_neg (cc _ _ (by omega) (by omega) (by omega)), if_pos rfl, qSn_13 W hd hi]
  · rw [t0]
    refine (kX11_is (d := d) O hs S R W2 hi t0 (Or.inr (Or.inr rfl))).trans ?_
    unfold sFa
    rw [e, if_neg (fun z => z.2 (nI_lt (by omega) (by omega))), if_neg (cc _ _ (by omega) (by omega) (by omega)), if_neg (cc _ _ (by omega) (by omega) (by omega)), if_neg (cc _ _ (by omega) (by omega) (by omega)), if_neg (cc _ _ (by omega) (by omega) (by omega)), if_neg (cc _ _ (by omega) (by omega) (by omega)), if_neg (cc _ _ (by omega) (by omega) (by omega)), if_pos rfl, qSn_14 W hi]
  · rw [t0]
    refine (kX15_is (d := d + 5) O R I.1).trans ?_
    unfold sFa
    rw [e, if_neg (fun z => z.2 (nI_lt (by omega) (by omega))), if_neg (cc _ _ (by omega) (by omega) (by omega)), if_neg (cc _ _ (by omega) (by omega) (by omega)), if_neg (cc _ _ (by omega) (by omega) (by omega)), if_neg (cc _ _ (by omega) (by omega) (by omega)), if_neg (cc _ _ (by omega) (by omega) (by omega)), if_neg (cc _ _ (by omega) (by omega) (by omega)), if_neg (cc _ _ (by omega) (by omega) (by omega))]
  · rw [t0]
    unfold sFa
    rcases L with ⟨u, e⟩ | ⟨u, e⟩ | ⟨u, e⟩ | ⟨u, e⟩
    · refine (kX16_is (d := d + 1) O hs S R W2 hi t0 u t1 (by omega)).trans ?_
      rw [e, if_pos (show (0 : Nat) = 0 from rfl), if_neg (fun z => z.2 (nI_lt (by omega) (by omega))), if_pos rfl]
    · refine (kX16_is (d := d + 1) O hs S R W2 hi t0 u t1 (by omega)).trans ?_
      rw [e, if_neg (show ¬ (1 : Nat) = 0 by decide), if_pos (show (1 : Nat) = 1 from rfl), if_neg (fun z => z.2 (nI_lt (by omega) (by omega))), if_neg (cc _ _ (by omega) (by omega) (by omega)), if_pos rfl]
    · refine (kX16_is (d := d + 1) O hs S R W2 hi t0 u t1 (by omega)).trans ?_
      rw [e, if_neg (show ¬ (2 : Nat) = 0 by decide), if_neg (show ¬ (2 : Nat) = 1 by decide), if_pos (show (2 : Nat) = 2 from rfl), if_neg (fun z => z.2 (nI_lt (by omega) (by omega))), if_neg (cc _ _ (by omega) (by omega) (by omega)), if_neg (cc _ _ (by omega) (by omega) (by omega)), if_pos rfl]
    · refine (kX16_is (d := d + 1) O hs S R W2 hi t0 u t1 (by omega)).trans ?_
      rw [e, if_neg (show ¬ (3 : Nat) = 0 by decide), if_neg (show ¬ (3 : Nat) = 1 by decide), if_neg (show ¬ (3 : Nat) = 2 by decide), if_neg (fun z => z.1 (nI_lt (by omega) (by omega))), if_neg (cc _ _ (by omega) (by omega) (by omega)), if_neg (cc _ _ (by omega) (by omega) (by omega)), if_neg (cc _ _ (by omega) (by omega) (by omega)), if_pos rfl]
theorem kFT_is (O : WO h q) (hs : oR h q 5 = some c) (S : SCo h c A) (R : WR h q A w) (W : WFs A) (I : WI A w) {x : Nat} (hx : x < sN A) : ∀ (m f i j : Nat), FT h A m f i j → ∃ b, V_is (d + m + 5) f q (nI x) h = some (some (.int (zb b)), h) ∧ ∀ st, sRn A w x i (j - i) st = b :: st
  | 0, _, _, _, F => F.elim
  | m + 1, f, i, j, F => by
    have hF := F
    rcases F with ⟨e, L⟩ | ⟨t0, g, k, g0, e, e2, F⟩ | ⟨t0, g1, g2, k, l, g3, g4, e, e2, F1, F2⟩
    · refine ⟨_, kLF_is (d := d + (m + 1)) O hs S R W I hx L, fun st => ?_⟩
      rw [e, Nat.add_sub_cancel_left]
      show sOp A w x i st = _
      exact sOp_leaf (LF_ok L)
    · obtain ⟨b, v, r⟩ := kFT_is O hs S R W I hx m g i k F
      have lk := FT_le F
      have tg := FT_tag F
      refine ⟨!b, ?_, fun st => ?_⟩
      · unfold V_is
        rw [t0]
        show C_ (d + m + 5 + 1) mX9_is [.ref f, .ref q, .int (nI x)] h = _
        have cs := v_X9_6 (d := d + m + 5) (ls := [.val (.ref f), .val (.ref q), .val (.int (nI x))]) (r1 := q) (x := nI x) tg
        cases b with
        | true => simp (disch := first | assumption | exact nI_ne0 (by decide) (by decide) | exact zb_01 | exact Or.inl rfl | exact Or.inr rfl | with_unfolding_all exact id (by assumption) | with_unfolding_all exact id (xix_8 (by assumption) (by omega) (by omega)) | omega) only [wX9_is_e, wX9_is_0, wX9_is_1, wX9_is_4, wX9_is_5, cs, v, wX9_is_9, wX9_is_12, wX9_is_13, wX9_is_16, wX9_is_17, if_true, if_false, ↓reduceIte, xpu_s, xpu_n, Option.bind_some, xk_i, xk_r, xk_0, xk_u, xk_l, xk_k, xk_q, rf_s, rf_n, g0, zb_t, one_ne0, Bool.not_true, nI_0, zb_f]
        | false => simp (disch := first | exact Or.inr rfl | first | assumption | exact nI_ne0 (by decide) (by decide) | exact zb_01 | exact Or.inl rfl | exact Or.inr rfl | with_unfolding_all exact id (by assumption) | with_unfolding_all exact id (xix_8 (by assumption) (by omega) (by omega)) | omega) only [wX9_is_e, wX9_is_0, wX9_is_1, wX9_is_4, wX9_is_5, cs, v, wX9_is_9, wX9_is_12, wX9_is_13, wX9_is_16, wX9_is_17, if_true, if_false, ↓reduceIte, xpu_s, xpu_n, Option.bind_some, xk_i, xk_r, xk_0, xk_u, xk_l, xk_k, xk_q, rf_s, rf_n, g0, zb_f, zb_t, Bool.not_false, nI_1e]
      · rw [show j - i = k - i + 1 by omega, sRn_app, r st, show i + (k - i) = k by omega]
        show sOp A w x k (b :: st) = _
        unfold sOp
        rw [if_pos e2]
    · obtain ⟨b1, v1, r1⟩ := kFT_is O hs S R W I hx m g1 i k F1
      obtain ⟨b2, v2, r2⟩ := kFT_is O hs S R W I hx m g2 k l F2
      have l1 := FT_le F1
      have l2 := FT_le F2
      have tg1 := FT_tag F1
      have tg2 := FT_tag F2
      have cs1 := v_X17_13 (d := d + m + 5) (ls := [.val (.ref f), .val (.ref q), .val (.int (nI x))]) (r1 := q) (x := nI x) tg1
      have cs2 := v_X17_25 (d := d + m + 5) (ls := [.val (.ref f), .val (.ref q), .val (.int (nI x))]) (r1 := q) (x := nI x) tg2
      have cs3 := v_X17_45 (d := d + m + 5) (ls := [.val (.ref f), .val (.ref q), .val (.int (nI x))]) (r1 := q) (x := nI x) tg1
      have cs4 := v_X17_57 (d := d + m + 5) (ls := [.val (.ref f), .val (.ref q), .val (.int (nI x))]) (r1 := q) (x := nI x) tg2
      have rr : ∀ st, sRn A w x i (j - i) st = sOp A w x l (b2 :: b1 :: st) := fun st => by
        rw [show j - i = k - i + (l - k + 1) by omega, sRn_app, r1 st, show i + (k - i) = k by omega, sRn_app, r2, show k + (l - k) = l by omega]
        rfl
      rcases e2 with ⟨e2, e3⟩ | ⟨e2, e3⟩
      · refine ⟨b1 && b2, ?_, fun st => ?_⟩
        · unfold V_is
          rw [t0]
          show C_ (d + m + 5 + 1) mX17_is [.ref f, .ref q, .int (nI x)] h = _
          cases b1 <;> cases b2 <;> simp (disch := first | assumption | exact nI_ne0 (by decide) (by decide) | exact zb_01 | exact Or.inl rfl | exact Or.inr rfl | with_unfolding_all exact id (by assumption) | with_unfolding_all exact id (xix_8 (by assumption) (by omega) (by omega)) | omega) only [wX17_is_e, wX17_is_0, wX17_is_1, wX17_is_4, wX17_is_7, wX17_is_8, wX17_is_11, wX17_is_12, cs1, v1, wX17_is_16, wX17_is_19, wX17_is_20, wX17_is_23, wX17_is_24, cs2, v2, wX17_is_28, wX17_is_31, wX17_is_32, wX17_is_35, wX17_is_36, wX17_is_68, if_true, if_false, ↓reduceIte, xpu_s, xpu_n, Option.bind_some, xk_i, xk_r, xk_0, xk_u, xk_l, xk_k, xk_q, rf_s, rf_n, g3, g4, e3, nI_1e, one_ne0, zb_t, zb_f, nI_0, Bool.and_true, Bool.and_false]
        · rw [rr st]
          unfold sOp
          rw [e2, if_neg (by decide), if_pos rfl]
      · refine ⟨b1 || b2, ?_, fun st => ?_⟩
        · unfold V_is
          rw [t0]
          show C_ (d + m + 5 + 1) mX17_is [.ref f, .ref q, .int (nI x)] h = _
          cases b1 <;> cases b2 <;> simp (disch := first | assumption | exact nI_ne0 (by decide) (by decide) | exact zb_01 | exact Or.inl rfl | exact Or.inr rfl | with_unfolding_all exact id (by assumption) | with_unfolding_all exact id (xix_8 (by assumption) (by omega) (by omega)) | omega) only [wX17_is_e, wX17_is_0, wX17_is_1, wX17_is_4, wX17_is_39, wX17_is_40, wX17_is_43, wX17_is_44, cs3, v1, wX17_is_48, wX17_is_51, wX17_is_52, wX17_is_55, wX17_is_56, cs4, v2, wX17_is_60, wX17_is_63, wX17_is_64, wX17_is_67, wX17_is_68, if_true, if_false, ↓reduceIte, xpu_s, xpu_n, Option.bind_some, xk_i, xk_r, xk_0, xk_u, xk_l, xk_k, xk_q, rf_s, rf_n, g3, g4, e3, nI_1e, one_ne0, zb_t, zb_f, nI_0, Bool.or_true, Bool.or_false]
        · rw [rr st]
          unfold sOp
          rw [e2, if_neg (by decide), if_neg (by decide), if_pos rfl]
end
