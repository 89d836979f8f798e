/-! CONTRACTS of the component: all lanes, a tick behind its decisions -/
/-- how long she is in a lane yet -/
def sF (A w : rI) : Int32 := if w 33 = nI 1 then sO A - w 34 else nI 0
theorem sF_0 {A w : rI} (h : w 33 = 0 ∨ (w 33 = nI 1 ∧ (w 34 = nI 0 ∨ (w 34 = nI 1 ∧ sO A = nI 2)))) : (sF A w = 0 ↔ w 33 = 0) ∧ (0 < sF A w ↔ w 33 = nI 1) := by
  unfold sF
  rcases h with e | ⟨e, e2⟩
  · rw [e, if_neg (by decide)]
    exact ⟨⟨fun _ => rfl, fun _ => nI_0⟩, ⟨fun z => absurd z (by decide), fun z => absurd z (by decide)⟩⟩
  · rw [e, if_pos rfl]
    rcases e2 with e2 | ⟨e2, e3⟩
    · rw [e2]
      rcases sO_12 A with z | z <;> rw [z] <;> decide
    · rw [e2, e3]; decide
/-- the numbers of a walk between the lanes -/
def CK (q : Nat) (A w : rI) (h h1 : xH) (p : sP) : Prop := WFr q h h1 ∧ oI h1 q = oI h q ∧ (∀ k, k < sN A → oI h1 (q + 1) k = p.1 k) ∧ (∀ k, k < sN A → oI h1 (q + 2) k = p.1 (8 + k)) ∧ (∀ k, k < sN A → oI h1 (q + 3) k = p.1 (16 + k)) ∧ (∀ k, k < sN A → (p.2.1 k = true ∨ ¬ 0 < w k) → oI h1 (q + 4) k = p.1 (24 + k)) ∧ (∀ k, k < sN A → p.2.1 k = false → p.1 k = w k ∧ p.1 (8 + k) = w (8 + k) ∧ p.1 (16 + k) = w (16 + k))
theorem CK_of {q : Nat} {A w : rI} {lane : Int32} {h h1 : xH} {s : sM} {kn : Option Nat} (C : CL q A w lane h h1 s) : CK q A w h h1 (s.1, s.2.1, kn) := ⟨C.1, C.2.1, C.2.2.1, C.2.2.2.1, C.2.2.2.2.1, C.2.2.2.2.2.1, C.2.2.2.2.2.2.2.1⟩
section
variable {d : Nat} {h : xH} {q c : Nat} {A w : rI}
theorem kX3_moves (O : WO h q) (hs : oR h q 5 = some c) (S : SCo h c A) (W2 : sN A ≤ 8) (P : WP A w) {l : Nat} {w0 : rI} {p : sP} (hl : l < 2147483648) (K : sK A w0 l p) {h1 : xH} (C : CK q A w h h1 p) : ∃ h2, C_ (d + 5) mX3_moves [.ref q, .int (nI l)] h1 = some (some (.int (oe (sLn A (nI l) 8 (p.1, p.2.1, -1, none)).2.2.2)), h2) ∧ CL q A w (nI l) h h2 (sLn A (nI l) 8 (p.1, p.2.1, -1, none)) := by
  obtain ⟨l1, l2, l3, l4, l5, l6, l7⟩ := C
  have O1 := WO_fr l1 O
  have S1 := SC_w l1 O S
  have hs1 : oR h1 q 5 = some c := by rw [l1.2.2.2.1]; exact hs
  have mvf : ∀ k, k < sN A → A (2 + k) = nI l → p.2.1 k = false := fun k hk hA => by
    cases e : p.2.1 k with
    | false => rfl
    | true =>
      obtain ⟨-, l', b, e'⟩ := K.2.2.1 k e
      have e2 := e'.symm.trans hA
      rw [nI_eqI (by omega) hl] at e2
      omega
  have CC : CL q A w (nI l) h (pI h1 (q + 5) (fun k => if k < sN A then nI 0 else oI h1 (q + 5) k)) (p.1, p.2.1, -1, none) := by
    refine ⟨WFr_I l1 (by omega) (by omega), ?_, fun k hk => ?_, fun k hk => ?_, fun k hk => ?_, fun k hk hv => ?_, fun k hk hv => ?_, l7, fun j e => (by cases e)⟩
    · rw [o_II, if_neg (by omega)]; exact l2
    · rw [o_II, if_neg (by omega)]; exact l3 k hk
    · rw [o_II, if_neg (by omega)]; exact l4 k hk
    · rw [o_II, if_neg (by omega)]; exact l5 k hk
    · rw [o_II, if_neg (by omega)]; exact l6 k hk hv
    · rw [o_II, if_pos rfl]
      show (if k < sN A then nI 0 else _) = zb (p.2.1 k)
      rw [if_pos hk, mvf k hk hv]
      rfl
  obtain ⟨h3, e1, e2⟩ := cl_loop (d := d) O hs S W2 P 8 (p.1, p.2.1, -1, none) _ (Nat.le_trans (cu_le _) W2) CC
  refine ⟨h3, Eq.trans ?_ e1, e2⟩
  have O2 := WO_fr CC.1 O
  have S2 := SC_w CC.1 O S
  have hs2 : oR (pI h1 (q + 5) (fun k => if k < sN A then nI 0 else oI h1 (q + 5) k)) q 5 = some c := hs1
  have NE := kX3_nearest (d := d) O2 hs2 S2 W2 (w := p.1) (mv := p.2.1) (lane := nI l) (fun k hk _ => CC.2.2.1 k hk) CC.2.2.2.2.2.2.1
  have M : ∀ f, C_ (d + 4) mX3_many [.ref q] (pI h1 (q + 5) f) = some (some (.int (nI (sN A))), pI h1 (q + 5) f) := fun f => kX3_many (h := pI h1 (q + 5) f) O1 hs1 (SC_w (WFr_I l1 (by omega) (by omega)) O S)
  obtain ⟨o1, o2, o3, o4, o5, o6, o7, o8, o9, o10, o11, o12, o13, o14, o15, o16⟩ := O
  have P5 := O1.2.2.2.2.2.1
  have P11 := O1.2.2.2.2.2.2.2.2.2.2.1
  have P16 := O1.2.2.2.2.2.2.2.2.2.2.2.2.2.2.2
  have T5 := O1.1
  have e0 : C_ (d + 5) mX3_moves [.ref q, .int (nI l)] h1 = E_ (d + 5) mX3_moves 2 [.val (.ref q), .val (.int (nI l)), .val (.int (nI 0)), .unset, .unset] [] (pI h1 (q + 5) (fun k => if k < 0 then nI 0 else oI h1 (q + 5) k)) := by
    rw [fill_0 (f := oI h1 (q + 5)) (g := fun _ => nI 0), o_pIi]
    simp only [wX3_moves_e, wX3_moves_0, wX3_moves_1, xk_i]
  rw [e0]
  refine (lp_go (n := sN A) (F := fun k => E_ (d + 5) mX3_moves 2 [.val (.ref q), .val (.int (nI l)), .val (.int (nI k)), .unset, .unset] [] (pI h1 (q + 5) (fun j => if j < k then nI 0 else oI h1 (q + 5) j))) (fun k hk => ?_)).trans ?_
  · refine wX3_moves_2.trans ?_
    simp (disch := first | exact xix_k (by omega) (by omega) | first | assumption | exact nI_ne0 (by decide) (by decide) | exact zb_01 | exact Or.inl rfl | exact Or.inr rfl | with_unfolding_all exact id (by assumption) | with_unfolding_all exact id (xix_8 (by assumption) (by omega) (by omega)) | omega | rfl) only [wX3_moves_3, wX3_moves_4, wX3_moves_7, wX3_moves_10, wX3_moves_11, wX3_moves_14, wX3_moves_15, wX3_moves_16, wX3_moves_16z, wX3_moves_17, wX3_moves_20, if_true, if_false, ↓reduceIte, xpu_s, xpu_n, Option.bind_some, xk_i, xk_r, xk_0, xk_u, xk_l, xk_k, xk_q, rf_s, rf_n, o_TI, o_TL, o_TR, o_NI, o_NL, o_NR, o_XI, o_XL, o_XR, o_RI, o_RL, o_LI, o_LR, o_IL, o_IR, o_II, o_LL, o_RR, o_pII, o_pLL, up_s, q_e1, q_e2, Nat.zero_add, Nat.reduceEqDiff, Nat.reduceAdd, Nat.reduceMul, Nat.reduceSub, Nat.reduceLT, Nat.reduceLeDiff, Nat.reduceDiv, Nat.reduceMod, nI_c, nI_add, up_ne, M, nI_ltP, hk, P5, P16, nar_0, up_fill]
  · refine wX3_moves_2.trans ?_
    simp (disch := first | exact xix_k (by omega) (by omega) | first | assumption | exact nI_ne0 (by decide) (by decide) | exact zb_01 | exact Or.inl rfl | exact Or.inr rfl | with_unfolding_all exact id (by assumption) | with_unfolding_all exact id (xix_8 (by assumption) (by omega) (by omega)) | omega) only [wX3_moves_3, wX3_moves_4, wX3_moves_7, wX3_moves_23, wX3_moves_24, wX3_moves_25, wX3_moves_26, wX3_moves_27, wX3_moves_28, wX3_moves_29, wX3_moves_32, if_true, if_false, ↓reduceIte, xpu_s, xpu_n, Option.bind_some, xk_i, xk_r, xk_0, xk_u, xk_l, xk_k, xk_q, rf_s, rf_n, o_TI, o_TL, o_TR, o_NI, o_NL, o_NR, o_XI, o_XL, o_XR, o_RI, o_RL, o_LI, o_LR, o_IL, o_IR, o_II, o_LL, o_RR, o_pII, o_pLL, up_s, q_e1, q_e2, Nat.zero_add, Nat.reduceEqDiff, Nat.reduceAdd, Nat.reduceMul, Nat.reduceSub, Nat.reduceLT, Nat.reduceLeDiff, Nat.reduceDiv, Nat.reduceMod, nI_c, nI_add, up_ne, M, i_irr, NE, oe]
theorem kX3_lanes (O : WO h q) (hs : oR h q 5 = some c) (S : SCo h c A) (W : WFs A) (P : WP A w) (C0 : CK q A w h h (sZh w, fun _ => false, none)) (h6 : oI h q 6 = w 32) (hF : w 33 = 0 ∨ w 33 = nI 1) {s4 : Slot} : ∃ h2 z, E_ (d + 6) mX3_goesOn 78 [.val (.ref q), .val (.int (-1)), .val (.int (if w 33 = nI 1 then w 32 else -1)), .val (.int (nI 0)), s4] [] h = E_ (d + 6) mX3_goesOn 114 [.val (.ref q), .val (.int (oe (sCg A w).2.2)), .val (.int (if w 33 = nI 1 then w 32 else -1)), .val (.int (nI (sL A))), z] [] h2 ∧ CK q A w h h2 (sCg A w) := by
  have W2 := W.2.1
  have W3 := W.2.2.1
  have W5 : sL A ≤ 4 := W.2.2.2.2.1
  refine lpe_st (n := sL A) (f := sLa A) (s := (sZh w, fun _ => false, none)) (P := fun k p (z : xH × Slot) => sK A w k p ∧ CK q A w h z.1 p) (Q := fun p a => ∃ h2 z, a = E_ (d + 6) mX3_goesOn 114 [.val (.ref q), .val (.int (oe p.2.2)), .val (.int (if w 33 = nI 1 then w 32 else -1)), .val (.int (nI (sL A))), z] [] h2 ∧ CK q A w h h2 p) (z := (h, s4)) (F := fun k p (z : xH × Slot) => E_ (d + 6) mX3_goesOn 78 [.val (.ref q), .val (.int (oe p.2.2)), .val (.int (if w 33 = nI 1 then w 32 else -1)), .val (.int (nI k)), z.2] [] z.1) ⟨sK_0, C0⟩ (fun k p z hk hK => ?_) (fun p z hK => ?_)
  · obtain ⟨K, C⟩ := hK
    have hk31 : k < 2147483648 := by omega
    obtain ⟨h2, e1, e2⟩ := kX3_moves (d := d) O hs S W2 P hk31 K C
    refine ⟨(h2, .val (.int (oe (sLn A (nI k) 8 (p.1, p.2.1, -1, none)).2.2.2))), wX3_goesOn_78.trans ?_, sK_la W2 K, ?_⟩
    · have O1 := WO_fr C.1 O
      have S1 := SC_w C.1 O S
      have T5 : oT z.1 q = 5 := O1.1
      have T3 : oT z.1 c = 3 := S1.1
      have C2 := S1.2.1
      have R5 : oR z.1 q 5 = some c := by rw [C.1.2.2.2.1]; exact hs
      have k33 : p.1 33 = w 33 := K.2.2.2.2.1 33 (by omega)
      have k32 : p.1 32 = w 32 := K.2.2.2.2.1 32 (by omega)
      have eq1 : (sLa A k p).2.2 = if p.1 33 = nI 1 ∧ nI k = p.1 32 then (sLn A (nI k) 8 (p.1, p.2.1, -1, none)).2.2.2 else p.2.2 := rfl
      rw [eq1, k33, k32]
      rcases hF with f0 | f1
      · have f2 : ¬ w 33 = nI 1 := by rw [f0]; decide
        have nk : (nI k = -1) = False := nI_nm1 hk31
        simp (disch := first | assumption | exact nI_ne0 (by decide) (by decide) | exact zb_01 | exact Or.inl rfl | exact Or.inr rfl | with_unfolding_all exact id (by assumption) | with_unfolding_all exact id (xix_8 (by assumption) (by omega) (by omega)) | omega) only [wX3_goesOn_79, wX3_goesOn_80, wX3_goesOn_83, wX3_goesOn_86, wX3_goesOn_89, wX3_goesOn_90, wX3_goesOn_91, wX3_goesOn_94, wX3_goesOn_96, wX3_goesOn_97, wX3_goesOn_98, wX3_goesOn_101, wX3_goesOn_103, wX3_goesOn_106, wX3_goesOn_107, wX3_goesOn_108, wX3_goesOn_111, if_true, if_false, ↓reduceIte, xpu_s, xpu_n, Option.bind_some, xk_i, xk_r, xk_0, xk_u, xk_l, xk_k, xk_q, rf_s, rf_n, o_TI, o_TL, o_TR, o_NI, o_NL, o_NR, o_XI, o_XL, o_XR, o_RI, o_RL, o_LI, o_LR, o_IL, o_IR, o_II, o_LL, o_RR, o_pII, o_pLL, up_s, q_e1, q_e2, Nat.zero_add, Nat.reduceEqDiff, Nat.reduceAdd, Nat.reduceMul, Nat.reduceSub, Nat.reduceLT, Nat.reduceLeDiff, Nat.reduceDiv, Nat.reduceMod, nI_c, nI_add, up_ne, R5, C2, W3, nI_ltP, hk, e1, f2, nk, false_and]
      · by_cases f3 : nI k = w 32
        · have f3' : (nI k = w 32) = True := eq_true f3
          simp (disch := first | assumption | exact nI_ne0 (by decide) (by decide) | exact zb_01 | exact Or.inl rfl | exact Or.inr rfl | with_unfolding_all exact id (by assumption) | with_unfolding_all exact id (xix_8 (by assumption) (by omega) (by omega)) | omega) only [wX3_goesOn_79, wX3_goesOn_80, wX3_goesOn_83, wX3_goesOn_86, wX3_goesOn_89, wX3_goesOn_90, wX3_goesOn_91, wX3_goesOn_94, wX3_goesOn_96, wX3_goesOn_97, wX3_goesOn_98, wX3_goesOn_101, wX3_goesOn_103, wX3_goesOn_106, wX3_goesOn_107, wX3_goesOn_108, wX3_goesOn_111, if_true, if_false, ↓reduceIte, xpu_s, xpu_n, Option.bind_some, xk_i, xk_r, xk_0, xk_u, xk_l, xk_k, xk_q, rf_s, rf_n, o_TI, o_TL, o_TR, o_NI, o_NL, o_NR, o_XI, o_XL, o_XR, o_RI, o_RL, o_LI, o_LR, o_IL, o_IR, o_II, o_LL, o_RR, o_pII, o_pLL, up_s, q_e1, q_e2, Nat.zero_add, Nat.reduceEqDiff, Nat.reduceAdd, Nat.reduceMul, Nat.reduceSub, Nat.reduceLT, Nat.reduceLeDiff, Nat.reduceDiv, Nat.reduceMod, nI_c, nI_add, up_ne, R5, C2, W3, nI_ltP, hk, e1, f1, f3', and_self]
        · simp (disch := first | assumption | exact nI_ne0 (by decide) (by decide) | exact zb_01 | exact Or.inl rfl | exact Or.inr rfl | with_unfolding_all exact id (by assumption) | with_unfolding_all exact id (xix_8 (by assumption) (by omega) (by omega)) | omega) only [wX3_goesOn_79, wX3_goesOn_80, wX3_goesOn_83, wX3_goesOn_86, wX3_goesOn_89, wX3_goesOn_90, wX3_goesOn_91, wX3_goesOn_94, wX3_goesOn_96, wX3_goesOn_97, wX3_goesOn_98, wX3_goesOn_101, wX3_goesOn_103, wX3_goesOn_106, wX3_goesOn_107, wX3_goesOn_108, wX3_goesOn_111, if_true, if_false, ↓reduceIte, xpu_s, xpu_n, Option.bind_some, xk_i, xk_r, xk_0, xk_u, xk_l, xk_k, xk_q, rf_s, rf_n, o_TI, o_TL, o_TR, o_NI, o_NL, o_NR, o_XI, o_XL, o_XR, o_RI, o_RL, o_LI, o_LR, o_IL, o_IR, o_II, o_LL, o_RR, o_pII, o_pLL, up_s, q_e1, q_e2, Nat.zero_add, Nat.reduceEqDiff, Nat.reduceAdd, Nat.reduceMul, Nat.reduceSub, Nat.reduceLT, Nat.reduceLeDiff, Nat.reduceDiv, Nat.reduceMod, nI_c, nI_add, up_ne, R5, C2, W3, nI_ltP, hk, e1, f1, f3, and_false]
    · exact CK_of e2
  · obtain ⟨K, C⟩ := hK
    have O1 := WO_fr C.1 O
    have S1 := SC_w C.1 O S
    have T5 : oT z.1 q = 5 := O1.1
    have T3 : oT z.1 c = 3 := S1.1
    have C2 := S1.2.1
    have R5 : oR z.1 q 5 = some c := by rw [C.1.2.2.2.1]; exact hs
    refine ⟨z.1, z.2, wX3_goesOn_78.trans ?_, C⟩
    simp (disch := first | assumption | exact nI_ne0 (by decide) (by decide) | exact zb_01 | exact Or.inl rfl | exact Or.inr rfl | with_unfolding_all exact id (by assumption) | with_unfolding_all exact id (xix_8 (by assumption) (by omega) (by omega)) | omega) only [wX3_goesOn_79, wX3_goesOn_80, wX3_goesOn_83, wX3_goesOn_86, if_true, if_false, ↓reduceIte, xpu_s, xpu_n, Option.bind_some, xk_i, xk_r, xk_0, xk_u, xk_l, xk_k, xk_q, rf_s, rf_n, o_TI, o_TL, o_TR, o_NI, o_NL, o_NR, o_XI, o_XL, o_XR, o_RI, o_RL, o_LI, o_LR, o_IL, o_IR, o_II, o_LL, o_RR, o_pII, o_pLL, up_s, q_e1, q_e2, Nat.zero_add, Nat.reduceEqDiff, Nat.reduceAdd, Nat.reduceMul, Nat.reduceSub, Nat.reduceLT, Nat.reduceLeDiff, Nat.reduceDiv, Nat.reduceMod, nI_c, nI_add, up_ne, R5, C2, W3, i_irr]
end
