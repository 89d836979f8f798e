/-! CALLS: feed, the component -/
section
variable {d : Nat} {h : xH} {P : sS} {A : rI} {x y v a b c e g : Int32} {s i p n m k : Nat} {f : rI}
theorem byt_w {y : Int32} : vp_nar .byte y.toInt8.toInt32 &&& nI 255 = y &&& nI 255 := by
  show (y.toInt8.toInt32).toInt8.toInt32 &&& nI 255 = y &&& nI 255
  apply Int32.toBitVec_inj.mp
  apply BitVec.eq_of_getLsbD_eq
  intro i hi
  have key : ∀ i, i < 32 → (nI 255).toBitVec.getLsbD i = decide (i < 8) := by decide
  rw [Int32.toBitVec_and, Int32.toBitVec_and, BitVec.getLsbD_and, BitVec.getLsbD_and, key i hi]
  by_cases q : i < 8
  · rw [decide_eq_true q, Bool.and_true, Bool.and_true]
    simp [BitVec.getElem_signExtend, hi, q]
  · rw [decide_eq_false q, Bool.and_false, Bool.and_false]
theorem byt_m {r : Nat} : byt v r &&& nI 255 = (v >>> (kx r &&& 31)) &&& nI 255 := byt_w
theorem and_255 (y : Int32) : ∃ x, y &&& nI 255 = nI x ∧ x < 256 := by
  refine ⟨(y &&& nI 255).toBitVec.toNat, ?_, ?_⟩
  · apply Int32.toBitVec_inj.mp
    show _ = BitVec.ofNat 32 _
    rw [BitVec.ofNat_toNat, BitVec.setWidth_eq]
  · rw [Int32.toBitVec_and, BitVec.toNat_and]
    exact Nat.lt_of_le_of_lt Nat.and_le_right (by decide)
/-- the tape is written -/
theorem XR_HY (X : XR h P) (hf : ∀ k, k < 400 → f k &&& nI 255 = A k) : XR (HY h f n) (qT P A n) := by
  obtain ⟨ow, s, X⟩ := X
  obtain ⟨x1, x2, x3, x4, x5, x6, x7, x8, x9, x10, x11, x12, x13⟩ := X
  have ne : ∀ a, ¬ a = 64 → ¬ a = 78 → oI (HY h f n) a = oI h a := fun a h1 h2 => by
    unfold HY
    rw [o_II, if_neg h2, o_II, if_neg h1]
  have s0 : ∀ a, ¬ a = 64 → ¬ a = 78 → sm h (HY h f n) a := fun a h1 h2 => sm_I (sm_I sm_refl h1) h2
  have nx : ∀ a, ¬ ow a = 100 → ¬ a = 64 ∧ ¬ a = 78 := fun a ha => ⟨fun z => ha (by rw [z]; exact (x13 64 (by omega)).1), fun z => ha (by rw [z]; exact (x13 78 (by omega)).1)⟩
  have nt : ∀ a, 9 ≤ oT h a → oT h a ≤ 18 → sm h (HY h f n) a := fun a h1 h2 => s0 a (fun z => (x13 64 (by omega)).2 (by rw [z] at h1 h2; exact ⟨h1, h2⟩)) (fun z => (x13 78 (by omega)).2 (by rw [z] at h1 h2; exact ⟨h1, h2⟩))
  have fr : ∀ k, k < 3 → ∀ t A, XS ow k h t A → XS ow k (HY h f n) t A := fun k hk t A q => XS_m hk (fun a ha => s0 a (nx a (by omega)).1 (nx a (by omega)).2) nt (fun a _ => rfl) q
  refine ⟨ow, s, XT_fr (h := h) (fun a ha => ⟨rfl, rfl⟩) (fun j _ => rfl) rfl rfl (fun a j _ _ _ => rfl) (fun a ha => ne a (by omega) (by omega)) x1, x2, fr 0 (by omega) _ _ x3, fun i hi => ?_, ?_, ?_, rfl, ?_, ?_, fun r hr => NR_m (h := h) (P := P) rfl (fun a ha => ⟨s0 a (nx a (by omega)).1 (nx a (by omega)).2, rfl⟩) (x10 r hr), x11, x12, x13⟩
  · rcases x4 i hi with ⟨y1, y2⟩ | ⟨y1, t, y2, y3⟩
    · exact Or.inl ⟨y1, y2⟩
    · exact Or.inr ⟨y1, t, y2, fr (i + 1) (by omega) _ _ y3⟩
  · rw [ne 77 (by omega) (by omega)]; exact x5
  · exact hf
  · exact x8
  · exact x9
theorem KM_HY : KM h (HY h f n) := fun a ha => sm_I (sm_I sm_refl (by omega)) (by omega)
theorem byf_at {j : Nat} : byf f n v 4 j &&& nI 255 = if n ≤ j ∧ j < n + 4 then (v >>> (kx (j - n) &&& 31)) &&& nI 255 else f j &&& nI 255 := by
  unfold byf
  split
  · exact byt_m
  · rfl
theorem nX0_feed (X : XR h P) (W : WF P) : XG (d + 1) h mX0_feed [.ref 64, .int a, .int b, .int c, .int e, .int g] (q_feed P a b c e g) := by
  have T := XR_T X
  have x0 := T.1.1
  have no := fun k : Int32 => kX0_no (d := d) T (k := k)
  have h4 := W.2.2.1
  obtain ⟨ow, s', X1⟩ := id X
  have x7 := X1.2.2.2.2.2.2.1
  have x6 := X1.2.2.2.2.2.1
  obtain ⟨-, -, -, -, -, x3, -, -, -, -, -, -, -, -, t78, n78, -⟩ := T
  unfold q_feed
  by_cases q : 400 < pn P + 20
  · rw [if_pos q]
    refine XG_nn X ?_
    have qq : (nI 400 < nI (pn P + 20)) = True := eq_true (nI_lt q (by omega))
    simp (disch := first | assumption | exact nI_ne0 (by decide) (by decide) | exact zb_01 | exact Or.inl rfl | exact Or.inr rfl | with_unfolding_all exact id (by assumption) | with_unfolding_all exact id (xix_8 (by assumption) (by omega) (by omega)) | omega) only [wX0_feed_e, wX0_feed_0, wX0_feed_1, wX0_feed_4, wX0_feed_6, wX0_feed_7, wX0_feed_10, wX0_feed_13, wX0_feed_14, wX0_feed_16, wX0_feed_19, wX0_feed_20, wX0_feed_21, wX0_feed_22, wX0_feed_25, wX0_feed_26, wX0_feed_27, wX0_feed_30, wX0_feed_31, wX0_feed_32, wX0_feed_35, wX0_feed_36, wX0_feed_38, wX0_feed_41, wX0_feed_42, wX0_feed_44, wX0_feed_47, wX0_feed_48, wX0_feed_51, if_true, if_false, ↓reduceIte, xpu_s, xpu_n, Option.bind_some, xk_i, xk_r, xk_0, xk_u, xk_l, xk_k, xk_q, rf_s, rf_n, o_TI, o_TL, o_TR, o_NI, o_NL, o_NR, o_XI, o_XL, o_XR, o_RI, o_RL, o_LI, o_LR, o_IL, o_IR, o_II, o_LL, o_RR, o_pII, o_pLL, up_s, q_e1, q_e2, Nat.zero_add, Nat.reduceEqDiff, Nat.reduceAdd, Nat.reduceMul, Nat.reduceSub, Nat.reduceLT, Nat.reduceLeDiff, Nat.reduceDiv, Nat.reduceMod, nI_c, nI_add, up_ne, not_true_eq_false, not_false_eq_true, and_self, and_true, true_and, and_false, false_and, or_true, true_or, or_false, false_or, decide_true, decide_false, zb_t, zb_f, zb_0, zb_1, eq_self, nx_2, nx_3, nx_5, nx_6, nx_7, nx_f, nx_s, nx_w, ns_2, ns_3, ns_5, ns_6, ns_7, no, x7, qq]
  · rw [if_neg q]
    have qq : (nI 400 < nI (pn P + 20)) = False := eq_false (nI_nlt (by omega) (by omega))
    have BY : ∀ f m v, m + 4 ≤ 400 → C_ d mX0_bytes [.ref 64, .int v] (HY h f m) = some (none, HY h (byf f m v 4) (m + 4)) := fun f m v hm => kX0_bytes x0 x3 t78 n78 hm
    have B0 : ∀ v, C_ d mX0_bytes [.ref 64, .int v] h = some (none, HY h (byf (oI h 78) (pn P) v 4) (pn P + 4)) := fun v => by
      have := BY (oI h 78) (pn P) v (by omega)
      rw [← HY_0 x7] at this
      exact this
    refine ⟨HY h (byf (byf (byf (byf (byf (oI h 78) (pn P) a 4) (pn P + 4) b 4) (pn P + 8) c 4) (pn P + 12) e 4) (pn P + 16) g 4) (pn P + 20), ?_, XR_HY X (fun k hk => ?_), KM_HY, Nat.le_add_right _ _, Nat.le_add_right _ _⟩
    · simp (disch := first | omega | first | assumption | exact nI_ne0 (by decide) (by decide) | exact zb_01 | exact Or.inl rfl | exact Or.inr rfl | with_unfolding_all exact id (by assumption) | with_unfolding_all exact id (xix_8 (by assumption) (by omega) (by omega)) | omega) only [wX0_feed_e, wX0_feed_0, wX0_feed_1, wX0_feed_4, wX0_feed_6, wX0_feed_7, wX0_feed_10, wX0_feed_13, wX0_feed_14, wX0_feed_16, wX0_feed_19, wX0_feed_20, wX0_feed_21, wX0_feed_22, wX0_feed_25, wX0_feed_26, wX0_feed_27, wX0_feed_30, wX0_feed_31, wX0_feed_32, wX0_feed_35, wX0_feed_36, wX0_feed_38, wX0_feed_41, wX0_feed_42, wX0_feed_44, wX0_feed_47, wX0_feed_48, wX0_feed_51, if_true, if_false, ↓reduceIte, xpu_s, xpu_n, Option.bind_some, xk_i, xk_r, xk_0, xk_u, xk_l, xk_k, xk_q, rf_s, rf_n, q_e1, q_e2, Nat.zero_add, Nat.reduceEqDiff, Nat.reduceAdd, Nat.reduceMul, Nat.reduceSub, Nat.reduceLT, Nat.reduceLeDiff, Nat.reduceDiv, Nat.reduceMod, nI_add, Nat.add_assoc, x7, qq, B0, BY, HY_T, HY_4, not_true_eq_false, not_false_eq_true, and_self, and_true, true_and, and_false, false_and, or_true, true_or, or_false, false_or, decide_true, decide_false, zb_t, zb_f, zb_0, zb_1, eq_self]
    · rw [byf_at, byf_at, byf_at, byf_at, byf_at, x6 k hk]
      unfold fT fw
      by_cases q0 : pn P ≤ k ∧ k < pn P + 20
      · rw [if_pos q0]
        by_cases q1 : k < pn P + 4
        · rw [if_neg (by omega), if_neg (by omega), if_neg (by omega), if_neg (by omega), if_pos (by omega), if_pos (by omega), show (k - pn P) % 4 = k - pn P by omega]
        · rw [if_neg (show ¬ k - pn P < 4 by omega)]
          by_cases q2 : k < pn P + 8
          · rw [if_neg (by omega), if_neg (by omega), if_neg (by omega), if_pos (by omega), if_pos (by omega), show (k - pn P) % 4 = k - (pn P + 4) by omega]
          · rw [if_neg (show ¬ k - pn P < 8 by omega)]
            by_cases q3 : k < pn P + 12
            · rw [if_neg (by omega), if_neg (by omega), if_pos (by omega), if_pos (by omega), show (k - pn P) % 4 = k - (pn P + 8) by omega]
            · rw [if_neg (show ¬ k - pn P < 12 by omega)]
              by_cases q4 : k < pn P + 16
              · rw [if_neg (by omega), if_pos (by omega), if_pos (by omega), show (k - pn P) % 4 = k - (pn P + 12) by omega]
              · rw [if_pos (by omega), if_neg (by omega), show (k - pn P) % 4 = k - (pn P + 16) by omega]
      · rw [if_neg q0, if_neg (by omega), if_neg (by omega), if_neg (by omega), if_neg (by omega), if_neg (by omega)]
theorem WF_feed (W : WF P) : WF (q_feed P a b c e g).2 := by
  unfold q_feed
  split
  · exact W
  · obtain ⟨w1, w2, w3, w4, w5⟩ := W
    refine ⟨w1, w2, ?_, w4, fun k hk => ?_⟩
    · show pn P + 20 ≤ 400
      omega
    · show ∃ x, fT (pT P) (pn P) a b c e g 20 k = nI x ∧ x < 256
      unfold fT
      split
      · exact and_255 _
      · exact w5 k hk
end
