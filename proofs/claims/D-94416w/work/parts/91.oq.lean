/-! CALLS of the component: a line repealed -/
section
variable {d : Nat} {h h1 h2 : xH} {P : sS} {A B : rI} {x : Int32} {ow : Nat → Nat} {s cc l k n t : Nat} {w : rI}
/-- the state has another law -/
theorem XR_law {b : Nat} (X : XRo ow s h P) (wb : ¬ (b < 65 ∨ (76 ≤ b ∧ b < 170)) ∧ b < oX h ∧ (ow b = 100 ∨ ow b = 101)) (wq : ¬ (rq h b 1 < 65 ∨ (76 ≤ rq h b 1 ∧ rq h b 1 < 170)) ∧ rq h b 1 < oX h ∧ (ow (rq h b 1) = 100 ∨ ow (rq h b 1) = 101)) (L : LWo h b B) (e : ∀ i, i < 40 ∨ 477 ≤ i → B i = pA P i) (h8 : sN (pA P) ≤ 8) (h12 : sP_ (pA P) ≤ 12) : XRo (fun a => if a = b ∨ a = rq h b 1 then 101 else ow a) s (pR h s (va_up (oR h s) 1 (some b))) (qA P B) ∧ KM h (pR h s (va_up (oR h s) 1 (some b))) := by
  obtain ⟨x1, x2, x3, x4, x5, x6, x7, x8, x9, x10, x11, x12, x13⟩ := X
  obtain ⟨y1, y2, ⟨c, c1, c2, c3, c4, c5⟩, -, ⟨p, p1, p2⟩, ⟨q3, a1, a2, a3⟩, ⟨q4, b1, b2, b3⟩, ⟨q5, d1, d2, d3⟩⟩ := x3
  have ns : ¬ (s < 65 ∨ (76 ≤ s ∧ s < 170)) := fun z => by have := (x13 s z).1; omega
  have s0 : ∀ a, ¬ a = s → sm h (pR h s (va_up (oR h s) 1 (some b))) a := fun a ha => sm_R sm_refl ha
  have st : ∀ a, 9 ≤ oT h a → oT h a ≤ 18 → sm h (pR h s (va_up (oR h s) 1 (some b))) a := fun a h1 h2 => s0 a (fun z => by rw [z, y2] at h1; omega)
  have so : ∀ a, ¬ ow a = 0 → sm h (pR h s (va_up (oR h s) 1 (some b))) a := fun a ha => s0 a (fun z => ha (by rw [z]; exact y1))
  have rs : ∀ j, j ≠ 1 → oR (pR h s (va_up (oR h s) 1 (some b))) s j = oR h s j := fun j hj => by rw [o_RR, if_pos rfl, up_ne hj]
  have r0 : ∀ a, ¬ a = s → oR (pR h s (va_up (oR h s) 1 (some b))) a = oR h a := fun a ha => by rw [o_RR, if_neg ha]
  have ow1 : ∀ a, ¬ ow a = 100 → (if a = b ∨ a = rq h b 1 then 101 else ow a) = ow a := fun a ha => by
    split
    · rename_i z
      rcases z with rfl | rfl
      · omega
      · omega
    · rfl
  have sb : ¬ b = s := fun z => by have := wb.2.2; rw [z] at this; omega
  have sq : ¬ rq h b 1 = s := fun z => by have := wq.2.2; rw [z] at this; omega
  have eb : rq (pR h s (va_up (oR h s) 1 (some b))) b 1 = rq h b 1 := rq_m (s0 b sb)
  refine ⟨⟨XT_fr (h := h) (fun _ _ => ⟨rfl, rfl⟩) (fun j _ => by rw [r0 64 (by omega)]) (r0 85 (by omega)) (r0 145 (by omega)) (fun a j _ _ _ => by rw [r0 a (by omega)]) (fun _ _ => rfl) x1, by rw [r0 64 (by omega)]; exact x2, ⟨?_, y2, ⟨c, (rs 0 (by omega)).trans c1, ?_, SC_A (fun i hi => e i (by omega)) h8 (SC_m (so c (by omega)) (so _ (by omega)) (so _ (by omega)) st c3), ?_, ?_⟩, ⟨b, ?_, ?_, ?_, LW_m (s0 b sb) (s0 _ sq) st L⟩, ⟨p, (rs 2 (by omega)).trans p1, PL_A (fun i h1 _ => e i (by omega)) h12 (PL_m (fun a ha => so a (by omega)) (fun a ha => ow1 a (by omega)) p2)⟩, ⟨q3, (rs 3 (by omega)).trans a1, ?_, AR_A (fun i _ => e _ (by omega)) (AR_m (so q3 (by omega)) a3)⟩, ⟨q4, (rs 4 (by omega)).trans b1, ?_, AR_A (fun i _ => e _ (by omega)) (AR_m (so q4 (by omega)) b3)⟩, ⟨q5, (rs 5 (by omega)).trans d1, ?_, AR_A (fun i _ => e _ (by omega)) (AR_m (so q5 (by omega)) d3)⟩⟩, fun i hi => ?_, x5, x6, x7, x8, x9, fun r hr => NR_m (h := h) (r0 _ (by omega)) (fun a ha => ⟨so a (by omega), ow1 a (by omega)⟩) (x10 r hr), x11, fun a ha => ?_, fun a ha => ?_⟩, fun a ha => s0 a (by omega)⟩
  · exact (ow1 s (by omega)).trans y1
  · exact (ow1 c (by omega)).trans c2
  · have e0 := rq_m (j := 0) (so c (by omega))
    rw [e0]
    exact (ow1 _ (by omega)).trans c4
  · have e0 := rq_m (j := 0) (so c (by omega))
    rw [e0, rq_m (so _ (by omega))]
    exact (ow1 _ (by omega)).trans c5
  · rw [o_RR, if_pos rfl, up_s]
  · exact if_pos (Or.inl rfl)
  · rw [eb]; exact if_pos (Or.inr rfl)
  · exact (ow1 q3 (by omega)).trans a2
  · exact (ow1 q4 (by omega)).trans b2
  · exact (ow1 q5 (by omega)).trans d2
  · rcases x4 i hi with ⟨z1, z2⟩ | ⟨z1, t, z2, z3⟩
    · exact Or.inl ⟨z1, by rw [r0 76 (by omega)]; exact z2⟩
    · refine Or.inr ⟨z1, t, by rw [r0 76 (by omega)]; exact z2, ?_⟩
      have es : sh B i = sh (pA P) i := by
        funext j
        exact e _ (by omega)
      show XS _ (i + 1) _ t (sh B i)
      rw [es]
      exact XS_m (by omega) (fun a ha => so a (by omega)) st (fun a ha => ow1 a (by omega)) z3
  · refine ⟨(x12 a ha).1, ?_⟩
    have : ¬ (a = b ∨ a = rq h b 1) := by
      intro z
      have : oX (pR h s (va_up (oR h s) 1 (some b))) = oX h := rfl
      omega
    exact (if_neg this).trans (x12 a ha).2
  · exact ⟨(if_neg (by omega)).trans (x13 a ha).1, (x13 a ha).2⟩
/-- so many of the first are kept -/
def ck (k i : Nat) : Nat := if i ≤ k then i else i - 1
theorem sm_LG {less : Nat} {Q : Nat → Prop} (G : LG h less n t) (a : ∀ a, Q a → sm h h1 a) (h2 : Q less) (h3 : Q (rq h less 1)) (h4 : ∀ j, j < n → Q (li h less j)) : LG h1 less n t ∧ (∀ j, li h1 less j = li h less j) ∧ rq h1 less 1 = rq h less 1 := by
  obtain ⟨g1, g2, g3, g4⟩ := G
  obtain ⟨L1, L2⟩ := LS_m (a _ h2) (a _ h3) g1
  have e := rq_m (j := 1) (a _ h2)
  refine ⟨⟨L1, ?_, ?_, fun j hj => ?_⟩, L2, e⟩
  · rw [e, (a _ h3).2.1]; exact g2
  · rw [e, (a _ h3).2.1]; exact g3
  · rw [L2, (a _ (h4 j hj)).1]; exact g4 j hj
theorem rep_loop (T : TX h) (T1 : oT h 64 = 1) (h170 : 170 ≤ oX h) (L : LSn h l n) (hn : n ≤ 12) (hk : k < n) (ts : ∀ j, j < n → oT h (li h l j) = 18) : ∃ z sl, E_ (d + 217) mX0_repeals 50 [.val (.ref 64), .val (.int (nI k)), .val (.ref l), .val (.ref (oX h)), .val (.int (nI 0)), .unset, .unset, .unset] [] (hL h) = E_ (d + 217) mX0_repeals 85 [.val (.ref 64), .val (.int (nI k)), .val (.ref l), .val (.ref (oX h)), sl, .unset, .unset, .unset] [] z ∧ LG z (oX h) (n - 1) 18 ∧ (∀ j, j < n - 1 → li z (oX h) j = li h l (sk k j)) ∧ GX (fun _ => False) h z 14 500 ∧ oX h ≤ rq z (oX h) 1 ∧ rq z (oX h) 1 < oX z ∧ oX h < oX z := by
  obtain ⟨g1, g2, g3, g4⟩ := hL_G (t := 18) T
  have key : ∀ i, i ≤ n → ∃ z, E_ (d + 217) mX0_repeals 50 [.val (.ref 64), .val (.int (nI k)), .val (.ref l), .val (.ref (oX h)), .val (.int (nI 0)), .unset, .unset, .unset] [] (hL h) = E_ (d + 217) mX0_repeals 50 [.val (.ref 64), .val (.int (nI k)), .val (.ref l), .val (.ref (oX h)), .val (.int (nI i)), .unset, .unset, .unset] [] z ∧ LG z (oX h) (ck k i) 18 ∧ (∀ j, j < ck k i → li z (oX h) j = li h l (sk k j)) ∧ GX (fun _ => False) h z (2 + i) (5 + 40 * i) ∧ oX h ≤ rq z (oX h) 1 ∧ rq z (oX h) 1 < oX z ∧ oX h < oX z := by
    intro i
    induction i with
    | zero =>
      intro _
      refine ⟨hL h, rfl, ?_, fun j hj => ?_, g4, by omega, by omega, by omega⟩
      · have : ck k 0 = 0 := by unfold ck; split <;> omega
        rw [this]; exact g1
      · have : ck k 0 = 0 := by unfold ck; split <;> omega
        omega
    | succ i ih =>
      intro hi
      obtain ⟨z, e, G, el, gx, r1, r2, r3⟩ := ih (by omega)
      have Tz := TX_G T gx
      have s0 : ∀ a, a < oX h → sm h z a := fun a ha => gx.2.2.2.2.2 a ha (fun y => y)
      have lx := TX_lt T (a := l) (by rw [L.1]; decide)
      have qx := TX_lt T (a := rq h l 1) (by rw [L.2.2.2.1]; decide)
      obtain ⟨Lz, lz⟩ := LS_m (s0 l lx) (s0 _ qx) L
      have SZ := kJ2_size (d := d + 216) Lz
      have GT := kJ2_get (d := d + 214) Lz (i := i) (by omega) (by omega)
      rw [lz] at GT
      have e18 := ts i (by omega)
      have ex := TX_lt T (a := li h l i) (by rw [e18]; decide)
      have t18 : oT z (li h l i) = 18 := by rw [(s0 _ ex).1]; exact e18
      have t4 : oT z l = 4 := Lz.1
      have t1 : oT z 64 = 1 := by rw [(s0 64 (by omega)).1]; exact T1
      have lt : i < n := by omega
      by_cases q : i = k
      · subst q
        refine ⟨z, e.trans ?_, ?_, ?_, GX_le gx (by omega) (by omega), r1, r2, r3⟩
        · refine wX0_repeals_50.trans ?_
          simp (disch := first | assumption | exact nI_ne0 (by decide) (by decide) | exact zb_01 | exact Or.inl rfl | exact Or.inr rfl | with_unfolding_all exact id (by assumption) | with_unfolding_all exact id (xix_8 (by assumption) (by omega) (by omega)) | omega) only [wX0_repeals_e, wX0_repeals_0, wX0_repeals_1, wX0_repeals_2, wX0_repeals_3, wX0_repeals_4, wX0_repeals_7, wX0_repeals_10, wX0_repeals_13, wX0_repeals_14, wX0_repeals_15, wX0_repeals_16, wX0_repeals_19, wX0_repeals_22, wX0_repeals_23, wX0_repeals_25, wX0_repeals_28, wX0_repeals_29, wX0_repeals_30, wX0_repeals_31, wX0_repeals_34, wX0_repeals_37, wX0_repeals_38, wX0_repeals_41, wX0_repeals_42, wX0_repeals_43, wX0_repeals_46, wX0_repeals_47, wX0_repeals_48, wX0_repeals_52, wX0_repeals_53, wX0_repeals_56, wX0_repeals_59, wX0_repeals_61, wX0_repeals_62, wX0_repeals_65, wX0_repeals_66, wX0_repeals_67, wX0_repeals_69, wX0_repeals_72, wX0_repeals_72n, wX0_repeals_75, wX0_repeals_78, wX0_repeals_79, wX0_repeals_82, wX0_repeals_86, wX0_repeals_87, wX0_repeals_90, wX0_repeals_93, wX0_repeals_96, wX0_repeals_99, wX0_repeals_101, wX0_repeals_102, wX0_repeals_105, wX0_repeals_106, wX0_repeals_109, wX0_repeals_110, wX0_repeals_111, wX0_repeals_114, wX0_repeals_117, wX0_repeals_120, wX0_repeals_123, wX0_repeals_125, wX0_repeals_126, wX0_repeals_128, wX0_repeals_129, wX0_repeals_132, wX0_repeals_133, wX0_repeals_136, wX0_repeals_138, if_true, if_false, ↓reduceIte, xpu_s, xpu_n, Option.bind_some, xk_i, xk_r, xk_0, xk_u, xk_l, xk_k, xk_q, rf_s, rf_n, q_e1, q_e2, Nat.zero_add, Nat.reduceEqDiff, Nat.reduceAdd, Nat.reduceMul, Nat.reduceSub, Nat.reduceLT, Nat.reduceLeDiff, Nat.reduceDiv, Nat.reduceMod, nI_add, nI_ltP, lt, SZ, not_true_eq_false, not_false_eq_true, and_self, and_true, true_and, and_false, false_and, or_true, true_or, or_false, false_or, decide_true, decide_false, zb_t, zb_f, zb_0, zb_1, eq_self]
        · have : ck i (i + 1) = ck i i := by unfold ck; rw [if_neg (by omega), if_pos (by omega)]; omega
          rw [this]; exact G
        · have : ck i (i + 1) = ck i i := by unfold ck; rw [if_neg (by omega), if_pos (by omega)]; omega
          rw [this]; exact el
      · have cki : ck k (i + 1) = ck k i + 1 := by unfold ck; split <;> split <;> omega
        have ckn : ck k i ≤ 12 := by unfold ck; split <;> omega
        have tl : oT z (oX h) = 4 := G.1.1
        obtain ⟨z', a1, a2, a3, a4, a5, a6, a7⟩ := kJ2_add (d := d + 212) Tz G ckn (by omega) t18
        have nik : (nI i = nI k) = False := by rw [nI_eqI (by omega) (by omega)]; exact eq_false q
        refine ⟨z', e.trans ?_, ?_, fun j hj => ?_, ?_, ?_, ?_, ?_⟩
        · refine wX0_repeals_50.trans ?_
          simp (disch := first | exact t18 | first | assumption | exact nI_ne0 (by decide) (by decide) | exact zb_01 | exact Or.inl rfl | exact Or.inr rfl | with_unfolding_all exact id (by assumption) | with_unfolding_all exact id (xix_8 (by assumption) (by omega) (by omega)) | omega) only [wX0_repeals_e, wX0_repeals_0, wX0_repeals_1, wX0_repeals_2, wX0_repeals_3, wX0_repeals_4, wX0_repeals_7, wX0_repeals_10, wX0_repeals_13, wX0_repeals_14, wX0_repeals_15, wX0_repeals_16, wX0_repeals_19, wX0_repeals_22, wX0_repeals_23, wX0_repeals_25, wX0_repeals_28, wX0_repeals_29, wX0_repeals_30, wX0_repeals_31, wX0_repeals_34, wX0_repeals_37, wX0_repeals_38, wX0_repeals_41, wX0_repeals_42, wX0_repeals_43, wX0_repeals_46, wX0_repeals_47, wX0_repeals_48, wX0_repeals_52, wX0_repeals_53, wX0_repeals_56, wX0_repeals_59, wX0_repeals_61, wX0_repeals_62, wX0_repeals_65, wX0_repeals_66, wX0_repeals_67, wX0_repeals_69, wX0_repeals_72, wX0_repeals_72n, wX0_repeals_75, wX0_repeals_78, wX0_repeals_79, wX0_repeals_82, wX0_repeals_86, wX0_repeals_87, wX0_repeals_90, wX0_repeals_93, wX0_repeals_96, wX0_repeals_99, wX0_repeals_101, wX0_repeals_102, wX0_repeals_105, wX0_repeals_106, wX0_repeals_109, wX0_repeals_110, wX0_repeals_111, wX0_repeals_114, wX0_repeals_117, wX0_repeals_120, wX0_repeals_123, wX0_repeals_125, wX0_repeals_126, wX0_repeals_128, wX0_repeals_129, wX0_repeals_132, wX0_repeals_133, wX0_repeals_136, wX0_repeals_138, if_true, if_false, ↓reduceIte, xpu_s, xpu_n, Option.bind_some, xk_i, xk_r, xk_0, xk_u, xk_l, xk_k, xk_q, rf_s, rf_n, q_e1, q_e2, Nat.zero_add, Nat.reduceEqDiff, Nat.reduceAdd, Nat.reduceMul, Nat.reduceSub, Nat.reduceLT, Nat.reduceLeDiff, Nat.reduceDiv, Nat.reduceMod, nI_add, nI_ltP, lt, SZ, nik, GT, a1, not_true_eq_false, not_false_eq_true, and_self, and_true, true_and, and_false, false_and, or_true, true_or, or_false, false_or, decide_true, decide_false, zb_t, zb_f, zb_0, zb_1, eq_self]
        · rw [cki]; exact a2
        · rw [cki] at hj
          by_cases y : j = ck k i
          · rw [y, a4]
            have : sk k (ck k i) = i := by unfold sk ck; split <;> split <;> omega
            rw [this]
          · rw [a3 j (by omega)]; exact el j (by omega)
        · refine GX_le (GX_trans gx a6 (fun a ha y => by rcases y with y | y <;> omega)) (by omega) (by omega)
        · rcases a5 with y | ⟨y, y2⟩
          · rw [y]; exact r1
          · rw [y]; have := gx.1; omega
        · rcases a5 with y | ⟨y, y2⟩
          · rw [y]; have := a6.1; omega
          · rw [y]; exact y2
        · have := a6.1; omega
  obtain ⟨z, e, G, el, gx, r1, r2, r3⟩ := key n (Nat.le_refl n)
  have ckn : ck k n = n - 1 := by unfold ck; rw [if_neg (by omega)]
  rw [ckn] at G el
  refine ⟨z, .val (.int (nI n)), e.trans ?_, G, el, GX_le gx (by omega) (by omega), r1, r2, r3⟩
  have s0 : ∀ a, a < oX h → sm h z a := fun a ha => gx.2.2.2.2.2 a ha (fun y => y)
  have lx := TX_lt T (a := l) (by rw [L.1]; decide)
  have qx := TX_lt T (a := rq h l 1) (by rw [L.2.2.2.1]; decide)
  obtain ⟨Lz, lz⟩ := LS_m (s0 l lx) (s0 _ qx) L
  have SZ := kJ2_size (d := d + 216) Lz
  have t4 : oT z l = 4 := Lz.1
  refine wX0_repeals_50.trans ?_
  simp (disch := first | assumption | exact nI_ne0 (by decide) (by decide) | exact zb_01 | exact Or.inl rfl | exact Or.inr rfl | with_unfolding_all exact id (by assumption) | with_unfolding_all exact id (xix_8 (by assumption) (by omega) (by omega)) | omega) only [wX0_repeals_e, wX0_repeals_0, wX0_repeals_1, wX0_repeals_2, wX0_repeals_3, wX0_repeals_4, wX0_repeals_7, wX0_repeals_10, wX0_repeals_13, wX0_repeals_14, wX0_repeals_15, wX0_repeals_16, wX0_repeals_19, wX0_repeals_22, wX0_repeals_23, wX0_repeals_25, wX0_repeals_28, wX0_repeals_29, wX0_repeals_30, wX0_repeals_31, wX0_repeals_34, wX0_repeals_37, wX0_repeals_38, wX0_repeals_41, wX0_repeals_42, wX0_repeals_43, wX0_repeals_46, wX0_repeals_47, wX0_repeals_48, wX0_repeals_52, wX0_repeals_53, wX0_repeals_56, wX0_repeals_59, wX0_repeals_61, wX0_repeals_62, wX0_repeals_65, wX0_repeals_66, wX0_repeals_67, wX0_repeals_69, wX0_repeals_72, wX0_repeals_72n, wX0_repeals_75, wX0_repeals_78, wX0_repeals_79, wX0_repeals_82, wX0_repeals_86, wX0_repeals_87, wX0_repeals_90, wX0_repeals_93, wX0_repeals_96, wX0_repeals_99, wX0_repeals_101, wX0_repeals_102, wX0_repeals_105, wX0_repeals_106, wX0_repeals_109, wX0_repeals_110, wX0_repeals_111, wX0_repeals_114, wX0_repeals_117, wX0_repeals_120, wX0_repeals_123, wX0_repeals_125, wX0_repeals_126, wX0_repeals_128, wX0_repeals_129, wX0_repeals_132, wX0_repeals_133, wX0_repeals_136, wX0_repeals_138, if_true, if_false, ↓reduceIte, xpu_s, xpu_n, Option.bind_some, xk_i, xk_r, xk_0, xk_u, xk_l, xk_k, xk_q, rf_s, rf_n, q_e1, q_e2, Nat.zero_add, Nat.reduceEqDiff, Nat.reduceAdd, Nat.reduceMul, Nat.reduceSub, Nat.reduceLT, Nat.reduceLeDiff, Nat.reduceDiv, Nat.reduceMod, SZ, i_irr, not_true_eq_false, not_false_eq_true, and_self, and_true, true_and, and_false, false_and, or_true, true_or, or_false, false_or, decide_true, decide_false, zb_t, zb_f, zb_0, zb_1, eq_self]
end
