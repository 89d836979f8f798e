/-! CALLS: the numbers stay in their ranges -/
section
variable {A B : rI} {P : sS}
theorem sDp_A : ∀ (m i s t : Nat), i + m ≤ 200 → (∀ k, 77 ≤ k → k < 477 → B k = A k) → sDp A i m s t → sDp B i m s t
  | 0, i, s, t, _, _, D => D
  | m + 1, i, s, t, hi, e, D => by
    have e1 := e (77 + 2 * i) (by omega) (by omega)
    rcases D with ⟨d1, d2, d3⟩ | ⟨d1, d2, d3⟩ | ⟨d1, d3⟩
    · exact Or.inl ⟨by rw [e1]; exact d1, d2, sDp_A m _ _ _ (by omega) e d3⟩
    · exact Or.inr (Or.inl ⟨by rw [e1]; exact d1, d2, sDp_A m _ _ _ (by omega) e d3⟩)
    · exact Or.inr (Or.inr ⟨by rw [e1]; exact d1, sDp_A m _ _ _ (by omega) e d3⟩)
theorem WFs_A (e : ∀ k, k < 40 → B k = A k) (W : WFs A) : WFs B := by
  have en : sN B = sN A := by unfold sN; rw [e 1 (by omega)]
  have el : sL B = sL A := by unfold sL; rw [e 0 (by omega)]
  obtain ⟨w1, w2, w3, w4, w5, w6, w7, w8, w9, w10⟩ := W
  unfold WFs
  rw [en, el, e 1 (by omega), e 0 (by omega), e 34 (by omega), e 35 (by omega), e 36 (by omega), e 37 (by omega), e 38 (by omega), e 39 (by omega)]
  refine ⟨w1, w2, w3, w4, w5, fun c hc => ?_, fun c hc => ?_, fun c hc => ?_, fun c hc => ?_, w10⟩
  · rw [e (2 + c) (by omega)]; exact w6 c hc
  · rw [e (10 + c) (by omega)]; exact w7 c hc
  · rw [e (18 + c) (by omega)]; exact w8 c hc
  · rw [e (26 + c) (by omega)]; exact w9 c hc
theorem WFl_A (e : ∀ k, 40 ≤ k → k < 477 → B k = A k) (W : WFl A) : WFl B := by
  have en : sNl B = sNl A := by unfold sNl; rw [e 40 (by omega) (by omega)]
  obtain ⟨w1, w2, w3⟩ := W
  unfold WFl
  rw [en, e 40 (by omega) (by omega)]
  refine ⟨w1, w2, fun k hk => ?_⟩
  obtain ⟨v1, v2, v3, v4, v5, v6⟩ := w3 k hk
  have ef : sFm B k = sFm A k := by unfold sFm; rw [e (53 + k) (by omega) (by omega)]
  have et : sTo B k = sTo A k := by unfold sTo; rw [e (65 + k) (by omega) (by omega)]
  rw [ef, et, e (41 + k) (by omega) (by omega), e (53 + k) (by omega) (by omega), e (65 + k) (by omega) (by omega)]
  exact ⟨v1, v2, v3, v4, v5, sDp_A _ _ _ _ (by omega) (fun k h1 h2 => e k (by omega) h2) v6⟩
theorem WFp_A (e : ∀ k, 477 ≤ k → k < 558 → B k = A k) (W : WFp A) : WFp B := by
  have en : sP_ B = sP_ A := by unfold sP_; rw [e 477 (by omega) (by omega)]
  obtain ⟨w1, w2, w3, w4⟩ := W
  unfold WFp
  rw [en, e 477 (by omega) (by omega)]
  refine ⟨w1, w2, fun i hi => ?_, fun m hm => ?_⟩
  · rw [e (478 + i) (by omega) (by omega), e (490 + i) (by omega) (by omega), e (502 + i) (by omega) (by omega), e (514 + i) (by omega) (by omega), e (526 + i) (by omega) (by omega), e (538 + i) (by omega) (by omega)]
    exact w3 i hi
  · rw [e (550 + m) (by omega) (by omega), e (554 + m) (by omega) (by omega)]
    exact w4 m hm
theorem WFa_A (e : ∀ k, k < 558 → B k = A k) (W : WFa A) : WFa B := ⟨WFs_A (fun k hk => e k (by omega)) W.1, WFl_A (fun k _ h2 => e k (by omega)) W.2.1, WFp_A (fun k _ h2 => e k h2) W.2.2⟩
theorem wi_of1 {x : Int32} {n : Nat} (hn : n < 2147483648) (h : wi x (nI 1) (nI n) = true) : ∃ j, 1 ≤ j ∧ j ≤ n ∧ x = nI j := by
  obtain ⟨h1, h2⟩ := of_decide_eq_true h
  have h0 : ¬ x < 0 := fun z => h1 (by
    rw [Int32.lt_iff_toInt_lt] at z ⊢
    have e0 : (0 : Int32).toInt = 0 := rfl
    rw [nI_toInt (by decide)]
    omega)
  obtain ⟨j, hj, rfl⟩ := nI_of h0
  rw [nI_ltP hj (by decide)] at h1
  rw [nI_ltP hn hj] at h2
  exact ⟨j, by omega, by omega, rfl⟩
theorem WFa_cost {i : Nat} {b : Int32} (W : WFa A) (hi : i < 4) (hb : wi b (nI 1) (nI 99) = true) : WFa (va_up A (550 + i) b) := by
  obtain ⟨x, x1, x2, rfl⟩ := wi_of1 (by decide) hb
  refine ⟨WFs_A (fun k hk => up_ne (by omega)) W.1, WFl_A (fun k _ h2 => up_ne (by omega)) W.2.1, ?_⟩
  obtain ⟨w1, w2, w3, w4⟩ := W.2.2
  have en : sP_ (va_up A (550 + i) (nI x)) = sP_ A := by unfold sP_; rw [up_ne (by omega)]
  unfold WFp
  rw [en, up_ne (by omega)]
  refine ⟨w1, w2, fun j hj => ?_, fun m hm => ⟨?_, ?_⟩⟩
  · rw [up_ne (by omega), up_ne (by omega), up_ne (by omega), up_ne (by omega), up_ne (by omega), up_ne (by omega)]
    exact w3 j hj
  · by_cases z : m = i
    · subst z; rw [up_s]; exact ⟨x, rfl, x1, x2⟩
    · rw [up_ne (by omega)]; exact (w4 m hm).1
  · rw [up_ne (by omega)]; exact (w4 m hm).2
theorem WFa_left {i : Nat} {b : Int32} (W : WFa A) (hi : i < 4) (hb : wi b (nI 0) (nI 100) = true) : WFa (va_up A (554 + i) b) := by
  obtain ⟨x, x2, rfl⟩ := wi_of (by decide) hb
  refine ⟨WFs_A (fun k hk => up_ne (by omega)) W.1, WFl_A (fun k _ h2 => up_ne (by omega)) W.2.1, ?_⟩
  obtain ⟨w1, w2, w3, w4⟩ := W.2.2
  have en : sP_ (va_up A (554 + i) (nI x)) = sP_ A := by unfold sP_; rw [up_ne (by omega)]
  unfold WFp
  rw [en, up_ne (by omega)]
  refine ⟨w1, w2, fun j hj => ?_, fun m hm => ⟨?_, ?_⟩⟩
  · rw [up_ne (by omega), up_ne (by omega), up_ne (by omega), up_ne (by omega), up_ne (by omega), up_ne (by omega)]
    exact w3 j hj
  · rw [up_ne (by omega)]; exact (w4 m hm).1
  · by_cases z : m = i
    · subst z; rw [up_s]; exact ⟨x, rfl, x2⟩
    · rw [up_ne (by omega)]; exact (w4 m hm).2
/-- one number of the scene is another one -/
theorem WFs_34 {x : Nat} (W : WFs A) (hx : x < 256) : WFs (va_up A 34 (nI x)) := by
  have en : sN (va_up A 34 (nI x)) = sN A := by unfold sN; rw [up_ne (by omega)]
  have el : sL (va_up A 34 (nI x)) = sL A := by unfold sL; rw [up_ne (by omega)]
  obtain ⟨w1, w2, w3, w4, w5, w6, w7, w8, w9, w10, w11⟩ := W
  unfold WFs
  rw [en, el, up_ne (by omega), up_ne (by omega), up_s, up_ne (by omega), up_ne (by omega), up_ne (by omega), up_ne (by omega), up_ne (by omega)]
  refine ⟨w1, w2, w3, w4, w5, fun c hc => ?_, fun c hc => ?_, fun c hc => ?_, fun c hc => ?_, ⟨x, rfl, hx⟩, w11⟩
  · rw [up_ne (by omega)]; exact w6 c hc
  · rw [up_ne (by omega)]; exact w7 c hc
  · rw [up_ne (by omega)]; exact w8 c hc
  · rw [up_ne (by omega)]; exact w9 c hc
theorem WFs_35 {j x : Nat} (W : WFs A) (hj : j ≤ 3) (hx : x ≤ (if j = 0 then 30 else if j = 1 then 20 else if j = 2 then 60 else 200)) (h1 : j = 3 → 1 ≤ x) : WFs (va_up A (35 + j) (nI x)) := by
  have en : sN (va_up A (35 + j) (nI x)) = sN A := by unfold sN; rw [up_ne (by omega)]
  have el : sL (va_up A (35 + j) (nI x)) = sL A := by unfold sL; rw [up_ne (by omega)]
  obtain ⟨w1, w2, w3, w4, w5, w6, w7, w8, w9, w10, w11, w12, w13, w14, w15⟩ := W
  unfold WFs
  rw [en, el, up_ne (show 1 ≠ 35 + j by omega), up_ne (show 0 ≠ 35 + j by omega), up_ne (show 34 ≠ 35 + j by omega), up_ne (show 39 ≠ 35 + j by omega)]
  refine ⟨w1, w2, w3, w4, w5, fun c hc => ?_, fun c hc => ?_, fun c hc => ?_, fun c hc => ?_, w10, ?_, ?_, ?_, ?_, w15⟩
  · rw [up_ne (by omega)]; exact w6 c hc
  · rw [up_ne (by omega)]; exact w7 c hc
  · rw [up_ne (by omega)]; exact w8 c hc
  · rw [up_ne (by omega)]; exact w9 c hc
  · by_cases z : j = 0
    · subst z; rw [up_s]; exact ⟨x, rfl, by simpa using hx⟩
    · rw [up_ne (by omega)]; exact w11
  · by_cases z : j = 1
    · subst z; rw [up_s]; exact ⟨x, rfl, by simpa using hx⟩
    · rw [up_ne (by omega)]; exact w12
  · by_cases z : j = 2
    · subst z; rw [up_s]; exact ⟨x, rfl, by simpa using hx⟩
    · rw [up_ne (by omega)]; exact w13
  · by_cases z : j = 3
    · subst z; rw [up_s]; exact ⟨x, rfl, h1 rfl, by simpa using hx⟩
    · rw [up_ne (by omega)]; exact w14
theorem WF_qA (W : WF P) (h : WFa B) (e : ∀ i, sh B i = sh (pA P) i) : WF (qA P B) := by
  obtain ⟨w1, w2, w3, w4, w5⟩ := W
  refine ⟨h, fun i hi => ?_, w3, w4, w5⟩
  show pB P i = nI 0 ∨ (pB P i = nI 1 ∧ WFa (sh B i))
  rw [e]
  exact w2 i hi
theorem WF_qR {j : Nat} (W : WF P) : WF (qR P j) := W
theorem WF_nn {k : Int32} (W : WF P) : WF (nn P k).2 := W
theorem WF_n0 {k : Int32} (W : WF P) : WF (n0 P k).2 := W
theorem WF_nl {k : Int32} (W : WF P) : WF (nl P k).2 := W
theorem WF_vv {x : Int32} (W : WF P) : WF (vv P x).2 := W
theorem WF_vl {x : Int64} (W : WF P) : WF (vl P x).2 := W
end
