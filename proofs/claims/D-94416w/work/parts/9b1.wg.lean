/-! RANGES kept by calls -/
section
variable {P : sS} {A : rI} {a b c e x y : Int32} {w i n : Nat}
theorem WFp_538 {v : Nat} (W : WFp A) (hi : i < sP_ A) (hv : v ≤ 600) : WFp (va_up A (538 + i) (nI v)) := by
  have h12 := W.2.1
  obtain ⟨w1, w2, w3, w4⟩ := W
  have en : sP_ (va_up A (538 + i) (nI v)) = sP_ A := by unfold sP_; rw [up_ne (by omega)]
  unfold WFp
  rw [en, up_ne (by omega)]
  refine ⟨w1, w2, fun j hj => ?_, fun m hm => ?_⟩
  · rw [up_ne (by omega), up_ne (by omega), up_ne (by omega), up_ne (by omega), up_ne (by omega)]
    obtain ⟨v1, x, y, u, v', w, e1, e2, e3, e4, e5, g1, g2, g3, g4, g5⟩ := w3 j hj
    by_cases z : j = i
    · subst z
      rw [up_s]
      exact ⟨v1, x, y, u, v', v, e1, e2, e3, e4, rfl, g1, g2, g3, g4, hv⟩
    · rw [up_ne (by omega)]
      exact ⟨v1, x, y, u, v', w, e1, e2, e3, e4, e5, g1, g2, g3, g4, g5⟩
  · rw [up_ne (by omega), up_ne (by omega)]
    exact w4 m hm
theorem WFp_pl {a b c e : Nat} (W : WFp A) (hn : sP_ A < 12) (hw : w ≤ 1) (ha : a ≤ 300) (hb : b ≤ 300) (hc : c ≤ a) (he : e ≤ b) : WFp (plA A (sP_ A) (nI w) (nI a) (nI b) (nI c) (nI e)) := by
  obtain ⟨w1, w2, w3, w4⟩ := W
  obtain ⟨eP, e477, ev1, ev2, ev3, ev4, ev5, ev6⟩ := plA_n (A := A) (x := nI w) (a := nI a) (b := nI b) (c := nI c) (e := nI e) hn
  unfold WFp
  rw [eP, e477]
  refine ⟨rfl, by omega, fun j hj => ?_, fun m hm => ?_⟩
  · by_cases z : j = sP_ A
    · rw [z, ev1, ev2, ev3, ev4, ev5, ev6]
      refine ⟨?_, a, b, c, e, 0, rfl, rfl, rfl, rfl, rfl, ha, hb, hc, he, by omega⟩
      rcases (show w = 0 ∨ w = 1 by omega) with rfl | rfl
      · exact Or.inl rfl
      · exact Or.inr rfl
    · rw [plA_o hn (k := 478 + j) (by omega), plA_o hn (k := 490 + j) (by omega), plA_o hn (k := 502 + j) (by omega), plA_o hn (k := 514 + j) (by omega), plA_o hn (k := 526 + j) (by omega), plA_o hn (k := 538 + j) (by omega)]
      exact w3 j (by omega)
  · rw [plA_o hn (k := 550 + m) (by omega), plA_o hn (k := 554 + m) (by omega)]
    exact w4 m hm
theorem WF_pay (W : WF P) : WF (q_pay P a b c x).2 := by
  unfold q_pay
  cases h1 : wi a (nI 0) (nI 1) with
  | false => exact W
  | true =>
    cases h2 : wi b (nI 0) (nI 1) with
    | false => exact W
    | true =>
      cases h3 : wi c (nI 0) (nI 4) with
      | false => exact W
      | true =>
        cases h4 : wi x (-99) (nI 99) with
        | false => exact W
        | true =>
          obtain ⟨i, hi, rfl⟩ := wi_of (by decide) h1
          obtain ⟨j, hj, rfl⟩ := wi_of (by decide) h2
          obtain ⟨k, hk, rfl⟩ := wi_of (by decide) h3
          rw [nI_clamp (by omega), nI_clamp (by omega), nI_clamp (by omega)]
          exact WF_qA W (WFa_A (fun k hk => up_ne (by omega)) W.1) (fun i => sh_up (by omega))
theorem WF_measure (W : WF P) : WF (q_measure P a b c).2 := by
  unfold q_measure
  cases h1 : wi a (nI 0) (nI 3) with
  | false => exact W
  | true =>
    cases h2 : wi b (nI 1) (nI 99) with
    | false => exact W
    | true =>
      cases h3 : wi c (nI 0) (nI 100) with
      | false => exact W
      | true =>
        obtain ⟨i, hi, rfl⟩ := wi_of (by decide) h1
        rw [nI_clamp (by omega)]
        exact WF_qA W (WFa_left (WFa_cost W.1 (by omega) h2) (by omega) h3) (fun j => (sh_up (by omega)).trans (sh_up (by omega)))
theorem WF_behind (W : WF P) : WF (q_behind P x y).2 := by
  unfold q_behind
  cases h1 : wi x (nI 0) (pA P 477 - nI 1) with
  | false => exact W
  | true =>
    cases h2 : wi y (nI 0) (nI 600) with
    | false => exact W
    | true =>
      have h12 := W.1.2.2.2.1
      obtain ⟨i, hi, rfl⟩ := wi_car (A := pA P) W.1.2.2.1 h12 h1
      obtain ⟨v, hv, rfl⟩ := wi_of (by decide) h2
      rw [nI_clamp (by omega)]
      exact WF_qA W ⟨WFs_A (fun k hk => up_ne (by omega)) W.1.1, WFl_A (fun k _ h2 => up_ne (by omega)) W.1.2.1, WFp_538 W.1.2.2 hi hv⟩ (fun j => sh_up (by omega))
theorem WF_place (W : WF P) (hw : w ≤ 1) : WF (q_place P w a b c e).2 := by
  unfold q_place
  have h12 := W.1.2.2.2.1
  have W1 := W.1.2.2.1
  by_cases h0 : pA P 477 = nI 12
  · rw [decide_eq_true h0]; exact W
  · rw [decide_eq_false h0]
    have hn : sP_ (pA P) < 12 := by
      rcases Nat.lt_or_ge (sP_ (pA P)) 12 with z | z
      · exact z
      · exact absurd (W1.trans (congrArg nI (by omega))) h0
    cases h1 : wi a (nI 0) (nI 300) with
    | false => exact W
    | true =>
      cases h2 : wi b (nI 0) (nI 300) with
      | false => exact W
      | true =>
        cases h3 : wi c (nI 0) a with
        | false => exact W
        | true =>
          cases h4 : wi e (nI 0) b with
          | false => exact W
          | true =>
            obtain ⟨i, hi, rfl⟩ := wi_of (by decide) h1
            obtain ⟨j, hj, rfl⟩ := wi_of (by decide) h2
            obtain ⟨k, hk, rfl⟩ := wi_of (by omega) h3
            obtain ⟨l, hl, rfl⟩ := wi_of (by omega) h4
            exact WF_qA W ⟨WFs_A (fun k hk => plA_o hn (by omega)) W.1.1, WFl_A (fun k _ h2 => plA_o hn (by omega)) W.1.2.1, WFp_pl W.1.2.2 hn hw hi hj hk hl⟩ (fun i => by funext j; exact plA_o hn (by omega))
theorem WF_set (W : WF P) : WF (q_set P x y).2 := by
  unfold q_set
  cases h1 : wi x (nI 0) (nI 3) with
  | false => exact W
  | true =>
    obtain ⟨j, hj, rfl⟩ := wi_of (by decide) h1
    cases h2 : wi y (if nI j = nI 3 then nI 1 else nI 0) (if nI j = 0 then nI 30 else if nI j = nI 1 then nI 20 else if nI j = nI 2 then nI 60 else nI 200) with
    | false => exact W
    | true =>
      rw [nI_clamp (by omega)]
      have key : ∃ v, y = nI v ∧ v ≤ (if j = 0 then 30 else if j = 1 then 20 else if j = 2 then 60 else 200) ∧ (j = 3 → 1 ≤ v) := by
        rcases (show j = 0 ∨ j = 1 ∨ j = 2 ∨ j = 3 by omega) with rfl | rfl | rfl | rfl
        · obtain ⟨v, hv, rfl⟩ := wi_of (n := 30) (by decide) h2
          exact ⟨v, rfl, hv, fun z => by omega⟩
        · obtain ⟨v, hv, rfl⟩ := wi_of (n := 20) (by decide) h2
          exact ⟨v, rfl, hv, fun z => by omega⟩
        · obtain ⟨v, hv, rfl⟩ := wi_of (n := 60) (by decide) h2
          exact ⟨v, rfl, hv, fun z => by omega⟩
        · obtain ⟨v, hv0, hv, rfl⟩ := wi_of1 (n := 200) (by decide) h2
          exact ⟨v, rfl, hv, fun _ => hv0⟩
      obtain ⟨v, rfl, hv, h3⟩ := key
      exact WF_qA W ⟨WFs_35 W.1.1 hj hv h3, WFl_A (fun k _ h2 => up_ne (by omega)) W.1.2.1, WFp_A (fun k _ h2 => up_ne (by omega)) W.1.2.2⟩ (fun i => sh_up (by omega))
theorem WF_trait {t : Nat} (W : WF P) (ht : t ≤ 1) : WF (q_trait P x (nI t)).2 := by
  unfold q_trait
  cases h1 : wi x (nI 0) (nI 7) with
  | false => exact W
  | true =>
    obtain ⟨j, hj, rfl⟩ := wi_of (by decide) h1
    obtain ⟨v, e34, hv⟩ := W.1.1.2.2.2.2.2.2.2.2.2.1
    have lt := tr_lt v hv j (by omega) t (by omega)
    rw [e34]
    have key : ∃ u, (if nI t = 0 then nI v &&& ((nI 1 <<< (nI j &&& 31)) ^^^ -1) else nI v ||| (nI 1 <<< (nI j &&& 31))) = nI u ∧ u < 256 := by
      obtain ⟨k, hk, e⟩ := nI_of lt.2
      refine ⟨k, e, ?_⟩
      have h := lt.1
      rw [e, nI_clamp hk] at h
      exact h
    obtain ⟨u, eu, hu⟩ := key
    rw [eu]
    exact WF_qA W ⟨WFs_34 W.1.1 hu, WFl_A (fun k _ h2 => up_ne (by omega)) W.1.2.1, WFp_A (fun k _ h2 => up_ne (by omega)) W.1.2.2⟩ (fun i => sh_up (by omega))
end
