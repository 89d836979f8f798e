/-! ALL THAT DRIVERS MAY DECIDE: the leaves in the order in which both sides count them -/
/-- decisions without draws from car k on (so many cars): what stands then, the car that may do either -/
def dN (A : rI) (wl : Int32) : Nat → Nat → rI → rI × Option Nat
  | 0, _, w => (w, none)
  | m + 1, k, w => if sAs A w k = true then
      if sCh A w wl k = 0 then dN A wl m (k + 1) (va_up (va_up w (16 + k) (nI 1)) 41 (nI (k + 1)))
      else if sCh A w wl k = nI 100 then dN A wl m (k + 1) (va_up (va_up w (16 + k) (nI 2)) 41 (nI (k + 1)))
      else (w, some k)
    else dN A wl m (k + 1) (va_up w 41 (nI (k + 1)))
abbrev rL : Type := Nat → Int64
abbrev aC : Type := rL × rL × rL
/-- a leaf counts -/
def lF (A w : rI) (W : Int64) (a : aC) : aC :=
  (va_up (va_up (va_up (va_up a.1 (w 37 - nI 1).toNatClampNeg (a.1 (w 37 - nI 1).toNatClampNeg + W)) 3 (a.1 3 + W * (w 36).toInt64)) 4 (a.1 4 + W * (w 38).toInt64)) 5 (a.1 5 + W),
   (if w 39 = -1 then a.2.1 else va_up a.2.1 (w 39).toNatClampNeg (a.2.1 (w 39).toNatClampNeg + W)),
   fun k => if k < sN A ∧ w (16 + k) = nI 2 then a.2.2 k + W else a.2.2 k)
def sBr (A : rI) (wl : Int32) : Nat → rI → Nat → aC → aC
  | 0, _, _, a => a
  | f + 1, w, W, a => if w 37 = 0 then
      (match dN A wl (sN A - (w 41).toNatClampNeg) (w 41).toNatClampNeg w with
        | (u, none) => sBr A wl f (sTk A u) W a
        | (u, some c) => sBr A wl f (va_up u (16 + c) (nI 1)) (W / 100 * (100 - (sCh A u wl c).toNatClampNeg)) (sBr A wl f (va_up u (16 + c) (nI 2)) (W / 100 * (sCh A u wl c).toNatClampNeg) a))
    else lF A w (lN W) a
/-- how many have not decided -/
def ud (n : Nat) (w : rI) : Nat := cu (fun k => !decide (w (16 + k) = 0)) n
theorem cu_eq {p q : Nat → Bool} : ∀ {n : Nat}, (∀ k, k < n → p k = q k) → cu p n = cu q n
  | 0, _ => rfl
  | n + 1, h => by
    show cu p n + (if p n = false then 1 else 0) = cu q n + (if q n = false then 1 else 0)
    rw [cu_eq fun k hk => h k (by omega), h n (by omega)]
theorem ud_eq {n : Nat} {w u : rI} (h : ∀ k, k < n → u (16 + k) = w (16 + k)) : ud n u = ud n w := cu_eq fun k hk => by rw [h k hk]
theorem ud_le {n : Nat} {w : rI} : ud n w ≤ n := cu_le n
theorem ud_one {n c : Nat} {w u : rI} (hc : c < n) (h0 : w (16 + c) = 0) (h1 : ¬ u (16 + c) = 0) (h : ∀ k, k < n → k ≠ c → u (16 + k) = w (16 + k)) : ud n u + 1 = ud n w := by
  have e := cu_up (mv := fun k => !decide (w (16 + k) = 0)) (c := c) (by simp [h0]) n
  rw [if_pos hc] at e
  have e2 : cu (va_up (fun k => !decide (w (16 + k) = 0)) c true) n = ud n u := cu_eq fun k hk => by
    by_cases z : k = c
    · rw [z, up_s]; simp [h1]
    · rw [up_ne z, h k hk z]
  rw [e2] at e
  exact e
theorem ud_pos {n c : Nat} {w : rI} (hc : c < n) (h0 : w (16 + c) = 0) : 1 ≤ ud n w := cu_pos (mv := fun k => !decide (w (16 + k) = 0)) (c := c) (by simp [h0]) n hc
/-- what holds of a walk that is gone through -/
def WB (A w : rI) : Prop := WI A w ∧ (∃ t, w 36 = nI t ∧ t ≤ 99 ∧ (w 37 = 0 → t < 99)) ∧ (w 37 = 0 ∨ w 37 = nI 1 ∨ w 37 = nI 2 ∨ w 37 = nI 3) ∧ (w 39 = -1 ∨ ∃ j, w 39 = nI j ∧ j < sN A) ∧ ∃ k, w 41 = nI k ∧ k ≤ sN A
theorem sGo_16 {w : rI} {b : Int32} {c k : Nat} (hc : c < 8) (hk : k < 8) : sGo w b c (16 + k) = w (16 + k) := sGo_at (by omega) (by omega) (by omega)
theorem sLn_16 {A : rI} {lane : Int32} {k : Nat} (W2 : sN A ≤ 8) (hk : k < 8) : ∀ (f : Nat) (s : sM), (sLn A lane f s).1 (16 + k) = s.1 (16 + k)
  | 0, s => rfl
  | f + 1, s => by
    cases q : sNe A s.1 s.2.1 lane with
    | none => rw [sLn_none q]
    | some c =>
      have c1 := (sNe_some q).1
      rw [sLn_some q, sLn_16 W2 hk f]
      exact sGo_16 (by omega) hk
theorem sTk_16 {A w : rI} {k : Nat} (W2 : sN A ≤ 8) (hk : k < 8) : sTk A w (16 + k) = w (16 + k) := by
  unfold sTk
  rw [sE3_lo (by omega) (by omega), sE2_lo (by omega) (by omega), sE1_lo (by omega)]
  have e : (sCg A (sIn A w)).1 (16 + k) = sIn A w (16 + k) := fo_in (P := fun _ (p : sP) => p.1 (16 + k) = sIn A w (16 + k)) (f := sLa A) (s := (sZh (sIn A w), fun _ => false, none)) (sZh_lo (by omega)) fun j p hj J => (sLn_16 W2 hk 8 (p.1, p.2.1, -1, none)).trans J
  rw [e, sIn_lo (by omega)]
theorem WB_Tk {A w : rI} (W : WFs A) (B : WB A w) (h37 : w 37 = 0) : WB A (sTk A w) := by
  have W2 := W.2.1
  obtain ⟨I, ⟨t, t1, t2, t3⟩, h3, h4, h5⟩ := B
  have t4 := t3 h37
  refine ⟨WI_Tk W I h37, ⟨t + 1, by rw [sTk_36 W2, t1, nI_add], by omega, fun z => ?_⟩, ?_, ?_, 0, sTk_41, Nat.zero_le _⟩
  · rcases Nat.lt_or_ge (t + 1) 99 with q | q
    · exact q
    · exfalso
      have e36 : sE2 (sE1 A (sCg A (sIn A w)).1 (sCg A (sIn A w)).2.2) 36 = nI 99 := by
        have := sTk_36 (A := A) (w := w) W2
        unfold sTk at this
        rw [sE3_lo (by omega) (by omega)] at this
        rw [this, t1, nI_add, show t + 1 = 99 by omega]
      unfold sTk sE3 at z
      rw [up_ne (by omega)] at z
      by_cases y : sE2 (sE1 A (sCg A (sIn A w)).1 (sCg A (sIn A w)).2.2) 37 = 0
      · rw [if_pos ⟨y, e36⟩, up_s] at z; exact absurd z (by decide)
      · rw [if_neg (fun x => y x.1)] at z; exact y z
  · have key : ∀ v, (v 37 = 0 ∨ v 37 = nI 1 ∨ v 37 = nI 2 ∨ v 37 = nI 3) → (sE3 (sE2 v) 37 = 0 ∨ sE3 (sE2 v) 37 = nI 1 ∨ sE3 (sE2 v) 37 = nI 2 ∨ sE3 (sE2 v) 37 = nI 3) := by
      intro v hv
      unfold sE3
      rw [up_ne (by omega)]
      split
      · rw [up_s]; exact Or.inr (Or.inr (Or.inr rfl))
      · rw [sE2_lo (by omega) (by omega)]; exact hv
    unfold sTk
    refine key _ ?_
    have e37 : (sCg A (sIn A w)).1 37 = 0 := by rw [sCg_hi W2 (by omega), sIn_lo (by omega)]; exact h37
    unfold sE1
    cases (sCg A (sIn A w)).2.2 with
    | some j =>
      refine Or.inr (Or.inr (Or.inl ?_))
      show va_up (va_up (va_up _ 37 (nI 2)) 39 (nI j)) 38 _ 37 = nI 2
      rw [up_ne (by omega), up_ne (by omega), up_s]
    | none =>
      dsimp only
      split
      · split
        · rw [up_ne (by omega)]; exact Or.inl e37
        · rw [up_s]
          split
          · exact Or.inr (Or.inl rfl)
          · exact Or.inl nI_0
      · exact Or.inl e37
  · have e39 : (sCg A (sIn A w)).1 39 = w 39 := by rw [sCg_hi W2 (by omega), sIn_lo (by omega)]
    have kc := sCg_kc (A := A) (w := sIn A w) W2
    unfold sTk
    rw [sE3_lo (by omega) (by omega), sE2_lo (by omega) (by omega)]
    unfold sE1
    cases q : (sCg A (sIn A w)).2.2 with
    | some j =>
      refine Or.inr ⟨j, ?_, kc j q⟩
      show va_up (va_up (va_up _ 37 (nI 2)) 39 (nI j)) 38 _ 39 = nI j
      rw [up_ne (by omega), up_s]
    | none =>
      dsimp only
      split
      · split
        · rw [up_ne (by omega), e39]; exact h4
        · rw [up_ne (by omega), up_ne (by omega), up_ne (by omega), up_ne (by omega), e39]; exact h4
      · rw [e39]; exact h4
/-- one car has decided -/
theorem WI_16 {A w : rI} {c : Nat} {v : Int32} (W2 : sN A ≤ 8) (hc : c < sN A) (h0 : w (16 + c) = 0) (hv : v = nI 1 ∨ v = nI 2) (I : WI A w) : WI A (va_up w (16 + c) v) := by
  obtain ⟨i1, i2, i3⟩ := I
  refine ⟨by rw [up_ne (by omega), up_ne (by omega)]; exact i1, by rw [up_ne (by omega), up_ne (by omega)]; exact i2, fun k hk => ?_⟩
  by_cases z : k = c
  · subst z
    obtain ⟨-, ⟨p, p1, p2, p3⟩, c3, c4⟩ := i3 k hk
    have hp := p3 (by rw [h0]; decide)
    unfold CI
    rw [up_s, up_ne (show k ≠ 16 + k by omega), up_ne (show 8 + k ≠ 16 + k by omega), up_ne (show 24 + k ≠ 16 + k by omega)]
    exact ⟨Or.inr hv, ⟨p, p1, p2, fun _ => hp⟩, c3, c4⟩
  · exact CI_eq (up_ne (by omega)) (up_ne (by omega)) (up_ne (by omega)) (up_ne (by omega)) (i3 k hk)
theorem WI_41 {A w : rI} {v : Int32} (W2 : sN A ≤ 8) (I : WI A w) : WI A (va_up w 41 v) := by
  obtain ⟨i1, i2, i3⟩ := I
  exact ⟨by rw [up_ne (by omega), up_ne (by omega)]; exact i1, by rw [up_ne (by omega), up_ne (by omega)]; exact i2, fun k hk => CI_eq (up_ne (by omega)) (up_ne (by omega)) (up_ne (by omega)) (up_ne (by omega)) (i3 k hk)⟩
theorem sAs_0 {A w : rI} {c : Nat} (h : sAs A w c = true) : w (16 + c) = 0 := (of_decide_eq_true h).1
/-- what decisions without draws leave -/
theorem dN_ok {A : rI} {wl : Int32} (W2 : sN A ≤ 8) : ∀ (m k : Nat) (w : rI), k + m = sN A → w 41 = nI k → WI A w → WI A (dN A wl m k w).1 ∧ ud (sN A) (dN A wl m k w).1 ≤ ud (sN A) w ∧ (∀ i, (i < 16 ∨ 24 ≤ i) → i ≠ 41 → (dN A wl m k w).1 i = w i) ∧ ((dN A wl m k w).2 = none → (dN A wl m k w).1 41 = nI (sN A)) ∧ ∀ c, (dN A wl m k w).2 = some c → c < sN A ∧ (dN A wl m k w).1 41 = nI c ∧ sAs A (dN A wl m k w).1 c = true ∧ ¬ sCh A (dN A wl m k w).1 wl c = 0 ∧ ¬ sCh A (dN A wl m k w).1 wl c = nI 100
  | 0, k, w, hk, e, I => ⟨I, Nat.le_refl _, fun _ _ _ => rfl, fun _ => by show w 41 = _; rw [e, show k = sN A by omega], fun c z => by cases z⟩
  | m + 1, k, w, hk, e, I => by
    have kn : k < sN A := by omega
    have go : ∀ u : rI, WI A u → ud (sN A) u ≤ ud (sN A) w → (∀ i, (i < 16 ∨ 24 ≤ i) → i ≠ 41 → u i = w i) → u 41 = nI (k + 1) → dN A wl (m + 1) k w = dN A wl m (k + 1) u → (WI A (dN A wl (m + 1) k w).1 ∧ ud (sN A) (dN A wl (m + 1) k w).1 ≤ ud (sN A) w ∧ (∀ i, (i < 16 ∨ 24 ≤ i) → i ≠ 41 → (dN A wl (m + 1) k w).1 i = w i) ∧ ((dN A wl (m + 1) k w).2 = none → (dN A wl (m + 1) k w).1 41 = nI (sN A)) ∧ ∀ c, (dN A wl (m + 1) k w).2 = some c → c < sN A ∧ (dN A wl (m + 1) k w).1 41 = nI c ∧ sAs A (dN A wl (m + 1) k w).1 c = true ∧ ¬ sCh A (dN A wl (m + 1) k w).1 wl c = 0 ∧ ¬ sCh A (dN A wl (m + 1) k w).1 wl c = nI 100) := by
      intro u u1 u2 u3 u4 u5
      obtain ⟨d1, d2, d3, d4⟩ := dN_ok W2 m (k + 1) u (by omega) u4 u1
      rw [u5]
      exact ⟨d1, Nat.le_trans d2 u2, fun i h1 h2 => (d3 i h1 h2).trans (u3 i h1 h2), d4⟩
    by_cases qa : sAs A w k = true
    · have h0 := sAs_0 qa
      by_cases q0 : sCh A w wl k = 0
      · refine go (va_up (va_up w (16 + k) (nI 1)) 41 (nI (k + 1))) (WI_41 W2 (WI_16 W2 kn h0 (Or.inl rfl) I)) ?_ (fun i h1 h2 => by rw [up_ne h2, up_ne (by omega)]) up_s (by
          show (if sAs A w k = true then _ else _) = _
          rw [if_pos qa, if_pos q0])
        have := ud_one (u := va_up (va_up w (16 + k) (nI 1)) 41 (nI (k + 1))) kn h0 (by rw [up_ne (by omega), up_s]; decide) (fun j hj hne => by rw [up_ne (by omega), up_ne (by omega)])
        omega
      · by_cases q1 : sCh A w wl k = nI 100
        · refine go (va_up (va_up w (16 + k) (nI 2)) 41 (nI (k + 1))) (WI_41 W2 (WI_16 W2 kn h0 (Or.inr rfl) I)) ?_ (fun i h1 h2 => by rw [up_ne h2, up_ne (by omega)]) up_s (by
            show (if sAs A w k = true then _ else _) = _
            rw [if_pos qa, if_neg q0, if_pos q1])
          have := ud_one (u := va_up (va_up w (16 + k) (nI 2)) 41 (nI (k + 1))) kn h0 (by rw [up_ne (by omega), up_s]; decide) (fun j hj hne => by rw [up_ne (by omega), up_ne (by omega)])
          omega
        · have e1 : dN A wl (m + 1) k w = (w, some k) := by
            show (if sAs A w k = true then _ else _) = _
            rw [if_pos qa, if_neg q0, if_neg q1]
          rw [e1]
          exact ⟨I, Nat.le_refl _, fun _ _ _ => rfl, fun z => (by cases z), fun c z => by cases z; exact ⟨kn, e, qa, q0, q1⟩⟩
    · refine go (va_up w 41 (nI (k + 1))) (WI_41 W2 I) (Nat.le_of_eq (ud_eq fun j hj => up_ne (by omega))) (fun i _ h2 => up_ne h2) up_s (by
        show (if sAs A w k = true then _ else _) = _
        rw [if_neg qa])
