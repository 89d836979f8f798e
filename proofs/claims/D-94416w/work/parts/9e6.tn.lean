/-! TEXTS: what lines keep -/
section
variable {d : Nat} {h h1 h2 : xH} {P : sS} {X o n p b e k v c j i op lo hi m w a e0 : Nat} {t : Nat → Nat} {f g A B : rI} {x : sX} {L L' : Nat × Nat × Nat × Nat}
/-- what stands behind a place: the next of it -/
def RQ (t : Nat → Nat) (n e0 : Nat) (x : sX) : Prop := ∀ L, x = .inr L → ∃ p, e0 ≤ p ∧ p ≤ n ∧ L = lx t n p
theorem RQ_l (ht : ∀ j, j < n → t j < 256) (h : ∃ p, e0 ≤ p ∧ p ≤ n ∧ L = lx t n p) : e0 ≤ L.1 ∧ LOK t n L ∧ ∃ p, e0 ≤ p ∧ p ≤ n ∧ lx t n L.2.1 = lx t n p := by
  obtain ⟨p, h1, h2, rfl⟩ := h
  obtain ⟨ok, b⟩ := lx_ok h2 ht
  have := ok.1
  exact ⟨Nat.le_trans h1 b, ok, _, by omega, ok.2.1, rfl⟩
theorem RQ_nbx (ht : ∀ j, j < n → t j < 256) (R : RQ t n e0 x) : RQ t n e0 (nbx t n lo hi x) := by
  intro L' z
  obtain ⟨L, rfl⟩ := nbx_r z
  obtain ⟨-, -, p, a1, a2, a3⟩ := RQ_l ht (R L rfl)
  have z : (if L.2.2.1 = 30 then (if lo ≤ L.2.2.2 ∧ L.2.2.2 ≤ hi then (.inr (lx t n L.2.1) : sX) else .inl (3, L.1)) else flx 2 (.inr L)) = .inr L' := z
  split at z
  · split at z
    · cases z
      exact ⟨p, a1, a2, a3⟩
    · cases z
  · cases z
theorem RQ_ndx (ht : ∀ j, j < n → t j < 256) (R : RQ t n e0 x) : RQ t n e0 (ndx t n j x) := by
  intro L' z
  obtain ⟨L, rfl⟩ := ndx_r z
  obtain ⟨-, -, p, a1, a2, a3⟩ := RQ_l ht (R L rfl)
  have z : (if L.2.2.1 = j then (.inr (lx t n L.2.1) : sX) else flx 2 (.inr L)) = .inr L' := z
  split at z
  · cases z
    exact ⟨p, a1, a2, a3⟩
  · cases z
theorem RQ_nx (ok : LOK t n L) : RQ t n L.2.1 (.inr (lx t n L.2.1)) := fun L' z => by
  cases z
  exact ⟨_, Nat.le_refl _, ok.2.1, rfl⟩
/-- what a number is when it was taken -/
theorem nbv_r (hl : lo ≤ hi) (z : nbx t n lo hi x = .inr L') : lo ≤ nbv lo hi x ∧ nbv lo hi x ≤ hi := by
  obtain ⟨L, rfl⟩ := nbx_r z
  show lo ≤ (if L.2.2.1 = 30 ∧ lo ≤ L.2.2.2 ∧ L.2.2.2 ≤ hi then L.2.2.2 else lo) ∧ (if L.2.2.1 = 30 ∧ lo ≤ L.2.2.2 ∧ L.2.2.2 ≤ hi then L.2.2.2 else lo) ≤ hi
  split
  · rename_i q; exact q.2
  · exact ⟨Nat.le_refl _, hl⟩
/-- all ranges of a scene's numbers, but the count of lines -/
def SWx (A : rI) : Prop := SWs A ∧ (∀ c, c < sN A → la A c < sL A) ∧ (∀ c, c < sN A → ∃ x, A (10 + c) = nI x ∧ 1 ≤ x ∧ x ≤ 200) ∧ (∀ c, c < sN A → ∃ x, A (18 + c) = nI x ∧ 1 ≤ x ∧ x ≤ 9) ∧ (∀ c, c < sN A → ∃ x, A (26 + c) = nI x ∧ x ≤ 3) ∧ (∃ x, A 34 = nI x ∧ x < 256) ∧ (∃ x, A 35 = nI x ∧ x ≤ 30) ∧ (∃ x, A 36 = nI x ∧ x ≤ 20) ∧ (∃ x, A 37 = nI x ∧ x ≤ 60) ∧ ∃ x, A 38 = nI x ∧ 1 ≤ x ∧ x ≤ 200
theorem la_up {j : Nat} {y : Int32} (h : ¬ 2 + c = j) : la (va_up A j y) c = la A c := by
  unfold la
  rw [up_ne h]
theorem sN_u {j : Nat} {y : Int32} (h : ¬ 1 = j) : sN (va_up A j y) = sN A := by
  unfold sN
  rw [up_ne h]
theorem sL_u {j : Nat} {y : Int32} (h : ¬ 0 = j) : sL (va_up A j y) = sL A := by
  unfold sL
  rw [up_ne h]
/-- a number of the scene's own is told -/
theorem SWx_up {y : Int32} (W : SWx A) (hj : 34 ≤ j ∧ j ≤ 39) (h34 : j = 34 → ∃ x, y = nI x ∧ x < 256) (h35 : j = 35 → ∃ x, y = nI x ∧ x ≤ 30) (h36 : j = 36 → ∃ x, y = nI x ∧ x ≤ 20) (h37 : j = 37 → ∃ x, y = nI x ∧ x ≤ 60) (h38 : j = 38 → ∃ x, y = nI x ∧ 1 ≤ x ∧ x ≤ 200) : SWx (va_up A j y) := by
  obtain ⟨⟨w1, w2, w3, w4, w5, w6⟩, v2, v3, v4, v5, v6, v7, v8, v9, v10⟩ := W
  have en := sN_u (A := A) (j := j) (y := y) (by omega)
  have el := sL_u (A := A) (j := j) (y := y) (by omega)
  have ea : ∀ c, c < sN A → la (va_up A j y) c = la A c := fun c hc => la_up (by omega)
  unfold SWx SWs
  rw [en, el]
  refine ⟨⟨by rw [up_ne (by omega)]; exact w1, w2, by rw [up_ne (by omega)]; exact w3, w4, w5, fun c hc => ?_⟩, fun c hc => ?_, fun c hc => ?_, fun c hc => ?_, fun c hc => ?_, ?_, ?_, ?_, ?_, ?_⟩
  · rw [ea c hc, up_ne (by omega)]; exact w6 c hc
  · rw [ea c hc]; exact v2 c hc
  · rw [up_ne (by omega)]; exact v3 c hc
  · rw [up_ne (by omega)]; exact v4 c hc
  · rw [up_ne (by omega)]; exact v5 c hc
  · by_cases q : j = 34
    · subst q; rw [up_s]; exact h34 rfl
    · rw [up_ne (by omega)]; exact v6
  · by_cases q : j = 35
    · subst q; rw [up_s]; exact h35 rfl
    · rw [up_ne (by omega)]; exact v7
  · by_cases q : j = 36
    · subst q; rw [up_s]; exact h36 rfl
    · rw [up_ne (by omega)]; exact v8
  · by_cases q : j = 37
    · subst q; rw [up_s]; exact h37 rfl
    · rw [up_ne (by omega)]; exact v9
  · by_cases q : j = 38
    · subst q; rw [up_s]; exact h38 rfl
    · rw [up_ne (by omega)]; exact v10
theorem or_256 {x : Nat} (hx : x < 256) (hj : j < 8) : ∃ y, (nI x ||| (nI 1 <<< (nI j &&& 31))) = nI y ∧ y < 256 := by
  have e1 := nI_shl1 j hj
  rw [e1]
  refine ⟨x ||| 2 ^ j, ?_, ?_⟩
  · apply Int32.toBitVec_inj.mp
    rw [Int32.toBitVec_or]
    exact (BitVec.ofNat_or (w := 32) (x := x) (y := 2 ^ j)).symm
  · have h2 : 2 ^ j < 2 ^ 8 := Nat.pow_lt_pow_right (by omega) hj
    exact Nat.or_lt_two_pow (n := 8) hx h2
/-- the numbers of a car added -/
theorem SWx_car (W : SWx A) (h8 : sN A < 8) (hp : p < sL A) (h1 : 1 ≤ v ∧ v ≤ 200) (h2 : 1 ≤ k ∧ k ≤ 9) (h3 : w ≤ 3) : SWx (carA A (sN A) p v k w) := by
  obtain ⟨⟨w1, w2, w3, w4, w5, w6⟩, v2, v3, v4, v5, v6, v7, v8, v9, v10⟩ := W
  obtain ⟨f1, f2, f3, f4, f5, f6⟩ := carA_f (A := A) (i := sN A) (p := p) (v := v) (k := k) (w := w) h8
  have e0 : carA A (sN A) p v k w 0 = A 0 := carA_o (by omega)
  have el : sL (carA A (sN A) p v k w) = sL A := by unfold sL; rw [e0]
  have ea : ∀ c, c < sN A → la (carA A (sN A) p v k w) c = la A c := fun c hc => by unfold la; rw [carA_o (by omega)]
  have en : la (carA A (sN A) p v k w) (sN A) = p := by unfold la; rw [f3]; exact nI_clamp (by omega)
  unfold SWx SWs
  rw [f1, el, carA_o (j := 34) (by omega), carA_o (j := 35) (by omega), carA_o (j := 36) (by omega), carA_o (j := 37) (by omega), carA_o (j := 38) (by omega), e0]
  have sp : ∀ c, c < sN A + 1 → c < sN A ∨ c = sN A := fun c hc => by omega
  refine ⟨⟨f2, by omega, w3, w4, w5, fun c hc => ?_⟩, fun c hc => ?_, fun c hc => ?_, fun c hc => ?_, fun c hc => ?_, v6, v7, v8, v9, v10⟩
  · rcases sp c hc with y | y
    · rw [ea c y, carA_o (by omega)]; exact w6 c y
    · subst y; rw [en, f3]; exact ⟨rfl, by omega⟩
  · rcases sp c hc with y | y
    · rw [ea c y]; exact v2 c y
    · subst y; rw [en]; exact hp
  · rcases sp c hc with y | y
    · rw [carA_o (by omega)]; exact v3 c y
    · subst y; rw [f4]; exact ⟨v, rfl, h1⟩
  · rcases sp c hc with y | y
    · rw [carA_o (by omega)]; exact v4 c y
    · subst y; rw [f5]; exact ⟨k, rfl, h2⟩
  · rcases sp c hc with y | y
    · rw [carA_o (by omega)]; exact v5 c y
    · subst y; rw [f6]; exact ⟨w, rfl, h3⟩
theorem tc7_8 (z : tc7 t n A (.inr L) = .inr L') (h8 : sN A ≤ 8) : sN A < 8 := by
  by_cases q : sN A = 8
  · exfalso
    obtain ⟨L6, z6⟩ := nbx_r z
    obtain ⟨L5, z5⟩ := ndx_r z6
    obtain ⟨L4, z4⟩ := nbx_r z5
    obtain ⟨L3, z3⟩ := ndx_r z4
    obtain ⟨L2, z2⟩ := nbx_r z3
    obtain ⟨L1, z1⟩ := ndx_r z2
    obtain ⟨L0, z0⟩ := nbx_r z1
    unfold tc0 spx at z0
    rw [decide_eq_true q] at z0
    cases z0
  · omega
/-- lanes told: all cars' lanes stay below -/
theorem lnN_ge : ∀ {m : Nat}, ∀ c, c < m → la A c + 1 ≤ fo_ (fun c m => if m < la A c + 1 then la A c + 1 else m) m 1
  | 0, c, hc => absurd hc (Nat.not_lt_zero c)
  | m + 1, c, hc => by
    show la A c + 1 ≤ (if fo_ _ m 1 < la A m + 1 then la A m + 1 else fo_ _ m 1)
    by_cases q : c = m
    · subst q
      split <;> omega
    · have := lnN_ge (m := m) c (by omega)
      split <;> omega
theorem SWx_ln (W : SWx A) (h1 : lnN A ≤ v) (h4 : v ≤ 4) : SWx (va_up A 0 (nI v)) := by
  obtain ⟨⟨w1, w2, w3, w4, w5, w6⟩, v2, v3, v4, v5, v6, v7, v8, v9, v10⟩ := W
  have en := sN_u (A := A) (j := 0) (y := nI v) (by omega)
  have el : sL (va_up A 0 (nI v)) = v := by unfold sL; rw [up_s]; exact nI_clamp (by omega)
  have ea : ∀ c, c < sN A → la (va_up A 0 (nI v)) c = la A c := fun c hc => la_up (by omega)
  have g : ∀ c, c < sN A → la A c + 1 ≤ lnN A := fun c hc => lnN_ge c hc
  have l1 := (lnN_le (A := A) (fun c hc => (w6 c hc).2)).1
  unfold SWx SWs
  rw [en, el, up_s]
  refine ⟨⟨by rw [up_ne (by omega)]; exact w1, w2, rfl, by omega, h4, fun c hc => ?_⟩, fun c hc => ?_, fun c hc => ?_, fun c hc => ?_, fun c hc => ?_, ?_, ?_, ?_, ?_, ?_⟩
  · rw [ea c hc, up_ne (by omega)]; exact w6 c hc
  · rw [ea c hc]; have := g c hc; omega
  · rw [up_ne (by omega)]; exact v3 c hc
  · rw [up_ne (by omega)]; exact v4 c hc
  · rw [up_ne (by omega)]; exact v5 c hc
  · rw [up_ne (by omega)]; exact v6
  · rw [up_ne (by omega)]; exact v7
  · rw [up_ne (by omega)]; exact v8
  · rw [up_ne (by omega)]; exact v9
  · rw [up_ne (by omega)]; exact v10
/-- a line keeps all -/
theorem tl0_x (W : SWx A) (z : (tl0 t n A L).1 = .inr L') : SWx (tl0 t n A L).2 ∧ (tl0 t n A L).2 39 = A 39 := by
  have W0 := W
  obtain ⟨⟨w1, w2, w3, w4, w5, w6⟩, v2, v3, v4, v5, v6, v7, v8, v9, v10⟩ := W0
  obtain ⟨l1, l4⟩ := lnN_le (A := A) (fun c hc => (w6 c hc).2)
  unfold tl0 at z ⊢
  by_cases k0 : L.2.2.1 = 0
  · rw [if_pos k0] at z ⊢
    have z : nbx t n (lnN A) 4 (.inr (lx t n L.2.1)) = .inr L' := z
    obtain ⟨a1, a2⟩ := nbv_r l4 z
    show SWx (va_up A 0 (nI (nbv (lnN A) 4 (.inr (lx t n L.2.1))))) ∧ va_up A 0 (nI (nbv (lnN A) 4 (.inr (lx t n L.2.1)))) 39 = A 39
    exact ⟨SWx_ln W a1 a2, up_ne (by decide)⟩
  · rw [if_neg k0] at z ⊢
    by_cases k1 : L.2.2.1 = 1
    · rw [if_pos k1] at z ⊢
      have z : tc7 t n A (.inr L) = .inr L' := z
      have h8 := tc7_8 z w2
      obtain ⟨L6, z6⟩ := nbx_r z
      obtain ⟨L5, z5⟩ := ndx_r z6
      obtain ⟨L4, z4⟩ := nbx_r z5
      obtain ⟨L3, z3⟩ := ndx_r z4
      obtain ⟨L2, z2⟩ := nbx_r z3
      obtain ⟨L1, z1⟩ := ndx_r z2
      have a4 := nbv_r (by omega) z
      have a3 := nbv_r (by omega) z5
      have a2 := nbv_r (by omega) z3
      have a1 := nbv_r (by omega) z1
      have pl : nbv 0 (sL A - 1) (tc0 t n A (.inr L)) < sL A := by omega
      show SWx (tcA t n A (.inr L)) ∧ tcA t n A (.inr L) 39 = A 39
      exact ⟨SWx_car W h8 pl a2 a3 a4.2, carA_o (by omega)⟩
    · rw [if_neg k1] at z ⊢
      by_cases k13 : L.2.2.1 = 13
      · rw [if_pos k13] at z ⊢
        have z : nbx t n 0 30 (.inr (lx t n L.2.1)) = .inr L' := z
        have a := nbv_r (by omega) z
        show SWx (va_up A 35 (nI (nbv 0 30 (.inr (lx t n L.2.1))))) ∧ va_up A 35 (nI (nbv 0 30 (.inr (lx t n L.2.1)))) 39 = A 39
        exact ⟨SWx_up W (by omega) (fun q => by omega) (fun _ => ⟨_, rfl, a.2⟩) (fun q => by omega) (fun q => by omega) (fun q => by omega), up_ne (by decide)⟩
      · rw [if_neg k13] at z ⊢
        by_cases k14 : L.2.2.1 = 14
        · rw [if_pos k14] at z ⊢
          have z : nbx t n 0 20 (.inr (lx t n L.2.1)) = .inr L' := z
          have a := nbv_r (by omega) z
          show SWx (va_up A 36 (nI (nbv 0 20 (.inr (lx t n L.2.1))))) ∧ va_up A 36 (nI (nbv 0 20 (.inr (lx t n L.2.1)))) 39 = A 39
          exact ⟨SWx_up W (by omega) (fun q => by omega) (fun q => by omega) (fun _ => ⟨_, rfl, a.2⟩) (fun q => by omega) (fun q => by omega), up_ne (by decide)⟩
        · rw [if_neg k14] at z ⊢
          by_cases k15 : L.2.2.1 = 15
          · rw [if_pos k15] at z ⊢
            have z : nbx t n 0 60 (.inr (lx t n L.2.1)) = .inr L' := z
            have a := nbv_r (by omega) z
            show SWx (va_up A 37 (nI (nbv 0 60 (.inr (lx t n L.2.1))))) ∧ va_up A 37 (nI (nbv 0 60 (.inr (lx t n L.2.1)))) 39 = A 39
            exact ⟨SWx_up W (by omega) (fun q => by omega) (fun q => by omega) (fun q => by omega) (fun _ => ⟨_, rfl, a.2⟩) (fun q => by omega), up_ne (by decide)⟩
          · rw [if_neg k15] at z ⊢
            by_cases k16 : L.2.2.1 = 16
            · rw [if_pos k16] at z ⊢
              have z : nbx t n 1 200 (.inr (lx t n L.2.1)) = .inr L' := z
              have a := nbv_r (by omega) z
              show SWx (va_up A 38 (nI (nbv 1 200 (.inr (lx t n L.2.1))))) ∧ va_up A 38 (nI (nbv 1 200 (.inr (lx t n L.2.1)))) 39 = A 39
              exact ⟨SWx_up W (by omega) (fun q => by omega) (fun q => by omega) (fun q => by omega) (fun q => by omega) (fun _ => ⟨_, rfl, a⟩), up_ne (by decide)⟩
            · rw [if_neg k16] at z ⊢
              by_cases y : 5 ≤ L.2.2.1 ∧ L.2.2.1 ≤ 12
              · rw [if_pos y] at z ⊢
                obtain ⟨x, e1, e2⟩ := v6
                show SWx (va_up A 34 (A 34 ||| (nI 1 <<< (nI (L.2.2.1 - 5) &&& 31)))) ∧ va_up A 34 (A 34 ||| (nI 1 <<< (nI (L.2.2.1 - 5) &&& 31))) 39 = A 39
                refine ⟨SWx_up W (by omega) (fun _ => ?_) (fun q => by omega) (fun q => by omega) (fun q => by omega) (fun q => by omega), up_ne (by decide)⟩
                rw [e1]
                exact or_256 e2 (by omega)
              · rw [if_neg y] at z
                cases z
theorem tl0_ok (W : SWx A) (z : (tl0 t n A L).1 = .inr L') : SWs (tl0 t n A L).2 := (tl0_x W z).1.1
theorem tl0_q (ht : ∀ j, j < n → t j < 256) (ok : LOK t n L) : RQ t n L.2.1 (tl0 t n A L).1 := by
  have R0 := RQ_nx ok
  unfold tl0
  by_cases k0 : L.2.2.1 = 0
  · rw [if_pos k0]; exact RQ_nbx ht R0
  · rw [if_neg k0]
    by_cases k1 : L.2.2.1 = 1
    · rw [if_pos k1]
      have R1 : RQ t n L.2.1 (tc0 t n A (.inr L)) := by
        unfold tc0 spx
        cases decide (sN A = 8) with
        | true => exact fun _ z => by cases z
        | false => exact R0
      exact RQ_nbx ht (RQ_ndx ht (RQ_nbx ht (RQ_ndx ht (RQ_nbx ht (RQ_ndx ht (RQ_nbx ht R1))))))
    · rw [if_neg k1]
      by_cases k13 : L.2.2.1 = 13
      · rw [if_pos k13]; exact RQ_nbx ht R0
      · rw [if_neg k13]
        by_cases k14 : L.2.2.1 = 14
        · rw [if_pos k14]; exact RQ_nbx ht R0
        · rw [if_neg k14]
          by_cases k15 : L.2.2.1 = 15
          · rw [if_pos k15]; exact RQ_nbx ht R0
          · rw [if_neg k15]
            by_cases k16 : L.2.2.1 = 16
            · rw [if_pos k16]; exact RQ_nbx ht R0
            · rw [if_neg k16]
              by_cases y : 5 ≤ L.2.2.1 ∧ L.2.2.1 ≤ 12
              · rw [if_pos y]; exact R0
              · rw [if_neg y]; exact fun _ z => by cases z
/-- a whole line: ranges, and it goes on -/
theorem tli_x (ht : ∀ j, j < n → t j < 256) (W : SWx A) (ok : LOK t n L) (hc : A 39 = nI c) (hl : c ≤ L.2.1) (z : (tli t n A L).1 = .inr L') : SWx (tli t n A L).2 ∧ (tli t n A L).2 39 = nI (c + 1) ∧ c + 1 ≤ L'.2.1 ∧ LOK t n L' ∧ L.2.1 < L'.2.1 := by
  obtain ⟨L1, z1⟩ := ndx_r z
  obtain ⟨W1, e39⟩ := tl0_x W z1
  obtain ⟨q1, ok1, -⟩ := RQ_l ht (tl0_q (A := A) ht ok L1 z1)
  have z : ndx t n 31 (tl0 t n A L).1 = .inr L' := z
  rw [z1] at z
  have z : (if L1.2.2.1 = 31 then (.inr (lx t n L1.2.1) : sX) else flx 2 (.inr L1)) = .inr L' := z
  split at z
  · rename_i k31
    cases z
    obtain ⟨ok2, b2⟩ := lx_ok (t := t) ok1.2.1 ht
    have g := ok1.2.2.2.2.2 (by omega)
    have g2 := ok2.1
    refine ⟨SWx_up W1 (by omega) (fun q => by omega) (fun q => by omega) (fun q => by omega) (fun q => by omega) (fun q => by omega), ?_, by omega, ok2, by omega⟩
    show va_up (tl0 t n A L).2 39 ((tl0 t n A L).2 39 + nI 1) 39 = _
    rw [up_s, e39, hc, nI_add]
  · cases z
theorem SWx_W (W : SWx A) (hc : A 39 = nI c) (hl : c ≤ 400) : WFs A := by
  obtain ⟨⟨w1, w2, w3, w4, w5, w6⟩, v2, v3, v4, v5, v6, v7, v8, v9, v10⟩ := W
  exact ⟨w1, w2, w3, w4, w5, fun c hc => ⟨la A c, (w6 c hc).1, v2 c hc⟩, v3, v4, v5, v6, v7, v8, v9, v10, c, hc, hl⟩
end
