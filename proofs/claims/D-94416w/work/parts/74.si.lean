/-! ALL THAT DRIVERS MAY DECIDE, of two scenes alike (one may have cars more that never come): plain Lean -/
/-- the scenes: car k of the second one is car i k of the first one -/
def RA (i : Nat → Nat) (A B : rI) : Prop := sN A ≤ 8 ∧ (∀ k, k < sN B → i k < sN A) ∧ (∀ j k, j < k → k < sN B → i j < i k) ∧ (∀ k, k < sN B → A (2 + i k) = B (2 + k) ∧ A (26 + i k) = B (26 + k)) ∧ A 0 = B 0 ∧ A 34 = B 34 ∧ A 35 = B 35 ∧ A 36 = B 36 ∧ A 37 = B 37 ∧ A 38 = B 38
/-- the walks -/
def RS (i : Nat → Nat) (n m : Nat) (w u : rI) : Prop := (∀ k, k < m → w (i k) = u k ∧ w (8 + i k) = u (8 + k) ∧ w (16 + i k) = u (16 + k) ∧ w (24 + i k) = u (24 + k)) ∧ (∀ c, c < n → (∀ k, k < m → i k ≠ c) → ¬ 0 < w c) ∧ w 32 = u 32 ∧ w 33 = u 33 ∧ w 34 = u 34 ∧ w 35 = u 35 ∧ w 36 = u 36 ∧ w 37 = u 37 ∧ w 38 = u 38
section
variable {i : Nat → Nat} {n m : Nat} {A B w u : rI}
theorem an_i {p q : Nat → Bool} (hm : ∀ k, k < m → i k < n) (h1 : ∀ k, k < m → p (i k) = q k) (h2 : ∀ c, c < n → (∀ k, k < m → i k ≠ c) → p c = false) : an_ p n = an_ q m := by
  apply Bool.eq_iff_iff.mpr
  rw [an_iff, an_iff]
  constructor
  · rintro ⟨c, hc, pc⟩
    by_cases z : ∃ k, k < m ∧ i k = c
    · obtain ⟨k, hk, rfl⟩ := z
      exact ⟨k, hk, (h1 k hk).symm.trans pc⟩
    · rw [h2 c hc (fun k hk e => z ⟨k, hk, e⟩)] at pc
      cases pc
  · rintro ⟨k, hk, pk⟩
    exact ⟨i k, hm k hk, (h1 k hk).trans pk⟩
/-- so far on in both -/
def QI (i : Nat → Nat) (m x y : Nat) : Prop := (∀ k, k < y → i k < x) ∧ ∀ k, y ≤ k → k < m → x ≤ i k
theorem QI_in {x y k : Nat} (mo : ∀ j k, j < k → k < m → i j < i k) (q : QI i m x y) (hk : k < m) (e : i k = x) : k = y ∧ QI i m (x + 1) (y + 1) := by
  have h1 : ¬ k < y := fun z => by have := q.1 k z; omega
  have h2 : ¬ y < k := fun z => by
    have := q.2 y (Nat.le_refl _) (by omega)
    have := mo y k z hk
    omega
  have h3 : k = y := by omega
  subst h3
  refine ⟨rfl, fun j hj => ?_, fun j h4 h5 => ?_⟩
  · rcases Nat.lt_succ_iff_lt_or_eq.mp hj with z | z
    · have := q.1 j z; omega
    · rw [z, e]; omega
  · have := mo k j h4 h5
    omega
theorem QI_out {x y : Nat} (q : QI i m x y) (h : ∀ k, k < m → i k ≠ x) : QI i m (x + 1) y := by
  refine ⟨fun k hk => by have := q.1 k hk; omega, fun k h1 h2 => ?_⟩
  have := q.2 k h1 h2
  have := h k h2
  omega
theorem fo_i {σ τ : Type} {f : Nat → σ → σ} {g : Nat → τ → τ} {s : σ} {t : τ} {R : σ → τ → Prop} (hm : ∀ k, k < m → i k < n) (mo : ∀ j k, j < k → k < m → i j < i k) (h0 : R s t) (h1 : ∀ k s t, k < m → R s t → R (f (i k) s) (g k t)) (h2 : ∀ c s t, c < n → (∀ k, k < m → i k ≠ c) → R s t → R (f c s) t) : R (fo_ f n s) (fo_ g m t) := by
  have key : ∀ x, x ≤ n → ∃ y, y ≤ m ∧ QI i m x y ∧ R (fo_ f x s) (fo_ g y t) := by
    intro x
    induction x with
    | zero => intro _; exact ⟨0, Nat.zero_le _, ⟨fun k hk => by omega, fun k _ _ => Nat.zero_le _⟩, h0⟩
    | succ x ih =>
      intro hx
      obtain ⟨y, y1, y2, y3⟩ := ih (by omega)
      by_cases z : ∃ k, k < m ∧ i k = x
      · obtain ⟨k, hk, e⟩ := z
        obtain ⟨e2, q⟩ := QI_in mo y2 hk e
        subst e2
        refine ⟨k + 1, hk, q, ?_⟩
        show R (f x (fo_ f x s)) (g k (fo_ g k t))
        rw [← e] at y3 ⊢
        exact h1 k _ _ hk y3
      · refine ⟨y, y1, QI_out y2 (fun k hk e => z ⟨k, hk, e⟩), ?_⟩
        exact h2 x _ _ (by omega) (fun k hk e => z ⟨k, hk, e⟩) y3
  obtain ⟨y, y1, y2, y3⟩ := key n (Nat.le_refl n)
  have : y = m := by
    rcases Nat.lt_or_ge y m with z | z
    · have := y2.2 y (Nat.le_refl _) z
      have := hm y z
      omega
    · omega
  rw [← this]
  exact y3
theorem fo_rel {σ τ : Type} {f : Nat → σ → σ} {g : Nat → τ → τ} {s : σ} {t : τ} {R : σ → τ → Prop} (h0 : R s t) : ∀ {n : Nat}, (∀ k s t, k < n → R s t → R (f k s) (g k t)) → R (fo_ f n s) (fo_ g n t)
  | 0, _ => h0
  | n + 1, h => h n _ _ (Nat.lt_succ_self n) (fo_rel h0 fun k s t hk => h k s t (Nat.lt_succ_of_lt hk))
/-! rows that are alike stay so -/
theorem RS_u {c j : Nat} {v : Int32} (h8 : n ≤ 8) (hm : ∀ k, k < m → i k < n) (mo : ∀ j k, j < k → k < m → i j < i k) (hc : c < m) (hj : j = 0 ∨ j = 8 ∨ j = 16 ∨ j = 24) (hn : j = 0 ∨ True) (R : RS i n m w u) : RS i n m (va_up w (j + i c) v) (va_up u (j + c) v) := by
  obtain ⟨r1, r2, r3, r4, r5, r6, r7, r8, r9⟩ := R
  have ic := hm c hc
  have inj : ∀ k, k < m → i k = i c → k = c := fun k hk e => by
    rcases Nat.lt_or_ge k c with z | z
    · have := mo k c z hc; omega
    · rcases Nat.lt_or_ge c k with y | y
      · have := mo c k y hk; omega
      · omega
  have cm : m ≤ 8 := by
    have key : ∀ k, k < m → k ≤ i k := by
      intro k
      induction k with
      | zero => intro _; exact Nat.zero_le _
      | succ k ih => intro hk; have := ih (by omega); have := mo k (k + 1) (by omega) hk; omega
    rcases Nat.eq_zero_or_pos m with z | z
    · omega
    · have := key (m - 1) (by omega)
      have := hm (m - 1) (by omega)
      omega
  have at_ : ∀ j2 k, (j2 = 0 ∨ j2 = 8 ∨ j2 = 16 ∨ j2 = 24) → k < m → w (j2 + i k) = u (j2 + k) → va_up w (j + i c) v (j2 + i k) = va_up u (j + c) v (j2 + k) := by
    intro j2 k h2 hk e
    have ik := hm k hk
    unfold va_up
    by_cases z : j2 = j ∧ k = c
    · obtain ⟨rfl, rfl⟩ := z
      rw [if_pos rfl, if_pos rfl]
    · have z1 : ¬ j2 + i k = j + i c := fun y => z (by
        have : j2 = j := by omega
        exact ⟨this, inj k hk (by omega)⟩)
      have z2 : ¬ j2 + k = j + c := fun y => z (by
        have : j2 = j := by omega
        exact ⟨this, by omega⟩)
      rw [if_neg z1, if_neg z2, e]
  refine ⟨fun k hk => ?_, fun d hd hx => ?_, ?_, ?_, ?_, ?_, ?_, ?_, ?_⟩
  · obtain ⟨e1, e2, e3, e4⟩ := r1 k hk
    have a0 := at_ 0 k (by omega) hk (by rw [Nat.zero_add, Nat.zero_add]; exact e1)
    rw [Nat.zero_add, Nat.zero_add] at a0
    exact ⟨a0, at_ 8 k (by omega) hk e2, at_ 16 k (by omega) hk e3, at_ 24 k (by omega) hk e4⟩
  · rw [up_ne (fun z => by
      have : j = 0 := by omega
      exact hx c hc (by omega))]
    exact r2 d hd hx
  all_goals rw [up_ne (by omega), up_ne (by omega)]
  all_goals assumption
theorem RS_h {j : Nat} {v x : Int32} (h8 : n ≤ 8) (hm : ∀ k, k < m → i k < n) (hk8 : m ≤ 8) (hj : 32 ≤ j) (e : j ≤ 38 → v = x) (R : RS i n m w u) : RS i n m (va_up w j v) (va_up u j x) := by
  obtain ⟨r1, r2, r3, r4, r5, r6, r7, r8, r9⟩ := R
  have hi : ∀ k, k < 39 → w k = u k → va_up w j v k = va_up u j x k := fun k hk y => by
    unfold va_up
    by_cases z : k = j
    · rw [if_pos z, if_pos z]; exact e (by omega)
    · rw [if_neg z, if_neg z]; exact y
  refine ⟨fun k hk => ?_, fun d hd hx => ?_, hi _ (by omega) r3, hi _ (by omega) r4, hi _ (by omega) r5, hi _ (by omega) r6, hi _ (by omega) r7, hi _ (by omega) r8, hi _ (by omega) r9⟩
  · have ik := hm k hk
    obtain ⟨e1, e2, e3, e4⟩ := r1 k hk
    rw [up_ne (by omega), up_ne (by omega), up_ne (by omega), up_ne (by omega), up_ne (by omega), up_ne (by omega), up_ne (by omega), up_ne (by omega)]
    exact ⟨e1, e2, e3, e4⟩
  · rw [up_ne (by omega)]
    exact r2 d hd hx
end
theorem mono_le {i : Nat → Nat} {n m : Nat} (hm : ∀ k, k < m → i k < n) (mo : ∀ j k, j < k → k < m → i j < i k) : m ≤ n ∧ ∀ j k, j < m → k < m → i j = i k → j = k := by
  have key : ∀ k, k < m → k ≤ i k := by
    intro k
    induction k with
    | zero => intro _; exact Nat.zero_le _
    | succ k ih => intro hk; have := ih (by omega); have := mo k (k + 1) (by omega) hk; omega
  refine ⟨?_, fun j k hj hk e => ?_⟩
  · rcases Nat.eq_zero_or_pos m with z | z
    · omega
    · have := key (m - 1) (by omega)
      have := hm (m - 1) (by omega)
      omega
  · rcases Nat.lt_or_ge j k with z | z
    · have := mo j k z hk; omega
    · rcases Nat.lt_or_ge k j with y | y
      · have := mo k j y hj; omega
      · omega
section
variable {i : Nat → Nat} {A B w u : rI}
abbrev RW (i : Nat → Nat) (A B w u : rI) : Prop := RS i (sN A) (sN B) w u
theorem sT_i {k : Int32} (a : RA i A B) : sT A k = sT B k := by
  unfold sT
  rw [a.2.2.2.2.2.1]
theorem sO_i (a : RA i A B) : sO A = sO B := by
  unfold sO
  rw [sT_i a]
theorem sL_i (a : RA i A B) : sL A = sL B := by
  unfold sL
  rw [a.2.2.2.2.1]
theorem sSm_i {f t but dec below : Int32} (a : RA i A B) (R : RW i A B w u) : sSm A w f t but dec below = sSm B u f t but dec below := by
  obtain ⟨a1, a2, a3, a4, -⟩ := a
  obtain ⟨r1, r2, -⟩ := R
  refine an_i a2 (fun k hk => ?_) (fun c hc hx => ?_)
  · obtain ⟨e1, -, e3, -⟩ := r1 k hk
    rw [(a4 k hk).1, e1, e3]
  · exact decide_eq_false (fun z => r2 c hc hx z.2.2.2.2.1)
theorem sFa_i {c : Nat} {k v : Int32} (a : RA i A B) (R : RW i A B w u) (hc : c < sN B) : sFa A w (i c) k v = sFa B u c k v := by
  have a4 := a.2.2.2.1 c hc
  obtain ⟨e1, e2, e3, e4⟩ := R.1 c hc
  unfold sFa
  rw [sT_i a, a4.1, a4.2, e1, e2, sSm_i a R, sSm_i a R, sSm_i a R, R.2.2.1, R.2.2.2.1]
theorem sRn_i {c : Nat} (a : RA i A B) (R : RW i A B w u) (hc : c < sN B) (eo : ∀ k, 77 ≤ k → k < 477 → A k = B k) : ∀ (l j : Nat) (st : List Bool), j + l ≤ 200 → sRn A w (i c) j l st = sRn B u c j l st
  | 0, j, st, _ => rfl
  | l + 1, j, st, hj => by
    show sRn A w (i c) (j + 1) l (sOp A w (i c) j st) = sRn B u c (j + 1) l (sOp B u c j st)
    have e : sOp A w (i c) j st = sOp B u c j st := by
      unfold sOp
      rw [eo (77 + 2 * j) (by omega) (by omega), eo (77 + 2 * j + 1) (by omega) (by omega), sFa_i a R hc]
    rw [e]
    exact sRn_i a R hc eo l (j + 1) _ (by omega)
/-- laws that answer alike -/
def HS (i : Nat → Nat) (A B : rI) (wl xl : Int32) : Prop := ∀ w u c, RW i A B w u → c < sN B → sSt A w wl (i c) = sSt B u xl c
theorem fi_rel {p q : Nat → Bool} {n : Nat} (h : ∀ k, k < n → p k = q k) : fi_ p n = fi_ q n := fi_eq h
theorem HS_same {wl : Int32} (a : RA i A B) (W : WFl A) (el : ∀ k, 40 ≤ k → k < 477 → A k = B k) : HS i A B wl wl := by
  intro w u c R hc
  have e0 : sNl A = sNl B := by unfold sNl; rw [el 40 (by omega) (by omega)]
  have hn := W.2.1
  unfold sSt
  have e1 : fi_ (fun k => !decide (nI k = wl) && sSo A w (i c) k) (sNl A) = fi_ (fun k => !decide (nI k = wl) && sSo B u c k) (sNl B) := by
    rw [← e0]
    refine fi_rel fun k hk => ?_
    obtain ⟨-, -, -, f1, f2, -⟩ := W.2.2 k hk
    have ef : sFm A k = sFm B k := by unfold sFm; rw [el (53 + k) (by omega) (by omega)]
    have et : sTo A k = sTo B k := by unfold sTo; rw [el (65 + k) (by omega) (by omega)]
    unfold sSo
    rw [← ef, ← et, sRn_i a R hc (fun k h1 h2 => el k (by omega) h2) _ _ _ (by omega)]
  rw [e1]
  cases q : fi_ (fun k => !decide (nI k = wl) && sSo B u c k) (sNl B) with
  | none => rfl
  | some k =>
    have := (fi_some q).1
    exact el (41 + k) (by omega) (by omega)
variable {wl xl : Int32}
theorem sCan_i {c : Nat} (a : RA i A B) (R : RW i A B w u) (hc : c < sN B) : sCan A w (i c) = sCan B u c := by
  obtain ⟨e1, e2, e3, e4⟩ := R.1 c hc
  unfold sCan
  rw [e1, e2, a.2.2.2.2.2.2.1]
theorem sAs_i {c : Nat} (a : RA i A B) (R : RW i A B w u) (hc : c < sN B) : sAs A w (i c) = sAs B u c := by
  obtain ⟨e1, e2, e3, e4⟩ := R.1 c hc
  unfold sAs
  rw [e1, e3, a.2.2.2.2.2.2.2.2.2]
theorem sCh_i {c : Nat} (a : RA i A B) (H : HS i A B wl xl) (R : RW i A B w u) (hc : c < sN B) : sCh A w wl (i c) = sCh B u xl c := by
  unfold sCh
  rw [sCan_i a R hc, H w u c R hc]
theorem i_lt1 {x : Int32} (h : ¬ 0 < x) : x < nI 1 := by
  rw [Int32.lt_iff_toInt_lt] at h ⊢
  have h0 : (0 : Int32).toInt = 0 := rfl
  rw [nI_toInt (by decide)]
  omega
theorem sAs_out {c : Nat} (h : ¬ 0 < w c) : sAs A w c = false := decide_eq_false fun z => z.2.1 (i_lt1 h)
theorem RW_m8 (a : RA i A B) : sN B ≤ 8 := Nat.le_trans (mono_le a.2.1 a.2.2.1).1 a.1
theorem RW_u {c j : Nat} {v : Int32} (a : RA i A B) (hc : c < sN B) (hj : j = 0 ∨ j = 8 ∨ j = 16 ∨ j = 24) (R : RW i A B w u) : RW i A B (va_up w (j + i c) v) (va_up u (j + c) v) := RS_u a.1 a.2.1 a.2.2.1 hc hj (Or.inr trivial) R
theorem RW_u0 {c : Nat} {v : Int32} (a : RA i A B) (hc : c < sN B) (R : RW i A B w u) : RW i A B (va_up w (i c) v) (va_up u c v) := by
  have := RW_u (j := 0) (v := v) a hc (Or.inl rfl) R
  rwa [Nat.zero_add, Nat.zero_add] at this
theorem RW_h {j : Nat} {v x : Int32} (a : RA i A B) (hj : 32 ≤ j) (e : j ≤ 38 → v = x) (R : RW i A B w u) : RW i A B (va_up w j v) (va_up u j x) := RS_h a.1 a.2.1 (RW_m8 a) hj e R
theorem RW_hl {j : Nat} {v : Int32} (a : RA i A B) (hj : 39 ≤ j) (R : RW i A B w u) : RW i A B (va_up w j v) u := by
  have := RW_h (j := j) (v := v) (x := u j) a (by omega) (fun z => by omega) R
  rwa [up_i] at this
/-- what decisions leave in both -/
def DR (i : Nat → Nat) (A B : rI) (y : Nat) (u : rI) (p q : rI × Option Nat) : Prop := RW i A B p.1 q.1 ∧ ud (sN B) q.1 ≤ ud (sN B) u ∧ (∀ j, (j < 16 ∨ 24 ≤ j) → j ≠ 41 → q.1 j = u j) ∧ ((p.2 = none ∧ q.2 = none) ∨ ∃ c, c < sN B ∧ y ≤ c ∧ p.2 = some (i c) ∧ q.2 = some c ∧ p.1 41 = nI (i c) ∧ q.1 41 = nI c ∧ q.1 (16 + c) = 0)
theorem DR_mono {y : Nat} {u2 : rI} {p q : rI × Option Nat} (h : ud (sN B) u2 ≤ ud (sN B) u) (h2 : ∀ j, (j < 16 ∨ 24 ≤ j) → j ≠ 41 → u2 j = u j) (D : DR i A B (y + 1) u2 p q) : DR i A B y u p q := by
  obtain ⟨d1, d2, d3, d4⟩ := D
  refine ⟨d1, Nat.le_trans d2 h, fun j h1 h3 => (d3 j h1 h3).trans (h2 j h1 h3), ?_⟩
  rcases d4 with d | ⟨c, c1, c2, c3⟩
  · exact Or.inl d
  · exact Or.inr ⟨c, c1, by omega, c3⟩
theorem dN_i (a : RA i A B) (H : HS i A B wl xl) : ∀ (m x y : Nat) (w u : rI), x + m = sN A → y ≤ sN B → QI i (sN B) x y → w 41 = nI x → u 41 = nI y → RW i A B w u → DR i A B y u (dN A wl m x w) (dN B xl (sN B - y) y u)
  | 0, x, y, w, u, hx, hy, q, e1, e2, R => by
    have : y = sN B := by
      rcases Nat.lt_or_ge y (sN B) with z | z
      · have := q.2 y (Nat.le_refl _) z
        have := a.2.1 y z
        omega
      · omega
    subst this
    rw [Nat.sub_self]
    exact ⟨R, Nat.le_refl _, fun _ _ _ => rfl, Or.inl ⟨rfl, rfl⟩⟩
  | m + 1, x, y, w, u, hx, hy, q, e1, e2, R => by
    by_cases z : ∃ k, k < sN B ∧ i k = x
    · obtain ⟨k, hk, e⟩ := z
      obtain ⟨ek, q2⟩ := QI_in a.2.2.1 q hk e
      subst ek
      subst e
      obtain ⟨l, hl⟩ : ∃ l, sN B - k = l + 1 := ⟨sN B - k - 1, by omega⟩
      have hl2 : l = sN B - (k + 1) := by omega
      rw [hl]
      have as := sAs_i a R hk
      have ch := sCh_i a H R hk
      have m8 := RW_m8 a
      have step : ∀ v : Int32, ¬ v = 0 → u (16 + k) = 0 → DR i A B k u (dN A wl m (i k + 1) (va_up (va_up w (16 + i k) v) 41 (nI (i k + 1)))) (dN B xl l (k + 1) (va_up (va_up u (16 + k) v) 41 (nI (k + 1)))) := by
        intro v hv h0
        rw [hl2]
        refine DR_mono (u2 := va_up (va_up u (16 + k) v) 41 (nI (k + 1))) ?_ (fun j h1 h2 => by rw [up_ne h2, up_ne (by omega)]) (dN_i a H m (i k + 1) (k + 1) _ _ (by omega) (by omega) q2 up_s up_s (RW_h a (by omega) (fun z => by omega) (RW_u a hk (by omega) R)))
        have := ud_one (u := va_up (va_up u (16 + k) v) 41 (nI (k + 1))) hk h0 (by rw [up_ne (by omega), up_s]; exact hv) (fun j hj hne => by rw [up_ne (by omega), up_ne (by omega)])
        omega
      by_cases qa : sAs B u k = true
      · have h0 : u (16 + k) = 0 := sAs_0 qa
        rw [qa] at as
        by_cases q0 : sCh B u xl k = 0
        · rw [dN_0 as (ch.trans q0), dN_0 qa q0]
          exact step _ (by decide) h0
        · by_cases q1 : sCh B u xl k = nI 100
          · rw [dN_1 as (by rw [ch]; exact q0) (ch.trans q1), dN_1 qa q0 q1]
            exact step _ (by decide) h0
          · rw [dN_s as (by rw [ch]; exact q0) (by rw [ch]; exact q1), dN_s qa q0 q1]
            exact ⟨R, Nat.le_refl _, fun _ _ _ => rfl, Or.inr ⟨k, hk, Nat.le_refl _, rfl, rfl, e1, e2, h0⟩⟩
      · have qb : ¬ sAs A w (i k) = true := by rw [as]; exact qa
        rw [dN_skip qb, dN_skip qa, hl2]
        exact DR_mono (u2 := va_up u 41 (nI (k + 1))) (Nat.le_of_eq (ud_eq fun j hj => up_ne (by omega))) (fun j h1 h2 => up_ne h2) (dN_i a H m (i k + 1) (k + 1) _ _ (by omega) (by omega) q2 up_s up_s (RW_h a (by omega) (fun z => by omega) R))
    · have hx' : ∀ k, k < sN B → i k ≠ x := fun k hk e => z ⟨k, hk, e⟩
      rw [dN_skip (by rw [sAs_out (R.2.1 x (by omega) hx')]; exact Bool.false_ne_true)]
      exact dN_i a H m (x + 1) y _ _ (by omega) hy (QI_out q hx') up_s e2 (RW_hl a (by omega) R)
end
