/-! LOOPS, searches, folds: plain Lean -/
def fo_ {σ : Type} (f : Nat → σ → σ) : Nat → σ → σ
  | 0, s => s
  | n + 1, s => f n (fo_ f n s)
def an_ (p : Nat → Bool) : Nat → Bool
  | 0 => false
  | n + 1 => an_ p n || p n
/-- the first below n -/
def fi_ (p : Nat → Bool) : Nat → Option Nat
  | 0 => none
  | n + 1 => match fi_ p n with
    | some k => some k
    | none => bif p n then some n else none
theorem lp_go {α : Type} {F : Nat → α} : ∀ {n : Nat}, (∀ k, k < n → F k = F (k + 1)) → F 0 = F n
  | 0, _ => rfl
  | n + 1, h => (lp_go fun k hk => h k (Nat.lt_succ_of_lt hk)).trans (h n (Nat.lt_succ_self n))
theorem lp_st {α σ : Type} {F : Nat → σ → α} {f : Nat → σ → σ} {s : σ} : ∀ {n : Nat}, (∀ k s, k < n → F k s = F (k + 1) (f k s)) → F 0 s = F n (fo_ f n s)
  | 0, _ => rfl
  | n + 1, h => (lp_st fun k s hk => h k s (Nat.lt_succ_of_lt hk)).trans (h n _ (Nat.lt_succ_self n))
/-- the same under what holds at each round -/
theorem lp_in {α σ : Type} {F : Nat → σ → α} {f : Nat → σ → σ} {P : Nat → σ → Prop} {s : σ} (h0 : P 0 s) : ∀ {n : Nat}, (∀ k s, k < n → P k s → F k s = F (k + 1) (f k s) ∧ P (k + 1) (f k s)) → F 0 s = F n (fo_ f n s) ∧ P n (fo_ f n s)
  | 0, _ => ⟨rfl, h0⟩
  | n + 1, h => by
    obtain ⟨e, p⟩ := lp_in h0 (n := n) fun k s hk => h k s (Nat.lt_succ_of_lt hk)
    obtain ⟨e2, p2⟩ := h n _ (Nat.lt_succ_self n) p
    exact ⟨e.trans e2, p2⟩
theorem lp_an {α : Type} {F : Nat → α} {R : α} {p : Nat → Bool} : ∀ {n : Nat}, (∀ k, k < n → F k = if p k = true then R else F (k + 1)) → F 0 = if an_ p n = true then R else F n
  | 0, _ => rfl
  | n + 1, h => by
    rw [lp_an (n := n) fun k hk => h k (Nat.lt_succ_of_lt hk), h n (Nat.lt_succ_self n)]
    show _ = if (an_ p n || p n) = true then R else F (n + 1)
    cases an_ p n <;> cases p n <;> rfl
theorem lp_fi {α : Type} {F : Nat → α} {R : Nat → α} {p : Nat → Bool} : ∀ {n : Nat}, (∀ k, k < n → F k = if p k = true then R k else F (k + 1)) → F 0 = match fi_ p n with
    | some k => R k
    | none => F n
  | 0, _ => rfl
  | n + 1, h => by
    rw [lp_fi (n := n) fun k hk => h k (Nat.lt_succ_of_lt hk)]
    have e : fi_ p (n + 1) = match fi_ p n with
      | some k => some k
      | none => bif p n then some n else none := rfl
    rw [e]
    cases fi_ p n with
    | some k => rfl
    | none =>
      show F n = _
      rw [h n (Nat.lt_succ_self n)]
      cases p n <;> rfl
theorem fo_eq {σ : Type} {f g : Nat → σ → σ} {s : σ} : ∀ {n : Nat}, (∀ k s, k < n → f k s = g k s) → fo_ f n s = fo_ g n s
  | 0, _ => rfl
  | n + 1, h => by
    show f n (fo_ f n s) = g n (fo_ g n s)
    rw [fo_eq (n := n) fun k s hk => h k s (Nat.lt_succ_of_lt hk)]
    exact h n _ (Nat.lt_succ_self n)
theorem an_eq {p q : Nat → Bool} : ∀ {n : Nat}, (∀ k, k < n → p k = q k) → an_ p n = an_ q n
  | 0, _ => rfl
  | n + 1, h => by
    show (an_ p n || p n) = (an_ q n || q n)
    rw [an_eq (n := n) fun k hk => h k (Nat.lt_succ_of_lt hk), h n (Nat.lt_succ_self n)]
theorem fi_eq {p q : Nat → Bool} : ∀ {n : Nat}, (∀ k, k < n → p k = q k) → fi_ p n = fi_ q n
  | 0, _ => rfl
  | n + 1, h => by
    show (match fi_ p n with | some k => some k | none => bif p n then some n else none) = (match fi_ q n with | some k => some k | none => bif q n then some n else none)
    rw [fi_eq (n := n) fun k hk => h k (Nat.lt_succ_of_lt hk), h n (Nat.lt_succ_self n)]
theorem an_iff {p : Nat → Bool} : ∀ {n : Nat}, an_ p n = true ↔ ∃ k, k < n ∧ p k = true
  | 0 => ⟨fun h => absurd h Bool.false_ne_true, fun ⟨_, h, _⟩ => absurd h (Nat.not_lt_zero _)⟩
  | n + 1 => by
    show (an_ p n || p n) = true ↔ _
    rw [Bool.or_eq_true, an_iff (n := n)]
    constructor
    · rintro (⟨k, h1, h2⟩ | h)
      · exact ⟨k, Nat.lt_succ_of_lt h1, h2⟩
      · exact ⟨n, Nat.lt_succ_self n, h⟩
    · rintro ⟨k, h1, h2⟩
      rcases Nat.lt_succ_iff_lt_or_eq.mp h1 with q | q
      · exact Or.inl ⟨k, q, h2⟩
      · exact Or.inr (q ▸ h2)
theorem fi_some {p : Nat → Bool} : ∀ {n k : Nat}, fi_ p n = some k → k < n ∧ p k = true
  | 0, _, h => by cases h
  | n + 1, k, h => by
    have e : fi_ p (n + 1) = match fi_ p n with
      | some k => some k
      | none => bif p n then some n else none := rfl
    rw [e] at h
    cases q : fi_ p n with
    | some j =>
      rw [q] at h
      cases h
      exact ⟨Nat.lt_succ_of_lt (fi_some q).1, (fi_some q).2⟩
    | none =>
      rw [q] at h
      cases z : p n with
      | true =>
        have h : (bif p n then some n else none) = some k := h
        rw [z] at h
        cases h
        exact ⟨Nat.lt_succ_self _, z⟩
      | false =>
        have h : (bif p n then some n else none) = some k := h
        rw [z] at h
        cases h
/-- a fold keeps what each round keeps -/
theorem fo_in {σ : Type} {f : Nat → σ → σ} {P : Nat → σ → Prop} {s : σ} (h0 : P 0 s) : ∀ {n : Nat}, (∀ k s, k < n → P k s → P (k + 1) (f k s)) → P n (fo_ f n s)
  | 0, _ => h0
  | n + 1, h => h n _ (Nat.lt_succ_self n) (fo_in h0 fun k s hk => h k s (Nat.lt_succ_of_lt hk))
theorem up_fill {α : Type} {f g : Nat → α} {i : Nat} {x : α} (hx : x = g i) : va_up (fun k => if k < i then g k else f k) i x = fun k => if k < i + 1 then g k else f k := by
  funext k
  unfold va_up
  by_cases h : k = i
  · rw [if_pos h, if_pos (by omega), hx, h]
  · rw [if_neg h]
    show (if k < i then g k else f k) = if k < i + 1 then g k else f k
    by_cases h2 : k < i
    · rw [if_pos h2, if_pos (by omega)]
    · rw [if_neg h2, if_neg (by omega)]
theorem fill_0 {α : Type} {f g : Nat → α} : (fun k => if k < 0 then g k else f k) = f := by
  funext k
  exact if_neg (Nat.not_lt_zero k)
/-- an option as an int: none is -1 -/
def oe (b : Option Nat) : Int32 := match b with
  | none => -1
  | some k => nI k
theorem oe_m {b : Option Nat} (h : ∀ k, b = some k → k < 2147483648) : (oe b = -1) = (b = none) := by
  cases b with
  | none => simp [oe]
  | some k =>
    refine propext ⟨fun e => ?_, fun e => by cases e⟩
    have h1 := h k rfl
    have h2 : (nI k).toInt = (-1 : Int32).toInt := congrArg Int32.toInt e
    rw [nI_toInt h1] at h2
    have h3 : (-1 : Int32).toInt = -1 := by decide
    omega
theorem nI_nm1 {k : Nat} (h : k < 2147483648) : (nI k = -1) = False := by
  have := oe_m (b := some k) fun j e => by cases e; exact h
  rw [show nI k = oe (some k) from rfl, this]
  simp
theorem nI_ltz {k : Nat} (h : k < 2147483648) : (nI k < 0) = False := eq_false (nI_pos h)
theorem i_irr {x : Int32} : (x < x) = False := by
  rw [eq_iff_iff, iff_false, Int32.lt_iff_toInt_lt]; omega
theorem nI_z {k : Nat} (h : k < 2147483648) : (nI k = 0) = (k = 0) := by
  rw [← nI_0, propext (nI_eq h (by omega))]
theorem nI_gz {k : Nat} (h : k < 2147483648) : (0 < nI k) = (0 < k) := by
  rw [← nI_0, propext (nI_ltI (by omega) h)]
theorem if_ac {α : Sort _} {p q : Prop} [Decidable p] [Decidable q] {a b : α} : (if p ∧ q then a else b) = if p then (if q then a else b) else b := by
  by_cases h1 : p <;> by_cases h2 : q <;> simp [h1, h2]
theorem if_oc {α : Sort _} {p q : Prop} [Decidable p] [Decidable q] {a b : α} : (if p ∨ q then a else b) = if p then a else (if q then a else b) := by
  by_cases h1 : p <;> by_cases h2 : q <;> simp [h1, h2]
theorem if_nc {α : Sort _} {p : Prop} [Decidable p] {a b : α} : (if ¬ p then a else b) = if p then b else a := by
  by_cases h1 : p <;> simp [h1]
theorem if_bf {α : Sort _} {b : Bool} {x y : α} : (if b = false then x else y) = if b = true then y else x := by cases b <;> rfl
theorem if_bn {α : Sort _} {b : Bool} {x y : α} : (if (!b) = true then x else y) = if b = true then y else x := by cases b <;> rfl
theorem if_ba {α : Sort _} {a b : Bool} {x y : α} : (if (a && b) = true then x else y) = if a = true then (if b = true then x else y) else y := by cases a <;> cases b <;> rfl
theorem if_bo {α : Sort _} {a b : Bool} {x y : α} : (if (a || b) = true then x else y) = if a = true then x else (if b = true then x else y) := by cases a <;> cases b <;> rfl
theorem zb_if {b : Bool} {h : xH} : (if b = true then some (some (Value.int (nI 1)), h) else some (some (Value.int (nI 0)), h)) = some (some (Value.int (zb b)), h) := by cases b <;> rfl
theorem zb_ifn {b : Bool} {h : xH} : (if b = true then some (some (Value.int (nI 0)), h) else some (some (Value.int (nI 1)), h)) = some (some (Value.int (zb (!b))), h) := by cases b <;> rfl
theorem zb_ifd {p : Prop} [Decidable p] {h : xH} : (if p then some (some (Value.int (nI 1)), h) else some (some (Value.int (nI 0)), h)) = some (some (Value.int (zb (decide p))), h) := by by_cases q : p <;> simp [q] <;> rfl
theorem zb_ifdn {p : Prop} [Decidable p] {h : xH} : (if p then some (some (Value.int (nI 0)), h) else some (some (Value.int (nI 1)), h)) = some (some (Value.int (zb (decide (¬ p)))), h) := by by_cases q : p <;> simp [q] <;> rfl
/-! loops whose frame holds a place of no account -/
theorem lpj_go {α ζ : Type} {F : Nat → ζ → α} {n : Nat} {X : α} (hs : ∀ k z, k < n → ∃ z', F k z = F (k + 1) z') (hx : ∀ z, F n z = X) (z : ζ) : F 0 z = X := by
  have key : ∀ j, j ≤ n → ∃ z', F 0 z = F j z' := by
    intro j
    induction j with
    | zero => intro _; exact ⟨z, rfl⟩
    | succ j ih =>
      intro hj
      obtain ⟨z1, e1⟩ := ih (by omega)
      obtain ⟨z2, e2⟩ := hs j z1 (by omega)
      exact ⟨z2, e1.trans e2⟩
  obtain ⟨z', e⟩ := key n (Nat.le_refl n)
  exact e.trans (hx z')
theorem lpj_an {α ζ : Type} {F : Nat → ζ → α} {n : Nat} {R X : α} {p : Nat → Bool} (hs : ∀ k z, k < n → ∃ z', F k z = if p k = true then R else F (k + 1) z') (hx : ∀ z, F n z = X) (z : ζ) : F 0 z = if an_ p n = true then R else X := by
  have key : ∀ j, j ≤ n → ∃ z', F 0 z = if an_ p j = true then R else F j z' := by
    intro j
    induction j with
    | zero => intro _; exact ⟨z, rfl⟩
    | succ j ih =>
      intro hj
      obtain ⟨z1, e1⟩ := ih (by omega)
      obtain ⟨z2, e2⟩ := hs j z1 (by omega)
      refine ⟨z2, e1.trans ?_⟩
      rw [e2]
      show _ = if (an_ p j || p j) = true then R else _
      cases an_ p j <;> cases p j <;> rfl
  obtain ⟨z', e⟩ := key n (Nat.le_refl n)
  rw [e, hx z']
theorem lpj_fi {α ζ : Type} {F : Nat → ζ → α} {n : Nat} {R : Nat → α} {X : α} {p : Nat → Bool} (hs : ∀ k z, k < n → ∃ z', F k z = if p k = true then R k else F (k + 1) z') (hx : ∀ z, F n z = X) (z : ζ) : F 0 z = match fi_ p n with
    | some k => R k
    | none => X := by
  have key : ∀ j, j ≤ n → ∃ z', F 0 z = match fi_ p j with
      | some k => R k
      | none => F j z' := by
    intro j
    induction j with
    | zero => intro _; exact ⟨z, rfl⟩
    | succ j ih =>
      intro hj
      obtain ⟨z1, e1⟩ := ih (by omega)
      obtain ⟨z2, e2⟩ := hs j z1 (by omega)
      refine ⟨z2, e1.trans ?_⟩
      have e : fi_ p (j + 1) = match fi_ p j with
        | some k => some k
        | none => bif p j then some j else none := rfl
      rw [e]
      cases fi_ p j with
      | some k => rfl
      | none =>
        show F j z1 = _
        rw [e2]
        cases p j <;> rfl
  obtain ⟨z', e⟩ := key n (Nat.le_refl n)
  rw [e]
  cases fi_ p n with
  | some k => rfl
  | none => exact hx z'
theorem lpj_st {α σ ζ : Type} {F : Nat → σ → ζ → α} {f : Nat → σ → σ} {P : Nat → σ → Prop} {X : σ → α} {n : Nat} {s : σ} (h0 : P 0 s) (hs : ∀ k s z, k < n → P k s → ∃ z', F k s z = F (k + 1) (f k s) z' ∧ P (k + 1) (f k s)) (hx : ∀ s z, P n s → F n s z = X s) (z : ζ) : F 0 s z = X (fo_ f n s) ∧ P n (fo_ f n s) := by
  have key : ∀ j, j ≤ n → ∃ z', F 0 s z = F j (fo_ f j s) z' ∧ P j (fo_ f j s) := by
    intro j
    induction j with
    | zero => intro _; exact ⟨z, rfl, h0⟩
    | succ j ih =>
      intro hj
      obtain ⟨z1, e1, p1⟩ := ih (by omega)
      obtain ⟨z2, e2, p2⟩ := hs j _ z1 (by omega) p1
      exact ⟨z2, e1.trans e2, p2⟩
  obtain ⟨z', e, p⟩ := key n (Nat.le_refl n)
  exact ⟨e.trans (hx _ z' p), p⟩
theorem nI_0z : nI 0 = 0 := nI_0
/-! the same for what is said of the end -/
theorem lpe_an {α ζ : Type} {F : Nat → ζ → α} {n : Nat} {p : Nat → Bool} {P : Nat → ζ → Prop} {Q : Bool → α → Prop} {z : ζ} (h0 : P 0 z) (hs : ∀ k z, k < n → P k z → (p k = true ∧ Q true (F k z)) ∨ (p k = false ∧ ∃ z', F k z = F (k + 1) z' ∧ P (k + 1) z')) (hx : ∀ z, P n z → Q false (F n z)) : Q (an_ p n) (F 0 z) := by
  have key : ∀ j, j ≤ n → (an_ p j = true ∧ Q true (F 0 z)) ∨ (an_ p j = false ∧ ∃ z', F 0 z = F j z' ∧ P j z') := by
    intro j
    induction j with
    | zero => intro _; exact Or.inr ⟨rfl, z, rfl, h0⟩
    | succ j ih =>
      intro hj
      show (((an_ p j || p j) = true) ∧ _) ∨ (((an_ p j || p j) = false) ∧ _)
      rcases ih (by omega) with ⟨e1, q⟩ | ⟨e1, z1, e, q⟩
      · rw [e1]; exact Or.inl ⟨rfl, q⟩
      · rcases hs j z1 (by omega) q with ⟨e2, q2⟩ | ⟨e2, z2, e3, q2⟩
        · rw [e1, e2]; exact Or.inl ⟨rfl, by rw [e]; exact q2⟩
        · rw [e1, e2]; exact Or.inr ⟨rfl, z2, e.trans e3, q2⟩
  rcases key n (Nat.le_refl n) with ⟨e1, q⟩ | ⟨e1, z1, e, q⟩
  · rw [e1]; exact q
  · rw [e1, e]; exact hx z1 q
theorem lpe_fi {α ζ : Type} {F : Nat → ζ → α} {n : Nat} {p : Nat → Bool} {P : Nat → ζ → Prop} {Q : Option Nat → α → Prop} {z : ζ} (h0 : P 0 z) (hs : ∀ k z, k < n → P k z → (p k = true ∧ Q (some k) (F k z)) ∨ (p k = false ∧ ∃ z', F k z = F (k + 1) z' ∧ P (k + 1) z')) (hx : ∀ z, P n z → Q none (F n z)) : Q (fi_ p n) (F 0 z) := by
  have key : ∀ j, j ≤ n → (∃ k, fi_ p j = some k ∧ Q (some k) (F 0 z)) ∨ (fi_ p j = none ∧ ∃ z', F 0 z = F j z' ∧ P j z') := by
    intro j
    induction j with
    | zero => intro _; exact Or.inr ⟨rfl, z, rfl, h0⟩
    | succ j ih =>
      intro hj
      have e0 : fi_ p (j + 1) = match fi_ p j with
        | some k => some k
        | none => bif p j then some j else none := rfl
      rw [e0]
      rcases ih (by omega) with ⟨k, e1, q⟩ | ⟨e1, z1, e, q⟩
      · rw [e1]; exact Or.inl ⟨k, rfl, q⟩
      · rw [e1]
        rcases hs j z1 (by omega) q with ⟨e2, q2⟩ | ⟨e2, z2, e3, q2⟩
        · refine Or.inl ⟨j, ?_, by rw [e]; exact q2⟩
          show (bif p j then some j else none) = some j
          rw [e2]; rfl
        · refine Or.inr ⟨?_, z2, e.trans e3, q2⟩
          show (bif p j then some j else none) = none
          rw [e2]; rfl
  rcases key n (Nat.le_refl n) with ⟨k, e1, q⟩ | ⟨e1, z1, e, q⟩
  · rw [e1]; exact q
  · rw [e1, e]; exact hx z1 q
theorem lpe_st {α σ ζ : Type} {F : Nat → σ → ζ → α} {f : Nat → σ → σ} {P : Nat → σ → ζ → Prop} {Q : σ → α → Prop} {n : Nat} {s : σ} {z : ζ} (h0 : P 0 s z) (hs : ∀ k s z, k < n → P k s z → ∃ z', F k s z = F (k + 1) (f k s) z' ∧ P (k + 1) (f k s) z') (hx : ∀ s z, P n s z → Q s (F n s z)) : Q (fo_ f n s) (F 0 s z) := by
  have key : ∀ j, j ≤ n → ∃ z', F 0 s z = F j (fo_ f j s) z' ∧ P j (fo_ f j s) z' := by
    intro j
    induction j with
    | zero => intro _; exact ⟨z, rfl, h0⟩
    | succ j ih =>
      intro hj
      obtain ⟨z1, e1, p1⟩ := ih (by omega)
      obtain ⟨z2, e2, p2⟩ := hs j _ z1 (by omega) p1
      exact ⟨z2, e1.trans e2, p2⟩
  obtain ⟨z', e, p⟩ := key n (Nat.le_refl n)
  rw [e]
  exact hx _ z' p
/-! booleans in arrays -/
theorem nar_z {b : Bool} : vp_nar .boolean (zb b) = zb b := by cases b <;> decide
theorem nar_1 : vp_nar .boolean (nI 1) = nI 1 := by decide
theorem nar_0 : vp_nar .boolean (nI 0) = nI 0 := by decide
theorem up_ne {α : Type} {f : Nat → α} {k j : Nat} {x : α} (h : j ≠ k) : va_up f k x j = f j := by
  unfold va_up; exact if_neg h
theorem one_ne0 : ((1 : Int32) = 0) = False := by simp
theorem nI_ne1 : (nI 1 = 0) = False := eq_false (nI_ne0 (by decide) (by decide))
/-- a loop whose rounds change what they hold, or not -/
theorem lpj_if {α σ ζ : Type} {F : Nat → σ → ζ → α} {p : Nat → σ → Prop} [∀ k s, Decidable (p k s)] {g : Nat → σ → σ} {P : Nat → σ → Prop} {X : σ → α} {n : Nat} {s : σ} (h0 : P 0 s) (hs : ∀ k s z, k < n → P k s → ∃ z', F k s z = (if p k s then F (k + 1) (g k s) z' else F (k + 1) s z') ∧ P (k + 1) (if p k s then g k s else s)) (hx : ∀ s z, P n s → F n s z = X s) (z : ζ) : F 0 s z = X (fo_ (fun k s => if p k s then g k s else s) n s) ∧ P n (fo_ (fun k s => if p k s then g k s else s) n s) :=
  lpj_st h0 (fun k s z hk hp => by
    obtain ⟨z', e, q⟩ := hs k s z hk hp
    refine ⟨z', e.trans ?_, q⟩
    by_cases hc : p k s
    · simp only [if_pos hc]
    · simp only [if_neg hc]) hx z
theorem nI_01 : (nI 0 = nI 1) = False := eq_false (fun e => by have := (nI_eq (by decide) (by decide)).mp e; omega)
theorem nI_1e : nI 1 = 1 := rfl
/-! the order in which rows are written (told so that simp does not take it for a mere exchange) -/
theorem o_qIc {h : xH} {a b : Nat} {f g : Nat → Int32} (hab : a < b) : pI (pI h b g) a f = pI (pI h (id a) f) b g := o_pIc hab
theorem o_qLc {h : xH} {a b : Nat} {f g : Nat → Int64} (hab : a < b) : pL (pL h b g) a f = pL (pL h (id a) f) b g := o_pLc hab
theorem o_qLI {h : xH} {a b : Nat} {f : Nat → Int32} {g : Nat → Int64} : pI (pL h b g) a f = pL (pI h a f) b g := rfl
theorem nI_00 : (nI 0 = 0) = True := eq_true nI_0
theorem q_e1 {q b : Nat} : (q = q + b) = (b = 0) := propext ⟨fun h => by omega, fun h => by omega⟩
theorem q_e2 {q b : Nat} : (q + b = q) = (b = 0) := propext ⟨fun h => by omega, fun h => by omega⟩
