/-! what a walk's numbers may be: kept by all that is done to them -/
def CI (w : rI) (k : Nat) : Prop := (w (16 + k) = 0 ∨ w (16 + k) = nI 1 ∨ w (16 + k) = nI 2) ∧ (∃ p, w (8 + k) = nI p ∧ p ≤ 9 ∧ (¬ w (16 + k) = nI 2 → 1 ≤ p)) ∧ (0 < w k → ∃ x, w k = nI x ∧ x ≤ 200) ∧ (w (24 + k) = nI 0 ∨ (w (24 + k) = nI 1 ∧ 0 < w k))
def WI (A w : rI) : Prop := (w 33 = 0 ∨ (w 33 = nI 1 ∧ (w 34 = nI 0 ∨ (w 34 = nI 1 ∧ sO A = nI 2)))) ∧ (w 37 = 0 → ∃ p, w 32 = nI p ∧ p < sL A) ∧ ∀ k, k < sN A → CI w k
/-- how fast, how far: what a car's numbers may be -/
def WP (A w : rI) : Prop := ∀ k, k < sN A → (∃ p, w (8 + k) = nI p ∧ p ≤ 9) ∧ (0 < w k → ∃ x, w k = nI x ∧ x ≤ 200)
theorem WI_P {A w : rI} (I : WI A w) : WP A w := fun k hk => by
  obtain ⟨-, ⟨p, p1, p2, -⟩, x, -⟩ := I.2.2 k hk
  exact ⟨⟨p, p1, p2⟩, x⟩
theorem WI_p0 {A w : rI} (I : WI A w) : ∀ k, k < sN A → ¬ w (16 + k) = nI 2 → ¬ w (8 + k) = 0 := fun k hk h2 => by
  obtain ⟨-, ⟨p, p1, p2, p3⟩, -, -⟩ := I.2.2 k hk
  have := p3 h2
  rw [p1]
  exact nI_ne0 (by omega) (by omega)
theorem WI_h {A w : rI} (I : WI A w) : ∀ k, k < sN A → w (24 + k) = nI 0 ∨ w (24 + k) = nI 1 := fun k hk => by
  rcases (I.2.2 k hk).2.2.2 with e | e
  · exact Or.inl e
  · exact Or.inr e.1
theorem CI_eq {w u : rI} {k : Nat} (h1 : u k = w k) (h2 : u (8 + k) = w (8 + k)) (h3 : u (16 + k) = w (16 + k)) (h4 : u (24 + k) = w (24 + k)) (C : CI w k) : CI u k := by
  unfold CI at *
  rw [h1, h2, h3, h4]
  exact C
theorem sO_12 (A : rI) : sO A = nI 1 ∨ sO A = nI 2 := by
  unfold sO
  split
  · exact Or.inr rfl
  · exact Or.inl rfl
theorem sDv_lo {A : rI} {wl : Int32} {c : Nat} {w : rI} {k : Nat} (h1 : k ≠ 16 + c) (h2 : k ≠ 40) : sDv A wl c w k = w k := by
  unfold sDv
  split
  · split
    · rw [up_ne h1]
    · split
      · rw [up_ne h1]
      · rw [up_ne h1, up_ne h2]
  · rfl
theorem sDe_lo {A : rI} {wl : Int32} {c : Nat} {w : rI} {k : Nat} (h1 : k ≠ 16 + c) (h2 : k ≠ 40) (h3 : k ≠ 41) : sDe A wl c w k = w k := by
  unfold sDe
  rw [up_ne h3, sDv_lo h1 h2]
theorem sDe_16 {A : rI} {wl : Int32} {c : Nat} {w : rI} (hc : c < 8) : sDe A wl c w (16 + c) = w (16 + c) ∨ (sAs A w c = true ∧ (sDe A wl c w (16 + c) = nI 1 ∨ sDe A wl c w (16 + c) = nI 2)) := by
  unfold sDe
  rw [up_ne (by omega)]
  unfold sDv
  by_cases q : sAs A w c = true
  · right
    refine ⟨q, ?_⟩
    rw [if_pos q]
    split
    · rw [up_s]; exact Or.inl rfl
    · split
      · rw [up_s]; exact Or.inr rfl
      · rw [up_s]
        split
        · exact Or.inr rfl
        · exact Or.inl rfl
  · left
    rw [if_neg q]
theorem WI_De {A w : rI} {wl : Int32} {c : Nat} (W2 : sN A ≤ 8) (hc : c < sN A) (I : WI A w) : WI A (sDe A wl c w) := by
  obtain ⟨i1, i2, i3⟩ := I
  refine ⟨?_, ?_, fun k hk => ?_⟩
  · rw [sDe_lo (by omega) (by omega) (by omega), sDe_lo (by omega) (by omega) (by omega)]; exact i1
  · rw [sDe_lo (by omega) (by omega) (by omega), sDe_lo (by omega) (by omega) (by omega)]; exact i2
  · have C := i3 k hk
    have e1 : sDe A wl c w k = w k := sDe_lo (by omega) (by omega) (by omega)
    have e2 : sDe A wl c w (8 + k) = w (8 + k) := sDe_lo (by omega) (by omega) (by omega)
    have e4 : sDe A wl c w (24 + k) = w (24 + k) := sDe_lo (by omega) (by omega) (by omega)
    by_cases z : k = c
    · subst z
      rcases sDe_16 (A := A) (wl := wl) (w := w) (c := k) (by omega) with e | ⟨e, e3⟩
      · exact CI_eq e1 e2 e e4 C
      · obtain ⟨c1, ⟨p, p1, p2, p3⟩, c3, c4⟩ := C
        have a0 : w (16 + k) = 0 := (of_decide_eq_true e).1
        have hp := p3 (by rw [a0]; decide)
        unfold CI
        rw [e1, e2, e4]
        exact ⟨Or.inr e3, ⟨p, p1, p2, fun _ => hp⟩, c3, c4⟩
    · exact CI_eq e1 e2 (sDe_lo (by omega) (by omega) (by omega)) e4 C
theorem WI_Ds {A w : rI} {wl : Int32} (W2 : sN A ≤ 8) (I : WI A w) : WI A (sDs A wl w) := fo_in (P := fun _ u => WI A u) I fun k u hk J => WI_De W2 hk J
theorem sDs_lo {A w : rI} {wl : Int32} (W2 : sN A ≤ 8) {k : Nat} (h1 : k < 16 ∨ 24 ≤ k) (h2 : k ≠ 40) (h3 : k ≠ 41) : sDs A wl w k = w k := fo_in (P := fun _ (u : rI) => u k = w k) rfl fun j u hj J => (sDe_lo (by omega) h2 h3).trans J
theorem sDs_41 {A w : rI} {wl : Int32} (h : w 41 = nI 0) : sDs A wl w 41 = nI (sN A) := fo_in (P := fun j (u : rI) => u 41 = nI j) h fun j u hj J => up_s
theorem sIn_lo {A w : rI} {k : Nat} (h : k < 33 ∨ 35 ≤ k) : sIn A w k = w k := by
  unfold sIn
  split
  · rw [up_ne (by omega), up_ne (by omega)]
  · rfl
theorem WI_In {A w : rI} (W2 : sN A ≤ 8) (I : WI A w) : WI A (sIn A w) := by
  obtain ⟨i1, i2, i3⟩ := I
  refine ⟨?_, ?_, fun k hk => CI_eq (sIn_lo (by omega)) (sIn_lo (by omega)) (sIn_lo (by omega)) (sIn_lo (by omega)) (i3 k hk)⟩
  · unfold sIn
    split
    · right
      rw [up_ne (by omega), up_s, up_s]
      exact ⟨rfl, Or.inl rfl⟩
    · exact i1
  · rw [sIn_lo (by omega), sIn_lo (by omega)]; exact i2
/-- how far a car is that stood before another -/
def BI (b : Int32) : Prop := b = -1 ∨ ∃ y, b = nI y ∧ 1 ≤ y ∧ y ≤ 200
theorem i_sub {x p : Nat} (hx : x ≤ 200) (hp : p ≤ 9) : ¬ nI x < nI x - nI p ∧ (0 < nI x - nI p → nI x - nI p = nI (x - p) ∧ 1 ≤ x - p) := by
  constructor
  · rw [Int32.lt_iff_toInt_lt, pk_sub_toInt (by omega) (by omega), nI_toInt (by omega)]
    omega
  · intro h
    rw [Int32.lt_iff_toInt_lt, pk_sub_toInt (by omega) (by omega)] at h
    have h0 : (0 : Int32).toInt = 0 := by decide
    rw [h0] at h
    exact ⟨pk_sub (by omega), by omega⟩
theorem gP_p {w : rI} {c p : Nat} (e : w (8 + c) = nI p) (hp : p ≤ 9) : ∃ r, gP w c = nI r ∧ r ≤ 9 := by
  unfold gP
  rw [e]
  have g : (0 < nI p) = (0 < p) := nI_gz (by omega)
  by_cases z : 0 < p
  · rw [if_pos (by rw [g]; exact z), pk_sub (by omega)]; exact ⟨p - 1, rfl, by omega⟩
  · rw [if_neg (by rw [g]; exact z)]; exact ⟨0, rfl, by omega⟩
theorem CI_Go {w : rI} {b : Int32} {c : Nat} (hc : c < 8) (C : CI w c) (h0 : 0 < w c) (hb : BI b) : CI (sGo w b c) c := by
  obtain ⟨c1, ⟨p, p1, p2, p3⟩, c3, c4⟩ := C
  obtain ⟨x, x1, x2⟩ := c3 h0
  have s16 : sGo w b c (16 + c) = w (16 + c) := by
    unfold sGo gW
    rw [up_ne (by omega)]
    split
    · rw [up_ne (by omega), up_ne (by omega)]
    · rw [up_ne (by omega)]
  by_cases st : w (16 + c) = nI 2
  · obtain ⟨r, r1, r2⟩ := gP_p p1 p2
    have s0 : sGo w b c c = nI x - nI r := by unfold sGo gW; rw [if_pos st, up_ne (by omega), up_s, x1, r1]
    have s8 : sGo w b c (8 + c) = nI r := by unfold sGo gW; rw [if_pos st, up_ne (by omega), up_ne (by omega), up_s, r1]
    have s24 : sGo w b c (24 + c) = nI 0 := by unfold sGo; rw [up_s, if_pos st]
    unfold CI
    rw [s0, s8, s16, s24]
    refine ⟨c1, ⟨r, rfl, r2, fun z => absurd st z⟩, fun z => ?_, Or.inl rfl⟩
    obtain ⟨e, -⟩ := (i_sub x2 r2).2 z
    exact ⟨x - r, e, by omega⟩
  · have s8 : sGo w b c (8 + c) = nI p := by unfold sGo gW; rw [if_neg st, up_ne (by omega), up_ne (by omega), p1]
    have s0 : sGo w b c c = if gT w c < gL w b c then gL w b c else gT w c := by unfold sGo gW; rw [if_neg st, up_ne (by omega), up_s]
    have s24 : sGo w b c (24 + c) = zb (decide (gT w c < gL w b c)) := by unfold sGo; rw [up_s, if_neg st]
    have eT : gT w c = nI x - nI p := by unfold gT; rw [x1, p1]
    obtain ⟨i1, i2⟩ := i_sub x2 p2
    unfold CI
    rw [s0, s8, s16, s24]
    refine ⟨c1, ⟨p, rfl, p2, p3⟩, ?_⟩
    by_cases q : gT w c < gL w b c
    · rw [if_pos q, decide_eq_true q]
      have eL : ∃ l, gL w b c = nI l ∧ 1 ≤ l ∧ l ≤ 200 := by
        have x0 : 1 ≤ x := by
          rw [x1, nI_gz (by omega)] at h0; exact h0
        unfold gL at q ⊢
        rcases hb with hb | ⟨y, hb, y1, y2⟩
        · rw [hb, if_pos rfl, x1, p1, if_neg i1] at q
          rw [eT] at q
          exact absurd q (by rw [i_irr]; exact fun z => z)
        · have nb : ¬ nI y = -1 := fun z => by rw [nI_nm1 (by omega)] at z; exact z
          rw [hb, if_neg nb, nI_add, x1]
          have g : (nI x < nI (y + 2)) = (x < y + 2) := nI_ltP (by omega) (by omega)
          by_cases z : x < y + 2
          · rw [if_pos (by rw [g]; exact z)]; exact ⟨x, rfl, by omega, x2⟩
          · rw [if_neg (by rw [g]; exact z)]; exact ⟨y + 2, rfl, by omega, by omega⟩
      obtain ⟨l, l1, l2, l3⟩ := eL
      rw [l1]
      refine ⟨fun _ => ⟨l, rfl, l3⟩, Or.inr ⟨rfl, ?_⟩⟩
      rw [nI_gz (by omega)]; omega
    · rw [if_neg q, decide_eq_false q, eT]
      refine ⟨fun z => ?_, Or.inl rfl⟩
      obtain ⟨e, -⟩ := i2 z
      exact ⟨x - p, e, by omega⟩
theorem CI_d {w : rI} {k : Nat} (C : CI w k) (h : 0 < w k) : ∃ y, w k = nI y ∧ 1 ≤ y ∧ y ≤ 200 := by
  obtain ⟨x, x1, x2⟩ := C.2.2.1 h
  refine ⟨x, x1, ?_, x2⟩
  rw [x1, nI_gz (by omega)] at h
  exact h
def PJ (A : rI) (s : sM) : Prop := (∀ k, k < sN A → CI s.1 k) ∧ BI s.2.2.1
theorem PJ_mv {A : rI} {s : sM} {c : Nat} (W2 : sN A ≤ 8) (hc : c < sN A) (h0 : 0 < s.1 c) (J : PJ A s) : PJ A (sMv c s) := by
  obtain ⟨j1, j2⟩ := J
  have g := CI_Go (b := s.2.2.1) (by omega) (j1 c hc) h0 j2
  refine ⟨fun k hk => ?_, ?_⟩
  · show CI (sGo s.1 s.2.2.1 c) k
    by_cases z : k = c
    · rw [z]; exact g
    · exact CI_eq (sGo_at z (by omega) (by omega)) (sGo_at (by omega) (by omega) (by omega)) (sGo_at (by omega) (by omega) (by omega)) (sGo_at (by omega) (by omega) (by omega)) (j1 k hk)
  · show BI (if 0 < sGo s.1 s.2.2.1 c c ∧ (sGo s.1 s.2.2.1 c (16 + c) = nI 2 ∨ ¬ sGo s.1 s.2.2.1 c (24 + c) = 0) then im s.2.2.1 (sGo s.1 s.2.2.1 c c) else s.2.2.1)
    split
    · rename_i z
      unfold im
      split
      · exact Or.inr (CI_d g z.1)
      · exact j2
    · exact j2
theorem PJ_ln {A : rI} {lane : Int32} (W2 : sN A ≤ 8) : ∀ (f : Nat) (s : sM), PJ A s → PJ A (sLn A lane f s)
  | 0, s, J => J
  | f + 1, s, J => by
    cases q : sNe A s.1 s.2.1 lane with
    | none => rw [sLn_none q]; exact J
    | some c =>
      obtain ⟨c1, -, -, c4⟩ := sNe_some q
      rw [sLn_some q]
      exact PJ_ln W2 f _ (PJ_mv W2 c1 c4 J)
theorem sZh_lo {w : rI} {k : Nat} (h : k < 24 ∨ 32 ≤ k) : sZh w k = w k := if_neg (by omega)
theorem CI_Cg {A w : rI} (W2 : sN A ≤ 8) (I : ∀ k, k < sN A → CI w k) : ∀ k, k < sN A → CI (sCg A w).1 k :=
  fo_in (P := fun _ (p : sP) => ∀ k, k < sN A → CI p.1 k) (f := sLa A) (s := (sZh w, fun _ => false, none)) (fun k hk => by
    obtain ⟨c1, c2, c3, -⟩ := I k hk
    have e4 : sZh w (24 + k) = nI 0 := if_pos (by omega)
    show CI (sZh w) k
    unfold CI
    rw [e4, sZh_lo (k := 16 + k) (by omega), sZh_lo (k := 8 + k) (by omega), sZh_lo (k := k) (by omega)]
    exact ⟨c1, c2, c3, Or.inl rfl⟩) fun j p hj J => (PJ_ln W2 8 (p.1, p.2.1, -1, none) ⟨J, Or.inl rfl⟩).1
theorem sCg_K {A w : rI} (W2 : sN A ≤ 8) : sK A w (sL A) (sCg A w) := fo_in (P := fun k p => sK A w k p) (f := sLa A) (s := (sZh w, fun _ => false, none)) sK_0 fun k p hk K => sK_la W2 K
theorem sCg_hi {A w : rI} (W2 : sN A ≤ 8) {k : Nat} (h : 32 ≤ k) : (sCg A w).1 k = w k := (sCg_K W2).2.2.2.2.1 k h
theorem WI_Cg {A w : rI} (W2 : sN A ≤ 8) (I : WI A w) : WI A (sCg A w).1 := by
  obtain ⟨i1, i2, i3⟩ := I
  refine ⟨?_, ?_, CI_Cg W2 i3⟩
  · rw [sCg_hi W2 (by omega), sCg_hi W2 (by omega)]; exact i1
  · rw [sCg_hi W2 (by omega), sCg_hi W2 (by omega)]; exact i2
theorem sE1_lo {A w : rI} {kn : Option Nat} {k : Nat} (h : k < 32) : sE1 A w kn k = w k := by
  unfold sE1
  cases kn with
  | some j =>
    show va_up (va_up (va_up w 37 (nI 2)) 39 (nI j)) 38 _ k = w k
    rw [up_ne (by omega), up_ne (by omega), up_ne (by omega)]
  | none =>
    show (if w 33 = nI 1 then _ else w) k = w k
    split
    · split
      · rw [up_ne (by omega)]
      · rw [up_ne (by omega), up_ne (by omega), up_ne (by omega), up_ne (by omega)]
    · rfl
theorem sE2_lo {w : rI} {k : Nat} (h : k ≠ 35) (h2 : k ≠ 36) : sE2 w k = w k := by
  unfold sE2
  rw [up_ne h2, up_ne h]
theorem sE3_lo {w : rI} {k : Nat} (h : k ≠ 37) (h2 : k ≠ 41) : sE3 w k = w k := by
  unfold sE3
  rw [up_ne h2]
  split
  · rw [up_ne h]
  · rfl
theorem WI_E1 {A w : rI} {kn : Option Nat} (W : WFs A) (I : WI A w) (h37 : w 37 = 0) : WI A (sE1 A w kn) := by
  have W2 := W.2.1
  obtain ⟨i1, i2, i3⟩ := I
  refine ⟨?_, ?_, fun k hk => CI_eq (sE1_lo (by omega)) (sE1_lo (by omega)) (sE1_lo (by omega)) (sE1_lo (by omega)) (i3 k hk)⟩
  · unfold sE1
    cases kn with
    | some j =>
      show (va_up (va_up (va_up w 37 (nI 2)) 39 (nI j)) 38 _ 33 = 0 ∨ (va_up (va_up (va_up w 37 (nI 2)) 39 (nI j)) 38 _ 33 = nI 1 ∧ (va_up (va_up (va_up w 37 (nI 2)) 39 (nI j)) 38 _ 34 = nI 0 ∨ (va_up (va_up (va_up w 37 (nI 2)) 39 (nI j)) 38 _ 34 = nI 1 ∧ _))))
      rw [up_ne (by omega), up_ne (by omega), up_ne (by omega), up_ne (by omega), up_ne (by omega), up_ne (by omega)]
      exact i1
    | none =>
      rcases i1 with e | ⟨e, e2⟩
      · show ((if w 33 = nI 1 then _ else w) 33 = 0 ∨ _)
        rw [if_neg (by rw [e]; decide)]
        exact Or.inl e
      · dsimp only
        rw [if_pos e]
        by_cases z : w 34 + nI 1 < sO A
        · rw [if_pos z]
          right
          rw [up_ne (by omega), up_s]
          refine ⟨e, ?_⟩
          rcases e2 with e2 | ⟨e2, e3⟩
          · rw [e2] at z ⊢
            rcases sO_12 A with o | o
            · rw [o] at z; exact absurd z (by decide)
            · exact Or.inr ⟨by decide, o⟩
          · rw [e2, e3] at z; exact absurd z (by decide)
        · rw [if_neg z]
          left
          rw [up_ne (by omega), up_ne (by omega), up_s]
          exact nI_0
  · obtain ⟨p, p1, p2⟩ := i2 h37
    unfold sE1
    cases kn with
    | some j =>
      intro z
      have z : va_up (va_up (va_up w 37 (nI 2)) 39 (nI j)) 38 _ 37 = 0 := z
      rw [up_ne (by omega), up_ne (by omega), up_s] at z
      exact absurd z (by decide)
    | none =>
      dsimp only
      split
      · split
        · intro _
          rw [up_ne (by omega)]
          exact ⟨p, p1, p2⟩
        · intro z
          rw [up_s] at z
          rw [up_ne (by omega), up_s, p1, nI_add]
          refine ⟨p + 1, rfl, ?_⟩
          by_cases y : w 32 + nI 1 = A 0
          · rw [if_pos y] at z; exact absurd z (by decide)
          · rw [p1, nI_add, W.2.2.1, nI_eqI (by have := W.2.2.2.2.1; omega) (by have := W.2.2.2.2.1; omega)] at y
            omega
      · intro _; exact ⟨p, p1, p2⟩
theorem WI_E3 {A w : rI} (W2 : sN A ≤ 8) (I : WI A w) : WI A (sE3 (sE2 w)) := by
  obtain ⟨i1, i2, i3⟩ := I
  have lo : ∀ k, k ≠ 35 → k ≠ 36 → k ≠ 37 → k ≠ 41 → sE3 (sE2 w) k = w k := fun k h1 h2 h3 h4 => (sE3_lo h3 h4).trans (sE2_lo h1 h2)
  refine ⟨?_, ?_, fun k hk => CI_eq (lo _ (by omega) (by omega) (by omega) (by omega)) (lo _ (by omega) (by omega) (by omega) (by omega)) (lo _ (by omega) (by omega) (by omega) (by omega)) (lo _ (by omega) (by omega) (by omega) (by omega)) (i3 k hk)⟩
  · rw [lo 33 (by omega) (by omega) (by omega) (by omega), lo 34 (by omega) (by omega) (by omega) (by omega)]; exact i1
  · intro z
    rw [lo 32 (by omega) (by omega) (by omega) (by omega)]
    refine i2 ?_
    unfold sE3 at z
    rw [up_ne (by omega)] at z
    split at z
    · rw [up_s] at z; exact absurd z (by decide)
    · rw [sE2_lo (by omega) (by omega)] at z; exact z
theorem WI_Tk {A w : rI} (W : WFs A) (I : WI A w) (h37 : w 37 = 0) : WI A (sTk A w) :=
  WI_E3 W.2.1 (WI_E1 W (WI_Cg W.2.1 (WI_In W.2.1 I)) (by rw [sCg_hi W.2.1 (by omega), sIn_lo (by omega)]; exact h37))
theorem sE1_hi {A w : rI} {kn : Option Nat} {k : Nat} (h : k = 35 ∨ k = 36 ∨ 40 ≤ k) : sE1 A w kn k = w k := by
  unfold sE1
  cases kn with
  | some j =>
    show va_up (va_up (va_up w 37 (nI 2)) 39 (nI j)) 38 _ k = w k
    rw [up_ne (by omega), up_ne (by omega), up_ne (by omega)]
  | none =>
    show (if w 33 = nI 1 then _ else w) k = w k
    split
    · split
      · rw [up_ne (by omega)]
      · rw [up_ne (by omega), up_ne (by omega), up_ne (by omega), up_ne (by omega)]
    · rfl
theorem sTk_36 {A w : rI} (W2 : sN A ≤ 8) : sTk A w 36 = w 36 + nI 1 := by
  unfold sTk
  rw [sE3_lo (by omega) (by omega)]
  unfold sE2
  rw [up_s, sE1_hi (by omega), sCg_hi W2 (by omega), sIn_lo (by omega)]
theorem sTk_41 {A w : rI} : sTk A w 41 = nI 0 := by unfold sTk sE3; exact up_s
theorem sTk_40 {A w : rI} (W2 : sN A ≤ 8) : sTk A w 40 = w 40 := by
  unfold sTk
  rw [sE3_lo (by omega) (by omega), sE2_lo (by omega) (by omega), sE1_hi (by omega), sCg_hi W2 (by omega), sIn_lo (by omega)]
theorem sB0_at {A w : rI} {wc : Int32} {n k : Nat} (h : 16 ≤ k) (hn : n ≤ 8) (hk : k < 42) : sB0 A w wc n k = nI 0 := by
  unfold sB0
  rw [if_neg (by omega), if_neg (by omega), if_pos hk]
theorem sBg_at {A w : rI} {wc seed : Int32} {k : Nat} (W2 : sN A ≤ 8) (h : 16 ≤ k) (h2 : k ≠ 39) (h3 : k ≠ 40) (hk : k < 42) : sBg A w wc seed k = nI 0 := by
  unfold sBg
  rw [up_ne h3, up_ne h2, sB0_at h W2 hk]
theorem WI_Bg {A w : rI} {wc seed : Int32} (W : WFs A) : WI A (sBg A w wc seed) := by
  obtain ⟨w1, w2, w3, w4, w5, w6, w7, w8, w9, -⟩ := W
  refine ⟨Or.inl ((sBg_at w2 (by omega) (by omega) (by omega) (by omega)).trans nI_0), fun _ => ⟨0, sBg_at w2 (by omega) (by omega) (by omega) (by omega), w4⟩, fun k hk => ?_⟩
  unfold CI
  rw [sBg_at (k := 16 + k) w2 (by omega) (by omega) (by omega) (by omega), sBg_at (k := 24 + k) w2 (by omega) (by omega) (by omega) (by omega)]
  have e0 : sBg A w wc seed k = if nI k = wc then nI 0 else A (10 + k) := by
    unfold sBg sB0
    rw [up_ne (by omega), up_ne (by omega), if_pos hk]
  have e8 : sBg A w wc seed (8 + k) = sBp A k := by
    unfold sBg sB0
    rw [up_ne (by omega), up_ne (by omega), if_neg (by omega), if_pos (by omega), Nat.add_sub_cancel_left]
  rw [e0, e8]
  refine ⟨Or.inl nI_0, ?_, fun _ => ?_, Or.inl rfl⟩
  · obtain ⟨x, x1, x2, x3⟩ := w8 k hk
    unfold sBp
    rw [x1]
    split
    · exact ⟨4, rfl, by omega, fun _ => by omega⟩
    · exact ⟨x, rfl, x3, fun _ => x2⟩
  · split
    · exact ⟨0, rfl, by omega⟩
    · obtain ⟨x, x1, x2, x3⟩ := w7 k hk
      exact ⟨x, x1, x3⟩
theorem sLn_fc {A : rI} {lane : Int32} {n : Nat} : ∀ (f : Nat) (s : sM), (∀ j, s.2.2.2 = some j → j < sN A) → ∀ j, (sLn A lane f s).2.2.2 = some j → j < sN A
  | 0, s, h => h
  | f + 1, s, h => by
    cases q : sNe A s.1 s.2.1 lane with
    | none => rw [sLn_none q]; exact h
    | some c =>
      have c1 := (sNe_some q).1
      rw [sLn_some q]
      refine sLn_fc (n := n) f _ fun j e => ?_
      have e : (if 0 < sGo s.1 s.2.2.1 c c then s.2.2.2 else fmin c s.2.2.2) = some j := e
      by_cases q1 : 0 < sGo s.1 s.2.2.1 c c
      · rw [if_pos q1] at e; exact h j e
      · rw [if_neg q1] at e
        cases qf : s.2.2.2 with
        | none => rw [qf] at e; injection e with e; subst e; exact c1
        | some i =>
          rw [qf] at e
          have e : (if c < i then some c else some i) = some j := e
          by_cases q2 : c < i
          · rw [if_pos q2] at e; cases e; exact c1
          · rw [if_neg q2] at e; cases e; exact h _ qf
theorem sCg_kc {A w : rI} (W2 : sN A ≤ 8) : ∀ j, (sCg A w).2.2 = some j → j < sN A :=
  fo_in (P := fun _ (p : sP) => ∀ j, p.2.2 = some j → j < sN A) (f := sLa A) (s := (sZh w, fun _ => false, none)) (fun j e => by cases e) fun k p hk J j e => by
    have e : (if p.1 33 = nI 1 ∧ nI k = p.1 32 then (sLn A (nI k) 8 (p.1, p.2.1, -1, none)).2.2.2 else p.2.2) = some j := e
    by_cases q : p.1 33 = nI 1 ∧ nI k = p.1 32
    · rw [if_pos q] at e
      exact sLn_fc (n := 0) 8 (p.1, p.2.1, -1, none) (fun j e => by cases e) j e
    · rw [if_neg q] at e; exact J j e
