/-! ALL THAT DRIVERS MAY DECIDE: what the parts come to: plain Lean -/
section
variable {A w : rI} {wl wc : Int32}
theorem sSt_le (WL : WFl A) {c : Nat} : ∃ x, sSt A w wl c = nI x ∧ x ≤ 100 := by
  unfold sSt
  cases q : fi_ (fun k => !decide (nI k = wl) && sSo A w c k) (sNl A) with
  | none => exact ⟨0, rfl, by omega⟩
  | some k => exact (WL.2.2 k (fi_some q).1).1
theorem sCh_l5 (WL : WFl A) {c : Nat} : ∃ x, sCh A w wl c = nI x ∧ x ≤ 100 := by
  unfold sCh
  split
  · exact sSt_le WL
  · exact ⟨0, rfl, by omega⟩
/-- what branches add: to the parts that end over, to ticks, to all -/
def BN (r a : aC) (Wn : Nat) : Prop := (∃ n, n ≤ Wn ∧ r.1 0 = a.1 0 + lN n) ∧ (∃ n, n ≤ 99 * Wn ∧ r.1 3 = a.1 3 + lN n) ∧ r.1 5 = a.1 5 + lN Wn
theorem BN_two {r a b : aC} {Wn x : Nat} (hx : x ≤ 100) (hd : 100 ∣ Wn) (h1 : BN b a (Wn / 100 * x)) (h2 : BN r b (Wn / 100 * (100 - x))) : BN r a Wn := by
  obtain ⟨⟨n1, a1, a2⟩, ⟨n3, a3, a4⟩, a5⟩ := h1
  obtain ⟨⟨m1, b1, b2⟩, ⟨m3, b3, b4⟩, b5⟩ := h2
  obtain ⟨g, rfl⟩ := hd
  rw [Nat.mul_div_cancel_left _ (by decide)] at *
  have e : g * x + g * (100 - x) = 100 * g := by rw [← Nat.mul_add, Nat.add_sub_cancel' hx, Nat.mul_comm]
  refine ⟨⟨n1 + m1, by omega, ?_⟩, ⟨n3 + m3, by omega, ?_⟩, ?_⟩
  · rw [b2, a2, Int64.add_assoc, lN_add]
  · rw [b4, a4, Int64.add_assoc, lN_add]
  · rw [b5, a5, Int64.add_assoc, lN_add, e]
theorem lN_0 : lN 0 = 0 := rfl
theorem lF_BN {a : aC} {Wn t : Nat} (h36 : w 36 = nI t) (ht : t ≤ 99) (h37 : w 37 = nI 1 ∨ w 37 = nI 2 ∨ w 37 = nI 3) : BN (lF A w (lN Wn) a) a Wn := by
  obtain ⟨e, he, ee⟩ : ∃ e, e < 3 ∧ (w 37 - nI 1).toNatClampNeg = e := by
    rcases h37 with z | z | z
    · exact ⟨0, by omega, by rw [z]; decide⟩
    · exact ⟨1, by omega, by rw [z]; decide⟩
    · exact ⟨2, by omega, by rw [z]; decide⟩
  unfold BN lF
  dsimp only
  rw [ee]
  refine ⟨?_, ⟨Wn * t, ?_, ?_⟩, ?_⟩
  · rw [up_ne (show 0 ≠ 5 by omega), up_ne (show 0 ≠ 4 by omega), up_ne (show 0 ≠ 3 by omega)]
    by_cases z : 0 = e
    · subst z; rw [up_s]; exact ⟨Wn, Nat.le_refl _, rfl⟩
    · rw [up_ne z]; exact ⟨0, Nat.zero_le _, by rw [lN_0, Int64.add_zero]⟩
  · rw [Nat.mul_comm]; exact Nat.mul_le_mul_right _ ht
  · rw [up_ne (show 3 ≠ 5 by omega), up_ne (show 3 ≠ 4 by omega), up_s, h36, nI_l (by omega), lN_mul]
  · rw [up_s]
theorem sBr_a5 (W : WFs A) (WL : WFl A) : ∀ (f : Nat) (w : rI) (a : aC) (Wn : Nat), WB A w → 99 - (w 36).toNatClampNeg + ud (sN A) w + 1 ≤ f → 100 ^ ud (sN A) w ∣ Wn → BN (sBr A wl f w Wn a) a Wn
  | 0, w, a, Wn, B, hf, hd => by omega
  | f + 1, w, a, Wn, B, hf, hd => by
    have B0 := B
    obtain ⟨I, ⟨t, t1, t2, t3⟩, h37, h39, k, e41, hk⟩ := B
    have W2 := W.2.1
    have et : (w 36).toNatClampNeg = t := by rw [t1]; exact nI_clamp (by omega)
    rw [et] at hf
    show BN (if w 37 = 0 then _ else _) a Wn
    by_cases q : w 37 = 0
    · rw [if_pos q]
      have t4 := t3 q
      have dk := dN_ok (wl := wl) W2 (sN A - k) k w (by omega) e41 I
      rw [e41, nI_clamp (by omega)]
      generalize dN A wl (sN A - k) k w = r at dk
      obtain ⟨u, o⟩ := r
      obtain ⟨I1, D2, D3, D4, D5⟩ := dk
      dsimp only at I1 D2 D3 D4 D5
      have u37 : u 37 = 0 := (D3 37 (by omega) (by omega)).trans q
      have u36 : u 36 = nI t := (D3 36 (by omega) (by omega)).trans t1
      have u39 : u 39 = w 39 := D3 39 (by omega) (by omega)
      have eu : (u 36).toNatClampNeg = t := by rw [u36]; exact nI_clamp (by omega)
      have hdu : 100 ^ ud (sN A) u ∣ Wn := Nat.dvd_trans (Nat.pow_dvd_pow 100 D2) hd
      cases o with
      | none =>
        have Bu : WB A u := ⟨I1, ⟨t, u36, t2, fun _ => t4⟩, Or.inl u37, by rw [u39]; exact h39, sN A, D4 rfl, Nat.le_refl _⟩
        have T : ud (sN A) (sTk A u) = ud (sN A) u := ud_eq fun k hk => sTk_16 W2 (by omega)
        have e36 : (sTk A u 36).toNatClampNeg = t + 1 := by rw [sTk_36 W2, u36, nI_add]; exact nI_clamp (by omega)
        exact sBr_a5 W WL f (sTk A u) a Wn (WB_Tk W Bu u37) (by rw [e36, T]; omega) (by rw [T]; exact hdu)
      | some c =>
        obtain ⟨c1, c2, c3, c4, c5⟩ := D5 c rfl
        have Bu : WB A u := ⟨I1, ⟨t, u36, t2, fun _ => t4⟩, Or.inl u37, by rw [u39]; exact h39, c, c2, by omega⟩
        have h0 := sAs_0 c3
        obtain ⟨x, x1, x2⟩ := sCh_l5 (A := A) (w := u) (wl := wl) (c := c) WL
        have u1 : ∀ b : Int32, ¬ b = 0 → ud (sN A) (va_up u (16 + c) b) + 1 = ud (sN A) u := fun b hb => ud_one c1 h0 (by rw [up_s]; exact hb) (fun k hk hne => up_ne (by omega))
        have h100 : 100 ∣ Wn := Nat.dvd_trans (by rw [← u1 (nI 1) (by decide), Nat.pow_succ]; exact Nat.dvd_mul_left _ _) hdu
        have go : ∀ (b : Int32) (y : Nat) (p : aC), (b = nI 1 ∨ b = nI 2) → BN (sBr A wl f (va_up u (16 + c) b) (Wn / 100 * y) p) p (Wn / 100 * y) := by
          intro b y p hb
          have b0 : ¬ b = 0 := by rcases hb with rfl | rfl <;> decide
          have h1 := u1 b b0
          refine sBr_a5 W WL f _ p _ (WB_16 W2 c1 h0 hb c2 Bu) ?_ ?_
          · rw [up_ne (by omega), eu]; omega
          · obtain ⟨g, hg⟩ := hdu
            rw [hg, ← h1, Nat.pow_succ, Nat.mul_assoc, Nat.mul_left_comm, Nat.mul_div_cancel_left _ (by decide)]
            exact Nat.dvd_trans (Nat.dvd_mul_right _ _) (Nat.dvd_mul_right _ _)
        show BN (sBr A wl f (va_up u (16 + c) (nI 1)) (Wn / 100 * (100 - (sCh A u wl c).toNatClampNeg)) (sBr A wl f (va_up u (16 + c) (nI 2)) (Wn / 100 * (sCh A u wl c).toNatClampNeg) a)) a Wn
        rw [x1, nI_clamp (by omega)]
        exact BN_two x2 h100 (go _ _ _ (Or.inr rfl)) (go _ _ _ (Or.inl rfl))
    · rw [if_neg q]
      exact lF_BN t1 t2 (h37.resolve_left q)
/-- the odds' parts: those that end over, ticks, all -/
theorem sOd_n (W : WFs A) (WL : WFl A) : (∃ n, n ≤ 100 ^ sN A ∧ (sOd A w wl wc).1 0 = lN n) ∧ (∃ n, n ≤ 99 * 100 ^ sN A ∧ (sOd A w wl wc).1 3 = lN n) ∧ (sOd A w wl wc).1 5 = lN (100 ^ sN A) := by
  have W2 := W.2.1
  have ul := ud_le (n := sN A) (w := sBg A w wc (nI 0))
  have e36 : (sBg A w wc (nI 0) 36).toNatClampNeg = 0 := by
    rw [sBg_at W2 (by omega) (by omega) (by omega) (by omega)]; exact nI_clamp (by omega)
  obtain ⟨⟨n, h1, h2⟩, ⟨k, h3, h4⟩, h5⟩ := sBr_a5 (wl := wl) W WL 108 (sBg A w wc (nI 0)) aC0 (100 ^ sN A) (WB_Bg W) (by rw [e36]; omega) (Nat.pow_dvd_pow 100 ul)
  refine ⟨⟨n, h1, h2.trans ?_⟩, ⟨k, h3, h4.trans ?_⟩, h5.trans ?_⟩
  · exact Int64.zero_add _
  · exact Int64.zero_add _
  · exact Int64.zero_add _
/-- where walks begin alike -/
theorem Bg_same (W : WFs A) {u : rI} : RW (fun k => k) A A (sBg A w wc (nI 0)) (sBg A u wc (nI 0)) := by
  have W2 := W.2.1
  have e : ∀ k, k < 42 → sBg A w wc (nI 0) k = sBg A u wc (nI 0) k := by
    intro k hk
    unfold sBg va_up sB0
    split
    · rfl
    · split
      · rfl
      · split
        · rfl
        · split
          · rfl
          · rfl
  refine ⟨fun k hk => ⟨e k (by omega), e (8 + k) (by omega), e (16 + k) (by omega), e (24 + k) (by omega)⟩, fun c hc hx => absurd rfl (hx c hc), e _ (by omega), e _ (by omega), e _ (by omega), e _ (by omega), e _ (by omega), e _ (by omega), e _ (by omega)⟩
theorem RA_same (W : WFs A) : RA (fun k => k) A A := ⟨W.2.1, fun k hk => hk, fun j k hj hk => hj, fun k hk => ⟨rfl, rfl⟩, rfl, rfl, rfl, rfl, rfl, rfl⟩
/-- what stood above the walk's numbers is of no account -/
theorem sOd_w (W : WFs A) (WL : WFl A) {u : rI} {j : Nat} (hj : j < 5) : (sOd A w wl wc).1 j = (sOd A u wl wc).1 j := by
  have W2 := W.2.1
  have ul := ud_le (n := sN A) (w := sBg A u wc (nI 0))
  have h := sBr_i (K := 1) (RA_same W) (HS_same (wl := wl) (RA_same W) WL (fun _ _ _ => rfl)) 108 (sBg A w wc (nI 0)) (sBg A u wc (nI 0)) 0 0 (100 ^ sN A) aC0 aC0 (Bg_same W) (sBg_at W2 (by omega) (by omega) (by omega) (by omega)) (sBg_at W2 (by omega) (by omega) (by omega) (by omega)) (Nat.zero_le _) (Nat.zero_le _) ⟨fun k hk => by omega, fun k _ _ => Nat.zero_le _⟩ (Nat.pow_dvd_pow 100 ul) (fun j _ => by show (0 : Int64) = lN 1 * 0; rw [Int64.mul_zero]) j hj
  rw [Nat.one_mul] at h
  refine h.trans ?_
  exact Int64.one_mul _
end
