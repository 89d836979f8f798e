/-! A NEW LIST; a law with a line less -/
section
variable {d : Nat} {h h1 : xH} {P : sS} {A B : rI} {ow : Nat → Nat} {s cc l k n t : Nat}
/-- the heap with a new list of none -/
def hL (h : xH) : xH := pR (pO (pI (pO h 4 3) (oX h) (va_up (oI (pO h 4 3) (oX h)) 0 (nI 0))) 45 2) (oX h) (va_up (oR (pO h 4 3) (oX h)) 1 (some (oX h + 1)))
theorem kJ2_init (T : TX h) : C_ (d + 3) mJ2_init [.ref (oX h), .int (nI 2)] (pO h 4 3) = some (none, hL h) := by
  unfold hL
  have t4 : oT (pO h 4 3) (oX h) = 4 := by rw [o_TO, if_pos rfl]
  have t4b : oT (pI (pO h 4 3) (oX h) (va_up (oI (pO h 4 3) (oX h)) 0 (nI 0))) (oX h) = 4 := t4
  have t4c : oT (pO (pI (pO h 4 3) (oX h) (va_up (oI (pO h 4 3) (oX h)) 0 (nI 0))) 45 2) (oX h) = 4 := by
    rw [o_TO, if_neg (by show ¬ oX h = oX h + 1; omega)]
    exact t4
  have n2 : (0 < nI 2) = True := eq_true (by decide)
  have ox : oX (pI (pO h 4 3) (oX h) (va_up (oI (pO h 4 3) (oX h)) 0 (nI 0))) = oX h + 1 := rfl
  have orr : oR (pO (pI (pO h 4 3) (oX h) (va_up (oI (pO h 4 3) (oX h)) 0 (nI 0))) 45 2) (oX h) = oR (pO h 4 3) (oX h) := by
    rw [o_RO, if_neg (by show ¬ oX h = oX h + 1; omega)]
    rfl
  have z2 : 0 ≤ (nI 2).toInt := by decide
  have z3 : (nI 2).toInt ≤ 65536 := by decide
  simp (disch := first | exact t4 | exact t4b | exact t4c | exact z2 | exact z3 | first | assumption | exact nI_ne0 (by decide) (by decide) | exact zb_01 | exact Or.inl rfl | exact Or.inr rfl | with_unfolding_all exact id (by assumption) | with_unfolding_all exact id (xix_8 (by assumption) (by omega) (by omega)) | omega) only [wJ2_init_e, wJ2_init_0, wJ2_init_1, wJ2_init_4, wJ2_init_5, wJ2_init_8, wJ2_init_9, wJ2_init_10, wJ2_init_13, wJ2_init_16, wJ2_init_19, wJ2_init_20, wJ2_init_23, wJ2_init_27, wJ2_init_30, wJ2_init_36, wJ2_init_40, wJ2_init_60, wJ1_init_e, wJ1_init_0, wJ1_init_1, wJ1_init_4, wJ1_init_5, wJ1_init_6, wJ1_init_9, wJ0_init_e, wJ0_init_0, wJ0_init_1, wJ0_init_4, if_true, if_false, ↓reduceIte, xpu_s, xpu_n, Option.bind_some, xk_i, xk_r, xk_0, xk_u, xk_l, xk_k, xk_q, rf_s, rf_n, q_e1, q_e2, Nat.zero_add, Nat.reduceEqDiff, Nat.reduceAdd, Nat.reduceMul, Nat.reduceSub, Nat.reduceLT, Nat.reduceLeDiff, Nat.reduceDiv, Nat.reduceMod, nI_c, n2, ox, orr]
theorem hL_G (T : TX h) : LG (hL h) (oX h) 0 t ∧ rq (hL h) (oX h) 1 = oX h + 1 ∧ oX (hL h) = oX h + 2 ∧ GX (fun _ => False) h (hL h) 2 5 := by
  have tl : oT (hL h) (oX h) = 4 := by
    show oT (pO _ 45 2) (oX h) = 4
    rw [o_TO, if_neg (by show ¬ oX h = oX h + 1; omega)]
    show oT (pO h 4 3) (oX h) = 4
    rw [o_TO, if_pos rfl]
  have rl : oR (hL h) (oX h) = va_up (oR (pO h 4 3) (oX h)) 1 (some (oX h + 1)) := by
    unfold hL
    rw [o_RR, if_pos rfl]
  have q : rq (hL h) (oX h) 1 = oX h + 1 := by
    unfold rq
    rw [rl, up_s]
    rfl
  have ta : oT (hL h) (oX h + 1) = 45 := by
    show oT (pO _ 45 2) (oX h + 1) = 45
    rw [o_TO]
    exact if_pos rfl
  have na : oN (hL h) (oX h + 1) = 2 := by
    show oN (pO _ 45 2) (oX h + 1) = 2
    rw [o_NO]
    exact if_pos rfl
  refine ⟨⟨⟨tl, ?_, ?_, ?_, ?_, fun k hk => by omega⟩, ?_, ?_, fun k hk => by omega⟩, q, rfl, ?_⟩
  · show oI (pO (pI (pO h 4 3) (oX h) _) 45 2) (oX h) 2 = nI 0
    rw [o_IO, if_neg (by show ¬ oX h = oX h + 1; omega), o_II, if_pos rfl, up_ne (by omega), o_IO, if_pos rfl, nI_0]
  · rw [q, rl, up_s]
  · rw [q]; exact ta
  · omega
  · rw [q, na]; omega
  · rw [q, na]; omega
  · unfold hL
    exact GX_le (GX_trans (GX_trans (GX_trans (GX_O (W := fun _ => False)) (GX_I (W := fun a => a = oX h) (fun _ => rfl)) (fun a ha z => by omega)) (GX_O (W := fun _ => False)) (fun _ _ z => z)) (GX_R (W := fun a => a = oX h) (fun _ => rfl)) (fun a ha z => by omega)) (by omega) (by omega)
/-- what is new leaves what the first object stands for -/
theorem XR_TX (X : XRo ow s h P) : TX h := fun a ha => (X.2.2.2.2.2.2.2.2.2.2.2.1 a ha).1
theorem XR_GX {c q : Nat} (X : XRo ow s h P) (g : GX (fun _ => False) h h1 c q) : XRo ow s h1 P ∧ KM h h1 := by
  have X0 := X
  obtain ⟨x1, x2, x3, x4, x5, x6, x7, x8, x9, x10, x11, x12, x13⟩ := X0
  have T := XR_TX X
  have s0 : ∀ a, a < oX h → sm h h1 a := fun a ha => g.2.2.2.2.2 a ha (fun z => z)
  have n100 : ∀ a, ¬ ow a = 100 → a < oX h := fun a ha => by
    rcases Nat.lt_or_ge a (oX h) with z | z
    · exact z
    · exact absurd (x12 a z).2 ha
  refine ⟨qF_self (P := P) ▸ XR_fr (F := pF P) X (XT_fr (fun a ha => ⟨(s0 a (by omega)).1, (s0 a (by omega)).2.1⟩) (fun j _ => by rw [(s0 64 (by omega)).2.2.2.1]) (s0 85 (by omega)).2.2.2.1 (s0 145 (by omega)).2.2.2.1 (fun a j _ _ _ => by rw [(s0 a (by omega)).2.2.2.1]) (fun a ha => (s0 a (by omega)).2.2.1) x1) (by rw [(s0 64 (by omega)).2.2.2.1]) (by rw [(s0 64 (by omega)).2.2.1]) (by rw [(s0 64 (by omega)).2.2.1]) (by rw [(s0 64 (by omega)).2.2.1]) (s0 76 (by omega)).2.2.2.1 (by rw [(s0 77 (by omega)).2.2.1]; exact x5) (s0 78 (by omega)).2.2.1 (fun r _ => (s0 _ (by omega)).2.2.2.1) (fun a ha => s0 a (n100 a ha)) (fun a h2 h3 => s0 a (TX_lt T (by omega))) g.1 (TX_G T g) (fun a ha => (s0 a (by omega)).1), fun a ha => s0 a (by omega)⟩
theorem XE_GX {c q : Nat} (E : XE ow s cc l h P) (g : GX (fun _ => False) h h1 c q) : XE ow s cc l h1 P ∧ KM h h1 := by
  obtain ⟨X1, XLx, hc, S, L, wc⟩ := E
  have T := XR_TX X1
  obtain ⟨y1, y2⟩ := XR_GX X1 g
  have s0 : ∀ a, ¬ oT h a = 0 → sm h h1 a := fun a ha => g.2.2.2.2.2 a (TX_lt T ha) (fun z => z)
  have st : ∀ a, 9 ≤ oT h a → oT h a ≤ 18 → sm h h1 a := fun a h2 h3 => s0 a (by omega)
  obtain ⟨a1, a2, a3, a4⟩ := XLx
  refine ⟨⟨y1, ?_, ?_, ?_, ?_, wc⟩, y2⟩
  · unfold XL
    have s64 := s0 64 (by omega)
    have ss := s0 s (by omega)
    rw [s64.1, s64.2.2.2.1, ss.1, ss.2.2.2.1]
    exact ⟨a1, a2, a3, a4⟩
  · rw [(s0 s (by omega)).2.2.2.1]; exact hc
  · have u := S.2.2.2.2.2.2.2.2.2.1
    exact SC_m (s0 cc (by rw [S.1]; decide)) (s0 _ (by rw [u.1]; decide)) (s0 _ (by rw [u.2.2.2.1]; decide)) st S
  · have u := L.1
    exact LW_m (s0 l (by rw [u.1]; decide)) (s0 _ (by rw [u.2.2.2.1]; decide)) st L
end
/-! without line k -/
def sk (k j : Nat) : Nat := if j < k then j else j + 1
def wo (A : rI) (k : Nat) : rI := fun i => if i = 40 then nI (sNl A - 1) else if 41 ≤ i ∧ i < 77 then A (41 + (i - 41) / 12 * 12 + sk k ((i - 41) % 12)) else A i
section
variable {A : rI} {k j : Nat}
theorem wo_lo {i : Nat} (h : i < 40 ∨ 77 ≤ i) : wo A k i = A i := by
  unfold wo
  rw [if_neg (by omega), if_neg (by omega)]
theorem wo_n (hn : sNl A ≤ 12) : sNl (wo A k) = sNl A - 1 := by
  show (wo A k 40).toNatClampNeg = _
  unfold wo
  rw [if_pos rfl]
  exact nI_clamp (by omega)
theorem wo_at {b : Nat} (hb : b = 41 ∨ b = 53 ∨ b = 65) (hj : j < 12) : wo A k (b + j) = A (b + sk k j) := by
  unfold wo
  rw [if_neg (by omega), if_pos (by omega)]
  have e1 : 41 + (b + j - 41) / 12 * 12 = b := by rcases hb with rfl | rfl | rfl <;> omega
  have e2 : (b + j - 41) % 12 = j := by rcases hb with rfl | rfl | rfl <;> omega
  rw [e1, e2]
theorem wo_f (hj : j < 12) : sFm (wo A k) j = sFm A (sk k j) ∧ sTo (wo A k) j = sTo A (sk k j) := by
  unfold sFm sTo
  rw [wo_at (by omega) hj, wo_at (by omega) hj]
  exact ⟨rfl, rfl⟩
theorem sk_lt {n : Nat} (hk : k < n) (hj : j < n - 1) : sk k j < n := by unfold sk; split <;> omega
theorem WFl_wo (W : WFl A) (hk : k < sNl A) : WFl (wo A k) := by
  obtain ⟨w1, w2, w3⟩ := W
  have en := wo_n (A := A) (k := k) w2
  refine ⟨?_, by rw [en]; omega, fun j hj => ?_⟩
  · rw [en]
    unfold wo
    rw [if_pos rfl]
  · rw [en] at hj
    obtain ⟨v1, v2, v3, v4, v5, v6⟩ := w3 (sk k j) (sk_lt hk hj)
    obtain ⟨f1, f2⟩ := wo_f (A := A) (k := k) (j := j) (by omega)
    rw [f1, f2, wo_at (by omega) (by omega), wo_at (by omega) (by omega), wo_at (by omega) (by omega)]
    exact ⟨v1, v2, v3, v4, v5, sDp_A _ _ _ _ (by omega) (fun i h1 h2 => wo_lo (by omega)) v6⟩
theorem WFs_wo (W : WFs A) : WFs (wo A k) := WFs_A (fun i hi => wo_lo (by omega)) W
theorem fi_fo {p : Nat → Bool} : ∀ n, fi_ p n = fo_ (fun k b => match b with
    | some j => some j
    | none => bif p k then some k else none) n none
  | 0 => rfl
  | n + 1 => by
    show (match fi_ p n with | some k => some k | none => bif p n then some n else none) = (match fo_ _ n none with | some j => some j | none => bif p n then some n else none)
    rw [fi_fo n]
theorem fi_i {i : Nat → Nat} {n m : Nat} {p q : Nat → Bool} (hm : ∀ k, k < m → i k < n) (mo : ∀ j k, j < k → k < m → i j < i k) (h1 : ∀ k, k < m → p (i k) = q k) (h2 : ∀ c, c < n → (∀ k, k < m → i k ≠ c) → p c = false) : fi_ p n = (fi_ q m).map i := by
  rw [fi_fo, fi_fo]
  refine fo_i (R := fun (b c : Option Nat) => b = c.map i) hm mo rfl (fun k b c hk hb => ?_) (fun c b t hc hx hb => ?_)
  · subst hb
    cases c with
    | some j => rfl
    | none =>
      show (bif p (i k) then some (i k) else none) = (bif q k then some k else none).map i
      rw [h1 k hk]
      cases q k <;> rfl
  · subst hb
    cases t with
    | some j => rfl
    | none =>
      show (bif p c then some c else none) = none
      rw [h2 c hc hx]
      rfl
/-- a law without its line k answers as the line left out does -/
theorem HS_wo (W : WFs A) (WL : WFl A) (hk : k < sNl A) : HS (fun c => c) A (wo A k) (nI k) (-1) := by
  have ra : RA (fun c => c) A (wo A k) := by
    have en : sN (wo A k) = sN A := by unfold sN; rw [wo_lo (by omega)]
    refine ⟨W.2.1, fun c hc => by rw [en] at hc; exact hc, fun j c hj _ => hj, fun c hc => ?_, ?_, ?_, ?_, ?_, ?_, ?_⟩
    · rw [en] at hc
      have := W.2.1
      rw [wo_lo (by omega), wo_lo (by omega)]; exact ⟨rfl, rfl⟩
    all_goals rw [wo_lo (by omega)]
  intro w u c R hc
  have w2 := WL.2.1
  have en := wo_n (A := A) (k := k) w2
  unfold sSt
  have e : fi_ (fun j => !decide (nI j = nI k) && sSo A w c j) (sNl A) = (fi_ (fun j => !decide (nI j = -1) && sSo (wo A k) u c j) (sNl (wo A k))).map (sk k) := by
    rw [en]
    refine fi_i (fun j hj => sk_lt hk hj) (fun j t h1 h2 => by unfold sk; split <;> split <;> omega) (fun j hj => ?_) (fun t ht hx => ?_)
    · have lt := sk_lt hk hj
      have ne : ¬ sk k j = k := by unfold sk; split <;> omega
      rw [decide_eq_false (fun z => ne ((nI_eq (by omega) (by omega)).mp z)), decide_eq_false (by rw [nI_nm1 (by omega)]; exact fun z => z)]
      have so : sSo A w c (sk k j) = sSo (wo A k) u c j := by
        unfold sSo
        obtain ⟨f1, f2⟩ := wo_f (A := A) (k := k) (j := j) (by omega)
        obtain ⟨-, -, -, v4, v5, -⟩ := WL.2.2 (sk k j) lt
        rw [f1, f2, sRn_i ra R hc (fun i h1 h2 => (wo_lo (by omega)).symm) _ _ _ (by omega)]
      rw [so]
    · have : t = k := by
        rcases Nat.lt_trichotomy t k with z | z | z
        · exact absurd (by unfold sk; rw [if_pos z]) (hx t (by omega))
        · exact z
        · exact absurd (by unfold sk; rw [if_neg (by omega)]; omega) (hx (t - 1) (by omega))
      subst this
      rw [decide_eq_true rfl]
      rfl
  rw [e]
  cases q : fi_ (fun j => !decide (nI j = -1) && sSo (wo A k) u c j) (sNl (wo A k)) with
  | none => rfl
  | some j =>
    have hj := (fi_some q).1
    rw [en] at hj
    show A (41 + sk k j) = wo A k (41 + j)
    rw [wo_at (by omega) (by omega)]
end
