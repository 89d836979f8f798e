/-! ROWS OF NUMBERS: what is filled -/
section
variable {d : Nat} {h : xH} {P : sS} {x y : Int32} {s i q n m k r j a b : Nat} {e : rL}
/-- the numbers of a row -/
def ro (P : sS) (r : Nat) : rL := fun i => pN P (40 * r + i)
def here (e : rL) (i : Nat) : Bool := decide (¬ e i < 0)
def big (e : rL) (n : Nat) : Bool := an_ (fun k => decide (1000000 < e k)) n
def dnf (e : rL) (i : Nat) : Option Nat := fi_ (fun j => here e (i - j)) (i + 1)
def upf (e : rL) (n i : Nat) : Option Nat := fi_ (fun j => here e (i + j)) (n - i)
def xdn (e : rL) (i : Nat) : Option Nat := match dnf e i with
  | some j => some (e (i - j)).toNatClampNeg
  | none => none
def xup (e : rL) (n i : Nat) : Option Nat := match upf e n i with
  | some j => some (e (i + j)).toNatClampNeg
  | none => none
/-- what is filled at a place -/
def fil (e : rL) (n i : Nat) : Option Nat := match xdn e i, xup e n i with
  | some a, some b => some ((a + b) / 2)
  | some a, none => some a
  | none, z => z
theorem big_f (h : big e n = false) (hk : k < n) : ¬ 1000000 < e k := fun y => by
  have : big e n = true := an_iff.mpr ⟨k, hk, decide_eq_true y⟩
  rw [h] at this
  cases this
theorem l_1000000 : (1000000 : Int64) = lN 1000000 := rfl
/-- a number that is there, and not too great -/
theorem nu_h (h1 : ¬ e k < 0) (h2 : ¬ 1000000 < e k) : e k = lN (e k).toNatClampNeg ∧ (e k).toNatClampNeg ≤ 1000000 := by
  obtain ⟨v, hv, ev⟩ := pk_lOf h1
  rw [ev, lN_cl hv]
  refine ⟨rfl, ?_⟩
  rw [ev, l_1000000, pk_lLT (by omega) hv] at h2
  omega
theorem here_t (h : here e k = true) : ¬ e k < 0 := of_decide_eq_true h
theorem here_f (h : here e k = false) : e k < 0 := Decidable.not_not.mp (of_decide_eq_false h)
theorem xdn_le (hb : big e n = false) (hi : i < n) (h : xdn e i = some a) : a ≤ 1000000 := by
  unfold xdn at h
  cases q : dnf e i with
  | none => rw [q] at h; cases h
  | some j =>
    rw [q] at h
    cases h
    have f := fi_some q
    exact (nu_h (here_t f.2) (big_f hb (by omega))).2
theorem xup_le (hb : big e n = false) (h : xup e n i = some a) : a ≤ 1000000 := by
  unfold xup at h
  cases q : upf e n i with
  | none => rw [q] at h; cases h
  | some j =>
    rw [q] at h
    cases h
    have f := fi_some q
    exact (nu_h (here_t f.2) (big_f hb (by omega))).2
theorem fil_le (hb : big e n = false) (hi : i < n) (h : fil e n i = some a) : a ≤ 1000000 := by
  unfold fil at h
  cases q1 : xdn e i with
  | none =>
    rw [q1] at h
    exact xup_le hb h
  | some u =>
    have u1 := xdn_le hb hi q1
    cases q2 : xup e n i with
    | none =>
      rw [q1, q2] at h
      cases h
      exact u1
    | some v =>
      have v1 := xup_le hb q2
      rw [q1, q2] at h
      cases h
      omega
/-- something is there: something is filled -/
theorem fil_some (h : an_ (here e) n = true) (hi : i < n) : (∃ j, dnf e i = some j) ∨ ∃ j, upf e n i = some j := by
  obtain ⟨k, hk, y⟩ := an_iff.mp h
  rcases Nat.lt_or_ge i k with z | z
  · right
    cases q : upf e n i with
    | some j => exact ⟨j, rfl⟩
    | none =>
      have := fi_none q (k - i) (by omega)
      rw [show i + (k - i) = k by omega, y] at this
      cases this
  · left
    cases q : dnf e i with
    | some j => exact ⟨j, rfl⟩
    | none =>
      have := fi_none q (i - k) (by omega)
      rw [show i - (i - k) = k by omega, y] at this
      cases this
theorem fil_0 : (fil e n 0 = none) ↔ (an_ (here e) n = false ∧ here e 0 = false) := by
  have key : an_ (here e) n = false → ∀ k, k < n → here e k = false := fun h k hk => by
    cases y : here e k with
    | false => rfl
    | true =>
      have : an_ (here e) n = true := an_iff.mpr ⟨k, hk, y⟩
      rw [h] at this
      cases this
  have d0 : dnf e 0 = bif here e 0 then some 0 else none := rfl
  constructor
  · intro h
    unfold fil at h
    cases q1 : xdn e 0 with
    | some u =>
      rw [q1] at h
      cases q2 : xup e n 0 <;> rw [q2] at h <;> cases h
    | none =>
      rw [q1] at h
      have h0 : here e 0 = false := by
        cases y : here e 0 with
        | false => rfl
        | true =>
          unfold xdn at q1
          rw [d0, y] at q1
          cases q1
      refine ⟨?_, h0⟩
      have h : xup e n 0 = none := h
      unfold xup at h
      cases q2 : upf e n 0 with
      | some j => rw [q2] at h; cases h
      | none =>
        cases y : an_ (here e) n with
        | false => rfl
        | true =>
          obtain ⟨k, hk, z⟩ := an_iff.mp y
          have := fi_none q2 k hk
          rw [Nat.zero_add, z] at this
          cases this
  · rintro ⟨h1, h0⟩
    have q1 : xdn e 0 = none := by
      unfold xdn
      rw [d0, h0]
      rfl
    have q2 : xup e n 0 = none := by
      unfold xup
      cases q2 : upf e n 0 with
      | none => rfl
      | some j =>
        have f := fi_some q2
        have := key h1 j (by omega)
        rw [show (0 : Nat) + j = j by omega] at f
        rw [this] at f
        cases f.2
    unfold fil
    rw [q1, q2]
/-! the second object's -/
def kd (i j : Nat) : Int32 := if j ≤ i then nI (i - j) else -1
theorem kd_i (h : j ≤ i) : kd i j = nI (i - j) := if_pos h
theorem kd_o : kd i (i + 1) = -1 := if_neg (by omega)
theorem kd_s (h : j ≤ i) : nI (i - j) + (-1) = kd i (j + 1) := by
  unfold kd
  by_cases q : j + 1 ≤ i
  · rw [if_pos q, show i - j = (i - (j + 1)) + 1 by omega]
    exact pk_m1 _
  · rw [if_neg q, show i - j = 0 by omega]
    decide
theorem l0_n (v : Int64) : (lg_cmp v 0 < 0) = (v < 0) := propext lc_l
theorem n2_0 : ¬ (2 : Int64) = 0 := by decide
/-- the second object's row -/
def MZq (h : xH) (r n : Nat) (e : rL) : Prop := MOK h ∧ r < 4 ∧ n ≤ 40 ∧ oI h 168 r = nI n ∧ ∀ i, i < n → oL h 169 (40 * r + i) = e i
theorem kX5_hereIn (Q : MZq h r n e) : ∃ c, c ≤ n ∧ (c = 0 ↔ an_ (here e) n = false) ∧ C_ d mX5_hereIn [.ref 150, .int (nI r)] h = some (some (.int (nI c)), h) := by
  obtain ⟨H, hr, hn, eM, eL⟩ := Q
  have x8 : xix (nI r) (oN h 168) = true := m_x168 H (by omega)
  have m1 : nI 40 * nI r = nI (40 * r) := pk_mul _ _
  have e0 : C_ d mX5_hereIn [.ref 150, .int (nI r)] h = E_ d mX5_hereIn 4 [.val (.ref 150), .val (.int (nI r)), .val (.int (nI 0)), .val (.int (nI 0))] [] h := by
    simp (disch := first | with_unfolding_all exact id (mok_t H rfl) | exact Or.inr (by with_unfolding_all exact mok_t H rfl) | exact nI_ne0 (by decide) (by decide) | with_unfolding_all exact id (m_x152 H (by omega)) | with_unfolding_all exact id (m_x156 H (by omega)) | with_unfolding_all exact id (m_x158 H (by omega)) | with_unfolding_all exact id (m_x159 H (by omega)) | with_unfolding_all exact id (m_x160 H (by omega)) | exact zb_01 | exact Or.inl rfl | exact Or.inr rfl | omega) only [wX5_hereIn_e, wX5_hereIn_0, wX5_hereIn_1, wX5_hereIn_2, wX5_hereIn_3, wX5_hereIn_5, wX5_hereIn_6, wX5_hereIn_9, wX5_hereIn_10, wX5_hereIn_11, wX5_hereIn_14, wX5_hereIn_15, wX5_hereIn_16, wX5_hereIn_19, wX5_hereIn_21, wX5_hereIn_22, wX5_hereIn_23, wX5_hereIn_24, wX5_hereIn_25, wX5_hereIn_26, wX5_hereIn_27, wX5_hereIn_28, wX5_hereIn_31, wX5_hereIn_32, wX5_hereIn_35, wX5_hereIn_36, wX5_hereIn_37, wX5_hereIn_38, wX5_hereIn_41, wX5_hereIn_44, wX5_hereIn_45, if_true, if_false, ↓reduceIte, xpu_s, xpu_n, Option.bind_some, xk_i, xk_r, xk_0, xk_u, xk_l, xk_k, xk_q, rf_s, rf_n, o_TI, o_TL, o_TR, o_NI, o_NL, o_NR, o_XI, o_XL, o_XR, o_RI, o_RL, o_LI, o_LR, o_IL, o_IR, o_II, o_LL, o_RR, o_pII, o_pLL, up_s, q_e1, q_e2, Nat.zero_add, Nat.reduceEqDiff, Nat.reduceAdd, Nat.reduceMul, Nat.reduceSub, Nat.reduceLT, Nat.reduceLeDiff, Nat.reduceDiv, Nat.reduceMod, m_r1 H, m_r2 H, m_r3 H, m_r4 H, m_r5 H, m_r18 H, m_r19 H, m_r20 H, m_r24 H, m_r25 H, m_r27 H, m_r28 H, m_r29 H, m_r30 H, m_r31 H, m_r32 H, m_r33 H, m_r34 H, m_r35 H, m_n150 H, m_n151 H, m_n152 H, m_n153 H, m_n154 H, m_n155 H, m_n156 H, m_n157 H, m_n158 H, m_n159 H, m_n160 H, m_n161 H, m_n162 H, m_n163 H, m_n164 H, m_n165 H, m_n166 H, m_n167 H, m_n168 H, m_n169 H, nI_c, nI_add, up_ne]
  rw [e0]
  have L := lpj_st (n := n) (s := 0) (P := fun k c => c ≤ k ∧ (c = 0 ↔ an_ (here e) k = false)) (f := fun k c => if here e k = true then c + 1 else c) (X := fun c => some (some (.int (nI c)), h)) (F := fun k c (_ : Unit) => E_ d mX5_hereIn 4 [.val (.ref 150), .val (.int (nI r)), .val (.int (nI c)), .val (.int (nI k))] [] h) ⟨Nat.le_refl _, fun _ => rfl, fun _ => rfl⟩ (fun k c z hk hc => ⟨(), ?_, ?_, ?_⟩) (fun c z hc => ?_) ()
  · exact ⟨_, L.2.1, L.2.2, L.1⟩
  · refine wX5_hereIn_4.trans ?_
    have x9 : xix (nI (40 * r + k)) (oN h 169) = true := m_x169 H (by omega)
    have lt : (nI k < nI n) = True := eq_true (nI_lt hk (by omega))
    have ek := eL k hk
    cases y : here e k with
    | true =>
      have c0 : (e k < 0) = False := eq_false (here_t y)
      simp (disch := first | exact x8 | exact x9 | first | with_unfolding_all exact id (mok_t H rfl) | exact Or.inr (by with_unfolding_all exact mok_t H rfl) | exact nI_ne0 (by decide) (by decide) | with_unfolding_all exact id (m_x152 H (by omega)) | with_unfolding_all exact id (m_x156 H (by omega)) | with_unfolding_all exact id (m_x158 H (by omega)) | with_unfolding_all exact id (m_x159 H (by omega)) | with_unfolding_all exact id (m_x160 H (by omega)) | exact zb_01 | exact Or.inl rfl | exact Or.inr rfl | omega) only [wX5_hereIn_e, wX5_hereIn_0, wX5_hereIn_1, wX5_hereIn_2, wX5_hereIn_3, wX5_hereIn_5, wX5_hereIn_6, wX5_hereIn_9, wX5_hereIn_10, wX5_hereIn_11, wX5_hereIn_14, wX5_hereIn_15, wX5_hereIn_16, wX5_hereIn_19, wX5_hereIn_21, wX5_hereIn_22, wX5_hereIn_23, wX5_hereIn_24, wX5_hereIn_25, wX5_hereIn_26, wX5_hereIn_27, wX5_hereIn_28, wX5_hereIn_31, wX5_hereIn_32, wX5_hereIn_35, wX5_hereIn_36, wX5_hereIn_37, wX5_hereIn_38, wX5_hereIn_41, wX5_hereIn_44, wX5_hereIn_45, if_true, if_false, ↓reduceIte, xpu_s, xpu_n, Option.bind_some, xk_i, xk_r, xk_0, xk_u, xk_l, xk_k, xk_q, rf_s, rf_n, o_TI, o_TL, o_TR, o_NI, o_NL, o_NR, o_XI, o_XL, o_XR, o_RI, o_RL, o_LI, o_LR, o_IL, o_IR, o_II, o_LL, o_RR, o_pII, o_pLL, up_s, q_e1, q_e2, Nat.zero_add, Nat.reduceEqDiff, Nat.reduceAdd, Nat.reduceMul, Nat.reduceSub, Nat.reduceLT, Nat.reduceLeDiff, Nat.reduceDiv, Nat.reduceMod, m_r1 H, m_r2 H, m_r3 H, m_r4 H, m_r5 H, m_r18 H, m_r19 H, m_r20 H, m_r24 H, m_r25 H, m_r27 H, m_r28 H, m_r29 H, m_r30 H, m_r31 H, m_r32 H, m_r33 H, m_r34 H, m_r35 H, m_n150 H, m_n151 H, m_n152 H, m_n153 H, m_n154 H, m_n155 H, m_n156 H, m_n157 H, m_n158 H, m_n159 H, m_n160 H, m_n161 H, m_n162 H, m_n163 H, m_n164 H, m_n165 H, m_n166 H, m_n167 H, m_n168 H, m_n169 H, nI_c, nI_add, up_ne, eM, lt, m1, ek, l0_n, c0, not_true_eq_false, not_false_eq_true, and_self, and_true, true_and, and_false, false_and, or_true, true_or, or_false, false_or, decide_true, decide_false, zb_t, zb_f, zb_0, zb_1, eq_self]
    | false =>
      have c0 : (e k < 0) = True := eq_true (here_f y)
      simp (disch := first | exact x8 | exact x9 | first | with_unfolding_all exact id (mok_t H rfl) | exact Or.inr (by with_unfolding_all exact mok_t H rfl) | exact nI_ne0 (by decide) (by decide) | with_unfolding_all exact id (m_x152 H (by omega)) | with_unfolding_all exact id (m_x156 H (by omega)) | with_unfolding_all exact id (m_x158 H (by omega)) | with_unfolding_all exact id (m_x159 H (by omega)) | with_unfolding_all exact id (m_x160 H (by omega)) | exact zb_01 | exact Or.inl rfl | exact Or.inr rfl | omega) only [wX5_hereIn_e, wX5_hereIn_0, wX5_hereIn_1, wX5_hereIn_2, wX5_hereIn_3, wX5_hereIn_5, wX5_hereIn_6, wX5_hereIn_9, wX5_hereIn_10, wX5_hereIn_11, wX5_hereIn_14, wX5_hereIn_15, wX5_hereIn_16, wX5_hereIn_19, wX5_hereIn_21, wX5_hereIn_22, wX5_hereIn_23, wX5_hereIn_24, wX5_hereIn_25, wX5_hereIn_26, wX5_hereIn_27, wX5_hereIn_28, wX5_hereIn_31, wX5_hereIn_32, wX5_hereIn_35, wX5_hereIn_36, wX5_hereIn_37, wX5_hereIn_38, wX5_hereIn_41, wX5_hereIn_44, wX5_hereIn_45, if_true, if_false, ↓reduceIte, xpu_s, xpu_n, Option.bind_some, xk_i, xk_r, xk_0, xk_u, xk_l, xk_k, xk_q, rf_s, rf_n, o_TI, o_TL, o_TR, o_NI, o_NL, o_NR, o_XI, o_XL, o_XR, o_RI, o_RL, o_LI, o_LR, o_IL, o_IR, o_II, o_LL, o_RR, o_pII, o_pLL, up_s, q_e1, q_e2, Nat.zero_add, Nat.reduceEqDiff, Nat.reduceAdd, Nat.reduceMul, Nat.reduceSub, Nat.reduceLT, Nat.reduceLeDiff, Nat.reduceDiv, Nat.reduceMod, m_r1 H, m_r2 H, m_r3 H, m_r4 H, m_r5 H, m_r18 H, m_r19 H, m_r20 H, m_r24 H, m_r25 H, m_r27 H, m_r28 H, m_r29 H, m_r30 H, m_r31 H, m_r32 H, m_r33 H, m_r34 H, m_r35 H, m_n150 H, m_n151 H, m_n152 H, m_n153 H, m_n154 H, m_n155 H, m_n156 H, m_n157 H, m_n158 H, m_n159 H, m_n160 H, m_n161 H, m_n162 H, m_n163 H, m_n164 H, m_n165 H, m_n166 H, m_n167 H, m_n168 H, m_n169 H, nI_c, nI_add, up_ne, eM, lt, m1, ek, l0_n, c0, Nat.add_zero, not_true_eq_false, not_false_eq_true, and_self, and_true, true_and, and_false, false_and, or_true, true_or, or_false, false_or, decide_true, decide_false, zb_t, zb_f, zb_0, zb_1, eq_self, cond_true, cond_false, Bool.true_eq_false, Bool.false_eq_true, Bool.and_true, Bool.true_and, Bool.and_false, Bool.false_and, Bool.or_true, Bool.true_or, Bool.or_false, Bool.false_or]
  · split
    · omega
    · omega
  · show (if here e k = true then c + 1 else c) = 0 ↔ (an_ (here e) k || here e k) = false
    cases y : here e k with
    | true =>
      rw [if_pos rfl, Bool.or_true]
      exact ⟨fun z => by omega, fun z => by cases z⟩
    | false =>
      rw [if_neg Bool.false_ne_true, Bool.or_false]
      exact hc.2
  · refine wX5_hereIn_4.trans ?_
    simp (disch := first | exact x8 | first | with_unfolding_all exact id (mok_t H rfl) | exact Or.inr (by with_unfolding_all exact mok_t H rfl) | exact nI_ne0 (by decide) (by decide) | with_unfolding_all exact id (m_x152 H (by omega)) | with_unfolding_all exact id (m_x156 H (by omega)) | with_unfolding_all exact id (m_x158 H (by omega)) | with_unfolding_all exact id (m_x159 H (by omega)) | with_unfolding_all exact id (m_x160 H (by omega)) | exact zb_01 | exact Or.inl rfl | exact Or.inr rfl | omega) only [wX5_hereIn_e, wX5_hereIn_0, wX5_hereIn_1, wX5_hereIn_2, wX5_hereIn_3, wX5_hereIn_5, wX5_hereIn_6, wX5_hereIn_9, wX5_hereIn_10, wX5_hereIn_11, wX5_hereIn_14, wX5_hereIn_15, wX5_hereIn_16, wX5_hereIn_19, wX5_hereIn_21, wX5_hereIn_22, wX5_hereIn_23, wX5_hereIn_24, wX5_hereIn_25, wX5_hereIn_26, wX5_hereIn_27, wX5_hereIn_28, wX5_hereIn_31, wX5_hereIn_32, wX5_hereIn_35, wX5_hereIn_36, wX5_hereIn_37, wX5_hereIn_38, wX5_hereIn_41, wX5_hereIn_44, wX5_hereIn_45, if_true, if_false, ↓reduceIte, xpu_s, xpu_n, Option.bind_some, xk_i, xk_r, xk_0, xk_u, xk_l, xk_k, xk_q, rf_s, rf_n, o_TI, o_TL, o_TR, o_NI, o_NL, o_NR, o_XI, o_XL, o_XR, o_RI, o_RL, o_LI, o_LR, o_IL, o_IR, o_II, o_LL, o_RR, o_pII, o_pLL, up_s, q_e1, q_e2, Nat.zero_add, Nat.reduceEqDiff, Nat.reduceAdd, Nat.reduceMul, Nat.reduceSub, Nat.reduceLT, Nat.reduceLeDiff, Nat.reduceDiv, Nat.reduceMod, m_r1 H, m_r2 H, m_r3 H, m_r4 H, m_r5 H, m_r18 H, m_r19 H, m_r20 H, m_r24 H, m_r25 H, m_r27 H, m_r28 H, m_r29 H, m_r30 H, m_r31 H, m_r32 H, m_r33 H, m_r34 H, m_r35 H, m_n150 H, m_n151 H, m_n152 H, m_n153 H, m_n154 H, m_n155 H, m_n156 H, m_n157 H, m_n158 H, m_n159 H, m_n160 H, m_n161 H, m_n162 H, m_n163 H, m_n164 H, m_n165 H, m_n166 H, m_n167 H, m_n168 H, m_n169 H, nI_c, nI_add, up_ne, eM, i_irr, not_true_eq_false, not_false_eq_true, and_self, and_true, true_and, and_false, false_and, or_true, true_or, or_false, false_or, decide_true, decide_false, zb_t, zb_f, zb_0, zb_1, eq_self]
theorem kX5_isTooMuch (Q : MZq h r n e) : C_ d mX5_isTooMuch [.ref 150, .int (nI r)] h = some (some (.int (zb (big e n))), h) := by
  obtain ⟨H, hr, hn, eM, eL⟩ := Q
  have x8 : xix (nI r) (oN h 168) = true := m_x168 H (by omega)
  have m1 : nI 40 * nI r = nI (40 * r) := pk_mul _ _
  have e0 : C_ d mX5_isTooMuch [.ref 150, .int (nI r)] h = E_ d mX5_isTooMuch 2 [.val (.ref 150), .val (.int (nI r)), .val (.int (nI 0))] [] h := by
    simp (disch := first | with_unfolding_all exact id (mok_t H rfl) | exact Or.inr (by with_unfolding_all exact mok_t H rfl) | exact nI_ne0 (by decide) (by decide) | with_unfolding_all exact id (m_x152 H (by omega)) | with_unfolding_all exact id (m_x156 H (by omega)) | with_unfolding_all exact id (m_x158 H (by omega)) | with_unfolding_all exact id (m_x159 H (by omega)) | with_unfolding_all exact id (m_x160 H (by omega)) | exact zb_01 | exact Or.inl rfl | exact Or.inr rfl | omega) only [wX5_isTooMuch_e, wX5_isTooMuch_0, wX5_isTooMuch_1, wX5_isTooMuch_3, wX5_isTooMuch_4, wX5_isTooMuch_7, wX5_isTooMuch_8, wX5_isTooMuch_9, wX5_isTooMuch_12, wX5_isTooMuch_13, wX5_isTooMuch_16, wX5_isTooMuch_18, wX5_isTooMuch_19, wX5_isTooMuch_20, wX5_isTooMuch_21, wX5_isTooMuch_22, wX5_isTooMuch_23, wX5_isTooMuch_26, wX5_isTooMuch_27, wX5_isTooMuch_30, wX5_isTooMuch_31, wX5_isTooMuch_32, wX5_isTooMuch_35, wX5_isTooMuch_38, wX5_isTooMuch_39, if_true, if_false, ↓reduceIte, xpu_s, xpu_n, Option.bind_some, xk_i, xk_r, xk_0, xk_u, xk_l, xk_k, xk_q, rf_s, rf_n, o_TI, o_TL, o_TR, o_NI, o_NL, o_NR, o_XI, o_XL, o_XR, o_RI, o_RL, o_LI, o_LR, o_IL, o_IR, o_II, o_LL, o_RR, o_pII, o_pLL, up_s, q_e1, q_e2, Nat.zero_add, Nat.reduceEqDiff, Nat.reduceAdd, Nat.reduceMul, Nat.reduceSub, Nat.reduceLT, Nat.reduceLeDiff, Nat.reduceDiv, Nat.reduceMod, m_r1 H, m_r2 H, m_r3 H, m_r4 H, m_r5 H, m_r18 H, m_r19 H, m_r20 H, m_r24 H, m_r25 H, m_r27 H, m_r28 H, m_r29 H, m_r30 H, m_r31 H, m_r32 H, m_r33 H, m_r34 H, m_r35 H, m_n150 H, m_n151 H, m_n152 H, m_n153 H, m_n154 H, m_n155 H, m_n156 H, m_n157 H, m_n158 H, m_n159 H, m_n160 H, m_n161 H, m_n162 H, m_n163 H, m_n164 H, m_n165 H, m_n166 H, m_n167 H, m_n168 H, m_n169 H, nI_c, nI_add, up_ne]
  rw [e0]
  refine (lpj_an (n := n) (R := some (some (.int (nI 1)), h)) (X := some (some (.int (nI 0)), h)) (p := fun k => decide (1000000 < e k)) (F := fun k (_ : Unit) => E_ d mX5_isTooMuch 2 [.val (.ref 150), .val (.int (nI r)), .val (.int (nI k))] [] h) (fun k z hk => ⟨(), ?_⟩) (fun z => ?_) ()).trans zb_if
  · refine wX5_isTooMuch_2.trans ?_
    have x9 : xix (nI (40 * r + k)) (oN h 169) = true := m_x169 H (by omega)
    have lt : (nI k < nI n) = True := eq_true (nI_lt hk (by omega))
    have ek := eL k hk
    have g : (0 < lg_cmp (e k) 1000000) = (1000000 < e k) := propext lc_g
    by_cases y : 1000000 < e k
    · simp (disch := first | exact x8 | exact x9 | exact Or.inr rfl | first | with_unfolding_all exact id (mok_t H rfl) | exact Or.inr (by with_unfolding_all exact mok_t H rfl) | exact nI_ne0 (by decide) (by decide) | with_unfolding_all exact id (m_x152 H (by omega)) | with_unfolding_all exact id (m_x156 H (by omega)) | with_unfolding_all exact id (m_x158 H (by omega)) | with_unfolding_all exact id (m_x159 H (by omega)) | with_unfolding_all exact id (m_x160 H (by omega)) | exact zb_01 | exact Or.inl rfl | exact Or.inr rfl | omega) only [wX5_isTooMuch_e, wX5_isTooMuch_0, wX5_isTooMuch_1, wX5_isTooMuch_3, wX5_isTooMuch_4, wX5_isTooMuch_7, wX5_isTooMuch_8, wX5_isTooMuch_9, wX5_isTooMuch_12, wX5_isTooMuch_13, wX5_isTooMuch_16, wX5_isTooMuch_18, wX5_isTooMuch_19, wX5_isTooMuch_20, wX5_isTooMuch_21, wX5_isTooMuch_22, wX5_isTooMuch_23, wX5_isTooMuch_26, wX5_isTooMuch_27, wX5_isTooMuch_30, wX5_isTooMuch_31, wX5_isTooMuch_32, wX5_isTooMuch_35, wX5_isTooMuch_38, wX5_isTooMuch_39, if_true, if_false, ↓reduceIte, xpu_s, xpu_n, Option.bind_some, xk_i, xk_r, xk_0, xk_u, xk_l, xk_k, xk_q, rf_s, rf_n, o_TI, o_TL, o_TR, o_NI, o_NL, o_NR, o_XI, o_XL, o_XR, o_RI, o_RL, o_LI, o_LR, o_IL, o_IR, o_II, o_LL, o_RR, o_pII, o_pLL, up_s, q_e1, q_e2, Nat.zero_add, Nat.reduceEqDiff, Nat.reduceAdd, Nat.reduceMul, Nat.reduceSub, Nat.reduceLT, Nat.reduceLeDiff, Nat.reduceDiv, Nat.reduceMod, m_r1 H, m_r2 H, m_r3 H, m_r4 H, m_r5 H, m_r18 H, m_r19 H, m_r20 H, m_r24 H, m_r25 H, m_r27 H, m_r28 H, m_r29 H, m_r30 H, m_r31 H, m_r32 H, m_r33 H, m_r34 H, m_r35 H, m_n150 H, m_n151 H, m_n152 H, m_n153 H, m_n154 H, m_n155 H, m_n156 H, m_n157 H, m_n158 H, m_n159 H, m_n160 H, m_n161 H, m_n162 H, m_n163 H, m_n164 H, m_n165 H, m_n166 H, m_n167 H, m_n168 H, m_n169 H, nI_c, nI_add, up_ne, eM, lt, m1, ek, g, y, not_true_eq_false, not_false_eq_true, and_self, and_true, true_and, and_false, false_and, or_true, true_or, or_false, false_or, decide_true, decide_false, zb_t, zb_f, zb_0, zb_1, eq_self]
    · simp (disch := first | exact x8 | exact x9 | exact Or.inl rfl | first | with_unfolding_all exact id (mok_t H rfl) | exact Or.inr (by with_unfolding_all exact mok_t H rfl) | exact nI_ne0 (by decide) (by decide) | with_unfolding_all exact id (m_x152 H (by omega)) | with_unfolding_all exact id (m_x156 H (by omega)) | with_unfolding_all exact id (m_x158 H (by omega)) | with_unfolding_all exact id (m_x159 H (by omega)) | with_unfolding_all exact id (m_x160 H (by omega)) | exact zb_01 | exact Or.inl rfl | exact Or.inr rfl | omega) only [wX5_isTooMuch_e, wX5_isTooMuch_0, wX5_isTooMuch_1, wX5_isTooMuch_3, wX5_isTooMuch_4, wX5_isTooMuch_7, wX5_isTooMuch_8, wX5_isTooMuch_9, wX5_isTooMuch_12, wX5_isTooMuch_13, wX5_isTooMuch_16, wX5_isTooMuch_18, wX5_isTooMuch_19, wX5_isTooMuch_20, wX5_isTooMuch_21, wX5_isTooMuch_22, wX5_isTooMuch_23, wX5_isTooMuch_26, wX5_isTooMuch_27, wX5_isTooMuch_30, wX5_isTooMuch_31, wX5_isTooMuch_32, wX5_isTooMuch_35, wX5_isTooMuch_38, wX5_isTooMuch_39, if_true, if_false, ↓reduceIte, xpu_s, xpu_n, Option.bind_some, xk_i, xk_r, xk_0, xk_u, xk_l, xk_k, xk_q, rf_s, rf_n, o_TI, o_TL, o_TR, o_NI, o_NL, o_NR, o_XI, o_XL, o_XR, o_RI, o_RL, o_LI, o_LR, o_IL, o_IR, o_II, o_LL, o_RR, o_pII, o_pLL, up_s, q_e1, q_e2, Nat.zero_add, Nat.reduceEqDiff, Nat.reduceAdd, Nat.reduceMul, Nat.reduceSub, Nat.reduceLT, Nat.reduceLeDiff, Nat.reduceDiv, Nat.reduceMod, m_r1 H, m_r2 H, m_r3 H, m_r4 H, m_r5 H, m_r18 H, m_r19 H, m_r20 H, m_r24 H, m_r25 H, m_r27 H, m_r28 H, m_r29 H, m_r30 H, m_r31 H, m_r32 H, m_r33 H, m_r34 H, m_r35 H, m_n150 H, m_n151 H, m_n152 H, m_n153 H, m_n154 H, m_n155 H, m_n156 H, m_n157 H, m_n158 H, m_n159 H, m_n160 H, m_n161 H, m_n162 H, m_n163 H, m_n164 H, m_n165 H, m_n166 H, m_n167 H, m_n168 H, m_n169 H, nI_c, nI_add, up_ne, eM, lt, m1, ek, g, y, not_true_eq_false, not_false_eq_true, and_self, and_true, true_and, and_false, false_and, or_true, true_or, or_false, false_or, decide_true, decide_false, zb_t, zb_f, zb_0, zb_1, eq_self, cond_true, cond_false, Bool.true_eq_false, Bool.false_eq_true, Bool.and_true, Bool.true_and, Bool.and_false, Bool.false_and, Bool.or_true, Bool.true_or, Bool.or_false, Bool.false_or]
  · refine wX5_isTooMuch_2.trans ?_
    simp (disch := first | exact x8 | exact Or.inl rfl | first | with_unfolding_all exact id (mok_t H rfl) | exact Or.inr (by with_unfolding_all exact mok_t H rfl) | exact nI_ne0 (by decide) (by decide) | with_unfolding_all exact id (m_x152 H (by omega)) | with_unfolding_all exact id (m_x156 H (by omega)) | with_unfolding_all exact id (m_x158 H (by omega)) | with_unfolding_all exact id (m_x159 H (by omega)) | with_unfolding_all exact id (m_x160 H (by omega)) | exact zb_01 | exact Or.inl rfl | exact Or.inr rfl | omega) only [wX5_isTooMuch_e, wX5_isTooMuch_0, wX5_isTooMuch_1, wX5_isTooMuch_3, wX5_isTooMuch_4, wX5_isTooMuch_7, wX5_isTooMuch_8, wX5_isTooMuch_9, wX5_isTooMuch_12, wX5_isTooMuch_13, wX5_isTooMuch_16, wX5_isTooMuch_18, wX5_isTooMuch_19, wX5_isTooMuch_20, wX5_isTooMuch_21, wX5_isTooMuch_22, wX5_isTooMuch_23, wX5_isTooMuch_26, wX5_isTooMuch_27, wX5_isTooMuch_30, wX5_isTooMuch_31, wX5_isTooMuch_32, wX5_isTooMuch_35, wX5_isTooMuch_38, wX5_isTooMuch_39, if_true, if_false, ↓reduceIte, xpu_s, xpu_n, Option.bind_some, xk_i, xk_r, xk_0, xk_u, xk_l, xk_k, xk_q, rf_s, rf_n, o_TI, o_TL, o_TR, o_NI, o_NL, o_NR, o_XI, o_XL, o_XR, o_RI, o_RL, o_LI, o_LR, o_IL, o_IR, o_II, o_LL, o_RR, o_pII, o_pLL, up_s, q_e1, q_e2, Nat.zero_add, Nat.reduceEqDiff, Nat.reduceAdd, Nat.reduceMul, Nat.reduceSub, Nat.reduceLT, Nat.reduceLeDiff, Nat.reduceDiv, Nat.reduceMod, m_r1 H, m_r2 H, m_r3 H, m_r4 H, m_r5 H, m_r18 H, m_r19 H, m_r20 H, m_r24 H, m_r25 H, m_r27 H, m_r28 H, m_r29 H, m_r30 H, m_r31 H, m_r32 H, m_r33 H, m_r34 H, m_r35 H, m_n150 H, m_n151 H, m_n152 H, m_n153 H, m_n154 H, m_n155 H, m_n156 H, m_n157 H, m_n158 H, m_n159 H, m_n160 H, m_n161 H, m_n162 H, m_n163 H, m_n164 H, m_n165 H, m_n166 H, m_n167 H, m_n168 H, m_n169 H, nI_c, nI_add, up_ne, eM, i_irr, not_true_eq_false, not_false_eq_true, and_self, and_true, true_and, and_false, false_and, or_true, true_or, or_false, false_or, decide_true, decide_false, zb_t, zb_f, zb_0, zb_1, eq_self]
theorem kX5_filledAt (Q : MZq h r n e) (hb : big e n = false) (ha : an_ (here e) n = true) (hi : i < n) : C_ d mX5_filledAt [.ref 150, .int (nI r), .int (nI i)] h = some (some (.int (oe (fil e n i))), h) := by
  obtain ⟨H, hr, hn, eM, eL⟩ := Q
  have x8 : xix (nI r) (oN h 168) = true := m_x168 H (by omega)
  have m1 : nI 40 * nI r = nI (40 * r) := pk_mul _ _
  have x9 : ∀ k, k < n → xix (nI (40 * r + k)) (oN h 169) = true := fun k hk => m_x169 H (by omega)
  -- behind
  have A : ∀ o : Option Nat, dnf e i = o → C_ d mX5_filledAt [.ref 150, .int (nI r), .int (nI i)] h = E_ d mX5_filledAt 31 [.val (.ref 150), .val (.int (nI r)), .val (.int (nI i)), .val (.int (oe (o.map (fun j => i - j)))), .val (.int (nI (i + 0))), .unset, .unset, .unset, .unset] [] h := by
    have e0 : C_ d mX5_filledAt [.ref 150, .int (nI r), .int (nI i)] h = E_ d mX5_filledAt 5 [.val (.ref 150), .val (.int (nI r)), .val (.int (nI i)), .val (.int (kd i 0)), .val (.int (nI (i + 0))), .unset, .unset, .unset, .unset] [] h := by
      rw [kd_i (Nat.zero_le _), Nat.sub_zero]
      simp (disch := first | with_unfolding_all exact id (mok_t H rfl) | exact Or.inr (by with_unfolding_all exact mok_t H rfl) | exact nI_ne0 (by decide) (by decide) | with_unfolding_all exact id (m_x152 H (by omega)) | with_unfolding_all exact id (m_x156 H (by omega)) | with_unfolding_all exact id (m_x158 H (by omega)) | with_unfolding_all exact id (m_x159 H (by omega)) | with_unfolding_all exact id (m_x160 H (by omega)) | exact zb_01 | exact Or.inl rfl | exact Or.inr rfl | omega) only [wX5_filledAt_e, wX5_filledAt_0, wX5_filledAt_1, wX5_filledAt_2, wX5_filledAt_3, wX5_filledAt_6, wX5_filledAt_9, wX5_filledAt_10, wX5_filledAt_13, wX5_filledAt_15, wX5_filledAt_16, wX5_filledAt_17, wX5_filledAt_18, wX5_filledAt_19, wX5_filledAt_20, wX5_filledAt_21, wX5_filledAt_22, wX5_filledAt_25, wX5_filledAt_28, wX5_filledAt_33, wX5_filledAt_34, wX5_filledAt_37, wX5_filledAt_38, wX5_filledAt_39, wX5_filledAt_42, wX5_filledAt_43, wX5_filledAt_46, wX5_filledAt_48, wX5_filledAt_49, wX5_filledAt_50, wX5_filledAt_52, wX5_filledAt_53, wX5_filledAt_54, wX5_filledAt_55, wX5_filledAt_56, wX5_filledAt_59, wX5_filledAt_62, wX5_filledAt_65, wX5_filledAt_66, wX5_filledAt_69, wX5_filledAt_70, wX5_filledAt_73, wX5_filledAt_75, wX5_filledAt_76, wX5_filledAt_77, wX5_filledAt_78, wX5_filledAt_79, wX5_filledAt_80, wX5_filledAt_83, wX5_filledAt_84, wX5_filledAt_87, wX5_filledAt_89, wX5_filledAt_90, wX5_filledAt_91, wX5_filledAt_93, wX5_filledAt_94, wX5_filledAt_95, wX5_filledAt_97, wX5_filledAt_99, wX5_filledAt_100, wX5_filledAt_103, wX5_filledAt_104, wX5_filledAt_105, wX5_filledAt_108, wX5_filledAt_109, wX5_filledAt_112, wX5_filledAt_114, wX5_filledAt_115, wX5_filledAt_116, wX5_filledAt_118, wX5_filledAt_119, wX5_filledAt_120, wX5_filledAt_123, wX5_filledAt_125, wX5_filledAt_127, wX5_filledAt_129, wX5_filledAt_131, wX5_filledAt_132, wX5_filledAt_135, wX5_filledAt_136, wX5_filledAt_137, if_true, if_false, ↓reduceIte, xpu_s, xpu_n, Option.bind_some, xk_i, xk_r, xk_0, xk_u, xk_l, xk_k, xk_q, rf_s, rf_n, o_TI, o_TL, o_TR, o_NI, o_NL, o_NR, o_XI, o_XL, o_XR, o_RI, o_RL, o_LI, o_LR, o_IL, o_IR, o_II, o_LL, o_RR, o_pII, o_pLL, up_s, q_e1, q_e2, Nat.zero_add, Nat.reduceEqDiff, Nat.reduceAdd, Nat.reduceMul, Nat.reduceSub, Nat.reduceLT, Nat.reduceLeDiff, Nat.reduceDiv, Nat.reduceMod, m_r1 H, m_r2 H, m_r3 H, m_r4 H, m_r5 H, m_r18 H, m_r19 H, m_r20 H, m_r24 H, m_r25 H, m_r27 H, m_r28 H, m_r29 H, m_r30 H, m_r31 H, m_r32 H, m_r33 H, m_r34 H, m_r35 H, m_n150 H, m_n151 H, m_n152 H, m_n153 H, m_n154 H, m_n155 H, m_n156 H, m_n157 H, m_n158 H, m_n159 H, m_n160 H, m_n161 H, m_n162 H, m_n163 H, m_n164 H, m_n165 H, m_n166 H, m_n167 H, m_n168 H, m_n169 H, nI_c, nI_add, up_ne, Nat.add_zero]
    intro o ho
    rw [e0]
    revert o
    refine lpe_fi (n := i + 1) (z := ()) (p := fun j => here e (i - j)) (P := fun _ _ => True) (Q := fun o' t => ∀ o, o' = o → t = E_ d mX5_filledAt 31 [.val (.ref 150), .val (.int (nI r)), .val (.int (nI i)), .val (.int (oe (o.map (fun j => i - j)))), .val (.int (nI (i + 0))), .unset, .unset, .unset, .unset] [] h) (F := fun j _ => E_ d mX5_filledAt 5 [.val (.ref 150), .val (.int (nI r)), .val (.int (nI i)), .val (.int (kd i j)), .val (.int (nI (i + 0))), .unset, .unset, .unset, .unset] [] h) trivial (fun j _ hj _ => ?_) (fun _ _ o ho => ?_)
    · have g0 : (nI (i - j) < 0) = False := nI_ltz (by omega)
      have ek := eL (i - j) (by omega)
      have x9 := x9 (i - j) (by omega)
      rw [kd_i (show j ≤ i by omega)]
      cases y : here e (i - j) with
      | true =>
        have c0 : (e (i - j) < 0) = False := eq_false (here_t y)
        refine Or.inl ⟨rfl, fun o ho => ?_⟩
        subst ho
        show _ = E_ d mX5_filledAt 31 [.val (.ref 150), .val (.int (nI r)), .val (.int (nI i)), .val (.int (nI (i - j))), .val (.int (nI (i + 0))), .unset, .unset, .unset, .unset] [] h
        refine wX5_filledAt_5.trans ?_
        simp (disch := first | exact x9 | first | with_unfolding_all exact id (mok_t H rfl) | exact Or.inr (by with_unfolding_all exact mok_t H rfl) | exact nI_ne0 (by decide) (by decide) | with_unfolding_all exact id (m_x152 H (by omega)) | with_unfolding_all exact id (m_x156 H (by omega)) | with_unfolding_all exact id (m_x158 H (by omega)) | with_unfolding_all exact id (m_x159 H (by omega)) | with_unfolding_all exact id (m_x160 H (by omega)) | exact zb_01 | exact Or.inl rfl | exact Or.inr rfl | omega) only [wX5_filledAt_e, wX5_filledAt_0, wX5_filledAt_1, wX5_filledAt_2, wX5_filledAt_3, wX5_filledAt_6, wX5_filledAt_9, wX5_filledAt_10, wX5_filledAt_13, wX5_filledAt_15, wX5_filledAt_16, wX5_filledAt_17, wX5_filledAt_18, wX5_filledAt_19, wX5_filledAt_20, wX5_filledAt_21, wX5_filledAt_22, wX5_filledAt_25, wX5_filledAt_28, wX5_filledAt_33, wX5_filledAt_34, wX5_filledAt_37, wX5_filledAt_38, wX5_filledAt_39, wX5_filledAt_42, wX5_filledAt_43, wX5_filledAt_46, wX5_filledAt_48, wX5_filledAt_49, wX5_filledAt_50, wX5_filledAt_52, wX5_filledAt_53, wX5_filledAt_54, wX5_filledAt_55, wX5_filledAt_56, wX5_filledAt_59, wX5_filledAt_62, wX5_filledAt_65, wX5_filledAt_66, wX5_filledAt_69, wX5_filledAt_70, wX5_filledAt_73, wX5_filledAt_75, wX5_filledAt_76, wX5_filledAt_77, wX5_filledAt_78, wX5_filledAt_79, wX5_filledAt_80, wX5_filledAt_83, wX5_filledAt_84, wX5_filledAt_87, wX5_filledAt_89, wX5_filledAt_90, wX5_filledAt_91, wX5_filledAt_93, wX5_filledAt_94, wX5_filledAt_95, wX5_filledAt_97, wX5_filledAt_99, wX5_filledAt_100, wX5_filledAt_103, wX5_filledAt_104, wX5_filledAt_105, wX5_filledAt_108, wX5_filledAt_109, wX5_filledAt_112, wX5_filledAt_114, wX5_filledAt_115, wX5_filledAt_116, wX5_filledAt_118, wX5_filledAt_119, wX5_filledAt_120, wX5_filledAt_123, wX5_filledAt_125, wX5_filledAt_127, wX5_filledAt_129, wX5_filledAt_131, wX5_filledAt_132, wX5_filledAt_135, wX5_filledAt_136, wX5_filledAt_137, if_true, if_false, ↓reduceIte, xpu_s, xpu_n, Option.bind_some, xk_i, xk_r, xk_0, xk_u, xk_l, xk_k, xk_q, rf_s, rf_n, o_TI, o_TL, o_TR, o_NI, o_NL, o_NR, o_XI, o_XL, o_XR, o_RI, o_RL, o_LI, o_LR, o_IL, o_IR, o_II, o_LL, o_RR, o_pII, o_pLL, up_s, q_e1, q_e2, Nat.zero_add, Nat.reduceEqDiff, Nat.reduceAdd, Nat.reduceMul, Nat.reduceSub, Nat.reduceLT, Nat.reduceLeDiff, Nat.reduceDiv, Nat.reduceMod, m_r1 H, m_r2 H, m_r3 H, m_r4 H, m_r5 H, m_r18 H, m_r19 H, m_r20 H, m_r24 H, m_r25 H, m_r27 H, m_r28 H, m_r29 H, m_r30 H, m_r31 H, m_r32 H, m_r33 H, m_r34 H, m_r35 H, m_n150 H, m_n151 H, m_n152 H, m_n153 H, m_n154 H, m_n155 H, m_n156 H, m_n157 H, m_n158 H, m_n159 H, m_n160 H, m_n161 H, m_n162 H, m_n163 H, m_n164 H, m_n165 H, m_n166 H, m_n167 H, m_n168 H, m_n169 H, nI_c, nI_add, up_ne, g0, m1, ek, l0_n, c0, not_true_eq_false, not_false_eq_true, and_self, and_true, true_and, and_false, false_and, or_true, true_or, or_false, false_or, decide_true, decide_false, zb_t, zb_f, zb_0, zb_1, eq_self]
      | false =>
        have c0 : (e (i - j) < 0) = True := eq_true (here_f y)
        refine Or.inr ⟨rfl, (), ?_, trivial⟩
        rw [← kd_s (show j ≤ i by omega)]
        refine wX5_filledAt_5.trans ?_
        simp (disch := first | exact x9 | first | with_unfolding_all exact id (mok_t H rfl) | exact Or.inr (by with_unfolding_all exact mok_t H rfl) | exact nI_ne0 (by decide) (by decide) | with_unfolding_all exact id (m_x152 H (by omega)) | with_unfolding_all exact id (m_x156 H (by omega)) | with_unfolding_all exact id (m_x158 H (by omega)) | with_unfolding_all exact id (m_x159 H (by omega)) | with_unfolding_all exact id (m_x160 H (by omega)) | exact zb_01 | exact Or.inl rfl | exact Or.inr rfl | omega) only [wX5_filledAt_e, wX5_filledAt_0, wX5_filledAt_1, wX5_filledAt_2, wX5_filledAt_3, wX5_filledAt_6, wX5_filledAt_9, wX5_filledAt_10, wX5_filledAt_13, wX5_filledAt_15, wX5_filledAt_16, wX5_filledAt_17, wX5_filledAt_18, wX5_filledAt_19, wX5_filledAt_20, wX5_filledAt_21, wX5_filledAt_22, wX5_filledAt_25, wX5_filledAt_28, wX5_filledAt_33, wX5_filledAt_34, wX5_filledAt_37, wX5_filledAt_38, wX5_filledAt_39, wX5_filledAt_42, wX5_filledAt_43, wX5_filledAt_46, wX5_filledAt_48, wX5_filledAt_49, wX5_filledAt_50, wX5_filledAt_52, wX5_filledAt_53, wX5_filledAt_54, wX5_filledAt_55, wX5_filledAt_56, wX5_filledAt_59, wX5_filledAt_62, wX5_filledAt_65, wX5_filledAt_66, wX5_filledAt_69, wX5_filledAt_70, wX5_filledAt_73, wX5_filledAt_75, wX5_filledAt_76, wX5_filledAt_77, wX5_filledAt_78, wX5_filledAt_79, wX5_filledAt_80, wX5_filledAt_83, wX5_filledAt_84, wX5_filledAt_87, wX5_filledAt_89, wX5_filledAt_90, wX5_filledAt_91, wX5_filledAt_93, wX5_filledAt_94, wX5_filledAt_95, wX5_filledAt_97, wX5_filledAt_99, wX5_filledAt_100, wX5_filledAt_103, wX5_filledAt_104, wX5_filledAt_105, wX5_filledAt_108, wX5_filledAt_109, wX5_filledAt_112, wX5_filledAt_114, wX5_filledAt_115, wX5_filledAt_116, wX5_filledAt_118, wX5_filledAt_119, wX5_filledAt_120, wX5_filledAt_123, wX5_filledAt_125, wX5_filledAt_127, wX5_filledAt_129, wX5_filledAt_131, wX5_filledAt_132, wX5_filledAt_135, wX5_filledAt_136, wX5_filledAt_137, if_true, if_false, ↓reduceIte, xpu_s, xpu_n, Option.bind_some, xk_i, xk_r, xk_0, xk_u, xk_l, xk_k, xk_q, rf_s, rf_n, o_TI, o_TL, o_TR, o_NI, o_NL, o_NR, o_XI, o_XL, o_XR, o_RI, o_RL, o_LI, o_LR, o_IL, o_IR, o_II, o_LL, o_RR, o_pII, o_pLL, up_s, q_e1, q_e2, Nat.zero_add, Nat.reduceEqDiff, Nat.reduceAdd, Nat.reduceMul, Nat.reduceSub, Nat.reduceLT, Nat.reduceLeDiff, Nat.reduceDiv, Nat.reduceMod, m_r1 H, m_r2 H, m_r3 H, m_r4 H, m_r5 H, m_r18 H, m_r19 H, m_r20 H, m_r24 H, m_r25 H, m_r27 H, m_r28 H, m_r29 H, m_r30 H, m_r31 H, m_r32 H, m_r33 H, m_r34 H, m_r35 H, m_n150 H, m_n151 H, m_n152 H, m_n153 H, m_n154 H, m_n155 H, m_n156 H, m_n157 H, m_n158 H, m_n159 H, m_n160 H, m_n161 H, m_n162 H, m_n163 H, m_n164 H, m_n165 H, m_n166 H, m_n167 H, m_n168 H, m_n169 H, nI_c, nI_add, up_ne, g0, m1, ek, l0_n, c0, not_true_eq_false, not_false_eq_true, and_self, and_true, true_and, and_false, false_and, or_true, true_or, or_false, false_or, decide_true, decide_false, zb_t, zb_f, zb_0, zb_1, eq_self]
    · subst ho
      rw [kd_o]
      have g1 : ((-1 : Int32) < 0) = True := eq_true (by decide)
      show _ = E_ d mX5_filledAt 31 [.val (.ref 150), .val (.int (nI r)), .val (.int (nI i)), .val (.int (-1)), .val (.int (nI (i + 0))), .unset, .unset, .unset, .unset] [] h
      refine wX5_filledAt_5.trans ?_
      simp (disch := first | with_unfolding_all exact id (mok_t H rfl) | exact Or.inr (by with_unfolding_all exact mok_t H rfl) | exact nI_ne0 (by decide) (by decide) | with_unfolding_all exact id (m_x152 H (by omega)) | with_unfolding_all exact id (m_x156 H (by omega)) | with_unfolding_all exact id (m_x158 H (by omega)) | with_unfolding_all exact id (m_x159 H (by omega)) | with_unfolding_all exact id (m_x160 H (by omega)) | exact zb_01 | exact Or.inl rfl | exact Or.inr rfl | omega) only [wX5_filledAt_6, if_true, if_false, ↓reduceIte, xpu_s, xpu_n, Option.bind_some, xk_i, xk_r, xk_0, xk_u, xk_l, xk_k, xk_q, rf_s, rf_n, g1, not_true_eq_false, not_false_eq_true, and_self, and_true, true_and, and_false, false_and, or_true, true_or, or_false, false_or, decide_true, decide_false, zb_t, zb_f, zb_0, zb_1, eq_self]
  -- ahead
  have B : ∀ v : Int32, ∀ o : Option Nat, upf e n i = o → E_ d mX5_filledAt 31 [.val (.ref 150), .val (.int (nI r)), .val (.int (nI i)), .val (.int v), .val (.int (nI (i + 0))), .unset, .unset, .unset, .unset] [] h = E_ d mX5_filledAt 65 [.val (.ref 150), .val (.int (nI r)), .val (.int (nI i)), .val (.int v), .val (.int (nI (match o with | some j => i + j | none => n))), .unset, .unset, .unset, .unset] [] h := by
    intro v
    refine lpe_fi (n := n - i) (z := ()) (p := fun j => here e (i + j)) (P := fun _ _ => True) (Q := fun o' t => ∀ o, o' = o → t = E_ d mX5_filledAt 65 [.val (.ref 150), .val (.int (nI r)), .val (.int (nI i)), .val (.int v), .val (.int (nI (match o with | some j => i + j | none => n))), .unset, .unset, .unset, .unset] [] h) (F := fun j _ => E_ d mX5_filledAt 31 [.val (.ref 150), .val (.int (nI r)), .val (.int (nI i)), .val (.int v), .val (.int (nI (i + j))), .unset, .unset, .unset, .unset] [] h) trivial (fun j _ hj _ => ?_) (fun _ _ o ho => ?_)
    · have lt : (nI (i + j) < nI n) = True := eq_true (nI_lt (by omega) (by omega))
      have ek := eL (i + j) (by omega)
      have x9 := x9 (i + j) (by omega)
      cases y : here e (i + j) with
      | true =>
        have c0 : (e (i + j) < 0) = False := eq_false (here_t y)
        refine Or.inl ⟨rfl, fun o ho => ?_⟩
        subst ho
        refine wX5_filledAt_31.trans ?_
        simp (disch := first | exact x8 | exact x9 | first | with_unfolding_all exact id (mok_t H rfl) | exact Or.inr (by with_unfolding_all exact mok_t H rfl) | exact nI_ne0 (by decide) (by decide) | with_unfolding_all exact id (m_x152 H (by omega)) | with_unfolding_all exact id (m_x156 H (by omega)) | with_unfolding_all exact id (m_x158 H (by omega)) | with_unfolding_all exact id (m_x159 H (by omega)) | with_unfolding_all exact id (m_x160 H (by omega)) | exact zb_01 | exact Or.inl rfl | exact Or.inr rfl | omega) only [wX5_filledAt_e, wX5_filledAt_0, wX5_filledAt_1, wX5_filledAt_2, wX5_filledAt_3, wX5_filledAt_6, wX5_filledAt_9, wX5_filledAt_10, wX5_filledAt_13, wX5_filledAt_15, wX5_filledAt_16, wX5_filledAt_17, wX5_filledAt_18, wX5_filledAt_19, wX5_filledAt_20, wX5_filledAt_21, wX5_filledAt_22, wX5_filledAt_25, wX5_filledAt_28, wX5_filledAt_33, wX5_filledAt_34, wX5_filledAt_37, wX5_filledAt_38, wX5_filledAt_39, wX5_filledAt_42, wX5_filledAt_43, wX5_filledAt_46, wX5_filledAt_48, wX5_filledAt_49, wX5_filledAt_50, wX5_filledAt_52, wX5_filledAt_53, wX5_filledAt_54, wX5_filledAt_55, wX5_filledAt_56, wX5_filledAt_59, wX5_filledAt_62, wX5_filledAt_66, wX5_filledAt_69, wX5_filledAt_70, wX5_filledAt_73, wX5_filledAt_75, wX5_filledAt_76, wX5_filledAt_77, wX5_filledAt_78, wX5_filledAt_79, wX5_filledAt_80, wX5_filledAt_83, wX5_filledAt_84, wX5_filledAt_87, wX5_filledAt_89, wX5_filledAt_90, wX5_filledAt_91, wX5_filledAt_93, wX5_filledAt_94, wX5_filledAt_95, wX5_filledAt_97, wX5_filledAt_99, wX5_filledAt_100, wX5_filledAt_103, wX5_filledAt_104, wX5_filledAt_105, wX5_filledAt_108, wX5_filledAt_109, wX5_filledAt_112, wX5_filledAt_114, wX5_filledAt_115, wX5_filledAt_116, wX5_filledAt_118, wX5_filledAt_119, wX5_filledAt_120, wX5_filledAt_123, wX5_filledAt_125, wX5_filledAt_127, wX5_filledAt_129, wX5_filledAt_131, wX5_filledAt_132, wX5_filledAt_135, wX5_filledAt_136, wX5_filledAt_137, if_true, if_false, ↓reduceIte, xpu_s, xpu_n, Option.bind_some, xk_i, xk_r, xk_0, xk_u, xk_l, xk_k, xk_q, rf_s, rf_n, o_TI, o_TL, o_TR, o_NI, o_NL, o_NR, o_XI, o_XL, o_XR, o_RI, o_RL, o_LI, o_LR, o_IL, o_IR, o_II, o_LL, o_RR, o_pII, o_pLL, up_s, q_e1, q_e2, Nat.zero_add, Nat.reduceEqDiff, Nat.reduceAdd, Nat.reduceMul, Nat.reduceSub, Nat.reduceLT, Nat.reduceLeDiff, Nat.reduceDiv, Nat.reduceMod, m_r1 H, m_r2 H, m_r3 H, m_r4 H, m_r5 H, m_r18 H, m_r19 H, m_r20 H, m_r24 H, m_r25 H, m_r27 H, m_r28 H, m_r29 H, m_r30 H, m_r31 H, m_r32 H, m_r33 H, m_r34 H, m_r35 H, m_n150 H, m_n151 H, m_n152 H, m_n153 H, m_n154 H, m_n155 H, m_n156 H, m_n157 H, m_n158 H, m_n159 H, m_n160 H, m_n161 H, m_n162 H, m_n163 H, m_n164 H, m_n165 H, m_n166 H, m_n167 H, m_n168 H, m_n169 H, nI_c, nI_add, up_ne, eM, lt, m1, ek, l0_n, c0, not_true_eq_false, not_false_eq_true, and_self, and_true, true_and, and_false, false_and, or_true, true_or, or_false, false_or, decide_true, decide_false, zb_t, zb_f, zb_0, zb_1, eq_self]
      | false =>
        have c0 : (e (i + j) < 0) = True := eq_true (here_f y)
        refine Or.inr ⟨rfl, (), ?_, trivial⟩
        refine wX5_filledAt_31.trans ?_
        simp (disch := first | exact x8 | exact x9 | first | with_unfolding_all exact id (mok_t H rfl) | exact Or.inr (by with_unfolding_all exact mok_t H rfl) | exact nI_ne0 (by decide) (by decide) | with_unfolding_all exact id (m_x152 H (by omega)) | with_unfolding_all exact id (m_x156 H (by omega)) | with_unfolding_all exact id (m_x158 H (by omega)) | with_unfolding_all exact id (m_x159 H (by omega)) | with_unfolding_all exact id (m_x160 H (by omega)) | exact zb_01 | exact Or.inl rfl | exact Or.inr rfl | omega) only [wX5_filledAt_e, wX5_filledAt_0, wX5_filledAt_1, wX5_filledAt_2, wX5_filledAt_3, wX5_filledAt_6, wX5_filledAt_9, wX5_filledAt_10, wX5_filledAt_13, wX5_filledAt_15, wX5_filledAt_16, wX5_filledAt_17, wX5_filledAt_18, wX5_filledAt_19, wX5_filledAt_20, wX5_filledAt_21, wX5_filledAt_22, wX5_filledAt_25, wX5_filledAt_28, wX5_filledAt_33, wX5_filledAt_34, wX5_filledAt_37, wX5_filledAt_38, wX5_filledAt_39, wX5_filledAt_42, wX5_filledAt_43, wX5_filledAt_46, wX5_filledAt_48, wX5_filledAt_49, wX5_filledAt_50, wX5_filledAt_52, wX5_filledAt_53, wX5_filledAt_54, wX5_filledAt_55, wX5_filledAt_56, wX5_filledAt_59, wX5_filledAt_62, wX5_filledAt_66, wX5_filledAt_69, wX5_filledAt_70, wX5_filledAt_73, wX5_filledAt_75, wX5_filledAt_76, wX5_filledAt_77, wX5_filledAt_78, wX5_filledAt_79, wX5_filledAt_80, wX5_filledAt_83, wX5_filledAt_84, wX5_filledAt_87, wX5_filledAt_89, wX5_filledAt_90, wX5_filledAt_91, wX5_filledAt_93, wX5_filledAt_94, wX5_filledAt_95, wX5_filledAt_97, wX5_filledAt_99, wX5_filledAt_100, wX5_filledAt_103, wX5_filledAt_104, wX5_filledAt_105, wX5_filledAt_108, wX5_filledAt_109, wX5_filledAt_112, wX5_filledAt_114, wX5_filledAt_115, wX5_filledAt_116, wX5_filledAt_118, wX5_filledAt_119, wX5_filledAt_120, wX5_filledAt_123, wX5_filledAt_125, wX5_filledAt_127, wX5_filledAt_129, wX5_filledAt_131, wX5_filledAt_132, wX5_filledAt_135, wX5_filledAt_136, wX5_filledAt_137, if_true, if_false, ↓reduceIte, xpu_s, xpu_n, Option.bind_some, xk_i, xk_r, xk_0, xk_u, xk_l, xk_k, xk_q, rf_s, rf_n, o_TI, o_TL, o_TR, o_NI, o_NL, o_NR, o_XI, o_XL, o_XR, o_RI, o_RL, o_LI, o_LR, o_IL, o_IR, o_II, o_LL, o_RR, o_pII, o_pLL, up_s, q_e1, q_e2, Nat.zero_add, Nat.reduceEqDiff, Nat.reduceAdd, Nat.reduceMul, Nat.reduceSub, Nat.reduceLT, Nat.reduceLeDiff, Nat.reduceDiv, Nat.reduceMod, m_r1 H, m_r2 H, m_r3 H, m_r4 H, m_r5 H, m_r18 H, m_r19 H, m_r20 H, m_r24 H, m_r25 H, m_r27 H, m_r28 H, m_r29 H, m_r30 H, m_r31 H, m_r32 H, m_r33 H, m_r34 H, m_r35 H, m_n150 H, m_n151 H, m_n152 H, m_n153 H, m_n154 H, m_n155 H, m_n156 H, m_n157 H, m_n158 H, m_n159 H, m_n160 H, m_n161 H, m_n162 H, m_n163 H, m_n164 H, m_n165 H, m_n166 H, m_n167 H, m_n168 H, m_n169 H, nI_c, nI_add, up_ne, eM, lt, m1, ek, l0_n, c0, Nat.add_assoc, not_true_eq_false, not_false_eq_true, and_self, and_true, true_and, and_false, false_and, or_true, true_or, or_false, false_or, decide_true, decide_false, zb_t, zb_f, zb_0, zb_1, eq_self]
    · subst ho
      rw [show i + (n - i) = n by omega]
      refine wX5_filledAt_31.trans ?_
      simp (disch := first | exact x8 | first | with_unfolding_all exact id (mok_t H rfl) | exact Or.inr (by with_unfolding_all exact mok_t H rfl) | exact nI_ne0 (by decide) (by decide) | with_unfolding_all exact id (m_x152 H (by omega)) | with_unfolding_all exact id (m_x156 H (by omega)) | with_unfolding_all exact id (m_x158 H (by omega)) | with_unfolding_all exact id (m_x159 H (by omega)) | with_unfolding_all exact id (m_x160 H (by omega)) | exact zb_01 | exact Or.inl rfl | exact Or.inr rfl | omega) only [wX5_filledAt_33, wX5_filledAt_34, wX5_filledAt_37, wX5_filledAt_38, wX5_filledAt_39, if_true, if_false, ↓reduceIte, xpu_s, xpu_n, Option.bind_some, xk_i, xk_r, xk_0, xk_u, xk_l, xk_k, xk_q, rf_s, rf_n, o_TI, o_TL, o_TR, o_NI, o_NL, o_NR, o_XI, o_XL, o_XR, o_RI, o_RL, o_LI, o_LR, o_IL, o_IR, o_II, o_LL, o_RR, o_pII, o_pLL, up_s, q_e1, q_e2, Nat.zero_add, Nat.reduceEqDiff, Nat.reduceAdd, Nat.reduceMul, Nat.reduceSub, Nat.reduceLT, Nat.reduceLeDiff, Nat.reduceDiv, Nat.reduceMod, m_r1 H, m_r2 H, m_r3 H, m_r4 H, m_r5 H, m_r18 H, m_r19 H, m_r20 H, m_r24 H, m_r25 H, m_r27 H, m_r28 H, m_r29 H, m_r30 H, m_r31 H, m_r32 H, m_r33 H, m_r34 H, m_r35 H, m_n150 H, m_n151 H, m_n152 H, m_n153 H, m_n154 H, m_n155 H, m_n156 H, m_n157 H, m_n158 H, m_n159 H, m_n160 H, m_n161 H, m_n162 H, m_n163 H, m_n164 H, m_n165 H, m_n166 H, m_n167 H, m_n168 H, m_n169 H, nI_c, nI_add, up_ne, eM, i_irr, not_true_eq_false, not_false_eq_true, and_self, and_true, true_and, and_false, false_and, or_true, true_or, or_false, false_or, decide_true, decide_false, zb_t, zb_f, zb_0, zb_1, eq_self]
  have nu : ∀ k, k < n → here e k = true → ∃ v, e k = lN v ∧ v ≤ 1000000 ∧ (e k).toNatClampNeg = v := fun k hk y => by
    have := nu_h (here_t y) (big_f hb hk)
    exact ⟨_, this.1, this.2, rfl⟩
  have two : (2 : Int64) = lN 2 := rfl
  cases q1 : dnf e i with
  | some j1 =>
    have f1 := fi_some q1
    obtain ⟨v1, w1, w2, w3⟩ := nu (i - j1) (by omega) f1.2
    have ek1 := (eL (i - j1) (by omega)).trans w1
    have y1 := x9 (i - j1) (by omega)
    have g0 : (nI (i - j1) < 0) = False := nI_ltz (by omega)
    rw [A _ q1]
    show E_ d mX5_filledAt 31 [.val (.ref 150), .val (.int (nI r)), .val (.int (nI i)), .val (.int (nI (i - j1))), .val (.int (nI (i + 0))), .unset, .unset, .unset, .unset] [] h = _
    cases q2 : upf e n i with
    | some j2 =>
      have f2 := fi_some q2
      obtain ⟨v2, u1, u2, u3⟩ := nu (i + j2) (by omega) f2.2
      have ek2 := (eL (i + j2) (by omega)).trans u1
      have y2 := x9 (i + j2) (by omega)
      have lt : (nI (i + j2) < nI n) = True := eq_true (nI_lt (by omega) (by omega))
      have ef : fil e n i = some ((v1 + v2) / 2) := by
        unfold fil xdn xup
        rw [q1, q2]
        show some (((e (i - j1)).toNatClampNeg + (e (i + j2)).toNatClampNeg) / 2) = _
        rw [w3, u3]
      have dv : (lN v1 + lN v2) / 2 = lN ((v1 + v2) / 2) := by rw [lN_add, two, lN_div (by omega) (by omega)]
      rw [B _ _ q2, ef]
      show E_ d mX5_filledAt 65 [.val (.ref 150), .val (.int (nI r)), .val (.int (nI i)), .val (.int (nI (i - j1))), .val (.int (nI (i + j2))), .unset, .unset, .unset, .unset] [] h = some (some (.int (nI ((v1 + v2) / 2))), h)
      simp (disch := first | exact n2_0 | exact x8 | exact y1 | exact y2 | first | with_unfolding_all exact id (mok_t H rfl) | exact Or.inr (by with_unfolding_all exact mok_t H rfl) | exact nI_ne0 (by decide) (by decide) | with_unfolding_all exact id (m_x152 H (by omega)) | with_unfolding_all exact id (m_x156 H (by omega)) | with_unfolding_all exact id (m_x158 H (by omega)) | with_unfolding_all exact id (m_x159 H (by omega)) | with_unfolding_all exact id (m_x160 H (by omega)) | exact zb_01 | exact Or.inl rfl | exact Or.inr rfl | omega) only [wX5_filledAt_e, wX5_filledAt_0, wX5_filledAt_1, wX5_filledAt_2, wX5_filledAt_3, wX5_filledAt_6, wX5_filledAt_9, wX5_filledAt_10, wX5_filledAt_13, wX5_filledAt_15, wX5_filledAt_16, wX5_filledAt_17, wX5_filledAt_18, wX5_filledAt_19, wX5_filledAt_20, wX5_filledAt_21, wX5_filledAt_22, wX5_filledAt_25, wX5_filledAt_28, wX5_filledAt_33, wX5_filledAt_34, wX5_filledAt_37, wX5_filledAt_38, wX5_filledAt_39, wX5_filledAt_42, wX5_filledAt_43, wX5_filledAt_46, wX5_filledAt_48, wX5_filledAt_49, wX5_filledAt_50, wX5_filledAt_52, wX5_filledAt_53, wX5_filledAt_54, wX5_filledAt_55, wX5_filledAt_56, wX5_filledAt_59, wX5_filledAt_62, wX5_filledAt_65, wX5_filledAt_66, wX5_filledAt_69, wX5_filledAt_70, wX5_filledAt_73, wX5_filledAt_75, wX5_filledAt_76, wX5_filledAt_77, wX5_filledAt_78, wX5_filledAt_79, wX5_filledAt_80, wX5_filledAt_83, wX5_filledAt_84, wX5_filledAt_87, wX5_filledAt_89, wX5_filledAt_90, wX5_filledAt_91, wX5_filledAt_93, wX5_filledAt_94, wX5_filledAt_95, wX5_filledAt_97, wX5_filledAt_99, wX5_filledAt_100, wX5_filledAt_103, wX5_filledAt_104, wX5_filledAt_105, wX5_filledAt_108, wX5_filledAt_109, wX5_filledAt_112, wX5_filledAt_114, wX5_filledAt_115, wX5_filledAt_116, wX5_filledAt_118, wX5_filledAt_119, wX5_filledAt_120, wX5_filledAt_123, wX5_filledAt_125, wX5_filledAt_127, wX5_filledAt_129, wX5_filledAt_131, wX5_filledAt_132, wX5_filledAt_135, wX5_filledAt_136, wX5_filledAt_137, if_true, if_false, ↓reduceIte, xpu_s, xpu_n, Option.bind_some, xk_i, xk_r, xk_0, xk_u, xk_l, xk_k, xk_q, rf_s, rf_n, o_TI, o_TL, o_TR, o_NI, o_NL, o_NR, o_XI, o_XL, o_XR, o_RI, o_RL, o_LI, o_LR, o_IL, o_IR, o_II, o_LL, o_RR, o_pII, o_pLL, up_s, q_e1, q_e2, Nat.zero_add, Nat.reduceEqDiff, Nat.reduceAdd, Nat.reduceMul, Nat.reduceSub, Nat.reduceLT, Nat.reduceLeDiff, Nat.reduceDiv, Nat.reduceMod, m_r1 H, m_r2 H, m_r3 H, m_r4 H, m_r5 H, m_r18 H, m_r19 H, m_r20 H, m_r24 H, m_r25 H, m_r27 H, m_r28 H, m_r29 H, m_r30 H, m_r31 H, m_r32 H, m_r33 H, m_r34 H, m_r35 H, m_n150 H, m_n151 H, m_n152 H, m_n153 H, m_n154 H, m_n155 H, m_n156 H, m_n157 H, m_n158 H, m_n159 H, m_n160 H, m_n161 H, m_n162 H, m_n163 H, m_n164 H, m_n165 H, m_n166 H, m_n167 H, m_n168 H, m_n169 H, nI_c, nI_add, up_ne, eM, g0, lt, m1, ek1, ek2, dv, lN_i, not_true_eq_false, not_false_eq_true, and_self, and_true, true_and, and_false, false_and, or_true, true_or, or_false, false_or, decide_true, decide_false, zb_t, zb_f, zb_0, zb_1, eq_self]
    | none =>
      have ef : fil e n i = some v1 := by
        unfold fil xdn xup
        rw [q1, q2]
        show some (e (i - j1)).toNatClampNeg = _
        rw [w3]
      have dv : (lN v1 + lN v1) / 2 = lN v1 := by rw [lN_add, two, lN_div (by omega) (by omega)]; congr 1; omega
      rw [B _ _ q2, ef]
      show E_ d mX5_filledAt 65 [.val (.ref 150), .val (.int (nI r)), .val (.int (nI i)), .val (.int (nI (i - j1))), .val (.int (nI n)), .unset, .unset, .unset, .unset] [] h = some (some (.int (nI v1)), h)
      simp (disch := first | exact n2_0 | exact x8 | exact y1 | first | with_unfolding_all exact id (mok_t H rfl) | exact Or.inr (by with_unfolding_all exact mok_t H rfl) | exact nI_ne0 (by decide) (by decide) | with_unfolding_all exact id (m_x152 H (by omega)) | with_unfolding_all exact id (m_x156 H (by omega)) | with_unfolding_all exact id (m_x158 H (by omega)) | with_unfolding_all exact id (m_x159 H (by omega)) | with_unfolding_all exact id (m_x160 H (by omega)) | exact zb_01 | exact Or.inl rfl | exact Or.inr rfl | omega) only [wX5_filledAt_e, wX5_filledAt_0, wX5_filledAt_1, wX5_filledAt_2, wX5_filledAt_3, wX5_filledAt_6, wX5_filledAt_9, wX5_filledAt_10, wX5_filledAt_13, wX5_filledAt_15, wX5_filledAt_16, wX5_filledAt_17, wX5_filledAt_18, wX5_filledAt_19, wX5_filledAt_20, wX5_filledAt_21, wX5_filledAt_22, wX5_filledAt_25, wX5_filledAt_28, wX5_filledAt_33, wX5_filledAt_34, wX5_filledAt_37, wX5_filledAt_38, wX5_filledAt_39, wX5_filledAt_42, wX5_filledAt_43, wX5_filledAt_46, wX5_filledAt_48, wX5_filledAt_49, wX5_filledAt_50, wX5_filledAt_52, wX5_filledAt_53, wX5_filledAt_54, wX5_filledAt_55, wX5_filledAt_56, wX5_filledAt_59, wX5_filledAt_62, wX5_filledAt_65, wX5_filledAt_66, wX5_filledAt_69, wX5_filledAt_70, wX5_filledAt_73, wX5_filledAt_75, wX5_filledAt_76, wX5_filledAt_77, wX5_filledAt_78, wX5_filledAt_79, wX5_filledAt_80, wX5_filledAt_83, wX5_filledAt_84, wX5_filledAt_87, wX5_filledAt_89, wX5_filledAt_90, wX5_filledAt_91, wX5_filledAt_93, wX5_filledAt_94, wX5_filledAt_95, wX5_filledAt_97, wX5_filledAt_99, wX5_filledAt_100, wX5_filledAt_103, wX5_filledAt_104, wX5_filledAt_105, wX5_filledAt_108, wX5_filledAt_109, wX5_filledAt_112, wX5_filledAt_114, wX5_filledAt_115, wX5_filledAt_116, wX5_filledAt_118, wX5_filledAt_119, wX5_filledAt_120, wX5_filledAt_123, wX5_filledAt_125, wX5_filledAt_127, wX5_filledAt_129, wX5_filledAt_131, wX5_filledAt_132, wX5_filledAt_135, wX5_filledAt_136, wX5_filledAt_137, if_true, if_false, ↓reduceIte, xpu_s, xpu_n, Option.bind_some, xk_i, xk_r, xk_0, xk_u, xk_l, xk_k, xk_q, rf_s, rf_n, o_TI, o_TL, o_TR, o_NI, o_NL, o_NR, o_XI, o_XL, o_XR, o_RI, o_RL, o_LI, o_LR, o_IL, o_IR, o_II, o_LL, o_RR, o_pII, o_pLL, up_s, q_e1, q_e2, Nat.zero_add, Nat.reduceEqDiff, Nat.reduceAdd, Nat.reduceMul, Nat.reduceSub, Nat.reduceLT, Nat.reduceLeDiff, Nat.reduceDiv, Nat.reduceMod, m_r1 H, m_r2 H, m_r3 H, m_r4 H, m_r5 H, m_r18 H, m_r19 H, m_r20 H, m_r24 H, m_r25 H, m_r27 H, m_r28 H, m_r29 H, m_r30 H, m_r31 H, m_r32 H, m_r33 H, m_r34 H, m_r35 H, m_n150 H, m_n151 H, m_n152 H, m_n153 H, m_n154 H, m_n155 H, m_n156 H, m_n157 H, m_n158 H, m_n159 H, m_n160 H, m_n161 H, m_n162 H, m_n163 H, m_n164 H, m_n165 H, m_n166 H, m_n167 H, m_n168 H, m_n169 H, nI_c, nI_add, up_ne, eM, g0, i_irr, m1, ek1, dv, lN_i, not_true_eq_false, not_false_eq_true, and_self, and_true, true_and, and_false, false_and, or_true, true_or, or_false, false_or, decide_true, decide_false, zb_t, zb_f, zb_0, zb_1, eq_self]
  | none =>
    rw [A _ q1]
    show E_ d mX5_filledAt 31 [.val (.ref 150), .val (.int (nI r)), .val (.int (nI i)), .val (.int (-1)), .val (.int (nI (i + 0))), .unset, .unset, .unset, .unset] [] h = _
    have g1 : ((-1 : Int32) < 0) = True := eq_true (by decide)
    cases q2 : upf e n i with
    | some j2 =>
      have f2 := fi_some q2
      obtain ⟨v2, u1, u2, u3⟩ := nu (i + j2) (by omega) f2.2
      have ek2 := (eL (i + j2) (by omega)).trans u1
      have y2 := x9 (i + j2) (by omega)
      have lt : (nI (i + j2) < nI n) = True := eq_true (nI_lt (by omega) (by omega))
      have ef : fil e n i = some v2 := by
        unfold fil xdn xup
        rw [q1, q2]
        show some (e (i + j2)).toNatClampNeg = _
        rw [u3]
      have dv : (lN v2 + lN v2) / 2 = lN v2 := by rw [lN_add, two, lN_div (by omega) (by omega)]; congr 1; omega
      rw [B _ _ q2, ef]
      show E_ d mX5_filledAt 65 [.val (.ref 150), .val (.int (nI r)), .val (.int (nI i)), .val (.int (-1)), .val (.int (nI (i + j2))), .unset, .unset, .unset, .unset] [] h = some (some (.int (nI v2)), h)
      simp (disch := first | exact n2_0 | exact x8 | exact y2 | first | with_unfolding_all exact id (mok_t H rfl) | exact Or.inr (by with_unfolding_all exact mok_t H rfl) | exact nI_ne0 (by decide) (by decide) | with_unfolding_all exact id (m_x152 H (by omega)) | with_unfolding_all exact id (m_x156 H (by omega)) | with_unfolding_all exact id (m_x158 H (by omega)) | with_unfolding_all exact id (m_x159 H (by omega)) | with_unfolding_all exact id (m_x160 H (by omega)) | exact zb_01 | exact Or.inl rfl | exact Or.inr rfl | omega) only [wX5_filledAt_e, wX5_filledAt_0, wX5_filledAt_1, wX5_filledAt_2, wX5_filledAt_3, wX5_filledAt_6, wX5_filledAt_9, wX5_filledAt_10, wX5_filledAt_13, wX5_filledAt_15, wX5_filledAt_16, wX5_filledAt_17, wX5_filledAt_18, wX5_filledAt_19, wX5_filledAt_20, wX5_filledAt_21, wX5_filledAt_22, wX5_filledAt_25, wX5_filledAt_28, wX5_filledAt_33, wX5_filledAt_34, wX5_filledAt_37, wX5_filledAt_38, wX5_filledAt_39, wX5_filledAt_42, wX5_filledAt_43, wX5_filledAt_46, wX5_filledAt_48, wX5_filledAt_49, wX5_filledAt_50, wX5_filledAt_52, wX5_filledAt_53, wX5_filledAt_54, wX5_filledAt_55, wX5_filledAt_56, wX5_filledAt_59, wX5_filledAt_62, wX5_filledAt_65, wX5_filledAt_66, wX5_filledAt_69, wX5_filledAt_70, wX5_filledAt_73, wX5_filledAt_75, wX5_filledAt_76, wX5_filledAt_77, wX5_filledAt_78, wX5_filledAt_79, wX5_filledAt_80, wX5_filledAt_83, wX5_filledAt_84, wX5_filledAt_87, wX5_filledAt_89, wX5_filledAt_90, wX5_filledAt_91, wX5_filledAt_93, wX5_filledAt_94, wX5_filledAt_95, wX5_filledAt_97, wX5_filledAt_99, wX5_filledAt_100, wX5_filledAt_103, wX5_filledAt_104, wX5_filledAt_105, wX5_filledAt_108, wX5_filledAt_109, wX5_filledAt_112, wX5_filledAt_114, wX5_filledAt_115, wX5_filledAt_116, wX5_filledAt_118, wX5_filledAt_119, wX5_filledAt_120, wX5_filledAt_123, wX5_filledAt_125, wX5_filledAt_127, wX5_filledAt_129, wX5_filledAt_131, wX5_filledAt_132, wX5_filledAt_135, wX5_filledAt_136, wX5_filledAt_137, if_true, if_false, ↓reduceIte, xpu_s, xpu_n, Option.bind_some, xk_i, xk_r, xk_0, xk_u, xk_l, xk_k, xk_q, rf_s, rf_n, o_TI, o_TL, o_TR, o_NI, o_NL, o_NR, o_XI, o_XL, o_XR, o_RI, o_RL, o_LI, o_LR, o_IL, o_IR, o_II, o_LL, o_RR, o_pII, o_pLL, up_s, q_e1, q_e2, Nat.zero_add, Nat.reduceEqDiff, Nat.reduceAdd, Nat.reduceMul, Nat.reduceSub, Nat.reduceLT, Nat.reduceLeDiff, Nat.reduceDiv, Nat.reduceMod, m_r1 H, m_r2 H, m_r3 H, m_r4 H, m_r5 H, m_r18 H, m_r19 H, m_r20 H, m_r24 H, m_r25 H, m_r27 H, m_r28 H, m_r29 H, m_r30 H, m_r31 H, m_r32 H, m_r33 H, m_r34 H, m_r35 H, m_n150 H, m_n151 H, m_n152 H, m_n153 H, m_n154 H, m_n155 H, m_n156 H, m_n157 H, m_n158 H, m_n159 H, m_n160 H, m_n161 H, m_n162 H, m_n163 H, m_n164 H, m_n165 H, m_n166 H, m_n167 H, m_n168 H, m_n169 H, nI_c, nI_add, up_ne, eM, g1, lt, m1, ek2, dv, lN_i, not_true_eq_false, not_false_eq_true, and_self, and_true, true_and, and_false, false_and, or_true, true_or, or_false, false_or, decide_true, decide_false, zb_t, zb_f, zb_0, zb_1, eq_self]
    | none =>
      rcases fil_some ha hi with ⟨j, z⟩ | ⟨j, z⟩
      · rw [q1] at z; cases z
      · rw [q2] at z; cases z
end
