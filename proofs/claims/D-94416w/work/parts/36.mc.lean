/-! the greatest of some -/
theorem im_toInt (a b : Int32) : (im a b).toInt = if a.toInt < b.toInt then b.toInt else a.toInt := by
  unfold im
  by_cases h : a < b
  · rw [if_pos h, if_pos (Int32.lt_iff_toInt_lt.mp h)]
  · rw [if_neg h, if_neg (fun q => h (Int32.lt_iff_toInt_lt.mpr q))]
theorem im_comm (a b : Int32) : im a b = im b a := by
  apply Int32.toInt_inj.mp
  rw [im_toInt, im_toInt]
  (repeat' split) <;> omega
theorem im_r (a b c : Int32) : im (im a b) c = im (im a c) b := by
  apply Int32.toInt_inj.mp
  rw [im_toInt, im_toInt, im_toInt, im_toInt]
  (repeat' split) <;> omega
def mx (p : Nat → Prop) [DecidablePred p] (v : rI) (n : Nat) : Int32 := fo_ (fun k b => if p k then im b (v k) else b) n (-1)
theorem mx_eq {p q : Nat → Prop} [DecidablePred p] [DecidablePred q] {v u : rI} {n : Nat} (h : ∀ k, k < n → (p k ↔ q k) ∧ (p k → v k = u k)) : mx p v n = mx q u n := fo_eq fun k b hk => by
  obtain ⟨h1, h2⟩ := h k hk
  by_cases e : p k
  · rw [if_pos e, if_pos (h1.mp e), h2 e]
  · rw [if_neg e, if_neg (fun z => e (h1.mpr z))]
theorem mx_add {p q : Nat → Prop} [DecidablePred p] [DecidablePred q] {v u : rI} {c N : Nat} (hc : ¬ p c) (h : ∀ k, k < N → k ≠ c → (p k ↔ q k) ∧ (p k → v k = u k)) : ∀ n, n ≤ N → c < n → mx q u n = if q c then im (mx p v n) (u c) else mx p v n
  | 0, _, h0 => absurd h0 (Nat.not_lt_zero _)
  | n + 1, hN, hn => by
    have e1 : mx q u (n + 1) = if q n then im (mx q u n) (u n) else mx q u n := rfl
    have e2 : mx p v (n + 1) = if p n then im (mx p v n) (v n) else mx p v n := rfl
    by_cases hcn : n = c
    · subst hcn
      have e3 : mx q u n = mx p v n := (mx_eq fun k hk => h k (by omega) (by omega)).symm
      rw [e1, e2, if_neg hc, e3]
    · obtain ⟨h1, h2⟩ := h n (by omega) hcn
      have ih := mx_add hc h n (by omega) (by omega)
      rw [e1, e2, ih]
      by_cases e : p n
      · rw [if_pos e, if_pos (h1.mp e), ← h2 e]
        by_cases z : q c
        · rw [if_pos z, if_pos z, im_r]
        · rw [if_neg z, if_neg z]
      · rw [if_neg e, if_neg (fun z => e (h1.mpr z))]
theorem mx_none {p : Nat → Prop} [DecidablePred p] {v : rI} : ∀ {n : Nat}, (∀ k, k < n → ¬ p k) → mx p v n = -1
  | 0, _ => rfl
  | n + 1, h => by
    show (if p n then im (mx p v n) (v n) else mx p v n) = -1
    rw [if_neg (h n (Nat.lt_succ_self n)), mx_none fun k hk => h k (Nat.lt_succ_of_lt hk)]
theorem gN_mx {A w f g : rI} {c : Nat} : gN A w f g c = mx (fun k => ¬ f k = 0 ∧ A (2 + k) = A (2 + c) ∧ 0 < w k ∧ (w (16 + k) = nI 2 ∨ ¬ g k = 0)) w (sN A) := fo_eq fun k b hk => by
  unfold im
  by_cases h1 : ¬ f k = 0 ∧ A (2 + k) = A (2 + c) ∧ 0 < w k ∧ (w (16 + k) = nI 2 ∨ ¬ g k = 0)
  · rw [if_pos h1]
    by_cases h2 : b < w k
    · rw [if_pos h2, if_pos ⟨h1.1, h1.2.1, h1.2.2.1, h1.2.2.2, h2⟩]
    · rw [if_neg h2, if_neg (fun z => h2 z.2.2.2.2)]
  · rw [if_neg h1, if_neg (fun z => h1 ⟨z.1, z.2.1, z.2.2.1, z.2.2.2.1⟩)]
/-! CONTRACTS of the model: the cars of all lanes -/
def hz (w0 ws : rI) : rI := fun k => if 24 ≤ k ∧ k < 32 then w0 k else ws k
def mz (f0 : rI) (mv : Nat → Bool) : rI := fun k => if k < 8 then zb (mv k) else f0 k
def gz (g0 ws : rI) : rI := fun k => if k < 8 then ws (24 + k) else g0 k
def HM (h : xH) (ws : rI) (mv : Nat → Bool) (kn : Int32) : xH := pI (pI (pI (pI h 150 (va_up (oI h 150) 26 kn)) 156 (hz (oI h 156) ws)) 159 (mz (oI h 159) mv)) 160 (gz (oI h 160) ws)
theorem hz_c {w0 ws : rI} {k : Nat} (h : k < 24 ∨ 32 ≤ k) : hz w0 ws k = ws k := if_neg (by omega)
theorem mz_c {f0 : rI} {mv : Nat → Bool} {k : Nat} (h : k < 8) : mz f0 mv k = zb (mv k) := if_pos h
theorem gz_c {g0 ws : rI} {k : Nat} (h : k < 8) : gz g0 ws k = ws (24 + k) := if_pos h
theorem hz_gW {w0 ws : rI} {b : Int32} {c : Nat} (hc : c < 8) {v : Int32} : gW (hz w0 ws) b c = hz w0 (va_up (gW ws b c) (24 + c) v) := by
  have e1 : hz w0 ws (16 + c) = ws (16 + c) := hz_c (by omega)
  have e2 : hz w0 ws (8 + c) = ws (8 + c) := hz_c (by omega)
  have e3 : hz w0 ws c = ws c := hz_c (by omega)
  unfold gW gL gT gP
  rw [e1, e2, e3]
  funext k
  by_cases q : ws (16 + c) = nI 2
  · simp only [if_pos q]
    unfold hz va_up
    by_cases k1 : 24 ≤ k ∧ k < 32
    · simp only [if_pos k1, if_neg (show ¬ k = c by omega), if_neg (show ¬ k = 8 + c by omega)]
    · simp only [if_neg k1, if_neg (show ¬ k = 24 + c by omega)]
  · simp only [if_neg q]
    unfold hz va_up
    by_cases k1 : 24 ≤ k ∧ k < 32
    · simp only [if_pos k1, if_neg (show ¬ k = c by omega)]
    · simp only [if_neg k1, if_neg (show ¬ k = 24 + c by omega)]
theorem mz_up {f0 : rI} {mv : Nat → Bool} {c : Nat} (hc : c < 8) : va_up (mz f0 mv) c (nI 1) = mz f0 (va_up mv c true) := by
  funext k
  unfold mz va_up
  by_cases k1 : k = c
  · subst k1
    simp only [if_true, if_pos hc]
    rfl
  · simp only [if_neg k1]
theorem gz_gH {w0 g0 ws : rI} {b : Int32} {c : Nat} (hc : c < 8) (h0 : ws (24 + c) = nI 0) : gH (hz w0 ws) (gz g0 ws) b c = gz g0 (sGo ws b c) := by
  have e1 : hz w0 ws (16 + c) = ws (16 + c) := hz_c (by omega)
  have e2 : hz w0 ws (8 + c) = ws (8 + c) := hz_c (by omega)
  have e3 : hz w0 ws c = ws c := hz_c (by omega)
  unfold gH sGo gW gL gT
  rw [e1, e2, e3]
  funext k
  by_cases q : ws (16 + c) = nI 2
  · simp only [if_pos q]
    unfold gz va_up
    by_cases k1 : k < 8
    · by_cases k2 : k = c
      · subst k2
        simp only [if_pos k1, if_true, h0]
      · simp only [if_pos k1, if_neg (show ¬ 24 + k = 24 + c by omega), if_neg (show ¬ 24 + k = c by omega), if_neg (show ¬ 24 + k = 8 + c by omega)]
    · simp only [if_neg k1]
  · simp only [if_neg q]
    unfold gz va_up
    by_cases k1 : k < 8
    · by_cases k2 : k = c
      · subst k2
        simp only [if_pos k1, if_true]
      · simp only [if_pos k1, if_neg k2, if_neg (show ¬ 24 + k = 24 + c by omega), if_neg (show ¬ 24 + k = c by omega)]
    · simp only [if_neg k1, if_neg (show ¬ k = c by omega)]
theorem sGo_at {ws : rI} {b : Int32} {c k : Nat} (h1 : k ≠ c) (h2 : k ≠ 8 + c) (h3 : k ≠ 24 + c) : sGo ws b c k = ws k := by
  unfold sGo gW
  rw [up_ne h3]
  split
  · rw [up_ne h1, up_ne h2]
  · rw [up_ne h1]
theorem gW_at {ws : rI} {b : Int32} {c k : Nat} (h1 : k ≠ c) (h2 : k ≠ 8 + c) : gW ws b c k = ws k := by
  unfold gW
  split
  · rw [up_ne h1, up_ne h2]
  · rw [up_ne h1]
theorem sNe_some {A w : rI} {mv : Nat → Bool} {lane : Int32} {c : Nat} (h : sNe A w mv lane = some c) : c < sN A ∧ A (2 + c) = lane ∧ mv c = false ∧ 0 < w c :=
  fo_in (P := fun k (b : Option Nat) => ∀ c, b = some c → c < k ∧ A (2 + c) = lane ∧ mv c = false ∧ 0 < w c) (f := fun c b => if A (2 + c) = lane ∧ mv c = false ∧ 0 < w c ∧ nq w c b = true then some c else b) (s := none) (fun _ e => by cases e) (n := sN A) (fun k b hk ih c e => by
    by_cases q : A (2 + k) = lane ∧ mv k = false ∧ 0 < w k ∧ nq w k b = true
    · rw [if_pos q] at e
      cases e
      exact ⟨Nat.lt_succ_self _, q.1, q.2.1, q.2.2.1⟩
    · rw [if_neg q] at e
      obtain ⟨h1, h2⟩ := ih c e
      exact ⟨Nat.lt_succ_of_lt h1, h2⟩) c h
/-- how many have not gone -/
def cu (mv : Nat → Bool) : Nat → Nat
  | 0 => 0
  | n + 1 => cu mv n + (if mv n = false then 1 else 0)
theorem cu_le {mv : Nat → Bool} : ∀ n, cu mv n ≤ n
  | 0 => Nat.le_refl _
  | n + 1 => by
    have := cu_le (mv := mv) n
    show cu mv n + (if mv n = false then 1 else 0) ≤ n + 1
    split <;> omega
theorem cu_pos {mv : Nat → Bool} {c : Nat} (hm : mv c = false) : ∀ n, c < n → 1 ≤ cu mv n
  | 0, h => absurd h (Nat.not_lt_zero _)
  | n + 1, h => by
    show 1 ≤ cu mv n + (if mv n = false then 1 else 0)
    by_cases q : c = n
    · subst q; rw [if_pos hm]; omega
    · have := cu_pos hm n (by omega); omega
theorem cu_up {mv : Nat → Bool} {c : Nat} (hm : mv c = false) : ∀ n, cu (va_up mv c true) n + (if c < n then 1 else 0) = cu mv n
  | 0 => by rfl
  | n + 1 => by
    have ih := cu_up hm n
    show cu (va_up mv c true) n + (if va_up mv c true n = false then 1 else 0) + _ = cu mv n + (if mv n = false then 1 else 0)
    by_cases q : n = c
    · subst q
      rw [if_neg (Nat.lt_irrefl n)] at ih
      rw [up_s, if_neg (by decide), if_pos (Nat.lt_succ_self n), if_pos hm]
      omega
    · rw [up_ne q]
      by_cases q2 : c < n
      · have q3 : c < n + 1 := by omega
        rw [if_pos q2] at ih; rw [if_pos q3]; omega
      · have q3 : ¬ c < n + 1 := by omega
        rw [if_neg q2] at ih; rw [if_neg q3]; omega
section
variable {d : Nat} {h : xH}
theorem near_loop (H : MOK h) (W1 : oI h 152 1 = nI (sN (oI h 152))) (W2 : sN (oI h 152) ≤ 8) {ws : rI} {mv : Nat → Bool} (hw : ∀ k, k < 8 → oI h 156 k = ws k) (hm : ∀ k, k < 8 → oI h 159 k = zb (mv k)) {lane : Int32} {z3 z4 : Slot} : E_ d mX5_carsGo 47 [.val (.ref 150), .val (.int lane), .val (.int (nI 1)), z3, z4] [] h = E_ d mX5_carsGo 136 [.val (.ref 150), .val (.int lane), .val (.int (nI 1)), .val (.int (oe (sNe (oI h 152) ws mv lane))), .val (.int (nI (sN (oI h 152))))] [] h := by
  have e0 : E_ d mX5_carsGo 47 [.val (.ref 150), .val (.int lane), .val (.int (nI 1)), z3, z4] [] h = E_ d mX5_carsGo 56 [.val (.ref 150), .val (.int lane), .val (.int (nI 1)), .val (.int (oe none)), .val (.int (nI 0))] [] h := by
    simp (disch := first | with_unfolding_all exact id (mok_t H rfl) | exact Or.inr (by with_unfolding_all exact mok_t H rfl) | exact nI_ne0 (by decide) (by decide) | with_unfolding_all exact id (m_x152 H (by omega)) | with_unfolding_all exact id (m_x156 H (by omega)) | with_unfolding_all exact id (m_x158 H (by omega)) | with_unfolding_all exact id (m_x159 H (by omega)) | with_unfolding_all exact id (m_x160 H (by omega)) | exact zb_01 | exact Or.inl rfl | exact Or.inr rfl | omega) only [wX5_carsGo_47, wX5_carsGo_48, wX5_carsGo_51, wX5_carsGo_52, wX5_carsGo_53, wX5_carsGo_54, if_true, if_false, ↓reduceIte, xpu_s, xpu_n, Option.bind_some, xk_i, xk_r, xk_0, xk_u, xk_l, xk_k, xk_q, rf_s, rf_n, o_TI, o_TL, o_TR, o_NI, o_NL, o_NR, o_XI, o_XL, o_XR, o_RI, o_RL, o_LI, o_LR, o_IL, o_IR, o_II, o_LL, o_RR, o_pII, o_pLL, up_s, q_e1, q_e2, Nat.zero_add, Nat.reduceEqDiff, Nat.reduceAdd, Nat.reduceMul, Nat.reduceSub, Nat.reduceLT, Nat.reduceLeDiff, Nat.reduceDiv, Nat.reduceMod, m_r1 H, m_r2 H, m_r3 H, m_r4 H, m_r5 H, m_r18 H, m_r19 H, m_r20 H, m_r24 H, m_r25 H, m_r27 H, m_r28 H, m_r29 H, m_r30 H, m_r31 H, m_r32 H, m_r33 H, m_r34 H, m_r35 H, m_n150 H, m_n151 H, m_n152 H, m_n153 H, m_n154 H, m_n155 H, m_n156 H, m_n157 H, m_n158 H, m_n159 H, m_n160 H, m_n161 H, m_n162 H, m_n163 H, m_n164 H, m_n165 H, m_n166 H, m_n167 H, m_n168 H, m_n169 H, nI_c, nI_add, up_ne, nI_ne1, oe]
  refine e0.trans ?_
  refine (lpj_if (n := sN (oI h 152)) (p := fun c b => oI h 152 (2 + c) = lane ∧ mv c = false ∧ 0 < ws c ∧ nq ws c b = true) (g := fun c _ => some c) (P := fun k b => ∀ j, b = some j → j < k) (X := fun b => E_ d mX5_carsGo 136 [.val (.ref 150), .val (.int lane), .val (.int (nI 1)), .val (.int (oe b)), .val (.int (nI (sN (oI h 152))))] [] h) (F := fun k (b : Option Nat) (_ : Unit) => E_ d mX5_carsGo 56 [.val (.ref 150), .val (.int lane), .val (.int (nI 1)), .val (.int (oe b)), .val (.int (nI k))] [] h) (fun j e => by cases e) (fun k b z hk hb => ⟨(), ?_, ?_⟩) (fun b z _ => ?_) ()).1
  · refine wX5_carsGo_56.trans ?_
    have k8 : k < 8 := by omega
    have a1 := hw k k8
    have a2 := hm k k8
    cases b with
    | none =>
      simp (disch := first | with_unfolding_all exact id (mok_t H rfl) | exact Or.inr (by with_unfolding_all exact mok_t H rfl) | exact nI_ne0 (by decide) (by decide) | with_unfolding_all exact id (m_x152 H (by omega)) | with_unfolding_all exact id (m_x156 H (by omega)) | with_unfolding_all exact id (m_x158 H (by omega)) | with_unfolding_all exact id (m_x159 H (by omega)) | with_unfolding_all exact id (m_x160 H (by omega)) | exact zb_01 | exact Or.inl rfl | exact Or.inr rfl | omega) only [wX5_carsGo_58, wX5_carsGo_59, wX5_carsGo_62, wX5_carsGo_63, wX5_carsGo_64, wX5_carsGo_67, wX5_carsGo_68, wX5_carsGo_71, wX5_carsGo_72, wX5_carsGo_74, wX5_carsGo_75, wX5_carsGo_76, wX5_carsGo_77, wX5_carsGo_80, wX5_carsGo_81, wX5_carsGo_84, wX5_carsGo_86, wX5_carsGo_87, wX5_carsGo_90, wX5_carsGo_91, wX5_carsGo_94, wX5_carsGo_95, wX5_carsGo_97, wX5_carsGo_98, wX5_carsGo_99, wX5_carsGo_102, wX5_carsGo_103, wX5_carsGo_104, wX5_carsGo_107, wX5_carsGo_108, wX5_carsGo_111, wX5_carsGo_112, wX5_carsGo_114, wX5_carsGo_115, wX5_carsGo_116, wX5_carsGo_117, wX5_carsGo_120, wX5_carsGo_121, wX5_carsGo_122, wX5_carsGo_123, wX5_carsGo_124, wX5_carsGo_127, wX5_carsGo_129, wX5_carsGo_130, wX5_carsGo_133, if_true, if_false, ↓reduceIte, xpu_s, xpu_n, Option.bind_some, xk_i, xk_r, xk_0, xk_u, xk_l, xk_k, xk_q, rf_s, rf_n, o_TI, o_TL, o_TR, o_NI, o_NL, o_NR, o_XI, o_XL, o_XR, o_RI, o_RL, o_LI, o_LR, o_IL, o_IR, o_II, o_LL, o_RR, o_pII, o_pLL, up_s, q_e1, q_e2, Nat.zero_add, Nat.reduceEqDiff, Nat.reduceAdd, Nat.reduceMul, Nat.reduceSub, Nat.reduceLT, Nat.reduceLeDiff, Nat.reduceDiv, Nat.reduceMod, m_r1 H, m_r2 H, m_r3 H, m_r4 H, m_r5 H, m_r18 H, m_r19 H, m_r20 H, m_r24 H, m_r25 H, m_r27 H, m_r28 H, m_r29 H, m_r30 H, m_r31 H, m_r32 H, m_r33 H, m_r34 H, m_r35 H, m_n150 H, m_n151 H, m_n152 H, m_n153 H, m_n154 H, m_n155 H, m_n156 H, m_n157 H, m_n158 H, m_n159 H, m_n160 H, m_n161 H, m_n162 H, m_n163 H, m_n164 H, m_n165 H, m_n166 H, m_n167 H, m_n168 H, m_n169 H, nI_c, nI_add, up_ne, W1, nI_ltP, hk, a1, a2, zb_0, nq, oe, if_ac, if_nc, not_true_eq_false, not_false_eq_true, and_self, and_true, true_and, and_false, false_and, or_true, true_or, or_false, false_or, decide_true, decide_false, zb_t, zb_f, zb_0, zb_1, eq_self]
    | some j =>
      have hj : j < 8 := by have := hb j rfl; omega
      have a3 := hw j hj
      simp (disch := first | with_unfolding_all exact id (mok_t H rfl) | exact Or.inr (by with_unfolding_all exact mok_t H rfl) | exact nI_ne0 (by decide) (by decide) | with_unfolding_all exact id (m_x152 H (by omega)) | with_unfolding_all exact id (m_x156 H (by omega)) | with_unfolding_all exact id (m_x158 H (by omega)) | with_unfolding_all exact id (m_x159 H (by omega)) | with_unfolding_all exact id (m_x160 H (by omega)) | exact zb_01 | exact Or.inl rfl | exact Or.inr rfl | omega) only [wX5_carsGo_58, wX5_carsGo_59, wX5_carsGo_62, wX5_carsGo_63, wX5_carsGo_64, wX5_carsGo_67, wX5_carsGo_68, wX5_carsGo_71, wX5_carsGo_72, wX5_carsGo_74, wX5_carsGo_75, wX5_carsGo_76, wX5_carsGo_77, wX5_carsGo_80, wX5_carsGo_81, wX5_carsGo_84, wX5_carsGo_86, wX5_carsGo_87, wX5_carsGo_90, wX5_carsGo_91, wX5_carsGo_94, wX5_carsGo_95, wX5_carsGo_97, wX5_carsGo_98, wX5_carsGo_99, wX5_carsGo_102, wX5_carsGo_103, wX5_carsGo_104, wX5_carsGo_107, wX5_carsGo_108, wX5_carsGo_111, wX5_carsGo_112, wX5_carsGo_114, wX5_carsGo_115, wX5_carsGo_116, wX5_carsGo_117, wX5_carsGo_120, wX5_carsGo_121, wX5_carsGo_122, wX5_carsGo_123, wX5_carsGo_124, wX5_carsGo_127, wX5_carsGo_129, wX5_carsGo_130, wX5_carsGo_133, if_true, if_false, ↓reduceIte, xpu_s, xpu_n, Option.bind_some, xk_i, xk_r, xk_0, xk_u, xk_l, xk_k, xk_q, rf_s, rf_n, o_TI, o_TL, o_TR, o_NI, o_NL, o_NR, o_XI, o_XL, o_XR, o_RI, o_RL, o_LI, o_LR, o_IL, o_IR, o_II, o_LL, o_RR, o_pII, o_pLL, up_s, q_e1, q_e2, Nat.zero_add, Nat.reduceEqDiff, Nat.reduceAdd, Nat.reduceMul, Nat.reduceSub, Nat.reduceLT, Nat.reduceLeDiff, Nat.reduceDiv, Nat.reduceMod, m_r1 H, m_r2 H, m_r3 H, m_r4 H, m_r5 H, m_r18 H, m_r19 H, m_r20 H, m_r24 H, m_r25 H, m_r27 H, m_r28 H, m_r29 H, m_r30 H, m_r31 H, m_r32 H, m_r33 H, m_r34 H, m_r35 H, m_n150 H, m_n151 H, m_n152 H, m_n153 H, m_n154 H, m_n155 H, m_n156 H, m_n157 H, m_n158 H, m_n159 H, m_n160 H, m_n161 H, m_n162 H, m_n163 H, m_n164 H, m_n165 H, m_n166 H, m_n167 H, m_n168 H, m_n169 H, nI_c, nI_add, up_ne, W1, nI_ltP, hk, a1, a2, a3, zb_0, nq, oe, nI_nm1, decide_eq_true_eq, if_ac, if_nc, not_true_eq_false, not_false_eq_true, and_self, and_true, true_and, and_false, false_and, or_true, true_or, or_false, false_or, decide_true, decide_false, zb_t, zb_f, zb_0, zb_1, eq_self]
  · intro j e
    by_cases q : oI h 152 (2 + k) = lane ∧ mv k = false ∧ 0 < ws k ∧ nq ws k b = true
    · rw [if_pos q] at e; cases e; omega
    · rw [if_neg q] at e; have := hb j e; omega
  · refine wX5_carsGo_56.trans ?_
    simp (disch := first | with_unfolding_all exact id (mok_t H rfl) | exact Or.inr (by with_unfolding_all exact mok_t H rfl) | exact nI_ne0 (by decide) (by decide) | with_unfolding_all exact id (m_x152 H (by omega)) | with_unfolding_all exact id (m_x156 H (by omega)) | with_unfolding_all exact id (m_x158 H (by omega)) | with_unfolding_all exact id (m_x159 H (by omega)) | with_unfolding_all exact id (m_x160 H (by omega)) | exact zb_01 | exact Or.inl rfl | exact Or.inr rfl | omega) only [wX5_carsGo_58, wX5_carsGo_59, wX5_carsGo_62, wX5_carsGo_63, wX5_carsGo_64, if_true, if_false, ↓reduceIte, xpu_s, xpu_n, Option.bind_some, xk_i, xk_r, xk_0, xk_u, xk_l, xk_k, xk_q, rf_s, rf_n, o_TI, o_TL, o_TR, o_NI, o_NL, o_NR, o_XI, o_XL, o_XR, o_RI, o_RL, o_LI, o_LR, o_IL, o_IR, o_II, o_LL, o_RR, o_pII, o_pLL, up_s, q_e1, q_e2, Nat.zero_add, Nat.reduceEqDiff, Nat.reduceAdd, Nat.reduceMul, Nat.reduceSub, Nat.reduceLT, Nat.reduceLeDiff, Nat.reduceDiv, Nat.reduceMod, m_r1 H, m_r2 H, m_r3 H, m_r4 H, m_r5 H, m_r18 H, m_r19 H, m_r20 H, m_r24 H, m_r25 H, m_r27 H, m_r28 H, m_r29 H, m_r30 H, m_r31 H, m_r32 H, m_r33 H, m_r34 H, m_r35 H, m_n150 H, m_n151 H, m_n152 H, m_n153 H, m_n154 H, m_n155 H, m_n156 H, m_n157 H, m_n158 H, m_n159 H, m_n160 H, m_n161 H, m_n162 H, m_n163 H, m_n164 H, m_n165 H, m_n166 H, m_n167 H, m_n168 H, m_n169 H, nI_c, nI_add, up_ne, W1, i_irr]
theorem goesOn_HM (H : MOK h) (W1 : oI h 152 1 = nI (sN (oI h 152))) (W2 : sN (oI h 152) ≤ 8) {ws : rI} {mv : Nat → Bool} {kn beh : Int32} {c : Nat} (hc : c < 8) (h0 : ws (24 + c) = nI 0) (hb : gN (oI h 152) (hz (oI h 156) ws) (mz (oI h 159) mv) (gz (oI h 160) ws) c = beh) : C_ d mX5_goesOn [.ref 150, .int (nI c)] (HM h ws mv kn) = some (none, HM h (sGo ws beh c) (va_up mv c true) (if ¬ 0 < sGo ws beh c c ∧ ws 33 = nI 1 ∧ oI h 152 (2 + c) = ws 32 ∧ (kn = -1 ∨ nI c < kn) then nI c else kn)) := by
  have e := kX5_goesOn (d := d) (h := HM h ws mv kn) H W1 W2 hc
  have r1 : oI (HM h ws mv kn) 152 = oI h 152 := rfl
  have r2 : oI (HM h ws mv kn) 156 = hz (oI h 156) ws := rfl
  have r3 : oI (HM h ws mv kn) 159 = mz (oI h 159) mv := rfl
  have r4 : oI (HM h ws mv kn) 160 = gz (oI h 160) ws := rfl
  have r5 : oI (HM h ws mv kn) 150 = va_up (oI h 150) 26 kn := rfl
  rw [r1, r2, r3, r4, r5, hb] at e
  rw [e]
  have e1 : gW (hz (oI h 156) ws) beh c = hz (oI h 156) (sGo ws beh c) := hz_gW hc
  rw [e1, gz_gH hc h0, mz_up hc]
  unfold HM gK
  have e2 : hz (oI h 156) (sGo ws beh c) c = sGo ws beh c c := hz_c (by omega)
  have e3 : hz (oI h 156) (sGo ws beh c) 33 = ws 33 := (hz_c (by omega)).trans (sGo_at (by omega) (by omega) (by omega))
  have e4 : hz (oI h 156) (sGo ws beh c) 32 = ws 32 := (hz_c (by omega)).trans (sGo_at (by omega) (by omega) (by omega))
  rw [e2, e3, e4, up_s]
  simp (disch := first | with_unfolding_all exact id (mok_t H rfl) | exact Or.inr (by with_unfolding_all exact mok_t H rfl) | exact nI_ne0 (by decide) (by decide) | with_unfolding_all exact id (m_x152 H (by omega)) | with_unfolding_all exact id (m_x156 H (by omega)) | with_unfolding_all exact id (m_x158 H (by omega)) | with_unfolding_all exact id (m_x159 H (by omega)) | with_unfolding_all exact id (m_x160 H (by omega)) | exact zb_01 | exact Or.inl rfl | exact Or.inr rfl | omega) only [if_true, if_false, ↓reduceIte, xpu_s, xpu_n, Option.bind_some, xk_i, xk_r, xk_0, xk_u, xk_l, xk_k, xk_q, rf_s, rf_n, o_TI, o_TL, o_TR, o_NI, o_NL, o_NR, o_XI, o_XL, o_XR, o_RI, o_RL, o_LI, o_LR, o_IL, o_IR, o_II, o_LL, o_RR, o_pII, o_pLL, up_s, q_e1, q_e2, Nat.zero_add, Nat.reduceEqDiff, Nat.reduceAdd, Nat.reduceMul, Nat.reduceSub, Nat.reduceLT, Nat.reduceLeDiff, Nat.reduceDiv, Nat.reduceMod, m_r1 H, m_r2 H, m_r3 H, m_r4 H, m_r5 H, m_r18 H, m_r19 H, m_r20 H, m_r24 H, m_r25 H, m_r27 H, m_r28 H, m_r29 H, m_r30 H, m_r31 H, m_r32 H, m_r33 H, m_r34 H, m_r35 H, m_n150 H, m_n151 H, m_n152 H, m_n153 H, m_n154 H, m_n155 H, m_n156 H, m_n157 H, m_n158 H, m_n159 H, m_n160 H, m_n161 H, m_n162 H, m_n163 H, m_n164 H, m_n165 H, m_n166 H, m_n167 H, m_n168 H, m_n169 H, nI_c, nI_add, up_ne, o_qIc, o_qLc, o_qLI, id_eq]
  by_cases q : ¬ 0 < sGo ws beh c c ∧ ws 33 = nI 1 ∧ oI h 152 (2 + c) = ws 32 ∧ (kn = -1 ∨ nI c < kn)
  · simp only [if_pos q, bx_uu]
  · simp only [if_neg q]
end
