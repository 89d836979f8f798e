/-! CONTRACTS of the model: lane by lane -/
def bq (A : rI) (lane : Int32) (ws : rI) (mv : Nat → Bool) : Int32 := mx (fun k => mv k = true ∧ A (2 + k) = lane ∧ 0 < ws k ∧ (ws (16 + k) = nI 2 ∨ ¬ ws (24 + k) = 0)) ws (sN A)
theorem bq_gN {A w0 f0 g0 ws : rI} {mv : Nat → Bool} {lane : Int32} {c : Nat} (W2 : sN A ≤ 8) (hl : A (2 + c) = lane) : gN A (hz w0 ws) (mz f0 mv) (gz g0 ws) c = bq A lane ws mv := by
  rw [gN_mx]
  refine mx_eq fun k hk => ?_
  have k8 : k < 8 := by omega
  rw [mz_c k8, gz_c k8, hz_c (k := k) (by omega), hz_c (k := 16 + k) (by omega), hl]
  refine ⟨?_, fun _ => rfl⟩
  have e : (¬ zb (mv k) = 0) ↔ mv k = true := by cases mv k <;> simp [zb]
  rw [e]
theorem bq_step {A ws : rI} {mv : Nat → Bool} {lane b : Int32} {c : Nat} (W2 : sN A ≤ 8) (hc : c < sN A) (hl : A (2 + c) = lane) (hm : mv c = false) : bq A lane (sGo ws b c) (va_up mv c true) = if 0 < sGo ws b c c ∧ (sGo ws b c (16 + c) = nI 2 ∨ ¬ sGo ws b c (24 + c) = 0) then im (bq A lane ws mv) (sGo ws b c c) else bq A lane ws mv := by
  unfold bq
  rw [mx_add (N := sN A) (p := fun k => mv k = true ∧ A (2 + k) = lane ∧ 0 < ws k ∧ (ws (16 + k) = nI 2 ∨ ¬ ws (24 + k) = 0)) (v := ws) (c := c) (by simp [hm]) (fun k hk hkc => by
    have e1 : sGo ws b c k = ws k := sGo_at hkc (by omega) (by omega)
    have e2 : sGo ws b c (16 + k) = ws (16 + k) := sGo_at (by omega) (by omega) (by omega)
    have e3 : sGo ws b c (24 + k) = ws (24 + k) := sGo_at (by omega) (by omega) (by omega)
    rw [up_ne hkc, e1, e2, e3]
    exact ⟨Iff.rfl, fun _ => rfl⟩) (sN A) (Nat.le_refl _) hc]
  have e : (va_up mv c true c = true ∧ A (2 + c) = lane ∧ 0 < sGo ws b c c ∧ (sGo ws b c (16 + c) = nI 2 ∨ ¬ sGo ws b c (24 + c) = 0)) ↔ (0 < sGo ws b c c ∧ (sGo ws b c (16 + c) = nI 2 ∨ ¬ sGo ws b c (24 + c) = 0)) := by
    rw [up_s]
    exact ⟨fun z => z.2.2, fun z => ⟨rfl, hl, z⟩⟩
  by_cases q : 0 < sGo ws b c c ∧ (sGo ws b c (16 + c) = nI 2 ∨ ¬ sGo ws b c (24 + c) = 0)
  · rw [if_pos q, if_pos (e.mpr q)]
  · rw [if_neg q, if_neg (fun z => q (e.mp z))]
def knf (lane kn0 : Int32) (ws : rI) (fst : Option Nat) : Int32 := if ws 33 = nI 1 ∧ lane = ws 32 then oe fst else kn0
theorem kn_step {A ws : rI} {lane kn0 b : Int32} {c : Nat} {fst : Option Nat} (hc : c < 8) (hf : ∀ j, fst = some j → j < 8) (hl : A (2 + c) = lane) : (if ¬ 0 < sGo ws b c c ∧ ws 33 = nI 1 ∧ A (2 + c) = ws 32 ∧ (knf lane kn0 ws fst = -1 ∨ nI c < knf lane kn0 ws fst) then nI c else knf lane kn0 ws fst) = knf lane kn0 (sGo ws b c) (if 0 < sGo ws b c c then fst else fmin c fst) := by
  have e3 : sGo ws b c 33 = ws 33 := sGo_at (by omega) (by omega) (by omega)
  have e4 : sGo ws b c 32 = ws 32 := sGo_at (by omega) (by omega) (by omega)
  unfold knf
  rw [e3, e4, hl]
  by_cases q : ws 33 = nI 1 ∧ lane = ws 32
  · simp only [if_pos q]
    by_cases q1 : 0 < sGo ws b c c
    · rw [if_neg (fun z => z.1 q1), if_pos q1]
    · rw [if_neg q1]
      cases fst with
      | none =>
        rw [if_pos ⟨q1, q.1, q.2, Or.inl rfl⟩]
        rfl
      | some j =>
        have hj := hf j rfl
        show (if ¬ 0 < sGo ws b c c ∧ ws 33 = nI 1 ∧ lane = ws 32 ∧ (nI j = -1 ∨ nI c < nI j) then nI c else nI j) = oe (if c < j then some c else some j)
        by_cases q2 : c < j
        · rw [if_pos ⟨q1, q.1, q.2, Or.inr ((nI_ltI (by omega) (by omega)).mpr q2)⟩, if_pos q2]
          rfl
        · have h1 : ¬ nI j = -1 := fun z => by rw [nI_nm1 (by omega)] at z; exact z
          rw [if_neg (fun z => z.2.2.2.elim h1 (fun y => q2 ((nI_ltI (by omega) (by omega)).mp y))), if_neg q2]
          rfl
  · rw [if_neg q, if_neg q, if_neg (fun z => q ⟨z.2.1, z.2.2.1⟩)]
theorem sLn_none {A : rI} {lane : Int32} {s : sM} (h : sNe A s.1 s.2.1 lane = none) : ∀ f, sLn A lane f s = s
  | 0 => rfl
  | f + 1 => by unfold sLn; rw [h]
theorem sLn_some {A : rI} {lane : Int32} {s : sM} {c : Nat} (h : sNe A s.1 s.2.1 lane = some c) (f : Nat) : sLn A lane (f + 1) s = sLn A lane f (sMv c s) := by
  conv => lhs; unfold sLn
  rw [h]
section
variable {d : Nat} {h : xH}
theorem lane_loop (H : MOK h) (W1 : oI h 152 1 = nI (sN (oI h 152))) (W2 : sN (oI h 152) ≤ 8) {lane kn0 : Int32} : ∀ (f : Nat) (s : sM) (z3 z4 : Slot), cu s.2.1 (sN (oI h 152)) ≤ f → (∀ c, c < 8 → s.2.1 c = false → s.1 (24 + c) = nI 0) → s.2.2.1 = bq (oI h 152) lane s.1 s.2.1 → (∀ j, s.2.2.2 = some j → j < 8) →
    ∃ z : Slot × Slot, E_ (d + 1) mX5_carsGo 47 [.val (.ref 150), .val (.int lane), .val (.int (nI 1)), z3, z4] [] (HM h s.1 s.2.1 (knf lane kn0 s.1 s.2.2.2)) = E_ (d + 1) mX5_carsGo 159 [.val (.ref 150), .val (.int lane), .val (.int (nI 0)), z.1, z.2] [] (HM h (sLn (oI h 152) lane f s).1 (sLn (oI h 152) lane f s).2.1 (knf lane kn0 (sLn (oI h 152) lane f s).1 (sLn (oI h 152) lane f s).2.2.2))
  | f, s, z3, z4, hf, hI, hb, hj => by
    have N : E_ (d + 1) mX5_carsGo 47 [.val (.ref 150), .val (.int lane), .val (.int (nI 1)), z3, z4] [] (HM h s.1 s.2.1 (knf lane kn0 s.1 s.2.2.2)) = E_ (d + 1) mX5_carsGo 136 [.val (.ref 150), .val (.int lane), .val (.int (nI 1)), .val (.int (oe (sNe (oI h 152) s.1 s.2.1 lane))), .val (.int (nI (sN (oI h 152))))] [] (HM h s.1 s.2.1 (knf lane kn0 s.1 s.2.2.2)) := near_loop (h := HM h s.1 s.2.1 (knf lane kn0 s.1 s.2.2.2)) H W1 W2 (fun k hk => hz_c (by omega)) (fun k hk => mz_c hk)
    cases q : sNe (oI h 152) s.1 s.2.1 lane with
    | none =>
      rw [sLn_none q]
      refine ⟨(.val (.int (-1)), .val (.int (nI (sN (oI h 152))))), N.trans ?_⟩
      rw [q]
      simp (disch := first | with_unfolding_all exact id (mok_t H rfl) | exact Or.inr (by with_unfolding_all exact mok_t H rfl) | exact nI_ne0 (by decide) (by decide) | with_unfolding_all exact id (m_x152 H (by omega)) | with_unfolding_all exact id (m_x156 H (by omega)) | with_unfolding_all exact id (m_x158 H (by omega)) | with_unfolding_all exact id (m_x159 H (by omega)) | with_unfolding_all exact id (m_x160 H (by omega)) | exact zb_01 | exact Or.inl rfl | exact Or.inr rfl | omega) only [wX5_carsGo_47, wX5_carsGo_48, wX5_carsGo_136, wX5_carsGo_137, wX5_carsGo_138, wX5_carsGo_141, wX5_carsGo_142, wX5_carsGo_145, wX5_carsGo_146, wX5_carsGo_147, wX5_carsGo_148, wX5_carsGo_151, wX5_carsGo_152, wX5_carsGo_156, if_true, if_false, ↓reduceIte, xpu_s, xpu_n, Option.bind_some, xk_i, xk_r, xk_0, xk_u, xk_l, xk_k, xk_q, rf_s, rf_n, o_TI, o_TL, o_TR, o_NI, o_NL, o_NR, o_XI, o_XL, o_XR, o_RI, o_RL, o_LI, o_LR, o_IL, o_IR, o_II, o_LL, o_RR, o_pII, o_pLL, up_s, q_e1, q_e2, Nat.zero_add, Nat.reduceEqDiff, Nat.reduceAdd, Nat.reduceMul, Nat.reduceSub, Nat.reduceLT, Nat.reduceLeDiff, Nat.reduceDiv, Nat.reduceMod, m_r1 H, m_r2 H, m_r3 H, m_r4 H, m_r5 H, m_r18 H, m_r19 H, m_r20 H, m_r24 H, m_r25 H, m_r27 H, m_r28 H, m_r29 H, m_r30 H, m_r31 H, m_r32 H, m_r33 H, m_r34 H, m_r35 H, m_n150 H, m_n151 H, m_n152 H, m_n153 H, m_n154 H, m_n155 H, m_n156 H, m_n157 H, m_n158 H, m_n159 H, m_n160 H, m_n161 H, m_n162 H, m_n163 H, m_n164 H, m_n165 H, m_n166 H, m_n167 H, m_n168 H, m_n169 H, nI_c, nI_add, up_ne, oe, nI_0]
    | some c =>
      obtain ⟨c1, c2, c3, c4⟩ := sNe_some q
      have c8 : c < 8 := by omega
      match f, hf with
      | 0, hf =>
        have := cu_pos c3 (sN (oI h 152)) c1
        omega
      | f + 1, hf =>
        rw [sLn_some q]
        have G := goesOn_HM (d := d) (ws := s.1) (mv := s.2.1) (kn := knf lane kn0 s.1 s.2.2.2) H W1 W2 c8 (hI c c8 c3) (bq_gN (f0 := oI h 159) (g0 := oI h 160) (w0 := oI h 156) W2 c2)
        rw [← hb, kn_step c8 hj c2] at G
        have hcu := cu_up c3 (sN (oI h 152))
        rw [if_pos c1] at hcu
        obtain ⟨z, e⟩ := lane_loop H W1 W2 (lane := lane) (kn0 := kn0) f (sMv c s) (.val (.int (nI c))) (.val (.int (nI (sN (oI h 152))))) (by show cu (va_up s.2.1 c true) (sN (oI h 152)) ≤ f; omega) (fun k hk hm => by
          have hm : va_up s.2.1 c true k = false := hm
          by_cases qk : k = c
          · subst qk; rw [up_s] at hm; cases hm
          · rw [up_ne qk] at hm
            show sGo s.1 s.2.2.1 c (24 + k) = nI 0
            rw [sGo_at (by omega) (by omega) (by omega)]
            exact hI k hk hm) (by
          show _ = bq (oI h 152) lane (sGo s.1 s.2.2.1 c) (va_up s.2.1 c true)
          rw [bq_step W2 c1 c2 c3, ← hb]
          rfl) (fun j e => by
          have e : (if 0 < sGo s.1 s.2.2.1 c c then s.2.2.2 else fmin c s.2.2.2) = some j := e
          by_cases q1 : 0 < sGo s.1 s.2.2.1 c c
          · rw [if_pos q1] at e; exact hj j e
          · rw [if_neg q1] at e
            cases qf : s.2.2.2 with
            | none => rw [qf] at e; injection e with e; subst e; exact c8
            | some i =>
              rw [qf] at e
              have e : (if c < i then some c else some i) = some j := e
              by_cases q2 : c < i
              · rw [if_pos q2] at e; cases e; exact c8
              · rw [if_neg q2] at e; cases e; exact hj _ qf)
        refine ⟨z, N.trans (Eq.trans ?_ e)⟩
        rw [q]
        have nc : (nI c = -1) = False := nI_nm1 (by omega)
        show E_ (d + 1) mX5_carsGo 136 [.val (.ref 150), .val (.int lane), .val (.int (nI 1)), .val (.int (nI c)), .val (.int (nI (sN (oI h 152))))] [] _ = _
        generalize hX : HM h s.1 s.2.1 (knf lane kn0 s.1 s.2.2.2) = X at G ⊢
        have HX : MOK X := by rw [← hX]; exact H
        simp (disch := first | with_unfolding_all exact id (mok_t HX rfl) | first | with_unfolding_all exact id (mok_t H rfl) | exact Or.inr (by with_unfolding_all exact mok_t H rfl) | exact nI_ne0 (by decide) (by decide) | with_unfolding_all exact id (m_x152 H (by omega)) | with_unfolding_all exact id (m_x156 H (by omega)) | with_unfolding_all exact id (m_x158 H (by omega)) | with_unfolding_all exact id (m_x159 H (by omega)) | with_unfolding_all exact id (m_x160 H (by omega)) | exact zb_01 | exact Or.inl rfl | exact Or.inr rfl | omega) only [wX5_carsGo_136, wX5_carsGo_137, wX5_carsGo_138, wX5_carsGo_141, wX5_carsGo_142, wX5_carsGo_145, wX5_carsGo_146, wX5_carsGo_147, wX5_carsGo_148, wX5_carsGo_151, wX5_carsGo_152, wX5_carsGo_153, wX5_carsGo_156, if_true, if_false, ↓reduceIte, xpu_s, xpu_n, Option.bind_some, xk_i, xk_r, xk_0, xk_u, xk_l, xk_k, xk_q, rf_s, rf_n, q_e1, q_e2, Nat.zero_add, Nat.reduceEqDiff, Nat.reduceAdd, Nat.reduceMul, Nat.reduceSub, Nat.reduceLT, Nat.reduceLeDiff, Nat.reduceDiv, Nat.reduceMod, nc, G, nI_ne1]
        rfl
end
theorem sLn_at {A : rI} {lane : Int32} {k : Nat} (hk : 32 ≤ k) (W2 : sN A ≤ 8) : ∀ (f : Nat) (s : sM), (sLn A lane f s).1 k = s.1 k
  | 0, s => rfl
  | f + 1, s => by
    cases q : sNe A s.1 s.2.1 lane with
    | none => rw [sLn_none q]
    | some c =>
      have c1 := (sNe_some q).1
      rw [sLn_some q, sLn_at hk W2 f]
      exact sGo_at (by omega) (by omega) (by omega)
theorem zb_n (b : Bool) : zb b = nI 0 ∨ zb b = nI 1 := by cases b; exact Or.inl rfl; exact Or.inr rfl
/-- what holds of all that the lanes do -/
def sJ (A : rI) (lane : Nat) (s : sM) : Prop := (∀ c, c < 8 → s.2.1 c = false → s.1 (24 + c) = nI 0) ∧ (∀ c, c < 8 → s.1 (24 + c) = nI 0 ∨ s.1 (24 + c) = nI 1) ∧ (∀ c, s.2.1 c = true → c < sN A ∧ ∃ l, l ≤ lane ∧ A (2 + c) = nI l) ∧ (∀ j, s.2.2.2 = some j → j < 8)
theorem sJ_mv {A : rI} {lane c : Nat} {s : sM} (W2 : sN A ≤ 8) (hc : c < sN A) (hl : A (2 + c) = nI lane) (J : sJ A lane s) : sJ A lane (sMv c s) := by
  obtain ⟨j1, j2, j3, j4⟩ := J
  refine ⟨fun k hk hm => ?_, fun k hk => ?_, fun k hm => ?_, fun j e => ?_⟩
  · have hm : va_up s.2.1 c true k = false := hm
    by_cases qk : k = c
    · subst qk; rw [up_s] at hm; cases hm
    · rw [up_ne qk] at hm
      show sGo s.1 s.2.2.1 c (24 + k) = nI 0
      rw [sGo_at (by omega) (by omega) (by omega)]
      exact j1 k hk hm
  · show sGo s.1 s.2.2.1 c (24 + k) = nI 0 ∨ sGo s.1 s.2.2.1 c (24 + k) = nI 1
    by_cases qk : k = c
    · subst qk
      unfold sGo
      rw [up_s]
      split
      · exact Or.inl rfl
      · exact zb_n _
    · rw [sGo_at (by omega) (by omega) (by omega)]
      exact j2 k hk
  · have hm : va_up s.2.1 c true k = true := hm
    by_cases qk : k = c
    · subst qk; exact ⟨hc, lane, Nat.le_refl _, hl⟩
    · rw [up_ne qk] at hm; exact j3 k hm
  · have e : (if 0 < sGo s.1 s.2.2.1 c c then s.2.2.2 else fmin c s.2.2.2) = some j := e
    by_cases q1 : 0 < sGo s.1 s.2.2.1 c c
    · rw [if_pos q1] at e; exact j4 j e
    · rw [if_neg q1] at e
      cases qf : s.2.2.2 with
      | none => rw [qf] at e; injection e with e; subst e; omega
      | some i =>
        rw [qf] at e
        have e : (if c < i then some c else some i) = some j := e
        by_cases q2 : c < i
        · rw [if_pos q2] at e; cases e; omega
        · rw [if_neg q2] at e; cases e; exact j4 _ qf
theorem sJ_ln {A : rI} {lane : Nat} (W2 : sN A ≤ 8) : ∀ (f : Nat) (s : sM), sJ A lane s → sJ A lane (sLn A (nI lane) f s)
  | 0, s, J => J
  | f + 1, s, J => by
    cases q : sNe A s.1 s.2.1 (nI lane) with
    | none => rw [sLn_none q]; exact J
    | some c =>
      obtain ⟨c1, c2, -, -⟩ := sNe_some q
      rw [sLn_some q]
      exact sJ_ln W2 f _ (sJ_mv W2 c1 c2 J)
/-- what holds between the lanes: lanes below this one are done -/
def sK (A : rI) (w0 : rI) (lane : Nat) (p : sP) : Prop := (∀ c, c < 8 → p.2.1 c = false → p.1 (24 + c) = nI 0) ∧ (∀ c, c < 8 → p.1 (24 + c) = nI 0 ∨ p.1 (24 + c) = nI 1) ∧ (∀ c, p.2.1 c = true → c < sN A ∧ ∃ l, l < lane ∧ A (2 + c) = nI l) ∧ (∀ j, p.2.2 = some j → j < 8) ∧ (∀ k, 32 ≤ k → p.1 k = w0 k) ∧ ((∀ l, l < lane → ¬ (w0 33 = nI 1 ∧ nI l = w0 32)) → p.2.2 = none)
theorem sK_0 {A w : rI} : sK A w 0 (sZh w, fun _ => false, none) := by
  refine ⟨fun c hc _ => if_pos (by omega), fun c hc => Or.inl (if_pos (by omega)), fun c h => (by cases h), fun j e => (by cases e), fun k hk => if_neg (by omega), fun _ => rfl⟩
theorem sK_J {A w0 : rI} {lane : Nat} {p : sP} (K : sK A w0 lane p) : sJ A lane (p.1, p.2.1, -1, none) := by
  obtain ⟨k1, k2, k3, -, -, -⟩ := K
  refine ⟨k1, k2, fun c hc => ?_, fun j e => (by cases e)⟩
  obtain ⟨a, l, b, e⟩ := k3 c hc
  exact ⟨a, l, by omega, e⟩
theorem sK_la {A w0 : rI} {lane : Nat} {p : sP} (W2 : sN A ≤ 8) (K : sK A w0 lane p) : sK A w0 (lane + 1) (sLa A lane p) := by
  have J := sJ_ln W2 8 _ (sK_J K)
  obtain ⟨k1, k2, k3, k4, k5, k6⟩ := K
  obtain ⟨j1, j2, j3, j4⟩ := J
  refine ⟨j1, j2, fun c hc => ?_, fun j e => ?_, fun k hk => ?_, fun hn => ?_⟩
  · obtain ⟨a, l, b, e⟩ := j3 c hc
    exact ⟨a, l, by omega, e⟩
  · have e : (if p.1 33 = nI 1 ∧ nI lane = p.1 32 then (sLn A (nI lane) 8 (p.1, p.2.1, -1, none)).2.2.2 else p.2.2) = some j := e
    by_cases q : p.1 33 = nI 1 ∧ nI lane = p.1 32
    · rw [if_pos q] at e; exact j4 j e
    · rw [if_neg q] at e; exact k4 j e
  · exact (sLn_at hk W2 8 _).trans (k5 k hk)
  · show (if p.1 33 = nI 1 ∧ nI lane = p.1 32 then (sLn A (nI lane) 8 (p.1, p.2.1, -1, none)).2.2.2 else p.2.2) = none
    rw [k5 33 (by omega), k5 32 (by omega), if_neg (hn lane (Nat.lt_succ_self _))]
    exact k6 fun l hl => hn l (Nat.lt_succ_of_lt hl)
theorem sK_b {A w0 : rI} {lane : Nat} {p : sP} (hL : lane < 2147483648) (K : sK A w0 lane p) : (-1 : Int32) = bq A (nI lane) p.1 p.2.1 := by
  refine (mx_none fun k hk z => ?_).symm
  obtain ⟨-, l, b, e⟩ := K.2.2.1 k z.1
  have e2 := e.symm.trans z.2.1
  rw [nI_eqI (by omega) hL] at e2
  omega
theorem sK_kn {A w0 : rI} {lane : Nat} {p : sP} (hL : lane < 2147483648) (K : sK A w0 lane p) : knf (nI lane) (oe p.2.2) p.1 none = oe p.2.2 := by
  obtain ⟨-, -, -, -, k5, k6⟩ := K
  unfold knf
  by_cases q : p.1 33 = nI 1 ∧ nI lane = p.1 32
  · rw [if_pos q, k6 fun l hl z => ?_]
    have e2 := z.2.trans ((k5 32 (by omega)).symm.trans q.2.symm)
    rw [nI_eqI (by omega) hL] at e2
    omega
  · rw [if_neg q]
section
variable {d : Nat} {h : xH}
theorem HM_0 : HM h (sZh (oI h 156)) (fun _ => false) (-1) = pI (pI (pI h 150 (va_up (oI h 150) 26 (-1))) 159 (fun k => if k < 8 then nI 0 else oI h 159 k)) 160 (fun k => if k < 8 then nI 0 else oI h 160 k) := by
  unfold HM
  have e1 : hz (oI h 156) (sZh (oI h 156)) = oI h 156 := by
    funext k
    unfold hz sZh
    by_cases q : 24 ≤ k ∧ k < 32
    · rw [if_pos q]
    · rw [if_neg q, if_neg q]
  have e2 : gz (oI h 160) (sZh (oI h 156)) = fun k => if k < 8 then nI 0 else oI h 160 k := by
    funext k
    unfold gz sZh
    by_cases q : k < 8
    · rw [if_pos q, if_pos q, if_pos (by omega)]
    · rw [if_neg q, if_neg q]
  have e3 : mz (oI h 159) (fun _ => false) = fun k => if k < 8 then nI 0 else oI h 159 k := rfl
  rw [e1, e2, e3]
  have e4 : pI (pI h 150 (va_up (oI h 150) 26 (-1))) 156 (oI h 156) = pI h 150 (va_up (oI h 150) 26 (-1)) := o_pIi (h := pI h 150 (va_up (oI h 150) 26 (-1))) (a := 156)
  rw [e4]
theorem carsGo_0 (H : MOK h) {z0 z1 z2 z3 : Slot} : E_ d mX5_carsGo 0 [.val (.ref 150), z0, z1, z2, z3] [] h = E_ d mX5_carsGo 35 [.val (.ref 150), .val (.int (nI 0)), z1, z2, z3] [] (HM h (sZh (oI h 156)) (fun _ => false) (-1)) := by
  rw [HM_0]
  have e0 : E_ d mX5_carsGo 0 [.val (.ref 150), z0, z1, z2, z3] [] h = E_ d mX5_carsGo 7 [.val (.ref 150), .val (.int (nI 0)), z1, z2, z3] [] (pI (pI (pI h 150 (va_up (oI h 150) 26 (-1))) 159 (fun k => if k < 0 then nI 0 else oI h 159 k)) 160 (fun k => if k < 0 then nI 0 else oI h 160 k)) := by
    rw [fill_0 (f := oI h 159) (g := fun _ => nI 0), fill_0 (f := oI h 160) (g := fun _ => nI 0)]
    have e4 : pI (pI (pI h 150 (va_up (oI h 150) 26 (-1))) 159 (oI h 159)) 160 (oI h 160) = pI h 150 (va_up (oI h 150) 26 (-1)) := (o_pIi (h := pI (pI h 150 (va_up (oI h 150) 26 (-1))) 159 (oI h 159)) (a := 160)).trans (o_pIi (h := pI h 150 (va_up (oI h 150) 26 (-1))) (a := 159))
    rw [e4]
    simp (disch := first | with_unfolding_all exact id (mok_t H rfl) | exact Or.inr (by with_unfolding_all exact mok_t H rfl) | exact nI_ne0 (by decide) (by decide) | with_unfolding_all exact id (m_x152 H (by omega)) | with_unfolding_all exact id (m_x156 H (by omega)) | with_unfolding_all exact id (m_x158 H (by omega)) | with_unfolding_all exact id (m_x159 H (by omega)) | with_unfolding_all exact id (m_x160 H (by omega)) | exact zb_01 | exact Or.inl rfl | exact Or.inr rfl | omega) only [wX5_carsGo_0, wX5_carsGo_1, wX5_carsGo_2, wX5_carsGo_5, wX5_carsGo_6, if_true, if_false, ↓reduceIte, xpu_s, xpu_n, Option.bind_some, xk_i, xk_r, xk_0, xk_u, xk_l, xk_k, xk_q, rf_s, rf_n, o_TI, o_TL, o_TR, o_NI, o_NL, o_NR, o_XI, o_XL, o_XR, o_RI, o_RL, o_LI, o_LR, o_IL, o_IR, o_II, o_LL, o_RR, o_pII, o_pLL, up_s, q_e1, q_e2, Nat.zero_add, Nat.reduceEqDiff, Nat.reduceAdd, Nat.reduceMul, Nat.reduceSub, Nat.reduceLT, Nat.reduceLeDiff, Nat.reduceDiv, Nat.reduceMod, m_r1 H, m_r2 H, m_r3 H, m_r4 H, m_r5 H, m_r18 H, m_r19 H, m_r20 H, m_r24 H, m_r25 H, m_r27 H, m_r28 H, m_r29 H, m_r30 H, m_r31 H, m_r32 H, m_r33 H, m_r34 H, m_r35 H, m_n150 H, m_n151 H, m_n152 H, m_n153 H, m_n154 H, m_n155 H, m_n156 H, m_n157 H, m_n158 H, m_n159 H, m_n160 H, m_n161 H, m_n162 H, m_n163 H, m_n164 H, m_n165 H, m_n166 H, m_n167 H, m_n168 H, m_n169 H, nI_c, nI_add, up_ne]
  refine e0.trans ?_
  refine (lp_go (n := 8) (F := fun k => E_ d mX5_carsGo 7 [.val (.ref 150), .val (.int (nI k)), z1, z2, z3] [] (pI (pI (pI h 150 (va_up (oI h 150) 26 (-1))) 159 (fun j => if j < k then nI 0 else oI h 159 j)) 160 (fun j => if j < k then nI 0 else oI h 160 j))) (fun k hk => ?_)).trans ?_
  · refine wX5_carsGo_7.trans ?_
    simp (disch := first | first | with_unfolding_all exact id (mok_t H rfl) | exact Or.inr (by with_unfolding_all exact mok_t H rfl) | exact nI_ne0 (by decide) (by decide) | with_unfolding_all exact id (m_x152 H (by omega)) | with_unfolding_all exact id (m_x156 H (by omega)) | with_unfolding_all exact id (m_x158 H (by omega)) | with_unfolding_all exact id (m_x159 H (by omega)) | with_unfolding_all exact id (m_x160 H (by omega)) | exact zb_01 | exact Or.inl rfl | exact Or.inr rfl | omega | rfl) only [wX5_carsGo_8, wX5_carsGo_10, wX5_carsGo_13, wX5_carsGo_14, wX5_carsGo_17, wX5_carsGo_18, wX5_carsGo_19, wX5_carsGo_19z, wX5_carsGo_20, wX5_carsGo_21, wX5_carsGo_24, wX5_carsGo_25, wX5_carsGo_26, wX5_carsGo_26z, wX5_carsGo_27, wX5_carsGo_30, if_true, if_false, ↓reduceIte, xpu_s, xpu_n, Option.bind_some, xk_i, xk_r, xk_0, xk_u, xk_l, xk_k, xk_q, rf_s, rf_n, o_TI, o_TL, o_TR, o_NI, o_NL, o_NR, o_XI, o_XL, o_XR, o_RI, o_RL, o_LI, o_LR, o_IL, o_IR, o_II, o_LL, o_RR, o_pII, o_pLL, up_s, q_e1, q_e2, Nat.zero_add, Nat.reduceEqDiff, Nat.reduceAdd, Nat.reduceMul, Nat.reduceSub, Nat.reduceLT, Nat.reduceLeDiff, Nat.reduceDiv, Nat.reduceMod, m_r1 H, m_r2 H, m_r3 H, m_r4 H, m_r5 H, m_r18 H, m_r19 H, m_r20 H, m_r24 H, m_r25 H, m_r27 H, m_r28 H, m_r29 H, m_r30 H, m_r31 H, m_r32 H, m_r33 H, m_r34 H, m_r35 H, m_n150 H, m_n151 H, m_n152 H, m_n153 H, m_n154 H, m_n155 H, m_n156 H, m_n157 H, m_n158 H, m_n159 H, m_n160 H, m_n161 H, m_n162 H, m_n163 H, m_n164 H, m_n165 H, m_n166 H, m_n167 H, m_n168 H, m_n169 H, nI_c, nI_add, up_ne, o_qIc, o_qLc, o_qLI, id_eq, nI_ltP, hk, nar_0, up_fill]
  · refine wX5_carsGo_7.trans ?_
    simp (disch := first | with_unfolding_all exact id (mok_t H rfl) | exact Or.inr (by with_unfolding_all exact mok_t H rfl) | exact nI_ne0 (by decide) (by decide) | with_unfolding_all exact id (m_x152 H (by omega)) | with_unfolding_all exact id (m_x156 H (by omega)) | with_unfolding_all exact id (m_x158 H (by omega)) | with_unfolding_all exact id (m_x159 H (by omega)) | with_unfolding_all exact id (m_x160 H (by omega)) | exact zb_01 | exact Or.inl rfl | exact Or.inr rfl | omega) only [wX5_carsGo_8, wX5_carsGo_10, wX5_carsGo_33, wX5_carsGo_34, if_true, if_false, ↓reduceIte, xpu_s, xpu_n, Option.bind_some, xk_i, xk_r, xk_0, xk_u, xk_l, xk_k, xk_q, rf_s, rf_n, o_TI, o_TL, o_TR, o_NI, o_NL, o_NR, o_XI, o_XL, o_XR, o_RI, o_RL, o_LI, o_LR, o_IL, o_IR, o_II, o_LL, o_RR, o_pII, o_pLL, up_s, q_e1, q_e2, Nat.zero_add, Nat.reduceEqDiff, Nat.reduceAdd, Nat.reduceMul, Nat.reduceSub, Nat.reduceLT, Nat.reduceLeDiff, Nat.reduceDiv, Nat.reduceMod, m_r1 H, m_r2 H, m_r3 H, m_r4 H, m_r5 H, m_r18 H, m_r19 H, m_r20 H, m_r24 H, m_r25 H, m_r27 H, m_r28 H, m_r29 H, m_r30 H, m_r31 H, m_r32 H, m_r33 H, m_r34 H, m_r35 H, m_n150 H, m_n151 H, m_n152 H, m_n153 H, m_n154 H, m_n155 H, m_n156 H, m_n157 H, m_n158 H, m_n159 H, m_n160 H, m_n161 H, m_n162 H, m_n163 H, m_n164 H, m_n165 H, m_n166 H, m_n167 H, m_n168 H, m_n169 H, nI_c, nI_add, up_ne, i_irr]
theorem kX5_carsGo (H : MOK h) (W1 : oI h 152 1 = nI (sN (oI h 152))) (W2 : sN (oI h 152) ≤ 8) (W3 : oI h 152 0 = nI (sL (oI h 152))) (W4 : sL (oI h 152) ≤ 4) : ∃ f g : rI, C_ (d + 1) mX5_carsGo [.ref 150] h = some (none, pI (pI (pI (pI h 150 (va_up (oI h 150) 26 (oe (sCg (oI h 152) (oI h 156)).2.2))) 156 (sCg (oI h 152) (oI h 156)).1) 159 f) 160 g) := by
  rw [wX5_carsGo_e, carsGo_0 H]
  unfold sCg
  have key := lpe_st (n := sL (oI h 152)) (f := sLa (oI h 152)) (s := (sZh (oI h 156), fun _ => false, none)) (P := fun k p (_ : Slot × Slot × Slot) => sK (oI h 152) (oI h 156) k p) (Q := fun p a => ∃ f g : rI, a = some (none, pI (pI (pI (pI h 150 (va_up (oI h 150) 26 (oe p.2.2))) 156 p.1) 159 f) 160 g)) (z := (.unset, .unset, .unset)) (F := fun k p (z : Slot × Slot × Slot) => E_ (d + 1) mX5_carsGo 35 [.val (.ref 150), .val (.int (nI k)), z.1, z.2.1, z.2.2] [] (HM h p.1 p.2.1 (oe p.2.2))) sK_0 (fun k p z hk hK => ?_) (fun p z hK => ?_)
  · exact key
  · have hk4 : k < 2147483648 := by omega
    have hJ := sK_J hK
    obtain ⟨z', e⟩ := lane_loop (d := d) H W1 W2 (lane := nI k) (kn0 := oe p.2.2) 8 (p.1, p.2.1, -1, none) z.2.1 z.2.2 (Nat.le_trans (cu_le _) W2) hJ.1 (sK_b hk4 hK) hJ.2.2.2
    have e5 : (sLn (oI h 152) (nI k) 8 (p.1, p.2.1, -1, none)).1 33 = p.1 33 := sLn_at (by omega) W2 8 _
    have e6 : (sLn (oI h 152) (nI k) 8 (p.1, p.2.1, -1, none)).1 32 = p.1 32 := sLn_at (by omega) W2 8 _
    have e7 : knf (nI k) (oe p.2.2) (sLn (oI h 152) (nI k) 8 (p.1, p.2.1, -1, none)).1 (sLn (oI h 152) (nI k) 8 (p.1, p.2.1, -1, none)).2.2.2 = oe (sLa (oI h 152) k p).2.2 := by
      unfold knf sLa
      rw [e5, e6]
      by_cases q : p.1 33 = nI 1 ∧ nI k = p.1 32
      · simp only [if_pos q]
      · simp only [if_neg q]
    rw [sK_kn hk4 hK, e7] at e
    refine ⟨(.val (.int (nI 0)), z'.1, z'.2), ?_, sK_la W2 hK⟩
    have H2 : MOK (HM h p.1 p.2.1 (oe p.2.2)) := H
    have r1 : oI (HM h p.1 p.2.1 (oe p.2.2)) 152 = oI h 152 := rfl
    have s1 : E_ (d + 1) mX5_carsGo 35 [.val (.ref 150), .val (.int (nI k)), z.1, z.2.1, z.2.2] [] (HM h p.1 p.2.1 (oe p.2.2)) = E_ (d + 1) mX5_carsGo 47 [.val (.ref 150), .val (.int (nI k)), .val (.int (nI 1)), z.2.1, z.2.2] [] (HM h p.1 p.2.1 (oe p.2.2)) := by
      have D7 : oT (HM h p.1 p.2.1 (oe p.2.2)) 150 = 7 := mok_t H2 rfl
      have D40 : oT (HM h p.1 p.2.1 (oe p.2.2)) 152 = 40 := mok_t H2 rfl
      have D2 : oR (HM h p.1 p.2.1 (oe p.2.2)) 150 2 = some 152 := m_r2 H2
      have DX : xix (nI 0) (oN (HM h p.1 p.2.1 (oe p.2.2)) 152) = true := m_x152 H2 (by omega)
      simp (disch := first | exact D7 | exact D40 | exact DX | first | with_unfolding_all exact id (mok_t H rfl) | exact Or.inr (by with_unfolding_all exact mok_t H rfl) | exact nI_ne0 (by decide) (by decide) | with_unfolding_all exact id (m_x152 H (by omega)) | with_unfolding_all exact id (m_x156 H (by omega)) | with_unfolding_all exact id (m_x158 H (by omega)) | with_unfolding_all exact id (m_x159 H (by omega)) | with_unfolding_all exact id (m_x160 H (by omega)) | exact zb_01 | exact Or.inl rfl | exact Or.inr rfl | omega) only [wX5_carsGo_35, wX5_carsGo_36, wX5_carsGo_37, wX5_carsGo_40, wX5_carsGo_41, wX5_carsGo_42, wX5_carsGo_45, wX5_carsGo_46, if_true, if_false, ↓reduceIte, xpu_s, xpu_n, Option.bind_some, xk_i, xk_r, xk_0, xk_u, xk_l, xk_k, xk_q, rf_s, rf_n, q_e1, q_e2, Nat.zero_add, Nat.reduceEqDiff, Nat.reduceAdd, Nat.reduceMul, Nat.reduceSub, Nat.reduceLT, Nat.reduceLeDiff, Nat.reduceDiv, Nat.reduceMod, D2, r1, nI_c, W3, nI_ltP, hk]
    refine s1.trans (e.trans ?_)
    simp (disch := first | with_unfolding_all exact id (mok_t H rfl) | exact Or.inr (by with_unfolding_all exact mok_t H rfl) | exact nI_ne0 (by decide) (by decide) | with_unfolding_all exact id (m_x152 H (by omega)) | with_unfolding_all exact id (m_x156 H (by omega)) | with_unfolding_all exact id (m_x158 H (by omega)) | with_unfolding_all exact id (m_x159 H (by omega)) | with_unfolding_all exact id (m_x160 H (by omega)) | exact zb_01 | exact Or.inl rfl | exact Or.inr rfl | omega) only [wX5_carsGo_159, wX5_carsGo_162, if_true, if_false, ↓reduceIte, xpu_s, xpu_n, Option.bind_some, xk_i, xk_r, xk_0, xk_u, xk_l, xk_k, xk_q, rf_s, rf_n, o_TI, o_TL, o_TR, o_NI, o_NL, o_NR, o_XI, o_XL, o_XR, o_RI, o_RL, o_LI, o_LR, o_IL, o_IR, o_II, o_LL, o_RR, o_pII, o_pLL, up_s, q_e1, q_e2, Nat.zero_add, Nat.reduceEqDiff, Nat.reduceAdd, Nat.reduceMul, Nat.reduceSub, Nat.reduceLT, Nat.reduceLeDiff, Nat.reduceDiv, Nat.reduceMod, m_r1 H, m_r2 H, m_r3 H, m_r4 H, m_r5 H, m_r18 H, m_r19 H, m_r20 H, m_r24 H, m_r25 H, m_r27 H, m_r28 H, m_r29 H, m_r30 H, m_r31 H, m_r32 H, m_r33 H, m_r34 H, m_r35 H, m_n150 H, m_n151 H, m_n152 H, m_n153 H, m_n154 H, m_n155 H, m_n156 H, m_n157 H, m_n158 H, m_n159 H, m_n160 H, m_n161 H, m_n162 H, m_n163 H, m_n164 H, m_n165 H, m_n166 H, m_n167 H, m_n168 H, m_n169 H, nI_c, nI_add, up_ne]
    rfl
  · obtain ⟨k1, k2, -, -, -, -⟩ := hK
    have s1 : E_ (d + 1) mX5_carsGo 35 [.val (.ref 150), .val (.int (nI (sL (oI h 152)))), z.1, z.2.1, z.2.2] [] (HM h p.1 p.2.1 (oe p.2.2)) = E_ (d + 1) mX5_carsGo 167 [.val (.ref 150), .val (.int (nI 0)), z.1, z.2.1, z.2.2] [] (pI (HM h p.1 p.2.1 (oe p.2.2)) 156 (fun j => if j < 24 + 0 then p.1 j else hz (oI h 156) p.1 j)) := by
      have e8 : (fun j => if j < 24 + 0 then p.1 j else hz (oI h 156) p.1 j) = hz (oI h 156) p.1 := by
        funext j
        by_cases q : j < 24 + 0
        · rw [if_pos q, hz_c (by omega)]
        · rw [if_neg q]
      rw [e8]
      have e9 : pI (HM h p.1 p.2.1 (oe p.2.2)) 156 (hz (oI h 156) p.1) = HM h p.1 p.2.1 (oe p.2.2) := o_pIi (h := HM h p.1 p.2.1 (oe p.2.2)) (a := 156)
      rw [e9]
      have H2 : MOK (HM h p.1 p.2.1 (oe p.2.2)) := H
      have r1 : oI (HM h p.1 p.2.1 (oe p.2.2)) 152 = oI h 152 := rfl
      have D7 : oT (HM h p.1 p.2.1 (oe p.2.2)) 150 = 7 := mok_t H2 rfl
      have D40 : oT (HM h p.1 p.2.1 (oe p.2.2)) 152 = 40 := mok_t H2 rfl
      have D2 : oR (HM h p.1 p.2.1 (oe p.2.2)) 150 2 = some 152 := m_r2 H2
      have DX : xix (nI 0) (oN (HM h p.1 p.2.1 (oe p.2.2)) 152) = true := m_x152 H2 (by omega)
      simp (disch := first | exact D7 | exact D40 | exact DX | first | with_unfolding_all exact id (mok_t H rfl) | exact Or.inr (by with_unfolding_all exact mok_t H rfl) | exact nI_ne0 (by decide) (by decide) | with_unfolding_all exact id (m_x152 H (by omega)) | with_unfolding_all exact id (m_x156 H (by omega)) | with_unfolding_all exact id (m_x158 H (by omega)) | with_unfolding_all exact id (m_x159 H (by omega)) | with_unfolding_all exact id (m_x160 H (by omega)) | exact zb_01 | exact Or.inl rfl | exact Or.inr rfl | omega) only [wX5_carsGo_35, wX5_carsGo_36, wX5_carsGo_37, wX5_carsGo_40, wX5_carsGo_41, wX5_carsGo_42, wX5_carsGo_165, wX5_carsGo_166, if_true, if_false, ↓reduceIte, xpu_s, xpu_n, Option.bind_some, xk_i, xk_r, xk_0, xk_u, xk_l, xk_k, xk_q, rf_s, rf_n, q_e1, q_e2, Nat.zero_add, Nat.reduceEqDiff, Nat.reduceAdd, Nat.reduceMul, Nat.reduceSub, Nat.reduceLT, Nat.reduceLeDiff, Nat.reduceDiv, Nat.reduceMod, D2, r1, nI_c, W3, i_irr]
    refine ⟨mz (oI h 159) p.2.1, gz (oI h 160) p.1, s1.trans ?_⟩
    refine (lp_go (n := 8) (F := fun k => E_ (d + 1) mX5_carsGo 167 [.val (.ref 150), .val (.int (nI k)), z.1, z.2.1, z.2.2] [] (pI (HM h p.1 p.2.1 (oe p.2.2)) 156 (fun j => if j < 24 + k then p.1 j else hz (oI h 156) p.1 j))) (fun k hk => ?_)).trans ?_
    · refine wX5_carsGo_167.trans ?_
      have g1 : gz (oI h 160) p.1 k = p.1 (24 + k) := gz_c hk
      have u1 : ∀ x, x = p.1 (24 + k) → va_up (fun j => if j < 24 + k then p.1 j else hz (oI h 156) p.1 j) (24 + k) x = fun j => if j < 24 + (k + 1) then p.1 j else hz (oI h 156) p.1 j := fun x hx => up_fill hx
      unfold HM
      rcases k2 k hk with e | e
      · simp (disch := first | exact (e.trans nI_0).symm | first | with_unfolding_all exact id (mok_t H rfl) | exact Or.inr (by with_unfolding_all exact mok_t H rfl) | exact nI_ne0 (by decide) (by decide) | with_unfolding_all exact id (m_x152 H (by omega)) | with_unfolding_all exact id (m_x156 H (by omega)) | with_unfolding_all exact id (m_x158 H (by omega)) | with_unfolding_all exact id (m_x159 H (by omega)) | with_unfolding_all exact id (m_x160 H (by omega)) | exact zb_01 | exact Or.inl rfl | exact Or.inr rfl | omega) only [wX5_carsGo_168, wX5_carsGo_170, wX5_carsGo_173, wX5_carsGo_174, wX5_carsGo_177, wX5_carsGo_179, wX5_carsGo_180, wX5_carsGo_181, wX5_carsGo_182, wX5_carsGo_185, wX5_carsGo_186, wX5_carsGo_187, wX5_carsGo_190, wX5_carsGo_191, wX5_carsGo_194, wX5_carsGo_195, wX5_carsGo_196, wX5_carsGo_199, if_true, if_false, ↓reduceIte, xpu_s, xpu_n, Option.bind_some, xk_i, xk_r, xk_0, xk_u, xk_l, xk_k, xk_q, rf_s, rf_n, o_TI, o_TL, o_TR, o_NI, o_NL, o_NR, o_XI, o_XL, o_XR, o_RI, o_RL, o_LI, o_LR, o_IL, o_IR, o_II, o_LL, o_RR, o_pII, o_pLL, up_s, q_e1, q_e2, Nat.zero_add, Nat.reduceEqDiff, Nat.reduceAdd, Nat.reduceMul, Nat.reduceSub, Nat.reduceLT, Nat.reduceLeDiff, Nat.reduceDiv, Nat.reduceMod, m_r1 H, m_r2 H, m_r3 H, m_r4 H, m_r5 H, m_r18 H, m_r19 H, m_r20 H, m_r24 H, m_r25 H, m_r27 H, m_r28 H, m_r29 H, m_r30 H, m_r31 H, m_r32 H, m_r33 H, m_r34 H, m_r35 H, m_n150 H, m_n151 H, m_n152 H, m_n153 H, m_n154 H, m_n155 H, m_n156 H, m_n157 H, m_n158 H, m_n159 H, m_n160 H, m_n161 H, m_n162 H, m_n163 H, m_n164 H, m_n165 H, m_n166 H, m_n167 H, m_n168 H, m_n169 H, nI_c, nI_add, up_ne, o_qIc, o_qLc, o_qLI, id_eq, nI_ltP, hk, g1, e, u1, nI_0]
      · simp (disch := first | exact e.symm | first | with_unfolding_all exact id (mok_t H rfl) | exact Or.inr (by with_unfolding_all exact mok_t H rfl) | exact nI_ne0 (by decide) (by decide) | with_unfolding_all exact id (m_x152 H (by omega)) | with_unfolding_all exact id (m_x156 H (by omega)) | with_unfolding_all exact id (m_x158 H (by omega)) | with_unfolding_all exact id (m_x159 H (by omega)) | with_unfolding_all exact id (m_x160 H (by omega)) | exact zb_01 | exact Or.inl rfl | exact Or.inr rfl | omega) only [wX5_carsGo_168, wX5_carsGo_170, wX5_carsGo_173, wX5_carsGo_174, wX5_carsGo_177, wX5_carsGo_179, wX5_carsGo_180, wX5_carsGo_181, wX5_carsGo_182, wX5_carsGo_185, wX5_carsGo_186, wX5_carsGo_187, wX5_carsGo_190, wX5_carsGo_191, wX5_carsGo_194, wX5_carsGo_195, wX5_carsGo_196, wX5_carsGo_199, if_true, if_false, ↓reduceIte, xpu_s, xpu_n, Option.bind_some, xk_i, xk_r, xk_0, xk_u, xk_l, xk_k, xk_q, rf_s, rf_n, o_TI, o_TL, o_TR, o_NI, o_NL, o_NR, o_XI, o_XL, o_XR, o_RI, o_RL, o_LI, o_LR, o_IL, o_IR, o_II, o_LL, o_RR, o_pII, o_pLL, up_s, q_e1, q_e2, Nat.zero_add, Nat.reduceEqDiff, Nat.reduceAdd, Nat.reduceMul, Nat.reduceSub, Nat.reduceLT, Nat.reduceLeDiff, Nat.reduceDiv, Nat.reduceMod, m_r1 H, m_r2 H, m_r3 H, m_r4 H, m_r5 H, m_r18 H, m_r19 H, m_r20 H, m_r24 H, m_r25 H, m_r27 H, m_r28 H, m_r29 H, m_r30 H, m_r31 H, m_r32 H, m_r33 H, m_r34 H, m_r35 H, m_n150 H, m_n151 H, m_n152 H, m_n153 H, m_n154 H, m_n155 H, m_n156 H, m_n157 H, m_n158 H, m_n159 H, m_n160 H, m_n161 H, m_n162 H, m_n163 H, m_n164 H, m_n165 H, m_n166 H, m_n167 H, m_n168 H, m_n169 H, nI_c, nI_add, up_ne, o_qIc, o_qLc, o_qLI, id_eq, nI_ltP, hk, g1, e, u1, nI_ne1]
    · refine wX5_carsGo_167.trans ?_
      have e8 : (fun j => if j < 24 + 8 then p.1 j else hz (oI h 156) p.1 j) = p.1 := by
        funext j
        by_cases q : j < 24 + 8
        · rw [if_pos q]
        · rw [if_neg q, hz_c (by omega)]
      rw [e8]
      unfold HM
      simp (disch := first | with_unfolding_all exact id (mok_t H rfl) | exact Or.inr (by with_unfolding_all exact mok_t H rfl) | exact nI_ne0 (by decide) (by decide) | with_unfolding_all exact id (m_x152 H (by omega)) | with_unfolding_all exact id (m_x156 H (by omega)) | with_unfolding_all exact id (m_x158 H (by omega)) | with_unfolding_all exact id (m_x159 H (by omega)) | with_unfolding_all exact id (m_x160 H (by omega)) | exact zb_01 | exact Or.inl rfl | exact Or.inr rfl | omega) only [wX5_carsGo_168, wX5_carsGo_170, wX5_carsGo_202, if_true, if_false, ↓reduceIte, xpu_s, xpu_n, Option.bind_some, xk_i, xk_r, xk_0, xk_u, xk_l, xk_k, xk_q, rf_s, rf_n, o_TI, o_TL, o_TR, o_NI, o_NL, o_NR, o_XI, o_XL, o_XR, o_RI, o_RL, o_LI, o_LR, o_IL, o_IR, o_II, o_LL, o_RR, o_pII, o_pLL, up_s, q_e1, q_e2, Nat.zero_add, Nat.reduceEqDiff, Nat.reduceAdd, Nat.reduceMul, Nat.reduceSub, Nat.reduceLT, Nat.reduceLeDiff, Nat.reduceDiv, Nat.reduceMod, m_r1 H, m_r2 H, m_r3 H, m_r4 H, m_r5 H, m_r18 H, m_r19 H, m_r20 H, m_r24 H, m_r25 H, m_r27 H, m_r28 H, m_r29 H, m_r30 H, m_r31 H, m_r32 H, m_r33 H, m_r34 H, m_r35 H, m_n150 H, m_n151 H, m_n152 H, m_n153 H, m_n154 H, m_n155 H, m_n156 H, m_n157 H, m_n158 H, m_n159 H, m_n160 H, m_n161 H, m_n162 H, m_n163 H, m_n164 H, m_n165 H, m_n166 H, m_n167 H, m_n168 H, m_n169 H, nI_c, nI_add, up_ne, o_qIc, o_qLc, o_qLI, id_eq, i_irr]
end
