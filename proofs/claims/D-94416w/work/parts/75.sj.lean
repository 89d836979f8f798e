/-! TWO SCENES ALIKE: a tick, all branches -/
section
variable {i : Nat → Nat} {A B w u : rI} {wl xl : Int32}
theorem sHi_i {c : Nat} (a : RA i A B) (R : RW i A B w u) (hc : c < sN B) : sHi A w (i c) = sHi B u c := by
  have ac := a.2.2.2.1 c hc
  obtain ⟨c1, -, -, -⟩ := R.1 c hc
  refine an_i a.2.1 (fun k hk => ?_) (fun k hk hx => ?_)
  · obtain ⟨e1, e2, e3, e4⟩ := R.1 k hk
    have ak := a.2.2.2.1 k hk
    rw [ac.1, ak.1, ak.2, e1, e2, e3, c1]
  · exact decide_eq_false (fun z => z.2.2.2.2.1.1 (i_lt1 (R.2.1 k hk hx)))
theorem sFr_i {lane : Int32} (a : RA i A B) (R : RW i A B w u) : sFr A w lane = sFr B u lane := by
  unfold sFr
  congr 1
  refine an_i a.2.1 (fun k hk => ?_) (fun k hk hx => ?_)
  · obtain ⟨e1, e2, e3, e4⟩ := R.1 k hk
    have ak := a.2.2.2.1 k hk
    rw [ak.1, e1, e2, e3, e4, sHi_i a R hk, a.2.2.2.2.2.2.2.1]
  · rw [decide_eq_false (fun z : A (2 + k) = lane ∧ 0 < w k ∧ ¬ w (16 + k) = nI 2 ∧ ¬ w (24 + k) = nI 1 => R.2.1 k hk hx z.2.1), Bool.false_and]
theorem sIn_i (a : RA i A B) (R : RW i A B w u) : RW i A B (sIn A w) (sIn B u) := by
  have R0 := R
  obtain ⟨r1, r2, r3, r4, r5, r6, r7, r8, r9⟩ := R0
  unfold sIn
  rw [r3, sFr_i a R, r4, r6, a.2.2.2.2.2.2.2.2.1]
  split
  · exact RW_h a (by omega) (fun _ => rfl) (RW_h a (by omega) (fun _ => rfl) R)
  · exact R
theorem sZh_i (a : RA i A B) (R : RW i A B w u) : RW i A B (sZh w) (sZh u) := by
  have m8 := RW_m8 a
  obtain ⟨r1, r2, r3, r4, r5, r6, r7, r8, r9⟩ := R
  have lo : ∀ (v : rI) k, k < 24 ∨ 32 ≤ k → sZh v k = v k := fun v k hk => sZh_lo hk
  have hi : ∀ (v : rI) k, 24 ≤ k → k < 32 → sZh v k = nI 0 := fun v k h1 h2 => if_pos ⟨h1, h2⟩
  have a1 := a.1
  refine ⟨fun k hk => ?_, fun c hc hx => ?_, ?_, ?_, ?_, ?_, ?_, ?_, ?_⟩
  · have ik := a.2.1 k hk
    obtain ⟨e1, e2, e3, e4⟩ := r1 k hk
    rw [lo w _ (by omega), lo w _ (by omega), lo w _ (by omega), lo u _ (by omega), lo u _ (by omega), lo u _ (by omega), hi w _ (by omega) (by omega), hi u _ (by omega) (by omega)]
    exact ⟨e1, e2, e3, rfl⟩
  · rw [lo w _ (by omega)]; exact r2 c hc hx
  all_goals rw [lo w _ (by omega), lo u _ (by omega)]
  all_goals assumption
/-- the state of one lane's cars -/
def RM (i : Nat → Nat) (A B : rI) (s t : sM) : Prop := RW i A B s.1 t.1 ∧ (∀ k, k < sN B → s.2.1 (i k) = t.2.1 k) ∧ s.2.2.1 = t.2.2.1 ∧ s.2.2.2 = t.2.2.2.map i ∧ ∀ j, t.2.2.2 = some j → j < sN B
theorem sNe_i {mv nv : Nat → Bool} {lane : Int32} (a : RA i A B) (R : RW i A B w u) (hv : ∀ k, k < sN B → mv (i k) = nv k) : sNe A w mv lane = (sNe B u nv lane).map i ∧ ∀ j, sNe B u nv lane = some j → j < sN B := by
  refine fo_i (R := fun (b c : Option Nat) => b = c.map i ∧ ∀ j, c = some j → j < sN B) a.2.1 a.2.2.1 ⟨rfl, fun j h => by cases h⟩ (fun k b c hk hb => ?_) (fun k b c hk hx hb => ?_)
  · obtain ⟨rfl, h2⟩ := hb
    obtain ⟨e1, e2, e3, e4⟩ := R.1 k hk
    have nq_e : nq w (i k) (c.map i) = nq u k c := by
      cases c with
      | none => rfl
      | some j =>
        have := (R.1 j (h2 j rfl)).1
        show decide (w (i k) < w (i j)) = decide (u k < u j)
        rw [e1, this]
    rw [(a.2.2.2.1 k hk).1, hv k hk, e1, nq_e]
    by_cases z : B (2 + k) = lane ∧ nv k = false ∧ 0 < u k ∧ nq u k c = true
    · rw [if_pos z, if_pos z]; exact ⟨rfl, fun j h => by cases h; exact hk⟩
    · rw [if_neg z, if_neg z]; exact ⟨rfl, h2⟩
  · rw [if_neg (fun z : A (2 + k) = lane ∧ mv k = false ∧ 0 < w k ∧ nq w k b = true => R.2.1 k hk hx z.2.2.1)]
    exact hb
theorem sGo_i {b : Int32} {c : Nat} (a : RA i A B) (hc : c < sN B) (R : RW i A B w u) : RW i A B (sGo w b (i c)) (sGo u b c) := by
  obtain ⟨e1, e2, e3, e4⟩ := R.1 c hc
  have gp : gP w (i c) = gP u c := by unfold gP; rw [e2]
  have gt : gT w (i c) = gT u c := by unfold gT; rw [e1, e2]
  have gl : gL w b (i c) = gL u b c := by unfold gL; rw [e1, e2]
  unfold sGo gW
  rw [e3, gp, gt, gl, e1]
  refine RW_u a hc (by omega) ?_
  split
  · exact RW_u0 a hc (RW_u a hc (by omega) R)
  · exact RW_u0 a hc R
theorem fmin_i {c : Nat} {o : Option Nat} (a : RA i A B) (hc : c < sN B) (ho : ∀ j, o = some j → j < sN B) : fmin (i c) (o.map i) = (fmin c o).map i := by
  cases o with
  | none => rfl
  | some j =>
    have hj := ho j rfl
    show (if i c < i j then some (i c) else some (i j)) = (if c < j then some c else some j).map i
    rcases Nat.lt_trichotomy c j with z | z | z
    · have := a.2.2.1 c j z hj
      rw [if_pos this, if_pos z]; rfl
    · subst z
      rw [if_neg (Nat.lt_irrefl _), if_neg (Nat.lt_irrefl _)]; rfl
    · have := a.2.2.1 j c z hc
      rw [if_neg (by omega), if_neg (by omega)]; rfl
theorem sMv_i {c : Nat} {s t : sM} (a : RA i A B) (hc : c < sN B) (R : RM i A B s t) : RM i A B (sMv (i c) s) (sMv c t) := by
  obtain ⟨w, mv, b, f⟩ := s
  obtain ⟨u, nv, b', f'⟩ := t
  obtain ⟨R1, R2, R3, R4, R5⟩ := R
  have R3 : b = b' := R3
  have R4 : f = f'.map i := R4
  subst R3
  subst R4
  have G := sGo_i (b := b) a hc R1
  obtain ⟨e1, e2, e3, e4⟩ := G.1 c hc
  refine ⟨G, fun k hk => ?_, ?_, ?_, fun j hj => ?_⟩
  · show va_up mv (i c) true (i k) = va_up nv c true k
    by_cases z : k = c
    · subst z; rw [up_s, up_s]
    · have : ¬ i k = i c := fun y => z ((mono_le a.2.1 a.2.2.1).2 k c hk hc y)
      rw [up_ne z, up_ne this]; exact R2 k hk
  · show (if 0 < sGo w b (i c) (i c) ∧ (sGo w b (i c) (16 + i c) = nI 2 ∨ ¬ sGo w b (i c) (24 + i c) = 0) then im b (sGo w b (i c) (i c)) else b) = (if 0 < sGo u b c c ∧ (sGo u b c (16 + c) = nI 2 ∨ ¬ sGo u b c (24 + c) = 0) then im b (sGo u b c c) else b)
    rw [e1, e3, e4]
  · show (if 0 < sGo w b (i c) (i c) then f'.map i else fmin (i c) (f'.map i)) = (if 0 < sGo u b c c then f' else fmin c f').map i
    rw [e1, fmin_i a hc R5]
    split <;> rfl
  · have hj : (if 0 < sGo u b c c then f' else fmin c f') = some j := hj
    split at hj
    · exact R5 j hj
    · cases f' with
      | none => cases hj; exact hc
      | some k =>
        have hj : (if c < k then some c else some k) = some j := hj
        split at hj
        · cases hj; exact hc
        · cases hj; exact R5 _ rfl
theorem sLn_i {lane : Int32} (a : RA i A B) : ∀ (f : Nat) (s t : sM), RM i A B s t → RM i A B (sLn A lane f s) (sLn B lane f t)
  | 0, s, t, R => R
  | f + 1, s, t, R => by
    obtain ⟨n1, n2⟩ := sNe_i (lane := lane) a R.1 R.2.1
    cases q : sNe B t.1 t.2.1 lane with
    | none =>
      rw [q] at n1
      rw [sLn_none n1, sLn_none q]
      exact R
    | some c =>
      rw [q] at n1
      rw [sLn_some n1, sLn_some q]
      exact sLn_i a f _ _ (sMv_i a (n2 c q) R)
def RP (i : Nat → Nat) (A B : rI) (s t : sP) : Prop := RW i A B s.1 t.1 ∧ (∀ k, k < sN B → s.2.1 (i k) = t.2.1 k) ∧ s.2.2 = t.2.2.map i ∧ ∀ j, t.2.2 = some j → j < sN B
theorem sCg_i (a : RA i A B) (R : RW i A B w u) : RP i A B (sCg A w) (sCg B u) := by
  unfold sCg
  rw [sL_i a]
  refine fo_rel (R := RP i A B) ⟨sZh_i a R, fun _ _ => rfl, rfl, fun j h => by cases h⟩ (fun l s t hl R => ?_)
  obtain ⟨w, mv, f⟩ := s
  obtain ⟨u, nv, f'⟩ := t
  obtain ⟨R1, R2, R3, R4⟩ := R
  have L := sLn_i (lane := nI l) a 8 (w, mv, -1, none) (u, nv, -1, none) ⟨R1, R2, rfl, rfl, fun j h => by cases h⟩
  obtain ⟨L1, L2, L3, L4, L5⟩ := L
  refine ⟨L1, L2, ?_, fun j hj => ?_⟩
  · show (if w 33 = nI 1 ∧ nI l = w 32 then _ else f) = (if u 33 = nI 1 ∧ nI l = u 32 then _ else f').map i
    have r32 : w 32 = u 32 := R1.2.2.1
    have r33 : w 33 = u 33 := R1.2.2.2.1
    rw [r32, r33]
    split
    · exact L4
    · exact R3
  · have hj : (if u 33 = nI 1 ∧ nI l = u 32 then (sLn B (nI l) 8 (u, nv, -1, none)).2.2.2 else f') = some j := hj
    split at hj
    · exact L5 j hj
    · exact R4 j hj
theorem sE1_i {k : Option Nat} (a : RA i A B) (R : RW i A B w u) (hk : ∀ j, k = some j → j < sN B) : RW i A B (sE1 A w (k.map i)) (sE1 B u k) := by
  have R0 := R
  obtain ⟨r1, r2, r3, r4, r5, r6, r7, r8, r9⟩ := R0
  cases k with
  | some j =>
    obtain ⟨e1, e2, e3, e4⟩ := r1 j (hk j rfl)
    show RW i A B (va_up (va_up (va_up w 37 (nI 2)) 39 (nI (i j))) 38 (w (8 + i j) * w (8 + i j) * sO A)) (va_up (va_up (va_up u 37 (nI 2)) 39 (nI j)) 38 (u (8 + j) * u (8 + j) * sO B))
    exact RW_h a (by omega) (fun _ => by rw [e2, sO_i a]) (RW_h a (by omega) (fun z => by omega) (RW_h a (by omega) (fun _ => rfl) R))
  | none =>
    show RW i A B (if w 33 = nI 1 then _ else w) (if u 33 = nI 1 then _ else u)
    rw [r4, r5, sO_i a, r3, a.2.2.2.2.1]
    split
    · split
      · exact RW_h a (by omega) (fun _ => rfl) R
      · exact RW_h a (by omega) (fun _ => rfl) (RW_h a (by omega) (fun _ => rfl) (RW_h a (by omega) (fun _ => rfl) (RW_h a (by omega) (fun _ => rfl) R)))
    · exact R
theorem sE2_i (a : RA i A B) (R : RW i A B w u) : RW i A B (sE2 w) (sE2 u) := by
  have R0 := R
  obtain ⟨r1, r2, r3, r4, r5, r6, r7, r8, r9⟩ := R0
  unfold sE2
  rw [r3, r4, r6, r7]
  exact RW_h a (by omega) (fun _ => rfl) (RW_h a (by omega) (fun _ => rfl) R)
theorem sE3_i (a : RA i A B) (R : RW i A B w u) : RW i A B (sE3 w) (sE3 u) := by
  have R0 := R
  obtain ⟨r1, r2, r3, r4, r5, r6, r7, r8, r9⟩ := R0
  unfold sE3
  rw [r7, r8]
  refine RW_h a (by omega) (fun _ => rfl) ?_
  split
  · exact RW_h a (by omega) (fun _ => rfl) R
  · exact R
theorem sTk_i (a : RA i A B) (R : RW i A B w u) : RW i A B (sTk A w) (sTk B u) := by
  obtain ⟨c1, c2, c3, c4⟩ := sCg_i a (sIn_i a R)
  unfold sTk
  rw [c3]
  exact sE3_i a (sE2_i a (sE1_i a c1 c4))
/-- parts so many times others -/
def PK (K : Nat) (a b : aC) : Prop := ∀ j, j < 5 → a.1 j = lN K * b.1 j
theorem lF_PK {K W : Nat} {a b : aC} (R : RW i A B w u) (P : PK K a b) : PK K (lF A w (lN (K * W)) a) (lF B u (lN W) b) := by
  obtain ⟨r1, r2, r3, r4, r5, r6, r7, r8, r9⟩ := R
  intro j hj
  have ew : lN (K * W) = lN K * lN W := (lN_mul K W).symm
  unfold lF
  dsimp only
  rw [r7, r8, r9, ew]
  generalize (u 37 - nI 1).toNatClampNeg = e
  have di : ∀ x y z : Int64, x * y + x * z = x * (y + z) := fun x y z => (Int64.mul_add).symm
  have s1 : ∀ k, k < 5 → va_up a.1 e (a.1 e + lN K * lN W) k = lN K * va_up b.1 e (b.1 e + lN W) k := fun k hk => by
    unfold va_up
    by_cases z : k = e
    · rw [if_pos z, if_pos z, P e (by omega), di]
    · rw [if_neg z, if_neg z, P k hk]
  have s2 : ∀ k, k < 5 → va_up (va_up a.1 e (a.1 e + lN K * lN W)) 3 (a.1 3 + lN K * lN W * (u 36).toInt64) k = lN K * va_up (va_up b.1 e (b.1 e + lN W)) 3 (b.1 3 + lN W * (u 36).toInt64) k := fun k hk => by
    by_cases z : k = 3
    · rw [z, up_s, up_s, P 3 (by omega), Int64.mul_assoc, di]
    · rw [up_ne z, up_ne z]; exact s1 k hk
  have s3 : ∀ k, k < 5 → va_up (va_up (va_up a.1 e (a.1 e + lN K * lN W)) 3 (a.1 3 + lN K * lN W * (u 36).toInt64)) 4 (a.1 4 + lN K * lN W * (u 38).toInt64) k = lN K * va_up (va_up (va_up b.1 e (b.1 e + lN W)) 3 (b.1 3 + lN W * (u 36).toInt64)) 4 (b.1 4 + lN W * (u 38).toInt64) k := fun k hk => by
    by_cases z : k = 4
    · rw [z, up_s, up_s, P 4 (by omega), Int64.mul_assoc, di]
    · rw [up_ne z, up_ne z]; exact s2 k hk
  rw [up_ne (show j ≠ 5 by omega), up_ne (show j ≠ 5 by omega)]
  exact s3 j hj
theorem dv_100 {K W x : Nat} (h : 100 ∣ W) : K * W / 100 * x = K * (W / 100 * x) := by
  obtain ⟨t, rfl⟩ := h
  rw [Nat.mul_left_comm, Nat.mul_div_cancel_left _ (by decide), Nat.mul_div_cancel_left _ (by decide), Nat.mul_assoc]
theorem sBr_i {K : Nat} (a : RA i A B) (H : HS i A B wl xl) : ∀ (f : Nat) (w u : rI) (x y W : Nat) (p q : aC), RW i A B w u → w 41 = nI x → u 41 = nI y → x ≤ sN A → y ≤ sN B → QI i (sN B) x y → 100 ^ ud (sN B) u ∣ W → PK K p q → PK K (sBr A wl f w (K * W) p) (sBr B xl f u W q)
  | 0, w, u, x, y, W, p, q, R, e1, e2, hx, hy, Q, hd, P => P
  | f + 1, w, u, x, y, W, p, q, R, e1, e2, hx, hy, Q, hd, P => by
    have a1 := a.1
    have m8 := RW_m8 a
    show PK K (if w 37 = 0 then _ else _) (if u 37 = 0 then _ else _)
    rw [R.2.2.2.2.2.2.2.1]
    by_cases z : u 37 = 0
    · rw [if_pos z, if_pos z, e1, e2, nI_clamp (by omega), nI_clamp (by omega)]
      have D := dN_i a H (sN A - x) x y w u (by omega) hy Q e1 e2 R
      cases g1 : dN A wl (sN A - x) x w with
      | mk v o =>
        cases g2 : dN B xl (sN B - y) y u with
        | mk t r =>
          rw [g1, g2] at D
          obtain ⟨D1, D2, D3, D4⟩ := D
          have D1 : RW i A B v t := D1
          rcases D4 with ⟨d1, d2⟩ | ⟨c, c1, c2, c3, c4, c5, c6, c7⟩
          · cases d1
            cases d2
            have T : ud (sN B) (sTk B t) = ud (sN B) t := ud_eq fun k hk => sTk_16 m8 (by omega)
            exact sBr_i a H f _ _ 0 0 W p q (sTk_i a D1) sTk_41 sTk_41 (Nat.zero_le _) (Nat.zero_le _) ⟨fun k hk => by omega, fun k _ _ => Nat.zero_le _⟩ (by rw [T]; exact Nat.dvd_trans (Nat.pow_dvd_pow 100 D2) hd) P
          · cases c3
            cases c4
            have c5 : v 41 = nI (i c) := c5
            have c6 : t 41 = nI c := c6
            have ch := sCh_i a H D1 c1
            have ic := a.2.1 c c1
            have Qc : QI i (sN B) (i c) c := ⟨fun k hk => a.2.2.1 k c hk c1, fun k h1 h2 => by
              rcases Nat.lt_or_ge c k with z | z
              · have := a.2.2.1 c k z h2; omega
              · have : k = c := by omega
                rw [this]; exact Nat.le_refl _⟩
            have u1 : ∀ b : Int32, ¬ b = 0 → ud (sN B) (va_up t (16 + c) b) + 1 = ud (sN B) t := fun b hb => ud_one c1 c7 (by rw [up_s]; exact hb) (fun k hk hne => up_ne (by omega))
            have dv : 100 ∣ W := Nat.dvd_trans (Nat.dvd_trans (by rw [← u1 (nI 1) (by decide), Nat.pow_succ]; exact Nat.dvd_mul_left _ _) (Nat.pow_dvd_pow 100 D2)) hd
            have dv2 : ∀ (b : Int32) (k : Nat), ¬ b = 0 → 100 ^ ud (sN B) (va_up t (16 + c) b) ∣ W / 100 * k := fun b k hb => by
              have h1 := u1 b hb
              obtain ⟨g, hg⟩ := Nat.dvd_trans (Nat.pow_dvd_pow 100 D2) hd
              have D2' : ud (sN B) t ≤ ud (sN B) u := D2
              have hg : W = 100 ^ ud (sN B) t * g := hg
              rw [hg, ← h1, Nat.pow_succ, Nat.mul_assoc, Nat.mul_left_comm, Nat.mul_div_cancel_left _ (by decide)]
              exact Nat.dvd_trans (Nat.dvd_mul_right _ _) (Nat.dvd_mul_right _ _)
            show PK K (sBr A wl f (va_up v (16 + i c) (nI 1)) (K * W / 100 * (100 - (sCh A v wl (i c)).toNatClampNeg)) (sBr A wl f (va_up v (16 + i c) (nI 2)) (K * W / 100 * (sCh A v wl (i c)).toNatClampNeg) p)) (sBr B xl f (va_up t (16 + c) (nI 1)) (W / 100 * (100 - (sCh B t xl c).toNatClampNeg)) (sBr B xl f (va_up t (16 + c) (nI 2)) (W / 100 * (sCh B t xl c).toNatClampNeg) q))
            rw [ch, dv_100 dv, dv_100 dv]
            have go : ∀ (b : Int32) (k : Nat) (p q : aC), ¬ b = 0 → PK K p q → PK K (sBr A wl f (va_up v (16 + i c) b) (K * (W / 100 * k)) p) (sBr B xl f (va_up t (16 + c) b) (W / 100 * k) q) := fun b k p q hb P => sBr_i a H f _ _ (i c) c _ p q (RW_u a c1 (by omega) D1) (by rw [up_ne (by omega)]; exact c5) (by rw [up_ne (by omega)]; exact c6) (by omega) (by omega) Qc (dv2 b k hb) P
            exact go _ _ _ _ (by decide) (go _ _ _ _ (by decide) P)
    · rw [if_neg z, if_neg z]
      exact lF_PK R P
end
