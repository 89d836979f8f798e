/-! CONSTRUCTORS: the first object -/
section
variable {d : Nat} {g z h : xH} {o j t n k s : Nat} {f : rI}
/-- what the first object's constructor leaves (its place 64, its cells to 149) -/
def FO (z : xH) : Prop := oT z 64 = 1 ∧ oR z 64 = va_up (va_up (va_up (va_up (va_up (va_up (va_up (va_up (va_up (va_up (va_up (va_up (fun _ => none) 0 (some 65)) 1 (some 76)) 2 (some 77)) 3 (some 78)) 7 (some 79)) 9 (some 85)) 10 (some 140)) 11 (some 141)) 12 (some 142)) 13 (some 143)) 14 (some 144)) 17 (some 145) ∧ oI z 64 = va_up (fun _ => 0) 6 (-1) ∧
  (oT z 76 = 48 ∧ oN z 76 = 2 ∧ oR z 76 = fun _ => none) ∧ (oT z 77 = 40 ∧ oN z 77 = 6 ∧ oI z 77 = fun _ => 0) ∧ (oT z 78 = 41 ∧ oN z 78 = 400 ∧ oI z 78 = fun _ => 0) ∧ WO z 79 ∧ (oT z 85 = 46 ∧ oN z 85 = 9 ∧ ∀ j, j < 9 → oR z 85 j = some (86 + 6 * j) ∧ WO z (86 + 6 * j)) ∧
  (oT z 140 = 44 ∧ oN z 140 = 6) ∧ (oT z 141 = 44 ∧ oN z 141 = 8) ∧ (oT z 142 = 44 ∧ oN z 142 = 8) ∧ (oT z 143 = 44 ∧ oN z 143 = 13000) ∧ (oT z 144 = 40 ∧ oN z 144 = 40) ∧ (oT z 145 = 47 ∧ oN z 145 = 4 ∧ ∀ r, r < 4 → oR z 145 r = some (146 + r) ∧ oT z (146 + r) = 6 ∧ oR z (146 + r) 0 = none) ∧
  (oT z 65 = 2 ∧ oR z 65 0 = some 66 ∧ oR z 65 1 = some 69 ∧ oR z 65 2 = some 71 ∧ oR z 65 3 = some 73 ∧ oR z 65 4 = some 74 ∧ oR z 65 5 = some 75) ∧ (oT z 66 = 3 ∧ oR z 66 0 = some 67 ∧ LG z 67 0 9 ∧ rq z 67 1 = 68 ∧ oI z 66 = va_up (va_up (va_up (va_up (fun _ => 0) 1 (nI 1)) 4 (nI 3)) 5 (nI 20)) 6 (nI 40)) ∧ (LG z 69 0 18 ∧ rq z 69 1 = 70) ∧ (LG z 71 0 19 ∧ rq z 71 1 = 72) ∧ (oT z 73 = 40 ∧ oN z 73 = 4 ∧ oI z 73 = va_up (va_up (va_up (va_up (fun _ => 0) 0 (nI 1)) 1 (nI 1)) 2 (nI 1)) 3 (nI 1)) ∧ (oT z 74 = 40 ∧ oN z 74 = 4 ∧ oI z 74 = va_up (va_up (va_up (va_up (fun _ => 0) 0 (nI 100)) 1 (nI 100)) 2 (nI 100)) 3 (nI 100)) ∧ (oT z 75 = 40 ∧ oN z 75 = 20 ∧ oI z 75 = fun _ => 0)
theorem LG0_sm {l b : Nat} (s1 : sm g z l) (s2 : sm g z (rq g l 1)) (G : LG g l 0 b) : LG z l 0 b ∧ rq z l 1 = rq g l 1 := by
  obtain ⟨g1, g2, g3, g4⟩ := G
  obtain ⟨L1, L2⟩ := LS_m s1 s2 g1
  have e := rq_m (j := 1) s1
  exact ⟨⟨L1, by rw [e, s2.2.1]; exact g2, by rw [e, s2.2.1]; exact g3, fun k hk => by omega⟩, e⟩
/-- from the state on -/
theorem fo_1 (T : TX h) (hX : oX h = 64) : ∃ z, E_ (d + 6) mX0_init 0 [.val (.ref 64)] [] (pO h 1 18) = E_ (d + 6) mX0_init 15 [.val (.ref 64)] [] z ∧ GX (fun _ => False) h z 12 75 ∧ oX z = 76 ∧ oT z 64 = 1 ∧ oR z 64 = va_up (fun _ => none) 0 (some 65) ∧ oI z 64 = (fun _ => 0) ∧
  (oT z 65 = 2 ∧ oR z 65 0 = some 66 ∧ oR z 65 1 = some 69 ∧ oR z 65 2 = some 71 ∧ oR z 65 3 = some 73 ∧ oR z 65 4 = some 74 ∧ oR z 65 5 = some 75) ∧ (oT z 66 = 3 ∧ oR z 66 0 = some 67 ∧ LG z 67 0 9 ∧ rq z 67 1 = 68 ∧ oI z 66 = va_up (va_up (va_up (va_up (fun _ => 0) 1 (nI 1)) 4 (nI 3)) 5 (nI 20)) 6 (nI 40)) ∧ (LG z 69 0 18 ∧ rq z 69 1 = 70) ∧ (LG z 71 0 19 ∧ rq z 71 1 = 72) ∧ (oT z 73 = 40 ∧ oN z 73 = 4 ∧ oI z 73 = va_up (va_up (va_up (va_up (fun _ => 0) 0 (nI 1)) 1 (nI 1)) 2 (nI 1)) 3 (nI 1)) ∧ (oT z 74 = 40 ∧ oN z 74 = 4 ∧ oI z 74 = va_up (va_up (va_up (va_up (fun _ => 0) 0 (nI 100)) 1 (nI 100)) 2 (nI 100)) 3 (nI 100)) ∧ (oT z 75 = 40 ∧ oN z 75 = 20 ∧ oI z 75 = fun _ => 0) := by
  obtain ⟨g0, h0⟩ : ∃ g0, g0 = pO h 1 18 := ⟨_, rfl⟩
  rw [← h0]
  have T0 : TX g0 := by rw [h0]; exact TX_O T
  have x0 : oX g0 = 65 := by rw [h0]; show oX h + 1 = 65; omega
  have t0 : oT g0 64 = 1 := by rw [h0, o_TO, if_pos hX.symm]
  have r0 : oR g0 64 = fun _ => none := by rw [h0, o_RO, if_pos hX.symm]
  have i0 : oI g0 64 = fun _ => 0 := by rw [h0, o_IO, if_pos hX.symm]
  have G0 : GX (fun _ => False) h g0 1 18 := by rw [h0]; exact GX_O
  obtain ⟨z, e, N⟩ := kX1_init (d := d) T0
  obtain ⟨n1, n2, n3, n4, n5, n6, n7, n8, n9, n10, n11, n12, n13, n14, n15⟩ := N
  rw [x0] at e n2 n3 n4 n5 n6 n7 n8 n9 n10 n11 n12 n13 n14 n15
  have s64 := n1.2.2.2.2.2 64 (by omega) (fun z => z)
  have tz : oT z 64 = 1 := s64.1.trans t0
  have s0 : ∀ a, ¬ a = 64 → sm z (pR z 64 (va_up (oR z 64) 0 (some 65))) a := fun a ha => sm_R sm_refl ha
  obtain ⟨a1, a2, a3, a4, a5⟩ := n10
  obtain ⟨b1, b2⟩ := n11
  obtain ⟨c1, c2⟩ := n12
  have L1 := LG0_sm (s0 67 (by omega)) (by rw [a4]; exact s0 68 (by omega)) a3
  have L2 := LG0_sm (s0 69 (by omega)) (by rw [b2]; exact s0 70 (by omega)) b1
  have L3 := LG0_sm (s0 71 (by omega)) (by rw [c2]; exact s0 72 (by omega)) c1
  refine ⟨pR z 64 (va_up (oR z 64) 0 (some 65)), ?_, GX_le (GX_new (GX_trans G0 n1 (fun _ _ z => z)) (GX_R fun _ => rfl) (by omega)) (by omega) (by omega), n2, tz, ?_, s64.2.2.1.trans i0, ⟨n3, ?_, ?_, ?_, ?_, ?_, ?_⟩, ⟨a1, ?_, L1.1, L1.2.trans a4, a5⟩, ⟨L2.1, L2.2.trans b2⟩, ⟨L3.1, L3.2.trans c2⟩, n13, n14, n15⟩
  · simp (disch := first | assumption | exact nI_ne0 (by decide) (by decide) | exact zb_01 | exact Or.inl rfl | exact Or.inr rfl | with_unfolding_all exact id (by assumption) | with_unfolding_all exact id (xix_8 (by assumption) (by omega) (by omega)) | omega) only [wX0_init_0, wX0_init_1, wX0_init_4, wX0_init_5, wX0_init_8, wX0_init_9, wX0_init_12, if_true, if_false, ↓reduceIte, xpu_s, xpu_n, Option.bind_some, xk_i, xk_r, xk_0, xk_u, xk_l, xk_k, xk_q, rf_s, rf_n, q_e1, q_e2, Nat.zero_add, Nat.reduceEqDiff, Nat.reduceAdd, Nat.reduceMul, Nat.reduceSub, Nat.reduceLT, Nat.reduceLeDiff, Nat.reduceDiv, Nat.reduceMod, x0, e]
  · rw [o_RR, if_pos rfl, s64.2.2.2.1, r0]
  · rw [(s0 65 (by omega)).2.2.2.1]; exact n4
  · rw [(s0 65 (by omega)).2.2.2.1]; exact n5
  · rw [(s0 65 (by omega)).2.2.2.1]; exact n6
  · rw [(s0 65 (by omega)).2.2.2.1]; exact n7
  · rw [(s0 65 (by omega)).2.2.2.1]; exact n8
  · rw [(s0 65 (by omega)).2.2.2.1]; exact n9
  · rw [(s0 66 (by omega)).2.2.2.1]; exact a2
/-- rows' holders -/
theorem fo_9 (hX : oX g = 145) (t : oT g 64 = 1) : ∃ z, E_ (d + 2) mX0_init 104 [.val (.ref 64)] [] g = some (none, z) ∧ GX (fun a => a = 64) g z 5 8 ∧ oX z = 150 ∧ oT z 64 = 1 ∧ oR z 64 = va_up (oR g 64) 17 (some 145) ∧ oI z 64 = oI g 64 ∧ (oT z 145 = 47 ∧ oN z 145 = 4 ∧ ∀ r, r < 4 → oR z 145 r = some (146 + r) ∧ oT z (146 + r) = 6 ∧ oR z (146 + r) 0 = none) := by
  obtain ⟨z0, h0⟩ : ∃ z0, z0 = pO g 47 4 := ⟨_, rfl⟩
  have x0 : oX z0 = 146 := by rw [h0]; show oX g + 1 = 146; omega
  have t0 : oT z0 145 = 47 := by rw [h0, o_TO, if_pos hX.symm]
  have n0 : oN z0 145 = 4 := by rw [h0, o_NO, if_pos hX.symm]
  have u0 : oT z0 64 = 1 := by rw [h0, o_TO, if_neg (by omega)]; exact t
  have v0 : oR z0 64 = oR g 64 := by rw [h0, o_RO, if_neg (by omega)]
  have w0 : oI z0 64 = oI g 64 := by rw [h0, o_IO, if_neg (by omega)]
  have G0 : GX (fun a => a = 64) g z0 1 4 := by rw [h0]; exact GX_O
  have m0 : 0 ≤ (nI 4).toInt := by decide
  have m1 : (nI 4).toInt ≤ 65536 := by decide
  have c4 : (nI 4).toNatClampNeg = 4 := nI_clamp (by omega)
  have I4 : ∀ a h, C_ (d + 1) mX4_init [.ref a] h = some (none, h) := fun a h => by
    simp (disch := first | assumption | exact nI_ne0 (by decide) (by decide) | exact zb_01 | exact Or.inl rfl | exact Or.inr rfl | with_unfolding_all exact id (by assumption) | with_unfolding_all exact id (xix_8 (by assumption) (by omega) (by omega)) | omega) only [wX4_init_e, wX4_init_0, wX4_init_0q, wX4_init_0n, wX4_init_1, wX4_init_4, if_true, if_false, ↓reduceIte, xpu_s, xpu_n, Option.bind_some, xk_i, xk_r, xk_0, xk_u, xk_l, xk_k, xk_q, rf_s, rf_n, q_e1, q_e2, Nat.zero_add, Nat.reduceEqDiff, Nat.reduceAdd, Nat.reduceMul, Nat.reduceSub, Nat.reduceLT, Nat.reduceLeDiff, Nat.reduceDiv, Nat.reduceMod]
  have st : ∀ r (z : xH), oX z = 146 + r → oT z 145 = 47 → oN z 145 = 4 → r < 4 → ∃ z', z' = pR (pO z 6 1) 145 (va_up (oR (pO z 6 1) 145) r (some (146 + r))) ∧ oX z' = 147 + r ∧ oT z' 145 = 47 ∧ oN z' 145 = 4 ∧ xel (oT (pO z 6 1) 145) (oT (pO z 6 1) (146 + r)) = true ∧ xix (nI r) (oN (pO z 6 1) 145) = true ∧ oR z' 145 = va_up (oR z 145) r (some (146 + r)) ∧ oT z' (146 + r) = 6 ∧ oR z' (146 + r) 0 = none ∧ (∀ a, a < oX z → ¬ a = 145 → sm z z' a) ∧ GX (fun a => a = 145) z z' 1 1 := fun r z hx ht hn hr => by
    have tt : oT (pO z 6 1) 145 = 47 := by rw [o_TO, if_neg (by omega)]; exact ht
    have nn : oN (pO z 6 1) 145 = 4 := by rw [o_NO, if_neg (by omega)]; exact hn
    have tn : oT (pO z 6 1) (146 + r) = 6 := by rw [o_TO, if_pos (by omega)]
    refine ⟨_, rfl, ?_, tt, nn, by rw [tt, tn]; rfl, xix_k (by omega) (by omega), ?_, tn, ?_, fun a ha hne => sm_R (sm_O (by omega)) hne, ?_⟩
    · show oX z + 1 = _
      omega
    · rw [o_RR, if_pos rfl, o_RO, if_neg (by omega)]
    · rw [o_RR, if_neg (by omega), o_RO, if_pos (by omega)]
    · exact GX_le (GX_trans (GX_O (W := fun a => a = 145)) (GX_R (W := fun a => a = 145) (fun _ => rfl)) (fun _ _ z => z)) (by omega) (by omega)
  obtain ⟨z1, h1, x1, t1, n1, p1, q1, r1, a1, b1, s1, G1⟩ := st 0 z0 x0 t0 n0 (by omega)
  obtain ⟨z2, h2, x2, t2, n2, p2, q2, r2, a2, b2, s2, G2⟩ := st 1 z1 x1 t1 n1 (by omega)
  obtain ⟨z3, h3, x3, t3, n3, p3, q3, r3, a3, b3, s3, G3⟩ := st 2 z2 x2 t2 n2 (by omega)
  obtain ⟨z4, h4, x4, t4, n4, p4, q4, r4, a4, b4, s4, G4⟩ := st 3 z3 x3 t3 n3 (by omega)
  have u4 : sm z0 z4 64 := sm_trans (s1 64 (by omega) (by omega)) (sm_trans (s2 64 (by omega) (by omega)) (sm_trans (s3 64 (by omega) (by omega)) (s4 64 (by omega) (by omega))))
  have u64 : oT z4 64 = 1 := u4.1.trans u0
  have G04 : GX (fun a => a = 145) z0 z4 (1 + (1 + (1 + 1))) (1 + (1 + (1 + 1))) := GX_trans G1 (GX_trans G2 (GX_trans G3 G4 (fun _ _ z => z)) (fun _ _ z => z)) (fun _ _ z => z)
  have s5 : ∀ a, ¬ a = 64 → sm z4 (pR z4 64 (va_up (oR z4 64) 17 (some 145))) a := fun a ha => sm_R sm_refl ha
  have rr : oR z4 145 = va_up (va_up (va_up (va_up (oR z0 145) 0 (some 146)) 1 (some 147)) 2 (some 148)) 3 (some 149) := by rw [r4, r3, r2, r1]
  refine ⟨pR z4 64 (va_up (oR z4 64) 17 (some 145)), ?_, ?_, x4, u64, ?_, u4.2.2.1.trans w0, t4, n4, fun r hr => ?_⟩
  · have x1' : oX z1 = 147 := x1
    have x2' : oX z2 = 148 := x2
    have x3' : oX z3 = 149 := x3
    have p1 : xel (oT (pO z0 6 1) 145) (oT (pO z0 6 1) 146) = true := p1
    have p2 : xel (oT (pO z1 6 1) 145) (oT (pO z1 6 1) 147) = true := p2
    have p3 : xel (oT (pO z2 6 1) 145) (oT (pO z2 6 1) 148) = true := p3
    have p4 : xel (oT (pO z3 6 1) 145) (oT (pO z3 6 1) 149) = true := p4
    have h1 : pR (pO z0 6 1) 145 (va_up (oR (pO z0 6 1) 145) 0 (some 146)) = z1 := h1.symm
    have h2 : pR (pO z1 6 1) 145 (va_up (oR (pO z1 6 1) 145) 1 (some 147)) = z2 := h2.symm
    have h3 : pR (pO z2 6 1) 145 (va_up (oR (pO z2 6 1) 145) 2 (some 148)) = z3 := h3.symm
    have h4 : pR (pO z3 6 1) 145 (va_up (oR (pO z3 6 1) 145) 3 (some 149)) = z4 := h4.symm
    have c0 : (nI 0).toNatClampNeg = 0 := rfl
    have c1 : (nI 1).toNatClampNeg = 1 := rfl
    have c2 : (nI 2).toNatClampNeg = 2 := rfl
    have c3 : (nI 3).toNatClampNeg = 3 := rfl
    simp (disch := first | exact m0 | exact m1 | exact p1 | exact p2 | exact p3 | exact p4 | exact q1 | exact q2 | exact q3 | exact q4 | exact u64 | first | assumption | exact nI_ne0 (by decide) (by decide) | exact zb_01 | exact Or.inl rfl | exact Or.inr rfl | with_unfolding_all exact id (by assumption) | with_unfolding_all exact id (xix_8 (by assumption) (by omega) (by omega)) | omega) only [wX0_init_104, wX0_init_105, wX0_init_106, wX0_init_109, wX0_init_110, wX0_init_111, wX0_init_114, wX0_init_115, wX0_init_118, wX0_init_118n, wX0_init_119, wX0_init_120, wX0_init_121, wX0_init_124, wX0_init_125, wX0_init_128, wX0_init_128n, wX0_init_129, wX0_init_130, wX0_init_131, wX0_init_134, wX0_init_135, wX0_init_138, wX0_init_138n, wX0_init_139, wX0_init_140, wX0_init_141, wX0_init_144, wX0_init_145, wX0_init_148, wX0_init_148n, wX0_init_149, wX0_init_149q, wX0_init_152, if_true, if_false, ↓reduceIte, xpu_s, xpu_n, Option.bind_some, xk_i, xk_r, xk_0, xk_u, xk_l, xk_k, xk_q, rf_s, rf_n, q_e1, q_e2, Nat.zero_add, Nat.reduceEqDiff, Nat.reduceAdd, Nat.reduceMul, Nat.reduceSub, Nat.reduceLT, Nat.reduceLeDiff, Nat.reduceDiv, Nat.reduceMod, c4, hX, ← h0, x0, I4, c0, c1, c2, c3, h1, x1', h2, x2', h3, x3', h4]
  · exact GX_le (GX_trans (GX_W (GX_trans G0 G04 (fun a ha z => absurd (show a = 145 from z) (by omega))) (fun _ _ z => z)) (GX_R (W := fun a => a = 64) (fun _ => rfl)) (fun _ _ z => z)) (by omega) (by omega)
  · rw [o_RR, if_pos rfl, u4.2.2.2.1, v0]
  · rw [(s5 145 (by omega)).2.2.2.1, rr, (s5 (146 + r) (by omega)).1, (s5 (146 + r) (by omega)).2.2.2.1]
    have e : r = 0 ∨ r = 1 ∨ r = 2 ∨ r = 3 := by omega
    rcases e with rfl | rfl | rfl | rfl
    · have k := sm_trans (s2 146 (by omega) (by omega)) (sm_trans (s3 146 (by omega) (by omega)) (s4 146 (by omega) (by omega)))
      refine ⟨by rw [up_ne (by omega), up_ne (by omega), up_ne (by omega), up_s], k.1.trans a1, ?_⟩
      rw [k.2.2.2.1]; exact b1
    · have k := sm_trans (s3 147 (by omega) (by omega)) (s4 147 (by omega) (by omega))
      refine ⟨by rw [up_ne (by omega), up_ne (by omega), up_s], k.1.trans a2, ?_⟩
      rw [k.2.2.2.1]; exact b2
    · have k := s4 148 (by omega) (by omega)
      refine ⟨by rw [up_ne (by omega), up_s], k.1.trans a3, ?_⟩
      rw [k.2.2.2.1]; exact b3
    · exact ⟨by rw [up_s], a4, b4⟩
/-- the constructor, whole -/
theorem kX0_init (T : TX h) (hX : oX h = 64) : ∃ z, C_ (d + 6) mX0_init [.ref 64] (pO h 1 18) = some (none, z) ∧ FO z ∧ oX z = 150 ∧ GX (fun _ => False) h z 90 20000 := by
  obtain ⟨g0, e0, G0, x0, t0, r0, i0, N1, N2, N3, N4, N5, N6, N7⟩ := fo_1 (d := d) T hX
  have w0 := i0
  have e1 := ic0_15 (d := d + 6) t0 (by omega)
  obtain ⟨G1, r1, x1, a1, n1, i1, -, q1, t1, w1⟩ := hAl_f (g := g0) (o := 64) (j := 1) (t := 48) (n := 2) (by omega)
  obtain ⟨g1, hg1⟩ : ∃ g1, g1 = hAl g0 64 1 48 2 := ⟨_, rfl⟩
  rw [← hg1] at e1 G1 r1 x1 a1 n1 i1 q1 t1 w1
  rw [t0] at t1
  rw [x0] at a1 n1 i1 q1 r1 x1
  rw [w0] at w1
  rw [r0] at r1
  have e2 := ic0_23 (d := d + 6) t1 (by omega)
  obtain ⟨G2, r2, x2, a2, n2, i2, -, q2, t2, w2⟩ := hAl_f (g := g1) (o := 64) (j := 2) (t := 40) (n := 6) (by omega)
  obtain ⟨g2, hg2⟩ : ∃ g2, g2 = hAl g1 64 2 40 6 := ⟨_, rfl⟩
  rw [← hg2] at e2 G2 r2 x2 a2 n2 i2 q2 t2 w2
  rw [t1] at t2
  rw [x1] at a2 n2 i2 q2 r2 x2
  rw [w1] at w2
  rw [r1] at r2
  have e3 := ic0_31 (d := d + 6) t2 (by omega)
  obtain ⟨G3, r3, x3, a3, n3, i3, -, q3, t3, w3⟩ := hAl_f (g := g2) (o := 64) (j := 3) (t := 41) (n := 400) (by omega)
  obtain ⟨g3, hg3⟩ : ∃ g3, g3 = hAl g2 64 3 41 400 := ⟨_, rfl⟩
  rw [← hg3] at e3 G3 r3 x3 a3 n3 i3 q3 t3 w3
  rw [t2] at t3
  rw [x2] at a3 n3 i3 q3 r3 x3
  rw [w2] at w3
  rw [r2] at r3
  obtain ⟨g4, hg4⟩ : ∃ g4, g4 = pI g3 64 (va_up (oI g3 64) 6 (-1)) := ⟨_, rfl⟩
  have e4 : E_ (d + 6) mX0_init 40 [.val (.ref 64)] [] g3 = E_ (d + 6) mX0_init 45 [.val (.ref 64)] [] g4 := by
    rw [hg4]
    simp (disch := first | exact t3 | first | assumption | exact nI_ne0 (by decide) (by decide) | exact zb_01 | exact Or.inl rfl | exact Or.inr rfl | with_unfolding_all exact id (by assumption) | with_unfolding_all exact id (xix_8 (by assumption) (by omega) (by omega)) | omega) only [wX0_init_40, wX0_init_41, wX0_init_42, if_true, if_false, ↓reduceIte, xpu_s, xpu_n, Option.bind_some, xk_i, xk_r, xk_0, xk_u, xk_l, xk_k, xk_q, rf_s, rf_n, q_e1, q_e2, Nat.zero_add, Nat.reduceEqDiff, Nat.reduceAdd, Nat.reduceMul, Nat.reduceSub, Nat.reduceLT, Nat.reduceLeDiff, Nat.reduceDiv, Nat.reduceMod]
  have G4 : GX (fun a => a = 64) g3 g4 0 0 := by rw [hg4]; exact GX_I fun _ => rfl
  have t4 : oT g4 64 = 1 := by rw [hg4]; exact t3
  have r4 := r3
  rw [show oR g3 = oR g4 by rw [hg4]; rfl] at r4
  have x4 : oX g4 = 79 := by rw [hg4]; exact x3
  have w4 : oI g4 64 = va_up (fun _ => 0) 6 (-1) := by rw [hg4, o_II, if_pos rfl, w3]
  obtain ⟨y5, f5, Y5, yx5, O5, -⟩ := kX3_init (d := d + 5) (g := g4)
  rw [x4] at f5 O5 yx5
  have s5 := Y5.2.2.2.2.2 64 (by omega) (fun z => z)
  have u5 : oT y5 64 = 1 := s5.1.trans t4
  obtain ⟨g5, hg5⟩ : ∃ g5, g5 = pR y5 64 (va_up (oR y5 64) 7 (some 79)) := ⟨_, rfl⟩
  have e5 : E_ (d + 6) mX0_init 45 [.val (.ref 64)] [] g4 = E_ (d + 6) mX0_init 56 [.val (.ref 64)] [] g5 := by
    rw [hg5]
    simp (disch := first | exact u5 | first | assumption | exact nI_ne0 (by decide) (by decide) | exact zb_01 | exact Or.inl rfl | exact Or.inr rfl | with_unfolding_all exact id (by assumption) | with_unfolding_all exact id (xix_8 (by assumption) (by omega) (by omega)) | omega) only [wX0_init_45, wX0_init_46, wX0_init_49, wX0_init_50, wX0_init_53, wX0_init_53q, if_true, if_false, ↓reduceIte, xpu_s, xpu_n, Option.bind_some, xk_i, xk_r, xk_0, xk_u, xk_l, xk_k, xk_q, rf_s, rf_n, q_e1, q_e2, Nat.zero_add, Nat.reduceEqDiff, Nat.reduceAdd, Nat.reduceMul, Nat.reduceSub, Nat.reduceLT, Nat.reduceLeDiff, Nat.reduceDiv, Nat.reduceMod, x4, f5]
  have G5 : GX (fun a => a = 64) g4 g5 6 53 := by
    rw [hg5]
    exact GX_le (GX_trans (GXo Y5) (GX_R (W := fun a => a = 64) (fun _ => rfl)) (fun _ _ z => z)) (by omega) (by omega)
  have t5 : oT g5 64 = 1 := by rw [hg5]; exact u5
  have r5 : oR g5 64 = va_up (oR g4 64) 7 (some 79) := by rw [hg5, o_RR, if_pos rfl, s5.2.2.2.1]
  rw [r4] at r5
  have x5 : oX g5 = 85 := by rw [hg5]; exact yx5
  have w5 : oI g5 64 = va_up (fun _ => 0) 6 (-1) := by rw [hg5]; exact s5.2.2.1.trans w4
  have P5 : WO g5 79 := WO_sm (g := y5) (fun i hi => by rw [hg5]; exact sm_R sm_refl (by omega)) O5
  obtain ⟨y6, f6, F6⟩ := kX0_walks (d := d + 4) (g := g5)
  rw [x5] at f6 F6
  obtain ⟨Y6, yx6, yt6, yn6, J6⟩ := F6
  have s6 := Y6.2.2.2.2.2 64 (by omega) (fun z => z)
  have u6 : oT y6 64 = 1 := s6.1.trans t5
  obtain ⟨g6, hg6⟩ : ∃ g6, g6 = pR y6 64 (va_up (oR y6 64) 9 (some 85)) := ⟨_, rfl⟩
  have e6 : E_ (d + 6) mX0_init 56 [.val (.ref 64)] [] g5 = E_ (d + 6) mX0_init 63 [.val (.ref 64)] [] g6 := by
    rw [hg6]
    simp (disch := first | exact u6 | first | assumption | exact nI_ne0 (by decide) (by decide) | exact zb_01 | exact Or.inl rfl | exact Or.inr rfl | with_unfolding_all exact id (by assumption) | with_unfolding_all exact id (xix_8 (by assumption) (by omega) (by omega)) | omega) only [wX0_init_56, wX0_init_57, wX0_init_60, wX0_init_60q, if_true, if_false, ↓reduceIte, xpu_s, xpu_n, Option.bind_some, xk_i, xk_r, xk_0, xk_u, xk_l, xk_k, xk_q, rf_s, rf_n, q_e1, q_e2, Nat.zero_add, Nat.reduceEqDiff, Nat.reduceAdd, Nat.reduceMul, Nat.reduceSub, Nat.reduceLT, Nat.reduceLeDiff, Nat.reduceDiv, Nat.reduceMod, f6]
  have G6 : GX (fun a => a = 64) g5 g6 55 486 := by
    rw [hg6]
    exact GX_le (GX_trans (GXo Y6) (GX_R (W := fun a => a = 64) (fun _ => rfl)) (fun _ _ z => z)) (by omega) (by omega)
  have t6 : oT g6 64 = 1 := by rw [hg6]; exact u6
  have r6 : oR g6 64 = va_up (oR g5 64) 9 (some 85) := by rw [hg6, o_RR, if_pos rfl, s6.2.2.2.1]
  rw [r5] at r6
  have x6 : oX g6 = 140 := by rw [hg6]; exact yx6
  have w6 : oI g6 64 = va_up (fun _ => 0) 6 (-1) := by rw [hg6]; exact s6.2.2.1.trans w5
  have z6 : ∀ a, ¬ a = 64 → sm y6 g6 a := fun a ha => by rw [hg6]; exact sm_R sm_refl ha
  have e7 := ic0_63 (d := d + 6) t6 (by omega)
  obtain ⟨G7, r7, x7, a7, n7, i7, -, q7, t7, w7⟩ := hAl_f (g := g6) (o := 64) (j := 10) (t := 44) (n := 6) (by omega)
  obtain ⟨g7, hg7⟩ : ∃ g7, g7 = hAl g6 64 10 44 6 := ⟨_, rfl⟩
  rw [← hg7] at e7 G7 r7 x7 a7 n7 i7 q7 t7 w7
  rw [t6] at t7
  rw [x6] at a7 n7 i7 q7 r7 x7
  rw [w6] at w7
  rw [r6] at r7
  have e8 := ic0_71 (d := d + 6) t7 (by omega)
  obtain ⟨G8, r8, x8, a8, n8, i8, -, q8, t8, w8⟩ := hAl_f (g := g7) (o := 64) (j := 11) (t := 44) (n := 8) (by omega)
  obtain ⟨g8, hg8⟩ : ∃ g8, g8 = hAl g7 64 11 44 8 := ⟨_, rfl⟩
  rw [← hg8] at e8 G8 r8 x8 a8 n8 i8 q8 t8 w8
  rw [t7] at t8
  rw [x7] at a8 n8 i8 q8 r8 x8
  rw [w7] at w8
  rw [r7] at r8
  have e9 := ic0_79 (d := d + 6) t8 (by omega)
  obtain ⟨G9, r9, x9, a9, n9, i9, -, q9, t9, w9⟩ := hAl_f (g := g8) (o := 64) (j := 12) (t := 44) (n := 8) (by omega)
  obtain ⟨g9, hg9⟩ : ∃ g9, g9 = hAl g8 64 12 44 8 := ⟨_, rfl⟩
  rw [← hg9] at e9 G9 r9 x9 a9 n9 i9 q9 t9 w9
  rw [t8] at t9
  rw [x8] at a9 n9 i9 q9 r9 x9
  rw [w8] at w9
  rw [r8] at r9
  have e10 := ic0_87 (d := d + 6) t9 (by omega)
  obtain ⟨G10, r10, x10, a10, n10, i10, -, q10, t10, w10⟩ := hAl_f (g := g9) (o := 64) (j := 13) (t := 44) (n := 13000) (by omega)
  obtain ⟨g10, hg10⟩ : ∃ g10, g10 = hAl g9 64 13 44 13000 := ⟨_, rfl⟩
  rw [← hg10] at e10 G10 r10 x10 a10 n10 i10 q10 t10 w10
  rw [t9] at t10
  rw [x9] at a10 n10 i10 q10 r10 x10
  rw [w9] at w10
  rw [r9] at r10
  have e11 := ic0_96 (d := d + 6) t10 (by omega)
  obtain ⟨G11, r11, x11, a11, n11, i11, -, q11, t11, w11⟩ := hAl_f (g := g10) (o := 64) (j := 14) (t := 40) (n := 40) (by omega)
  obtain ⟨g11, hg11⟩ : ∃ g11, g11 = hAl g10 64 14 40 40 := ⟨_, rfl⟩
  rw [← hg11] at e11 G11 r11 x11 a11 n11 i11 q11 t11 w11
  rw [t10] at t11
  rw [x10] at a11 n11 i11 q11 r11 x11
  rw [w10] at w11
  rw [r10] at r11
  obtain ⟨z, ez, Gz, xz, tz, rz, wz, R1, R2, R3⟩ := fo_9 (d := d + 4) x11 t11
  rw [r11] at rz
  rw [w11] at wz
  have S11 := Gz
  have S10 := GX_trans G11 S11 (fun _ _ z => z)
  have S9 := GX_trans G10 S10 (fun _ _ z => z)
  have S8 := GX_trans G9 S9 (fun _ _ z => z)
  have S7 := GX_trans G8 S8 (fun _ _ z => z)
  have S6 := GX_trans G7 S7 (fun _ _ z => z)
  have S5 := GX_trans G6 S6 (fun _ _ z => z)
  have S4 := GX_trans G5 S5 (fun _ _ z => z)
  have S3 := GX_trans G4 S4 (fun _ _ z => z)
  have S2 := GX_trans G3 S3 (fun _ _ z => z)
  have S1 := GX_trans G2 S2 (fun _ _ z => z)
  have S0 := GX_trans G1 S1 (fun _ _ z => z)
  have so : ∀ a, ¬ a = 64 → a < 76 → sm g0 z a := fun a h1 h2 => GXs S0 (by omega) h1
  have L1 := LG0_sm (so 67 (by omega) (by omega)) (by rw [N2.2.2.2.1]; exact so 68 (by omega) (by omega)) N2.2.2.1
  have L2 := LG0_sm (so 69 (by omega) (by omega)) (by rw [N3.2]; exact so 70 (by omega) (by omega)) N3.1
  have L3 := LG0_sm (so 71 (by omega) (by omega)) (by rw [N4.2]; exact so 72 (by omega) (by omega)) N4.1
  have k1 := GXs S1 (a := 76) (by omega) (by omega)
  have k2 := GXs S2 (a := 77) (by omega) (by omega)
  have k3 := GXs S3 (a := 78) (by omega) (by omega)
  have k7 := GXs S7 (a := 140) (by omega) (by omega)
  have k8 := GXs S8 (a := 141) (by omega) (by omega)
  have k9 := GXs S9 (a := 142) (by omega) (by omega)
  have k10 := GXs S10 (a := 143) (by omega) (by omega)
  have k11 := GXs S11 (a := 144) (by omega) (by omega)
  refine ⟨z, ?_, ⟨tz, rz, wz, ⟨k1.1.trans a1, k1.2.1.trans n1, k1.2.2.2.1.trans q1⟩, ⟨k2.1.trans a2, k2.2.1.trans n2, k2.2.2.1.trans i2⟩, ⟨k3.1.trans a3, k3.2.1.trans n3, k3.2.2.1.trans i3⟩, ?_, ⟨?_, ?_, fun j hj => ?_⟩, ⟨k7.1.trans a7, k7.2.1.trans n7⟩, ⟨k8.1.trans a8, k8.2.1.trans n8⟩, ⟨k9.1.trans a9, k9.2.1.trans n9⟩, ⟨k10.1.trans a10, k10.2.1.trans n10⟩, ⟨k11.1.trans a11, k11.2.1.trans n11⟩, ⟨R1, R2, R3⟩, ⟨?_, ?_, ?_, ?_, ?_, ?_, ?_⟩, ⟨?_, ?_, L1.1, L1.2.trans N2.2.2.2.1, ?_⟩, ⟨L2.1, L2.2.trans N3.2⟩, ⟨L3.1, L3.2.trans N4.2⟩, ⟨?_, ?_, ?_⟩, ⟨?_, ?_, ?_⟩, ⟨?_, ?_, ?_⟩⟩, xz, ?_⟩
  · have e : C_ (d + 6) mX0_init [.ref 64] (pO h 1 18) = E_ (d + 6) mX0_init 0 [.val (.ref 64)] [] (pO h 1 18) := rfl
    exact e.trans (e0.trans (e1.trans (e2.trans (e3.trans (e4.trans (e5.trans (e6.trans (e7.trans (e8.trans (e9.trans (e10.trans (e11.trans (ez)))))))))))))
  · exact WO_sm (g := g5) (fun i hi => GXs S5 (by omega) (by omega)) P5
  · exact (GXs S6 (a := 85) (by omega) (by omega)).1.trans ((z6 85 (by omega)).1.trans yt6)
  · exact (GXs S6 (a := 85) (by omega) (by omega)).2.1.trans ((z6 85 (by omega)).2.1.trans yn6)
  · obtain ⟨j1, j2⟩ := J6 j hj
    refine ⟨?_, WO_sm (g := g6) (fun i hi => GXs S6 (by omega) (by omega)) (WO_sm (g := y6) (fun i hi => z6 _ (by omega)) j2)⟩
    rw [(GXs S6 (a := 85) (by omega) (by omega)).2.2.2.1, (z6 85 (by omega)).2.2.2.1]
    exact j1
  · exact (so 65 (by omega) (by omega)).1.trans N1.1
  · rw [(so 65 (by omega) (by omega)).2.2.2.1]; exact N1.2.1
  · rw [(so 65 (by omega) (by omega)).2.2.2.1]; exact N1.2.2.1
  · rw [(so 65 (by omega) (by omega)).2.2.2.1]; exact N1.2.2.2.1
  · rw [(so 65 (by omega) (by omega)).2.2.2.1]; exact N1.2.2.2.2.1
  · rw [(so 65 (by omega) (by omega)).2.2.2.1]; exact N1.2.2.2.2.2.1
  · rw [(so 65 (by omega) (by omega)).2.2.2.1]; exact N1.2.2.2.2.2.2
  · exact (so 66 (by omega) (by omega)).1.trans N2.1
  · rw [(so 66 (by omega) (by omega)).2.2.2.1]; exact N2.2.1
  · exact (so 66 (by omega) (by omega)).2.2.1.trans N2.2.2.2.2
  · exact (so 73 (by omega) (by omega)).1.trans N5.1
  · exact (so 73 (by omega) (by omega)).2.1.trans N5.2.1
  · exact (so 73 (by omega) (by omega)).2.2.1.trans N5.2.2
  · exact (so 74 (by omega) (by omega)).1.trans N6.1
  · exact (so 74 (by omega) (by omega)).2.1.trans N6.2.1
  · exact (so 74 (by omega) (by omega)).2.2.1.trans N6.2.2
  · exact (so 75 (by omega) (by omega)).1.trans N7.1
  · exact (so 75 (by omega) (by omega)).2.1.trans N7.2.1
  · exact (so 75 (by omega) (by omega)).2.2.1.trans N7.2.2
  · exact GX_le (GX_trans G0 S0 (fun a ha z => by omega)) (by omega) (by omega)
end
