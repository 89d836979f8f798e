/-! A STATE copied: the whole -/
section
variable {d : Nat} {h g z z1 : xH} {P : sS} {A : rI} {x : Int32} {ow nw ow1 : Nat → Nat} {s o i j k n t p l c a : Nat}
/-- a state's classes, moved -/
theorem XS_sh (e1 : ∀ a, nw a < 20 → ow1 a = 20 * k + nw a) (e2 : ∀ a, nw a = 101 → ow1 a = 101) (X : XS nw 0 h s A) : XS ow1 k h s A := by
  obtain ⟨x1, x2, ⟨c, c1, c2, c3, c4, c5⟩, ⟨l, l1, l2, l3, l4⟩, ⟨p, p1, p2⟩, ⟨q3, a1, a2, a3⟩, ⟨q4, b1, b2, b3⟩, ⟨q5, d1, d2, d3⟩⟩ := X
  obtain ⟨g1, g2, g3, g4, g5, g6⟩ := p2
  have E : ∀ a m, nw a = m → m < 20 → ow1 a = 20 * k + m := fun a m h1 h2 => by rw [e1 a (by omega), h1]
  refine ⟨(E s 0 x1 (by omega)), x2, ⟨c, c1, E c 1 c2 (by omega), c3, e2 _ c4, e2 _ c5⟩, ⟨l, l1, e2 _ l2, e2 _ l3, l4⟩, ⟨p, p1, E p 2 g1 (by omega), E _ 3 g2 (by omega), g3, g4, fun i hi => ?_, g6⟩, ⟨q3, a1, E _ 5 a2 (by omega), a3⟩, ⟨q4, b1, E _ 6 b2 (by omega), b3⟩, ⟨q5, d1, E _ 7 d2 (by omega), d3⟩⟩
  obtain ⟨v1, v2, v3, v4, v5, v6, ⟨v7, v8⟩, v9, v10⟩ := g5 i hi
  exact ⟨E _ 4 v1 (by omega), v2, v3, v4, v5, v6, ⟨e2 _ v7, v8⟩, e2 _ v9, v10⟩
/-- the classes of a fresh copy: o the state, m where the places begin, what tags say -/
def ncl (ow : Nat → Nat) (o m : Nat) (tg : Nat → Nat) (a : Nat) : Nat := if a < o then (if ow a = 101 then 101 else 100) else if a = o then 0 else if a = o + 6 then 2 else if a = o + 7 then 3 else if a = o + 8 then 5 else if a = o + 9 then 6 else if a = o + 10 then 7 else if a < o + 11 then 100 else if a < m then (if tg a = 3 then 1 else 101) else if tg a = 19 then 4 else if tg a = 45 then 3 else if tg a = 40 then 101 else 100
theorem ncl_lo {m : Nat} {tg : Nat → Nat} (ha : a < o) : ncl ow o m tg a = if ow a = 101 then 101 else 100 := if_pos ha
theorem ncl_o {m : Nat} {tg : Nat → Nat} : ncl ow o m tg o = 0 ∧ ncl ow o m tg (o + 6) = 2 ∧ ncl ow o m tg (o + 7) = 3 ∧ ncl ow o m tg (o + 8) = 5 ∧ ncl ow o m tg (o + 9) = 6 ∧ ncl ow o m tg (o + 10) = 7 := by
  unfold ncl
  refine ⟨?_, ?_, ?_, ?_, ?_, ?_⟩
  · rw [if_neg (by omega), if_pos rfl]
  · rw [if_neg (by omega), if_neg (by omega), if_pos rfl]
  · rw [if_neg (by omega), if_neg (by omega), if_neg (by omega), if_pos rfl]
  · rw [if_neg (by omega), if_neg (by omega), if_neg (by omega), if_neg (by omega), if_pos rfl]
  · rw [if_neg (by omega), if_neg (by omega), if_neg (by omega), if_neg (by omega), if_neg (by omega), if_pos rfl]
  · rw [if_neg (by omega), if_neg (by omega), if_neg (by omega), if_neg (by omega), if_neg (by omega), if_neg (by omega), if_pos rfl]
theorem ncl_m {m : Nat} {tg : Nat → Nat} (h1 : o + 11 ≤ a) (h2 : a < m) : ncl ow o m tg a = if tg a = 3 then 1 else 101 := by
  unfold ncl
  rw [if_neg (by omega), if_neg (by omega), if_neg (by omega), if_neg (by omega), if_neg (by omega), if_neg (by omega), if_neg (by omega), if_neg (by omega), if_pos h2]
theorem ncl_h {m : Nat} {tg : Nat → Nat} (h1 : o + 11 ≤ m) (h2 : m ≤ a) : ncl ow o m tg a = if tg a = 19 then 4 else if tg a = 45 then 3 else if tg a = 40 then 101 else 100 := by
  unfold ncl
  rw [if_neg (by omega), if_neg (by omega), if_neg (by omega), if_neg (by omega), if_neg (by omega), if_neg (by omega), if_neg (by omega), if_neg (by omega), if_neg (by omega)]
theorem kX1_copy (T : TX h) (X : XS ow k h s A) (W : WFa A) : ∃ z m, C_ (d + 11) mX1_copy [.ref s] h = some (some (.ref (oX h)), z) ∧ GX (fun _ => False) h z 100 2000 ∧ oX h + 11 ≤ m ∧ m ≤ oX z ∧ XS (ncl ow (oX h) m (oT z)) 0 z (oX h) A := by
  have W8 := W.1.2.1
  have h12 := W.2.2.2.1
  obtain ⟨x1, x2, ⟨c, c1, c2, c3, c4, c5⟩, ⟨l, l1, l2, l3, l4⟩, ⟨p, p1, p2⟩, ⟨a3, a31, a32, a33⟩, ⟨a4, a41, a42, a43⟩, ⟨a5, a51, a52, a53⟩⟩ := X
  obtain ⟨y1, y2, y3, y4, y5, y6⟩ := p2
  have lx : ∀ a, ¬ oT h a = 0 → a < oX h := fun a ha => TX_lt T ha
  have sx := lx s (by rw [x2]; decide)
  have cx := lx c (by rw [c3.1]; decide)
  have u := c3.2.2.2.2.2.2.2.2.2.1
  have c0x := lx (rq h c 0) (by rw [u.1]; decide)
  have c01x := lx _ (show ¬ oT h (rq h (rq h c 0) 1) = 0 by rw [u.2.2.2.1]; decide)
  have v := l4.1
  have lx_ := lx l (by rw [v.1]; decide)
  have lqx := lx _ (show ¬ oT h (rq h l 1) = 0 by rw [v.2.2.2.1]; decide)
  have px := lx p (by rw [y3.1]; decide)
  have pqx := lx _ (show ¬ oT h (rq h p 1) = 0 by rw [y3.2.2.2.1]; decide)
  have a3x := lx a3 (by rw [a33.1]; decide)
  have a4x := lx a4 (by rw [a43.1]; decide)
  have a5x := lx a5 (by rw [a53.1]; decide)
  -- a new state
  obtain ⟨z0, e0, g0, o0, n0, n1, n2, n3, n4, n5, n6, N1, N4, N6, N8, N9, N10⟩ := kX1_init (d := d + 5) T
  have s0 : ∀ a, a < oX h → sm h z0 a := fun a ha => g0.2.2.2.2.2 a ha (fun y => y)
  have T0 := TX_G T g0
  have st0 : ∀ a, 9 ≤ oT h a → oT h a ≤ 18 → sm h z0 a := fun a h1 _ => s0 a (lx a (by omega))
  have S0 : SCo z0 c A := SC_m (s0 c cx) (s0 _ c0x) (s0 _ c01x) st0 c3
  -- its scene
  obtain ⟨z1, e1, q1, q2, q3, q4, g1, q6, q7, q8⟩ := kX2_copy (d := d) T0 S0 W8
  have T1 := TX_G T0 g1
  rw [o0] at e1 q1 q2 q3 q4 q6 q7 q8
  have s1 : ∀ a, a < oX h + 11 → sm z0 z1 a := fun a ha => g1.2.2.2.2.2 a (by omega) (fun y => y)
  have t1o : oT z1 (oX h) = 2 := (s1 _ (by omega)).1.trans n0
  have t1s : oT z1 s = 2 := ((s1 s (by omega)).1.trans (s0 s sx).1).trans x2
  have r1s : oR z1 s = oR h s := (s1 s (by omega)).2.2.2.1.trans (s0 s sx).2.2.2.1
  obtain ⟨R, hR⟩ : ∃ R, R = va_up (va_up (oR z1 (oX h)) 0 (some (oX h + 11))) 1 (some l) := ⟨_, rfl⟩
  obtain ⟨z3, hz3⟩ : ∃ z3, z3 = pR z1 (oX h) R := ⟨_, rfl⟩
  have e2 : C_ (d + 11) mX1_copy [.ref s] h = E_ (d + 11) mX1_copy 29 [.val (.ref s), .val (.ref (oX h)), .val (.int (nI 0))] [] z3 := by
    have t0s : oT z0 s = 2 := (s0 s sx).1.trans x2
    have r0s : oR z0 s 0 = some c := by rw [(s0 s sx).2.2.2.1]; exact c1
    have t0c : oT z0 c = 3 := S0.1
    have r1l : oR z1 s 1 = some l := by rw [r1s]; exact l1
    have ne : (s = oX h) = False := eq_false (by omega)
    rw [hz3, hR]
    simp (disch := first | exact t0s | exact t0c | exact t1o | exact t1s | with_unfolding_all exact id t1o | with_unfolding_all exact id t1s | first | assumption | exact nI_ne0 (by decide) (by decide) | exact zb_01 | exact Or.inl rfl | exact Or.inr rfl | with_unfolding_all exact id (by assumption) | with_unfolding_all exact id (xix_8 (by assumption) (by omega) (by omega)) | omega) only [wX1_copy_e, wX1_copy_0, wX1_copy_3, wX1_copy_4, wX1_copy_7, wX1_copy_8, wX1_copy_9, wX1_copy_10, wX1_copy_13, wX1_copy_16, wX1_copy_19, wX1_copy_20, wX1_copy_21, wX1_copy_24, wX1_copy_27, wX1_copy_28, wX1_copy_30, wX1_copy_31, wX1_copy_34, wX1_copy_37, wX1_copy_40, wX1_copy_41, wX1_copy_44, wX1_copy_45, wX1_copy_48, wX1_copy_49, wX1_copy_52, wX1_copy_52n, wX1_copy_55, wX1_copy_58, wX1_copy_61, wX1_copy_62, wX1_copy_65, wX1_copy_68, wX1_copy_69, wX1_copy_71, wX1_copy_72, wX1_copy_75, wX1_copy_76, wX1_copy_79, wX1_copy_80, wX1_copy_81, wX1_copy_84, wX1_copy_85, wX1_copy_86, wX1_copy_87, wX1_copy_88, wX1_copy_91, wX1_copy_92, wX1_copy_93, wX1_copy_96, wX1_copy_97, wX1_copy_98, wX1_copy_99, wX1_copy_102, wX1_copy_105, wX1_copy_106, wX1_copy_108, wX1_copy_109, wX1_copy_112, wX1_copy_113, wX1_copy_116, wX1_copy_117, wX1_copy_120, wX1_copy_121, wX1_copy_122, wX1_copy_125, wX1_copy_126, wX1_copy_127, wX1_copy_128, wX1_copy_131, wX1_copy_134, wX1_copy_135, if_true, if_false, ↓reduceIte, xpu_s, xpu_n, Option.bind_some, xk_i, xk_r, xk_0, xk_u, xk_l, xk_k, xk_q, rf_s, rf_n, q_e1, q_e2, Nat.zero_add, Nat.reduceEqDiff, Nat.reduceAdd, Nat.reduceMul, Nat.reduceSub, Nat.reduceLT, Nat.reduceLeDiff, Nat.reduceDiv, Nat.reduceMod, e0, e1, r0s, r1l, o_TR, o_RR, o_pRR, ne, up_s]
  have s3 : ∀ a, ¬ a = oX h → sm z1 z3 a := fun a ha => by rw [hz3]; exact sm_R sm_refl ha
  have o3 : oX z3 = oX z1 := by rw [hz3]; rfl
  have T3 : TX z3 := by rw [hz3]; exact T1
  have r3 : oR z3 (oX h) = R := by rw [hz3, o_RR, if_pos rfl]
  have t3 : ∀ a, oT z3 a = oT z1 a := fun a => by rw [hz3]; rfl
  have R01 : oR z1 (oX h) = oR z0 (oX h) := (s1 _ (by omega)).2.2.2.1
  have sh3 : ∀ a, a < oX h → sm h z3 a := fun a ha => sm_trans (sm_trans (s0 a ha) (s1 a (by omega))) (s3 a (by omega))
  have s03 : ∀ a, ¬ a = oX h → a < oX h + 11 → sm z0 z3 a := fun a h1 h2 => sm_trans (s1 a h2) (s3 a h1)
  have r32 : oR z3 (oX h) 2 = some (oX h + 6) := by rw [r3, hR, up_ne (by omega), up_ne (by omega), R01]; exact n3
  have r33 : oR z3 (oX h) 3 = some (oX h + 8) := by rw [r3, hR, up_ne (by omega), up_ne (by omega), R01]; exact n4
  have r34 : oR z3 (oX h) 4 = some (oX h + 9) := by rw [r3, hR, up_ne (by omega), up_ne (by omega), R01]; exact n5
  have r35 : oR z3 (oX h) 5 = some (oX h + 10) := by rw [r3, hR, up_ne (by omega), up_ne (by omega), R01]; exact n6
  have r30 : oR z3 (oX h) 0 = some (oX h + 11) := by rw [r3, hR, up_ne (by omega), up_s]
  have r31 : oR z3 (oX h) 1 = some l := by rw [r3, hR, up_s]
  obtain ⟨G3, -, rq3⟩ := sm_LG (Q := fun a => ¬ a = oX h ∧ a < oX h + 11) N6.1 (fun a ha => s03 a ha.1 ha.2) (by omega) (by rw [N6.2]; omega) (fun j hj => by omega)
  rw [N6.2] at rq3
  have g11 := g1.1
  -- its places
  have base : NPl z3 z3 (oX h) A 0 := ⟨GX_refl, G3, Or.inl rq3, fun j hj => absurd hj (Nat.not_lt_zero j), fun j k _ hk => absurd hk (Nat.not_lt_zero k)⟩
  have key : ∀ i, i ≤ sP_ A → ∃ z, C_ (d + 11) mX1_copy [.ref s] h = E_ (d + 11) mX1_copy 29 [.val (.ref s), .val (.ref (oX h)), .val (.int (nI i))] [] z ∧ NPl z3 z (oX h) A i := by
    intro i
    induction i with
    | zero => intro _; exact ⟨z3, e2, base⟩
    | succ i ih =>
      intro hi
      obtain ⟨z, e, N⟩ := ih (by omega)
      have pi := y5 i (by omega)
      have ix := lx (li h p i) (by rw [pi.2.1]; decide)
      obtain ⟨v1, v2, v3, v4, v5, v6, ⟨v7, v8, v8', v8'', v8'''⟩, v9, v10, v10', v10'', v10'''⟩ := pi
      have i1x := lx (rq h (li h p i) 1) (by rw [v8]; decide)
      have i2x := lx (rq h (li h p i) 2) (by rw [v10]; decide)
      obtain ⟨L3, l3_⟩ := LS_m (sh3 p px) (sh3 _ pqx) y3
      have Q3 : PQ z3 (li z3 p i) A i := by
        rw [l3_]
        have m0 := sh3 _ ix
        have m1 := sh3 _ i1x
        have m2 := sh3 _ i2x
        unfold PQ
        rw [rq_m m0, rq_m m0, m0.1, m0.2.2.1, m0.2.2.2.1, m1.1, m1.2.1, m1.2.2.1, m2.1, m2.2.1, m2.2.2.1]
        exact ⟨v2, v3, v4, v5, v6, v8, v8', v8'', v8''', v10, v10', v10'', v10'''⟩
      obtain ⟨z', e', N'⟩ := kX1_cp (d := d) (s := s) (p := p) T3 (by omega) ((t3 _).trans t1o) r32 N (by omega) h12 ((t3 _).trans t1s) (by rw [(s3 s (by omega)).2.2.2.1, r1s]; exact p1) sx L3 px (by rw [rq_m (sh3 p px)]; exact pqx) Q3 (by rw [l3_]; exact ix) (by rw [l3_, rq_m (sh3 _ ix)]; exact i1x) (by rw [l3_, rq_m (sh3 _ ix)]; exact i2x) (W.2.2.2.2.1 i (by omega)).1
      exact ⟨z', e.trans e', N'⟩
  obtain ⟨z, e3, gz, G, rz, pf, mono⟩ := key (sP_ A) (Nat.le_refl _)
  have Tz := TX_G T3 gz
  have gz1 := gz.1
  have sz : ∀ a, a < oX z3 → ¬ a = oX h + 6 → ¬ a = oX h + 7 → sm z3 z a := fun a h1 h2 h3 => gz.2.2.2.2.2 a h1 (fun y => by omega)
  have shz : ∀ a, a < oX h → sm h z a := fun a ha => sm_trans (sh3 a ha) (sz a (by omega) (by omega) (by omega))
  have so := sz (oX h) (by omega) (by omega) (by omega)
  have to : oT z (oX h) = 2 := so.1.trans ((t3 _).trans t1o)
  have ts : oT z s = 2 := (shz s sx).1.trans x2
  have rs : oR z s = oR h s := (shz s sx).2.2.2.1
  have ro : oR z (oX h) = oR z3 (oX h) := so.2.2.2.1
  have m8 := sm_trans (s03 (oX h + 8) (by omega) (by omega)) (sz (oX h + 8) (by omega) (by omega) (by omega))
  have m9 := sm_trans (s03 (oX h + 9) (by omega) (by omega)) (sz (oX h + 9) (by omega) (by omega) (by omega))
  have m10 := sm_trans (s03 (oX h + 10) (by omega) (by omega)) (sz (oX h + 10) (by omega) (by omega) (by omega))
  have e4 : E_ (d + 11) mX1_copy 29 [.val (.ref s), .val (.ref (oX h)), .val (.int (nI (sP_ A)))] [] z = E_ (d + 11) mX1_copy 70 [.val (.ref s), .val (.ref (oX h)), .val (.int (nI 0))] [] z := by
    obtain ⟨Lz, -⟩ := LS_m (shz p px) (shz _ pqx) y3
    have SZ := kJ2_size (d := d + 10) Lz
    have tp : oT z p = 4 := Lz.1
    have rp : oR z s 2 = some p := by rw [rs]; exact p1
    refine wX1_copy_29.trans ?_
    simp (disch := first | exact ts | exact tp | first | assumption | exact nI_ne0 (by decide) (by decide) | exact zb_01 | exact Or.inl rfl | exact Or.inr rfl | with_unfolding_all exact id (by assumption) | with_unfolding_all exact id (xix_8 (by assumption) (by omega) (by omega)) | omega) only [wX1_copy_e, wX1_copy_0, wX1_copy_3, wX1_copy_4, wX1_copy_7, wX1_copy_8, wX1_copy_9, wX1_copy_10, wX1_copy_13, wX1_copy_16, wX1_copy_19, wX1_copy_20, wX1_copy_21, wX1_copy_24, wX1_copy_27, wX1_copy_28, wX1_copy_30, wX1_copy_31, wX1_copy_34, wX1_copy_37, wX1_copy_40, wX1_copy_41, wX1_copy_44, wX1_copy_45, wX1_copy_48, wX1_copy_49, wX1_copy_52, wX1_copy_52n, wX1_copy_55, wX1_copy_58, wX1_copy_61, wX1_copy_62, wX1_copy_65, wX1_copy_68, wX1_copy_69, wX1_copy_71, wX1_copy_72, wX1_copy_75, wX1_copy_76, wX1_copy_79, wX1_copy_80, wX1_copy_81, wX1_copy_84, wX1_copy_85, wX1_copy_86, wX1_copy_87, wX1_copy_88, wX1_copy_91, wX1_copy_92, wX1_copy_93, wX1_copy_96, wX1_copy_97, wX1_copy_98, wX1_copy_99, wX1_copy_102, wX1_copy_105, wX1_copy_106, wX1_copy_108, wX1_copy_109, wX1_copy_112, wX1_copy_113, wX1_copy_116, wX1_copy_117, wX1_copy_120, wX1_copy_121, wX1_copy_122, wX1_copy_125, wX1_copy_126, wX1_copy_127, wX1_copy_128, wX1_copy_131, wX1_copy_134, wX1_copy_135, if_true, if_false, ↓reduceIte, xpu_s, xpu_n, Option.bind_some, xk_i, xk_r, xk_0, xk_u, xk_l, xk_k, xk_q, rf_s, rf_n, q_e1, q_e2, Nat.zero_add, Nat.reduceEqDiff, Nat.reduceAdd, Nat.reduceMul, Nat.reduceSub, Nat.reduceLT, Nat.reduceLeDiff, Nat.reduceDiv, Nat.reduceMod, rp, SZ, i_irr, not_true_eq_false, not_false_eq_true, and_self, and_true, true_and, and_false, false_and, or_true, true_or, or_false, false_or, decide_true, decide_false, zb_t, zb_f, zb_0, zb_1, eq_self]
  -- its rows of ints
  obtain ⟨f3, f4, e5, v34⟩ := kX1_c3 (d := d + 11) (A := A) (q8 := oX h + 8) (q9 := oX h + 9) ts to (by omega) (by rw [ro]; exact r33) (by rw [ro]; exact r34) (m8.1.trans N8.1) (m9.1.trans N9.1) (m8.2.1.trans N8.2.1) (m9.2.1.trans N9.2.1) (by rw [rs]; exact a31) (by rw [rs]; exact a41) (AR_m (shz a3 a3x) a33) (AR_m (shz a4 a4x) a43) (by omega) (by omega) (by omega) (by omega)
  obtain ⟨f5, e6, v5⟩ := kX1_c5 (d := d + 11) (z := pI (pI z (oX h + 8) f3) (oX h + 9) f4) (A := A) (qa := oX h + 10) ts to (by show oR z (oX h) 5 = _; rw [ro]; exact r35) (m10.1.trans N10.1) (m10.2.1.trans N10.2.1) (by show oR z s 5 = _; rw [rs]; exact a51) (AR_m (sm_I (sm_I (shz a5 a5x) (by omega)) (by omega)) a53) (by omega)
  obtain ⟨zF, hF⟩ : ∃ zF, zF = pI (pI (pI z (oX h + 8) f3) (oX h + 9) f4) (oX h + 10) f5 := ⟨_, rfl⟩
  rw [← hF] at e6
  have sF : ∀ a, ¬ a = oX h + 8 → ¬ a = oX h + 9 → ¬ a = oX h + 10 → sm z zF a := fun a h1 h2 h3 => by rw [hF]; exact sm_I (sm_I (sm_I sm_refl h1) h2) h3
  have tF : oT zF = oT z := by rw [hF]; rfl
  have nF : oN zF = oN z := by rw [hF]; rfl
  have shF : ∀ a, a < oX h → sm h zF a := fun a ha => sm_trans (shz a ha) (sF a (by omega) (by omega) (by omega))
  have GF : GX (fun _ => False) h zF 100 2000 := by
    have Ga : GX (fun a => a = oX h) z1 z3 0 0 := by rw [hz3]; exact GX_R (fun _ => rfl)
    have Gb : GX (fun a => oX h ≤ a) z zF 0 0 := by
      rw [hF]
      exact GX_le (GX_trans (GX_trans (GX_I (W := fun a => oX h ≤ a) (fun _ => Nat.le_add_right _ _)) (GX_I (W := fun a => oX h ≤ a) (fun _ => Nat.le_add_right _ _)) (fun _ _ y => y)) (GX_I (W := fun a => oX h ≤ a) (fun _ => Nat.le_add_right _ _)) (fun _ _ y => y)) (by omega) (by omega)
    exact GX_le (GX_trans (GX_trans (GX_trans (GX_trans g0 g1 (fun _ _ y => y)) Ga (fun a ha y => by omega)) gz (fun a ha y => by omega)) Gb (fun a ha y => by omega)) (by omega) (by omega)
  refine ⟨zF, oX z1, ((e3.trans e4).trans e5).trans e6, GF, by omega, by rw [hF]; show oX z1 ≤ oX z; omega, ?_⟩
  obtain ⟨w0, w2, w3, w5, w6, w7⟩ := ncl_o (ow := ow) (o := oX h) (m := oX z1) (tg := oT zF)
  have s1F : ∀ a, a < oX z1 → oX h + 11 ≤ a → sm z1 zF a := fun a h1 h2 => sm_trans (sm_trans (s3 a (by omega)) (sz a (by omega) (by omega) (by omega))) (sF a (by omega) (by omega) (by omega))
  have roF : oR zF (oX h) = oR z3 (oX h) := (sF (oX h) (by omega) (by omega) (by omega)).2.2.2.1.trans ro
  have st1 : ∀ a, 9 ≤ oT z1 a → oT z1 a ≤ 18 → sm z1 zF a := fun a h1 h2 => by
    have ax := TX_lt T1 (a := a) (by omega)
    have b : ¬ a = oX h := fun y => by rw [y, t1o] at h1; omega
    have b6 : ¬ a = oX h + 6 := fun y => by
      have := G3.1.1
      rw [t3] at this
      rw [y, this] at h1; omega
    have b7 : ¬ a = oX h + 7 := fun y => by
      have := G3.1.2.2.2.1
      rw [rq3, t3] at this
      rw [y, this] at h2; omega
    have b8 : ¬ a = oX h + 8 := fun y => by
      have := (s1 (oX h + 8) (by omega)).1.trans N8.1
      rw [y, this] at h2; omega
    have b9 : ¬ a = oX h + 9 := fun y => by
      have := (s1 (oX h + 9) (by omega)).1.trans N9.1
      rw [y, this] at h2; omega
    have b10 : ¬ a = oX h + 10 := fun y => by
      have := (s1 (oX h + 10) (by omega)).1.trans N10.1
      rw [y, this] at h2; omega
    exact sm_trans (sm_trans (s3 a b) (sz a (by omega) b6 b7)) (sF a b8 b9 b10)
  have q2' : rq z1 (oX h + 11) 0 = oX h + 12 := q2
  have q6' : oX h + 13 ≤ rq z1 (oX h + 12) 1 := q6
  have q7' : rq z1 (oX h + 12) 1 < oX z1 := q7
  have SF : SCo zF (oX h + 11) A := SC_m (s1F _ (by omega) (by omega)) (by rw [q2']; exact s1F _ (by omega) (by omega)) (by rw [q2']; exact s1F _ (by omega) (by omega)) st1 q1
  have c0F : rq zF (oX h + 11) 0 = oX h + 12 := (rq_m (s1F _ (by omega) (by omega))).trans q2'
  have c1F : rq zF (oX h + 12) 1 = rq z1 (oX h + 12) 1 := rq_m (s1F _ (by omega) (by omega))
  have t12 : oT zF (oX h + 12) = 4 := (s1F _ (by omega) (by omega)).1.trans q3.1.1
  have t12q : oT zF (rq z1 (oX h + 12) 1) = 45 := (s1F _ (by omega) (by omega)).1.trans q3.1.2.2.2.1
  have stF : ∀ a, 9 ≤ oT h a → oT h a ≤ 18 → sm h zF a := fun a h1 _ => shF a (lx a (by omega))
  have s6F := sF (oX h + 6) (by omega) (by omega) (by omega)
  have rqz : ¬ rq z (oX h + 6) 1 = oX h + 8 ∧ ¬ rq z (oX h + 6) 1 = oX h + 9 ∧ ¬ rq z (oX h + 6) 1 = oX h + 10 := by rcases rz with y | y <;> omega
  obtain ⟨GF6, l6F, r6F⟩ := sm_LG (Q := fun a => ¬ a = oX h + 8 ∧ ¬ a = oX h + 9 ∧ ¬ a = oX h + 10) G (fun a ha => sF a ha.1 ha.2.1 ha.2.2) (by omega) rqz (fun j hj => by have := (pf j hj).2.1; omega)
  refine ⟨w0, by rw [tF]; exact to, ⟨oX h + 11, by rw [roF]; exact r30, ?_, SF, ?_, ?_⟩, ⟨l, by rw [roF]; exact r31, ?_, ?_, LW_m (shF l lx_) (shF _ lqx) stF l4⟩, ⟨oX h + 6, by rw [roF]; exact r32, w2, ?_, GF6.1, ⟨GF6.2.1, GF6.2.2.1⟩, fun i hi => ?_, fun i j hij hj => ?_⟩, ⟨oX h + 8, by rw [roF]; exact r33, w5, ?_⟩, ⟨oX h + 9, by rw [roF]; exact r34, w6, ?_⟩, ⟨oX h + 10, by rw [roF]; exact r35, w7, ?_⟩⟩
  · rw [ncl_m (by omega) (by omega), if_pos (SF.1)]
  · rw [c0F, ncl_m (by omega) (by omega), t12, if_neg (by decide)]
  · rw [c0F, c1F, ncl_m (by omega) q7', t12q, if_neg (by decide)]
  · rw [ncl_lo lx_, if_pos l2]
  · rw [rq_m (shF l lx_), ncl_lo lqx, if_pos l3]
  · rw [r6F]
    rcases rz with y | y
    · rw [y]; exact w3
    · have t45 := GF6.1.2.2.2.1
      rw [r6F] at t45
      rw [ncl_h (by omega) (by omega), t45, if_neg (by decide), if_pos rfl]
  · obtain ⟨F, f1, f2⟩ := pf i hi
    rw [l6F]
    generalize li z (oX h + 6) i = b at *
    have F := NPf_m (sF b (by omega) (by omega) (by omega)) (sF (b + 1) (by omega) (by omega) (by omega)) (sF (b + 2) (by omega) (by omega) (by omega)) F
    obtain ⟨b1, b2, b3, b4, b5, b6, b7⟩ := F
    have k1 : rq zF b 1 = b + 1 := by unfold rq; rw [b4]; rfl
    have k2 : rq zF b 2 = b + 2 := by unfold rq; rw [b5]; rfl
    unfold PC
    rw [k1, k2]
    refine ⟨?_, b1, b2, b3, b4, b5, ⟨?_, b6⟩, ?_, b7⟩
    · rw [ncl_h (by omega) (by omega), b1, if_pos rfl]
    · rw [ncl_h (by omega) (by omega), b6.1, if_neg (by decide), if_neg (by decide), if_pos rfl]
    · rw [ncl_h (by omega) (by omega), b7.1, if_neg (by decide), if_neg (by decide), if_pos rfl]
  · rw [l6F, l6F]
    have := mono i j hij hj
    omega
  · refine ⟨by rw [tF]; exact m8.1.trans N8.1, by rw [nF]; exact m8.2.1.trans N8.2.1, fun j hj => ?_⟩
    rw [hF, o_II, if_neg (by omega), o_II, if_neg (by omega), o_II, if_pos rfl]
    exact (v34 j hj).1
  · refine ⟨by rw [tF]; exact m9.1.trans N9.1, by rw [nF]; exact m9.2.1.trans N9.2.1, fun j hj => ?_⟩
    rw [hF, o_II, if_neg (by omega), o_II, if_pos rfl]
    exact (v34 j hj).2
  · refine ⟨by rw [tF]; exact m10.1.trans N10.1, by rw [nF]; exact m10.2.1.trans N10.2.1, fun j hj => ?_⟩
    rw [hF, o_II, if_pos rfl]
    exact v5 j hj
end
