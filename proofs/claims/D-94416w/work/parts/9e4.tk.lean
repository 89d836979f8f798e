/-! TEXTS: one car, the component -/
section
variable {d : Nat} {h h1 h2 : xH} {P : sS} {X o n p b e k v c j i op lo hi m w a : Nat} {t : Nat → Nat} {f g A B : rI} {x : sX} {L : Nat × Nat × Nat × Nat} {y1 y2 y3 y4 : Int32}
/-- the reader's scene: all of it is new -/
def SK (h : xH) (X o c : Nat) (A : rI) : Prop := oR h o 1 = some c ∧ SCo h c A ∧ LG h (rq h c 0) (sN A) 9 ∧ X ≤ c ∧ X ≤ rq h c 0 ∧ X ≤ rq h (rq h c 0) 1
theorem SK_m {h' : xH} (so : sm h h' o ∨ oR h' o = oR h o) (s0 : sm h h' c) (s1 : sm h h' (rq h c 0)) (s2 : sm h h' (rq h (rq h c 0) 1)) (st : ∀ a, 9 ≤ oT h a → oT h a ≤ 18 → sm h h' a) (S : SK h X o c A) : SK h' X o c A := by
  obtain ⟨b1, b2, b3, b4, b5, b6⟩ := S
  have e0 := rq_m (j := 0) s0
  have e1 : oR h' o = oR h o := by
    rcases so with z | z
    · exact z.2.2.2.1
    · exact z
  obtain ⟨G, -, r⟩ := sm_LG (Q := fun a => sm h h' a) b3 (fun a ha => ha) s1 s2 (fun j hj => st _ (by rw [b3.2.2.2 j hj]; decide) (by rw [b3.2.2.2 j hj]; decide))
  refine ⟨by rw [e1]; exact b1, SC_m s0 s1 s2 st b2, by rw [e0]; exact G, b4, by rw [e0]; exact b5, ?_⟩
  rw [e0, r]
  exact b6
theorem SK_I (T8 : oT h o = 8) (S : SK h X o c A) : SK (pI h o f) X o c A := by
  have b2 := S.2.1
  have b3 := S.2.2.1
  exact SK_m (h := h) (h' := pI h o f) (Or.inr rfl) (sm_I sm_refl (fun z => by have := b2.1; rw [z, T8] at this; omega)) (sm_I sm_refl (fun z => by have := b3.1.1; rw [z, T8] at this; omega)) (sm_I sm_refl (fun z => by have := b3.1.2.2.2.1; rw [z, T8] at this; omega)) (fun a h1 h2 => sm_I sm_refl (fun z => by rw [z, T8] at h1; omega)) S
theorem kX7_init (ha : oT h a = 9) : C_ d mX7_init [.ref a, .int y1, .int y2, .int y3, .int y4] h = some (none, pI h a (va_up (va_up (va_up (va_up (oI h a) 0 y1) 1 y2) 2 y3) 3 y4)) := by
  simp (disch := first | exact ha | first | assumption | exact nI_ne0 (by decide) (by decide) | exact zb_01 | exact Or.inl rfl | exact Or.inr rfl | with_unfolding_all exact id (by assumption) | with_unfolding_all exact id (xix_8 (by assumption) (by omega) (by omega)) | omega) only [wX7_init_e, wX7_init_0, wX7_init_1, wX7_init_4, wX7_init_5, wX7_init_6, wX7_init_9, wX7_init_10, wX7_init_11, wX7_init_14, wX7_init_15, wX7_init_16, wX7_init_19, wX7_init_20, wX7_init_22, wX7_init_25, if_true, if_false, ↓reduceIte, xpu_s, xpu_n, Option.bind_some, xk_i, xk_r, xk_0, xk_u, xk_l, xk_k, xk_q, rf_s, rf_n, o_TI, o_TL, o_TR, o_NI, o_NL, o_NR, o_XI, o_XL, o_XR, o_RI, o_RL, o_LI, o_LR, o_IL, o_IR, o_II, o_LL, o_RR, o_pII, o_pLL, up_s, q_e1, q_e2, Nat.zero_add, Nat.reduceEqDiff, Nat.reduceAdd, Nat.reduceMul, Nat.reduceSub, Nat.reduceLT, Nat.reduceLeDiff, Nat.reduceDiv, Nat.reduceMod, nI_c, nI_add, up_ne, eq_self]
theorem CS_m {h' : xH} (so : sm h h' o) (s6 : sm h h' 64) (s7 : sm h h' 78) (C : CS h o n t op x) : CS h' o n t op x := by
  obtain ⟨⟨a1, a2, a3, a4, a5, a6, a7, a8, a9, a10⟩, C2⟩ := C
  refine ⟨⟨so.1.trans a1, by rw [so.2.2.2.1]; exact a2, s6.1.trans a3, by rw [s6.2.2.2.1]; exact a4, s7.1.trans a5, s7.2.1.trans a6, a7, a8, by rw [s7.2.2.1]; exact a9, by rw [so.2.2.1]; exact a10⟩, ?_⟩
  rw [so.2.2.1]
  exact C2
theorem STR_m {h' : xH} (s : ∀ a, a ≤ 30 → sm h h' a) (S : STR h) : STR h' := fun a a1 a2 => by
  have m := s a (by omega)
  rw [m.1, m.2.1, m.2.2.1]
  exact S a a1 a2
theorem carA_f (hn : i < 8) : sN (carA A i p v k w) = i + 1 ∧ carA A i p v k w 1 = nI (i + 1) ∧ carA A i p v k w (2 + i) = nI p ∧ carA A i p v k w (10 + i) = nI v ∧ carA A i p v k w (18 + i) = nI k ∧ carA A i p v k w (26 + i) = nI w := by
  have e : carA A i p v k w 1 = nI (i + 1) := up_s
  refine ⟨by unfold sN; rw [e]; exact nI_clamp (by omega), e, ?_, ?_, ?_, ?_⟩
  · unfold carA
    rw [up_ne (by omega), up_ne (by omega), up_ne (by omega), up_ne (by omega), up_s]
  · unfold carA
    rw [up_ne (by omega), up_ne (by omega), up_ne (by omega), up_s]
  · unfold carA
    rw [up_ne (by omega), up_ne (by omega), up_s]
  · unfold carA
    rw [up_ne (by omega), up_s]
theorem carA_o (h : ¬ j = 1 ∧ ¬ j = 2 + i ∧ ¬ j = 10 + i ∧ ¬ j = 18 + i ∧ ¬ j = 26 + i) : carA A i p v k w j = A j := by
  unfold carA
  rw [up_ne (by omega), up_ne (by omega), up_ne (by omega), up_ne (by omega), up_ne (by omega)]
/-- a car more in the scene -/
theorem kX6_cadd (T : TX h) (hX : X ≤ oX h) (C : CS h o n t op x) (ox : X ≤ o) (S : SK h X o c A) (h8 : sN A < 8) : ∃ h1, E_ (d + 6) mX6_car 77 [.val (.ref o), .val (.int (nI p)), .val (.int (nI v)), .val (.int (nI k)), .val (.int (nI w))] [] h = some (none, h1) ∧ CS h1 o n t op x ∧ SK h1 X o c (carA A (sN A) p v k w) ∧ TX h1 ∧ GX (fun a => X ≤ a) h h1 2 44 := by
  obtain ⟨b1, b2, b3, b4, b5, b6⟩ := S
  have T8 := C.1.1
  have oxl := TX_lt T (a := o) (by rw [T8]; decide)
  have cx := TX_lt T (a := c) (by rw [b2.1]; decide)
  have l4 := b3.1.1
  have l45 := b3.1.2.2.2.1
  have lx_ := TX_lt T (a := rq h c 0) (by rw [l4]; decide)
  have qx := TX_lt T (a := rq h (rq h c 0) 1) (by rw [l45]; decide)
  have o170 := C.1.2.2.2.2.2.2.2.1
  have x64 := TX_lt T (a := 64) (by rw [C.1.2.2.1]; decide)
  have x78 := TX_lt T (a := 78) (by rw [C.1.2.2.2.2.1]; decide)
  -- the new car
  have t9 : oT (pO h 9 4) (oX h) = 9 := by rw [o_TO, if_pos rfl]
  have IN := kX7_init (d := d + 5) (h := pO h 9 4) (a := oX h) (y1 := nI p) (y2 := nI v) (y3 := nI k) (y4 := nI w) t9
  obtain ⟨z, hz⟩ : ∃ z, z = pI (pO h 9 4) (oX h) (va_up (va_up (va_up (va_up (oI (pO h 9 4) (oX h)) 0 (nI p)) 1 (nI v)) 2 (nI k)) 3 (nI w)) := ⟨_, rfl⟩
  rw [← hz] at IN
  have gz : GX (fun _ => False) h z 1 4 := by
    rw [hz]
    exact GX_le (GX_trans (GX_O (W := fun _ => False)) (GX_I (W := fun a => a = oX h) (fun _ => rfl)) (fun a ha y => by omega)) (by omega) (by omega)
  have Tz := TX_G T gz
  have oz : oX z = oX h + 1 := by rw [hz]; rfl
  have s0 : ∀ a, a < oX h → sm h z a := fun a ha => gz.2.2.2.2.2 a ha (fun y => y)
  have zt : oT z (oX h) = 9 := by rw [hz]; exact t9
  have zi : oI z (oX h) 0 = nI p ∧ oI z (oX h) 1 = nI v ∧ oI z (oX h) 2 = nI k ∧ oI z (oX h) 3 = nI w := by
    rw [hz, o_II, if_pos rfl]
    exact ⟨rfl, rfl, rfl, rfl⟩
  obtain ⟨G1, l1, r1⟩ := sm_LG (Q := fun a => a < oX h) b3 s0 lx_ qx (fun j hj => TX_lt T (by rw [b3.2.2.2 j hj]; decide))
  obtain ⟨h1, e1, G2, l2, l2', r2, g2, x2⟩ := kJ2_add (d := d + 1) Tz G1 (by omega) (by omega) zt
  have t45 : oT z (rq z (rq h c 0) 1) = 45 := G1.1.2.2.2.1
  have t4 : oT z (rq h c 0) = 4 := G1.1.1
  have s2 : ∀ a, a < oX z → ¬ oT z a = 4 → ¬ oT z a = 45 → sm z h1 a := fun a h1 h2 h3 => g2.2.2.2.2.2 a h1 (fun y => by
    rcases y with y | y
    · rw [y] at h2; exact h2 t4
    · rw [y] at h3; exact h3 t45)
  have gt : GX (fun a => X ≤ a) h h1 2 44 := GX_le (GX_trans (GX_W gz (fun _ _ y => y.elim)) g2 (fun a ha y => by
    rcases y with y | y
    · show X ≤ a
      omega
    · show X ≤ a
      rw [r1] at y
      omega)) (by omega) (by omega)
  have so : sm h h1 o := sm_trans (s0 o oxl) (s2 o (by omega) (by rw [(s0 o oxl).1, T8]; decide) (by rw [(s0 o oxl).1, T8]; decide))
  have sc_ : sm h h1 c := sm_trans (s0 c cx) (s2 c (by omega) (by rw [(s0 c cx).1, b2.1]; decide) (by rw [(s0 c cx).1, b2.1]; decide))
  have s64 : sm h h1 64 := sm_trans (s0 64 x64) (s2 64 (by omega) (by rw [(s0 64 x64).1, C.1.2.2.1]; decide) (by rw [(s0 64 x64).1, C.1.2.2.1]; decide))
  have s78 : sm h h1 78 := sm_trans (s0 78 x78) (s2 78 (by omega) (by rw [(s0 78 x78).1, C.1.2.2.2.2.1]; decide) (by rw [(s0 78 x78).1, C.1.2.2.2.2.1]; decide))
  have s9 : ∀ a, oT h a = 9 → sm h h1 a := fun a ha => by
    have ax := TX_lt T (a := a) (by rw [ha]; decide)
    exact sm_trans (s0 a ax) (s2 a (by omega) (by rw [(s0 a ax).1, ha]; decide) (by rw [(s0 a ax).1, ha]; decide))
  have e0 := rq_m (j := 0) sc_
  obtain ⟨f1, f2, f3, f4, f5, f6⟩ := carA_f (A := A) (i := sN A) (p := p) (v := v) (k := k) (w := w) h8
  have tz8 : oT z o = 8 := (s0 o oxl).1.trans T8
  have tzc : oT z c = 3 := (s0 c cx).1.trans b2.1
  refine ⟨h1, ?_, CS_m so s64 s78 C, ⟨by rw [so.2.2.2.1]; exact b1, ?_, ?_, b4, by rw [e0]; exact b5, ?_⟩, TX_G T gt, gt⟩
  · have c0 : oR h c 0 = some (rq h c 0) := b2.2.2.2.2.2.2.2.2.1
    have tc : oT h c = 3 := b2.1
    simp (disch := first | exact T8 | exact tc | exact t4 | first | assumption | exact nI_ne0 (by decide) (by decide) | exact zb_01 | exact Or.inl rfl | exact Or.inr rfl | with_unfolding_all exact id (by assumption) | with_unfolding_all exact id (xix_8 (by assumption) (by omega) (by omega)) | omega) only [wX6_car_77, wX6_car_77q, wX6_car_77n, wX6_car_78, wX6_car_81, wX6_car_84, wX6_car_87, wX6_car_88, wX6_car_89, wX6_car_90, wX6_car_91, wX6_car_93, wX6_car_96, wX6_car_99, wX6_car_100, if_true, if_false, ↓reduceIte, xpu_s, xpu_n, Option.bind_some, xk_i, xk_r, xk_0, xk_u, xk_l, xk_k, xk_q, rf_s, rf_n, q_e1, q_e2, Nat.zero_add, Nat.reduceEqDiff, Nat.reduceAdd, Nat.reduceMul, Nat.reduceSub, Nat.reduceLT, Nat.reduceLeDiff, Nat.reduceDiv, Nat.reduceMod, b1, c0, IN, e1]
  · obtain ⟨c1, c2, c3, c4, c5, c6, c7, c8, c9, c10, c11⟩ := b2
    unfold SCo
    rw [sc_.1, sc_.2.2.1, sc_.2.2.2.1, e0, f1, carA_o (j := 0) (by omega), carA_o (j := 34) (by omega), carA_o (j := 35) (by omega), carA_o (j := 36) (by omega), carA_o (j := 37) (by omega), carA_o (j := 38) (by omega), carA_o (j := 39) (by omega)]
    refine ⟨c1, c2, c3, c4, c5, c6, c7, c8, c9, G2.1, fun j hj => ?_⟩
    have es : sc h1 c j = li h1 (rq h c 0) j := by
      show li h1 (rq h1 c 0) j = _
      rw [e0]
    rw [es]
    unfold CAo
    by_cases y : j = sN A
    · subst y
      rw [l2', f3, f4, f5, f6]
      have m := s2 (oX h) (by omega) (by rw [zt]; decide) (by rw [zt]; decide)
      rw [m.1, m.2.2.1]
      exact ⟨zt, zi⟩
    · rw [l2 j (by omega), l1]
      obtain ⟨v1, v2, v3, v4, v5⟩ := c11 j (by omega)
      have v1 : oT h (li h (rq h c 0) j) = 9 := v1
      have m := s9 _ v1
      rw [m.1, m.2.2.1, carA_o (j := 2 + j) (by omega), carA_o (j := 10 + j) (by omega), carA_o (j := 18 + j) (by omega), carA_o (j := 26 + j) (by omega)]
      exact ⟨v1, v2, v3, v4, v5⟩
  · rw [e0, f1]; exact G2
  · rw [e0]
    rcases r2 with y | ⟨y, y2⟩
    · rw [y, r1]; exact b6
    · rw [y]; omega
end
