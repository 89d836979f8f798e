/-! SCENES made and copied; a list with one less -/
section
variable {d : Nat} {h h1 h2 : xH} {P : sS} {A B : rI} {x : Int32} {ow : Nat → Nat} {s cc l k n t : Nat} {w : rI}
/-- the heap with a new scene -/
def hS0 (h : xH) : xH := pR (hL (pO h 3 8)) (oX h) (va_up (oR (hL (pO h 3 8)) (oX h)) 0 (some (oX h + 1)))
def hS (h : xH) : xH := pI (hS0 h) (oX h) (va_up (va_up (va_up (va_up (oI (hS0 h) (oX h)) 1 (nI 1)) 4 (nI 3)) 5 (nI 20)) 6 (nI 40))
theorem TX_O (T : TX h) : TX (pO h t n) := TX_G T (GX_O (W := fun _ => False))
theorem hS_f (T : TX h) : oT (hS h) (oX h) = 3 ∧ oR (hS h) (oX h) 0 = some (oX h + 1) ∧ LG (hS h) (oX h + 1) 0 t ∧ rq (hS h) (oX h + 1) 1 = oX h + 2 ∧ oI (hS h) (oX h) = va_up (va_up (va_up (va_up (fun _ => 0) 1 (nI 1)) 4 (nI 3)) 5 (nI 20)) 6 (nI 40) ∧ oX (hS h) = oX h + 3 ∧ GX (fun _ => False) h (hS h) 3 13 := by
  obtain ⟨g1, g2, g3, g4⟩ := hL_G (t := t) (TX_O (t := 3) (n := 8) T)
  have so := g4.2.2.2.2.2 (oX h) (by show oX h < oX h + 1; omega) (fun z => z)
  have tO : oT (pO h 3 8) (oX h) = 3 := by rw [o_TO]; exact if_pos rfl
  have ne : ¬ oX h + 1 = oX h := by omega
  have sl : ∀ a, ¬ a = oX h → sm (hL (pO h 3 8)) (hS h) a := fun a ha => by
    unfold hS hS0
    exact sm_I (sm_R sm_refl ha) ha
  obtain ⟨G, -, q⟩ := sm_LG (Q := fun a => ¬ a = oX h) g1 sl ne (by rw [g2]; show ¬ oX h + 1 + 1 = oX h; omega) (fun j hj => by omega)
  refine ⟨?_, ?_, G, q.trans g2, ?_, ?_, ?_⟩
  · show oT (hL (pO h 3 8)) (oX h) = 3
    rw [so.1]; exact tO
  · show oR (hS0 h) (oX h) 0 = _
    unfold hS0
    rw [o_RR, if_pos rfl, up_s]
  · unfold hS
    rw [o_II, if_pos rfl]
    have : oI (hS0 h) (oX h) = fun _ => 0 := by
      show oI (hL (pO h 3 8)) (oX h) = _
      rw [so.2.2.1, o_IO]
      exact if_pos rfl
    rw [this]
  · show oX (hL (pO h 3 8)) = _
    rw [g3]
    rfl
  · unfold hS hS0
    exact GX_le (GX_trans (GX_trans (GX_trans (GX_O (W := fun _ => False)) g4 (fun _ _ z => z)) (GX_R (W := fun a => a = oX h) (fun _ => rfl)) (fun a ha z => by omega)) (GX_I (W := fun a => a = oX h) (fun _ => rfl)) (fun a ha z => by omega)) (by omega) (by omega)
theorem kX2_init (T : TX h) : C_ (d + 4) mX2_init [.ref (oX h)] (pO h 3 8) = some (none, hS h) := by
  have hl := kJ2_init (d := d) (TX_O (t := 3) (n := 8) T)
  have e1 : oX (pO h 3 8) = oX h + 1 := rfl
  rw [e1] at hl
  obtain ⟨g1, g2, g3, g4⟩ := hL_G (t := 9) (TX_O (t := 3) (n := 8) T)
  have so := g4.2.2.2.2.2 (oX h) (by show oX h < oX h + 1; omega) (fun z => z)
  have tO : oT (pO h 3 8) (oX h) = 3 := by rw [o_TO]; exact if_pos rfl
  have tL : oT (hL (pO h 3 8)) (oX h) = 3 := by rw [so.1]; exact tO
  have tS : oT (hS0 h) (oX h) = 3 := tL
  have n4 : oT (pO (pO h 3 8) 4 3) (oX h + 1) = 4 := by rw [o_TO]; exact if_pos rfl
  have ee : pR (hL (pO h 3 8)) (oX h) (va_up (oR (hL (pO h 3 8)) (oX h)) 0 (some (oX h + 1))) = hS0 h := rfl
  unfold hS
  simp (disch := first | exact tO | exact tL | exact tS | with_unfolding_all exact id tS | exact n4 | first | assumption | exact nI_ne0 (by decide) (by decide) | exact zb_01 | exact Or.inl rfl | exact Or.inr rfl | with_unfolding_all exact id (by assumption) | with_unfolding_all exact id (xix_8 (by assumption) (by omega) (by omega)) | omega) only [wX2_init_e, wX2_init_0, wX2_init_1, wX2_init_4, wX2_init_5, wX2_init_8, wX2_init_9, wX2_init_10, wX2_init_13, wX2_init_13q, wX2_init_16, wX2_init_17, wX2_init_18, wX2_init_21, wX2_init_22, wX2_init_23, wX2_init_26, wX2_init_27, wX2_init_29, wX2_init_32, wX2_init_33, wX2_init_35, wX2_init_38, if_true, if_false, ↓reduceIte, xpu_s, xpu_n, Option.bind_some, xk_i, xk_r, xk_0, xk_u, xk_l, xk_k, xk_q, rf_s, rf_n, q_e1, q_e2, Nat.zero_add, Nat.reduceEqDiff, Nat.reduceAdd, Nat.reduceMul, Nat.reduceSub, Nat.reduceLT, Nat.reduceLeDiff, Nat.reduceDiv, Nat.reduceMod, e1, hl, ee, o_II, o_pII, up_ne]
/-- one less in a list -/
theorem kJ2_remove (T : TX h) (G : LG h l n t) (ht : 1 ≤ t ∧ t ≤ 19) (hn : n ≤ 12) (hk : k < n) : ∃ h1 r, C_ (d + 4) mJ2_remove [.ref l, .int (nI k)] h = some (some (.ref r), h1) ∧ LG h1 l (n - 1) t ∧ (∀ j, j < n - 1 → li h1 l j = li h l (sk k j)) ∧ rq h1 l 1 = rq h l 1 ∧ GX (fun a => a = l ∨ a = rq h l 1) h h1 0 0 ∧ oX h1 = oX h := by
  obtain ⟨⟨l1, l2, l3, l4, l5, l6⟩, g1, g2, g3⟩ := G
  have la : ¬ l = rq h l 1 := fun z => by rw [← z] at l4; omega
  obtain ⟨m, hm⟩ : ∃ m, m = pI h l (va_up (oI h l) 0 (oI h l 0 + nI 1)) := ⟨_, rfl⟩
  have mT : oT m = oT h := by rw [hm]; rfl
  have mN : oN m = oN h := by rw [hm]; rfl
  have mR : oR m = oR h := by rw [hm]; rfl
  have m2 : oI m l 2 = nI n := by rw [hm, o_II, if_pos rfl, up_ne (by omega)]; exact l2
  have Gm : GX (fun a => a = l ∨ a = rq h l 1) h m 0 0 := by rw [hm]; exact GX_I (fun _ => Or.inl rfl)
  -- what stands in the array
  obtain ⟨f, hf⟩ : ∃ f, f = (if k < n - 1 then va_cpy (oR h (rq h l 1)) (oR h (rq h l 1)) (k + 1) k (n - 1 - k) else oR h (rq h l 1)) := ⟨_, rfl⟩
  have fj : ∀ j, j < n - 1 → f j = oR h (rq h l 1) (sk k j) := fun j hj => by
    rw [hf]
    unfold sk
    by_cases q : k < n - 1
    · rw [if_pos q]
      by_cases q2 : j < k
      · rw [if_pos q2, pk_cpy_out (by omega)]
      · rw [if_neg q2, pk_cpy_in (by omega) (by omega)]
        congr 1
        omega
    · rw [if_neg q, if_pos (by omega)]
  obtain ⟨z, hz⟩ : ∃ z, z = pR (pI (pR m (rq h l 1) f) l (va_up (oI m l) 2 (nI (n - 1)))) (rq h l 1) (va_up f (n - 1) none) := ⟨_, rfl⟩
  have t4m : oT m l = 4 := by rw [mT]; exact l1
  have rm1 : oR m l 1 = some (rq h l 1) := by rw [mR]; exact l3
  have n1 : nI n - nI 1 = nI (n - 1) := pk_sub (by omega)
  have ar : 45 ≤ oT h (rq h l 1) ∧ oT h (rq h l 1) ≤ 48 := by omega
  have uni : xuni m (fun i => oR m (rq h l 1) (k + 1 + i)) (n - 1 - k) = true := by
    refine all_of fun i hi => ?_
    have e1 := l6 (k + 1 + i) (by omega)
    have e0 := l6 (k + 1 + 0) (by omega)
    have t1 := g3 (k + 1 + i) (by omega)
    have t0 := g3 (k + 1 + 0) (by omega)
    unfold li at t1 t0
    dsimp only
    rw [mR, e1]
    dsimp only
    rw [e0]
    dsimp only
    rw [mT, t1, t0]
    have a1 : Nat.ble 1 t = true := Nat.ble_eq.mpr ht.1
    have a2 : Nat.ble t 19 = true := Nat.ble_eq.mpr ht.2
    rw [a1, a2]
    simp
  have fr : C_ (d + 3) mJ2_fastRemove [.ref l, .ref (rq h l 1), .int (nI k)] h = some (none, z) := by
    have xi : xix (nI (n - 1)) (oN m (rq h l 1)) = true := by rw [mN]; exact xix_k (by omega) (by omega)
    have arm : 45 ≤ oT m (rq h l 1) ∧ oT m (rq h l 1) ≤ 48 := by rw [mT]; exact ar
    by_cases q : k < n - 1
    · have kp : (nI k < nI (n - 1)) = True := eq_true (nI_lt q (by omega))
      have s1 : nI (n - 1) - nI k = nI (n - 1 - k) := pk_sub (by omega)
      have ff : f = va_cpy (oR h (rq h l 1)) (oR h (rq h l 1)) (k + 1) k (n - 1 - k) := by rw [hf, if_pos q]
      have cp : xP 3 [.ref (rq h l 1), .int (nI (k + 1)), .ref (rq h l 1), .int (nI k), .int (nI (n - 1 - k))] m = some (none, pR m (rq h l 1) f) := by
        have i1 : (nI (k + 1)).toInt = ((k + 1 : Nat) : Int) := nI_toInt (by omega)
        have i2 : (nI k).toInt = (k : Int) := nI_toInt (by omega)
        have i3 : (nI (n - 1 - k)).toInt = ((n - 1 - k : Nat) : Int) := nI_toInt (by omega)
        have j1 : (nI (k + 1)).toNatClampNeg = k + 1 := nI_clamp (by omega)
        have j2 : (nI k).toNatClampNeg = k := nI_clamp (by omega)
        have j3 : (nI (n - 1 - k)).toNatClampNeg = n - 1 - k := nI_clamp (by omega)
        show (if _ then _ else _) = _
        rw [i1, i2, i3, j1, j2, j3, ff, mT, mN, mR]
        rw [mR] at uni
        exact if_pos ⟨rfl, l4, by omega, by omega, by omega, by omega, by omega, uni⟩
      have t4a : oT (pR m (rq h l 1) f) l = 4 := t4m
      have fin : pR (pI (pR m (rq h l 1) f) l (va_up (oI (pR m (rq h l 1) f) l) 2 (nI (n - 1)))) (rq h l 1) (va_up (oR (pI (pR m (rq h l 1) f) l (va_up (oI (pR m (rq h l 1) f) l) 2 (nI (n - 1)))) (rq h l 1)) (n - 1) none) = z := by
        rw [hz]
        have : oR (pI (pR m (rq h l 1) f) l (va_up (oI (pR m (rq h l 1) f) l) 2 (nI (n - 1)))) (rq h l 1) = f := by
          show oR (pR m (rq h l 1) f) (rq h l 1) = f
          rw [o_RR, if_pos rfl]
        rw [this]
        rfl
      rw [← fin]
      rw [hm] at t4m rm1 m2 cp t4a arm xi ⊢
      simp (disch := first | exact t4m | exact t4a | exact arm | exact xi | first | assumption | exact nI_ne0 (by decide) (by decide) | exact zb_01 | exact Or.inl rfl | exact Or.inr rfl | with_unfolding_all exact id (by assumption) | with_unfolding_all exact id (xix_8 (by assumption) (by omega) (by omega)) | omega) only [wJ2_fastRemove_e, wJ2_fastRemove_0, wJ2_fastRemove_1, wJ2_fastRemove_2, wJ2_fastRemove_5, wJ2_fastRemove_6, wJ2_fastRemove_7, wJ2_fastRemove_10, wJ2_fastRemove_11, wJ2_fastRemove_14, wJ2_fastRemove_15, wJ2_fastRemove_16, wJ2_fastRemove_17, wJ2_fastRemove_18, wJ2_fastRemove_19, wJ2_fastRemove_22, wJ2_fastRemove_23, wJ2_fastRemove_24, wJ2_fastRemove_25, wJ2_fastRemove_26, wJ2_fastRemove_27, wJ2_fastRemove_28, wJ2_fastRemove_29, wJ2_fastRemove_30, wJ2_fastRemove_31, wJ2_fastRemove_34, wJ2_fastRemove_35, wJ2_fastRemove_36, wJ2_fastRemove_37, wJ2_fastRemove_38, wJ2_fastRemove_41, wJ2_fastRemove_42, wJ2_fastRemove_42n, wJ2_fastRemove_43, if_true, if_false, ↓reduceIte, xpu_s, xpu_n, Option.bind_some, xk_i, xk_r, xk_0, xk_u, xk_l, xk_k, xk_q, rf_s, rf_n, q_e1, q_e2, Nat.zero_add, Nat.reduceEqDiff, Nat.reduceAdd, Nat.reduceMul, Nat.reduceSub, Nat.reduceLT, Nat.reduceLeDiff, Nat.reduceDiv, Nat.reduceMod, nI_c, nI_add, rm1, m2, n1, kp, s1, cp]
    · have kp : (nI k < nI (n - 1)) = False := eq_false (nI_nlt (by omega) (by omega))
      have ff : f = oR m (rq h l 1) := by rw [hf, if_neg q, mR]
      have fin : pR (pI m l (va_up (oI m l) 2 (nI (n - 1)))) (rq h l 1) (va_up (oR (pI m l (va_up (oI m l) 2 (nI (n - 1)))) (rq h l 1)) (n - 1) none) = z := by
        rw [hz, ff]
        have : pR m (rq h l 1) (oR m (rq h l 1)) = m := by unfold pR oR; rw [up_i]
        rw [this]
        rfl
      rw [← fin]
      rw [hm] at t4m rm1 m2 arm xi ⊢
      simp (disch := first | exact t4m | exact arm | exact xi | first | assumption | exact nI_ne0 (by decide) (by decide) | exact zb_01 | exact Or.inl rfl | exact Or.inr rfl | with_unfolding_all exact id (by assumption) | with_unfolding_all exact id (xix_8 (by assumption) (by omega) (by omega)) | omega) only [wJ2_fastRemove_e, wJ2_fastRemove_0, wJ2_fastRemove_1, wJ2_fastRemove_2, wJ2_fastRemove_5, wJ2_fastRemove_6, wJ2_fastRemove_7, wJ2_fastRemove_10, wJ2_fastRemove_11, wJ2_fastRemove_14, wJ2_fastRemove_15, wJ2_fastRemove_16, wJ2_fastRemove_17, wJ2_fastRemove_18, wJ2_fastRemove_19, wJ2_fastRemove_22, wJ2_fastRemove_23, wJ2_fastRemove_24, wJ2_fastRemove_25, wJ2_fastRemove_26, wJ2_fastRemove_27, wJ2_fastRemove_28, wJ2_fastRemove_29, wJ2_fastRemove_30, wJ2_fastRemove_31, wJ2_fastRemove_34, wJ2_fastRemove_35, wJ2_fastRemove_36, wJ2_fastRemove_37, wJ2_fastRemove_38, wJ2_fastRemove_41, wJ2_fastRemove_42, wJ2_fastRemove_42n, wJ2_fastRemove_43, if_true, if_false, ↓reduceIte, xpu_s, xpu_n, Option.bind_some, xk_i, xk_r, xk_0, xk_u, xk_l, xk_k, xk_q, rf_s, rf_n, q_e1, q_e2, Nat.zero_add, Nat.reduceEqDiff, Nat.reduceAdd, Nat.reduceMul, Nat.reduceSub, Nat.reduceLT, Nat.reduceLeDiff, Nat.reduceDiv, Nat.reduceMod, nI_c, nI_add, rm1, m2, n1, kp]
  have ck : C_ (d + 3) mJ10_checkIndex [.int (nI k), .int (nI n)] h = some (some (.int (nI k)), h) := kJ10_checkIndex hk (by omega)
  have xk_ : xix (nI k) (oN h (rq h l 1)) = true := xix_k (by omega) (by omega)
  have e6 := l6 k hk
  refine ⟨z, rq h (rq h l 1) k, ?_, ?_⟩
  · simp (disch := first | exact ar | exact xk_ | first | assumption | exact nI_ne0 (by decide) (by decide) | exact zb_01 | exact Or.inl rfl | exact Or.inr rfl | with_unfolding_all exact id (by assumption) | with_unfolding_all exact id (xix_8 (by assumption) (by omega) (by omega)) | omega) only [wJ2_remove_e, wJ2_remove_0, wJ2_remove_1, wJ2_remove_2, wJ2_remove_5, wJ2_remove_8, wJ2_remove_9, wJ2_remove_10, wJ2_remove_13, wJ2_remove_14, wJ2_remove_15, wJ2_remove_16, wJ2_remove_17, wJ2_remove_18, wJ2_remove_19, wJ2_remove_20, wJ2_remove_21, wJ2_remove_24, wJ2_remove_25, if_true, if_false, ↓reduceIte, xpu_s, xpu_n, Option.bind_some, xk_i, xk_r, xk_0, xk_u, xk_l, xk_k, xk_q, rf_s, rf_n, o_TI, o_TL, o_TR, o_NI, o_NL, o_NR, o_XI, o_XL, o_XR, o_RI, o_RL, o_LI, o_LR, o_IL, o_IR, o_II, o_LL, o_RR, o_pII, o_pLL, up_s, q_e1, q_e2, Nat.zero_add, Nat.reduceEqDiff, Nat.reduceAdd, Nat.reduceMul, Nat.reduceSub, Nat.reduceLT, Nat.reduceLeDiff, Nat.reduceDiv, Nat.reduceMod, nI_c, nI_add, up_ne, l2, l3, ck, e6, fr]
  · have zr : oR z (rq h l 1) = va_up f (n - 1) none := by rw [hz, o_RR, if_pos rfl]
    have zl : oR z l = oR h l := by
      rw [hz, o_RR, if_neg la]
      show oR (pR m (rq h l 1) f) l = _
      rw [o_RR, if_neg la, mR]
    have zq : rq z l 1 = rq h l 1 := by unfold rq; rw [zl]
    have zT : oT z = oT h := by rw [hz]; exact mT
    have zN : oN z = oN h := by rw [hz]; exact mN
    have zI : oI z l 2 = nI (n - 1) := by
      rw [hz]
      show oI (pI (pR m (rq h l 1) f) l _) l 2 = _
      rw [o_II, if_pos rfl, up_s]
    have lj : ∀ j, j < n - 1 → li z l j = li h l (sk k j) := fun j hj => by
      unfold li
      rw [zq]
      show ((oR z (rq h l 1)) j).getD 0 = _
      rw [zr, up_ne (by omega), fj j hj]
      rfl
    refine ⟨⟨⟨by rw [zT]; exact l1, zI, by rw [zq, zl]; exact l3, by rw [zq, zT]; exact l4, by rw [zq, zN]; omega, fun j hj => ?_⟩, by rw [zq, zN]; exact g1, by rw [zq, zN]; exact g2, fun j hj => ?_⟩, lj, zq, ?_, ?_⟩
    · rw [zq]
      show oR z (rq h l 1) j = some (((oR z (rq h l 1)) j).getD 0)
      rw [zr, up_ne (by omega), fj j hj, l6 _ (sk_lt hk hj)]
      rfl
    · rw [lj j hj, zT]; exact g3 _ (sk_lt hk hj)
    · rw [hz]
      exact GX_trans (GX_trans (GX_trans Gm (GX_R (W := fun a => a = l ∨ a = rq h l 1) (fun _ => Or.inr rfl)) (fun _ _ y => y)) (GX_I (W := fun a => a = l ∨ a = rq h l 1) (fun _ => Or.inl rfl)) (fun _ _ y => y)) (GX_R (W := fun a => a = l ∨ a = rq h l 1) (fun _ => Or.inr rfl)) (fun _ _ y => y)
    · rw [hz, hm]; rfl
end
