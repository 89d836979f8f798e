/-! CONTRACTS of the component: facts of the law -/
/-- a fact without others in it, by its code and number -/
def LF (h : xH) (f : Nat) (k v : Int32) : Prop := (oT h f = 11 ∧ ∃ t, t ≤ 7 ∧ oI h f 0 = nI t ∧ k = nI (5 + t)) ∨ (oT h f = 12 ∧ k = nI 25) ∨ (oT h f = 13 ∧ k = nI 26) ∨ (oT h f = 14 ∧ k = nI 27) ∨ (oT h f = 15 ∧ k = nI 28) ∨ (oT h f = 16 ∧ oI h f 1 = v ∧ ((oI h f 0 = nI 0 ∧ k = nI 22) ∨ (oI h f 0 = nI 1 ∧ k = nI 23) ∨ (oI h f 0 = nI 2 ∧ k = nI 24) ∨ (oI h f 0 = nI 3 ∧ k = nI 4)))
/-- a fact whose codes stand from i to j (its tree is m high at the most) -/
def FT (h : xH) (A : rI) : Nat → Nat → Nat → Nat → Prop
  | 0, _, _, _ => False
  | m + 1, f, i, j => (j = i + 1 ∧ LF h f (A (77 + 2 * i)) (A (77 + 2 * i + 1))) ∨
    (oT h f = 10 ∧ ∃ g k, oR h f 0 = some g ∧ j = k + 1 ∧ A (77 + 2 * k) = nI 21 ∧ FT h A m g i k) ∨
    (oT h f = 17 ∧ ∃ g1 g2 k l, oR h f 1 = some g1 ∧ oR h f 2 = some g2 ∧ j = l + 1 ∧ ((A (77 + 2 * l) = nI 20 ∧ oI h f 0 = nI 1) ∨ (A (77 + 2 * l) = nI 19 ∧ oI h f 0 = nI 0)) ∧ FT h A m g1 i k ∧ FT h A m g2 k l)
theorem FT_tag {h : xH} {A : rI} : ∀ {m f i j : Nat}, FT h A m f i j → 10 ≤ oT h f ∧ oT h f ≤ 17
  | 0, _, _, _, F => F.elim
  | m + 1, f, i, j, F => by
    rcases F with ⟨-, F⟩ | ⟨F, -⟩ | ⟨F, -⟩
    · rcases F with ⟨F, -⟩ | ⟨F, -⟩ | ⟨F, -⟩ | ⟨F, -⟩ | ⟨F, -⟩ | ⟨F, -⟩ <;> omega
    · omega
    · omega
/-- a fact's own method, by its class -/
noncomputable def V_is (d f q : Nat) (c : Int32) (h : xH) : Option xR := match oT h f with
  | 10 => C_ d mX9_is [.ref f, .ref q, .int c] h
  | 11 => C_ d mX10_is [.ref f, .ref q, .int c] h
  | 12 => C_ d mX11_is [.ref f, .ref q, .int c] h
  | 13 => C_ d mX11_is [.ref f, .ref q, .int c] h
  | 14 => C_ d mX11_is [.ref f, .ref q, .int c] h
  | 15 => C_ d mX15_is [.ref f, .ref q, .int c] h
  | 16 => C_ d mX16_is [.ref f, .ref q, .int c] h
  | 17 => C_ d mX17_is [.ref f, .ref q, .int c] h
  | _ => none
section
variable {d a r1 : Nat} {h : xH} {x : Int32} {ls : List Slot}
theorem v_X9_6 (ht : 10 ≤ oT h a ∧ oT h a ≤ 17) : E_ (d + 1) mX9_is 6 ls [.int x, .ref r1, .ref a] h = (V_is d a r1 x h).bind fun r => E_ (d + 1) mX9_is 9 ls (xpu r.1 []) r.2 := by
  have e : oT h a = 10 ∨ oT h a = 11 ∨ oT h a = 12 ∨ oT h a = 13 ∨ oT h a = 14 ∨ oT h a = 15 ∨ oT h a = 16 ∨ oT h a = 17 := by omega
  unfold V_is
  rcases e with e | e | e | e | e | e | e | e
  · rw [e]; exact wX9_is_6t10 e
  · rw [e]; exact wX9_is_6t11 e
  · rw [e]; exact wX9_is_6t12 e
  · rw [e]; exact wX9_is_6t13 e
  · rw [e]; exact wX9_is_6t14 e
  · rw [e]; exact wX9_is_6t15 e
  · rw [e]; exact wX9_is_6t16 e
  · rw [e]; exact wX9_is_6t17 e
theorem v_X17_13 (ht : 10 ≤ oT h a ∧ oT h a ≤ 17) : E_ (d + 1) mX17_is 13 ls [.int x, .ref r1, .ref a] h = (V_is d a r1 x h).bind fun r => E_ (d + 1) mX17_is 16 ls (xpu r.1 []) r.2 := by
  have e : oT h a = 10 ∨ oT h a = 11 ∨ oT h a = 12 ∨ oT h a = 13 ∨ oT h a = 14 ∨ oT h a = 15 ∨ oT h a = 16 ∨ oT h a = 17 := by omega
  unfold V_is
  rcases e with e | e | e | e | e | e | e | e
  · rw [e]; exact wX17_is_13t10 e
  · rw [e]; exact wX17_is_13t11 e
  · rw [e]; exact wX17_is_13t12 e
  · rw [e]; exact wX17_is_13t13 e
  · rw [e]; exact wX17_is_13t14 e
  · rw [e]; exact wX17_is_13t15 e
  · rw [e]; exact wX17_is_13t16 e
  · rw [e]; exact wX17_is_13t17 e
theorem v_X17_25 (ht : 10 ≤ oT h a ∧ oT h a ≤ 17) : E_ (d + 1) mX17_is 25 ls [.int x, .ref r1, .ref a] h = (V_is d a r1 x h).bind fun r => E_ (d + 1) mX17_is 28 ls (xpu r.1 []) r.2 := by
  have e : oT h a = 10 ∨ oT h a = 11 ∨ oT h a = 12 ∨ oT h a = 13 ∨ oT h a = 14 ∨ oT h a = 15 ∨ oT h a = 16 ∨ oT h a = 17 := by omega
  unfold V_is
  rcases e with e | e | e | e | e | e | e | e
  · rw [e]; exact wX17_is_25t10 e
  · rw [e]; exact wX17_is_25t11 e
  · rw [e]; exact wX17_is_25t12 e
  · rw [e]; exact wX17_is_25t13 e
  · rw [e]; exact wX17_is_25t14 e
  · rw [e]; exact wX17_is_25t15 e
  · rw [e]; exact wX17_is_25t16 e
  · rw [e]; exact wX17_is_25t17 e
theorem v_X17_45 (ht : 10 ≤ oT h a ∧ oT h a ≤ 17) : E_ (d + 1) mX17_is 45 ls [.int x, .ref r1, .ref a] h = (V_is d a r1 x h).bind fun r => E_ (d + 1) mX17_is 48 ls (xpu r.1 []) r.2 := by
  have e : oT h a = 10 ∨ oT h a = 11 ∨ oT h a = 12 ∨ oT h a = 13 ∨ oT h a = 14 ∨ oT h a = 15 ∨ oT h a = 16 ∨ oT h a = 17 := by omega
  unfold V_is
  rcases e with e | e | e | e | e | e | e | e
  · rw [e]; exact wX17_is_45t10 e
  · rw [e]; exact wX17_is_45t11 e
  · rw [e]; exact wX17_is_45t12 e
  · rw [e]; exact wX17_is_45t13 e
  · rw [e]; exact wX17_is_45t14 e
  · rw [e]; exact wX17_is_45t15 e
  · rw [e]; exact wX17_is_45t16 e
  · rw [e]; exact wX17_is_45t17 e
theorem v_X17_57 (ht : 10 ≤ oT h a ∧ oT h a ≤ 17) : E_ (d + 1) mX17_is 57 ls [.int x, .ref r1, .ref a] h = (V_is d a r1 x h).bind fun r => E_ (d + 1) mX17_is 60 ls (xpu r.1 []) r.2 := by
  have e : oT h a = 10 ∨ oT h a = 11 ∨ oT h a = 12 ∨ oT h a = 13 ∨ oT h a = 14 ∨ oT h a = 15 ∨ oT h a = 16 ∨ oT h a = 17 := by omega
  unfold V_is
  rcases e with e | e | e | e | e | e | e | e
  · rw [e]; exact wX17_is_57t10 e
  · rw [e]; exact wX17_is_57t11 e
  · rw [e]; exact wX17_is_57t12 e
  · rw [e]; exact wX17_is_57t13 e
  · rw [e]; exact wX17_is_57t14 e
  · rw [e]; exact wX17_is_57t15 e
  · rw [e]; exact wX17_is_57t16 e
  · rw [e]; exact wX17_is_57t17 e
theorem v_X0_35 (ht : 10 ≤ oT h a ∧ oT h a ≤ 17) : E_ (d + 1) mX0_chanceOf 35 ls [.int x, .ref r1, .ref a] h = (V_is d a r1 x h).bind fun r => E_ (d + 1) mX0_chanceOf 38 ls (xpu r.1 []) r.2 := by
  have e : oT h a = 10 ∨ oT h a = 11 ∨ oT h a = 12 ∨ oT h a = 13 ∨ oT h a = 14 ∨ oT h a = 15 ∨ oT h a = 16 ∨ oT h a = 17 := by omega
  unfold V_is
  rcases e with e | e | e | e | e | e | e | e
  · rw [e]; exact wX0_chanceOf_35t10 e
  · rw [e]; exact wX0_chanceOf_35t11 e
  · rw [e]; exact wX0_chanceOf_35t12 e
  · rw [e]; exact wX0_chanceOf_35t13 e
  · rw [e]; exact wX0_chanceOf_35t14 e
  · rw [e]; exact wX0_chanceOf_35t15 e
  · rw [e]; exact wX0_chanceOf_35t16 e
  · rw [e]; exact wX0_chanceOf_35t17 e
end
def iab (x : Int32) : Int32 := if 0 ≤ x then x else 0 - x
/-- what another car does, by the fact's class -/
def qSo (A w : rI) (t c k : Nat) : Bool := if t = 12 then decide (A (2 + k) = A (2 + c) ∧ w k < w c ∧ w (16 + k) = nI 2) else if t = 13 then decide (iab (A (2 + k) - A (2 + c)) = nI 1 ∧ w (16 + k) = nI 2) else decide (¬ A (2 + k) = A (2 + c) ∧ w k < w c ∧ w (16 + k) = nI 1)
def qSn (A w : rI) (t c : Nat) : Bool := an_ (fun k => decide (¬ k = c) && (decide (0 < w k) && qSo A w t c k)) (sN A)
section
variable {d : Nat} {h : xH} {q c : Nat} {A w : rI}
theorem kX12_isSo (O : WO h q) (hs : oR h q 5 = some c) (S : SCo h c A) (R : WR h q A w) (W2 : sN A ≤ 8) {f i k : Nat} (hi : i < sN A) (hk : k < sN A) : C_ (d + 4) mX12_isSo [.ref f, .ref q, .int (nI i), .int (nI k)] h = some (some (.int (zb (qSo A w 12 i k))), h) := by
  have C1 := kX3_car (d := d) O hs S hi W2
  have C2 := kX3_car (d := d) O hs S hk W2
  obtain ⟨o1, o2, o3, o4, o5, o6, o7, o8, o9, o10, o11, o12, o13, o14, o15, o16⟩ := O
  obtain ⟨c1, c2, c3, c4, c5, c6, c7, c8, c9, c10, c11⟩ := S; have c12 := c10.1
  obtain ⟨r1, r2, r3, r4, r5, r6, r7, r8, r9, r10, r11⟩ := R
  obtain ⟨u1, u2, -, -, -⟩ := c11 i hi
  obtain ⟨v1, v2, -, -, -⟩ := c11 k hk
  have e : qSo A w 12 i k = decide (A (2 + k) = A (2 + i) ∧ w k < w i ∧ w (16 + k) = nI 2) := rfl
  rw [e, ← zb_ifd]
  simp (disch := first | exact xix_k (by omega) (by omega) | first | assumption | exact nI_ne0 (by decide) (by decide) | exact zb_01 | exact Or.inl rfl | exact Or.inr rfl | with_unfolding_all exact id (by assumption) | with_unfolding_all exact id (xix_8 (by assumption) (by omega) (by omega)) | omega) only [wX12_isSo_e, wX12_isSo_0, wX12_isSo_1, wX12_isSo_2, wX12_isSo_5, wX12_isSo_8, wX12_isSo_9, wX12_isSo_10, wX12_isSo_13, wX12_isSo_16, wX12_isSo_19, wX12_isSo_20, wX12_isSo_23, wX12_isSo_24, wX12_isSo_25, wX12_isSo_26, wX12_isSo_29, wX12_isSo_30, wX12_isSo_31, wX12_isSo_34, wX12_isSo_35, wX12_isSo_38, wX12_isSo_39, wX12_isSo_40, wX12_isSo_41, wX12_isSo_44, wX12_isSo_45, wX12_isSo_48, wX12_isSo_49, if_true, if_false, ↓reduceIte, xpu_s, xpu_n, Option.bind_some, xk_i, xk_r, xk_0, xk_u, xk_l, xk_k, xk_q, rf_s, rf_n, o_TI, o_TL, o_TR, o_NI, o_NL, o_NR, o_XI, o_XL, o_XR, o_RI, o_RL, o_LI, o_LR, o_IL, o_IR, o_II, o_LL, o_RR, o_pII, o_pLL, up_s, q_e1, q_e2, Nat.zero_add, Nat.reduceEqDiff, Nat.reduceAdd, Nat.reduceMul, Nat.reduceSub, Nat.reduceLT, Nat.reduceLeDiff, Nat.reduceDiv, Nat.reduceMod, nI_c, nI_add, up_ne, C1, C2, o2, o3, o4, o5, o6, o12, o13, o14, o15, o16, r1, r3, u2, v2, if_ac]
theorem kX13_isSo (O : WO h q) (hs : oR h q 5 = some c) (S : SCo h c A) (R : WR h q A w) (W2 : sN A ≤ 8) {f i k : Nat} (hi : i < sN A) (hk : k < sN A) : C_ (d + 4) mX13_isSo [.ref f, .ref q, .int (nI i), .int (nI k)] h = some (some (.int (zb (qSo A w 13 i k))), h) := by
  have C1 := kX3_car (d := d) O hs S hi W2
  have C2 := kX3_car (d := d) O hs S hk W2
  obtain ⟨o1, o2, o3, o4, o5, o6, o7, o8, o9, o10, o11, o12, o13, o14, o15, o16⟩ := O
  obtain ⟨c1, c2, c3, c4, c5, c6, c7, c8, c9, c10, c11⟩ := S; have c12 := c10.1
  obtain ⟨r1, r2, r3, r4, r5, r6, r7, r8, r9, r10, r11⟩ := R
  obtain ⟨u1, u2, -, -, -⟩ := c11 i hi
  obtain ⟨v1, v2, -, -, -⟩ := c11 k hk
  have e : qSo A w 13 i k = decide (iab (A (2 + k) - A (2 + i)) = nI 1 ∧ w (16 + k) = nI 2) := rfl
  rw [e, ← zb_ifd]
  unfold iab
  simp (disch := first | exact xix_k (by omega) (by omega) | first | assumption | exact nI_ne0 (by decide) (by decide) | exact zb_01 | exact Or.inl rfl | exact Or.inr rfl | with_unfolding_all exact id (by assumption) | with_unfolding_all exact id (xix_8 (by assumption) (by omega) (by omega)) | omega) only [wX13_isSo_e, wX13_isSo_0, wX13_isSo_1, wX13_isSo_2, wX13_isSo_5, wX13_isSo_8, wX13_isSo_9, wX13_isSo_10, wX13_isSo_13, wX13_isSo_16, wX13_isSo_17, wX13_isSo_20, wX13_isSo_21, wX13_isSo_24, wX13_isSo_25, wX13_isSo_28, wX13_isSo_29, wX13_isSo_30, wX13_isSo_31, wX13_isSo_34, wX13_isSo_35, wX13_isSo_38, wX13_isSo_39, if_true, if_false, ↓reduceIte, xpu_s, xpu_n, Option.bind_some, xk_i, xk_r, xk_0, xk_u, xk_l, xk_k, xk_q, rf_s, rf_n, o_TI, o_TL, o_TR, o_NI, o_NL, o_NR, o_XI, o_XL, o_XR, o_RI, o_RL, o_LI, o_LR, o_IL, o_IR, o_II, o_LL, o_RR, o_pII, o_pLL, up_s, q_e1, q_e2, Nat.zero_add, Nat.reduceEqDiff, Nat.reduceAdd, Nat.reduceMul, Nat.reduceSub, Nat.reduceLT, Nat.reduceLeDiff, Nat.reduceDiv, Nat.reduceMod, nI_c, nI_add, up_ne, C1, C2, o2, o3, o4, o5, o6, o12, o13, o14, o15, o16, r1, r3, u2, v2, xP, Option.bind_some, if_ac]
theorem kX14_isSo (O : WO h q) (hs : oR h q 5 = some c) (S : SCo h c A) (R : WR h q A w) (W2 : sN A ≤ 8) {f i k : Nat} (hi : i < sN A) (hk : k < sN A) : C_ (d + 4) mX14_isSo [.ref f, .ref q, .int (nI i), .int (nI k)] h = some (some (.int (zb (qSo A w 14 i k))), h) := by
  have C1 := kX3_car (d := d) O hs S hi W2
  have C2 := kX3_car (d := d) O hs S hk W2
  obtain ⟨o1, o2, o3, o4, o5, o6, o7, o8, o9, o10, o11, o12, o13, o14, o15, o16⟩ := O
  obtain ⟨c1, c2, c3, c4, c5, c6, c7, c8, c9, c10, c11⟩ := S; have c12 := c10.1
  obtain ⟨r1, r2, r3, r4, r5, r6, r7, r8, r9, r10, r11⟩ := R
  obtain ⟨u1, u2, -, -, -⟩ := c11 i hi
  obtain ⟨v1, v2, -, -, -⟩ := c11 k hk
  have e : qSo A w 14 i k = decide (¬ A (2 + k) = A (2 + i) ∧ w k < w i ∧ w (16 + k) = nI 1) := rfl
  rw [e, ← zb_ifd]
  simp (disch := first | exact xix_k (by omega) (by omega) | first | assumption | exact nI_ne0 (by decide) (by decide) | exact zb_01 | exact Or.inl rfl | exact Or.inr rfl | with_unfolding_all exact id (by assumption) | with_unfolding_all exact id (xix_8 (by assumption) (by omega) (by omega)) | omega) only [wX14_isSo_e, wX14_isSo_0, wX14_isSo_1, wX14_isSo_2, wX14_isSo_5, wX14_isSo_8, wX14_isSo_9, wX14_isSo_10, wX14_isSo_13, wX14_isSo_16, wX14_isSo_19, wX14_isSo_20, wX14_isSo_23, wX14_isSo_24, wX14_isSo_25, wX14_isSo_26, wX14_isSo_29, wX14_isSo_30, wX14_isSo_31, wX14_isSo_34, wX14_isSo_35, wX14_isSo_38, wX14_isSo_39, wX14_isSo_40, wX14_isSo_41, wX14_isSo_44, wX14_isSo_45, wX14_isSo_48, wX14_isSo_49, if_true, if_false, ↓reduceIte, xpu_s, xpu_n, Option.bind_some, xk_i, xk_r, xk_0, xk_u, xk_l, xk_k, xk_q, rf_s, rf_n, o_TI, o_TL, o_TR, o_NI, o_NL, o_NR, o_XI, o_XL, o_XR, o_RI, o_RL, o_LI, o_LR, o_IL, o_IR, o_II, o_LL, o_RR, o_pII, o_pLL, up_s, q_e1, q_e2, Nat.zero_add, Nat.reduceEqDiff, Nat.reduceAdd, Nat.reduceMul, Nat.reduceSub, Nat.reduceLT, Nat.reduceLeDiff, Nat.reduceDiv, Nat.reduceMod, nI_c, nI_add, up_ne, C1, C2, o2, o3, o4, o5, o6, o12, o13, o14, o15, o16, r1, r3, u2, v2, if_ac, if_nc]
theorem kX11_is (O : WO h q) (hs : oR h q 5 = some c) (S : SCo h c A) (R : WR h q A w) (W2 : sN A ≤ 8) {f i t : Nat} (hi : i < sN A) (ht : oT h f = t) (ht2 : t = 12 ∨ t = 13 ∨ t = 14) : C_ (d + 5) mX11_is [.ref f, .ref q, .int (nI i)] h = some (some (.int (zb (qSn A w t i))), h) := by
  have M := kX3_many (d := d + 3) O hs S
  have S12 : ∀ k, k < sN A → C_ (d + 4) mX12_isSo [.ref f, .ref q, .int (nI i), .int (nI k)] h = some (some (.int (zb (qSo A w 12 i k))), h) := fun k hk => kX12_isSo O hs S R W2 hi hk
  have S13 : ∀ k, k < sN A → C_ (d + 4) mX13_isSo [.ref f, .ref q, .int (nI i), .int (nI k)] h = some (some (.int (zb (qSo A w 13 i k))), h) := fun k hk => kX13_isSo O hs S R W2 hi hk
  have S14 : ∀ k, k < sN A → C_ (d + 4) mX14_isSo [.ref f, .ref q, .int (nI i), .int (nI k)] h = some (some (.int (zb (qSo A w 14 i k))), h) := fun k hk => kX14_isSo O hs S R W2 hi hk
  obtain ⟨o1, o2, o3, o4, o5, o6, o7, o8, o9, o10, o11, o12, o13, o14, o15, o16⟩ := O
  obtain ⟨c1, c2, c3, c4, c5, c6, c7, c8, c9, c10, c11⟩ := S; have c12 := c10.1
  obtain ⟨r1, r2, r3, r4, r5, r6, r7, r8, r9, r10, r11⟩ := R
  simp only [wX11_is_e, wX11_is_0, wX11_is_1, xk_i]
  unfold qSn
  refine (lpj_an (n := sN A) (p := fun k => decide (¬ k = i) && (decide (0 < w k) && qSo A w t i k)) (R := some (some (.int (nI 1)), h)) (X := some (some (.int (nI 0)), h)) (F := fun k (_ : Unit) => E_ (d + 5) mX11_is 2 [.val (.ref f), .val (.ref q), .val (.int (nI i)), .val (.int (nI k))] [] h) (fun k z hk => ⟨(), ?_⟩) (fun z => ?_) ()).trans zb_if
  · refine wX11_is_2.trans ?_
    have D12 := S12 k hk
    have D13 := S13 k hk
    have D14 := S14 k hk
    rcases ht2 with rfl | rfl | rfl
    · simp (disch := first | exact xix_k (by omega) (by omega) | first | assumption | exact nI_ne0 (by decide) (by decide) | exact zb_01 | exact Or.inl rfl | exact Or.inr rfl | with_unfolding_all exact id (by assumption) | with_unfolding_all exact id (xix_8 (by assumption) (by omega) (by omega)) | omega) only [wX11_is_e, wX11_is_0, wX11_is_1, wX11_is_3, wX11_is_4, wX11_is_7, wX11_is_10, wX11_is_11, wX11_is_12, wX11_is_15, wX11_is_16, wX11_is_19, wX11_is_20, wX11_is_21, wX11_is_24, wX11_is_25, wX11_is_26, wX11_is_27, wX11_is_28t12, wX11_is_28t13, wX11_is_28t14, wX11_is_31, wX11_is_34, wX11_is_35, wX11_is_36, wX11_is_39, wX11_is_42, wX11_is_43, if_true, if_false, ↓reduceIte, xpu_s, xpu_n, Option.bind_some, xk_i, xk_r, xk_0, xk_u, xk_l, xk_k, xk_q, rf_s, rf_n, o_TI, o_TL, o_TR, o_NI, o_NL, o_NR, o_XI, o_XL, o_XR, o_RI, o_RL, o_LI, o_LR, o_IL, o_IR, o_II, o_LL, o_RR, o_pII, o_pLL, up_s, q_e1, q_e2, Nat.zero_add, Nat.reduceEqDiff, Nat.reduceAdd, Nat.reduceMul, Nat.reduceSub, Nat.reduceLT, Nat.reduceLeDiff, Nat.reduceDiv, Nat.reduceMod, nI_c, nI_add, up_ne, M, D12, o2, o3, o4, o5, o6, o12, o13, o14, o15, o16, r1, nI_ltP, nI_eqI, hk, one_ne0, kX5_within, l6a_0, l6b_0, l6a_1, l6b_1, l6a_2, l6b_2, l6a_3, l6b_3, l6a_4, l6b_4, l6a_5, l6b_5, l6a_7, l6b_7, l6a_20, l6b_20, l6a_30, l6b_30, l6a_39, l6b_39, l6a_40, l6b_40, l6a_60, l6b_60, l6a_99, l6b_99, l6a_100, l6b_100, l6a_200, l6b_200, l6a_300, l6b_300, l6a_600, l6b_600, l6a_999, l6b_999, l6a_1000, l6b_1000, l6a_9999, l6b_9999, l6a_1000000, l6b_1000000, l6a_12, l6b_12, l64_xx, zb_0, decide_eq_false_iff_not, decide_eq_true_eq, if_ac, if_oc, if_nc, if_bf, if_bn, if_ba, if_bo]
    · simp (disch := first | exact xix_k (by omega) (by omega) | first | assumption | exact nI_ne0 (by decide) (by decide) | exact zb_01 | exact Or.inl rfl | exact Or.inr rfl | with_unfolding_all exact id (by assumption) | with_unfolding_all exact id (xix_8 (by assumption) (by omega) (by omega)) | omega) only [wX11_is_e, wX11_is_0, wX11_is_1, wX11_is_3, wX11_is_4, wX11_is_7, wX11_is_10, wX11_is_11, wX11_is_12, wX11_is_15, wX11_is_16, wX11_is_19, wX11_is_20, wX11_is_21, wX11_is_24, wX11_is_25, wX11_is_26, wX11_is_27, wX11_is_28t12, wX11_is_28t13, wX11_is_28t14, wX11_is_31, wX11_is_34, wX11_is_35, wX11_is_36, wX11_is_39, wX11_is_42, wX11_is_43, if_true, if_false, ↓reduceIte, xpu_s, xpu_n, Option.bind_some, xk_i, xk_r, xk_0, xk_u, xk_l, xk_k, xk_q, rf_s, rf_n, o_TI, o_TL, o_TR, o_NI, o_NL, o_NR, o_XI, o_XL, o_XR, o_RI, o_RL, o_LI, o_LR, o_IL, o_IR, o_II, o_LL, o_RR, o_pII, o_pLL, up_s, q_e1, q_e2, Nat.zero_add, Nat.reduceEqDiff, Nat.reduceAdd, Nat.reduceMul, Nat.reduceSub, Nat.reduceLT, Nat.reduceLeDiff, Nat.reduceDiv, Nat.reduceMod, nI_c, nI_add, up_ne, M, D13, o2, o3, o4, o5, o6, o12, o13, o14, o15, o16, r1, nI_ltP, nI_eqI, hk, one_ne0, kX5_within, l6a_0, l6b_0, l6a_1, l6b_1, l6a_2, l6b_2, l6a_3, l6b_3, l6a_4, l6b_4, l6a_5, l6b_5, l6a_7, l6b_7, l6a_20, l6b_20, l6a_30, l6b_30, l6a_39, l6b_39, l6a_40, l6b_40, l6a_60, l6b_60, l6a_99, l6b_99, l6a_100, l6b_100, l6a_200, l6b_200, l6a_300, l6b_300, l6a_600, l6b_600, l6a_999, l6b_999, l6a_1000, l6b_1000, l6a_9999, l6b_9999, l6a_1000000, l6b_1000000, l6a_12, l6b_12, l64_xx, zb_0, decide_eq_false_iff_not, decide_eq_true_eq, if_ac, if_oc, if_nc, if_bf, if_bn, if_ba, if_bo]
    · simp (disch := first | exact xix_k (by omega) (by omega) | first | assumption | exact nI_ne0 (by decide) (by decide) | exact zb_01 | exact Or.inl rfl | exact Or.inr rfl | with_unfolding_all exact id (by assumption) | with_unfolding_all exact id (xix_8 (by assumption) (by omega) (by omega)) | omega) only [wX11_is_e, wX11_is_0, wX11_is_1, wX11_is_3, wX11_is_4, wX11_is_7, wX11_is_10, wX11_is_11, wX11_is_12, wX11_is_15, wX11_is_16, wX11_is_19, wX11_is_20, wX11_is_21, wX11_is_24, wX11_is_25, wX11_is_26, wX11_is_27, wX11_is_28t12, wX11_is_28t13, wX11_is_28t14, wX11_is_31, wX11_is_34, wX11_is_35, wX11_is_36, wX11_is_39, wX11_is_42, wX11_is_43, if_true, if_false, ↓reduceIte, xpu_s, xpu_n, Option.bind_some, xk_i, xk_r, xk_0, xk_u, xk_l, xk_k, xk_q, rf_s, rf_n, o_TI, o_TL, o_TR, o_NI, o_NL, o_NR, o_XI, o_XL, o_XR, o_RI, o_RL, o_LI, o_LR, o_IL, o_IR, o_II, o_LL, o_RR, o_pII, o_pLL, up_s, q_e1, q_e2, Nat.zero_add, Nat.reduceEqDiff, Nat.reduceAdd, Nat.reduceMul, Nat.reduceSub, Nat.reduceLT, Nat.reduceLeDiff, Nat.reduceDiv, Nat.reduceMod, nI_c, nI_add, up_ne, M, D14, o2, o3, o4, o5, o6, o12, o13, o14, o15, o16, r1, nI_ltP, nI_eqI, hk, one_ne0, kX5_within, l6a_0, l6b_0, l6a_1, l6b_1, l6a_2, l6b_2, l6a_3, l6b_3, l6a_4, l6b_4, l6a_5, l6b_5, l6a_7, l6b_7, l6a_20, l6b_20, l6a_30, l6b_30, l6a_39, l6b_39, l6a_40, l6b_40, l6a_60, l6b_60, l6a_99, l6b_99, l6a_100, l6b_100, l6a_200, l6b_200, l6a_300, l6b_300, l6a_600, l6b_600, l6a_999, l6b_999, l6a_1000, l6b_1000, l6a_9999, l6b_9999, l6a_1000000, l6b_1000000, l6a_12, l6b_12, l64_xx, zb_0, decide_eq_false_iff_not, decide_eq_true_eq, if_ac, if_oc, if_nc, if_bf, if_bn, if_ba, if_bo]
  · refine wX11_is_2.trans ?_
    simp (disch := first | assumption | exact nI_ne0 (by decide) (by decide) | exact zb_01 | exact Or.inl rfl | exact Or.inr rfl | with_unfolding_all exact id (by assumption) | with_unfolding_all exact id (xix_8 (by assumption) (by omega) (by omega)) | omega) only [wX11_is_e, wX11_is_0, wX11_is_1, wX11_is_3, wX11_is_4, wX11_is_7, wX11_is_10, wX11_is_11, wX11_is_12, wX11_is_15, wX11_is_16, wX11_is_19, wX11_is_20, wX11_is_21, wX11_is_24, wX11_is_25, wX11_is_26, wX11_is_27, wX11_is_28t12, wX11_is_28t13, wX11_is_28t14, wX11_is_31, wX11_is_34, wX11_is_35, wX11_is_36, wX11_is_39, wX11_is_42, wX11_is_43, if_true, if_false, ↓reduceIte, xpu_s, xpu_n, Option.bind_some, xk_i, xk_r, xk_0, xk_u, xk_l, xk_k, xk_q, rf_s, rf_n, o_TI, o_TL, o_TR, o_NI, o_NL, o_NR, o_XI, o_XL, o_XR, o_RI, o_RL, o_LI, o_LR, o_IL, o_IR, o_II, o_LL, o_RR, o_pII, o_pLL, up_s, q_e1, q_e2, Nat.zero_add, Nat.reduceEqDiff, Nat.reduceAdd, Nat.reduceMul, Nat.reduceSub, Nat.reduceLT, Nat.reduceLeDiff, Nat.reduceDiv, Nat.reduceMod, nI_c, nI_add, up_ne, M, i_irr]
theorem ln_a : ∀ a b, a < 4 → b < 4 → ((nI a = nI b) ↔ (¬ nI a < nI b ∧ ¬ nI b < nI a ∧ ¬ nI a = -1)) := by
  intro a b ha hb
  have ha : a = 0 ∨ a = 1 ∨ a = 2 ∨ a = 3 := by omega
  have hb : b = 0 ∨ b = 1 ∨ b = 2 ∨ b = 3 := by omega
  rcases ha with rfl | rfl | rfl | rfl <;> rcases hb with rfl | rfl | rfl | rfl <;> decide
theorem ln_b : ∀ a b, a < 4 → b < 4 → ((iab (nI a - nI b) = nI 1) ↔ (¬ nI a < nI b - nI 1 ∧ ¬ nI b + nI 1 < nI a ∧ ¬ nI a = nI b)) := by
  intro a b ha hb
  have ha : a = 0 ∨ a = 1 ∨ a = 2 ∨ a = 3 := by omega
  have hb : b = 0 ∨ b = 1 ∨ b = 2 ∨ b = 3 := by omega
  rcases ha with rfl | rfl | rfl | rfl <;> rcases hb with rfl | rfl | rfl | rfl <;> decide
theorem ln_p : ∀ a b, a < 4 → b < 4 → ((¬ nI a = nI b) ↔ (¬ nI a < nI 0 ∧ ¬ nI 3 < nI a ∧ ¬ nI a = nI b)) := by
  intro a b ha hb
  have ha : a = 0 ∨ a = 1 ∨ a = 2 ∨ a = 3 := by omega
  have hb : b = 0 ∨ b = 1 ∨ b = 2 ∨ b = 3 := by omega
  rcases ha with rfl | rfl | rfl | rfl <;> rcases hb with rfl | rfl | rfl | rfl <;> decide
theorem qSn_12 (W : WFs A) {i : Nat} (hi : i < sN A) : qSn A w 12 i = sSm A w (A (2 + i)) (A (2 + i)) (-1) (nI 2) (w i) := an_eq fun k hk => by
  obtain ⟨a, a1, a2⟩ := W.2.2.2.2.2.1 k hk
  obtain ⟨b, b1, b2⟩ := W.2.2.2.2.2.1 i hi
  have W5 := W.2.2.2.2.1
  have e := ln_a a b (by omega) (by omega)
  rw [show qSo A w 12 i k = decide (A (2 + k) = A (2 + i) ∧ w k < w i ∧ w (16 + k) = nI 2) from rfl, ← Bool.decide_and, ← Bool.decide_and]
  refine decide_eq_decide.mpr ?_
  rw [a1, b1]
  constructor
  · rintro ⟨-, z2, z3, z4, z5⟩
    obtain ⟨y1, y2, y3⟩ := e.mp z3
    exact ⟨y1, y2, y3, z5, z2, z4⟩
  · rintro ⟨y1, y2, y3, z5, z2, z4⟩
    refine ⟨fun z => ?_, z2, e.mpr ⟨y1, y2, y3⟩, z4, z5⟩
    subst z
    rw [i_irr] at z4
    exact z4
theorem qSn_13 (W : WFs A) (hd : ∀ k, k < sN A → 0 < w k → w k < nI 1000) {i : Nat} (hi : i < sN A) : qSn A w 13 i = sSm A w (A (2 + i) - nI 1) (A (2 + i) + nI 1) (A (2 + i)) (nI 2) (nI 1000) := an_eq fun k hk => by
  obtain ⟨a, a1, a2⟩ := W.2.2.2.2.2.1 k hk
  obtain ⟨b, b1, b2⟩ := W.2.2.2.2.2.1 i hi
  have W5 := W.2.2.2.2.1
  have e := ln_b a b (by omega) (by omega)
  rw [show qSo A w 13 i k = decide (iab (A (2 + k) - A (2 + i)) = nI 1 ∧ w (16 + k) = nI 2) from rfl, ← Bool.decide_and, ← Bool.decide_and]
  refine decide_eq_decide.mpr ?_
  rw [a1, b1]
  constructor
  · rintro ⟨-, z2, z3, z4⟩
    obtain ⟨y1, y2, y3⟩ := e.mp z3
    exact ⟨y1, y2, y3, z4, z2, hd k hk z2⟩
  · rintro ⟨y1, y2, y3, z4, z2, -⟩
    refine ⟨fun z => ?_, z2, e.mpr ⟨y1, y2, y3⟩, z4⟩
    subst z
    exact y3 (a1.symm.trans b1)
theorem qSn_14 (W : WFs A) {i : Nat} (hi : i < sN A) : qSn A w 14 i = sSm A w (nI 0) (nI 3) (A (2 + i)) (nI 1) (w i) := an_eq fun k hk => by
  obtain ⟨a, a1, a2⟩ := W.2.2.2.2.2.1 k hk
  obtain ⟨b, b1, b2⟩ := W.2.2.2.2.2.1 i hi
  have W5 := W.2.2.2.2.1
  have e := ln_p a b (by omega) (by omega)
  rw [show qSo A w 14 i k = decide (¬ A (2 + k) = A (2 + i) ∧ w k < w i ∧ w (16 + k) = nI 1) from rfl, ← Bool.decide_and, ← Bool.decide_and]
  refine decide_eq_decide.mpr ?_
  rw [a1, b1]
  constructor
  · rintro ⟨-, z2, z3, z4, z5⟩
    obtain ⟨y1, y2, y3⟩ := e.mp z3
    exact ⟨y1, y2, y3, z5, z2, z4⟩
  · rintro ⟨y1, y2, y3, z5, z2, z4⟩
    refine ⟨fun z => ?_, z2, e.mpr ⟨y1, y2, y3⟩, z4, z5⟩
    subst z
    rw [i_irr] at z4
    exact z4
theorem kX10_is (O : WO h q) (hs : oR h q 5 = some c) (S : SCo h c A) {f : Nat} {x k : Int32} (ht : oT h f = 11) (h0 : oI h f 0 = k) : C_ (d + 1) mX10_is [.ref f, .ref q, .int x] h = some (some (.int (zb (sT A k))), h) := by
  obtain ⟨o1, o2, o3, o4, o5, o6, o7, o8, o9, o10, o11, o12, o13, o14, o15, o16⟩ := O
  obtain ⟨c1, c2, c3, c4, c5, c6, c7, c8, c9, c10, c11⟩ := S; have c12 := c10.1
  unfold sT
  simp (disch := first | assumption | exact nI_ne0 (by decide) (by decide) | exact zb_01 | exact Or.inl rfl | exact Or.inr rfl | with_unfolding_all exact id (by assumption) | with_unfolding_all exact id (xix_8 (by assumption) (by omega) (by omega)) | omega) only [wX10_is_e, wX10_is_0, wX10_is_1, wX10_is_4, wX10_is_7, wX10_is_8, wX10_is_11, wX10_is_14, if_true, if_false, ↓reduceIte, xpu_s, xpu_n, Option.bind_some, xk_i, xk_r, xk_0, xk_u, xk_l, xk_k, xk_q, rf_s, rf_n, o_TI, o_TL, o_TR, o_NI, o_NL, o_NR, o_XI, o_XL, o_XR, o_RI, o_RL, o_LI, o_LR, o_IL, o_IR, o_II, o_LL, o_RR, o_pII, o_pLL, up_s, q_e1, q_e2, Nat.zero_add, Nat.reduceEqDiff, Nat.reduceAdd, Nat.reduceMul, Nat.reduceSub, Nat.reduceLT, Nat.reduceLeDiff, Nat.reduceDiv, Nat.reduceMod, nI_c, nI_add, up_ne, hs, c3, h0, kX0_has]
theorem kX15_is (O : WO h q) (R : WR h q A w) (hI : w 33 = 0 ∨ (w 33 = nI 1 ∧ (w 34 = nI 0 ∨ (w 34 = nI 1 ∧ sO A = nI 2)))) {f : Nat} {x : Int32} : C_ d mX15_is [.ref f, .ref q, .int x] h = some (some (.int (zb (decide (0 < w 32 ∨ w 33 = nI 1)))), h) := by
  have sf := (sF_0 hI).2
  obtain ⟨o1, o2, o3, o4, o5, o6, o7, o8, o9, o10, o11, o12, o13, o14, o15, o16⟩ := O
  obtain ⟨r1, r2, r3, r4, r5, r6, r7, r8, r9, r10, r11⟩ := R
  have e : (0 < oI h q 7) = (w 33 = nI 1) := by rw [r6]; exact propext sf
  rw [← zb_ifd]
  simp (disch := first | assumption | exact nI_ne0 (by decide) (by decide) | exact zb_01 | exact Or.inl rfl | exact Or.inr rfl | with_unfolding_all exact id (by assumption) | with_unfolding_all exact id (xix_8 (by assumption) (by omega) (by omega)) | omega) only [wX15_is_e, wX15_is_0, wX15_is_1, wX15_is_4, wX15_is_7, wX15_is_8, wX15_is_11, wX15_is_14, wX15_is_15, wX15_is_18, wX15_is_19, if_true, if_false, ↓reduceIte, xpu_s, xpu_n, Option.bind_some, xk_i, xk_r, xk_0, xk_u, xk_l, xk_k, xk_q, rf_s, rf_n, q_e1, q_e2, Nat.zero_add, Nat.reduceEqDiff, Nat.reduceAdd, Nat.reduceMul, Nat.reduceSub, Nat.reduceLT, Nat.reduceLeDiff, Nat.reduceDiv, Nat.reduceMod, r5, e, if_oc]
theorem kX16_is (O : WO h q) (hs : oR h q 5 = some c) (S : SCo h c A) (R : WR h q A w) (W2 : sN A ≤ 8) {f i t : Nat} {v : Int32} (hi : i < sN A) (ht : oT h f = 16) (h0 : oI h f 0 = nI t) (h1 : oI h f 1 = v) (ht2 : t = 0 ∨ t = 1 ∨ t = 2 ∨ t = 3) : C_ (d + 4) mX16_is [.ref f, .ref q, .int (nI i)] h = some (some (.int (zb (if t = 0 then decide (w i < v) else if t = 1 then decide (¬ w (8 + i) < v) else if t = 2 then decide (A (2 + i) = v) else decide (A (26 + i) = v)))), h) := by
  have C1 := kX3_car (d := d) O hs S hi W2
  obtain ⟨o1, o2, o3, o4, o5, o6, o7, o8, o9, o10, o11, o12, o13, o14, o15, o16⟩ := O
  obtain ⟨c1, c2, c3, c4, c5, c6, c7, c8, c9, c10, c11⟩ := S; have c12 := c10.1
  obtain ⟨r1, r2, r3, r4, r5, r6, r7, r8, r9, r10, r11⟩ := R
  obtain ⟨u1, u2, -, -, u5⟩ := c11 i hi
  have n1 : (nI 1 = 0) = False := nI_ne1
  have n2 : (nI 2 = 0) = False := eq_false (nI_ne0 (by decide) (by decide))
  have n3 : (nI 3 = 0) = False := eq_false (nI_ne0 (by decide) (by decide))
  have n21 : (nI 2 = nI 1) = False := by rw [nI_eqI (by decide) (by decide)]; simp
  have n31 : (nI 3 = nI 1) = False := by rw [nI_eqI (by decide) (by decide)]; simp
  have n32 : (nI 3 = nI 2) = False := by rw [nI_eqI (by decide) (by decide)]; simp
  rcases ht2 with rfl | rfl | rfl | rfl
  · rw [if_pos rfl, ← zb_ifd]
    rw [nI_0] at h0
    simp (disch := first | exact xix_k (by omega) (by omega) | first | assumption | exact nI_ne0 (by decide) (by decide) | exact zb_01 | exact Or.inl rfl | exact Or.inr rfl | with_unfolding_all exact id (by assumption) | with_unfolding_all exact id (xix_8 (by assumption) (by omega) (by omega)) | omega) only [wX16_is_e, wX16_is_0, wX16_is_1, wX16_is_4, wX16_is_7, wX16_is_8, wX16_is_11, wX16_is_12, wX16_is_13, wX16_is_14, wX16_is_17, wX16_is_20, wX16_is_21, wX16_is_24, wX16_is_25, wX16_is_26, wX16_is_27, wX16_is_30, wX16_is_31, wX16_is_34, wX16_is_35, wX16_is_38, wX16_is_39, wX16_is_40, wX16_is_41, wX16_is_44, wX16_is_47, wX16_is_48, wX16_is_51, wX16_is_52, wX16_is_53, wX16_is_54, wX16_is_57, wX16_is_58, wX16_is_61, wX16_is_62, wX16_is_63, wX16_is_66, wX16_is_69, wX16_is_72, wX16_is_73, wX16_is_74, wX16_is_77, wX16_is_80, wX16_is_81, wX16_is_84, wX16_is_87, wX16_is_88, wX16_is_91, wX16_is_92, if_true, if_false, ↓reduceIte, xpu_s, xpu_n, Option.bind_some, xk_i, xk_r, xk_0, xk_u, xk_l, xk_k, xk_q, rf_s, rf_n, o_TI, o_TL, o_TR, o_NI, o_NL, o_NR, o_XI, o_XL, o_XR, o_RI, o_RL, o_LI, o_LR, o_IL, o_IR, o_II, o_LL, o_RR, o_pII, o_pLL, up_s, q_e1, q_e2, Nat.zero_add, Nat.reduceEqDiff, Nat.reduceAdd, Nat.reduceMul, Nat.reduceSub, Nat.reduceLT, Nat.reduceLeDiff, Nat.reduceDiv, Nat.reduceMod, nI_c, nI_add, up_ne, hs, o2, o3, o4, o5, o6, o12, o13, o14, o15, o16, r1, h0, h1]
  · rw [if_neg (by decide), if_pos rfl, ← zb_ifd]
    simp (disch := first | exact xix_k (by omega) (by omega) | first | assumption | exact nI_ne0 (by decide) (by decide) | exact zb_01 | exact Or.inl rfl | exact Or.inr rfl | with_unfolding_all exact id (by assumption) | with_unfolding_all exact id (xix_8 (by assumption) (by omega) (by omega)) | omega) only [wX16_is_e, wX16_is_0, wX16_is_1, wX16_is_4, wX16_is_7, wX16_is_8, wX16_is_11, wX16_is_12, wX16_is_13, wX16_is_14, wX16_is_17, wX16_is_20, wX16_is_21, wX16_is_24, wX16_is_25, wX16_is_26, wX16_is_27, wX16_is_30, wX16_is_31, wX16_is_34, wX16_is_35, wX16_is_38, wX16_is_39, wX16_is_40, wX16_is_41, wX16_is_44, wX16_is_47, wX16_is_48, wX16_is_51, wX16_is_52, wX16_is_53, wX16_is_54, wX16_is_57, wX16_is_58, wX16_is_61, wX16_is_62, wX16_is_63, wX16_is_66, wX16_is_69, wX16_is_72, wX16_is_73, wX16_is_74, wX16_is_77, wX16_is_80, wX16_is_81, wX16_is_84, wX16_is_87, wX16_is_88, wX16_is_91, wX16_is_92, if_true, if_false, ↓reduceIte, xpu_s, xpu_n, Option.bind_some, xk_i, xk_r, xk_0, xk_u, xk_l, xk_k, xk_q, rf_s, rf_n, o_TI, o_TL, o_TR, o_NI, o_NL, o_NR, o_XI, o_XL, o_XR, o_RI, o_RL, o_LI, o_LR, o_IL, o_IR, o_II, o_LL, o_RR, o_pII, o_pLL, up_s, q_e1, q_e2, Nat.zero_add, Nat.reduceEqDiff, Nat.reduceAdd, Nat.reduceMul, Nat.reduceSub, Nat.reduceLT, Nat.reduceLeDiff, Nat.reduceDiv, Nat.reduceMod, nI_c, nI_add, up_ne, hs, o2, o3, o4, o5, o6, o12, o13, o14, o15, o16, r2, h0, h1, n1, if_nc]
  · rw [if_neg (by decide), if_neg (by decide), if_pos rfl, ← zb_ifd]
    simp (disch := first | exact xix_k (by omega) (by omega) | first | assumption | exact nI_ne0 (by decide) (by decide) | exact zb_01 | exact Or.inl rfl | exact Or.inr rfl | with_unfolding_all exact id (by assumption) | with_unfolding_all exact id (xix_8 (by assumption) (by omega) (by omega)) | omega) only [wX16_is_e, wX16_is_0, wX16_is_1, wX16_is_4, wX16_is_7, wX16_is_8, wX16_is_11, wX16_is_12, wX16_is_13, wX16_is_14, wX16_is_17, wX16_is_20, wX16_is_21, wX16_is_24, wX16_is_25, wX16_is_26, wX16_is_27, wX16_is_30, wX16_is_31, wX16_is_34, wX16_is_35, wX16_is_38, wX16_is_39, wX16_is_40, wX16_is_41, wX16_is_44, wX16_is_47, wX16_is_48, wX16_is_51, wX16_is_52, wX16_is_53, wX16_is_54, wX16_is_57, wX16_is_58, wX16_is_61, wX16_is_62, wX16_is_63, wX16_is_66, wX16_is_69, wX16_is_72, wX16_is_73, wX16_is_74, wX16_is_77, wX16_is_80, wX16_is_81, wX16_is_84, wX16_is_87, wX16_is_88, wX16_is_91, wX16_is_92, if_true, if_false, ↓reduceIte, xpu_s, xpu_n, Option.bind_some, xk_i, xk_r, xk_0, xk_u, xk_l, xk_k, xk_q, rf_s, rf_n, o_TI, o_TL, o_TR, o_NI, o_NL, o_NR, o_XI, o_XL, o_XR, o_RI, o_RL, o_LI, o_LR, o_IL, o_IR, o_II, o_LL, o_RR, o_pII, o_pLL, up_s, q_e1, q_e2, Nat.zero_add, Nat.reduceEqDiff, Nat.reduceAdd, Nat.reduceMul, Nat.reduceSub, Nat.reduceLT, Nat.reduceLeDiff, Nat.reduceDiv, Nat.reduceMod, nI_c, nI_add, up_ne, hs, C1, u2, h0, h1, n2, n21]
  · rw [if_neg (by decide), if_neg (by decide), if_neg (by decide), ← zb_ifd]
    simp (disch := first | exact xix_k (by omega) (by omega) | first | assumption | exact nI_ne0 (by decide) (by decide) | exact zb_01 | exact Or.inl rfl | exact Or.inr rfl | with_unfolding_all exact id (by assumption) | with_unfolding_all exact id (xix_8 (by assumption) (by omega) (by omega)) | omega) only [wX16_is_e, wX16_is_0, wX16_is_1, wX16_is_4, wX16_is_7, wX16_is_8, wX16_is_11, wX16_is_12, wX16_is_13, wX16_is_14, wX16_is_17, wX16_is_20, wX16_is_21, wX16_is_24, wX16_is_25, wX16_is_26, wX16_is_27, wX16_is_30, wX16_is_31, wX16_is_34, wX16_is_35, wX16_is_38, wX16_is_39, wX16_is_40, wX16_is_41, wX16_is_44, wX16_is_47, wX16_is_48, wX16_is_51, wX16_is_52, wX16_is_53, wX16_is_54, wX16_is_57, wX16_is_58, wX16_is_61, wX16_is_62, wX16_is_63, wX16_is_66, wX16_is_69, wX16_is_72, wX16_is_73, wX16_is_74, wX16_is_77, wX16_is_80, wX16_is_81, wX16_is_84, wX16_is_87, wX16_is_88, wX16_is_91, wX16_is_92, if_true, if_false, ↓reduceIte, xpu_s, xpu_n, Option.bind_some, xk_i, xk_r, xk_0, xk_u, xk_l, xk_k, xk_q, rf_s, rf_n, o_TI, o_TL, o_TR, o_NI, o_NL, o_NR, o_XI, o_XL, o_XR, o_RI, o_RL, o_LI, o_LR, o_IL, o_IR, o_II, o_LL, o_RR, o_pII, o_pLL, up_s, q_e1, q_e2, Nat.zero_add, Nat.reduceEqDiff, Nat.reduceAdd, Nat.reduceMul, Nat.reduceSub, Nat.reduceLT, Nat.reduceLeDiff, Nat.reduceDiv, Nat.reduceMod, nI_c, nI_add, up_ne, hs, C1, u5, h0, h1, n3, n31, n32]
end
