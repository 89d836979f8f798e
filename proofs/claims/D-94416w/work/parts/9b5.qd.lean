/-! WHAT coin is spent at the least: what is left times ten thousand, and cost -/
section
variable {d : Nat} {h : xH} {P : sS} {A : rI} {x : Int32} {s p i q q4 c n m k r b j : Nat} {T : Nat → Nat} {z : rL}
def cs (A : rI) (p : Nat) (x : Int32) : Nat := 10000 * lef A p x + co A x
def spA (A : rI) (p : Nat) (T : Nat → Nat) (c m b : Nat) : Nat := if co A (nI (m + 1)) ≤ c then (if cs A p (nI (m + 1)) + T (c - co A (nI (m + 1))) < b then cs A p (nI (m + 1)) + T (c - co A (nI (m + 1))) else b) else b
def spB (A : rI) (p : Nat) (T : Nat → Nat) (c m : Nat) : Nat := fo_ (spA A p T c) m (cs A p (nI 0) + T c)
def spT (A : rI) : Nat → Nat → Nat
  | 0 => fun _ => 0
  | r + 1 => fun c => spB A (sP_ A - (r + 1)) (spT A r) c 15
def okT (r b : Nat) : Prop := b / 10000 ≤ 6000000 * r ∧ b % 10000 ≤ 396 * r
theorem bt_0z : ∀ m, m < 4 → bt (nI 0) m = false := by decide
theorem co_0 : co A (nI 0) = 0 := fo_in (P := fun _ n => n = 0) rfl fun m n hm hn => by
  show n + (if bt (nI 0) m = true then nb A 550 m else 0) = 0
  have hn : n = 0 := hn
  rw [bt_0z m hm, if_neg Bool.false_ne_true, hn]
theorem cs_ok (W : WFp A) (hp : p < sP_ A) (hr : r < 12) (o : okT r b) : okT (r + 1) (cs A p x + b) ∧ (cs A p x + b) / 10000 = lef A p x + b / 10000 ∧ (cs A p x + b) % 10000 = co A x + b % 10000 := by
  have h1 := lef_le (x := x) W hp
  have h2 := co_le (x := x) W
  obtain ⟨o1, o2⟩ := o
  unfold okT cs
  refine ⟨⟨?_, ?_⟩, ?_, ?_⟩ <;> omega
theorem spA_ok (W : WFp A) (hp : p < sP_ A) (hr : r < 12) (o : ∀ c, okT r (T c)) (hb : okT (r + 1) b) : okT (r + 1) (spA A p T c m b) := by
  unfold spA
  split
  · split
    · exact (cs_ok W hp hr (o _)).1
    · exact hb
  · exact hb
theorem spB_ok (W : WFp A) (hp : p < sP_ A) (hr : r < 12) (o : ∀ c, okT r (T c)) : okT (r + 1) (spB A p T c m) := fo_in (P := fun _ b => okT (r + 1) b) (cs_ok W hp hr (o _)).1 fun _ _ _ hb => spA_ok W hp hr o hb
theorem spT_ok (W : WFp A) : ∀ {r c : Nat}, r ≤ sP_ A → okT r (spT A r c)
  | 0, _, _ => show okT 0 0 from ⟨by decide, by decide⟩
  | r + 1, _, hr => by
    have := W.2.1
    exact spB_ok W (by omega) (by omega) fun c => spT_ok W (by omega)
theorem spT_s (hp : p < sP_ A) : spT A (sP_ A - p) j = spB A p (spT A (sP_ A - (p + 1))) j 15 := by
  have e : sP_ A - p = (sP_ A - (p + 1)) + 1 := by omega
  rw [e]
  show spB A (sP_ A - (sP_ A - (p + 1) + 1)) _ _ _ = _
  rw [show sP_ A - (sP_ A - (p + 1) + 1) = p by omega]
theorem okT_lt (hr : r ≤ 12) (o : okT r b) : b < 2 ^ 63 ∧ b / 10000 ≤ 72000000 ∧ b % 10000 ≤ 4752 := by
  obtain ⟨o1, o2⟩ := o
  refine ⟨?_, ?_, ?_⟩ <;> omega
theorem mn_l {u v : Nat} (hu : u < 2 ^ 63) (hv : v < 2 ^ 63) : xP 10 [.long (lN u), .long (lN v)] h = some (some (.long (lN (if v < u then v else u))), h) := by
  show some (some (Value.long (if lN v < lN u then lN v else lN u)), h) = _
  have e : (lN v < lN u) = (v < u) := propext (pk_lLT hv hu)
  by_cases q : v < u
  · rw [if_pos q, if_pos (e.mpr q)]
  · rw [if_neg q, if_neg (fun y => q (e.mp y))]
theorem up_sf {α : Type} {f : Nat → α} {k : Nat} : va_up f k (f k) = f := by
  funext j
  unfold va_up
  split
  · rename_i e; rw [e]
  · rfl
theorem pL_self {a : Nat} : pL h a (oL h a) = h := by
  unfold pL oL
  rw [up_sf]
theorem pI_self {a : Nat} : pI h a (oI h a) = h := by
  unfold pI oI
  rw [up_sf]
theorem i_dec (x : Int32) : x + (-1) = x - nI 1 := (Int32.sub_eq_add_neg x 1).symm
/-- what the table holds from a place on -/
def sOK (A : rI) (c p : Nat) (z : rL) : Prop := ∀ q j, p ≤ q → q ≤ sP_ A → j ≤ c → z (1000 * q + j) = lN (spT A (sP_ A - q) j)
/-- what the component's measures stand on -/
def XW (h : xH) (s i : Nat) (A : rI) : Prop := XPs h s i A ∧ oR h 64 13 = some 143 ∧ oT h 143 = 44 ∧ oN h 143 = 13000 ∧ (∃ q, oR h s 3 = some q ∧ AR h q 4 (fun j => A (550 + j))) ∧ ∃ q, oR h s 4 = some q ∧ AR h q 4 (fun j => A (554 + j))
theorem XW_L (Y : XW h s i A) : XW (pL h 143 z) s i A := Y
theorem kX0_lays0 (Y : XW h s i A) (h12 : sP_ A ≤ 12) (hc : c ≤ 999) : ∃ z : rL, C_ (d + 5) mX0_laysSpent [.ref 64, .int (nI c)] h = E_ (d + 5) mX0_laysSpent 37 [.val (.ref 64), .val (.int (nI c)), .val (.int (nI (sP_ A))), .val (.int (nI (c + 1))), .unset, .unset, .unset, .unset] [] (pL h 143 z) ∧ ∀ k, k ≤ c → z (1000 * sP_ A + k) = lN 0 := by
  obtain ⟨⟨t1, t2, t3, t4, t5, t6⟩, t, t44, n13, -⟩ := Y
  have t51 := t5.1
  have SZ := kJ2_size (d := d + 4) t5
  have m1 : nI 1000 * nI (sP_ A) = nI (1000 * sP_ A) := pk_mul _ _
  have e0 : C_ (d + 5) mX0_laysSpent [.ref 64, .int (nI c)] h = E_ (d + 5) mX0_laysSpent 13 [.val (.ref 64), .val (.int (nI c)), .val (.int (nI (sP_ A))), .val (.int (nI 0)), .unset, .unset, .unset, .unset] [] (pL h 143 (oL h 143)) := by
    rw [pL_self]
    simp (disch := first | assumption | exact nI_ne0 (by decide) (by decide) | exact zb_01 | exact Or.inl rfl | exact Or.inr rfl | with_unfolding_all exact id (by assumption) | with_unfolding_all exact id (xix_8 (by assumption) (by omega) (by omega)) | omega) only [wX0_laysSpent_e, wX0_laysSpent_0, wX0_laysSpent_1, wX0_laysSpent_4, wX0_laysSpent_7, wX0_laysSpent_10, wX0_laysSpent_11, wX0_laysSpent_12, wX0_laysSpent_14, wX0_laysSpent_15, wX0_laysSpent_18, wX0_laysSpent_19, wX0_laysSpent_22, wX0_laysSpent_25, wX0_laysSpent_26, wX0_laysSpent_27, wX0_laysSpent_28, wX0_laysSpent_29, wX0_laysSpent_30, wX0_laysSpent_31, wX0_laysSpent_34, wX0_laysSpent_37, wX0_laysSpent_38, wX0_laysSpent_39, wX0_laysSpent_40, wX0_laysSpent_42, wX0_laysSpent_45, wX0_laysSpent_46, wX0_laysSpent_50, wX0_laysSpent_51, wX0_laysSpent_54, wX0_laysSpent_55, wX0_laysSpent_56, wX0_laysSpent_58, wX0_laysSpent_59, wX0_laysSpent_62, wX0_laysSpent_64, wX0_laysSpent_65, wX0_laysSpent_69, wX0_laysSpent_71, wX0_laysSpent_74, wX0_laysSpent_75, wX0_laysSpent_77, wX0_laysSpent_80, wX0_laysSpent_82, wX0_laysSpent_85, wX0_laysSpent_87, wX0_laysSpent_88, wX0_laysSpent_89, wX0_laysSpent_91, wX0_laysSpent_93, wX0_laysSpent_96, wX0_laysSpent_99, wX0_laysSpent_101, wX0_laysSpent_104, wX0_laysSpent_107, wX0_laysSpent_108, wX0_laysSpent_111, wX0_laysSpent_114, wX0_laysSpent_115, wX0_laysSpent_116, wX0_laysSpent_118, wX0_laysSpent_119, wX0_laysSpent_121, wX0_laysSpent_122, wX0_laysSpent_125, wX0_laysSpent_128, wX0_laysSpent_131, wX0_laysSpent_134, if_true, if_false, ↓reduceIte, xpu_s, xpu_n, Option.bind_some, xk_i, xk_r, xk_0, xk_u, xk_l, xk_k, xk_q, rf_s, rf_n, o_TI, o_TL, o_TR, o_NI, o_NL, o_NR, o_XI, o_XL, o_XR, o_RI, o_RL, o_LI, o_LR, o_IL, o_IR, o_II, o_LL, o_RR, o_pII, o_pLL, up_s, q_e1, q_e2, Nat.zero_add, Nat.reduceEqDiff, Nat.reduceAdd, Nat.reduceMul, Nat.reduceSub, Nat.reduceLT, Nat.reduceLeDiff, Nat.reduceDiv, Nat.reduceMod, nI_c, nI_add, up_ne, t2, t4, SZ]
  rw [e0]
  refine lpe_st (n := c + 1) (s := ()) (z := oL h 143) (f := fun _ u => u) (P := fun k _ z => ∀ j, j < k → z (1000 * sP_ A + j) = lN 0) (Q := fun _ r => ∃ z : rL, r = E_ (d + 5) mX0_laysSpent 37 [.val (.ref 64), .val (.int (nI c)), .val (.int (nI (sP_ A))), .val (.int (nI (c + 1))), .unset, .unset, .unset, .unset] [] (pL h 143 z) ∧ ∀ k, k ≤ c → z (1000 * sP_ A + k) = lN 0) (F := fun k _ z => E_ (d + 5) mX0_laysSpent 13 [.val (.ref 64), .val (.int (nI c)), .val (.int (nI (sP_ A))), .val (.int (nI k)), .unset, .unset, .unset, .unset] [] (pL h 143 z)) (fun j hj => absurd hj (Nat.not_lt_zero j)) (fun k _ z hk hz => ⟨va_up z (1000 * sP_ A + k) 0, ?_, fun j hj => ?_⟩) (fun _ z hz => ⟨z, ?_, fun k hk => hz k (by omega)⟩)
  · refine wX0_laysSpent_13.trans ?_
    have ck : (nI c < nI k) = False := eq_false (nI_nlt (by omega) (by omega))
    simp (disch := first | with_unfolding_all exact id (xix_8 n13 (by omega) (by omega)) | first | assumption | exact nI_ne0 (by decide) (by decide) | exact zb_01 | exact Or.inl rfl | exact Or.inr rfl | with_unfolding_all exact id (by assumption) | with_unfolding_all exact id (xix_8 (by assumption) (by omega) (by omega)) | omega) only [wX0_laysSpent_e, wX0_laysSpent_0, wX0_laysSpent_1, wX0_laysSpent_4, wX0_laysSpent_7, wX0_laysSpent_10, wX0_laysSpent_11, wX0_laysSpent_12, wX0_laysSpent_14, wX0_laysSpent_15, wX0_laysSpent_18, wX0_laysSpent_19, wX0_laysSpent_22, wX0_laysSpent_25, wX0_laysSpent_26, wX0_laysSpent_27, wX0_laysSpent_28, wX0_laysSpent_29, wX0_laysSpent_30, wX0_laysSpent_31, wX0_laysSpent_34, wX0_laysSpent_37, wX0_laysSpent_38, wX0_laysSpent_39, wX0_laysSpent_40, wX0_laysSpent_42, wX0_laysSpent_45, wX0_laysSpent_46, wX0_laysSpent_50, wX0_laysSpent_51, wX0_laysSpent_54, wX0_laysSpent_55, wX0_laysSpent_56, wX0_laysSpent_58, wX0_laysSpent_59, wX0_laysSpent_62, wX0_laysSpent_64, wX0_laysSpent_65, wX0_laysSpent_69, wX0_laysSpent_71, wX0_laysSpent_74, wX0_laysSpent_75, wX0_laysSpent_77, wX0_laysSpent_80, wX0_laysSpent_82, wX0_laysSpent_85, wX0_laysSpent_87, wX0_laysSpent_88, wX0_laysSpent_89, wX0_laysSpent_91, wX0_laysSpent_93, wX0_laysSpent_96, wX0_laysSpent_99, wX0_laysSpent_101, wX0_laysSpent_104, wX0_laysSpent_107, wX0_laysSpent_108, wX0_laysSpent_111, wX0_laysSpent_114, wX0_laysSpent_115, wX0_laysSpent_116, wX0_laysSpent_118, wX0_laysSpent_119, wX0_laysSpent_121, wX0_laysSpent_122, wX0_laysSpent_125, wX0_laysSpent_128, wX0_laysSpent_131, wX0_laysSpent_134, if_true, if_false, ↓reduceIte, xpu_s, xpu_n, Option.bind_some, xk_i, xk_r, xk_0, xk_u, xk_l, xk_k, xk_q, rf_s, rf_n, o_TI, o_TL, o_TR, o_NI, o_NL, o_NR, o_XI, o_XL, o_XR, o_RI, o_RL, o_LI, o_LR, o_IL, o_IR, o_II, o_LL, o_RR, o_pII, o_pLL, up_s, q_e1, q_e2, Nat.zero_add, Nat.reduceEqDiff, Nat.reduceAdd, Nat.reduceMul, Nat.reduceSub, Nat.reduceLT, Nat.reduceLeDiff, Nat.reduceDiv, Nat.reduceMod, nI_c, nI_add, up_ne, t, ck, m1, not_true_eq_false, not_false_eq_true, and_self, and_true, true_and, and_false, false_and, or_true, true_or, or_false, false_or, decide_true, decide_false, zb_t, zb_f, zb_0, zb_1, eq_self]
  · rcases Nat.lt_or_ge j k with y | y
    · rw [up_ne (by omega)]; exact hz j y
    · have e : j = k := by omega
      rw [e, up_s]; rfl
  · refine wX0_laysSpent_13.trans ?_
    have ck : (nI c < nI (c + 1)) = True := eq_true (nI_lt (by omega) (by omega))
    simp (disch := first | assumption | exact nI_ne0 (by decide) (by decide) | exact zb_01 | exact Or.inl rfl | exact Or.inr rfl | with_unfolding_all exact id (by assumption) | with_unfolding_all exact id (xix_8 (by assumption) (by omega) (by omega)) | omega) only [wX0_laysSpent_14, wX0_laysSpent_15, if_true, if_false, ↓reduceIte, xpu_s, xpu_n, Option.bind_some, xk_i, xk_r, xk_0, xk_u, xk_l, xk_k, xk_q, rf_s, rf_n, q_e1, q_e2, Nat.zero_add, Nat.reduceEqDiff, Nat.reduceAdd, Nat.reduceMul, Nat.reduceSub, Nat.reduceLT, Nat.reduceLeDiff, Nat.reduceDiv, Nat.reduceMod, ck, not_true_eq_false, not_false_eq_true, and_self, and_true, true_and, and_false, false_and, or_true, true_or, or_false, false_or, decide_true, decide_false, zb_t, zb_f, zb_0, zb_1, eq_self]
/-- the best set at a place by coin -/
theorem kX0_laysB {u1 u2 u3 : Slot} (Y : XW h s i A) (W : WFp A) (hc : c ≤ 999) (hp : p < sP_ A) (hj : j ≤ c) (hz : sOK A c (p + 1) z) : E_ (d + 5) mX0_laysSpent 48 [.val (.ref 64), .val (.int (nI c)), .val (.int (nI (sP_ A))), .val (.int (nI p)), .val (.int (nI j)), u1, u2, u3] [] (pL h 143 z) = E_ (d + 5) mX0_laysSpent 48 [.val (.ref 64), .val (.int (nI c)), .val (.int (nI (sP_ A))), .val (.int (nI p)), .val (.int (nI (j + 1))), .val (.long (lN (spB A p (spT A (sP_ A - (p + 1))) j 15))), .unset, .val (.int (nI 16))] [] (pL h 143 (va_up z (1000 * p + j) (lN (spB A p (spT A (sP_ A - (p + 1))) j 15)))) := by
  have h12 := W.2.1
  obtain ⟨Y, t, t44, n13, ⟨q, d3, a3⟩, ⟨q4, d4, a4⟩⟩ := Y
  have Y0 := Y
  obtain ⟨t1, t2, t3, t4, t5, t6⟩ := Y0
  have SP : ∀ x, co A x ≤ j → C_ (d + 4) mX0_spends [.ref 64, .int (nI p), .int (nI j), .int x] (pL h 143 z) = some (some (.long (lN (cs A p x + spT A (sP_ A - (p + 1)) (j - co A x)))), pL h 143 z) := fun x hx => kX0_spends (h := pL h 143 z) Y t t44 n13 d3 a3 d4 a4 W hp (by omega) hx (by
    rw [o_LL, if_pos rfl, show 1000 * (p + 1) + j - co A x = 1000 * (p + 1) + (j - co A x) by omega]
    exact hz (p + 1) (j - co A x) (Nat.le_refl _) (by omega) (by omega))
  have CO : ∀ x, C_ (d + 4) mX0_costOf [.ref 64, .int x] (pL h 143 z) = some (some (.int (nI (co A x))), pL h 143 z) := fun x => kX0_costOf (h := pL h 143 z) t1 t2 t3 d3 a3 W
  have SP0 := SP (nI 0) (by rw [co_0]; omega)
  rw [co_0, Nat.sub_zero] at SP0
  have ok : ∀ c, okT (sP_ A - (p + 1)) (spT A (sP_ A - (p + 1)) c) := fun c => spT_ok W (by omega)
  have m1 : nI 1000 * nI p = nI (1000 * p) := pk_mul _ _
  refine wX0_laysSpent_48.trans ?_
  have cj : (nI c < nI j) = False := eq_false (nI_nlt (by omega) (by omega))
  have e1 : E_ (d + 5) mX0_laysSpent 50 [.val (.ref 64), .val (.int (nI c)), .val (.int (nI (sP_ A))), .val (.int (nI p)), .val (.int (nI j)), u1, u2, u3] [.int (nI j)] (pL h 143 z) = E_ (d + 5) mX0_laysSpent 67 [.val (.ref 64), .val (.int (nI c)), .val (.int (nI (sP_ A))), .val (.int (nI p)), .val (.int (nI j)), .val (.long (lN (spB A p (spT A (sP_ A - (p + 1))) j 0))), .unset, .val (.int (nI (0 + 1)))] [] (pL h 143 z) := by
    simp (disch := first | assumption | exact nI_ne0 (by decide) (by decide) | exact zb_01 | exact Or.inl rfl | exact Or.inr rfl | with_unfolding_all exact id (by assumption) | with_unfolding_all exact id (xix_8 (by assumption) (by omega) (by omega)) | omega) only [wX0_laysSpent_e, wX0_laysSpent_0, wX0_laysSpent_1, wX0_laysSpent_4, wX0_laysSpent_7, wX0_laysSpent_10, wX0_laysSpent_11, wX0_laysSpent_12, wX0_laysSpent_14, wX0_laysSpent_15, wX0_laysSpent_18, wX0_laysSpent_19, wX0_laysSpent_22, wX0_laysSpent_25, wX0_laysSpent_26, wX0_laysSpent_27, wX0_laysSpent_28, wX0_laysSpent_29, wX0_laysSpent_30, wX0_laysSpent_31, wX0_laysSpent_34, wX0_laysSpent_37, wX0_laysSpent_38, wX0_laysSpent_39, wX0_laysSpent_40, wX0_laysSpent_42, wX0_laysSpent_45, wX0_laysSpent_46, wX0_laysSpent_50, wX0_laysSpent_51, wX0_laysSpent_54, wX0_laysSpent_55, wX0_laysSpent_56, wX0_laysSpent_58, wX0_laysSpent_59, wX0_laysSpent_62, wX0_laysSpent_64, wX0_laysSpent_65, wX0_laysSpent_69, wX0_laysSpent_71, wX0_laysSpent_74, wX0_laysSpent_75, wX0_laysSpent_77, wX0_laysSpent_80, wX0_laysSpent_82, wX0_laysSpent_85, wX0_laysSpent_87, wX0_laysSpent_88, wX0_laysSpent_89, wX0_laysSpent_91, wX0_laysSpent_93, wX0_laysSpent_96, wX0_laysSpent_99, wX0_laysSpent_101, wX0_laysSpent_104, wX0_laysSpent_107, wX0_laysSpent_108, wX0_laysSpent_111, wX0_laysSpent_114, wX0_laysSpent_115, wX0_laysSpent_116, wX0_laysSpent_118, wX0_laysSpent_119, wX0_laysSpent_121, wX0_laysSpent_122, wX0_laysSpent_125, wX0_laysSpent_128, wX0_laysSpent_131, wX0_laysSpent_134, if_true, if_false, ↓reduceIte, xpu_s, xpu_n, Option.bind_some, xk_i, xk_r, xk_0, xk_u, xk_l, xk_k, xk_q, rf_s, rf_n, o_TI, o_TL, o_TR, o_NI, o_NL, o_NR, o_XI, o_XL, o_XR, o_RI, o_RL, o_LI, o_LR, o_IL, o_IR, o_II, o_LL, o_RR, o_pII, o_pLL, up_s, q_e1, q_e2, Nat.zero_add, Nat.reduceEqDiff, Nat.reduceAdd, Nat.reduceMul, Nat.reduceSub, Nat.reduceLT, Nat.reduceLeDiff, Nat.reduceDiv, Nat.reduceMod, nI_c, nI_add, up_ne, cj, SP0, not_true_eq_false, not_false_eq_true, and_self, and_true, true_and, and_false, false_and, or_true, true_or, or_false, false_or, decide_true, decide_false, zb_t, zb_f, zb_0, zb_1, eq_self]
    rfl
  refine e1.trans ?_
  have L := (lpj_st (n := 15) (s := spB A p (spT A (sP_ A - (p + 1))) j 0) (P := fun _ b => okT (sP_ A - (p + 1) + 1) b) (f := spA A p (spT A (sP_ A - (p + 1))) j) (X := fun b => E_ (d + 5) mX0_laysSpent 107 [.val (.ref 64), .val (.int (nI c)), .val (.int (nI (sP_ A))), .val (.int (nI p)), .val (.int (nI j)), .val (.long (lN b)), .unset, .val (.int (nI 16))] [] (pL h 143 z)) (F := fun m b (_ : Unit) => E_ (d + 5) mX0_laysSpent 67 [.val (.ref 64), .val (.int (nI c)), .val (.int (nI (sP_ A))), .val (.int (nI p)), .val (.int (nI j)), .val (.long (lN b)), .unset, .val (.int (nI (m + 1)))] [] (pL h 143 z)) (spB_ok W hp (by omega) ok) (fun m b _ hm hb => ⟨(), ?_, spA_ok W hp (by omega) ok hb⟩) (fun b _ _ => ?_) ()).1
  · refine L.trans ?_
    show E_ (d + 5) mX0_laysSpent 107 [.val (.ref 64), .val (.int (nI c)), .val (.int (nI (sP_ A))), .val (.int (nI p)), .val (.int (nI j)), .val (.long (lN (spB A p (spT A (sP_ A - (p + 1))) j 15))), .unset, .val (.int (nI 16))] [] (pL h 143 z) = _
    generalize spB A p (spT A (sP_ A - (p + 1))) j 15 = bb
    simp (disch := first | with_unfolding_all exact id (xix_8 n13 (by omega) (by omega)) | first | assumption | exact nI_ne0 (by decide) (by decide) | exact zb_01 | exact Or.inl rfl | exact Or.inr rfl | with_unfolding_all exact id (by assumption) | with_unfolding_all exact id (xix_8 (by assumption) (by omega) (by omega)) | omega) only [wX0_laysSpent_e, wX0_laysSpent_0, wX0_laysSpent_1, wX0_laysSpent_4, wX0_laysSpent_7, wX0_laysSpent_10, wX0_laysSpent_11, wX0_laysSpent_12, wX0_laysSpent_14, wX0_laysSpent_15, wX0_laysSpent_18, wX0_laysSpent_19, wX0_laysSpent_22, wX0_laysSpent_25, wX0_laysSpent_26, wX0_laysSpent_27, wX0_laysSpent_28, wX0_laysSpent_29, wX0_laysSpent_30, wX0_laysSpent_31, wX0_laysSpent_34, wX0_laysSpent_37, wX0_laysSpent_38, wX0_laysSpent_39, wX0_laysSpent_40, wX0_laysSpent_42, wX0_laysSpent_45, wX0_laysSpent_46, wX0_laysSpent_50, wX0_laysSpent_51, wX0_laysSpent_54, wX0_laysSpent_55, wX0_laysSpent_56, wX0_laysSpent_58, wX0_laysSpent_59, wX0_laysSpent_62, wX0_laysSpent_64, wX0_laysSpent_65, wX0_laysSpent_69, wX0_laysSpent_71, wX0_laysSpent_74, wX0_laysSpent_75, wX0_laysSpent_77, wX0_laysSpent_80, wX0_laysSpent_82, wX0_laysSpent_85, wX0_laysSpent_87, wX0_laysSpent_88, wX0_laysSpent_89, wX0_laysSpent_91, wX0_laysSpent_93, wX0_laysSpent_96, wX0_laysSpent_99, wX0_laysSpent_101, wX0_laysSpent_104, wX0_laysSpent_107, wX0_laysSpent_108, wX0_laysSpent_111, wX0_laysSpent_114, wX0_laysSpent_115, wX0_laysSpent_116, wX0_laysSpent_118, wX0_laysSpent_119, wX0_laysSpent_121, wX0_laysSpent_122, wX0_laysSpent_125, wX0_laysSpent_128, wX0_laysSpent_131, wX0_laysSpent_134, if_true, if_false, ↓reduceIte, xpu_s, xpu_n, Option.bind_some, xk_i, xk_r, xk_0, xk_u, xk_l, xk_k, xk_q, rf_s, rf_n, o_TI, o_TL, o_TR, o_NI, o_NL, o_NR, o_XI, o_XL, o_XR, o_RI, o_RL, o_LI, o_LR, o_IL, o_IR, o_II, o_LL, o_RR, o_pII, o_pLL, up_s, q_e1, q_e2, Nat.zero_add, Nat.reduceEqDiff, Nat.reduceAdd, Nat.reduceMul, Nat.reduceSub, Nat.reduceLT, Nat.reduceLeDiff, Nat.reduceDiv, Nat.reduceMod, nI_c, nI_add, up_ne, t, m1, not_true_eq_false, not_false_eq_true, and_self, and_true, true_and, and_false, false_and, or_true, true_or, or_false, false_or, decide_true, decide_false, zb_t, zb_f, zb_0, zb_1, eq_self]
  · refine wX0_laysSpent_67.trans ?_
    have h16 : (nI (m + 1) < nI 16) = True := eq_true (nI_lt (by omega) (by omega))
    have c2 := co_le (x := nI (m + 1)) W
    have lb := (okT_lt (by omega) hb).1
    by_cases hx : co A (nI (m + 1)) ≤ j
    · have lv := (okT_lt (by omega) (cs_ok (x := nI (m + 1)) W hp (by omega) (ok (j - co A (nI (m + 1))))).1).1
      have g : (nI j < nI (co A (nI (m + 1)))) = False := eq_false (nI_nlt hx (by omega))
      have e : spA A p (spT A (sP_ A - (p + 1))) j m b = if cs A p (nI (m + 1)) + spT A (sP_ A - (p + 1)) (j - co A (nI (m + 1))) < b then cs A p (nI (m + 1)) + spT A (sP_ A - (p + 1)) (j - co A (nI (m + 1))) else b := if_pos hx
      have SPm := SP _ hx
      have MN := mn_l (h := pL h 143 z) lb lv
      rw [e]
      generalize cs A p (nI (m + 1)) + spT A (sP_ A - (p + 1)) (j - co A (nI (m + 1))) = v at *
      simp (disch := first | assumption | exact nI_ne0 (by decide) (by decide) | exact zb_01 | exact Or.inl rfl | exact Or.inr rfl | with_unfolding_all exact id (by assumption) | with_unfolding_all exact id (xix_8 (by assumption) (by omega) (by omega)) | omega) only [wX0_laysSpent_e, wX0_laysSpent_0, wX0_laysSpent_1, wX0_laysSpent_4, wX0_laysSpent_7, wX0_laysSpent_10, wX0_laysSpent_11, wX0_laysSpent_12, wX0_laysSpent_14, wX0_laysSpent_15, wX0_laysSpent_18, wX0_laysSpent_19, wX0_laysSpent_22, wX0_laysSpent_25, wX0_laysSpent_26, wX0_laysSpent_27, wX0_laysSpent_28, wX0_laysSpent_29, wX0_laysSpent_30, wX0_laysSpent_31, wX0_laysSpent_34, wX0_laysSpent_37, wX0_laysSpent_38, wX0_laysSpent_39, wX0_laysSpent_40, wX0_laysSpent_42, wX0_laysSpent_45, wX0_laysSpent_46, wX0_laysSpent_50, wX0_laysSpent_51, wX0_laysSpent_54, wX0_laysSpent_55, wX0_laysSpent_56, wX0_laysSpent_58, wX0_laysSpent_59, wX0_laysSpent_62, wX0_laysSpent_64, wX0_laysSpent_65, wX0_laysSpent_69, wX0_laysSpent_71, wX0_laysSpent_74, wX0_laysSpent_75, wX0_laysSpent_77, wX0_laysSpent_80, wX0_laysSpent_82, wX0_laysSpent_85, wX0_laysSpent_87, wX0_laysSpent_88, wX0_laysSpent_89, wX0_laysSpent_91, wX0_laysSpent_93, wX0_laysSpent_96, wX0_laysSpent_99, wX0_laysSpent_101, wX0_laysSpent_104, wX0_laysSpent_107, wX0_laysSpent_108, wX0_laysSpent_111, wX0_laysSpent_114, wX0_laysSpent_115, wX0_laysSpent_116, wX0_laysSpent_118, wX0_laysSpent_119, wX0_laysSpent_121, wX0_laysSpent_122, wX0_laysSpent_125, wX0_laysSpent_128, wX0_laysSpent_131, wX0_laysSpent_134, if_true, if_false, ↓reduceIte, xpu_s, xpu_n, Option.bind_some, xk_i, xk_r, xk_0, xk_u, xk_l, xk_k, xk_q, rf_s, rf_n, o_TI, o_TL, o_TR, o_NI, o_NL, o_NR, o_XI, o_XL, o_XR, o_RI, o_RL, o_LI, o_LR, o_IL, o_IR, o_II, o_LL, o_RR, o_pII, o_pLL, up_s, q_e1, q_e2, Nat.zero_add, Nat.reduceEqDiff, Nat.reduceAdd, Nat.reduceMul, Nat.reduceSub, Nat.reduceLT, Nat.reduceLeDiff, Nat.reduceDiv, Nat.reduceMod, nI_c, nI_add, up_ne, h16, CO, g, SPm, MN, not_true_eq_false, not_false_eq_true, and_self, and_true, true_and, and_false, false_and, or_true, true_or, or_false, false_or, decide_true, decide_false, zb_t, zb_f, zb_0, zb_1, eq_self]
    · have g : (nI j < nI (co A (nI (m + 1)))) = True := eq_true (nI_lt (by omega) (by omega))
      have e : spA A p (spT A (sP_ A - (p + 1))) j m b = b := if_neg hx
      rw [e]
      simp (disch := first | assumption | exact nI_ne0 (by decide) (by decide) | exact zb_01 | exact Or.inl rfl | exact Or.inr rfl | with_unfolding_all exact id (by assumption) | with_unfolding_all exact id (xix_8 (by assumption) (by omega) (by omega)) | omega) only [wX0_laysSpent_e, wX0_laysSpent_0, wX0_laysSpent_1, wX0_laysSpent_4, wX0_laysSpent_7, wX0_laysSpent_10, wX0_laysSpent_11, wX0_laysSpent_12, wX0_laysSpent_14, wX0_laysSpent_15, wX0_laysSpent_18, wX0_laysSpent_19, wX0_laysSpent_22, wX0_laysSpent_25, wX0_laysSpent_26, wX0_laysSpent_27, wX0_laysSpent_28, wX0_laysSpent_29, wX0_laysSpent_30, wX0_laysSpent_31, wX0_laysSpent_34, wX0_laysSpent_37, wX0_laysSpent_38, wX0_laysSpent_39, wX0_laysSpent_40, wX0_laysSpent_42, wX0_laysSpent_45, wX0_laysSpent_46, wX0_laysSpent_50, wX0_laysSpent_51, wX0_laysSpent_54, wX0_laysSpent_55, wX0_laysSpent_56, wX0_laysSpent_58, wX0_laysSpent_59, wX0_laysSpent_62, wX0_laysSpent_64, wX0_laysSpent_65, wX0_laysSpent_69, wX0_laysSpent_71, wX0_laysSpent_74, wX0_laysSpent_75, wX0_laysSpent_77, wX0_laysSpent_80, wX0_laysSpent_82, wX0_laysSpent_85, wX0_laysSpent_87, wX0_laysSpent_88, wX0_laysSpent_89, wX0_laysSpent_91, wX0_laysSpent_93, wX0_laysSpent_96, wX0_laysSpent_99, wX0_laysSpent_101, wX0_laysSpent_104, wX0_laysSpent_107, wX0_laysSpent_108, wX0_laysSpent_111, wX0_laysSpent_114, wX0_laysSpent_115, wX0_laysSpent_116, wX0_laysSpent_118, wX0_laysSpent_119, wX0_laysSpent_121, wX0_laysSpent_122, wX0_laysSpent_125, wX0_laysSpent_128, wX0_laysSpent_131, wX0_laysSpent_134, if_true, if_false, ↓reduceIte, xpu_s, xpu_n, Option.bind_some, xk_i, xk_r, xk_0, xk_u, xk_l, xk_k, xk_q, rf_s, rf_n, o_TI, o_TL, o_TR, o_NI, o_NL, o_NR, o_XI, o_XL, o_XR, o_RI, o_RL, o_LI, o_LR, o_IL, o_IR, o_II, o_LL, o_RR, o_pII, o_pLL, up_s, q_e1, q_e2, Nat.zero_add, Nat.reduceEqDiff, Nat.reduceAdd, Nat.reduceMul, Nat.reduceSub, Nat.reduceLT, Nat.reduceLeDiff, Nat.reduceDiv, Nat.reduceMod, nI_c, nI_add, up_ne, h16, CO, g, not_true_eq_false, not_false_eq_true, and_self, and_true, true_and, and_false, false_and, or_true, true_or, or_false, false_or, decide_true, decide_false, zb_t, zb_f, zb_0, zb_1, eq_self]
  · refine wX0_laysSpent_67.trans ?_
    simp (disch := first | assumption | exact nI_ne0 (by decide) (by decide) | exact zb_01 | exact Or.inl rfl | exact Or.inr rfl | with_unfolding_all exact id (by assumption) | with_unfolding_all exact id (xix_8 (by assumption) (by omega) (by omega)) | omega) only [wX0_laysSpent_69, wX0_laysSpent_71, if_true, if_false, ↓reduceIte, xpu_s, xpu_n, Option.bind_some, xk_i, xk_r, xk_0, xk_u, xk_l, xk_k, xk_q, rf_s, rf_n, q_e1, q_e2, Nat.zero_add, Nat.reduceEqDiff, Nat.reduceAdd, Nat.reduceMul, Nat.reduceSub, Nat.reduceLT, Nat.reduceLeDiff, Nat.reduceDiv, Nat.reduceMod, i_irr, not_true_eq_false, not_false_eq_true, and_self, and_true, true_and, and_false, false_and, or_true, true_or, or_false, false_or, decide_true, decide_false, zb_t, zb_f, zb_0, zb_1, eq_self]
theorem kX0_laysC {u1 u2 u3 u4 : Slot} (Y : XW h s i A) (W : WFp A) (hc : c ≤ 999) (hp : p < sP_ A) (hz : sOK A c (p + 1) z) : ∃ (z' : rL) (w1 w2 w3 w4 : Slot), E_ (d + 5) mX0_laysSpent 41 [.val (.ref 64), .val (.int (nI c)), .val (.int (nI (sP_ A))), .val (.int (nI p)), u1, u2, u3, u4] [] (pL h 143 z) = E_ (d + 5) mX0_laysSpent 41 [.val (.ref 64), .val (.int (nI c)), .val (.int (nI (sP_ A))), .val (.int (nI p - nI 1)), w1, w2, w3, w4] [] (pL h 143 z') ∧ sOK A c p z' := by
  have h12 := W.2.1
  have p0 : (nI p < 0) = False := nI_ltz (by omega)
  have e1 : E_ (d + 5) mX0_laysSpent 41 [.val (.ref 64), .val (.int (nI c)), .val (.int (nI (sP_ A))), .val (.int (nI p)), u1, u2, u3, u4] [] (pL h 143 z) = E_ (d + 5) mX0_laysSpent 48 [.val (.ref 64), .val (.int (nI c)), .val (.int (nI (sP_ A))), .val (.int (nI p)), .val (.int (nI 0)), u2, u3, u4] [] (pL h 143 z) := by
    refine wX0_laysSpent_41.trans ?_
    simp (disch := first | assumption | exact nI_ne0 (by decide) (by decide) | exact zb_01 | exact Or.inl rfl | exact Or.inr rfl | with_unfolding_all exact id (by assumption) | with_unfolding_all exact id (xix_8 (by assumption) (by omega) (by omega)) | omega) only [wX0_laysSpent_42, wX0_laysSpent_45, wX0_laysSpent_46, if_true, if_false, ↓reduceIte, xpu_s, xpu_n, Option.bind_some, xk_i, xk_r, xk_0, xk_u, xk_l, xk_k, xk_q, rf_s, rf_n, q_e1, q_e2, Nat.zero_add, Nat.reduceEqDiff, Nat.reduceAdd, Nat.reduceMul, Nat.reduceSub, Nat.reduceLT, Nat.reduceLeDiff, Nat.reduceDiv, Nat.reduceMod, p0, not_true_eq_false, not_false_eq_true, and_self, and_true, true_and, and_false, false_and, or_true, true_or, or_false, false_or, decide_true, decide_false, zb_t, zb_f, zb_0, zb_1, eq_self]
  rw [e1]
  refine lpe_st (n := c + 1) (s := ()) (z := (z, u2, u3, u4)) (f := fun _ u => u) (P := fun k _ (z : rL × Slot × Slot × Slot) => sOK A c (p + 1) z.1 ∧ ∀ j, j < k → z.1 (1000 * p + j) = lN (spT A (sP_ A - p) j)) (Q := fun _ r => ∃ (z' : rL) (w1 w2 w3 w4 : Slot), r = E_ (d + 5) mX0_laysSpent 41 [.val (.ref 64), .val (.int (nI c)), .val (.int (nI (sP_ A))), .val (.int (nI p - nI 1)), w1, w2, w3, w4] [] (pL h 143 z') ∧ sOK A c p z') (F := fun j _ z => E_ (d + 5) mX0_laysSpent 48 [.val (.ref 64), .val (.int (nI c)), .val (.int (nI (sP_ A))), .val (.int (nI p)), .val (.int (nI j)), z.2.1, z.2.2.1, z.2.2.2] [] (pL h 143 z.1)) ⟨hz, fun j hj => absurd hj (Nat.not_lt_zero j)⟩ (fun j _ z hj hz => ⟨(va_up z.1 (1000 * p + j) (lN (spB A p (spT A (sP_ A - (p + 1))) j 15)), _, _, _), kX0_laysB Y W hc hp (by omega) hz.1, fun q k h1 h2 h3 => ?_, fun k hk => ?_⟩) (fun _ z hz => ⟨z.1, .val (.int (nI (c + 1))), z.2.1, z.2.2.1, z.2.2.2, ?_, fun q j h1 h2 h3 => ?_⟩)
  · show va_up z.1 _ _ _ = _
    rw [up_ne (by omega)]; exact hz.1 q k h1 h2 h3
  · show va_up z.1 _ _ _ = _
    rcases Nat.lt_or_ge k j with y | y
    · rw [up_ne (by omega)]; exact hz.2 k y
    · have e : k = j := by omega
      rw [e, up_s, spT_s hp]
  · refine wX0_laysSpent_48.trans ?_
    have ck : (nI c < nI (c + 1)) = True := eq_true (nI_lt (by omega) (by omega))
    simp (disch := first | assumption | exact nI_ne0 (by decide) (by decide) | exact zb_01 | exact Or.inl rfl | exact Or.inr rfl | with_unfolding_all exact id (by assumption) | with_unfolding_all exact id (xix_8 (by assumption) (by omega) (by omega)) | omega) only [wX0_laysSpent_50, wX0_laysSpent_51, wX0_laysSpent_128, wX0_laysSpent_131, if_true, if_false, ↓reduceIte, xpu_s, xpu_n, Option.bind_some, xk_i, xk_r, xk_0, xk_u, xk_l, xk_k, xk_q, rf_s, rf_n, q_e1, q_e2, Nat.zero_add, Nat.reduceEqDiff, Nat.reduceAdd, Nat.reduceMul, Nat.reduceSub, Nat.reduceLT, Nat.reduceLeDiff, Nat.reduceDiv, Nat.reduceMod, ck, i_dec, not_true_eq_false, not_false_eq_true, and_self, and_true, true_and, and_false, false_and, or_true, true_or, or_false, false_or, decide_true, decide_false, zb_t, zb_f, zb_0, zb_1, eq_self]
  · rcases Nat.lt_or_ge p q with y | y
    · exact hz.1 q j y h2 h3
    · have e : q = p := by omega
      rw [e]; exact hz.2 j (by omega)
theorem kX0_laysSpent (Y : XW h s i A) (W : WFp A) (hc : c ≤ 999) : ∃ z : rL, C_ (d + 5) mX0_laysSpent [.ref 64, .int (nI c)] h = some (none, pL h 143 z) ∧ sOK A c 0 z := by
  have h12 := W.2.1
  obtain ⟨z, e, hz⟩ := kX0_lays0 (d := d) Y h12 hc
  rw [e]
  have e1 : E_ (d + 5) mX0_laysSpent 37 [.val (.ref 64), .val (.int (nI c)), .val (.int (nI (sP_ A))), .val (.int (nI (c + 1))), .unset, .unset, .unset, .unset] [] (pL h 143 z) = E_ (d + 5) mX0_laysSpent 41 [.val (.ref 64), .val (.int (nI c)), .val (.int (nI (sP_ A))), .val (.int (nI (sP_ A - 0) - nI 1)), .unset, .unset, .unset, .unset] [] (pL h 143 z) := by
    simp (disch := first | assumption | exact nI_ne0 (by decide) (by decide) | exact zb_01 | exact Or.inl rfl | exact Or.inr rfl | with_unfolding_all exact id (by assumption) | with_unfolding_all exact id (xix_8 (by assumption) (by omega) (by omega)) | omega) only [wX0_laysSpent_37, wX0_laysSpent_38, wX0_laysSpent_39, wX0_laysSpent_40, if_true, if_false, ↓reduceIte, xpu_s, xpu_n, Option.bind_some, xk_i, xk_r, xk_0, xk_u, xk_l, xk_k, xk_q, rf_s, rf_n, q_e1, q_e2, Nat.zero_add, Nat.reduceEqDiff, Nat.reduceAdd, Nat.reduceMul, Nat.reduceSub, Nat.reduceLT, Nat.reduceLeDiff, Nat.reduceDiv, Nat.reduceMod, Nat.sub_zero]
  rw [e1]
  refine lpe_st (n := sP_ A) (s := ()) (z := (z, .unset, .unset, .unset, .unset)) (f := fun _ u => u) (P := fun r _ (z : rL × Slot × Slot × Slot × Slot) => sOK A c (sP_ A - r) z.1) (Q := fun _ r => ∃ z : rL, r = some (none, pL h 143 z) ∧ sOK A c 0 z) (F := fun r _ z => E_ (d + 5) mX0_laysSpent 41 [.val (.ref 64), .val (.int (nI c)), .val (.int (nI (sP_ A))), .val (.int (nI (sP_ A - r) - nI 1)), z.2.1, z.2.2.1, z.2.2.2.1, z.2.2.2.2] [] (pL h 143 z.1)) ?_ (fun r _ z hr hz => ?_) (fun _ z hz => ⟨z.1, ?_, ?_⟩)
  · intro q j h1 h2 h3
    have e : q = sP_ A := by omega
    rw [e, Nat.sub_self]
    exact hz j h3
  · have e : nI (sP_ A - r) - nI 1 = nI (sP_ A - (r + 1)) := by rw [pk_sub (by omega)]; congr 1
    obtain ⟨z', w1, w2, w3, w4, e2, hz'⟩ := kX0_laysC (d := d) (p := sP_ A - (r + 1)) (u1 := z.2.1) (u2 := z.2.2.1) (u3 := z.2.2.2.1) (u4 := z.2.2.2.2) Y W hc (by omega) (by rw [show sP_ A - (r + 1) + 1 = sP_ A - r by omega]; exact hz)
    refine ⟨(z', w1, w2, w3, w4), ?_, hz'⟩
    rw [e]
    exact e2
  · rw [Nat.sub_self]
    have e : (nI 0 - nI 1 < 0) = True := eq_true (by decide)
    refine wX0_laysSpent_41.trans ?_
    simp (disch := first | assumption | exact nI_ne0 (by decide) (by decide) | exact zb_01 | exact Or.inl rfl | exact Or.inr rfl | with_unfolding_all exact id (by assumption) | with_unfolding_all exact id (xix_8 (by assumption) (by omega) (by omega)) | omega) only [wX0_laysSpent_42, wX0_laysSpent_134, if_true, if_false, ↓reduceIte, xpu_s, xpu_n, Option.bind_some, xk_i, xk_r, xk_0, xk_u, xk_l, xk_k, xk_q, rf_s, rf_n, q_e1, q_e2, Nat.zero_add, Nat.reduceEqDiff, Nat.reduceAdd, Nat.reduceMul, Nat.reduceSub, Nat.reduceLT, Nat.reduceLeDiff, Nat.reduceDiv, Nat.reduceMod, e, not_true_eq_false, not_false_eq_true, and_self, and_true, true_and, and_false, false_and, or_true, true_or, or_false, false_or, decide_true, decide_false, zb_t, zb_f, zb_0, zb_1, eq_self]
  · have hz : sOK A c (sP_ A - sP_ A) z.1 := hz
    rw [Nat.sub_self] at hz
    exact hz
end
