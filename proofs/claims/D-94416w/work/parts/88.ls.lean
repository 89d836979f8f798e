/-! LISTS that grow: what is new, what stays -/
/-- a heap goes on: at most so many cells of so many slots are new, old places stay but where W -/
def GX (W : Nat → Prop) (h h1 : xH) (k s : Nat) : Prop := oX h ≤ oX h1 ∧ oC h1 ≤ oC h + k ∧ oS h1 ≤ oS h + s ∧ (∀ a, oX h1 ≤ a → oT h1 a = oT h a) ∧ (∀ a, a < oX h → oT h1 a = oT h a ∧ oN h1 a = oN h a) ∧ ∀ a, a < oX h → ¬ W a → sm h h1 a
section
variable {W V : Nat → Prop} {h h1 h2 : xH} {k s k2 s2 a t n : Nat}
theorem GX_refl : GX W h h 0 0 := ⟨Nat.le_refl _, Nat.le_refl _, Nat.le_refl _, fun _ _ => rfl, fun _ _ => ⟨rfl, rfl⟩, fun _ _ _ => sm_refl⟩
theorem GX_trans (x : GX W h h1 k s) (y : GX V h1 h2 k2 s2) (hv : ∀ a, a < oX h → V a → W a) : GX W h h2 (k + k2) (s + s2) := by
  obtain ⟨x1, x2, x3, x4, x5, x6⟩ := x
  obtain ⟨y1, y2, y3, y4, y5, y6⟩ := y
  refine ⟨by omega, by omega, by omega, fun a ha => (y4 a ha).trans (x4 a (by omega)), fun a ha => ⟨((y5 a (by omega)).1).trans (x5 a ha).1, ((y5 a (by omega)).2).trans (x5 a ha).2⟩, fun a ha hw => sm_trans (x6 a ha hw) (y6 a (by omega) (fun z => hw (hv a ha z)))⟩
theorem GX_le (x : GX W h h1 k s) (hk : k ≤ k2) (hs : s ≤ s2) : GX W h h1 k2 s2 := ⟨x.1, by have := x.2.1; omega, by have := x.2.2.1; omega, x.2.2.2⟩
theorem GX_W (x : GX V h h1 k s) (hv : ∀ a, a < oX h → V a → W a) : GX W h h1 k s := ⟨x.1, x.2.1, x.2.2.1, x.2.2.2.1, x.2.2.2.2.1, fun a ha hw => x.2.2.2.2.2 a ha (fun z => hw (hv a ha z))⟩
theorem sm_O (ha : ¬ a = oX h) : sm h (pO h t n) a := by
  unfold sm pO oT oN oI oR oL
  dsimp only
  unfold va_up
  rw [if_neg ha, if_neg ha, if_neg ha, if_neg ha, if_neg ha]
  exact ⟨rfl, rfl, rfl, rfl, rfl⟩
theorem o_TO {b : Nat} : oT (pO h t n) b = if b = oX h then t else oT h b := rfl
theorem o_NO {b : Nat} : oN (pO h t n) b = if b = oX h then n else oN h b := rfl
theorem o_RO {b : Nat} : oR (pO h t n) b = if b = oX h then (fun _ => none) else oR h b := rfl
theorem o_IO {b : Nat} : oI (pO h t n) b = if b = oX h then (fun _ => 0) else oI h b := rfl
theorem o_LO {b : Nat} : oL (pO h t n) b = if b = oX h then (fun _ => 0) else oL h b := rfl
theorem o_XO : oX (pO h t n) = oX h + 1 := rfl
theorem GX_O : GX W h (pO h t n) 1 n := ⟨Nat.le_succ _, Nat.le_refl _, Nat.le_refl _, fun a ha => by
    rw [o_TO, if_neg (by rw [o_XO] at ha; omega)], fun a ha => ⟨by rw [o_TO, if_neg (by omega)], by rw [o_NO, if_neg (by omega)]⟩, fun a ha _ => sm_O (by omega)⟩
theorem GX_I {f : rI} (hw : a < oX h → W a) : GX W h (pI h a f) 0 0 := ⟨Nat.le_refl _, Nat.le_refl _, Nat.le_refl _, fun _ _ => rfl, fun _ _ => ⟨rfl, rfl⟩, fun b hb hn => sm_I sm_refl (fun z => hn (by rw [z] at hb ⊢; exact hw hb))⟩
theorem GX_L {f : rL} (hw : a < oX h → W a) : GX W h (pL h a f) 0 0 := ⟨Nat.le_refl _, Nat.le_refl _, Nat.le_refl _, fun _ _ => rfl, fun _ _ => ⟨rfl, rfl⟩, fun b hb hn => sm_L sm_refl (fun z => hn (by rw [z] at hb ⊢; exact hw hb))⟩
theorem GX_R {f : Nat → Option Nat} (hw : a < oX h → W a) : GX W h (pR h a f) 0 0 := ⟨Nat.le_refl _, Nat.le_refl _, Nat.le_refl _, fun _ _ => rfl, fun _ _ => ⟨rfl, rfl⟩, fun b hb hn => sm_R sm_refl (fun z => hn (by rw [z] at hb ⊢; exact hw hb))⟩
/-- nothing is above the heap's end -/
def TX (h : xH) : Prop := ∀ a, oX h ≤ a → oT h a = 0
theorem TX_lt (T : TX h) (ha : ¬ oT h a = 0) : a < oX h := by
  rcases Nat.lt_or_ge a (oX h) with z | z
  · exact z
  · exact absurd (T a z) ha
theorem TX_G (T : TX h) (x : GX W h h1 k s) : TX h1 := fun a ha => (x.2.2.2.1 a ha).trans (T a (by have := x.1; omega))
end
theorem half_c : ∀ c, c < 64 → nI c >>> (nI 1 &&& 31) = nI (c / 2) := by decide
/-- how long an array is when it has grown -/
def gc (c : Nat) : Nat := c + (if 1 < c / 2 then c / 2 else 1)
section
variable {d : Nat} {h : xH} {l n e t : Nat}
theorem kJ7_newLength {c : Nat} (hc : c < 64) : C_ d mJ7_newLength [.int (nI c), .int (nI 1), .int (nI (c / 2))] h = some (some (.int (nI (gc c))), h) := by
  have m : xP 6 [.int (nI 1), .int (nI (c / 2))] h = some (some (.int (nI (if 1 < c / 2 then c / 2 else 1))), h) := by
    show some (some (Value.int (if nI 1 < nI (c / 2) then nI (c / 2) else nI 1)), h) = _
    by_cases q : 1 < c / 2
    · rw [if_pos (nI_lt q (by omega)), if_pos q]
    · rw [if_neg (nI_nlt (by omega) (by omega)), if_neg q]
  have e : nI c + nI (if 1 < c / 2 then c / 2 else 1) = nI (gc c) := nI_add _ _
  have g : gc c < 128 := by unfold gc; split <;> omega
  have g0 : 0 < gc c := by unfold gc; split <;> omega
  have g1 : ¬ 2147483639 < gc c := by omega
  have g2 : (nI 0 < nI (gc c)) = True := eq_true (nI_lt g0 (by omega))
  simp (disch := first | assumption | exact nI_ne0 (by decide) (by decide) | exact zb_01 | exact Or.inl rfl | exact Or.inr rfl | with_unfolding_all exact id (by assumption) | with_unfolding_all exact id (xix_8 (by assumption) (by omega) (by omega)) | omega) only [wJ7_newLength_e, wJ7_newLength_0, wJ7_newLength_1, wJ7_newLength_2, wJ7_newLength_3, wJ7_newLength_6, wJ7_newLength_7, wJ7_newLength_8, wJ7_newLength_9, wJ7_newLength_10, wJ7_newLength_13, wJ7_newLength_14, wJ7_newLength_16, wJ7_newLength_19, wJ7_newLength_20, wJ7_newLength_21, wJ7_newLength_22, wJ7_newLength_26, if_true, if_false, ↓reduceIte, xpu_s, xpu_n, Option.bind_some, xk_i, xk_r, xk_0, xk_u, xk_l, xk_k, xk_q, rf_s, rf_n, o_TI, o_TL, o_TR, o_NI, o_NL, o_NR, o_XI, o_XL, o_XR, o_RI, o_RL, o_LI, o_LR, o_IL, o_IR, o_II, o_LL, o_RR, o_pII, o_pLL, up_s, q_e1, q_e2, Nat.zero_add, Nat.reduceEqDiff, Nat.reduceAdd, Nat.reduceMul, Nat.reduceSub, Nat.reduceLT, Nat.reduceLeDiff, Nat.reduceDiv, Nat.reduceMod, nI_c, nI_add, up_ne, m, e, g2, g1, nI_ltP]
/-- the heap that growing leaves -/
def hGr (h : xH) (l : Nat) : xH := pR (pR (pO h 45 (gc (oN h (rq h l 1)))) (oX h) (fun j => if j < oN h (rq h l 1) then oR h (rq h l 1) j else none)) l (va_up (oR h l) 1 (some (oX h)))
theorem kJ2_grow (T : TX h) (h4 : oT h l = 4) (h1 : oR h l 1 = some (rq h l 1)) (h45 : oT h (rq h l 1) = 45) (hn : oI h l 2 = nI n) (full : n = oN h (rq h l 1)) (c2 : 0 < n) (c3 : n < 64) (u : xuni h (oR h (rq h l 1)) n = true) : C_ (d + 2) mJ2_grow [.ref l] h = some (some (.ref (oX h)), hGr h l) := by
  have lx := TX_lt T (a := l) (by omega)
  have gl : n ≤ gc n := by unfold gc; omega
  have g128 : gc n < 128 := by unfold gc; split <;> omega
  have gi : (nI (gc n)).toInt = (gc n : Int) := nI_toInt (by omega)
  have gcl : (nI (gc n)).toNatClampNeg = gc n := nI_clamp (by omega)
  have cp : xP 2 [.ref (rq h l 1), .int (nI (gc n))] h = some (some (.ref (oX h)), pR (pO h 45 (gc n)) (oX h) (fun j => if j < n then oR h (rq h l 1) j else none)) := by
    show (if _ then _ else _) = _
    rw [gi, gcl, ← full, Nat.min_eq_left gl]
    exact if_pos ⟨h45, by omega, by omega, by omega, u⟩
  have nl := kJ7_newLength (d := d) (h := h) (c := n) (by omega)
  have g1 : (nI (n + 1) - nI n) = nI 1 := by rw [pk_sub (by omega)]; congr 1; omega
  have hlf := half_c n (by omega)
  have ar : 39 ≤ oT h (rq h l 1) ∧ oT h (rq h l 1) ≤ 48 := by omega
  have n0 : (0 < nI n) = True := by rw [nI_gz (by omega)]; exact eq_true c2
  have lne : ¬ l = oX h := by omega
  have t4 : oT (pR (pO h 45 (gc n)) (oX h) (fun j => if j < n then oR h (rq h l 1) j else none)) l = 4 := by
    show oT (pO h 45 (gc n)) l = 4
    rw [o_TO, if_neg lne]; exact h4
  have rl : oR (pR (pO h 45 (gc n)) (oX h) (fun j => if j < n then oR h (rq h l 1) j else none)) l = oR h l := by
    rw [o_RR, if_neg lne, o_RO, if_neg lne]
  have g2 : C_ (d + 1) mJ2_grow_2 [.ref l, .int (nI (n + 1))] h = some (some (.ref (oX h)), hGr h l) := by
    unfold hGr
    rw [← full]
    simp (disch := first | exact t4 | first | assumption | exact nI_ne0 (by decide) (by decide) | exact zb_01 | exact Or.inl rfl | exact Or.inr rfl | with_unfolding_all exact id (by assumption) | with_unfolding_all exact id (xix_8 (by assumption) (by omega) (by omega)) | omega) only [wJ2_grow_2_e, wJ2_grow_2_0, wJ2_grow_2_1, wJ2_grow_2_4, wJ2_grow_2_5, wJ2_grow_2_6, wJ2_grow_2_7, wJ2_grow_2_10, wJ2_grow_2_11, wJ2_grow_2_20, wJ2_grow_2_21, wJ2_grow_2_22, wJ2_grow_2_23, wJ2_grow_2_24, wJ2_grow_2_25, wJ2_grow_2_26, wJ2_grow_2_27, wJ2_grow_2_30, wJ2_grow_2_31, wJ2_grow_2_32, wJ2_grow_2_33, wJ2_grow_2_36, wJ2_grow_2_37, wJ2_grow_2_40, wJ2_grow_2_41, wJ2_grow_2_44, wJ2_grow_2_45, wJ2_grow_2_46, wJ2_grow_2_48, wJ2_grow_2_49, wJ2_grow_2_52, wJ2_grow_2_55, wJ2_grow_2_56, wJ2_grow_2_59, if_true, if_false, ↓reduceIte, xpu_s, xpu_n, Option.bind_some, xk_i, xk_r, xk_0, xk_u, xk_l, xk_k, xk_q, rf_s, rf_n, q_e1, q_e2, Nat.zero_add, Nat.reduceEqDiff, Nat.reduceAdd, Nat.reduceMul, Nat.reduceSub, Nat.reduceLT, Nat.reduceLeDiff, Nat.reduceDiv, Nat.reduceMod, h1, ← full, n0, g1, hlf, nl, cp, rl]
  simp (disch := first | assumption | exact nI_ne0 (by decide) (by decide) | exact zb_01 | exact Or.inl rfl | exact Or.inr rfl | with_unfolding_all exact id (by assumption) | with_unfolding_all exact id (xix_8 (by assumption) (by omega) (by omega)) | omega) only [wJ2_grow_e, wJ2_grow_0, wJ2_grow_1, wJ2_grow_2, wJ2_grow_5, wJ2_grow_6, wJ2_grow_7, wJ2_grow_10, if_true, if_false, ↓reduceIte, xpu_s, xpu_n, Option.bind_some, xk_i, xk_r, xk_0, xk_u, xk_l, xk_k, xk_q, rf_s, rf_n, o_TI, o_TL, o_TR, o_NI, o_NL, o_NR, o_XI, o_XL, o_XR, o_RI, o_RL, o_LI, o_LR, o_IL, o_IR, o_II, o_LL, o_RR, o_pII, o_pLL, up_s, q_e1, q_e2, Nat.zero_add, Nat.reduceEqDiff, Nat.reduceAdd, Nat.reduceMul, Nat.reduceSub, Nat.reduceLT, Nat.reduceLeDiff, Nat.reduceDiv, Nat.reduceMod, nI_c, nI_add, up_ne, hn, g2]
/-- a list that may be added to: n of one tag, its array not too long -/
def LG (h : xH) (l n t : Nat) : Prop := LSn h l n ∧ 2 ≤ oN h (rq h l 1) ∧ oN h (rq h l 1) ≤ 24 ∧ ∀ k, k < n → oT h (li h l k) = t
theorem all_of {p : Nat → Bool} {n : Nat} (h : ∀ i, i < n → p i = true) : (List.range n).all p = true := by
  rw [List.all_eq_true]
  intro i hi
  exact h i (List.mem_range.mp hi)
theorem LG_uni (G : LG h l n t) (ht : 1 ≤ t ∧ t ≤ 19) : xuni h (oR h (rq h l 1)) n = true := by
  obtain ⟨⟨l1, l2, l3, l4, l5, l6⟩, g1, g2, g3⟩ := G
  refine all_of fun i hi => ?_
  have e1 := l6 i hi
  have e0 := l6 0 (by omega)
  have t1 := g3 i hi
  have t0 := g3 0 (by omega)
  unfold li at t1 t0
  rw [e1]
  dsimp only
  rw [e0]
  dsimp only
  rw [t1, t0]
  have a1 : Nat.ble 1 t = true := Nat.ble_eq.mpr ht.1
  have a2 : Nat.ble t 19 = true := Nat.ble_eq.mpr ht.2
  rw [a1, a2]
  simp
theorem xel_45 {u : Nat} (h : 1 ≤ u ∧ u ≤ 19) : xel 45 u = true := decide_eq_true h
theorem kJ2_add (T : TX h) (G : LG h l n t) (hn : n ≤ 12) (ht : 1 ≤ t ∧ t ≤ 19) (he : oT h e = t) : ∃ h1, C_ (d + 4) mJ2_add [.ref l, .ref e] h = some (some (.int (nI 1)), h1) ∧ LG h1 l (n + 1) t ∧ (∀ k, k < n → li h1 l k = li h l k) ∧ li h1 l n = e ∧ (rq h1 l 1 = rq h l 1 ∨ (rq h1 l 1 = oX h ∧ oX h < oX h1)) ∧ GX (fun a => a = l ∨ a = rq h l 1) h h1 1 40 ∧ oX h1 ≤ oX h + 1 := by
  have uni := LG_uni G ht
  obtain ⟨⟨l1, l2, l3, l4, l5, l6⟩, g1, g2, g3⟩ := G
  have lx := TX_lt T (a := l) (by omega)
  have ax := TX_lt T (a := rq h l 1) (by omega)
  have la : ¬ l = rq h l 1 := fun z => by rw [← z] at l4; omega
  have ar : 39 ≤ oT h (rq h l 1) ∧ oT h (rq h l 1) ≤ 48 := by omega
  -- the count of changes
  have hm : ∃ m, m = pI h l (va_up (oI h l) 0 (oI h l 0 + nI 1)) := ⟨_, rfl⟩
  obtain ⟨m, hm⟩ := hm
  have mT : oT m = oT h := by rw [hm]; rfl
  have mN : oN m = oN h := by rw [hm]; rfl
  have mR : oR m = oR h := by rw [hm]; rfl
  have mX : oX m = oX h := by rw [hm]; rfl
  have mI : ∀ a j, a ≠ l ∨ j ≠ 0 → oI m a j = oI h a j := fun a j hj => by
    rw [hm, o_II]
    by_cases z : a = l
    · rw [if_pos z, up_ne (hj.resolve_left (fun y => y z)), z]
    · rw [if_neg z]
  have mq : rq m l 1 = rq h l 1 := by unfold rq; rw [mR]
  have m2 : oI m l 2 = nI n := (mI l 2 (Or.inr (by omega))).trans l2
  have Gm : GX (fun a => a = l ∨ a = rq h l 1) h m 0 0 := by rw [hm]; exact GX_I (fun _ => Or.inl rfl)
  have Tm : TX m := TX_G T Gm
  by_cases full : n = oN h (rq h l 1)
  · -- it grows
    have gr := kJ2_grow (d := d) (l := l) (n := n) Tm (by rw [mT]; exact l1) (by rw [mR, mq]; exact l3) (by rw [mT, mq]; exact l4) m2 (by rw [mN, mq]; exact full) (by omega) (by omega) (by rw [mR, mq]; unfold xuni; rw [mT]; exact uni)
    rw [mX] at gr
    have gcn : gc n ≤ 40 ∧ n < gc n := by unfold gc; split <;> omega
    obtain ⟨g, hg⟩ : ∃ g, g = hGr m l := ⟨_, rfl⟩
    rw [← hg] at gr
    have gX : oX g = oX h + 1 := by rw [hg]; show oX m + 1 = _; rw [mX]
    have gT : ∀ a, a ≠ oX h → oT g a = oT h a := fun a ha => by
      rw [hg]
      show oT (pO m 45 (gc (oN m (rq m l 1)))) a = _
      rw [o_TO, mX, if_neg ha, mT]
    have gTx : oT g (oX h) = 45 := by
      rw [hg]
      show oT (pO m 45 (gc (oN m (rq m l 1)))) (oX h) = _
      rw [o_TO, mX, if_pos rfl]
    have gNx : oN g (oX h) = gc n := by
      rw [hg]
      show oN (pO m 45 (gc (oN m (rq m l 1)))) (oX h) = _
      rw [o_NO, mX, if_pos rfl, mN, mq, ← full]
    have gRl : oR g l = va_up (oR h l) 1 (some (oX h)) := by
      rw [hg]
      unfold hGr
      rw [o_RR, if_pos rfl, mR, mX]
    have gRx : oR g (oX h) = fun j => if j < n then oR h (rq h l 1) j else none := by
      rw [hg]
      unfold hGr
      rw [o_RR, if_neg (by rw [← mX] at lx; omega), o_RR, mX, if_pos rfl, mN, mq, mR, ← full]
    have gI : ∀ a, a ≠ oX h → oI g a = oI m a := fun a ha => by
      rw [hg]
      show oI (pO m 45 (gc (oN m (rq m l 1)))) a = _
      rw [o_IO, mX, if_neg ha]
    have g2' : oI g l 2 = nI n := by rw [gI l (by omega)]; exact m2
    have Gg : GX (fun a => a = l ∨ a = rq h l 1) m g 1 40 := by
      rw [hg]
      unfold hGr
      have e40 : gc (oN m (rq m l 1)) ≤ 40 := by rw [mN, mq, ← full]; exact gcn.1
      exact GX_le (GX_trans (GX_trans (GX_O (W := fun a => a = l ∨ a = rq h l 1)) (GX_R (W := fun a => a = oX m) (fun _ => rfl)) (fun a ha z => by omega)) (GX_R (W := fun a => a = l ∨ a = rq h l 1) (fun _ => Or.inl rfl)) (fun _ _ z => z)) (by omega) (by omega)
    have tl : oT g l = 4 := by rw [gT l (by omega)]; exact l1
    have te : oT g e = t := by rw [gT e (fun z => by rw [z, T _ (Nat.le_refl _)] at he; omega)]; exact he
    have xe : xel (oT g (oX h)) (oT g e) = true := by rw [gTx, te]; exact xel_45 ht
    have xi : xix (nI n) (oN g (oX h)) = true := by rw [gNx]; exact xix_k gcn.2 (by omega)
    have a2 : C_ (d + 3) mJ2_add_2 [.ref l, .ref e, .ref (rq h l 1), .int (nI n)] m = some (none, pI (pR g (oX h) (va_up (oR g (oX h)) n (some e))) l (va_up (oI g l) 2 (nI (n + 1)))) := by
      have arm : 39 ≤ oT m (rq h l 1) ∧ oT m (rq h l 1) ≤ 48 := by rw [mT]; exact ar
      have nm : oN m (rq h l 1) = n := by rw [mN]; exact full.symm
      have tm : oT m l = 4 := by rw [mT]; exact l1
      have tl2 : oT (pR g (oX h) (va_up (oR g (oX h)) n (some e))) l = 4 := tl
      simp (disch := first | exact xe | exact xi | exact tl2 | first | assumption | exact nI_ne0 (by decide) (by decide) | exact zb_01 | exact Or.inl rfl | exact Or.inr rfl | with_unfolding_all exact id (by assumption) | with_unfolding_all exact id (xix_8 (by assumption) (by omega) (by omega)) | omega) only [wJ2_add_2_e, wJ2_add_2_0, wJ2_add_2_1, wJ2_add_2_2, wJ2_add_2_3, wJ2_add_2_6, wJ2_add_2_7, wJ2_add_2_10, wJ2_add_2_11, wJ2_add_2_12, wJ2_add_2_13, wJ2_add_2_14, wJ2_add_2_14n, wJ2_add_2_15, wJ2_add_2_16, wJ2_add_2_17, wJ2_add_2_18, wJ2_add_2_19, wJ2_add_2_22, if_true, if_false, ↓reduceIte, xpu_s, xpu_n, Option.bind_some, xk_i, xk_r, xk_0, xk_u, xk_l, xk_k, xk_q, rf_s, rf_n, q_e1, q_e2, Nat.zero_add, Nat.reduceEqDiff, Nat.reduceAdd, Nat.reduceMul, Nat.reduceSub, Nat.reduceLT, Nat.reduceLeDiff, Nat.reduceDiv, Nat.reduceMod, nI_c, nI_add, nm, gr, o_IR]
    refine ⟨pI (pR g (oX h) (va_up (oR g (oX h)) n (some e))) l (va_up (oI g l) 2 (nI (n + 1))), ?_, ?_⟩
    · have tm : oT m l = 4 := by rw [mT]; exact l1
      have rm : oR m l 1 = some (rq h l 1) := by rw [mR]; exact l3
      rw [hm] at a2 tm rm m2
      simp (disch := first | assumption | exact nI_ne0 (by decide) (by decide) | exact zb_01 | exact Or.inl rfl | exact Or.inr rfl | with_unfolding_all exact id (by assumption) | with_unfolding_all exact id (xix_8 (by assumption) (by omega) (by omega)) | omega) only [wJ2_add_e, wJ2_add_0, wJ2_add_1, wJ2_add_2, wJ2_add_5, wJ2_add_6, wJ2_add_7, wJ2_add_10, wJ2_add_11, wJ2_add_12, wJ2_add_13, wJ2_add_16, wJ2_add_17, wJ2_add_20, wJ2_add_23, wJ2_add_24, if_true, if_false, ↓reduceIte, xpu_s, xpu_n, Option.bind_some, xk_i, xk_r, xk_0, xk_u, xk_l, xk_k, xk_q, rf_s, rf_n, q_e1, q_e2, Nat.zero_add, Nat.reduceEqDiff, Nat.reduceAdd, Nat.reduceMul, Nat.reduceSub, Nat.reduceLT, Nat.reduceLeDiff, Nat.reduceDiv, Nat.reduceMod, nI_c, nI_add, rm, m2, a2]
    · have q1 : rq (pI (pR g (oX h) (va_up (oR g (oX h)) n (some e))) l (va_up (oI g l) 2 (nI (n + 1)))) l 1 = oX h := by
        unfold rq
        show ((oR (pR g (oX h) _) l) 1).getD 0 = _
        rw [o_RR, if_neg (by omega), gRl, up_s]
        rfl
      have rx : oR (pI (pR g (oX h) (va_up (oR g (oX h)) n (some e))) l (va_up (oI g l) 2 (nI (n + 1)))) (oX h) = va_up (oR g (oX h)) n (some e) := by
        show oR (pR g (oX h) _) (oX h) = _
        rw [o_RR, if_pos rfl]
      have lik : ∀ k, k < n → li (pI (pR g (oX h) (va_up (oR g (oX h)) n (some e))) l (va_up (oI g l) 2 (nI (n + 1)))) l k = li h l k := fun k hk => by
        unfold li
        rw [q1]
        unfold rq
        rw [rx, up_ne (by omega), gRx]
        show (if k < n then oR h (rq h l 1) k else none).getD 0 = _
        rw [if_pos hk]
        rfl
      have lin : li (pI (pR g (oX h) (va_up (oR g (oX h)) n (some e))) l (va_up (oI g l) 2 (nI (n + 1)))) l n = e := by
        unfold li
        rw [q1]
        unfold rq
        rw [rx, up_s]
        rfl
      refine ⟨⟨⟨tl, ?_, ?_, ?_, ?_, fun k hk => ?_⟩, ?_, ?_, fun k hk => ?_⟩, lik, lin, Or.inr ⟨q1, ?_⟩, ?_, ?_⟩
      · rw [o_II, if_pos rfl, up_s]
      · rw [q1]
        show oR (pR g (oX h) _) l 1 = _
        rw [o_RR, if_neg (by omega), gRl, up_s]
      · rw [q1]; exact gTx
      · rw [q1]; show n + 1 ≤ oN g (oX h); rw [gNx]; omega
      · rw [q1]
        unfold rq
        rw [rx]
        by_cases z : k = n
        · rw [z, up_s]; rfl
        · rw [up_ne z, gRx]
          show (if k < n then oR h (rq h l 1) k else none) = some ((if k < n then oR h (rq h l 1) k else none).getD 0)
          rw [if_pos (by omega), l6 k (by omega)]
          rfl
      · rw [q1]; show 2 ≤ oN g (oX h); rw [gNx]; omega
      · rw [q1]; show oN g (oX h) ≤ 24; rw [gNx]; unfold gc; split <;> omega
      · show oT g _ = t
        by_cases z : k = n
        · rw [z, lin]; exact te
        · rw [lik k (by omega), gT _ (fun y => by have := g3 k (by omega); rw [y, T _ (Nat.le_refl _)] at this; omega)]
          exact g3 k (by omega)
      · show oX h < oX g; omega
      · refine GX_le (GX_trans (GX_trans (GX_trans Gm Gg (fun _ _ z => z)) (GX_R (W := fun a => a = oX h) (fun _ => rfl)) (fun a ha z => by omega)) (GX_I (W := fun a => a = l ∨ a = rq h l 1) (fun _ => Or.inl rfl)) (fun _ _ z => z)) (by omega) (by omega)
      · show oX g ≤ _; omega
  · -- there is room
    have nlt : n < oN h (rq h l 1) := by omega
    have te : oT m e = t := by rw [mT]; exact he
    have xe : xel (oT m (rq h l 1)) (oT m e) = true := by rw [mT, l4, he]; exact xel_45 ht
    have xi : xix (nI n) (oN m (rq h l 1)) = true := by rw [mN]; exact xix_k nlt (by omega)
    have nef : (nI n = nI (oN h (rq h l 1))) = False := by rw [nI_eqI (by omega) (by omega)]; exact eq_false full
    have a2 : C_ (d + 3) mJ2_add_2 [.ref l, .ref e, .ref (rq h l 1), .int (nI n)] m = some (none, pI (pR m (rq h l 1) (va_up (oR m (rq h l 1)) n (some e))) l (va_up (oI m l) 2 (nI (n + 1)))) := by
      have arm : 39 ≤ oT m (rq h l 1) ∧ oT m (rq h l 1) ≤ 48 := by rw [mT]; exact ar
      have tm : oT m l = 4 := by rw [mT]; exact l1
      have tl2 : oT (pR m (rq h l 1) (va_up (oR m (rq h l 1)) n (some e))) l = 4 := tm
      have nm : oN m (rq h l 1) = oN h (rq h l 1) := by rw [mN]
      simp (disch := first | exact xe | exact xi | exact tl2 | first | assumption | exact nI_ne0 (by decide) (by decide) | exact zb_01 | exact Or.inl rfl | exact Or.inr rfl | with_unfolding_all exact id (by assumption) | with_unfolding_all exact id (xix_8 (by assumption) (by omega) (by omega)) | omega) only [wJ2_add_2_e, wJ2_add_2_0, wJ2_add_2_1, wJ2_add_2_2, wJ2_add_2_3, wJ2_add_2_6, wJ2_add_2_7, wJ2_add_2_10, wJ2_add_2_11, wJ2_add_2_12, wJ2_add_2_13, wJ2_add_2_14, wJ2_add_2_14n, wJ2_add_2_15, wJ2_add_2_16, wJ2_add_2_17, wJ2_add_2_18, wJ2_add_2_19, wJ2_add_2_22, if_true, if_false, ↓reduceIte, xpu_s, xpu_n, Option.bind_some, xk_i, xk_r, xk_0, xk_u, xk_l, xk_k, xk_q, rf_s, rf_n, q_e1, q_e2, Nat.zero_add, Nat.reduceEqDiff, Nat.reduceAdd, Nat.reduceMul, Nat.reduceSub, Nat.reduceLT, Nat.reduceLeDiff, Nat.reduceDiv, Nat.reduceMod, nI_c, nI_add, nm, nef, o_IR]
    refine ⟨pI (pR m (rq h l 1) (va_up (oR m (rq h l 1)) n (some e))) l (va_up (oI m l) 2 (nI (n + 1))), ?_, ?_⟩
    · have tm : oT m l = 4 := by rw [mT]; exact l1
      have rm : oR m l 1 = some (rq h l 1) := by rw [mR]; exact l3
      rw [hm] at a2 tm rm m2 ⊢
      simp (disch := first | assumption | exact nI_ne0 (by decide) (by decide) | exact zb_01 | exact Or.inl rfl | exact Or.inr rfl | with_unfolding_all exact id (by assumption) | with_unfolding_all exact id (xix_8 (by assumption) (by omega) (by omega)) | omega) only [wJ2_add_e, wJ2_add_0, wJ2_add_1, wJ2_add_2, wJ2_add_5, wJ2_add_6, wJ2_add_7, wJ2_add_10, wJ2_add_11, wJ2_add_12, wJ2_add_13, wJ2_add_16, wJ2_add_17, wJ2_add_20, wJ2_add_23, wJ2_add_24, if_true, if_false, ↓reduceIte, xpu_s, xpu_n, Option.bind_some, xk_i, xk_r, xk_0, xk_u, xk_l, xk_k, xk_q, rf_s, rf_n, q_e1, q_e2, Nat.zero_add, Nat.reduceEqDiff, Nat.reduceAdd, Nat.reduceMul, Nat.reduceSub, Nat.reduceLT, Nat.reduceLeDiff, Nat.reduceDiv, Nat.reduceMod, nI_c, nI_add, rm, m2, a2]
    · have q1 : rq (pI (pR m (rq h l 1) (va_up (oR m (rq h l 1)) n (some e))) l (va_up (oI m l) 2 (nI (n + 1)))) l 1 = rq h l 1 := by
        unfold rq
        show ((oR (pR m (rq h l 1) _) l) 1).getD 0 = _
        rw [o_RR, if_neg la, mR]
      have rx : oR (pI (pR m (rq h l 1) (va_up (oR m (rq h l 1)) n (some e))) l (va_up (oI m l) 2 (nI (n + 1)))) (rq h l 1) = va_up (oR h (rq h l 1)) n (some e) := by
        show oR (pR m (rq h l 1) _) (rq h l 1) = _
        rw [o_RR, if_pos rfl, mR]
      have lik : ∀ k, k < n → li (pI (pR m (rq h l 1) (va_up (oR m (rq h l 1)) n (some e))) l (va_up (oI m l) 2 (nI (n + 1)))) l k = li h l k := fun k hk => by
        unfold li
        rw [q1]
        show ((oR _ (rq h l 1)) k).getD 0 = _
        rw [rx, up_ne (by omega)]
        rfl
      have lin : li (pI (pR m (rq h l 1) (va_up (oR m (rq h l 1)) n (some e))) l (va_up (oI m l) 2 (nI (n + 1)))) l n = e := by
        unfold li
        rw [q1]
        show ((oR _ (rq h l 1)) n).getD 0 = _
        rw [rx, up_s]
        rfl
      refine ⟨⟨⟨by show oT m l = 4; rw [mT]; exact l1, ?_, ?_, ?_, ?_, fun k hk => ?_⟩, ?_, ?_, fun k hk => ?_⟩, lik, lin, Or.inl q1, ?_, ?_⟩
      · rw [o_II, if_pos rfl, up_s]
      · rw [q1]
        show oR (pR m (rq h l 1) _) l 1 = _
        rw [o_RR, if_neg la, mR]; exact l3
      · rw [q1]; show oT m _ = 45; rw [mT]; exact l4
      · rw [q1]; show n + 1 ≤ oN m _; rw [mN]; omega
      · rw [q1]
        show oR _ (rq h l 1) k = some ((oR _ (rq h l 1) k).getD 0)
        rw [rx]
        by_cases z : k = n
        · rw [z, up_s]; rfl
        · rw [up_ne z, l6 k (by omega)]
          rfl
      · rw [q1]; show 2 ≤ oN m _; rw [mN]; exact g1
      · rw [q1]; show oN m _ ≤ 24; rw [mN]; exact g2
      · show oT m _ = t
        rw [mT]
        by_cases z : k = n
        · rw [z, lin]; exact he
        · rw [lik k (by omega)]; exact g3 k (by omega)
      · refine GX_le (GX_trans (GX_trans Gm (GX_R (W := fun a => a = l ∨ a = rq h l 1) (fun _ => Or.inr rfl)) (fun _ _ z => z)) (GX_I (W := fun a => a = l ∨ a = rq h l 1) (fun _ => Or.inl rfl)) (fun _ _ z => z)) (by omega) (by omega)
      · show oX m ≤ _; omega
end
