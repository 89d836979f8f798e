/-! CONTRACTS of the model: all that drivers may decide -/
theorem l100_ne : ¬ (100 : Int64) = 0 := by decide
theorem WI_0p {A w : rI} (I : WI A w) : ∀ c, c < sN A → ¬ w (16 + c) = nI 2 → ¬ w (8 + c) = 0 := fun c hc q => by
  obtain ⟨-, ⟨p, p1, p2, p3⟩, -⟩ := I.2.2 c hc
  have := p3 q
  rw [p1]
  exact nI_ne0 (by omega) (by omega)
section
variable {A w u : rI} {wl : Int32} {f W : Nat} {a : aC}
theorem sBr_l (q : ¬ w 37 = 0) : sBr A wl (f + 1) w W a = lF A w (lN W) a := if_neg q
theorem sBr_n (q : w 37 = 0) (e : dN A wl (sN A - (w 41).toNatClampNeg) (w 41).toNatClampNeg w = (u, none)) : sBr A wl (f + 1) w W a = sBr A wl f (sTk A u) W a := by
  refine (if_pos q).trans ?_
  simp only [e]
theorem sBr_s {c m : Nat} (q : w 37 = 0) (e : dN A wl (sN A - (w 41).toNatClampNeg) (w 41).toNatClampNeg w = (u, some c)) (hm : sCh A u wl c = nI m) (h2 : m ≤ 100) : sBr A wl (f + 1) w W a = sBr A wl f (va_up u (16 + c) (nI 1)) (W / 100 * (100 - m)) (sBr A wl f (va_up u (16 + c) (nI 2)) (W / 100 * m) a) := by
  refine (if_pos q).trans ?_
  simp only [e, hm, nI_clamp (show m < 2 ^ 31 by omega)]
theorem up_self {g : rI} {k : Nat} : va_up g k (g k) = g := by
  funext j
  unfold va_up
  by_cases q : j = k
  · rw [if_pos q, q]
  · rw [if_neg q]
theorem WB_16 {c : Nat} {v : Int32} (W2 : sN A ≤ 8) (hc : c < sN A) (h0 : w (16 + c) = 0) (hv : v = nI 1 ∨ v = nI 2) (h41 : w 41 = nI c) (B : WB A w) : WB A (va_up w (16 + c) v) := by
  obtain ⟨I, ⟨t, t1, t2, t3⟩, h3, h4, h5⟩ := B
  refine ⟨WI_16 W2 hc h0 hv I, ⟨t, by rw [up_ne (by omega)]; exact t1, t2, fun y => t3 (by rw [up_ne (by omega)] at y; exact y)⟩, ?_, ?_, c, by rw [up_ne (by omega)]; exact h41, Nat.le_of_lt hc⟩
  · rw [up_ne (show 37 ≠ 16 + c by omega)]; exact h3
  · rw [up_ne (show 39 ≠ 16 + c by omega)]; exact h4
theorem ud_16 {c : Nat} {v : Int32} (W2 : sN A ≤ 8) (hc : c < sN A) (h0 : w (16 + c) = 0) (hv : v = nI 1 ∨ v = nI 2) : ud (sN A) (va_up w (16 + c) v) + 1 = ud (sN A) w := by
  refine ud_one hc h0 ?_ fun j hj hne => up_ne (by omega)
  rw [up_s]
  rcases hv with e | e
  · rw [e]; decide
  · rw [e]; decide
theorem sTk_hi (W2 : sN A ≤ 8) {j : Nat} (hj : 42 ≤ j) : sTk A w j = w j := by
  unfold sTk
  rw [sE3_lo (by omega) (by omega), sE2_lo (by omega) (by omega), sE1_hi (by omega), sCg_hi W2 (by omega), sIn_lo (by omega)]
end
section
variable {d : Nat} {h : xH} {w u : rI} {z : rI × rI × rI × rI} {kp x : rI} {p b s y : rL}
theorem HBp_150 : pI (HB h w z kp p b s) 150 x = HB h w (x, z.2) kp p b s := by
  unfold HB
  simp (disch := omega) only [o_qLI, o_qIc, o_pII, id_eq]
theorem HBp_158 : pI (HB h w z kp p b s) 158 x = HB h w (z.1, x, z.2.2) kp p b s := by
  unfold HB
  simp (disch := omega) only [o_qLI, o_qIc, o_pII, id_eq]
theorem HBp_159 : pI (HB h w z kp p b s) 159 x = HB h w (z.1, z.2.1, x, z.2.2.2) kp p b s := by
  unfold HB
  simp (disch := omega) only [o_qLI, o_qIc, o_pII, id_eq]
theorem HBp_160 : pI (HB h w z kp p b s) 160 x = HB h w (z.1, z.2.1, z.2.2.1, x) kp p b s := by
  unfold HB
  simp (disch := omega) only [o_qLI, o_qIc, o_pII, id_eq]
theorem hb_dec (H : MOK h) (W : WFs (oI h 152)) (WL : WFl (oI h 152)) (Z : zOK h z) {k : Nat} (hk : k ≤ sN (oI h 152)) (e41 : w 41 = nI k) : ∃ z', C_ (d + 4) mX5_decides [.ref 150, .int (nI 0)] (HB h w z kp p b s) = some (some (.int (oe (dN (oI h 152) (oI h 150 21) (sN (oI h 152) - k) k w).2)), HB h (dN (oI h 152) (oI h 150 21) (sN (oI h 152) - k) k w).1 z' kp p b s) ∧ zOK h z' ∧ ∀ c, (dN (oI h 152) (oI h 150 21) (sN (oI h 152) - k) k w).2 = some c → z'.1 23 = sCh (oI h 152) (dN (oI h 152) (oI h 150 21) (sN (oI h 152) - k) k w).1 (oI h 150 21) c := by
  obtain ⟨f', x', e, e2⟩ := decn (d := d) (h := HB h w z kp p b s) (HB_ok H) W.1 W.2.1 WL (sN (oI h 152) - k) k w (z.1 23) z.2.1 .unset .unset (Nat.add_sub_cancel' hk) e41
  have r21 : oI (HB h w z kp p b s) 150 21 = oI h 150 21 := Z 21 (by decide) (by decide)
  have r152 : oI (HB h w z kp p b s) 152 = oI h 152 := rfl
  have hN : ∀ (v g : rI) (t : Int32), HN (HB h w z kp p b s) v t g = HB h v (va_up z.1 23 t, g, z.2.2) kp p b s := fun v g t => by
    unfold HN
    rw [HB_150, HBp_150, HBp_156, HBp_158]
  rw [r152, r21, hN, hN] at e
  rw [r152, r21] at e2
  rw [up_self] at e
  refine ⟨(va_up z.1 23 x', f', z.2.2), e, fun j h1 h2 => ?_, fun c hc => ?_⟩
  · show va_up z.1 23 x' j = _
    rw [up_ne h1]
    exact Z j h1 h2
  · show va_up z.1 23 x' 23 = _
    rw [up_s]
    exact e2 c hc
theorem hb_tick (H : MOK h) (W : WFs (oI h 152)) (Z : zOK h z) (I : WI (oI h 152) w) : ∃ z', C_ (d + 3) mX5_ticks [.ref 150] (HB h w z kp p b s) = some (none, HB h (sTk (oI h 152) w) z' kp p b s) ∧ zOK h z' := by
  obtain ⟨x, f, g, e⟩ := kX5_ticks (d := d) (h := HB h w z kp p b s) (HB_ok H) W.1 W.2.1 W.2.2.1 W.2.2.2.2.1 (WI_0p I)
  rw [HB_150, HB_152, HB_156, HBp_150, HBp_156, HBp_159, HBp_160] at e
  refine ⟨(va_up z.1 26 x, z.2.1, f, g), e, fun j h1 h2 => ?_⟩
  show va_up z.1 26 x j = _
  rw [up_ne h2]
  exact Z j h1 h2
end
theorem br_main {h : xH} (H : MOK h) (W : WFs (oI h 152)) (WL : WFl (oI h 152)) : ∀ (f D lv : Nat) (w : rI) (z : rI × rI × rI × rI) (kp : rI) (p b s : rL) (a : aC) (Wn : Nat) (s5 s6 : Slot), WB (oI h 152) w → zOK h z → AC p b s a → 99 - (w 36).toNatClampNeg + ud (sN (oI h 152)) w + 1 ≤ f → ud (sN (oI h 152)) w + 5 ≤ D → lv + ud (sN (oI h 152)) w ≤ 8 → Wn < 2 ^ 62 → ∃ (w' : rI) (z' : rI × rI × rI × rI) (kp' : rI) (p' b' s' : rL), E_ D mX5_branches 3 [.val (.ref 150), .val (.int (nI lv)), .val (.long (lN Wn)), .unset, .val (.int (-1)), s5, s6] [] (HB h w z kp p b s) = some (none, HB h w' z' kp' p' b' s') ∧ zOK h z' ∧ AC p' b' s' (sBr (oI h 152) (oI h 150 21) f w Wn a) ∧ (∀ j, 42 ≤ j → w' j = w j) ∧ ∀ j, j < 42 * lv → kp' j = kp j
  | 0, D, lv, w, z, kp, p, b, s, a, Wn, s5, s6, B, Z, C, hf, hD, hl, hW => by omega
  | f + 1, D, lv, w, z, kp, p, b, s, a, Wn, s5, s6, B, Z, C, hf, hD, hl, hW => by
    have B0 := B
    obtain ⟨I, ⟨t, t1, t2, t3⟩, h37, h39, k, e41, hk⟩ := B
    have W2 := W.2.1
    have et : (w 36).toNatClampNeg = t := by rw [t1]; exact nI_clamp (by omega)
    rw [et] at hf
    obtain ⟨e, rfl⟩ : ∃ e, D = e + 5 := ⟨D - 5, by omega⟩
    by_cases q : w 37 = 0
    · have t4 := t3 q
      have dk := dN_ok (wl := oI h 150 21) W2 (sN (oI h 152) - k) k w (by omega) e41 I
      obtain ⟨z1, e1, Z1, y1⟩ := hb_dec (d := e) (kp := kp) (p := p) (b := b) (s := s) H W WL Z hk e41
      have eD : dN (oI h 152) (oI h 150 21) (sN (oI h 152) - (w 41).toNatClampNeg) (w 41).toNatClampNeg w = dN (oI h 152) (oI h 150 21) (sN (oI h 152) - k) k w := by rw [e41, nI_clamp (by omega)]
      generalize dN (oI h 152) (oI h 150 21) (sN (oI h 152) - k) k w = r at dk e1 y1 eD
      obtain ⟨u, o⟩ := r
      obtain ⟨I1, D2, D3, D4, D5⟩ := dk
      dsimp only at I1 D2 D3 D4 D5 e1 y1
      have u37 : u 37 = 0 := (D3 37 (by omega) (by omega)).trans q
      have u36 : u 36 = nI t := (D3 36 (by omega) (by omega)).trans t1
      have u39 : u 39 = w 39 := D3 39 (by omega) (by omega)
      cases o with
      | none =>
        obtain ⟨z2, e2, Z2⟩ := hb_tick (d := e + 1) (kp := kp) (p := p) (b := b) (s := s) H W Z1 I1
        have e2 : C_ (e + 4) mX5_ticks [.ref 150] (HB h u z1 kp p b s) = some (none, HB h (sTk (oI h 152) u) z2 kp p b s) := e2
        have B1 : WB (oI h 152) u := ⟨I1, ⟨t, u36, t2, fun _ => t4⟩, Or.inl u37, by rw [u39]; exact h39, _, D4 rfl, Nat.le_refl _⟩
        have B2 := WB_Tk W B1 u37
        have us : ud (sN (oI h 152)) (sTk (oI h 152) u) = ud (sN (oI h 152)) u := ud_eq fun k hk => sTk_16 W2 (by omega)
        have u362 : (sTk (oI h 152) u 36).toNatClampNeg = t + 1 := by rw [sTk_36 W2, u36, nI_add]; exact nI_clamp (by omega)
        obtain ⟨w', z', kp', p', b', s', r1, r2, r3, r4, r5⟩ := br_main H W WL f (e + 5) lv (sTk (oI h 152) u) z2 kp p b s a Wn s5 s6 B2 Z2 C (by omega) (by omega) (by omega) hW
        refine ⟨w', z', kp', p', b', s', (wX5_branches_3.trans ?_).trans r1, r2, ?_, fun j hj => ?_, r5⟩
        · simp (disch := first | exact mok_t (HB_ok H) rfl | exact nI_ne0 (by decide) (by decide) | exact m_x152 (HB_ok H) (by omega) | exact m_x156 (HB_ok H) (by omega) | exact m_x157 (HB_ok H) (by omega) | exact m_x161 (HB_ok H) (by omega) | exact m_x162 (HB_ok H) (by omega) | exact m_x163 (HB_ok H) (by omega) | omega) only [wX5_branches_4, wX5_branches_7, wX5_branches_9, wX5_branches_10, wX5_branches_13, wX5_branches_15, wX5_branches_16, wX5_branches_19, wX5_branches_20, wX5_branches_21, wX5_branches_24, wX5_branches_26, wX5_branches_28, wX5_branches_29, wX5_branches_32, wX5_branches_33, wX5_branches_36, if_true, if_false, ↓reduceIte, xpu_s, xpu_n, Option.bind_some, xk_i, xk_r, xk_0, xk_u, xk_l, xk_k, xk_q, rf_s, rf_n, HB_150, HB_152, HB_156, HB_157, HB_161, HB_162, HB_163, HBp_156, HBp_157, HBp_161, HBp_162, HBp_163, hb_r2 H, hb_r18 H, hb_r19 H, hb_r27 H, hb_r28 H, hb_r29 H, q_e1, q_e2, Nat.zero_add, Nat.reduceEqDiff, Nat.reduceAdd, Nat.reduceMul, Nat.reduceSub, Nat.reduceLT, Nat.reduceLeDiff, Nat.reduceDiv, Nat.reduceMod, up_s, nI_c, nI_add, up_ne, q, e1, oe_n, e2]
        · rw [sBr_n q eD]; exact r3
        · rw [r4 j hj, sTk_hi W2 hj]; exact D3 j (by omega) (by omega)
      | some c =>
        obtain ⟨hc, u41, ha, n0, n1⟩ := D5 c rfl
        have y2 := y1 c rfl
        have c0 := sAs_0 ha
        obtain ⟨m, hm, hm1⟩ := sCh_le (A := oI h 152) (w := u) (wl := oI h 150 21) WL c
        rw [hm] at y2
        have c8 : c < 8 := by omega
        have nc : (nI c = -1) = False := nI_nm1 (by omega)
        have B1 : WB (oI h 152) u := ⟨I1, ⟨t, u36, t2, fun _ => t4⟩, Or.inl u37, by rw [u39]; exact h39, c, u41, Nat.le_of_lt hc⟩
        have lw : Wn / 100 * m ≤ Wn := Nat.le_trans (Nat.mul_le_mul_left _ hm1) (Nat.div_mul_le_self _ _)
        have lw2 : Wn / 100 * (100 - m) ≤ Wn := Nat.le_trans (Nat.mul_le_mul_left _ (Nat.sub_le _ _)) (Nat.div_mul_le_self _ _)
        have dv : lN Wn / 100 = lN (Wn / 100) := pk_lDiv (b := 100) (by omega) (by omega) (by omega)
        have eW : lN Wn / 100 * (nI m).toInt64 = lN (Wn / 100 * m) := by rw [dv, nI_l (by omega), lN_mul]
        have eV : lN Wn / 100 * (nI 100 - nI m).toInt64 = lN (Wn / 100 * (100 - m)) := by rw [dv, pk_sub hm1, nI_l (by omega), lN_mul]
        have uc1 := ud_16 (v := nI 1) W2 hc c0 (Or.inl rfl)
        have uc2 := ud_16 (v := nI 2) W2 hc c0 (Or.inr rfl)
        have x36 : ∀ v, (va_up u (16 + c) v 36).toNatClampNeg = t := fun v => by rw [up_ne (by omega), u36]; exact nI_clamp (by omega)
        have a1 : E_ (e + 5) mX5_branches 3 [.val (.ref 150), .val (.int (nI lv)), .val (.long (lN Wn)), .unset, .val (.int (-1)), s5, s6] [] (HB h w z kp p b s) = E_ (e + 5) mX5_branches 3 [.val (.ref 150), .val (.int (nI lv)), .val (.long (lN Wn)), .unset, .val (.int (nI c)), s5, s6] [] (HB h u z1 kp p b s) := by
          refine wX5_branches_3.trans ?_
          simp (disch := first | exact mok_t (HB_ok H) rfl | exact nI_ne0 (by decide) (by decide) | exact m_x152 (HB_ok H) (by omega) | exact m_x156 (HB_ok H) (by omega) | exact m_x157 (HB_ok H) (by omega) | exact m_x161 (HB_ok H) (by omega) | exact m_x162 (HB_ok H) (by omega) | exact m_x163 (HB_ok H) (by omega) | omega) only [wX5_branches_4, wX5_branches_7, wX5_branches_9, wX5_branches_10, wX5_branches_13, wX5_branches_15, wX5_branches_16, wX5_branches_19, wX5_branches_20, wX5_branches_21, wX5_branches_24, wX5_branches_26, wX5_branches_28, wX5_branches_29, if_true, if_false, ↓reduceIte, xpu_s, xpu_n, Option.bind_some, xk_i, xk_r, xk_0, xk_u, xk_l, xk_k, xk_q, rf_s, rf_n, HB_150, HB_152, HB_156, HB_157, HB_161, HB_162, HB_163, HBp_156, HBp_157, HBp_161, HBp_162, HBp_163, hb_r2 H, hb_r18 H, hb_r19 H, hb_r27 H, hb_r28 H, hb_r29 H, q_e1, q_e2, Nat.zero_add, Nat.reduceEqDiff, Nat.reduceAdd, Nat.reduceMul, Nat.reduceSub, Nat.reduceLT, Nat.reduceLeDiff, Nat.reduceDiv, Nat.reduceMod, up_s, nI_c, nI_add, up_ne, q, e1, oe_s, nc]
        have a2 : E_ (e + 5) mX5_branches 3 [.val (.ref 150), .val (.int (nI lv)), .val (.long (lN Wn)), .unset, .val (.int (nI c)), s5, s6] [] (HB h u z1 kp p b s) = E_ (e + 5) mX5_branches 188 [.val (.ref 150), .val (.int (nI lv)), .val (.long (lN Wn)), .unset, .val (.int (nI c)), .val (.int (nI m)), s6] [] (HB h u z1 kp p b s) := by
          refine wX5_branches_3.trans ?_
          simp (disch := first | exact mok_t (HB_ok H) rfl | exact nI_ne0 (by decide) (by decide) | exact m_x152 (HB_ok H) (by omega) | exact m_x156 (HB_ok H) (by omega) | exact m_x157 (HB_ok H) (by omega) | exact m_x161 (HB_ok H) (by omega) | exact m_x162 (HB_ok H) (by omega) | exact m_x163 (HB_ok H) (by omega) | omega) only [wX5_branches_4, wX5_branches_7, wX5_branches_9, wX5_branches_10, wX5_branches_13, wX5_branches_15, wX5_branches_16, wX5_branches_39, wX5_branches_40, wX5_branches_43, wX5_branches_45, wX5_branches_46, wX5_branches_182, wX5_branches_183, wX5_branches_186, if_true, if_false, ↓reduceIte, xpu_s, xpu_n, Option.bind_some, xk_i, xk_r, xk_0, xk_u, xk_l, xk_k, xk_q, rf_s, rf_n, HB_150, HB_152, HB_156, HB_157, HB_161, HB_162, HB_163, HBp_156, HBp_157, HBp_161, HBp_162, HBp_163, hb_r2 H, hb_r18 H, hb_r19 H, hb_r27 H, hb_r28 H, hb_r29 H, q_e1, q_e2, Nat.zero_add, Nat.reduceEqDiff, Nat.reduceAdd, Nat.reduceMul, Nat.reduceSub, Nat.reduceLT, Nat.reduceLeDiff, Nat.reduceDiv, Nat.reduceMod, up_s, nI_c, nI_add, up_ne, u37, nc, y2]
        have a3 := br_keep (d := e + 5) H (l := lv) (by omega) (u := u) (z := z1) (kp := kp) (p := p) (b := b) (s := s) (W := lN Wn) (c := nI c) (n := nI m) (s6 := s6)
        obtain ⟨w2, z2, kp2, p2, b2, s2, r1, r2, r3, r4, r5⟩ := br_main H W WL f (e + 4) (lv + 1) (va_up u (16 + c) (nI 2)) z1 (kpS u kp lv 42) p b s a (Wn / 100 * m) .unset .unset (WB_16 W2 hc c0 (Or.inr rfl) u41 B1) Z1 C (by rw [x36]; omega) (by omega) (by omega) (by omega)
        have r1 : C_ (e + 4) mX5_branches [.ref 150, .int (nI (lv + 1)), .long (lN (Wn / 100 * m))] (HB h (va_up u (16 + c) (nI 2)) z1 (kpS u kp lv 42) p b s) = some (none, HB h w2 z2 kp2 p2 b2 s2) := by
          rw [wX5_branches_e, wX5_branches_0, wX5_branches_1, xk_u]
          exact r1
        have a4 : E_ (e + 5) mX5_branches 223 [.val (.ref 150), .val (.int (nI lv)), .val (.long (lN Wn)), .unset, .val (.int (nI c)), .val (.int (nI m)), .val (.int (nI 42))] [] (HB h u z1 (kpS u kp lv 42) p b s) = E_ (e + 5) mX5_branches 250 [.val (.ref 150), .val (.int (nI lv)), .val (.long (lN Wn)), .unset, .val (.int (nI c)), .val (.int (nI m)), .val (.int (nI 42))] [] (HB h w2 z2 kp2 p2 b2 s2) := by
          simp (disch := first | exact l100_ne | first | exact mok_t (HB_ok H) rfl | exact nI_ne0 (by decide) (by decide) | exact m_x152 (HB_ok H) (by omega) | exact m_x156 (HB_ok H) (by omega) | exact m_x157 (HB_ok H) (by omega) | exact m_x161 (HB_ok H) (by omega) | exact m_x162 (HB_ok H) (by omega) | exact m_x163 (HB_ok H) (by omega) | omega) only [wX5_branches_223, wX5_branches_224, wX5_branches_227, wX5_branches_229, wX5_branches_231, wX5_branches_232, wX5_branches_233, wX5_branches_234, wX5_branches_235, wX5_branches_236, wX5_branches_237, wX5_branches_238, wX5_branches_239, wX5_branches_242, wX5_branches_243, wX5_branches_245, wX5_branches_246, wX5_branches_247, if_true, if_false, ↓reduceIte, xpu_s, xpu_n, Option.bind_some, xk_i, xk_r, xk_0, xk_u, xk_l, xk_k, xk_q, rf_s, rf_n, HB_150, HB_152, HB_156, HB_157, HB_161, HB_162, HB_163, HBp_156, HBp_157, HBp_161, HBp_162, HBp_163, hb_r2 H, hb_r18 H, hb_r19 H, hb_r27 H, hb_r28 H, hb_r29 H, q_e1, q_e2, Nat.zero_add, Nat.reduceEqDiff, Nat.reduceAdd, Nat.reduceMul, Nat.reduceSub, Nat.reduceLT, Nat.reduceLeDiff, Nat.reduceDiv, Nat.reduceMod, up_s, nI_c, nI_add, up_ne, eW, r1]
        have a5 := br_back (d := e + 5) H (l := lv) (by omega) (u := u) (w := w2) (z := z2) (kp := kp2) (p := p2) (b := b2) (s := s2) (W := lN Wn) (c := nI c) (n := nI m) (s6 := .val (.int (nI 42))) (fun k hk => by
          rw [r5 (42 * lv + k) (by omega)]
          unfold kpS
          rw [if_pos (show 42 * lv ≤ 42 * lv + k ∧ 42 * lv + k < 42 * lv + 42 by omega), Nat.add_sub_cancel_left]) (fun j hj => by rw [r4 j hj, up_ne (by omega)])
        obtain ⟨w3, z3, kp3, p3, b3, s3, v1, v2, v3, v4, v5⟩ := br_main H W WL f (e + 4) (lv + 1) (va_up u (16 + c) (nI 1)) z2 kp2 p2 b2 s2 _ (Wn / 100 * (100 - m)) .unset .unset (WB_16 W2 hc c0 (Or.inl rfl) u41 B1) r2 r3 (by rw [x36]; omega) (by omega) (by omega) (by omega)
        have v1 : C_ (e + 4) mX5_branches [.ref 150, .int (nI (lv + 1)), .long (lN (Wn / 100 * (100 - m)))] (HB h (va_up u (16 + c) (nI 1)) z2 kp2 p2 b2 s2) = some (none, HB h w3 z3 kp3 p3 b3 s3) := by
          rw [wX5_branches_e, wX5_branches_0, wX5_branches_1, xk_u]
          exact v1
        have a6 : E_ (e + 5) mX5_branches 285 [.val (.ref 150), .val (.int (nI lv)), .val (.long (lN Wn)), .unset, .val (.int (nI c)), .val (.int (nI m)), .val (.int (nI 42))] [] (HB h u z2 kp2 p2 b2 s2) = some (none, HB h w3 z3 kp3 p3 b3 s3) := by
          simp (disch := first | exact l100_ne | first | exact mok_t (HB_ok H) rfl | exact nI_ne0 (by decide) (by decide) | exact m_x152 (HB_ok H) (by omega) | exact m_x156 (HB_ok H) (by omega) | exact m_x157 (HB_ok H) (by omega) | exact m_x161 (HB_ok H) (by omega) | exact m_x162 (HB_ok H) (by omega) | exact m_x163 (HB_ok H) (by omega) | omega) only [wX5_branches_285, wX5_branches_286, wX5_branches_289, wX5_branches_291, wX5_branches_293, wX5_branches_294, wX5_branches_295, wX5_branches_296, wX5_branches_297, wX5_branches_298, wX5_branches_299, wX5_branches_300, wX5_branches_301, wX5_branches_304, wX5_branches_305, wX5_branches_307, wX5_branches_309, wX5_branches_310, wX5_branches_311, wX5_branches_312, wX5_branches_315, if_true, if_false, ↓reduceIte, xpu_s, xpu_n, Option.bind_some, xk_i, xk_r, xk_0, xk_u, xk_l, xk_k, xk_q, rf_s, rf_n, HB_150, HB_152, HB_156, HB_157, HB_161, HB_162, HB_163, HBp_156, HBp_157, HBp_161, HBp_162, HBp_163, hb_r2 H, hb_r18 H, hb_r19 H, hb_r27 H, hb_r28 H, hb_r29 H, q_e1, q_e2, Nat.zero_add, Nat.reduceEqDiff, Nat.reduceAdd, Nat.reduceMul, Nat.reduceSub, Nat.reduceLT, Nat.reduceLeDiff, Nat.reduceDiv, Nat.reduceMod, up_s, nI_c, nI_add, up_ne, eV, v1]
        refine ⟨w3, z3, kp3, p3, b3, s3, ((((a1.trans a2).trans a3).trans a4).trans a5).trans a6, v2, ?_, fun j hj => ?_, fun j hj => ?_⟩
        · rw [sBr_s q eD hm hm1]; exact v3
        · rw [v4 j hj, up_ne (by omega)]; exact D3 j (by omega) (by omega)
        · rw [v5 j (by omega), r5 j (by omega)]
          exact if_neg (show ¬ (42 * lv ≤ j ∧ j < 42 * lv + 42) by omega)
    · obtain ⟨p', b', s', e1, C'⟩ := br_leaf (d := e + 5) H W.1 W2 (h37.resolve_left q) h39 (z := z) (kp := kp) C (lv := nI lv) (W := lN Wn) (c := -1) (s5 := s5) (s6 := s6)
      refine ⟨w, z, kp, p', b', s', (wX5_branches_3.trans ?_).trans e1, Z, ?_, fun _ _ => rfl, fun _ _ => rfl⟩
      · simp (disch := first | exact mok_t (HB_ok H) rfl | exact nI_ne0 (by decide) (by decide) | exact m_x152 (HB_ok H) (by omega) | exact m_x156 (HB_ok H) (by omega) | exact m_x157 (HB_ok H) (by omega) | exact m_x161 (HB_ok H) (by omega) | exact m_x162 (HB_ok H) (by omega) | exact m_x163 (HB_ok H) (by omega) | omega) only [wX5_branches_4, wX5_branches_7, wX5_branches_9, wX5_branches_10, if_true, if_false, ↓reduceIte, xpu_s, xpu_n, Option.bind_some, xk_i, xk_r, xk_0, xk_u, xk_l, xk_k, xk_q, rf_s, rf_n, HB_150, HB_152, HB_156, HB_157, HB_161, HB_162, HB_163, HBp_156, HBp_157, HBp_161, HBp_162, HBp_163, hb_r2 H, hb_r18 H, hb_r19 H, hb_r27 H, hb_r28 H, hb_r29 H, q_e1, q_e2, Nat.zero_add, Nat.reduceEqDiff, Nat.reduceAdd, Nat.reduceMul, Nat.reduceSub, Nat.reduceLT, Nat.reduceLeDiff, Nat.reduceDiv, Nat.reduceMod, up_s, nI_c, nI_add, up_ne, q]
      · rw [sBr_l q]; exact C'
