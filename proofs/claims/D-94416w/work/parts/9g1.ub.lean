/-! TEXTS: what stands ahead of a text, what is taken over behind it -/
section
variable {d e : Nat} {h h1 h2 h3 h4 : xH} {P : sS} {X o l n p b k v c j i m w a u q r fr to : Nat} {t : Nat → Nat} {f g A B : rI} {x : sX} {s1 s2 s3 : Slot} {ow : Nat → Nat} {y1 y2 : Int32} {s : Nat}
/-- numbers of nothing told -/
def plN : rI := fun k => if k = 0 then nI 1 else if k = 36 then nI 3 else if k = 37 then nI 20 else if k = 38 then nI 40 else nI 0
theorem kX5_plain (ht : oT h a = 40) (hn : 477 ≤ oN h a) (h2 : oN h a ≤ 2000) : C_ d mX5_plain [.ref a] h = some (none, pI h a (fun j => if j < 477 then plN j else oI h a j)) := by
  have L := lp_go (F := fun k => E_ d mX5_plain 2 [.val (.ref a), .val (.int (nI k))] [] (pI h a (fun j => if j < k then plN j else oI h a j))) (n := 477) (fun k hk => ?_)
  · have e0 : C_ d mX5_plain [.ref a] h = E_ d mX5_plain 2 [.val (.ref a), .val (.int (nI 0))] [] (pI h a (fun j => if j < 0 then plN j else oI h a j)) := by
      rw [fill_0, pI_self]
      simp (disch := first | assumption | exact nI_ne0 (by decide) (by decide) | exact zb_01 | exact Or.inl rfl | exact Or.inr rfl | with_unfolding_all exact id (by assumption) | with_unfolding_all exact id (xix_8 (by assumption) (by omega) (by omega)) | omega) only [wX5_plain_e, wX5_plain_0, wX5_plain_1, wX5_plain_3, wX5_plain_6, wX5_plain_9, wX5_plain_10, wX5_plain_11, wX5_plain_12, wX5_plain_15, wX5_plain_16, wX5_plain_19, wX5_plain_20, wX5_plain_22, wX5_plain_25, wX5_plain_26, wX5_plain_29, wX5_plain_30, wX5_plain_32, wX5_plain_35, wX5_plain_37, wX5_plain_40, wX5_plain_41, wX5_plain_43, wX5_plain_46, wX5_plain_48, wX5_plain_51, wX5_plain_52, wX5_plain_53, wX5_plain_56, wX5_plain_59, if_true, if_false, ↓reduceIte, xpu_s, xpu_n, Option.bind_some, xk_i, xk_r, xk_0, xk_u, xk_l, xk_k, xk_q, rf_s, rf_n, q_e1, q_e2, Nat.zero_add, Nat.reduceEqDiff, Nat.reduceAdd, Nat.reduceMul, Nat.reduceSub, Nat.reduceLT, Nat.reduceLeDiff, Nat.reduceDiv, Nat.reduceMod]
    refine e0.trans (L.trans ?_)
    show E_ d mX5_plain 2 [.val (.ref a), .val (.int (nI 477))] [] (pI h a (fun j => if j < 477 then plN j else oI h a j)) = _
    generalize pI h a (fun j => if j < 477 then plN j else oI h a j) = H
    refine wX5_plain_2.trans ?_
    simp (disch := first | assumption | exact nI_ne0 (by decide) (by decide) | exact zb_01 | exact Or.inl rfl | exact Or.inr rfl | with_unfolding_all exact id (by assumption) | with_unfolding_all exact id (xix_8 (by assumption) (by omega) (by omega)) | omega) only [wX5_plain_3, wX5_plain_6, wX5_plain_59, if_true, if_false, ↓reduceIte, xpu_s, xpu_n, Option.bind_some, xk_i, xk_r, xk_0, xk_u, xk_l, xk_k, xk_q, rf_s, rf_n, q_e1, q_e2, Nat.zero_add, Nat.reduceEqDiff, Nat.reduceAdd, Nat.reduceMul, Nat.reduceSub, Nat.reduceLT, Nat.reduceLeDiff, Nat.reduceDiv, Nat.reduceMod, i_irr]
  · show E_ d mX5_plain 2 [.val (.ref a), .val (.int (nI k))] [] (pI h a (fun j => if j < k then plN j else oI h a j)) = E_ d mX5_plain 2 [.val (.ref a), .val (.int (nI (k + 1)))] [] (pI h a (fun j => if j < k + 1 then plN j else oI h a j))
    have hst : ∀ v, v = plN k → pI (pI h a (fun j => if j < k then plN j else oI h a j)) a (va_up (oI (pI h a (fun j => if j < k then plN j else oI h a j)) a) k v) = pI h a (fun j => if j < k + 1 then plN j else oI h a j) := fun v hv => by
      rw [o_II, if_pos rfl, o_pII, up_fill hv]
    have tH : oT (pI h a (fun j => if j < k then plN j else oI h a j)) a = 40 := ht
    have nH : xix (nI k) (oN (pI h a (fun j => if j < k then plN j else oI h a j)) a) = true := xix_k (by show k < oN h a; omega) (by omega)
    rw [← hst (plN k) rfl]
    generalize pI h a (fun j => if j < k then plN j else oI h a j) = H at tH nH
    have lt : (nI k < nI 477) = True := eq_true (nI_lt hk (by omega))
    have z0 : (nI k = 0) = (k = 0) := nI_z (by omega)
    have z36 : (nI k = nI 36) = (k = 36) := nI_eqI (by omega) (by omega)
    have z37 : (nI k = nI 37) = (k = 37) := nI_eqI (by omega) (by omega)
    have z38 : (nI k = nI 38) = (k = 38) := nI_eqI (by omega) (by omega)
    have ck : (nI k).toNatClampNeg = k := nI_clamp (by omega)
    refine wX5_plain_2.trans ?_
    unfold plN
    by_cases q0 : k = 0
    · have z0 : (nI k = 0) = True := by rw [z0]; exact eq_true q0
      rw [if_pos q0]
      simp (disch := first | exact nH | first | assumption | exact nI_ne0 (by decide) (by decide) | exact zb_01 | exact Or.inl rfl | exact Or.inr rfl | with_unfolding_all exact id (by assumption) | with_unfolding_all exact id (xix_8 (by assumption) (by omega) (by omega)) | omega) only [wX5_plain_e, wX5_plain_0, wX5_plain_1, wX5_plain_3, wX5_plain_6, wX5_plain_9, wX5_plain_10, wX5_plain_11, wX5_plain_12, wX5_plain_15, wX5_plain_16, wX5_plain_19, wX5_plain_20, wX5_plain_22, wX5_plain_25, wX5_plain_26, wX5_plain_29, wX5_plain_30, wX5_plain_32, wX5_plain_35, wX5_plain_37, wX5_plain_40, wX5_plain_41, wX5_plain_43, wX5_plain_46, wX5_plain_48, wX5_plain_51, wX5_plain_52, wX5_plain_53, wX5_plain_56, wX5_plain_59, if_true, if_false, ↓reduceIte, xpu_s, xpu_n, Option.bind_some, xk_i, xk_r, xk_0, xk_u, xk_l, xk_k, xk_q, rf_s, rf_n, q_e1, q_e2, Nat.zero_add, Nat.reduceEqDiff, Nat.reduceAdd, Nat.reduceMul, Nat.reduceSub, Nat.reduceLT, Nat.reduceLeDiff, Nat.reduceDiv, Nat.reduceMod, lt, z0, ck, nI_add]
    · have z0 : (nI k = 0) = False := by rw [z0]; exact eq_false q0
      rw [if_neg q0]
      by_cases q36 : k = 36
      · have z36 : (nI k = nI 36) = True := by rw [z36]; exact eq_true q36
        rw [if_pos q36]
        simp (disch := first | exact nH | first | assumption | exact nI_ne0 (by decide) (by decide) | exact zb_01 | exact Or.inl rfl | exact Or.inr rfl | with_unfolding_all exact id (by assumption) | with_unfolding_all exact id (xix_8 (by assumption) (by omega) (by omega)) | omega) only [wX5_plain_e, wX5_plain_0, wX5_plain_1, wX5_plain_3, wX5_plain_6, wX5_plain_9, wX5_plain_10, wX5_plain_11, wX5_plain_12, wX5_plain_15, wX5_plain_16, wX5_plain_19, wX5_plain_20, wX5_plain_22, wX5_plain_25, wX5_plain_26, wX5_plain_29, wX5_plain_30, wX5_plain_32, wX5_plain_35, wX5_plain_37, wX5_plain_40, wX5_plain_41, wX5_plain_43, wX5_plain_46, wX5_plain_48, wX5_plain_51, wX5_plain_52, wX5_plain_53, wX5_plain_56, wX5_plain_59, if_true, if_false, ↓reduceIte, xpu_s, xpu_n, Option.bind_some, xk_i, xk_r, xk_0, xk_u, xk_l, xk_k, xk_q, rf_s, rf_n, q_e1, q_e2, Nat.zero_add, Nat.reduceEqDiff, Nat.reduceAdd, Nat.reduceMul, Nat.reduceSub, Nat.reduceLT, Nat.reduceLeDiff, Nat.reduceDiv, Nat.reduceMod, lt, z0, z36, ck, nI_add]
      · have z36 : (nI k = nI 36) = False := by rw [z36]; exact eq_false q36
        rw [if_neg q36]
        by_cases q37 : k = 37
        · have z37 : (nI k = nI 37) = True := by rw [z37]; exact eq_true q37
          rw [if_pos q37]
          simp (disch := first | exact nH | first | assumption | exact nI_ne0 (by decide) (by decide) | exact zb_01 | exact Or.inl rfl | exact Or.inr rfl | with_unfolding_all exact id (by assumption) | with_unfolding_all exact id (xix_8 (by assumption) (by omega) (by omega)) | omega) only [wX5_plain_e, wX5_plain_0, wX5_plain_1, wX5_plain_3, wX5_plain_6, wX5_plain_9, wX5_plain_10, wX5_plain_11, wX5_plain_12, wX5_plain_15, wX5_plain_16, wX5_plain_19, wX5_plain_20, wX5_plain_22, wX5_plain_25, wX5_plain_26, wX5_plain_29, wX5_plain_30, wX5_plain_32, wX5_plain_35, wX5_plain_37, wX5_plain_40, wX5_plain_41, wX5_plain_43, wX5_plain_46, wX5_plain_48, wX5_plain_51, wX5_plain_52, wX5_plain_53, wX5_plain_56, wX5_plain_59, if_true, if_false, ↓reduceIte, xpu_s, xpu_n, Option.bind_some, xk_i, xk_r, xk_0, xk_u, xk_l, xk_k, xk_q, rf_s, rf_n, q_e1, q_e2, Nat.zero_add, Nat.reduceEqDiff, Nat.reduceAdd, Nat.reduceMul, Nat.reduceSub, Nat.reduceLT, Nat.reduceLeDiff, Nat.reduceDiv, Nat.reduceMod, lt, z0, z36, z37, ck, nI_add]
        · have z37 : (nI k = nI 37) = False := by rw [z37]; exact eq_false q37
          rw [if_neg q37]
          by_cases q38 : k = 38
          · have z38 : (nI k = nI 38) = True := by rw [z38]; exact eq_true q38
            rw [if_pos q38]
            simp (disch := first | exact nH | first | assumption | exact nI_ne0 (by decide) (by decide) | exact zb_01 | exact Or.inl rfl | exact Or.inr rfl | with_unfolding_all exact id (by assumption) | with_unfolding_all exact id (xix_8 (by assumption) (by omega) (by omega)) | omega) only [wX5_plain_e, wX5_plain_0, wX5_plain_1, wX5_plain_3, wX5_plain_6, wX5_plain_9, wX5_plain_10, wX5_plain_11, wX5_plain_12, wX5_plain_15, wX5_plain_16, wX5_plain_19, wX5_plain_20, wX5_plain_22, wX5_plain_25, wX5_plain_26, wX5_plain_29, wX5_plain_30, wX5_plain_32, wX5_plain_35, wX5_plain_37, wX5_plain_40, wX5_plain_41, wX5_plain_43, wX5_plain_46, wX5_plain_48, wX5_plain_51, wX5_plain_52, wX5_plain_53, wX5_plain_56, wX5_plain_59, if_true, if_false, ↓reduceIte, xpu_s, xpu_n, Option.bind_some, xk_i, xk_r, xk_0, xk_u, xk_l, xk_k, xk_q, rf_s, rf_n, q_e1, q_e2, Nat.zero_add, Nat.reduceEqDiff, Nat.reduceAdd, Nat.reduceMul, Nat.reduceSub, Nat.reduceLT, Nat.reduceLeDiff, Nat.reduceDiv, Nat.reduceMod, lt, z0, z36, z37, z38, ck, nI_add]
          · have z38 : (nI k = nI 38) = False := by rw [z38]; exact eq_false q38
            rw [if_neg q38]
            simp (disch := first | exact nH | first | assumption | exact nI_ne0 (by decide) (by decide) | exact zb_01 | exact Or.inl rfl | exact Or.inr rfl | with_unfolding_all exact id (by assumption) | with_unfolding_all exact id (xix_8 (by assumption) (by omega) (by omega)) | omega) only [wX5_plain_e, wX5_plain_0, wX5_plain_1, wX5_plain_3, wX5_plain_6, wX5_plain_9, wX5_plain_10, wX5_plain_11, wX5_plain_12, wX5_plain_15, wX5_plain_16, wX5_plain_19, wX5_plain_20, wX5_plain_22, wX5_plain_25, wX5_plain_26, wX5_plain_29, wX5_plain_30, wX5_plain_32, wX5_plain_35, wX5_plain_37, wX5_plain_40, wX5_plain_41, wX5_plain_43, wX5_plain_46, wX5_plain_48, wX5_plain_51, wX5_plain_52, wX5_plain_53, wX5_plain_56, wX5_plain_59, if_true, if_false, ↓reduceIte, xpu_s, xpu_n, Option.bind_some, xk_i, xk_r, xk_0, xk_u, xk_l, xk_k, xk_q, rf_s, rf_n, q_e1, q_e2, Nat.zero_add, Nat.reduceEqDiff, Nat.reduceAdd, Nat.reduceMul, Nat.reduceSub, Nat.reduceLT, Nat.reduceLeDiff, Nat.reduceDiv, Nat.reduceMod, lt, z0, z36, z37, z38, ck, nI_add]
/-- numbers taken over -/
def tko (A B : rI) (fr to : Nat) : rI := fun j => if fr ≤ j ∧ j < to then B j else A j
theorem txt_copy (H : MOK h) (h1 : fr ≤ to) (h2 : to ≤ 477) : E_ d mX5_text 192 [.val (.ref 150), s1, s2, s3, .val (.int (nI to)), .val (.int (nI fr))] [] h = E_ d mX5_text 219 [.val (.ref 150), s1, s2, s3, .val (.int (nI to)), .val (.int (nI to))] [] (pI h 152 (tko (oI h 152) (oI h 155) fr to)) := by
  have L := lp_go (F := fun k => E_ d mX5_text 192 [.val (.ref 150), s1, s2, s3, .val (.int (nI to)), .val (.int (nI (fr + k)))] [] (pI h 152 (tko (oI h 152) (oI h 155) fr (fr + k)))) (n := to - fr) (fun k hk => ?_)
  · have e0 : tko (oI h 152) (oI h 155) fr (fr + 0) = oI h 152 := by
      funext j
      exact if_neg (by omega)
    have e1 : fr + (to - fr) = to := by omega
    have L : E_ d mX5_text 192 [.val (.ref 150), s1, s2, s3, .val (.int (nI to)), .val (.int (nI (fr + 0)))] [] (pI h 152 (tko (oI h 152) (oI h 155) fr (fr + 0))) = E_ d mX5_text 192 [.val (.ref 150), s1, s2, s3, .val (.int (nI to)), .val (.int (nI (fr + (to - fr))))] [] (pI h 152 (tko (oI h 152) (oI h 155) fr (fr + (to - fr)))) := L
    rw [e0, e1, pI_self, Nat.add_zero] at L
    refine L.trans ?_
    generalize pI h 152 (tko (oI h 152) (oI h 155) fr to) = G
    refine wX5_text_192.trans ?_
    simp (disch := first | assumption | exact nI_ne0 (by decide) (by decide) | exact zb_01 | exact Or.inl rfl | exact Or.inr rfl | with_unfolding_all exact id (by assumption) | with_unfolding_all exact id (xix_8 (by assumption) (by omega) (by omega)) | omega) only [wX5_text_194, wX5_text_196, if_true, if_false, ↓reduceIte, xpu_s, xpu_n, Option.bind_some, xk_i, xk_r, xk_0, xk_u, xk_l, xk_k, xk_q, rf_s, rf_n, q_e1, q_e2, Nat.zero_add, Nat.reduceEqDiff, Nat.reduceAdd, Nat.reduceMul, Nat.reduceSub, Nat.reduceLT, Nat.reduceLeDiff, Nat.reduceDiv, Nat.reduceMod, i_irr]
  · show E_ d mX5_text 192 [.val (.ref 150), s1, s2, s3, .val (.int (nI to)), .val (.int (nI (fr + k)))] [] (pI h 152 (tko (oI h 152) (oI h 155) fr (fr + k))) = E_ d mX5_text 192 [.val (.ref 150), s1, s2, s3, .val (.int (nI to)), .val (.int (nI (fr + k + 1)))] [] (pI h 152 (tko (oI h 152) (oI h 155) fr (fr + k + 1)))
    have hst : pI (pI h 152 (tko (oI h 152) (oI h 155) fr (fr + k))) 152 (va_up (oI (pI h 152 (tko (oI h 152) (oI h 155) fr (fr + k))) 152) (fr + k) (oI (pI h 152 (tko (oI h 152) (oI h 155) fr (fr + k))) 155 (fr + k))) = pI h 152 (tko (oI h 152) (oI h 155) fr (fr + k + 1)) := by
      rw [o_II, if_pos rfl, o_II, if_neg (by decide), o_pII]
      congr 1
      funext j
      unfold tko va_up
      by_cases z : j = fr + k
      · rw [if_pos z, if_pos (by omega), z]
      · rw [if_neg z]
        by_cases y : fr ≤ j ∧ j < fr + k
        · rw [if_pos (by omega)]; exact if_pos y
        · rw [if_neg (by omega)]; exact if_neg y
    have H2 : MOK (pI h 152 (tko (oI h 152) (oI h 155) fr (fr + k))) := H
    rw [← hst]
    generalize pI h 152 (tko (oI h 152) (oI h 155) fr (fr + k)) = G at H2
    have t1 : oT G 150 = 7 := mok_t H2 rfl
    have t2 : oT G 152 = 40 := mok_t H2 rfl
    have t3 : oT G 155 = 40 := mok_t H2 rfl
    have r2 := m_r2 H2
    have r5 := m_r5 H2
    have lt : (nI (fr + k) < nI to) = True := eq_true (nI_lt (by omega) (by omega))
    have ck : (nI (fr + k)).toNatClampNeg = fr + k := nI_clamp (by omega)
    refine wX5_text_192.trans ?_
    simp (disch := first | exact t1 | exact t2 | exact t3 | exact m_x152 H2 (by omega) | exact m_x155 H2 (by omega) | first | assumption | exact nI_ne0 (by decide) (by decide) | exact zb_01 | exact Or.inl rfl | exact Or.inr rfl | with_unfolding_all exact id (by assumption) | with_unfolding_all exact id (xix_8 (by assumption) (by omega) (by omega)) | omega) only [wX5_text_194, wX5_text_196, wX5_text_199, wX5_text_200, wX5_text_203, wX5_text_205, wX5_text_206, wX5_text_209, wX5_text_211, wX5_text_212, wX5_text_213, wX5_text_216, if_true, if_false, ↓reduceIte, xpu_s, xpu_n, Option.bind_some, xk_i, xk_r, xk_0, xk_u, xk_l, xk_k, xk_q, rf_s, rf_n, q_e1, q_e2, Nat.zero_add, Nat.reduceEqDiff, Nat.reduceAdd, Nat.reduceMul, Nat.reduceSub, Nat.reduceLT, Nat.reduceLeDiff, Nat.reduceDiv, Nat.reduceMod, lt, ck, r2, r5, nI_add]
/-- a reader is made -/
theorem kX6_init (T : TX h) (S : STR h) (hX : 170 ≤ oX h) (t64 : oT h 64 = 1) (r3 : oR h 64 3 = some 78) (t78 : oT h 78 = 41) (n78 : oN h 78 = 400) (tp : ∀ k, k < 400 → oI h 78 k &&& nI 255 = nI (t k) ∧ t k < 256) (hn : n ≤ 400) : ∃ h5 c l, C_ (d + 5) mX6_init [.ref (oX h), .ref 64, .int (nI n)] (pO h 8 11) = some (none, h5) ∧ CT h5 (oX h) n t 0 (.inr (0, 0, 34, 0)) ∧ SK h5 (oX h) (oX h) c plN ∧ LK h5 (oX h) (oX h) l plN ∧ GX (fun _ => False) h h5 6 40 := by
  -- the parts of it
  obtain ⟨o, ho⟩ : ∃ o, o = oX h := ⟨_, rfl⟩
  rw [← ho]
  have T0 : TX (pO h 8 11) := TX_O T
  obtain ⟨h1, e1⟩ : ∃ h1, h1 = pR (pO h 8 11) o (va_up (oR (pO h 8 11) o) 10 (some 64)) := ⟨_, rfl⟩
  have x1 : oX h1 = o + 1 := by rw [e1, ho]; rfl
  have T1 : TX h1 := by rw [e1]; exact T0
  have t1 : oT h1 o = 8 := by
    rw [e1]
    show oT (pO h 8 11) o = 8
    rw [o_TO, if_pos ho]
  have i1 : oI h1 o = fun _ => 0 := by
    rw [e1]
    show oI (pO h 8 11) o = _
    rw [o_IO, if_pos ho]
  have G1 : GX (fun _ => False) h h1 1 11 := by
    rw [e1]
    exact GX_new GX_O (GX_R fun _ => rfl) (by omega)
  have ox : oX h1 = o + 1 := x1
  have I2 := kX2_init (d := d) T1
  obtain ⟨c1, c2, c3, c4, c5, c6, G2⟩ := hS_f (t := 9) T1
  rw [x1] at c1 c2 c3 c4 c5 c6
  obtain ⟨h2, e2⟩ : ∃ h2, h2 = pR (hS h1) o (va_up (oR (hS h1) o) 1 (some (o + 1))) := ⟨_, rfl⟩
  have x2 : oX h2 = o + 4 := by rw [e2]; exact c6
  have G2' : GX (fun _ => False) h h2 4 24 := by
    rw [e2]
    exact GX_le (GX_new (GX_trans G1 G2 (fun _ _ z => z)) (GX_R fun _ => rfl) (by omega)) (by omega) (by omega)
  have T2 : TX h2 := TX_G T G2'
  have s12 : sm h1 (hS h1) o := G2.2.2.2.2.2 o (by omega) (fun z => z)
  have t2 : oT (hS h1) o = 8 := by rw [s12.1]; exact t1
  have I3 := kJ2_init (d := d + 1) T2
  obtain ⟨l1, l2, l3, G3⟩ := hL_G (t := 18) T2
  rw [x2] at l1 l2 l3
  have s23 : ∀ a, a < oX h2 → sm h2 (hL h2) a := fun a ha => G3.2.2.2.2.2 a ha (fun z => z)
  have t3 : oT (hL h2) o = 8 := by
    rw [(s23 o (by omega)).1, e2]
    exact t2
  obtain ⟨h3, e3⟩ : ∃ h3, h3 = pR (hL h2) o (va_up (oR (hL h2) o) 2 (some (o + 4))) := ⟨_, rfl⟩
  have G3' : GX (fun _ => False) h h3 6 40 := by
    rw [e3]
    exact GX_le (GX_new (GX_trans G2' G3 (fun _ _ z => z)) (GX_R fun _ => rfl) (by omega)) (by omega) (by omega)
  have t3' : oT h3 o = 8 := by rw [e3]; exact t3
  obtain ⟨h5, e5⟩ : ∃ h5, h5 = pI (pI h3 o (va_up (oI h3 o) 9 (-1))) o (va_up (oI (pI h3 o (va_up (oI h3 o) 9 (-1))) o) 0 (nI n)) := ⟨_, rfl⟩
  have G5 : GX (fun _ => False) h h5 6 40 := by
    rw [e5]
    exact GX_new (GX_new G3' (GX_I fun _ => rfl) (by omega)) (GX_I fun _ => rfl) (by omega)
  have t4 : oT (pI h3 o (va_up (oI h3 o) 9 (-1))) o = 8 := t3'
  have i5 : oI h5 o = va_up (va_up (fun _ => 0) 9 (-1)) 0 (nI n) := by
    have i3 : oI h3 o = fun _ => 0 := by
      rw [e3]
      show oI (hL h2) o = _
      rw [(s23 o (by omega)).2.2.1, e2]
      show oI (hS h1) o = _
      rw [s12.2.2.1]
      exact i1
    rw [e5, o_II, if_pos rfl, o_II, if_pos rfl, i3]
  have T5 : TX h5 := TX_G T G5
  have s05 : ∀ a, a < oX h → sm h h5 a := fun a ha => G5.2.2.2.2.2 a ha (fun z => z)
  -- what is behind the scene's making, and behind the list's
  have s25 : ∀ a, ¬ a = o → a < oX h2 → sm (hS h1) h5 a := fun a ha hl => by
    have q1 : sm (hS h1) h2 a := by rw [e2]; exact sm_R sm_refl ha
    have q2 : sm (hL h2) h5 a := by rw [e5, e3]; exact sm_I (sm_I (sm_R sm_refl ha) ha) ha
    exact sm_trans q1 (sm_trans (s23 a hl) q2)
  have s35 : ∀ a, ¬ a = o → sm (hL h2) h5 a := fun a ha => by rw [e5, e3]; exact sm_I (sm_I (sm_R sm_refl ha) ha) ha
  have r5 : oR h5 o = va_up (va_up (va_up (oR (pO h 8 11) o) 10 (some 64)) 1 (some (o + 1))) 2 (some (o + 4)) := by
    have q1 : oR h5 o = oR h3 o := by rw [e5]; rfl
    rw [q1, e3, o_RR, if_pos rfl, (s23 o (by omega)).2.2.2.1, e2, o_RR, if_pos rfl, s12.2.2.2.1, e1, o_RR, if_pos rfl]
  have tg : ∀ a, 9 ≤ oT (hL h2) a → oT (hL h2) a ≤ 18 → sm (hL h2) h5 a := fun a h1 h2 => s35 a (fun z => by rw [z, t3] at h1; omega)
  have tgS : ∀ a, 9 ≤ oT (hS h1) a → oT (hS h1) a ≤ 18 → sm (hS h1) h5 a := fun a h1 h2 => s25 a (fun z => by rw [z, t2] at h1; omega) (by
    have := TX_lt (TX_G T1 G2) (a := a) (by omega)
    omega)
  refine ⟨h5, o + 1, o + 4, ?_, ⟨⟨⟨?_, ?_, ?_, ?_, ?_, ?_, hn, by omega, ?_, ?_⟩, ?_, ?_⟩, STR_m (fun a ha => s05 a (by omega)) S, T5⟩, ?_, ?_, G5⟩
  · have t0 : oT (pO h 8 11) o = 8 := by rw [o_TO, if_pos ho]
    rw [x1] at I2
    rw [x2] at I3
    simp (disch := first | exact t0 | exact t1 | exact t2 | exact t3 | exact t3' | exact t4 | first | assumption | exact nI_ne0 (by decide) (by decide) | exact zb_01 | exact Or.inl rfl | exact Or.inr rfl | with_unfolding_all exact id (by assumption) | with_unfolding_all exact id (xix_8 (by assumption) (by omega) (by omega)) | omega) only [wX6_init_e, wX6_init_0, wX6_init_0q, wX6_init_0n, wX6_init_1, wX6_init_1q, wX6_init_1n, wX6_init_2, wX6_init_2q, wX6_init_5, wX6_init_5q, wX6_init_5n, wX6_init_6, wX6_init_9, wX6_init_9q, wX6_init_9n, wX6_init_10, wX6_init_13, wX6_init_14, wX6_init_17, wX6_init_17q, wX6_init_20, wX6_init_20q, wX6_init_20n, wX6_init_21, wX6_init_24, wX6_init_25, wX6_init_26, wX6_init_29, wX6_init_29q, wX6_init_32, wX6_init_32q, wX6_init_32n, wX6_init_33, wX6_init_34, wX6_init_37, wX6_init_37q, wX6_init_37n, wX6_init_38, wX6_init_39, wX6_init_42, if_true, if_false, ↓reduceIte, xpu_s, xpu_n, Option.bind_some, xk_i, xk_r, xk_0, xk_u, xk_l, xk_k, xk_q, rf_s, rf_n, q_e1, q_e2, Nat.zero_add, Nat.reduceEqDiff, Nat.reduceAdd, Nat.reduceMul, Nat.reduceSub, Nat.reduceLT, Nat.reduceLeDiff, Nat.reduceDiv, Nat.reduceMod, ← e1, x1, I2, ← e2, x2, I3, ← e3, ← e5, not_true_eq_false, not_false_eq_true, and_self, and_true, true_and, and_false, false_and, or_true, true_or, or_false, false_or, decide_true, decide_false, zb_t, zb_f, zb_0, zb_1, eq_self]
  · rw [e5]; exact t3'
  · rw [r5, up_ne (by decide), up_ne (by decide), up_s]
  · rw [(s05 64 (by omega)).1]; exact t64
  · rw [(s05 64 (by omega)).2.2.2.1]; exact r3
  · rw [(s05 78 (by omega)).1]; exact t78
  · rw [(s05 78 (by omega)).2.1]; exact n78
  · intro k hk
    rw [(s05 78 (by omega)).2.2.1]
    exact tp k hk
  · rw [i5, up_s]
  · rw [i5, up_ne (by decide), up_ne (by decide)]; exact nI_0.symm
  · refine ⟨?_, ?_, ⟨Nat.le_refl _, Nat.zero_le _, by decide, fun z => absurd z (by decide), fun z => absurd z (by decide), fun z => absurd rfl z⟩, ?_, ?_, ?_, fun z => absurd z (by decide)⟩
    · rw [i5, up_ne (by decide), up_ne (by decide)]; exact nI_0.symm
    · rw [i5, up_ne (by decide), up_s]
    · rw [i5, up_ne (by decide), up_ne (by decide)]; exact nI_0.symm
    · rw [i5, up_ne (by decide), up_ne (by decide)]; exact nI_0.symm
    · rw [i5, up_ne (by decide), up_ne (by decide)]; exact nI_0.symm
  · have sc := s25 (o + 1) (by omega) (by omega)
    have rc : rq h5 (o + 1) 0 = o + 2 := by
      unfold rq
      rw [sc.2.2.2.1, c2]
      rfl
    have ra : rq (hS h1) (o + 2) 1 = o + 3 := c4
    obtain ⟨g1, g2, g3⟩ := LG_sm (s25 (o + 2) (by omega) (by omega)) (by rw [ra]; exact s25 (o + 3) (by omega) (by omega)) tgS (by omega) c3
    have n0 : sN plN = 0 := by decide
    have ic : oI h5 (o + 1) = va_up (va_up (va_up (va_up (fun _ => 0) 1 (nI 1)) 4 (nI 3)) 5 (nI 20)) 6 (nI 40) := by rw [sc.2.2.1]; exact c5
    unfold SK SCo
    rw [rc, n0, ic]
    refine ⟨by rw [r5, up_ne (by decide), up_s], ⟨by rw [sc.1]; exact c1, rfl, nI_0.symm, nI_0.symm, rfl, rfl, rfl, nI_0.symm, ?_, g1.1, fun k hk => by omega⟩, g1, by omega, by omega, by rw [g3, ra]; omega⟩
    rw [sc.2.2.2.1]; exact c2
  · obtain ⟨g1, g2, g3⟩ := LG_sm (s35 (o + 4) (by omega)) (by rw [l2]; exact s35 (o + 5) (by omega)) tg (by omega) l1
    have n0 : sNl plN = 0 := by decide
    unfold LK LWo
    rw [n0]
    exact ⟨by rw [r5, up_s], ⟨g1.1, fun k hk => by omega⟩, g1, by omega, by rw [g3, l2]; omega⟩
end
