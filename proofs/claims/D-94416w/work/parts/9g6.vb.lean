/-! THE LAW: rounds, 0 to 11 -/
section
variable {d n i : Nat} {h h1 h2 : xH} {P : sS} {f : rI}
theorem lg_cmp_s {x : Int64} : lg_cmp x x = nI 0 := by
  unfold lg_cmp
  have e : ¬ x < x := fun z => by have := Int64.lt_iff_toInt_lt.mp z; omega
  rw [if_neg e, if_pos rfl]
  rfl
/-- the same where the first side's call is one step -/
theorem LI_goP {q : sV} {m' : xM} {as as' : List Value} {d' : Nat} (I : LI h P f n) (hx : XGp 5 h as q) (hm : ∀ h1, MR h1 P → oI h1 156 = oI h 156 → ST3 h1 → MG d' h1 m' as' q) (hw : WF q.2) : ∃ h1 h2, xP 5 as h = some (some q.1, h1) ∧ C_ d' m' as' h1 = some (some q.1, h2) ∧ LI h2 q.2 f n ∧ oC h2 ≤ oC h + 15000 ∧ oS h2 ≤ oS h + 60000 ∧ oT h 64 = 1 ∧ oT h1 150 = 7 ∧ oT h1 31 = 39 ∧ oN h1 31 = n ∧ oI h1 31 = f := by
  obtain ⟨i1, i2, i3, i4, i5, i6⟩ := I
  obtain ⟨h1, e1, x1, km, c1, c2⟩ := hx
  have M1 := MR_KM km i2
  have st := STR_3 (show STR h1 from (XR_T x1).2.2.2.2.2.2.2.2.2.2.2.2.2.2.2.2.2.2.2.2.2.2.2)
  obtain ⟨h2, e2, M2, kx⟩ := hm h1 M1 (km 156 (by omega)).2.2.1 st
  have s1 := km 31 (by omega)
  have s2 := sm_KX kx (a := 31) (by omega)
  have cc : oC h2 = oC h1 ∧ oS h2 = oS h1 := ⟨congrArg (fun z => z.2.1) kx.1, congrArg (fun z => z.2.2) kx.1⟩
  have T := XR_T i1
  exact ⟨h1, h2, e1, e2, ⟨XR_KX kx x1, M2, hw, by rw [s2.1, s1.1]; exact i4, by rw [s2.2.1, s1.2.1]; exact i5, by rw [s2.2.2.1, s1.2.2.1]; exact i6⟩, by omega, by omega, T.1.1, mok_t M1.1 rfl, by rw [s1.1]; exact i4, by rw [s1.2.1]; exact i5, by rw [s1.2.2.1]; exact i6⟩
theorem rd_0 (I : LI h P f n) (hi : i + 6 ≤ n) (hn : n ≤ 384) : ∃ h2 P2, E_ (d + 221) mL_law 240 [.val (.ref 31), .val (.ref 64), .val (.ref 150), .val (.int (nI i))] [] h = E_ (d + 221) mL_law 1989 [.val (.ref 31), .val (.ref 64), .val (.ref 150), .val (.int (nI i))] [] h2 ∧ LI h2 P2 f n ∧ oC h2 ≤ oC h + 15000 ∧ oS h2 ≤ oS h + 60000 := by
  obtain ⟨i1, i2, W, i4, i5, i6⟩ := id I
  have hx : XG (d + 220) h mX0_feed [.ref 64, .int (f (i + 1)), .int (f (i + 2)), .int (f (i + 3)), .int (f (i + 4)), .int (f (i + 5))] (q_feed P ((f (i + 1))) ((f (i + 2))) ((f (i + 3))) ((f (i + 4))) ((f (i + 5)))) := nX0_feed (d := d + 219) (a := (f (i + 1))) (b := (f (i + 2))) (c := (f (i + 3))) (e := (f (i + 4))) (g := (f (i + 5))) i1 W
  have hm : ∀ h1, MR h1 P → oI h1 156 = oI h 156 → ST3 h1 → MG (d + 220) h1 mX5_feed [.ref 150, .int (f (i + 1)), .int (f (i + 2)), .int (f (i + 3)), .int (f (i + 4)), .int (f (i + 5))] (q_feed P ((f (i + 1))) ((f (i + 2))) ((f (i + 3))) ((f (i + 4))) ((f (i + 5)))) := fun h1 M ew _ => by
    exact nX5_feed (d := d + 219) (a := (f (i + 1))) (b := (f (i + 2))) (c := (f (i + 3))) (e := (f (i + 4))) (g := (f (i + 5))) M W
  obtain ⟨h1, h2, e1, e2, J, c1, c2, t64, t150, t31, n31, f31⟩ := LI_go I hx hm (WF_feed W)
  obtain ⟨r, er⟩ := A_feed (a := (f (i + 1))) (b := (f (i + 2))) (c := (f (i + 3))) (e := (f (i + 4))) (g := (f (i + 5))) (P := P)
  rw [er] at e1 e2
  have x1 : nI i + nI 1 = nI (i + 1) := nI_add _ _
  have x2 : nI i + nI 2 = nI (i + 2) := nI_add _ _
  have x3 : nI i + nI 3 = nI (i + 3) := nI_add _ _
  have x4 : nI i + nI 4 = nI (i + 4) := nI_add _ _
  have x5 : nI i + nI 5 = nI (i + 5) := nI_add _ _
  refine ⟨h2, _, ?_, J, c1, c2⟩
  simp (disch := first | exact i4 | exact t31 | exact t64 | exact t150 | exact xix_8 i5 (by omega) (by omega) | exact xix_8 n31 (by omega) (by omega) | first | assumption | exact nI_ne0 (by decide) (by decide) | exact zb_01 | exact Or.inl rfl | exact Or.inr rfl | with_unfolding_all exact id (by assumption) | with_unfolding_all exact id (xix_8 (by assumption) (by omega) (by omega)) | omega) only [wL_law_240, wL_law_241, wL_law_242, wL_law_243, wL_law_244, wL_law_245, wL_law_246, wL_law_247, wL_law_248, wL_law_249, wL_law_250, wL_law_251, wL_law_252, wL_law_253, wL_law_254, wL_law_255, wL_law_256, wL_law_257, wL_law_258, wL_law_259, wL_law_260, wL_law_261, wL_law_262, wL_law_263, wL_law_264, wL_law_265, wL_law_266, wL_law_269, wL_law_270, wL_law_271, wL_law_272, wL_law_273, wL_law_274, wL_law_275, wL_law_276, wL_law_277, wL_law_278, wL_law_279, wL_law_280, wL_law_281, wL_law_282, wL_law_283, wL_law_284, wL_law_285, wL_law_286, wL_law_287, wL_law_288, wL_law_289, wL_law_290, wL_law_291, wL_law_292, wL_law_293, wL_law_294, wL_law_295, wL_law_298, wL_law_301, wL_law_302, if_true, if_false, ↓reduceIte, xpu_s, xpu_n, Option.bind_some, xk_i, xk_r, xk_0, xk_u, xk_l, xk_k, xk_q, rf_s, rf_n, q_e1, q_e2, Nat.zero_add, Nat.reduceEqDiff, Nat.reduceAdd, Nat.reduceMul, Nat.reduceSub, Nat.reduceLT, Nat.reduceLeDiff, Nat.reduceDiv, Nat.reduceMod, x1, x2, x3, x4, x5, nI_c, i6, f31, e1, e2, eq_self, not_true_eq_false, not_false_eq_true, and_self, and_true, true_and, and_false, false_and, or_true, true_or, or_false, false_or, decide_true, decide_false, zb_t, zb_f, zb_0, zb_1, eq_self]
theorem rd_1 (I : LI h P f n) (hi : i + 6 ≤ n) (hn : n ≤ 384) : ∃ h2 P2, E_ (d + 221) mL_law 303 [.val (.ref 31), .val (.ref 64), .val (.ref 150), .val (.int (nI i))] [] h = E_ (d + 221) mL_law 1989 [.val (.ref 31), .val (.ref 64), .val (.ref 150), .val (.int (nI i))] [] h2 ∧ LI h2 P2 f n ∧ oC h2 ≤ oC h + 15000 ∧ oS h2 ≤ oS h + 60000 := by
  obtain ⟨i1, i2, W, i4, i5, i6⟩ := id I
  obtain ⟨q, ⟨r, er⟩, hw, hx, hm⟩ := n_text (d := d + 174) (a := f (i + 1)) (y1 := f (i + 2)) i1 W
  obtain ⟨h1, h2, e1, e2, J, c1, c2, t64, t150, t31, n31, f31⟩ := LI_go I hx (fun h1 M _ S3 => hm h1 M S3) hw
  rw [er] at e1 e2
  have x1 : nI i + nI 1 = nI (i + 1) := nI_add _ _
  have x2 : nI i + nI 2 = nI (i + 2) := nI_add _ _
  have x3 : nI i + nI 3 = nI (i + 3) := nI_add _ _
  have x4 : nI i + nI 4 = nI (i + 4) := nI_add _ _
  have x5 : nI i + nI 5 = nI (i + 5) := nI_add _ _
  refine ⟨h2, _, ?_, J, c1, c2⟩
  simp (disch := first | exact i4 | exact t31 | exact t64 | exact t150 | exact xix_8 i5 (by omega) (by omega) | exact xix_8 n31 (by omega) (by omega) | first | assumption | exact nI_ne0 (by decide) (by decide) | exact zb_01 | exact Or.inl rfl | exact Or.inr rfl | with_unfolding_all exact id (by assumption) | with_unfolding_all exact id (xix_8 (by assumption) (by omega) (by omega)) | omega) only [wL_law_303, wL_law_304, wL_law_305, wL_law_306, wL_law_307, wL_law_308, wL_law_309, wL_law_310, wL_law_311, wL_law_312, wL_law_313, wL_law_314, wL_law_317, wL_law_318, wL_law_319, wL_law_320, wL_law_321, wL_law_322, wL_law_323, wL_law_324, wL_law_325, wL_law_326, wL_law_327, wL_law_328, wL_law_331, wL_law_334, wL_law_335, if_true, if_false, ↓reduceIte, xpu_s, xpu_n, Option.bind_some, xk_i, xk_r, xk_0, xk_u, xk_l, xk_k, xk_q, rf_s, rf_n, q_e1, q_e2, Nat.zero_add, Nat.reduceEqDiff, Nat.reduceAdd, Nat.reduceMul, Nat.reduceSub, Nat.reduceLT, Nat.reduceLeDiff, Nat.reduceDiv, Nat.reduceMod, x1, x2, x3, x4, x5, nI_c, i6, f31, e1, e2, eq_self, not_true_eq_false, not_false_eq_true, and_self, and_true, true_and, and_false, false_and, or_true, true_or, or_false, false_or, decide_true, decide_false, zb_t, zb_f, zb_0, zb_1, eq_self]
theorem rd_2 (I : LI h P f n) (hi : i + 6 ≤ n) (hn : n ≤ 384) : ∃ h2 P2, E_ (d + 221) mL_law 336 [.val (.ref 31), .val (.ref 64), .val (.ref 150), .val (.int (nI i))] [] h = E_ (d + 221) mL_law 1989 [.val (.ref 31), .val (.ref 64), .val (.ref 150), .val (.int (nI i))] [] h2 ∧ LI h2 P2 f n ∧ oC h2 ≤ oC h + 15000 ∧ oS h2 ≤ oS h + 60000 := by
  obtain ⟨i1, i2, W, i4, i5, i6⟩ := id I
  have hx : XG (d + 220) h mX0_fault [.ref 64, .int (f (i + 1))] (q_fault P ((f (i + 1)))) := nX0_fault (d := d + 220) (x := (f (i + 1))) i1
  have hm : ∀ h1, MR h1 P → oI h1 156 = oI h 156 → ST3 h1 → MG (d + 220) h1 mX5_fault [.ref 150, .int (f (i + 1))] (q_fault P ((f (i + 1)))) := fun h1 M ew _ => by
    exact nX5_fault (d := d + 220) (x := (f (i + 1))) M
  obtain ⟨h1, h2, e1, e2, J, c1, c2, t64, t150, t31, n31, f31⟩ := LI_go I hx hm (W_fault W)
  obtain ⟨r, er⟩ := A_fault (x := (f (i + 1))) (P := P)
  rw [er] at e1 e2
  have x1 : nI i + nI 1 = nI (i + 1) := nI_add _ _
  have x2 : nI i + nI 2 = nI (i + 2) := nI_add _ _
  have x3 : nI i + nI 3 = nI (i + 3) := nI_add _ _
  have x4 : nI i + nI 4 = nI (i + 4) := nI_add _ _
  have x5 : nI i + nI 5 = nI (i + 5) := nI_add _ _
  refine ⟨h2, _, ?_, J, c1, c2⟩
  simp (disch := first | exact i4 | exact t31 | exact t64 | exact t150 | exact xix_8 i5 (by omega) (by omega) | exact xix_8 n31 (by omega) (by omega) | first | assumption | exact nI_ne0 (by decide) (by decide) | exact zb_01 | exact Or.inl rfl | exact Or.inr rfl | with_unfolding_all exact id (by assumption) | with_unfolding_all exact id (xix_8 (by assumption) (by omega) (by omega)) | omega) only [wL_law_336, wL_law_337, wL_law_338, wL_law_339, wL_law_340, wL_law_341, wL_law_342, wL_law_345, wL_law_346, wL_law_347, wL_law_348, wL_law_349, wL_law_350, wL_law_351, wL_law_354, wL_law_357, wL_law_358, if_true, if_false, ↓reduceIte, xpu_s, xpu_n, Option.bind_some, xk_i, xk_r, xk_0, xk_u, xk_l, xk_k, xk_q, rf_s, rf_n, q_e1, q_e2, Nat.zero_add, Nat.reduceEqDiff, Nat.reduceAdd, Nat.reduceMul, Nat.reduceSub, Nat.reduceLT, Nat.reduceLeDiff, Nat.reduceDiv, Nat.reduceMod, x1, x2, x3, x4, x5, nI_c, i6, f31, e1, e2, eq_self, not_true_eq_false, not_false_eq_true, and_self, and_true, true_and, and_false, false_and, or_true, true_or, or_false, false_or, decide_true, decide_false, zb_t, zb_f, zb_0, zb_1, eq_self]
theorem rd_3 (I : LI h P f n) (hi : i + 6 ≤ n) (hn : n ≤ 384) : ∃ h2 P2, E_ (d + 221) mL_law 359 [.val (.ref 31), .val (.ref 64), .val (.ref 150), .val (.int (nI i))] [] h = E_ (d + 221) mL_law 1989 [.val (.ref 31), .val (.ref 64), .val (.ref 150), .val (.int (nI i))] [] h2 ∧ LI h2 P2 f n ∧ oC h2 ≤ oC h + 15000 ∧ oS h2 ≤ oS h + 60000 := by
  obtain ⟨i1, i2, W, i4, i5, i6⟩ := id I
  have hx : XG (d + 220) h mX0_car [.ref 64, .int (f (i + 1)), .int (f (i + 2))] (q_car P ((f (i + 1))) ((f (i + 2)))) := nX0_car (d := d + 217) (c := (f (i + 1))) (x := (f (i + 2))) i1 W
  have hm : ∀ h1, MR h1 P → oI h1 156 = oI h 156 → ST3 h1 → MG (d + 220) h1 mX5_car [.ref 150, .int (f (i + 1)), .int (f (i + 2))] (q_car P ((f (i + 1))) ((f (i + 2)))) := fun h1 M ew _ => by
    exact nX5_car (d := d + 218) (c := (f (i + 1))) (x := (f (i + 2))) M W
  obtain ⟨h1, h2, e1, e2, J, c1, c2, t64, t150, t31, n31, f31⟩ := LI_go I hx hm (W_car W)
  obtain ⟨r, er⟩ := A_car (c := (f (i + 1))) (x := (f (i + 2))) (P := P)
  rw [er] at e1 e2
  have x1 : nI i + nI 1 = nI (i + 1) := nI_add _ _
  have x2 : nI i + nI 2 = nI (i + 2) := nI_add _ _
  have x3 : nI i + nI 3 = nI (i + 3) := nI_add _ _
  have x4 : nI i + nI 4 = nI (i + 4) := nI_add _ _
  have x5 : nI i + nI 5 = nI (i + 5) := nI_add _ _
  refine ⟨h2, _, ?_, J, c1, c2⟩
  simp (disch := first | exact i4 | exact t31 | exact t64 | exact t150 | exact xix_8 i5 (by omega) (by omega) | exact xix_8 n31 (by omega) (by omega) | first | assumption | exact nI_ne0 (by decide) (by decide) | exact zb_01 | exact Or.inl rfl | exact Or.inr rfl | with_unfolding_all exact id (by assumption) | with_unfolding_all exact id (xix_8 (by assumption) (by omega) (by omega)) | omega) only [wL_law_359, wL_law_360, wL_law_361, wL_law_362, wL_law_363, wL_law_364, wL_law_365, wL_law_366, wL_law_367, wL_law_368, wL_law_369, wL_law_370, wL_law_373, wL_law_374, wL_law_375, wL_law_376, wL_law_377, wL_law_378, wL_law_379, wL_law_380, wL_law_381, wL_law_382, wL_law_383, wL_law_384, wL_law_387, wL_law_390, wL_law_391, if_true, if_false, ↓reduceIte, xpu_s, xpu_n, Option.bind_some, xk_i, xk_r, xk_0, xk_u, xk_l, xk_k, xk_q, rf_s, rf_n, q_e1, q_e2, Nat.zero_add, Nat.reduceEqDiff, Nat.reduceAdd, Nat.reduceMul, Nat.reduceSub, Nat.reduceLT, Nat.reduceLeDiff, Nat.reduceDiv, Nat.reduceMod, x1, x2, x3, x4, x5, nI_c, i6, f31, e1, e2, eq_self, not_true_eq_false, not_false_eq_true, and_self, and_true, true_and, and_false, false_and, or_true, true_or, or_false, false_or, decide_true, decide_false, zb_t, zb_f, zb_0, zb_1, eq_self]
theorem rd_4 (I : LI h P f n) (hi : i + 6 ≤ n) (hn : n ≤ 384) : ∃ h2 P2, E_ (d + 221) mL_law 392 [.val (.ref 31), .val (.ref 64), .val (.ref 150), .val (.int (nI i))] [] h = E_ (d + 221) mL_law 1989 [.val (.ref 31), .val (.ref 64), .val (.ref 150), .val (.int (nI i))] [] h2 ∧ LI h2 P2 f n ∧ oC h2 ≤ oC h + 15000 ∧ oS h2 ≤ oS h + 60000 := by
  obtain ⟨i1, i2, W, i4, i5, i6⟩ := id I
  by_cases q : f (i + 2) = 0
  · have hx : XG (d + 220) h mX0_trait [.ref 64, .int (f (i + 1)), .int (nI 0)] (q_trait P ((f (i + 1))) ((nI 0))) := nX0_trait (d := d + 218) (x := (f (i + 1))) (b := (nI 0)) i1 W (Or.inl rfl)
    have hm : ∀ h1, MR h1 P → oI h1 156 = oI h 156 → ST3 h1 → MG (d + 220) h1 mX5_trait [.ref 150, .int (f (i + 1)), .int (nI 0)] (q_trait P ((f (i + 1))) ((nI 0))) := fun h1 M ew _ => by
      exact nX5_trait (d := d + 219) (x := (f (i + 1))) (b := (nI 0)) M
    obtain ⟨h1, h2, e1, e2, J, c1, c2, t64, t150, t31, n31, f31⟩ := LI_go I hx hm (WF_trait (t := 0) W (by omega))
    obtain ⟨r, er⟩ := A_trait (x := (f (i + 1))) (b := (nI 0)) (P := P)
    rw [er] at e1 e2
    have x1 : nI i + nI 1 = nI (i + 1) := nI_add _ _
    have x2 : nI i + nI 2 = nI (i + 2) := nI_add _ _
    have x3 : nI i + nI 3 = nI (i + 3) := nI_add _ _
    have x4 : nI i + nI 4 = nI (i + 4) := nI_add _ _
    have x5 : nI i + nI 5 = nI (i + 5) := nI_add _ _
    have z0 : (f (i + 2) = 0) = True := eq_true q
    refine ⟨h2, _, ?_, J, c1, c2⟩
    simp (disch := first | exact i4 | exact t31 | exact t64 | exact t150 | exact xix_8 i5 (by omega) (by omega) | exact xix_8 n31 (by omega) (by omega) | first | assumption | exact nI_ne0 (by decide) (by decide) | exact zb_01 | exact Or.inl rfl | exact Or.inr rfl | with_unfolding_all exact id (by assumption) | with_unfolding_all exact id (xix_8 (by assumption) (by omega) (by omega)) | omega) only [wL_law_392, wL_law_393, wL_law_394, wL_law_395, wL_law_396, wL_law_397, wL_law_398, wL_law_399, wL_law_400, wL_law_401, wL_law_402, wL_law_403, wL_law_406, wL_law_407, wL_law_410, wL_law_411, wL_law_414, wL_law_415, wL_law_416, wL_law_417, wL_law_418, wL_law_419, wL_law_420, wL_law_421, wL_law_422, wL_law_423, wL_law_424, wL_law_425, wL_law_428, wL_law_429, wL_law_432, wL_law_433, wL_law_436, wL_law_439, wL_law_440, if_true, if_false, ↓reduceIte, xpu_s, xpu_n, Option.bind_some, xk_i, xk_r, xk_0, xk_u, xk_l, xk_k, xk_q, rf_s, rf_n, q_e1, q_e2, Nat.zero_add, Nat.reduceEqDiff, Nat.reduceAdd, Nat.reduceMul, Nat.reduceSub, Nat.reduceLT, Nat.reduceLeDiff, Nat.reduceDiv, Nat.reduceMod, x1, x2, x3, x4, x5, nI_c, i6, f31, e1, e2, eq_self, z0, nI_00, nI_ne1, not_true_eq_false, not_false_eq_true, and_self, and_true, true_and, and_false, false_and, or_true, true_or, or_false, false_or, decide_true, decide_false, zb_t, zb_f, zb_0, zb_1, eq_self]
  · have hx : XG (d + 220) h mX0_trait [.ref 64, .int (f (i + 1)), .int (nI 1)] (q_trait P ((f (i + 1))) ((nI 1))) := nX0_trait (d := d + 218) (x := (f (i + 1))) (b := (nI 1)) i1 W (Or.inr rfl)
    have hm : ∀ h1, MR h1 P → oI h1 156 = oI h 156 → ST3 h1 → MG (d + 220) h1 mX5_trait [.ref 150, .int (f (i + 1)), .int (nI 1)] (q_trait P ((f (i + 1))) ((nI 1))) := fun h1 M ew _ => by
      exact nX5_trait (d := d + 219) (x := (f (i + 1))) (b := (nI 1)) M
    obtain ⟨h1, h2, e1, e2, J, c1, c2, t64, t150, t31, n31, f31⟩ := LI_go I hx hm (WF_trait (t := 1) W (by omega))
    obtain ⟨r, er⟩ := A_trait (x := (f (i + 1))) (b := (nI 1)) (P := P)
    rw [er] at e1 e2
    have x1 : nI i + nI 1 = nI (i + 1) := nI_add _ _
    have x2 : nI i + nI 2 = nI (i + 2) := nI_add _ _
    have x3 : nI i + nI 3 = nI (i + 3) := nI_add _ _
    have x4 : nI i + nI 4 = nI (i + 4) := nI_add _ _
    have x5 : nI i + nI 5 = nI (i + 5) := nI_add _ _
    have z0 : (f (i + 2) = 0) = False := eq_false q
    refine ⟨h2, _, ?_, J, c1, c2⟩
    simp (disch := first | exact i4 | exact t31 | exact t64 | exact t150 | exact xix_8 i5 (by omega) (by omega) | exact xix_8 n31 (by omega) (by omega) | first | assumption | exact nI_ne0 (by decide) (by decide) | exact zb_01 | exact Or.inl rfl | exact Or.inr rfl | with_unfolding_all exact id (by assumption) | with_unfolding_all exact id (xix_8 (by assumption) (by omega) (by omega)) | omega) only [wL_law_392, wL_law_393, wL_law_394, wL_law_395, wL_law_396, wL_law_397, wL_law_398, wL_law_399, wL_law_400, wL_law_401, wL_law_402, wL_law_403, wL_law_406, wL_law_407, wL_law_410, wL_law_411, wL_law_414, wL_law_415, wL_law_416, wL_law_417, wL_law_418, wL_law_419, wL_law_420, wL_law_421, wL_law_422, wL_law_423, wL_law_424, wL_law_425, wL_law_428, wL_law_429, wL_law_432, wL_law_433, wL_law_436, wL_law_439, wL_law_440, if_true, if_false, ↓reduceIte, xpu_s, xpu_n, Option.bind_some, xk_i, xk_r, xk_0, xk_u, xk_l, xk_k, xk_q, rf_s, rf_n, q_e1, q_e2, Nat.zero_add, Nat.reduceEqDiff, Nat.reduceAdd, Nat.reduceMul, Nat.reduceSub, Nat.reduceLT, Nat.reduceLeDiff, Nat.reduceDiv, Nat.reduceMod, x1, x2, x3, x4, x5, nI_c, i6, f31, e1, e2, eq_self, z0, nI_00, nI_ne1, not_true_eq_false, not_false_eq_true, and_self, and_true, true_and, and_false, false_and, or_true, true_or, or_false, false_or, decide_true, decide_false, zb_t, zb_f, zb_0, zb_1, eq_self]
theorem rd_5 (I : LI h P f n) (hi : i + 6 ≤ n) (hn : n ≤ 384) : ∃ h2 P2, E_ (d + 221) mL_law 441 [.val (.ref 31), .val (.ref 64), .val (.ref 150), .val (.int (nI i))] [] h = E_ (d + 221) mL_law 1989 [.val (.ref 31), .val (.ref 64), .val (.ref 150), .val (.int (nI i))] [] h2 ∧ LI h2 P2 f n ∧ oC h2 ≤ oC h + 15000 ∧ oS h2 ≤ oS h + 60000 := by
  obtain ⟨i1, i2, W, i4, i5, i6⟩ := id I
  have hx : XG (d + 220) h mX0_set [.ref 64, .int (f (i + 1)), .int (f (i + 2))] (q_set P ((f (i + 1))) ((f (i + 2)))) := nX0_set (d := d + 219) (x := (f (i + 1))) (y := (f (i + 2))) i1 W
  have hm : ∀ h1, MR h1 P → oI h1 156 = oI h 156 → ST3 h1 → MG (d + 220) h1 mX5_set [.ref 150, .int (f (i + 1)), .int (f (i + 2))] (q_set P ((f (i + 1))) ((f (i + 2)))) := fun h1 M ew _ => by
    exact nX5_set (d := d + 219) (x := (f (i + 1))) (y := (f (i + 2))) M
  obtain ⟨h1, h2, e1, e2, J, c1, c2, t64, t150, t31, n31, f31⟩ := LI_go I hx hm (WF_set W)
  obtain ⟨r, er⟩ := A_set (x := (f (i + 1))) (y := (f (i + 2))) (P := P)
  rw [er] at e1 e2
  have x1 : nI i + nI 1 = nI (i + 1) := nI_add _ _
  have x2 : nI i + nI 2 = nI (i + 2) := nI_add _ _
  have x3 : nI i + nI 3 = nI (i + 3) := nI_add _ _
  have x4 : nI i + nI 4 = nI (i + 4) := nI_add _ _
  have x5 : nI i + nI 5 = nI (i + 5) := nI_add _ _
  refine ⟨h2, _, ?_, J, c1, c2⟩
  simp (disch := first | exact i4 | exact t31 | exact t64 | exact t150 | exact xix_8 i5 (by omega) (by omega) | exact xix_8 n31 (by omega) (by omega) | first | assumption | exact nI_ne0 (by decide) (by decide) | exact zb_01 | exact Or.inl rfl | exact Or.inr rfl | with_unfolding_all exact id (by assumption) | with_unfolding_all exact id (xix_8 (by assumption) (by omega) (by omega)) | omega) only [wL_law_441, wL_law_442, wL_law_443, wL_law_444, wL_law_445, wL_law_446, wL_law_447, wL_law_448, wL_law_449, wL_law_450, wL_law_451, wL_law_452, wL_law_455, wL_law_456, wL_law_457, wL_law_458, wL_law_459, wL_law_460, wL_law_461, wL_law_462, wL_law_463, wL_law_464, wL_law_465, wL_law_466, wL_law_469, wL_law_472, wL_law_473, if_true, if_false, ↓reduceIte, xpu_s, xpu_n, Option.bind_some, xk_i, xk_r, xk_0, xk_u, xk_l, xk_k, xk_q, rf_s, rf_n, q_e1, q_e2, Nat.zero_add, Nat.reduceEqDiff, Nat.reduceAdd, Nat.reduceMul, Nat.reduceSub, Nat.reduceLT, Nat.reduceLeDiff, Nat.reduceDiv, Nat.reduceMod, x1, x2, x3, x4, x5, nI_c, i6, f31, e1, e2, eq_self, not_true_eq_false, not_false_eq_true, and_self, and_true, true_and, and_false, false_and, or_true, true_or, or_false, false_or, decide_true, decide_false, zb_t, zb_f, zb_0, zb_1, eq_self]
theorem rd_6 (I : LI h P f n) (hi : i + 6 ≤ n) (hn : n ≤ 384) : ∃ h2 P2, E_ (d + 221) mL_law 474 [.val (.ref 31), .val (.ref 64), .val (.ref 150), .val (.int (nI i))] [] h = E_ (d + 221) mL_law 1989 [.val (.ref 31), .val (.ref 64), .val (.ref 150), .val (.int (nI i))] [] h2 ∧ LI h2 P2 f n ∧ oC h2 ≤ oC h + 15000 ∧ oS h2 ≤ oS h + 60000 := by
  obtain ⟨i1, i2, W, i4, i5, i6⟩ := id I
  have hx : XG (d + 220) h mX0_chance [.ref 64, .int (f (i + 1))] (q_chance P (oI h 156) ((f (i + 1)))) := nX0_chance (d := d + 13) (c := (f (i + 1))) i1 W (oI h 156)
  have hm : ∀ h1, MR h1 P → oI h1 156 = oI h 156 → ST3 h1 → MG (d + 220) h1 mX5_chance [.ref 150, .int (f (i + 1))] (q_chance P (oI h 156) ((f (i + 1)))) := fun h1 M ew _ => by
    rw [← ew]
    exact nX5_chance (d := d + 216) (c := (f (i + 1))) M W
  obtain ⟨h1, h2, e1, e2, J, c1, c2, t64, t150, t31, n31, f31⟩ := LI_go I hx hm (W_chance W)
  obtain ⟨r, er⟩ := A_chance (w := oI h 156) (c := (f (i + 1))) (P := P)
  rw [er] at e1 e2
  have x1 : nI i + nI 1 = nI (i + 1) := nI_add _ _
  have x2 : nI i + nI 2 = nI (i + 2) := nI_add _ _
  have x3 : nI i + nI 3 = nI (i + 3) := nI_add _ _
  have x4 : nI i + nI 4 = nI (i + 4) := nI_add _ _
  have x5 : nI i + nI 5 = nI (i + 5) := nI_add _ _
  refine ⟨h2, _, ?_, J, c1, c2⟩
  simp (disch := first | exact i4 | exact t31 | exact t64 | exact t150 | exact xix_8 i5 (by omega) (by omega) | exact xix_8 n31 (by omega) (by omega) | first | assumption | exact nI_ne0 (by decide) (by decide) | exact zb_01 | exact Or.inl rfl | exact Or.inr rfl | with_unfolding_all exact id (by assumption) | with_unfolding_all exact id (xix_8 (by assumption) (by omega) (by omega)) | omega) only [wL_law_474, wL_law_475, wL_law_476, wL_law_477, wL_law_478, wL_law_479, wL_law_480, wL_law_483, wL_law_484, wL_law_485, wL_law_486, wL_law_487, wL_law_488, wL_law_489, wL_law_492, wL_law_495, wL_law_496, if_true, if_false, ↓reduceIte, xpu_s, xpu_n, Option.bind_some, xk_i, xk_r, xk_0, xk_u, xk_l, xk_k, xk_q, rf_s, rf_n, q_e1, q_e2, Nat.zero_add, Nat.reduceEqDiff, Nat.reduceAdd, Nat.reduceMul, Nat.reduceSub, Nat.reduceLT, Nat.reduceLeDiff, Nat.reduceDiv, Nat.reduceMod, x1, x2, x3, x4, x5, nI_c, i6, f31, e1, e2, eq_self, not_true_eq_false, not_false_eq_true, and_self, and_true, true_and, and_false, false_and, or_true, true_or, or_false, false_or, decide_true, decide_false, zb_t, zb_f, zb_0, zb_1, eq_self]
theorem rd_7 (I : LI h P f n) (hi : i + 6 ≤ n) (hn : n ≤ 384) : ∃ h2 P2, E_ (d + 221) mL_law 497 [.val (.ref 31), .val (.ref 64), .val (.ref 150), .val (.int (nI i))] [] h = E_ (d + 221) mL_law 1989 [.val (.ref 31), .val (.ref 64), .val (.ref 150), .val (.int (nI i))] [] h2 ∧ LI h2 P2 f n ∧ oC h2 ≤ oC h + 15000 ∧ oS h2 ≤ oS h + 60000 := by
  obtain ⟨i1, i2, W, i4, i5, i6⟩ := id I
  have hx : XG (d + 220) h mX0_can [.ref 64, .int (f (i + 1))] (q_can P (oI h 156) ((f (i + 1)))) := nX0_can (d := d + 13) (c := (f (i + 1))) i1 W (oI h 156)
  have hm : ∀ h1, MR h1 P → oI h1 156 = oI h 156 → ST3 h1 → MG (d + 220) h1 mX5_can [.ref 150, .int (f (i + 1))] (q_can P (oI h 156) ((f (i + 1)))) := fun h1 M ew _ => by
    rw [← ew]
    exact nX5_can (d := d + 217) (c := (f (i + 1))) M W
  obtain ⟨h1, h2, e1, e2, J, c1, c2, t64, t150, t31, n31, f31⟩ := LI_go I hx hm (W_can W)
  obtain ⟨r, er⟩ := A_can (w := oI h 156) (c := (f (i + 1))) (P := P)
  rw [er] at e1 e2
  have x1 : nI i + nI 1 = nI (i + 1) := nI_add _ _
  have x2 : nI i + nI 2 = nI (i + 2) := nI_add _ _
  have x3 : nI i + nI 3 = nI (i + 3) := nI_add _ _
  have x4 : nI i + nI 4 = nI (i + 4) := nI_add _ _
  have x5 : nI i + nI 5 = nI (i + 5) := nI_add _ _
  refine ⟨h2, _, ?_, J, c1, c2⟩
  simp (disch := first | exact i4 | exact t31 | exact t64 | exact t150 | exact xix_8 i5 (by omega) (by omega) | exact xix_8 n31 (by omega) (by omega) | first | assumption | exact nI_ne0 (by decide) (by decide) | exact zb_01 | exact Or.inl rfl | exact Or.inr rfl | with_unfolding_all exact id (by assumption) | with_unfolding_all exact id (xix_8 (by assumption) (by omega) (by omega)) | omega) only [wL_law_497, wL_law_498, wL_law_499, wL_law_500, wL_law_501, wL_law_502, wL_law_503, wL_law_506, wL_law_507, wL_law_508, wL_law_509, wL_law_510, wL_law_511, wL_law_512, wL_law_515, wL_law_518, wL_law_519, if_true, if_false, ↓reduceIte, xpu_s, xpu_n, Option.bind_some, xk_i, xk_r, xk_0, xk_u, xk_l, xk_k, xk_q, rf_s, rf_n, q_e1, q_e2, Nat.zero_add, Nat.reduceEqDiff, Nat.reduceAdd, Nat.reduceMul, Nat.reduceSub, Nat.reduceLT, Nat.reduceLeDiff, Nat.reduceDiv, Nat.reduceMod, x1, x2, x3, x4, x5, nI_c, i6, f31, e1, e2, eq_self, not_true_eq_false, not_false_eq_true, and_self, and_true, true_and, and_false, false_and, or_true, true_or, or_false, false_or, decide_true, decide_false, zb_t, zb_f, zb_0, zb_1, eq_self]
theorem rd_8 (I : LI h P f n) (hi : i + 6 ≤ n) (hn : n ≤ 384) : ∃ h2 P2, E_ (d + 221) mL_law 520 [.val (.ref 31), .val (.ref 64), .val (.ref 150), .val (.int (nI i))] [] h = E_ (d + 221) mL_law 1989 [.val (.ref 31), .val (.ref 64), .val (.ref 150), .val (.int (nI i))] [] h2 ∧ LI h2 P2 f n ∧ oC h2 ≤ oC h + 15000 ∧ oS h2 ≤ oS h + 60000 := by
  obtain ⟨i1, i2, W, i4, i5, i6⟩ := id I
  have hx : XG (d + 220) h mX0_run [.ref 64, .int (f (i + 1)), .int (f (i + 2))] (q_run P (oI h 156) ((f (i + 1))) ((f (i + 2)))) := nX0_run (d := d + 11) (x := (f (i + 1))) (y := (f (i + 2))) i1 W (oI h 156)
  have hm : ∀ h1, MR h1 P → oI h1 156 = oI h 156 → ST3 h1 → MG (d + 220) h1 mX5_run [.ref 150, .int (f (i + 1)), .int (f (i + 2))] (q_run P (oI h 156) ((f (i + 1))) ((f (i + 2)))) := fun h1 M ew _ => by
    rw [← ew]
    exact nX5_run (d := d + 214) (x := (f (i + 1))) (y := (f (i + 2))) M W
  obtain ⟨h1, h2, e1, e2, J, c1, c2, t64, t150, t31, n31, f31⟩ := LI_go I hx hm (W_run W)
  obtain ⟨r, er⟩ := A_run (w := oI h 156) (x := (f (i + 1))) (y := (f (i + 2))) (P := P)
  rw [er] at e1 e2
  have x1 : nI i + nI 1 = nI (i + 1) := nI_add _ _
  have x2 : nI i + nI 2 = nI (i + 2) := nI_add _ _
  have x3 : nI i + nI 3 = nI (i + 3) := nI_add _ _
  have x4 : nI i + nI 4 = nI (i + 4) := nI_add _ _
  have x5 : nI i + nI 5 = nI (i + 5) := nI_add _ _
  refine ⟨h2, _, ?_, J, c1, c2⟩
  simp (disch := first | exact i4 | exact t31 | exact t64 | exact t150 | exact xix_8 i5 (by omega) (by omega) | exact xix_8 n31 (by omega) (by omega) | first | assumption | exact nI_ne0 (by decide) (by decide) | exact zb_01 | exact Or.inl rfl | exact Or.inr rfl | with_unfolding_all exact id (by assumption) | with_unfolding_all exact id (xix_8 (by assumption) (by omega) (by omega)) | omega) only [wL_law_520, wL_law_521, wL_law_522, wL_law_523, wL_law_524, wL_law_525, wL_law_526, wL_law_527, wL_law_528, wL_law_529, wL_law_530, wL_law_531, wL_law_534, wL_law_535, wL_law_536, wL_law_537, wL_law_538, wL_law_539, wL_law_540, wL_law_541, wL_law_542, wL_law_543, wL_law_544, wL_law_545, wL_law_548, wL_law_551, wL_law_552, if_true, if_false, ↓reduceIte, xpu_s, xpu_n, Option.bind_some, xk_i, xk_r, xk_0, xk_u, xk_l, xk_k, xk_q, rf_s, rf_n, q_e1, q_e2, Nat.zero_add, Nat.reduceEqDiff, Nat.reduceAdd, Nat.reduceMul, Nat.reduceSub, Nat.reduceLT, Nat.reduceLeDiff, Nat.reduceDiv, Nat.reduceMod, x1, x2, x3, x4, x5, nI_c, i6, f31, e1, e2, eq_self, not_true_eq_false, not_false_eq_true, and_self, and_true, true_and, and_false, false_and, or_true, true_or, or_false, false_or, decide_true, decide_false, zb_t, zb_f, zb_0, zb_1, eq_self]
theorem rd_9 (I : LI h P f n) (hi : i + 6 ≤ n) (hn : n ≤ 384) : ∃ h2 P2, E_ (d + 221) mL_law 553 [.val (.ref 31), .val (.ref 64), .val (.ref 150), .val (.int (nI i))] [] h = E_ (d + 221) mL_law 1989 [.val (.ref 31), .val (.ref 64), .val (.ref 150), .val (.int (nI i))] [] h2 ∧ LI h2 P2 f n ∧ oC h2 ≤ oC h + 15000 ∧ oS h2 ≤ oS h + 60000 := by
  obtain ⟨i1, i2, W, i4, i5, i6⟩ := id I
  have hx : XG (d + 220) h mX0_watch [.ref 64, .int (f (i + 1)), .int (f (i + 2)), .int (f (i + 3)), .int (f (i + 4))] (q_watch P (oI h 156) ((f (i + 1))) ((f (i + 2))) ((f (i + 3))) ((f (i + 4)))) := nX0_watch (d := d + 11) (x := (f (i + 1))) (t := (f (i + 2))) (c := (f (i + 3))) (y := (f (i + 4))) i1 W (oI h 156)
  have hm : ∀ h1, MR h1 P → oI h1 156 = oI h 156 → ST3 h1 → MG (d + 220) h1 mX5_watch [.ref 150, .int (f (i + 1)), .int (f (i + 2)), .int (f (i + 3)), .int (f (i + 4))] (q_watch P (oI h 156) ((f (i + 1))) ((f (i + 2))) ((f (i + 3))) ((f (i + 4)))) := fun h1 M ew _ => by
    rw [← ew]
    exact nX5_watch (d := d + 214) (x := (f (i + 1))) (t := (f (i + 2))) (c := (f (i + 3))) (y := (f (i + 4))) M W
  obtain ⟨h1, h2, e1, e2, J, c1, c2, t64, t150, t31, n31, f31⟩ := LI_go I hx hm (W_watch W)
  obtain ⟨r, er⟩ := A_watch (w := oI h 156) (x := (f (i + 1))) (t := (f (i + 2))) (c := (f (i + 3))) (y := (f (i + 4))) (P := P)
  rw [er] at e1 e2
  have x1 : nI i + nI 1 = nI (i + 1) := nI_add _ _
  have x2 : nI i + nI 2 = nI (i + 2) := nI_add _ _
  have x3 : nI i + nI 3 = nI (i + 3) := nI_add _ _
  have x4 : nI i + nI 4 = nI (i + 4) := nI_add _ _
  have x5 : nI i + nI 5 = nI (i + 5) := nI_add _ _
  refine ⟨h2, _, ?_, J, c1, c2⟩
  simp (disch := first | exact i4 | exact t31 | exact t64 | exact t150 | exact xix_8 i5 (by omega) (by omega) | exact xix_8 n31 (by omega) (by omega) | first | assumption | exact nI_ne0 (by decide) (by decide) | exact zb_01 | exact Or.inl rfl | exact Or.inr rfl | with_unfolding_all exact id (by assumption) | with_unfolding_all exact id (xix_8 (by assumption) (by omega) (by omega)) | omega) only [wL_law_553, wL_law_554, wL_law_555, wL_law_556, wL_law_557, wL_law_558, wL_law_559, wL_law_560, wL_law_561, wL_law_562, wL_law_563, wL_law_564, wL_law_565, wL_law_566, wL_law_567, wL_law_568, wL_law_569, wL_law_570, wL_law_571, wL_law_572, wL_law_573, wL_law_574, wL_law_577, wL_law_578, wL_law_579, wL_law_580, wL_law_581, wL_law_582, wL_law_583, wL_law_584, wL_law_585, wL_law_586, wL_law_587, wL_law_588, wL_law_589, wL_law_590, wL_law_591, wL_law_592, wL_law_593, wL_law_594, wL_law_595, wL_law_596, wL_law_597, wL_law_598, wL_law_601, wL_law_604, wL_law_605, if_true, if_false, ↓reduceIte, xpu_s, xpu_n, Option.bind_some, xk_i, xk_r, xk_0, xk_u, xk_l, xk_k, xk_q, rf_s, rf_n, q_e1, q_e2, Nat.zero_add, Nat.reduceEqDiff, Nat.reduceAdd, Nat.reduceMul, Nat.reduceSub, Nat.reduceLT, Nat.reduceLeDiff, Nat.reduceDiv, Nat.reduceMod, x1, x2, x3, x4, x5, nI_c, i6, f31, e1, e2, eq_self, not_true_eq_false, not_false_eq_true, and_self, and_true, true_and, and_false, false_and, or_true, true_or, or_false, false_or, decide_true, decide_false, zb_t, zb_f, zb_0, zb_1, eq_self]
theorem rd_10 (I : LI h P f n) (hi : i + 6 ≤ n) (hn : n ≤ 384) : ∃ h2 P2, E_ (d + 221) mL_law 606 [.val (.ref 31), .val (.ref 64), .val (.ref 150), .val (.int (nI i))] [] h = E_ (d + 221) mL_law 1989 [.val (.ref 31), .val (.ref 64), .val (.ref 150), .val (.int (nI i))] [] h2 ∧ LI h2 P2 f n ∧ oC h2 ≤ oC h + 15000 ∧ oS h2 ≤ oS h + 60000 := by
  obtain ⟨i1, i2, W, i4, i5, i6⟩ := id I
  have hx : XG (d + 220) h mX0_stands [.ref 64, .int (f (i + 1)), .int (f (i + 2))] (q_stands P (oI h 156) ((f (i + 1))) ((f (i + 2)))) := nX0_stands (d := d + 11) (x := (f (i + 1))) (t := (f (i + 2))) i1 W (oI h 156)
  have hm : ∀ h1, MR h1 P → oI h1 156 = oI h 156 → ST3 h1 → MG (d + 220) h1 mX5_stands [.ref 150, .int (f (i + 1)), .int (f (i + 2))] (q_stands P (oI h 156) ((f (i + 1))) ((f (i + 2)))) := fun h1 M ew _ => by
    rw [← ew]
    exact nX5_stands (d := d + 214) (x := (f (i + 1))) (t := (f (i + 2))) M W
  obtain ⟨h1, h2, e1, e2, J, c1, c2, t64, t150, t31, n31, f31⟩ := LI_go I hx hm (W_stands W)
  obtain ⟨r, er⟩ := A_stands (w := oI h 156) (x := (f (i + 1))) (t := (f (i + 2))) (P := P)
  rw [er] at e1 e2
  have x1 : nI i + nI 1 = nI (i + 1) := nI_add _ _
  have x2 : nI i + nI 2 = nI (i + 2) := nI_add _ _
  have x3 : nI i + nI 3 = nI (i + 3) := nI_add _ _
  have x4 : nI i + nI 4 = nI (i + 4) := nI_add _ _
  have x5 : nI i + nI 5 = nI (i + 5) := nI_add _ _
  refine ⟨h2, _, ?_, J, c1, c2⟩
  simp (disch := first | exact i4 | exact t31 | exact t64 | exact t150 | exact xix_8 i5 (by omega) (by omega) | exact xix_8 n31 (by omega) (by omega) | first | assumption | exact nI_ne0 (by decide) (by decide) | exact zb_01 | exact Or.inl rfl | exact Or.inr rfl | with_unfolding_all exact id (by assumption) | with_unfolding_all exact id (xix_8 (by assumption) (by omega) (by omega)) | omega) only [wL_law_606, wL_law_607, wL_law_608, wL_law_609, wL_law_610, wL_law_611, wL_law_612, wL_law_613, wL_law_614, wL_law_615, wL_law_616, wL_law_617, wL_law_620, wL_law_621, wL_law_622, wL_law_623, wL_law_624, wL_law_625, wL_law_626, wL_law_627, wL_law_628, wL_law_629, wL_law_630, wL_law_631, wL_law_634, wL_law_637, wL_law_638, if_true, if_false, ↓reduceIte, xpu_s, xpu_n, Option.bind_some, xk_i, xk_r, xk_0, xk_u, xk_l, xk_k, xk_q, rf_s, rf_n, q_e1, q_e2, Nat.zero_add, Nat.reduceEqDiff, Nat.reduceAdd, Nat.reduceMul, Nat.reduceSub, Nat.reduceLT, Nat.reduceLeDiff, Nat.reduceDiv, Nat.reduceMod, x1, x2, x3, x4, x5, nI_c, i6, f31, e1, e2, eq_self, not_true_eq_false, not_false_eq_true, and_self, and_true, true_and, and_false, false_and, or_true, true_or, or_false, false_or, decide_true, decide_false, zb_t, zb_f, zb_0, zb_1, eq_self]
theorem rd_11 (I : LI h P f n) (hi : i + 6 ≤ n) (hn : n ≤ 384) : ∃ h2 P2, E_ (d + 221) mL_law 639 [.val (.ref 31), .val (.ref 64), .val (.ref 150), .val (.int (nI i))] [] h = E_ (d + 221) mL_law 1989 [.val (.ref 31), .val (.ref 64), .val (.ref 150), .val (.int (nI i))] [] h2 ∧ LI h2 P2 f n ∧ oC h2 ≤ oC h + 15000 ∧ oS h2 ≤ oS h + 60000 := by
  obtain ⟨i1, i2, W, i4, i5, i6⟩ := id I
  have hx : XG (d + 220) h mX0_tries [.ref 64, .int (f (i + 1)), .int (f (i + 2)), .int (f (i + 3))] (q_tries P (oI h 156) ((f (i + 1))) ((f (i + 2))) ((f (i + 3)))) := nX0_tries (d := d + 11) (x := (f (i + 1))) (y := (f (i + 2))) (z := (f (i + 3))) i1 W (oI h 156)
  have hm : ∀ h1, MR h1 P → oI h1 156 = oI h 156 → ST3 h1 → MG (d + 220) h1 mX5_tries [.ref 150, .int (f (i + 1)), .int (f (i + 2)), .int (f (i + 3))] (q_tries P (oI h 156) ((f (i + 1))) ((f (i + 2))) ((f (i + 3)))) := fun h1 M ew _ => by
    rw [← ew]
    exact nX5_tries (d := d + 214) (x := (f (i + 1))) (y := (f (i + 2))) (z := (f (i + 3))) M W
  obtain ⟨h1, h2, e1, e2, J, c1, c2, t64, t150, t31, n31, f31⟩ := LI_go I hx hm (W_tries W)
  obtain ⟨r, er⟩ := A_tries (w := oI h 156) (x := (f (i + 1))) (y := (f (i + 2))) (z := (f (i + 3))) (P := P)
  rw [er] at e1 e2
  have x1 : nI i + nI 1 = nI (i + 1) := nI_add _ _
  have x2 : nI i + nI 2 = nI (i + 2) := nI_add _ _
  have x3 : nI i + nI 3 = nI (i + 3) := nI_add _ _
  have x4 : nI i + nI 4 = nI (i + 4) := nI_add _ _
  have x5 : nI i + nI 5 = nI (i + 5) := nI_add _ _
  refine ⟨h2, _, ?_, J, c1, c2⟩
  simp (disch := first | exact i4 | exact t31 | exact t64 | exact t150 | exact xix_8 i5 (by omega) (by omega) | exact xix_8 n31 (by omega) (by omega) | first | assumption | exact nI_ne0 (by decide) (by decide) | exact zb_01 | exact Or.inl rfl | exact Or.inr rfl | with_unfolding_all exact id (by assumption) | with_unfolding_all exact id (xix_8 (by assumption) (by omega) (by omega)) | omega) only [wL_law_639, wL_law_640, wL_law_641, wL_law_642, wL_law_643, wL_law_644, wL_law_645, wL_law_646, wL_law_647, wL_law_648, wL_law_649, wL_law_650, wL_law_651, wL_law_652, wL_law_653, wL_law_654, wL_law_655, wL_law_658, wL_law_659, wL_law_660, wL_law_661, wL_law_662, wL_law_663, wL_law_664, wL_law_665, wL_law_666, wL_law_667, wL_law_668, wL_law_669, wL_law_670, wL_law_671, wL_law_672, wL_law_673, wL_law_674, wL_law_677, wL_law_680, wL_law_681, if_true, if_false, ↓reduceIte, xpu_s, xpu_n, Option.bind_some, xk_i, xk_r, xk_0, xk_u, xk_l, xk_k, xk_q, rf_s, rf_n, q_e1, q_e2, Nat.zero_add, Nat.reduceEqDiff, Nat.reduceAdd, Nat.reduceMul, Nat.reduceSub, Nat.reduceLT, Nat.reduceLeDiff, Nat.reduceDiv, Nat.reduceMod, x1, x2, x3, x4, x5, nI_c, i6, f31, e1, e2, eq_self, not_true_eq_false, not_false_eq_true, and_self, and_true, true_and, and_false, false_and, or_true, true_or, or_false, false_or, decide_true, decide_false, zb_t, zb_f, zb_0, zb_1, eq_self]
end
