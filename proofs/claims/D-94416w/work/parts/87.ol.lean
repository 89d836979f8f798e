/-! CALLS over walks: margin -/
def mm (l v : Int32) : Int32 := if v = -1 then l else if l = -1 then v else if v < l then v else l
def mg1 (A w : rI) (k : Nat) (b : Int32) : Int32 := if A (2 + k) = w 32 ∧ 0 < w k ∧ (b = -1 ∨ w k < b) then w k else b
theorem mm_step {A w : rI} {k : Nat} {l v : Int32} : mg1 A w k (mm l v) = mm l (mg1 A w k v) := by
  unfold mg1
  by_cases c : A (2 + k) = w 32 ∧ 0 < w k
  · obtain ⟨c1, c2⟩ := c
    have x1 : ¬ w k = -1 := fun z => by rw [z] at c2; exact absurd c2 (by decide)
    simp only [c1, c2, true_and]
    generalize w k = x at *
    unfold mm
    by_cases q1 : v = -1
    · by_cases q2 : l = -1
      · simp [q1, q2, x1]
      · by_cases q3 : x < l <;> simp [q1, q2, q3, x1]
    · by_cases q2 : l = -1
      · by_cases q3 : x < v <;> simp [q1, q2, q3, x1]
      · by_cases q3 : x < v
        · by_cases q4 : v < l
          · have q5 : x < l := by rw [Int32.lt_iff_toInt_lt] at *; omega
            simp [q1, q2, q3, q4, q5, x1]
          · by_cases q5 : x < l <;> simp [q1, q2, q3, q4, q5, x1]
        · by_cases q4 : v < l
          · simp [q1, q2, q3, q4]
          · have q5 : ¬ x < l := by rw [Int32.lt_iff_toInt_lt] at *; omega
            simp [q1, q2, q3, q4, q5]
  · rw [if_neg (fun y => c ⟨y.1, y.2.1⟩), if_neg (fun y => c ⟨y.1, y.2.1⟩)]
theorem mm_fold {A w : rI} {l : Int32} : ∀ n, fo_ (mg1 A w) n l = mm l (fo_ (mg1 A w) n (-1))
  | 0 => by show l = mm l (-1); unfold mm; rw [if_pos rfl]
  | n + 1 => by
    show mg1 A w n (fo_ (mg1 A w) n l) = mm l (mg1 A w n (fo_ (mg1 A w) n (-1)))
    rw [mm_fold n]
    exact mm_step
def sMg (A : rI) : Nat → rI × Int32 → rI × Int32
  | 0, s => s
  | f + 1, s => if s.1 37 = 0 then sMg A f (sTk A (sDs A (-1) s.1), mm s.2 (sOf A (sTk A (sDs A (-1) s.1)))) else s
def q_margin (P : sS) (w : rI) (x : Int32) : sV := vv P (sMg (pA P) 99 (sBg (pA P) w (-1) x, -1)).2
theorem WB_Ds {A w : rI} {wl : Int32} (W2 : sN A ≤ 8) (B : WB A w) (e41 : w 41 = nI 0) : WB A (sDs A wl w) := by
  obtain ⟨I, ⟨t, t1, t2, t3⟩, h3, h4, h5⟩ := B
  have e36 : sDs A wl w 36 = w 36 := sDs_lo W2 (by omega) (by omega) (by omega)
  have e37 : sDs A wl w 37 = w 37 := sDs_lo W2 (by omega) (by omega) (by omega)
  have e39 : sDs A wl w 39 = w 39 := sDs_lo W2 (by omega) (by omega) (by omega)
  refine ⟨WI_Ds W2 I, ⟨t, e36.trans t1, t2, fun z => t3 (e37.symm.trans z)⟩, ?_, ?_, sN A, sDs_41 e41, Nat.le_refl _⟩
  · rw [e37]; exact h3
  · rw [e39]; exact h4
section
variable {d : Nat} {h h1 h2 : xH} {P : sS} {A : rI} {x y z : Int32} {ow : Nat → Nat} {s cc l : Nat} {w : rI}
theorem mg_M (H : MOK h) (W : WFs (oI h 152)) (WL : WFl (oI h 152)) (e21 : oI h 150 21 = -1) : ∀ (f : Nat) (w : rI) (b : Int32) (z : Int32 × rI × rI × rI) (s3 : Slot), WB (oI h 152) w → w 41 = nI 0 → w 36 = nI (99 - f) → f ≤ 99 → ∃ z', E_ (d + 5) mX5_margin 12 [.val (.ref 150), .val (.int x), .val (.int b), s3] [] (HR h w z) = some (some (.int (sMg (oI h 152) f (w, b)).2), HR h (sMg (oI h 152) f (w, b)).1 z')
  | 0, w, b, z, s3, B, e41, e36, hf => by
    obtain ⟨I, ⟨t, t1, t2, t3⟩, -⟩ := B
    have q : ¬ w 37 = 0 := fun y => by
      have := t3 y
      rw [e36, nI_eqI (by omega) (by omega)] at t1
      omega
    refine ⟨z, wX5_margin_12.trans ?_⟩
    have T7 : oT (HR h w z) 150 = 7 := mok_t H rfl
    have T40 : oT (HR h w z) 156 = 40 := mok_t H rfl
    have R18 : oR (HR h w z) 150 18 = some 156 := m_r18 H
    have X37 : xix (nI 37) (oN (HR h w z) 156) = true := m_x156 H (by omega)
    have i37 : oI (HR h w z) 156 37 = w 37 := rfl
    show _ = some (some (Value.int b), HR h w z)
    simp (disch := first | assumption | omega) only [wX5_margin_e, wX5_margin_0, wX5_margin_1, wX5_margin_2, wX5_margin_5, wX5_margin_6, wX5_margin_7, wX5_margin_10, wX5_margin_11, wX5_margin_13, wX5_margin_16, wX5_margin_18, wX5_margin_19, wX5_margin_22, wX5_margin_23, wX5_margin_24, wX5_margin_27, wX5_margin_28, wX5_margin_29, wX5_margin_32, wX5_margin_33, wX5_margin_34, wX5_margin_35, wX5_margin_36, wX5_margin_39, wX5_margin_40, wX5_margin_41, wX5_margin_44, wX5_margin_45, wX5_margin_48, wX5_margin_50, wX5_margin_51, wX5_margin_52, wX5_margin_55, wX5_margin_56, wX5_margin_59, wX5_margin_60, wX5_margin_61, wX5_margin_62, wX5_margin_63, wX5_margin_64, wX5_margin_67, wX5_margin_69, wX5_margin_70, wX5_margin_73, wX5_margin_74, wX5_margin_77, wX5_margin_78, wX5_margin_79, wX5_margin_80, wX5_margin_81, wX5_margin_84, wX5_margin_85, wX5_margin_86, wX5_margin_89, wX5_margin_90, wX5_margin_93, wX5_margin_94, wX5_margin_95, wX5_margin_96, wX5_margin_97, wX5_margin_98, wX5_margin_101, wX5_margin_102, wX5_margin_105, wX5_margin_106, wX5_margin_107, wX5_margin_108, wX5_margin_109, wX5_margin_110, wX5_margin_113, wX5_margin_116, wX5_margin_119, wX5_margin_120, if_true, if_false, ↓reduceIte, xpu_s, xpu_n, Option.bind_some, xk_i, xk_r, xk_0, xk_u, xk_l, xk_k, xk_q, rf_s, rf_n, q_e1, q_e2, Nat.zero_add, Nat.reduceEqDiff, Nat.reduceAdd, Nat.reduceMul, Nat.reduceSub, Nat.reduceLT, Nat.reduceLeDiff, Nat.reduceDiv, Nat.reduceMod, nI_c, R18, i37, q]
  | f + 1, w, b, z, s3, B, e41, e36, hf => by
    have W2 := W.2.1
    have T7 : oT (HR h w z) 150 = 7 := mok_t H rfl
    have T40 : oT (HR h w z) 156 = 40 := mok_t H rfl
    have R18 : oR (HR h w z) 150 18 = some 156 := m_r18 H
    have X37 : xix (nI 37) (oN (HR h w z) 156) = true := m_x156 H (by omega)
    have i37 : oI (HR h w z) 156 37 = w 37 := rfl
    by_cases q : w 37 = 0
    · obtain ⟨h1, z1, e1, e2, e3⟩ := runs_tick (d := d) H W WL B.1 e41 z
      rw [e21] at e3
      have BD := WB_Ds (wl := -1) W2 B e41
      have BT := WB_Tk W BD (by rw [sDs_lo W2 (by omega) (by omega) (by omega)]; exact q)
      have E36 : sTk (oI h 152) (sDs (oI h 152) (-1) w) 36 = nI (99 - f) := by
        rw [sTk_36 W2, sDs_lo W2 (by omega) (by omega) (by omega), e36, nI_add]
        congr 1
        omega
      have E41 : sTk (oI h 152) (sDs (oI h 152) (-1) w) 41 = nI 0 := sTk_41
      have es : sMg (oI h 152) (f + 1) (w, b) = sMg (oI h 152) f (sTk (oI h 152) (sDs (oI h 152) (-1) w), mm b (sOf (oI h 152) (sTk (oI h 152) (sDs (oI h 152) (-1) w)))) := if_pos q
      rw [es]
      generalize sTk (oI h 152) (sDs (oI h 152) (-1) w) = u at *
      obtain ⟨z2, e4⟩ := mg_M H W WL e21 f u (mm b (sOf (oI h 152) u)) z1 (.val (.int (nI (if u 33 = nI 1 then sN (oI h 152) else 0)))) BT E41 E36 (by omega)
      refine ⟨z2, Eq.trans ?_ e4⟩
      have T7a : oT h1 150 = 7 := by rw [e2]; exact mok_t H rfl
      have e0 : E_ (d + 5) mX5_margin 12 [.val (.ref 150), .val (.int x), .val (.int b), s3] [] (HR h w z) = E_ (d + 5) mX5_margin 34 [.val (.ref 150), .val (.int x), .val (.int b), .val (.int (nI 0))] [] (HR h u z1) := by
        refine wX5_margin_12.trans ?_
        simp (disch := first | assumption | omega) only [wX5_margin_13, wX5_margin_16, wX5_margin_18, wX5_margin_19, wX5_margin_22, wX5_margin_23, wX5_margin_24, wX5_margin_27, wX5_margin_28, wX5_margin_29, wX5_margin_32, wX5_margin_33, if_true, if_false, ↓reduceIte, xpu_s, xpu_n, Option.bind_some, xk_i, xk_r, xk_0, xk_u, xk_l, xk_k, xk_q, rf_s, rf_n, q_e1, q_e2, Nat.zero_add, Nat.reduceEqDiff, Nat.reduceAdd, Nat.reduceMul, Nat.reduceSub, Nat.reduceLT, Nat.reduceLeDiff, Nat.reduceDiv, Nat.reduceMod, nI_c, R18, i37, q, e1, e3]
      rw [e0]
      have U7 : oT (HR h u z1) 150 = 7 := mok_t H rfl
      have U40 : oT (HR h u z1) 156 = 40 := mok_t H rfl
      have V40 : oT (HR h u z1) 152 = 40 := mok_t H rfl
      have U18 : oR (HR h u z1) 150 18 = some 156 := m_r18 H
      have U2 : oR (HR h u z1) 150 2 = some 152 := m_r2 H
      have UX : ∀ k, k < 42 → xix (nI k) (oN (HR h u z1) 156) = true := fun k hk => m_x156 H hk
      have VX : ∀ k, k < 1734 → xix (nI k) (oN (HR h u z1) 152) = true := fun k hk => m_x152 H hk
      have u156 : oI (HR h u z1) 156 = u := rfl
      have u152 : oI (HR h u z1) 152 = oI h 152 := rfl
      have W1 := W.1
      by_cases c : u 33 = nI 1
      · rw [if_pos c]
        have so : mm b (sOf (oI h 152) u) = fo_ (mg1 (oI h 152) u) (sN (oI h 152)) b := by
          rw [mm_fold]
          unfold sOf
          rw [if_pos c]
          rfl
        rw [so]
        refine (lpj_if (n := sN (oI h 152)) (s := b) (p := fun k (b : Int32) => oI h 152 (2 + k) = u 32 ∧ 0 < u k ∧ (b = -1 ∨ u k < b)) (g := fun k _ => u k) (P := fun _ _ => True) (X := fun b => E_ (d + 5) mX5_margin 12 [.val (.ref 150), .val (.int x), .val (.int b), .val (.int (nI (sN (oI h 152))))] [] (HR h u z1)) (F := fun k (b : Int32) (_ : Unit) => E_ (d + 5) mX5_margin 34 [.val (.ref 150), .val (.int x), .val (.int b), .val (.int (nI k))] [] (HR h u z1)) trivial (fun k b y hk _ => ⟨(), ?_, trivial⟩) (fun b y _ => ?_) ()).1
        · refine wX5_margin_34.trans ?_
          simp (disch := first | assumption | exact UX _ (by omega) | exact VX _ (by omega) | omega) only [wX5_margin_e, wX5_margin_0, wX5_margin_1, wX5_margin_2, wX5_margin_5, wX5_margin_6, wX5_margin_7, wX5_margin_10, wX5_margin_11, wX5_margin_13, wX5_margin_16, wX5_margin_18, wX5_margin_19, wX5_margin_22, wX5_margin_23, wX5_margin_24, wX5_margin_27, wX5_margin_28, wX5_margin_29, wX5_margin_32, wX5_margin_33, wX5_margin_35, wX5_margin_36, wX5_margin_39, wX5_margin_40, wX5_margin_41, wX5_margin_44, wX5_margin_45, wX5_margin_48, wX5_margin_50, wX5_margin_51, wX5_margin_52, wX5_margin_55, wX5_margin_56, wX5_margin_59, wX5_margin_60, wX5_margin_61, wX5_margin_62, wX5_margin_63, wX5_margin_64, wX5_margin_67, wX5_margin_69, wX5_margin_70, wX5_margin_73, wX5_margin_74, wX5_margin_77, wX5_margin_78, wX5_margin_79, wX5_margin_80, wX5_margin_81, wX5_margin_84, wX5_margin_85, wX5_margin_86, wX5_margin_89, wX5_margin_90, wX5_margin_93, wX5_margin_94, wX5_margin_95, wX5_margin_96, wX5_margin_97, wX5_margin_98, wX5_margin_101, wX5_margin_102, wX5_margin_105, wX5_margin_106, wX5_margin_107, wX5_margin_108, wX5_margin_109, wX5_margin_110, wX5_margin_113, wX5_margin_116, wX5_margin_119, wX5_margin_120, if_true, if_false, ↓reduceIte, xpu_s, xpu_n, Option.bind_some, xk_i, xk_r, xk_0, xk_u, xk_l, xk_k, xk_q, rf_s, rf_n, q_e1, q_e2, Nat.zero_add, Nat.reduceEqDiff, Nat.reduceAdd, Nat.reduceMul, Nat.reduceSub, Nat.reduceLT, Nat.reduceLeDiff, Nat.reduceDiv, Nat.reduceMod, nI_c, nI_add, nI_ltP, hk, U18, U2, u156, u152, W1, c, if_ac, if_oc, not_true_eq_false, not_false_eq_true, and_self, and_true, true_and, and_false, false_and, or_true, true_or, or_false, false_or, decide_true, decide_false, zb_t, zb_f, zb_0, zb_1, eq_self]
        · refine wX5_margin_34.trans ?_
          simp (disch := first | assumption | exact UX _ (by omega) | exact VX _ (by omega) | omega) only [wX5_margin_e, wX5_margin_0, wX5_margin_1, wX5_margin_2, wX5_margin_5, wX5_margin_6, wX5_margin_7, wX5_margin_10, wX5_margin_11, wX5_margin_13, wX5_margin_16, wX5_margin_18, wX5_margin_19, wX5_margin_22, wX5_margin_23, wX5_margin_24, wX5_margin_27, wX5_margin_28, wX5_margin_29, wX5_margin_32, wX5_margin_33, wX5_margin_35, wX5_margin_36, wX5_margin_39, wX5_margin_40, wX5_margin_41, wX5_margin_44, wX5_margin_45, wX5_margin_48, wX5_margin_50, wX5_margin_51, wX5_margin_52, wX5_margin_55, wX5_margin_56, wX5_margin_59, wX5_margin_60, wX5_margin_61, wX5_margin_62, wX5_margin_63, wX5_margin_64, wX5_margin_67, wX5_margin_69, wX5_margin_70, wX5_margin_73, wX5_margin_74, wX5_margin_77, wX5_margin_78, wX5_margin_79, wX5_margin_80, wX5_margin_81, wX5_margin_84, wX5_margin_85, wX5_margin_86, wX5_margin_89, wX5_margin_90, wX5_margin_93, wX5_margin_94, wX5_margin_95, wX5_margin_96, wX5_margin_97, wX5_margin_98, wX5_margin_101, wX5_margin_102, wX5_margin_105, wX5_margin_106, wX5_margin_107, wX5_margin_108, wX5_margin_109, wX5_margin_110, wX5_margin_113, wX5_margin_116, wX5_margin_119, wX5_margin_120, if_true, if_false, ↓reduceIte, xpu_s, xpu_n, Option.bind_some, xk_i, xk_r, xk_0, xk_u, xk_l, xk_k, xk_q, rf_s, rf_n, q_e1, q_e2, Nat.zero_add, Nat.reduceEqDiff, Nat.reduceAdd, Nat.reduceMul, Nat.reduceSub, Nat.reduceLT, Nat.reduceLeDiff, Nat.reduceDiv, Nat.reduceMod, nI_c, U2, u152, W1, i_irr]
      · rw [if_neg c]
        have so : mm b (sOf (oI h 152) u) = b := by
          unfold sOf mm
          rw [if_neg c, if_pos rfl]
        rw [so]
        refine wX5_margin_34.trans ?_
        simp (disch := first | assumption | exact UX _ (by omega) | exact VX _ (by omega) | omega) only [wX5_margin_e, wX5_margin_0, wX5_margin_1, wX5_margin_2, wX5_margin_5, wX5_margin_6, wX5_margin_7, wX5_margin_10, wX5_margin_11, wX5_margin_13, wX5_margin_16, wX5_margin_18, wX5_margin_19, wX5_margin_22, wX5_margin_23, wX5_margin_24, wX5_margin_27, wX5_margin_28, wX5_margin_29, wX5_margin_32, wX5_margin_33, wX5_margin_35, wX5_margin_36, wX5_margin_39, wX5_margin_40, wX5_margin_41, wX5_margin_44, wX5_margin_45, wX5_margin_48, wX5_margin_50, wX5_margin_51, wX5_margin_52, wX5_margin_55, wX5_margin_56, wX5_margin_59, wX5_margin_60, wX5_margin_61, wX5_margin_62, wX5_margin_63, wX5_margin_64, wX5_margin_67, wX5_margin_69, wX5_margin_70, wX5_margin_73, wX5_margin_74, wX5_margin_77, wX5_margin_78, wX5_margin_79, wX5_margin_80, wX5_margin_81, wX5_margin_84, wX5_margin_85, wX5_margin_86, wX5_margin_89, wX5_margin_90, wX5_margin_93, wX5_margin_94, wX5_margin_95, wX5_margin_96, wX5_margin_97, wX5_margin_98, wX5_margin_101, wX5_margin_102, wX5_margin_105, wX5_margin_106, wX5_margin_107, wX5_margin_108, wX5_margin_109, wX5_margin_110, wX5_margin_113, wX5_margin_116, wX5_margin_119, wX5_margin_120, if_true, if_false, ↓reduceIte, xpu_s, xpu_n, Option.bind_some, xk_i, xk_r, xk_0, xk_u, xk_l, xk_k, xk_q, rf_s, rf_n, q_e1, q_e2, Nat.zero_add, Nat.reduceEqDiff, Nat.reduceAdd, Nat.reduceMul, Nat.reduceSub, Nat.reduceLT, Nat.reduceLeDiff, Nat.reduceDiv, Nat.reduceMod, nI_c, U18, U2, u156, u152, W1, c, ite_self, not_true_eq_false, not_false_eq_true, and_self, and_true, true_and, and_false, false_and, or_true, true_or, or_false, false_or, decide_true, decide_false, zb_t, zb_f, zb_0, zb_1, eq_self]
    · refine ⟨z, wX5_margin_12.trans ?_⟩
      have es : sMg (oI h 152) (f + 1) (w, b) = (w, b) := if_neg q
      rw [es]
      simp (disch := first | assumption | omega) only [wX5_margin_e, wX5_margin_0, wX5_margin_1, wX5_margin_2, wX5_margin_5, wX5_margin_6, wX5_margin_7, wX5_margin_10, wX5_margin_11, wX5_margin_13, wX5_margin_16, wX5_margin_18, wX5_margin_19, wX5_margin_22, wX5_margin_23, wX5_margin_24, wX5_margin_27, wX5_margin_28, wX5_margin_29, wX5_margin_32, wX5_margin_33, wX5_margin_34, wX5_margin_35, wX5_margin_36, wX5_margin_39, wX5_margin_40, wX5_margin_41, wX5_margin_44, wX5_margin_45, wX5_margin_48, wX5_margin_50, wX5_margin_51, wX5_margin_52, wX5_margin_55, wX5_margin_56, wX5_margin_59, wX5_margin_60, wX5_margin_61, wX5_margin_62, wX5_margin_63, wX5_margin_64, wX5_margin_67, wX5_margin_69, wX5_margin_70, wX5_margin_73, wX5_margin_74, wX5_margin_77, wX5_margin_78, wX5_margin_79, wX5_margin_80, wX5_margin_81, wX5_margin_84, wX5_margin_85, wX5_margin_86, wX5_margin_89, wX5_margin_90, wX5_margin_93, wX5_margin_94, wX5_margin_95, wX5_margin_96, wX5_margin_97, wX5_margin_98, wX5_margin_101, wX5_margin_102, wX5_margin_105, wX5_margin_106, wX5_margin_107, wX5_margin_108, wX5_margin_109, wX5_margin_110, wX5_margin_113, wX5_margin_116, wX5_margin_119, wX5_margin_120, if_true, if_false, ↓reduceIte, xpu_s, xpu_n, Option.bind_some, xk_i, xk_r, xk_0, xk_u, xk_l, xk_k, xk_q, rf_s, rf_n, q_e1, q_e2, Nat.zero_add, Nat.reduceEqDiff, Nat.reduceAdd, Nat.reduceMul, Nat.reduceSub, Nat.reduceLT, Nat.reduceLeDiff, Nat.reduceDiv, Nat.reduceMod, nI_c, R18, i37, q]
theorem nX5_margin (M : MR h P) (W : WF P) : MG (d + 5) h mX5_margin [.ref 150, .int x] (q_margin P (oI h 156) x) := by
  obtain ⟨H, m152, m154, m151, m153, m167, m168, m169, m6, m16, m17, m21, m22⟩ := id M
  have H0 : MOK (R0 h) := H
  have m0 : oI (R0 h) 152 = pA P := m152
  have m21' : oI (R0 h) 150 21 = -1 := m21
  have W2 := W.1.1.2.1
  have B := nX5_begins (d := d + 3) (x := x) M W
  have key := mg_M (d := d) (x := x) H0 (by rw [m0]; exact W.1.1) (by rw [m0]; exact W.1.2.1) m21' 99 (sBg (pA P) (oI h 156) (-1) x) (-1) (oI (R0 h) 150 26, oI h 158, oI h 159, oI h 160) .unset (by rw [m0]; exact WB_Bg W.1.1) (sBg_at W2 (by omega) (by omega) (by omega) (by omega)) (sBg_at W2 (by omega) (by omega) (by omega) (by omega)) (by omega)
  obtain ⟨z', e⟩ := key
  rw [m0] at e
  have eH : HR (R0 h) (sBg (pA P) (oI h 156) (-1) x) (oI (R0 h) 150 26, oI h 158, oI h 159, oI h 160) = pI (R0 h) 156 (sBg (pA P) (oI h 156) (-1) x) := by
    unfold HR
    rw [up_i]
    show pI (pI (pI (pI (pI (R0 h) 150 (oI (R0 h) 150)) 156 _) 158 (oI h 158)) 159 (oI h 159)) 160 (oI h 160) = _
    rw [o_pIi]
    generalize sBg (pA P) (oI h 156) (-1) x = b
    have s1 : pI (pI (R0 h) 156 b) 158 (oI h 158) = pI (R0 h) 156 b := o_pIi (h := pI (R0 h) 156 b) (a := 158)
    have s2 : pI (pI (R0 h) 156 b) 159 (oI h 159) = pI (R0 h) 156 b := o_pIi (h := pI (R0 h) 156 b) (a := 159)
    have s3 : pI (pI (R0 h) 156 b) 160 (oI h 160) = pI (R0 h) 156 b := o_pIi (h := pI (R0 h) 156 b) (a := 160)
    rw [s1, s2, s3]
  rw [eH] at e
  refine ⟨_, Eq.trans ?_ e, MR_HR (MR_0 M), KX_HR KX_0⟩
  simp (disch := first | with_unfolding_all exact id (mok_t H rfl) | exact Or.inr (by with_unfolding_all exact mok_t H rfl) | exact nI_ne0 (by decide) (by decide) | with_unfolding_all exact id (m_x152 H (by omega)) | with_unfolding_all exact id (m_x156 H (by omega)) | with_unfolding_all exact id (m_x158 H (by omega)) | with_unfolding_all exact id (m_x159 H (by omega)) | with_unfolding_all exact id (m_x160 H (by omega)) | exact zb_01 | exact Or.inl rfl | exact Or.inr rfl | omega) only [wX5_margin_e, wX5_margin_0, wX5_margin_1, wX5_margin_2, wX5_margin_5, wX5_margin_6, wX5_margin_7, wX5_margin_10, wX5_margin_11, if_true, if_false, ↓reduceIte, xpu_s, xpu_n, Option.bind_some, xk_i, xk_r, xk_0, xk_u, xk_l, xk_k, xk_q, rf_s, rf_n, R0_p, R0_L, R0_T, R0_N, R0_R, R0_r, R0_6, o_TI, o_TL, o_TR, o_NI, o_NL, o_NR, o_XI, o_XL, o_XR, o_RI, o_RL, o_LI, o_LR, o_IL, o_IR, o_II, o_LL, o_RR, o_pII, o_pLL, up_s, q_e1, q_e2, Nat.zero_add, Nat.reduceEqDiff, Nat.reduceAdd, Nat.reduceMul, Nat.reduceSub, Nat.reduceLT, Nat.reduceLeDiff, Nat.reduceDiv, Nat.reduceMod, m_r1 H, m_r2 H, m_r3 H, m_r4 H, m_r5 H, m_r18 H, m_r19 H, m_r20 H, m_r24 H, m_r25 H, m_r27 H, m_r28 H, m_r29 H, m_r30 H, m_r31 H, m_r32 H, m_r33 H, m_r34 H, m_r35 H, m_n150 H, m_n151 H, m_n152 H, m_n153 H, m_n154 H, m_n155 H, m_n156 H, m_n157 H, m_n158 H, m_n159 H, m_n160 H, m_n161 H, m_n162 H, m_n163 H, m_n164 H, m_n165 H, m_n166 H, m_n167 H, m_n168 H, m_n169 H, nI_c, nI_add, up_ne, B]
theorem hR5_self {q c : Nat} (e : oR h q 5 = some c) : hR5 h q c = h := by
  unfold hR5
  rw [← e, up_i]
  unfold pR oR
  rw [up_i]
theorem mg_X : ∀ (f : Nat) (w : rI) (b : Int32) (s2 s3 : Slot) (hh : xH), f ≤ 99 → WF P → WB (pA P) w → w 41 = nI 0 → w 36 = nI (99 - f) → XE ow s cc l hh P → WO hh 79 → oR hh 79 5 = some cc → WR hh 79 (pA P) w → oI hh 64 8 = w 40 → ∃ h2, E_ (d + 208) mX0_margin 22 [.val (.ref 64), .val (.int x), .val (.int b), s3] [] hh = some (some (.int (sMg (pA P) f (w, b)).2), h2) ∧ XE ow s cc l h2 P ∧ KM hh h2 ∧ oC h2 = oC hh ∧ oS h2 = oS hh
  | 0, w, b, s2, s3, hh, hf, W, B, e41, e36, E, O, hs, R, e40 => by
    obtain ⟨I, ⟨t, t1, t2, t3⟩, -⟩ := B
    have q : ¬ w 37 = 0 := fun y => by
      have := t3 y
      rw [e36, nI_eqI (by omega) (by omega)] at t1
      omega
    refine ⟨hh, wX0_margin_22.trans ?_, E, KM_refl, rfl, rfl⟩
    have x7 := E.1.1.2.2.2.2.2.2.1
    have x1 := E.2.1.1
    have r10 := R.2.2.2.2.2.2.2.2.1
    have T5 := O.1
    show _ = some (some (Value.int b), hh)
    simp (disch := first | assumption | exact nI_ne0 (by decide) (by decide) | exact zb_01 | exact Or.inl rfl | exact Or.inr rfl | with_unfolding_all exact id (by assumption) | with_unfolding_all exact id (xix_8 (by assumption) (by omega) (by omega)) | omega) only [wX0_margin_e, wX0_margin_0, wX0_margin_1, wX0_margin_4, wX0_margin_5, wX0_margin_8, wX0_margin_11, wX0_margin_14, wX0_margin_15, wX0_margin_16, wX0_margin_17, wX0_margin_20, wX0_margin_21, wX0_margin_23, wX0_margin_26, wX0_margin_29, wX0_margin_32, wX0_margin_33, wX0_margin_34, wX0_margin_37, wX0_margin_40, wX0_margin_41, wX0_margin_42, wX0_margin_45, wX0_margin_48, wX0_margin_49, wX0_margin_50, wX0_margin_51, wX0_margin_54, wX0_margin_55, wX0_margin_58, wX0_margin_59, wX0_margin_60, wX0_margin_63, wX0_margin_64, wX0_margin_67, wX0_margin_68, wX0_margin_69, wX0_margin_72, wX0_margin_73, wX0_margin_76, wX0_margin_77, if_true, if_false, ↓reduceIte, xpu_s, xpu_n, Option.bind_some, xk_i, xk_r, xk_0, xk_u, xk_l, xk_k, xk_q, rf_s, rf_n, q_e1, q_e2, Nat.zero_add, Nat.reduceEqDiff, Nat.reduceAdd, Nat.reduceMul, Nat.reduceSub, Nat.reduceLT, Nat.reduceLeDiff, Nat.reduceDiv, Nat.reduceMod, x7, r10, q]
  | f + 1, w, b, s2, s3, hh, hf, W, B, e41, e36, E, O, hs, R, e40 => by
    have W2 := W.1.1.2.1
    have x7 := E.1.1.2.2.2.2.2.2.1
    have x1 := E.2.1.1
    have r10 := R.2.2.2.2.2.2.2.2.1
    have T5 := O.1
    by_cases q : w 37 = 0
    · obtain ⟨h2, e1, F, R2, e40'⟩ := kX0_tick (d := d) (by omega) O hs E.2.2.2.1 R W.1.1 B.1 W.1.2.1 E.2.1 E.2.2.2.2.1 e40 q
      have BD := WB_Ds (wl := -1) W2 B e41
      have BT := WB_Tk W.1.1 BD (by rw [sDs_lo W2 (by omega) (by omega) (by omega)]; exact q)
      have E36 : sTk (pA P) (sDs (pA P) (-1) w) 36 = nI (99 - f) := by
        rw [sTk_36 W2, sDs_lo W2 (by omega) (by omega) (by omega), e36, nI_add]
        congr 1
        omega
      have E41 : sTk (pA P) (sDs (pA P) (-1) w) 41 = nI 0 := sTk_41
      have es : sMg (pA P) (f + 1) (w, b) = sMg (pA P) f (sTk (pA P) (sDs (pA P) (-1) w), mm b (sOf (pA P) (sTk (pA P) (sDs (pA P) (-1) w)))) := if_pos q
      rw [es]
      have F' : XFr 79 (hR5 hh 79 cc) h2 := by rw [hR5_self hs]; exact F
      obtain ⟨y1, y2, y3, y4⟩ := XR_walk E.1 F'
      have O2 := WO_x F O
      have hs2 : oR h2 79 5 = some cc := by rw [F.2.2.2.1]; exact hs
      have S2 := SC_x F O x1 E.2.2.2.1
      have X2 := XL_x F E.2.1
      have L2 := LW_x F O x1 E.2.2.2.2.1
      have hc2 : oR h2 s 0 = some cc := by rw [F.2.2.2.1]; exact E.2.2.1
      have E2 : XE ow s cc l h2 P := ⟨y1, X2, hc2, S2, L2, E.2.2.2.2.2⟩
      have OF := kX0_off (d := d + 203) O2 hs2 S2 R2 W2 BT.1.1
      generalize sTk (pA P) (sDs (pA P) (-1) w) = u at *
      obtain ⟨h3, e4, E3, k3, c3, o3⟩ := mg_X f u (mm b (sOf (pA P) u)) .unset (.val (.int (sOf (pA P) u))) h2 (by omega) W BT E41 E36 E2 O2 hs2 R2 e40'
      refine ⟨h3, Eq.trans ?_ e4, E3, KM_trans y2 k3, c3.trans y3, o3.trans y4⟩
      have t1 := X2.1
      have x7' := y1.1.2.2.2.2.2.2.1
      refine wX0_margin_22.trans ?_
      generalize sOf (pA P) u = v at *
      unfold mm
      by_cases q1 : v = -1
      · simp (disch := first | assumption | exact nI_ne0 (by decide) (by decide) | exact zb_01 | exact Or.inl rfl | exact Or.inr rfl | with_unfolding_all exact id (by assumption) | with_unfolding_all exact id (xix_8 (by assumption) (by omega) (by omega)) | omega) only [wX0_margin_e, wX0_margin_0, wX0_margin_1, wX0_margin_4, wX0_margin_5, wX0_margin_8, wX0_margin_11, wX0_margin_14, wX0_margin_15, wX0_margin_16, wX0_margin_17, wX0_margin_20, wX0_margin_21, wX0_margin_23, wX0_margin_26, wX0_margin_29, wX0_margin_32, wX0_margin_33, wX0_margin_34, wX0_margin_37, wX0_margin_40, wX0_margin_41, wX0_margin_42, wX0_margin_45, wX0_margin_48, wX0_margin_49, wX0_margin_50, wX0_margin_51, wX0_margin_54, wX0_margin_55, wX0_margin_58, wX0_margin_59, wX0_margin_60, wX0_margin_63, wX0_margin_64, wX0_margin_67, wX0_margin_68, wX0_margin_69, wX0_margin_72, wX0_margin_73, wX0_margin_76, wX0_margin_77, if_true, if_false, ↓reduceIte, xpu_s, xpu_n, Option.bind_some, xk_i, xk_r, xk_0, xk_u, xk_l, xk_k, xk_q, rf_s, rf_n, q_e1, q_e2, Nat.zero_add, Nat.reduceEqDiff, Nat.reduceAdd, Nat.reduceMul, Nat.reduceSub, Nat.reduceLT, Nat.reduceLeDiff, Nat.reduceDiv, Nat.reduceMod, x7, r10, q, e1, x7', OF, q1, not_true_eq_false, not_false_eq_true, and_self, and_true, true_and, and_false, false_and, or_true, true_or, or_false, false_or, decide_true, decide_false, zb_t, zb_f, zb_0, zb_1, eq_self]
      · by_cases q2 : b = -1
        · simp (disch := first | assumption | exact nI_ne0 (by decide) (by decide) | exact zb_01 | exact Or.inl rfl | exact Or.inr rfl | with_unfolding_all exact id (by assumption) | with_unfolding_all exact id (xix_8 (by assumption) (by omega) (by omega)) | omega) only [wX0_margin_e, wX0_margin_0, wX0_margin_1, wX0_margin_4, wX0_margin_5, wX0_margin_8, wX0_margin_11, wX0_margin_14, wX0_margin_15, wX0_margin_16, wX0_margin_17, wX0_margin_20, wX0_margin_21, wX0_margin_23, wX0_margin_26, wX0_margin_29, wX0_margin_32, wX0_margin_33, wX0_margin_34, wX0_margin_37, wX0_margin_40, wX0_margin_41, wX0_margin_42, wX0_margin_45, wX0_margin_48, wX0_margin_49, wX0_margin_50, wX0_margin_51, wX0_margin_54, wX0_margin_55, wX0_margin_58, wX0_margin_59, wX0_margin_60, wX0_margin_63, wX0_margin_64, wX0_margin_67, wX0_margin_68, wX0_margin_69, wX0_margin_72, wX0_margin_73, wX0_margin_76, wX0_margin_77, if_true, if_false, ↓reduceIte, xpu_s, xpu_n, Option.bind_some, xk_i, xk_r, xk_0, xk_u, xk_l, xk_k, xk_q, rf_s, rf_n, q_e1, q_e2, Nat.zero_add, Nat.reduceEqDiff, Nat.reduceAdd, Nat.reduceMul, Nat.reduceSub, Nat.reduceLT, Nat.reduceLeDiff, Nat.reduceDiv, Nat.reduceMod, x7, r10, q, e1, x7', OF, q1, q2, not_true_eq_false, not_false_eq_true, and_self, and_true, true_and, and_false, false_and, or_true, true_or, or_false, false_or, decide_true, decide_false, zb_t, zb_f, zb_0, zb_1, eq_self]
        · have mn : xP 7 [.int b, .int v] h2 = some (some (.int (if v < b then v else b)), h2) := rfl
          simp (disch := first | assumption | exact nI_ne0 (by decide) (by decide) | exact zb_01 | exact Or.inl rfl | exact Or.inr rfl | with_unfolding_all exact id (by assumption) | with_unfolding_all exact id (xix_8 (by assumption) (by omega) (by omega)) | omega) only [wX0_margin_e, wX0_margin_0, wX0_margin_1, wX0_margin_4, wX0_margin_5, wX0_margin_8, wX0_margin_11, wX0_margin_14, wX0_margin_15, wX0_margin_16, wX0_margin_17, wX0_margin_20, wX0_margin_21, wX0_margin_23, wX0_margin_26, wX0_margin_29, wX0_margin_32, wX0_margin_33, wX0_margin_34, wX0_margin_37, wX0_margin_40, wX0_margin_41, wX0_margin_42, wX0_margin_45, wX0_margin_48, wX0_margin_49, wX0_margin_50, wX0_margin_51, wX0_margin_54, wX0_margin_55, wX0_margin_58, wX0_margin_59, wX0_margin_60, wX0_margin_63, wX0_margin_64, wX0_margin_67, wX0_margin_68, wX0_margin_69, wX0_margin_72, wX0_margin_73, wX0_margin_76, wX0_margin_77, if_true, if_false, ↓reduceIte, xpu_s, xpu_n, Option.bind_some, xk_i, xk_r, xk_0, xk_u, xk_l, xk_k, xk_q, rf_s, rf_n, q_e1, q_e2, Nat.zero_add, Nat.reduceEqDiff, Nat.reduceAdd, Nat.reduceMul, Nat.reduceSub, Nat.reduceLT, Nat.reduceLeDiff, Nat.reduceDiv, Nat.reduceMod, x7, r10, q, e1, x7', OF, q1, q2, mn, not_true_eq_false, not_false_eq_true, and_self, and_true, true_and, and_false, false_and, or_true, true_or, or_false, false_or, decide_true, decide_false, zb_t, zb_f, zb_0, zb_1, eq_self]
    · have es : sMg (pA P) (f + 1) (w, b) = (w, b) := if_neg q
      rw [es]
      refine ⟨hh, wX0_margin_22.trans ?_, E, KM_refl, rfl, rfl⟩
      simp (disch := first | assumption | exact nI_ne0 (by decide) (by decide) | exact zb_01 | exact Or.inl rfl | exact Or.inr rfl | with_unfolding_all exact id (by assumption) | with_unfolding_all exact id (xix_8 (by assumption) (by omega) (by omega)) | omega) only [wX0_margin_e, wX0_margin_0, wX0_margin_1, wX0_margin_4, wX0_margin_5, wX0_margin_8, wX0_margin_11, wX0_margin_14, wX0_margin_15, wX0_margin_16, wX0_margin_17, wX0_margin_20, wX0_margin_21, wX0_margin_23, wX0_margin_26, wX0_margin_29, wX0_margin_32, wX0_margin_33, wX0_margin_34, wX0_margin_37, wX0_margin_40, wX0_margin_41, wX0_margin_42, wX0_margin_45, wX0_margin_48, wX0_margin_49, wX0_margin_50, wX0_margin_51, wX0_margin_54, wX0_margin_55, wX0_margin_58, wX0_margin_59, wX0_margin_60, wX0_margin_63, wX0_margin_64, wX0_margin_67, wX0_margin_68, wX0_margin_69, wX0_margin_72, wX0_margin_73, wX0_margin_76, wX0_margin_77, if_true, if_false, ↓reduceIte, xpu_s, xpu_n, Option.bind_some, xk_i, xk_r, xk_0, xk_u, xk_l, xk_k, xk_q, rf_s, rf_n, q_e1, q_e2, Nat.zero_add, Nat.reduceEqDiff, Nat.reduceAdd, Nat.reduceMul, Nat.reduceSub, Nat.reduceLT, Nat.reduceLeDiff, Nat.reduceDiv, Nat.reduceMod, x7, r10, q]
theorem nX0_margin (X : XR h P) (W : WF P) (w : rI) : XG (d + 208) h mX0_margin [.ref 64, .int x] (q_margin P w x) := by
  obtain ⟨ow, s, cc, l, E⟩ := XE_of X
  have W2 := W.1.1.2.1
  obtain ⟨hb, b1, b2, b3, b4, b5, b6, b7, b8⟩ := XB_begins (d := d + 202) (w := w) (x := x) E.1 W E.2.1 E.2.2.1 E.2.2.2.1 E.2.2.2.2.1
  have hc2 : oR hb s 0 = some cc := by
    have := E.1.2.2.1.2.1
    rw [b2.2.2.2.1]
    unfold hR5
    rw [o_RR, if_neg (fun z => by rw [z, E.1.1.2.1.1] at this; omega)]
    exact E.2.2.1
  have F2 : XFr 79 (hR5 h 79 cc) (pI hb 64 (va_up (oI hb 64) 8 x)) := XFr_trans b2 XFr_8
  obtain ⟨y1, y2, y3, y4⟩ := XR_walk E.1 F2
  have F8 : XFr 79 hb (pI hb 64 (va_up (oI hb 64) 8 x)) := XFr_8
  have E2 : XE ow s cc l (pI hb 64 (va_up (oI hb 64) 8 x)) P := ⟨y1, XL_x F8 b7, hc2, SC_x F8 b3 b7.1 b5, LW_x F8 b3 b7.1 b8, E.2.2.2.2.2⟩
  have e40 : oI (pI hb 64 (va_up (oI hb 64) 8 x)) 64 8 = sBg (pA P) w (-1) x 40 := by
    rw [o_II, if_pos rfl, up_s]
    unfold sBg
    rw [up_s]
  obtain ⟨h2, e, E3, k3, c3, o3⟩ := mg_X (d := d) (x := x) 99 (sBg (pA P) w (-1) x) (-1) .unset .unset (pI hb 64 (va_up (oI hb 64) 8 x)) (by omega) W (WB_Bg W.1.1) (sBg_at W2 (by omega) (by omega) (by omega) (by omega)) (sBg_at W2 (by omega) (by omega) (by omega) (by omega)) E2 (WO_x F8 b3) b4 (WR_8 (by omega) b6) e40
  refine ⟨h2, Eq.trans ?_ e, ⟨ow, s, E3.1⟩, KM_trans y2 k3, by omega, by omega⟩
  obtain ⟨x1, x2, x3, x4⟩ := E.2.1
  have hc := E.2.2.1
  have x7 := E.1.1.2.2.2.2.2.2.1
  have T5 := E.1.1.2.1.1
  have T1 : oT hb 64 = 1 := b7.1
  simp (disch := first | assumption | exact nI_ne0 (by decide) (by decide) | exact zb_01 | exact Or.inl rfl | exact Or.inr rfl | with_unfolding_all exact id (by assumption) | with_unfolding_all exact id (xix_8 (by assumption) (by omega) (by omega)) | omega) only [wX0_margin_e, wX0_margin_0, wX0_margin_1, wX0_margin_4, wX0_margin_5, wX0_margin_8, wX0_margin_11, wX0_margin_14, wX0_margin_15, wX0_margin_16, wX0_margin_17, wX0_margin_20, wX0_margin_21, if_true, if_false, ↓reduceIte, xpu_s, xpu_n, Option.bind_some, xk_i, xk_r, xk_0, xk_u, xk_l, xk_k, xk_q, rf_s, rf_n, x7, x2, hc, b1]
end
