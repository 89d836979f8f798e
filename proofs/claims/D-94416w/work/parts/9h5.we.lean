/-! THE LAW: from its entry to its loop, and to its end -/
section
variable {d n : Nat} {h z g : xH} {f : rI} {P : sS} {q a i j k : Nat}
theorem WO_t (O : WO z q) (hi : i < 6) : oT z (q + i) = 5 ∨ oT z (q + i) = 40 ∨ oT z (q + i) = 42 := by
  obtain ⟨o1, -, -, -, -, -, o2, o3, o4, o5, o6, -⟩ := O
  have e : i = 0 ∨ i = 1 ∨ i = 2 ∨ i = 3 ∨ i = 4 ∨ i = 5 := by omega
  rcases e with rfl | rfl | rfl | rfl | rfl | rfl
  · exact Or.inl o1
  · exact Or.inr (Or.inl o2)
  · exact Or.inr (Or.inl o3)
  · exact Or.inr (Or.inl o4)
  · exact Or.inr (Or.inr o5)
  · exact Or.inr (Or.inr o6)
theorem mT_r : ∀ a, a < 170 → 150 ≤ a → mT a = 7 ∨ 40 ≤ mT a := by decide +kernel
def P0_ : sS := (plA0, (fun _ => 0), (fun _ => 0), (fun _ => 0), va_up (va_up (va_up (va_up (fun _ => 0) 0 (-1)) 1 (-1)) 2 (-1)) 3 (-1), (fun _ => 0), (fun _ => 0), 0, 0, -1)
def ow0 : Nat → Nat := fun a => if a = 65 then 0 else if a = 66 then 1 else if a = 67 ∨ a = 68 ∨ a = 69 ∨ a = 70 then 101 else if a = 71 then 2 else if a = 72 then 3 else if a = 73 then 5 else if a = 74 then 6 else if a = 75 then 7 else 100
theorem plA0_lo (hk : k < 477) : plA0 k = plN k := if_pos hk
theorem pl_hi (h1 : 558 ≤ k ∨ k = 477) : plA0 k = 0 := by
  unfold plA0
  rw [if_neg (by omega), if_neg (by omega), if_neg (by omega)]
theorem WFa_0 : WFa plA0 := by
  have s1 : SWx plN := SWx_pl
  have p0 : sP_ plA0 = 0 := by unfold sP_; rw [pl_hi (Or.inr rfl)]; rfl
  have l0 : sNl plA0 = 0 := by unfold sNl; rw [plA0_lo (by omega)]; rfl
  refine ⟨WFs_A (fun k hk => plA0_lo (by omega)) (SWx_W s1 (c := 0) rfl (by omega)), ⟨?_, by omega, fun k hk => by omega⟩, ?_, by omega, fun i hi => by omega, fun m hm => ⟨⟨1, ?_, by omega, by omega⟩, 100, ?_, by omega⟩⟩
  · rw [l0, plA0_lo (by omega)]; rfl
  · rw [p0, pl_hi (Or.inr rfl)]; exact nI_0.symm
  · unfold plA0
    rw [if_neg (by omega), if_pos (by omega)]
  · unfold plA0
    rw [if_neg (by omega), if_neg (by omega), if_pos (by omega)]
theorem WF_0 : WF P0_ := by
  refine ⟨WFa_0, fun i hi => Or.inl nI_0.symm, Nat.zero_le _, fun r hr => Or.inl ?_, fun k hk => ⟨0, nI_0.symm, by omega⟩⟩
  have e : r = 0 ∨ r = 1 ∨ r = 2 ∨ r = 3 := by omega
  rcases e with rfl | rfl | rfl | rfl <;> rfl
theorem MR_0_ (M : MO_ z) : MR z P0_ := by
  obtain ⟨m1, m2, m3, m4, m5, m6, m7, m8, m9⟩ := M
  refine ⟨m1, m2, m3, m4, m5, m6, m7, m8, ?_, ?_, ?_, ?_, ?_⟩ <;> rw [m9]
  · exact nI_0.symm
  · rfl
  · rfl
  · rfl
  · rfl
/-- both objects made: the first one stands for the numbers that it begins with -/
theorem XR_0_ (F : FO g) (s : ∀ a, a < 150 → sm g z a) (M : MO_ z) (S : STR g) (lo : ∀ a, a < 64 → oT g a = 0 ∨ oT g a = 38 ∨ oT g a = 39) (hX : oX z = 170) (T : TX z) : XR z P0_ := by
  obtain ⟨t64, r64, i64, ⟨t76, n76, r76⟩, ⟨t77, n77, i77⟩, ⟨t78, n78, i78⟩, O79, ⟨t85, n85, J85⟩, ⟨t140, n140⟩, ⟨t141, n141⟩, ⟨t142, n142⟩, ⟨t143, n143⟩, ⟨t144, n144⟩, ⟨t145, n145, J145⟩, ⟨t65, a0, a1, a2, a3, a4, a5⟩, ⟨t66, b0, b1, b2, b3⟩, ⟨c1, c2⟩, ⟨d1, d2⟩, ⟨e1, e2, e3⟩, ⟨f1, f2, f3⟩, ⟨g1, g2, g3⟩⟩ := F
  have T_ : ∀ a, a < 150 → oT z a = oT g a := fun a ha => (s a ha).1
  have N_ : ∀ a, a < 150 → oN z a = oN g a := fun a ha => (s a ha).2.1
  have I_ : ∀ a, a < 150 → oI z a = oI g a := fun a ha => (s a ha).2.2.1
  have R_ : ∀ a, a < 150 → oR z a = oR g a := fun a ha => (s a ha).2.2.2.1
  have L1 := LG0_sm (s 67 (by omega)) (by rw [b2]; exact s 68 (by omega)) b1
  have L2 := LG0_sm (s 69 (by omega)) (by rw [c2]; exact s 70 (by omega)) c1
  have L3 := LG0_sm (s 71 (by omega)) (by rw [d2]; exact s 72 (by omega)) d1
  have O79' : WO z 79 := WO_sm (fun i hi => s _ (by omega)) O79
  have J' : ∀ j, j < 9 → WO z (86 + 6 * j) := fun j hj => WO_sm (fun i hi => s _ (by omega)) (J85 j hj).2
  have q66 : rq z 66 0 = 67 := by unfold rq; rw [R_ 66 (by omega), b0]; rfl
  have n0 : sN plA0 = 0 := by unfold sN; rw [plA0_lo (by omega)]; decide
  have l0 : sNl plA0 = 0 := by unfold sNl; rw [plA0_lo (by omega)]; decide
  have p0 : sP_ plA0 = 0 := by unfold sP_; rw [pl_hi (Or.inr rfl)]; rfl
  have x64 : oR z 64 = oR g 64 := R_ 64 (by omega)
  refine ⟨ow0, 65, ⟨⟨?_, ?_, ?_, ?_, ?_, ?_, ?_, ?_, ?_, ?_, ?_, ?_, ?_, ?_⟩, O79', J', ?_, ?_, ?_, ?_, ?_, ?_, ?_, ?_, ?_, ?_, ?_, ?_, ?_, ?_, ?_, ?_, ?_, ?_, ?_, fun r hr => ⟨?_, ?_⟩, STR_m (fun a ha => s a (by omega)) S⟩, ?_, ⟨rfl, ?_, ⟨66, ?_, rfl, ?_, ?_, ?_⟩, ⟨69, ?_, rfl, ?_, ?_⟩, ⟨71, ?_, ?_⟩, ⟨73, ?_, rfl, ?_, ?_, fun i hi => ?_⟩, ⟨74, ?_, rfl, ?_, ?_, fun i hi => ?_⟩, ⟨75, ?_, rfl, ?_, ?_, fun i hi => ?_⟩⟩, fun i hi => Or.inl ⟨nI_0.symm, ?_⟩, fun k hk => ?_, fun k hk => ?_, ?_, ?_, ?_, fun r hr => Or.inl ⟨?_, ?_⟩, by omega, fun a ha => ⟨T a ha, ?_⟩, fun a ha => ⟨?_, fun y => ?_⟩⟩
  · rw [T_ 64 (by omega)]; exact t64
  · rw [x64, r64]; rfl
  · rw [x64, r64]; rfl
  · rw [x64, r64]; rfl
  · rw [x64, r64]; rfl
  · rw [T_ 140 (by omega)]; exact t140
  · rw [T_ 141 (by omega)]; exact t141
  · rw [T_ 142 (by omega)]; exact t142
  · rw [N_ 140 (by omega)]; exact n140
  · rw [N_ 141 (by omega)]; exact n141
  · rw [N_ 142 (by omega)]; exact n142
  · rw [T_ 85 (by omega), t85]; omega
  · rw [N_ 85 (by omega)]; exact n85
  · intro k hk
    rw [R_ 85 (by omega)]
    exact (J85 k hk).1
  · rw [x64, r64]; rfl
  · rw [x64, r64]; rfl
  · rw [x64, r64]; rfl
  · rw [x64, r64]; rfl
  · rw [x64, r64]; rfl
  · rw [x64, r64]; rfl
  · rw [x64, r64]; rfl
  · rw [T_ 76 (by omega)]; exact t76
  · rw [N_ 76 (by omega)]; exact n76
  · rw [T_ 77 (by omega)]; exact t77
  · rw [N_ 77 (by omega)]; exact n77
  · rw [T_ 78 (by omega)]; exact t78
  · rw [N_ 78 (by omega)]; exact n78
  · rw [T_ 143 (by omega)]; exact t143
  · rw [N_ 143 (by omega)]; exact n143
  · rw [T_ 144 (by omega)]; exact t144
  · rw [N_ 144 (by omega)]; exact n144
  · rw [T_ 145 (by omega)]; exact t145
  · rw [N_ 145 (by omega)]; exact n145
  · rw [R_ 145 (by omega)]; exact (J145 r hr).1
  · rw [T_ (146 + r) (by omega)]; exact (J145 r hr).2.1
  · rw [x64, r64]; rfl
  · rw [T_ 65 (by omega)]; exact t65
  · rw [R_ 65 (by omega)]; exact a0
  · show SCo z 66 plA0
    unfold SCo
    rw [q66, n0, I_ 66 (by omega), b3]
    refine ⟨by rw [T_ 66 (by omega)]; exact t66, ?_, ?_, ?_, ?_, ?_, ?_, ?_, by rw [R_ 66 (by omega)]; exact b0, L1.1.1, fun k hk => by omega⟩
    · rw [plA0_lo (by omega)]; rfl
    · rw [plA0_lo (by omega)]; exact nI_0.symm
    · rw [plA0_lo (by omega)]; exact nI_0.symm
    · rw [plA0_lo (by omega)]; rfl
    · rw [plA0_lo (by omega)]; rfl
    · rw [plA0_lo (by omega)]; rfl
    · rw [plA0_lo (by omega)]; exact nI_0.symm
  · rw [q66]; rfl
  · rw [q66, L1.2, b2]; rfl
  · rw [R_ 65 (by omega)]; exact a1
  · rw [L2.2, c2]; rfl
  · show LWo z 69 plA0
    unfold LWo
    rw [l0]
    exact ⟨L2.1.1, fun k hk => by omega⟩
  · rw [R_ 65 (by omega)]; exact a2
  · show PLo ow0 0 z 71 plA0
    unfold PLo
    rw [p0, L3.2, d2]
    refine ⟨rfl, rfl, L3.1.1, ?_, fun i hi => by omega, fun i j h1 h2 => by omega⟩
    have g := L3.1
    have e := L3.2
    rw [d2] at e
    have q1 := g.2.1
    have q2 := g.2.2.1
    rw [e] at q1 q2
    exact ⟨q1, q2⟩
  · rw [R_ 65 (by omega)]; exact a3
  · rw [T_ 73 (by omega)]; exact e1
  · rw [N_ 73 (by omega)]; exact e2
  · rw [I_ 73 (by omega), e3]
    show _ = plA0 (550 + i)
    unfold plA0
    rw [if_neg (by omega), if_pos (by omega)]
    have e : i = 0 ∨ i = 1 ∨ i = 2 ∨ i = 3 := by omega
    rcases e with rfl | rfl | rfl | rfl <;> rfl
  · rw [R_ 65 (by omega)]; exact a4
  · rw [T_ 74 (by omega)]; exact f1
  · rw [N_ 74 (by omega)]; exact f2
  · rw [I_ 74 (by omega), f3]
    show _ = plA0 (554 + i)
    unfold plA0
    rw [if_neg (by omega), if_neg (by omega), if_pos (by omega)]
    have e : i = 0 ∨ i = 1 ∨ i = 2 ∨ i = 3 := by omega
    rcases e with rfl | rfl | rfl | rfl <;> rfl
  · rw [R_ 65 (by omega)]; exact a5
  · rw [T_ 75 (by omega)]; exact g1
  · rw [N_ 75 (by omega)]; exact g2
  · rw [I_ 75 (by omega), g3]
    exact (pl_hi (Or.inl (by omega))).symm
  · rw [R_ 76 (by omega), r76]
  · rw [I_ 77 (by omega), i77]; rfl
  · rw [I_ 78 (by omega), i78]
    show (0 : Int32) &&& nI 255 = 0
    decide
  · rw [I_ 64 (by omega), i64]; exact nI_0.symm
  · rw [I_ 64 (by omega), i64]; rfl
  · rw [I_ 64 (by omega), i64]; rfl
  · have e : r = 0 ∨ r = 1 ∨ r = 2 ∨ r = 3 := by omega
    rcases e with rfl | rfl | rfl | rfl <;> rfl
  · rw [R_ (146 + r) (by omega)]; exact (J145 r hr).2.2
  · unfold ow0
    rw [if_neg (by omega), if_neg (by omega), if_neg (by omega), if_neg (by omega), if_neg (by omega), if_neg (by omega), if_neg (by omega), if_neg (by omega)]
  · unfold ow0
    rw [if_neg (by omega), if_neg (by omega), if_neg (by omega), if_neg (by omega), if_neg (by omega), if_neg (by omega), if_neg (by omega), if_neg (by omega)]
  · have tg : oT z a = 0 ∨ oT z a = 38 ∨ oT z a = 39 ∨ oT z a = 1 ∨ oT z a = 48 ∨ oT z a = 40 ∨ oT z a = 41 ∨ oT z a = 5 ∨ oT z a = 42 ∨ oT z a = 46 ∨ oT z a = 44 ∨ oT z a = 47 ∨ oT z a = 6 ∨ oT z a = 7 ∨ 40 ≤ oT z a := by
      by_cases h1 : a < 64
      · have := lo a h1
        have := T_ a (by omega)
        omega
      · by_cases h2 : 150 ≤ a
        · have := mT_r a (by omega) h2
          obtain ⟨t, ht⟩ : ∃ t, mT a = t + 1 := ⟨mT a - 1, by omega⟩
          have := mok_t M.1 ht
          omega
        · have e := T_ a (by omega)
          by_cases w1 : 79 ≤ a ∧ a < 85
          · have := WO_t (i := a - 79) O79' (by omega)
            rw [show 79 + (a - 79) = a by omega] at this
            omega
          · by_cases w2 : 86 ≤ a ∧ a < 140
            · have := WO_t (i := (a - 86) % 6) (J' ((a - 86) / 6) (by omega)) (by omega)
              rw [show 86 + 6 * ((a - 86) / 6) + (a - 86) % 6 = a by omega] at this
              omega
            · by_cases w3 : 146 ≤ a
              · have := (J145 (a - 146) (by omega)).2.1
                rw [show 146 + (a - 146) = a by omega] at this
                omega
              · have c : a = 64 ∨ a = 76 ∨ a = 77 ∨ a = 78 ∨ a = 85 ∨ a = 140 ∨ a = 141 ∨ a = 142 ∨ a = 143 ∨ a = 144 ∨ a = 145 := by omega
                rcases c with rfl | rfl | rfl | rfl | rfl | rfl | rfl | rfl | rfl | rfl | rfl <;> omega
    omega
/-- the law's whole run, as the pure machine has it -/
theorem law_pure (T : TX h) (hX : oX h = 64) (S : STR h) (lo : ∀ a, a < 64 → oT h a = 0 ∨ oT h a = 38 ∨ oT h a = 39) (t31 : oT h 31 = 39) (n31 : oN h 31 = n) (i31 : oI h 31 = f) (hn : n ≤ 384) : ∃ z, E_ (d + 221) mL_law 0 [.val (.ref 31), .unset, .unset, .unset] [] h = some (some (.int (nI 1)), z) ∧ oC z ≤ oC h + 1000000 ∧ oS z ≤ oS h + 4000000 := by
  obtain ⟨g, e1, F, x1, G1⟩ := kX0_init (d := d + 214) T hX
  have T1 := TX_G T G1
  obtain ⟨z, e2, M, x2, G2⟩ := kX5_init (d := d + 218) T1 x1
  have sg : ∀ a, a < 64 → sm h g a := fun a ha => G1.2.2.2.2.2 a (by omega) (fun y => y)
  have sz : ∀ a, a < 150 → sm g z a := fun a ha => G2.2.2.2.2.2 a (by omega) (fun y => y)
  have X := XR_0_ F sz M (STR_m (fun a ha => sg a (by omega)) S) (fun a ha => by rw [(sg a ha).1]; exact lo a ha) x2 (TX_G T1 G2)
  have s31 := sm_trans (sg 31 (by omega)) (sz 31 (by omega))
  have I : LI z P0_ f n := ⟨X, MR_0_ M, WF_0, by rw [s31.1]; exact t31, by rw [s31.2.1]; exact n31, by rw [s31.2.2.1]; exact i31⟩
  obtain ⟨z2, e3, c1, c2⟩ := law_loop (d := d) hn 65 0 z P0_ I (by omega) (by omega)
  have g1 := G1.2.1
  have g2 := G1.2.2.1
  have g3 := G2.2.1
  have g4 := G2.2.2.1
  refine ⟨z2, Eq.trans ?_ e3, by omega, by omega⟩
  simp (disch := first | assumption | exact nI_ne0 (by decide) (by decide) | exact zb_01 | exact Or.inl rfl | exact Or.inr rfl | with_unfolding_all exact id (by assumption) | with_unfolding_all exact id (xix_8 (by assumption) (by omega) (by omega)) | omega) only [wL_law_0, wL_law_3, wL_law_4, wL_law_7, wL_law_8, wL_law_11, wL_law_12, wL_law_15, wL_law_16, wL_law_17, if_true, if_false, ↓reduceIte, xpu_s, xpu_n, Option.bind_some, xk_i, xk_r, xk_0, xk_u, xk_l, xk_k, xk_q, rf_s, rf_n, q_e1, q_e2, Nat.zero_add, Nat.reduceEqDiff, Nat.reduceAdd, Nat.reduceMul, Nat.reduceSub, Nat.reduceLT, Nat.reduceLeDiff, Nat.reduceDiv, Nat.reduceMod, hX, e1, x1, e2]
end
