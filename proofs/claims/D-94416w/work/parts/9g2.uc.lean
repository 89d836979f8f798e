/-! CALLS: text, the component -/
section
variable {d e : Nat} {h h1 h2 h3 h4 : xH} {P : sS} {X o l n p b k v c j i m w a u z : Nat} {t : Nat → Nat} {f g A B : rI} {x : sX} {s1 s2 s3 : Slot} {ow : Nat → Nat} {y1 y2 : Int32} {s : Nat} {L : Nat × Nat × Nat × Nat}
theorem XR_K (X : XRo ow s h P) (f4 : f 4 = nI z) (f5 : f 5 = y1) (f6 : f 6 = y2) : XRo ow s (pI h 64 f) (qK P z y1 y2) ∧ KM h (pI h 64 f) := by
  obtain ⟨x1, x2, x3, x4, x5, x6, x7, x8, x9, x10, x11, x12, x13⟩ := X
  have ne : ∀ a, ¬ a = 64 → oI (pI h 64 f) a = oI h a := fun a h1 => by rw [o_II, if_neg h1]
  have s0 : ∀ a, ¬ a = 64 → sm h (pI h 64 f) a := fun a h1 => sm_I sm_refl h1
  have nx : ∀ a, ¬ ow a = 100 → ¬ a = 64 := fun a ha z => ha (by rw [z]; exact (x13 64 (by omega)).1)
  have nt : ∀ a, 9 ≤ oT h a → oT h a ≤ 18 → sm h (pI h 64 f) a := fun a h1 h2 => s0 a (fun z => (x13 64 (by omega)).2 (by rw [z] at h1 h2; exact ⟨h1, h2⟩))
  have fr : ∀ k, k < 3 → ∀ t A, XS ow k h t A → XS ow k (pI h 64 f) t A := fun k hk t A q => XS_m hk (fun a ha => s0 a (nx a (by omega))) nt (fun a _ => rfl) q
  refine ⟨⟨XT_fr (h := h) (fun a ha => ⟨rfl, rfl⟩) (fun j _ => rfl) rfl rfl (fun a j _ _ _ => rfl) (fun a ha => ne a (by omega)) x1, x2, fr 0 (by omega) _ _ x3, fun i hi => ?_, ?_, ?_, f4, f5, f6, fun r hr => NR_m (h := h) (P := P) rfl (fun a ha => ⟨s0 a (nx a (by omega)), rfl⟩) (x10 r hr), x11, x12, x13⟩, fun a ha => s0 a (by omega)⟩
  · rcases x4 i hi with ⟨y1, y2⟩ | ⟨y1, t, y2, y3⟩
    · exact Or.inl ⟨y1, y2⟩
    · exact Or.inr ⟨y1, t, y2, fr (i + 1) (by omega) _ _ y3⟩
  · rw [ne 77 (by omega)]; exact x5
  · rw [ne 78 (by omega)]; exact x6
/-- a scene that is new is the state's -/
theorem XR_scene (X : XRo ow s h P) (S : SCo h c B) (wc : ∀ a, a = c ∨ a = rq h c 0 ∨ a = rq h (rq h c 0) 1 → 170 ≤ a ∧ a < oX h ∧ ow a = 100) (e : ∀ i, 40 ≤ i → B i = pA P i) (WL : WFl (pA P)) (h12 : sP_ (pA P) ≤ 12) : XRo (fun a => if a = c then 1 else if a = rq h c 0 ∨ a = rq h (rq h c 0) 1 then 101 else ow a) s (pR h s (va_up (oR h s) 0 (some c))) (qA P B) ∧ KM h (pR h s (va_up (oR h s) 0 (some c))) := by
  obtain ⟨x1, x2, x3, x4, x5, x6, x7, x8, x9, x10, x11, x12, x13⟩ := X
  obtain ⟨y1, y2, -, ⟨l, l1, l2, l3, l4⟩, ⟨p, p1, p2⟩, ⟨q3, a1, a2, a3⟩, ⟨q4, b1, b2, b3⟩, ⟨q5, d1, d2, d3⟩⟩ := x3
  have w0 := wc c (Or.inl rfl)
  have w1 := wc _ (Or.inr (Or.inl rfl))
  have w2 := wc _ (Or.inr (Or.inr rfl))
  have ns : ¬ (s < 65 ∨ (76 ≤ s ∧ s < 170)) := fun z => by have := (x13 s z).1; omega
  have s0 : ∀ a, ¬ a = s → sm h (pR h s (va_up (oR h s) 0 (some c))) a := fun a ha => sm_R sm_refl ha
  have st : ∀ a, 9 ≤ oT h a → oT h a ≤ 18 → sm h (pR h s (va_up (oR h s) 0 (some c))) a := fun a h1 h2 => s0 a (fun z => by rw [z, y2] at h1; omega)
  have so : ∀ a, ¬ ow a = 0 → sm h (pR h s (va_up (oR h s) 0 (some c))) a := fun a ha => s0 a (fun z => ha (by rw [z]; exact y1))
  have rs : ∀ j, j ≠ 0 → oR (pR h s (va_up (oR h s) 0 (some c))) s j = oR h s j := fun j hj => by rw [o_RR, if_pos rfl, up_ne hj]
  have r0 : ∀ a, ¬ a = s → oR (pR h s (va_up (oR h s) 0 (some c))) a = oR h a := fun a ha => by rw [o_RR, if_neg ha]
  have ow1 : ∀ a, ¬ ow a = 100 → (if a = c then 1 else if a = rq h c 0 ∨ a = rq h (rq h c 0) 1 then 101 else ow a) = ow a := fun a ha => by
    rw [if_neg (fun z => ha (by rw [z]; exact w0.2.2)), if_neg (fun z => ha (by rcases z with z | z <;> rw [z]; exact w1.2.2; exact w2.2.2))]
  have owx : ∀ a, ow a = 100 → ¬ a = c → ¬ a = rq h c 0 → ¬ a = rq h (rq h c 0) 1 → (if a = c then 1 else if a = rq h c 0 ∨ a = rq h (rq h c 0) 1 then 101 else ow a) = 100 := fun a ha z1 z2 z3 => by
    rw [if_neg z1, if_neg (by omega)]
    exact ha
  have sc : ¬ c = s := fun z => by have := w0.2.2; rw [z] at this; omega
  have sq : ¬ rq h c 0 = s := fun z => by have := w1.2.2; rw [z] at this; omega
  have sa : ¬ rq h (rq h c 0) 1 = s := fun z => by have := w2.2.2; rw [z] at this; omega
  have t3 := S.1
  have t4 := S.2.2.2.2.2.2.2.2.2.1.1
  have t45 := S.2.2.2.2.2.2.2.2.2.1.2.2.2.1
  have nc : ¬ rq h c 0 = c := fun z => by rw [z, t3] at t4; omega
  have na : ¬ rq h (rq h c 0) 1 = c := fun z => by rw [z, t3] at t45; omega
  have e0 : rq (pR h s (va_up (oR h s) 0 (some c))) c 0 = rq h c 0 := rq_m (s0 c sc)
  have e1 : rq (pR h s (va_up (oR h s) 0 (some c))) (rq h c 0) 1 = rq h (rq h c 0) 1 := rq_m (s0 _ sq)
  refine ⟨⟨XT_fr (h := h) (fun _ _ => ⟨rfl, rfl⟩) (fun j _ => by rw [r0 64 (by omega)]) (r0 85 (by omega)) (r0 145 (by omega)) (fun a j _ _ _ => by rw [r0 a (by omega)]) (fun _ _ => rfl) x1, by rw [r0 64 (by omega)]; exact x2, ⟨?_, y2, ⟨c, ?_, ?_, SC_m (s0 c sc) (s0 _ sq) (s0 _ sa) st S, ?_, ?_⟩, ⟨l, (rs 1 (by omega)).trans l1, ?_, ?_, LW_A (fun k h1 _ => e k h1) WL (LW_m (so l (by omega)) (so _ (by omega)) st l4)⟩, ⟨p, (rs 2 (by omega)).trans p1, PL_A (fun i h1 _ => e i (by omega)) h12 (PL_m (fun a ha => so a (by omega)) (fun a ha => ow1 a (by omega)) p2)⟩, ⟨q3, (rs 3 (by omega)).trans a1, ?_, AR_A (fun i _ => e _ (by omega)) (AR_m (so q3 (by omega)) a3)⟩, ⟨q4, (rs 4 (by omega)).trans b1, ?_, AR_A (fun i _ => e _ (by omega)) (AR_m (so q4 (by omega)) b3)⟩, ⟨q5, (rs 5 (by omega)).trans d1, ?_, AR_A (fun i _ => e _ (by omega)) (AR_m (so q5 (by omega)) d3)⟩⟩, fun i hi => ?_, x5, x6, x7, x8, x9, fun r hr => NR_m (h := h) (r0 _ (by omega)) (fun a ha => ⟨so a (by omega), ow1 a (by omega)⟩) (x10 r hr), x11, fun a ha => ?_, fun a ha => ?_⟩, fun a ha => s0 a (by omega)⟩
  · exact (ow1 s (by omega)).trans y1
  · rw [o_RR, if_pos rfl, up_s]
  · exact if_pos rfl
  · rw [e0]
    exact (if_neg nc).trans (if_pos (Or.inl rfl))
  · rw [e0, e1]
    exact (if_neg na).trans (if_pos (Or.inr rfl))
  · exact (ow1 l (by omega)).trans l2
  · rw [rq_m (so l (by omega))]
    exact (ow1 _ (by omega)).trans l3
  · exact (ow1 q3 (by omega)).trans a2
  · exact (ow1 q4 (by omega)).trans b2
  · exact (ow1 q5 (by omega)).trans d2
  · rcases x4 i hi with ⟨z1, z2⟩ | ⟨z1, t, z2, z3⟩
    · exact Or.inl ⟨z1, by rw [r0 76 (by omega)]; exact z2⟩
    · refine Or.inr ⟨z1, t, by rw [r0 76 (by omega)]; exact z2, ?_⟩
      have es : sh B i = sh (pA P) i := by
        funext j
        exact e _ (by omega)
      show XS _ (i + 1) _ t (sh B i)
      rw [es]
      exact XS_m (by omega) (fun a ha => so a (by omega)) st (fun a ha => ow1 a (by omega)) z3
  · have : oX (pR h s (va_up (oR h s) 0 (some c))) = oX h := rfl
    exact ⟨(x12 a ha).1, owx a (x12 a ha).2 (by omega) (by omega) (by omega)⟩
  · exact ⟨owx a (x13 a ha).1 (by omega) (by omega) (by omega), (x13 a ha).2⟩
/-- what a text leaves: refused; a scene; a law -/
def q_tf (P : sS) (q : Nat × Nat) : sV := nn (qK P 0 (nI q.1) (nI q.2)) (-30 - nI q.1)
def q_ts (P : sS) (A : rI) : sV := (.int (A 39), qA (qK P 0 (nI 0) (-1)) (tko (pA P) A 0 40))
def q_tl (P : sS) (A : rI) : sV := (.int (A 40), qA (qK P 0 (nI 0) (-1)) (tko (pA P) A 40 477))
theorem ns_t : ∀ c, 1 ≤ c → c ≤ 5 → nsx (-30 - nI c) = nslot (-30 - nI c) := fun c h1 h5 => by
  have e : c = 1 ∨ c = 2 ∨ c = 3 ∨ c = 4 ∨ c = 5 := by omega
  rcases e with rfl | rfl | rfl | rfl | rfl <;> decide
theorem kX0_tx0 (T : oT h 64 = 1) (t8 : oT h o = 8) : E_ d mX0_text 63 [.val (.ref 64), s1, s2, .val (.ref o)] [] h = E_ d mX0_text 84 [.val (.ref 64), s1, s2, .val (.ref o)] [] (pI h 64 (va_up (va_up (va_up (oI h 64) 4 (nI 0)) 5 (oI h o 8)) 6 (oI h o 9))) := by
  have ne : (o = 64) = False := eq_false (fun z => by rw [z, T] at t8; omega)
  refine wX0_text_63.trans ?_
  simp (disch := first | assumption | exact nI_ne0 (by decide) (by decide) | exact zb_01 | exact Or.inl rfl | exact Or.inr rfl | with_unfolding_all exact id (by assumption) | with_unfolding_all exact id (xix_8 (by assumption) (by omega) (by omega)) | omega) only [wX0_text_e, wX0_text_0, wX0_text_1, wX0_text_2, wX0_text_3, wX0_text_4, wX0_text_7, wX0_text_10, wX0_text_11, wX0_text_13, wX0_text_16, wX0_text_17, wX0_text_18, wX0_text_19, wX0_text_20, wX0_text_21, wX0_text_24, wX0_text_25, wX0_text_28, wX0_text_31, wX0_text_32, wX0_text_34, wX0_text_37, wX0_text_38, wX0_text_41, wX0_text_42, wX0_text_43, wX0_text_44, wX0_text_47, wX0_text_48, wX0_text_49, wX0_text_52, wX0_text_53, wX0_text_56, wX0_text_59, wX0_text_60, wX0_text_64, wX0_text_65, wX0_text_68, wX0_text_69, wX0_text_70, wX0_text_73, wX0_text_76, wX0_text_77, wX0_text_78, wX0_text_81, wX0_text_85, wX0_text_88, wX0_text_91, wX0_text_92, wX0_text_94, wX0_text_95, wX0_text_98, wX0_text_99, wX0_text_102, wX0_text_103, wX0_text_104, wX0_text_105, wX0_text_108, wX0_text_109, wX0_text_112, wX0_text_113, wX0_text_116, wX0_text_119, wX0_text_120, wX0_text_123, wX0_text_126, wX0_text_127, wX0_text_128, wX0_text_131, wX0_text_132, wX0_text_135, wX0_text_138, wX0_text_139, wX0_text_142, wX0_text_145, if_true, if_false, ↓reduceIte, xpu_s, xpu_n, Option.bind_some, xk_i, xk_r, xk_0, xk_u, xk_l, xk_k, xk_q, rf_s, rf_n, o_TI, o_TL, o_TR, o_NI, o_NL, o_NR, o_XI, o_XL, o_XR, o_RI, o_RL, o_LI, o_LR, o_IL, o_IR, o_II, o_LL, o_RR, o_pII, o_pLL, up_s, q_e1, q_e2, Nat.zero_add, Nat.reduceEqDiff, Nat.reduceAdd, Nat.reduceMul, Nat.reduceSub, Nat.reduceLT, Nat.reduceLeDiff, Nat.reduceDiv, Nat.reduceMod, nI_c, nI_add, up_ne, ne]
/-- refused -/
theorem kX0_txF {q : Nat × Nat} (X1 : XRo ow s h P) (C : CS h o n t 0 (.inl q)) : ∃ h1, E_ (d + 1) mX0_text 63 [.val (.ref 64), .val (.int y1), .val (.int y2), .val (.ref o)] [] h = some (some (q_tf P q).1, h1) ∧ XR h1 (q_tf P q).2 ∧ KM h h1 ∧ oC h1 = oC h ∧ oS h1 = oS h := by
  obtain ⟨T, -, c8, c9, q1, q5, -⟩ := C
  have x0 := X1.1.1.1
  obtain ⟨K, M⟩ := XR_K (z := 0) (y1 := nI q.1) (y2 := nI q.2) (f := va_up (va_up (va_up (oI h 64) 4 (nI 0)) 5 (oI h o 8)) 6 (oI h o 9)) X1 (by rw [up_ne (by decide), up_ne (by decide), up_s]) (by rw [up_ne (by decide), up_s]; exact c8) (by rw [up_s]; exact c9)
  have e0 := kX0_tx0 (d := d + 1) (s1 := .val (.int y1)) (s2 := .val (.int y2)) x0 T.1
  obtain ⟨H, eH⟩ : ∃ H, H = pI h 64 (va_up (va_up (va_up (oI h 64) 4 (nI 0)) 5 (oI h o 8)) 6 (oI h o 9)) := ⟨_, rfl⟩
  have i5 : oI H 64 5 = nI q.1 := K.2.2.2.2.2.2.2.1 |> fun z => by rw [eH]; exact z
  have oc : oC H = oC h ∧ oS H = oS h := by rw [eH]; exact ⟨rfl, rfl⟩
  rw [← eH] at K M e0
  have no := kX0_no (d := d) K.1 (k := -30 - nI q.1)
  have z5 : (nI q.1 = 0) = False := eq_false (nI_ne0 (by omega) (by omega))
  have tH := K.1.1.1
  rw [ns_t q.1 q1 q5] at no
  refine ⟨XF H (nslot (-30 - nI q.1)), e0.trans ?_, XR_XF nslot_lt ⟨ow, s, K⟩, fun a ha => sm_trans (M a ha) (KM_XF a ha), oc.1, oc.2⟩
  refine wX0_text_84.trans ?_
  simp (disch := first | assumption | exact nI_ne0 (by decide) (by decide) | exact zb_01 | exact Or.inl rfl | exact Or.inr rfl | with_unfolding_all exact id (by assumption) | with_unfolding_all exact id (xix_8 (by assumption) (by omega) (by omega)) | omega) only [wX0_text_85, wX0_text_88, wX0_text_91, wX0_text_92, wX0_text_94, wX0_text_95, wX0_text_98, wX0_text_99, wX0_text_102, if_true, if_false, ↓reduceIte, xpu_s, xpu_n, Option.bind_some, xk_i, xk_r, xk_0, xk_u, xk_l, xk_k, xk_q, rf_s, rf_n, q_e1, q_e2, Nat.zero_add, Nat.reduceEqDiff, Nat.reduceAdd, Nat.reduceMul, Nat.reduceSub, Nat.reduceLT, Nat.reduceLeDiff, Nat.reduceDiv, Nat.reduceMod, i5, z5, no, q_tf, nn]
/-- a scene -/
theorem kX0_txS (X1 : XRo ow s h P) (W : WF P) (C : CS h o n t 0 (.inr L)) (S : SK h X o c A) (hX : 170 ≤ X) (wX : ∀ a, X ≤ a → ow a = 100) (T : TX h) (h8 : sN A ≤ 8) : ∃ h1, E_ (d + 1) mX0_text 63 [.val (.ref 64), .val (.int (nI 0)), .val (.int y2), .val (.ref o)] [] h = some (some (q_ts P A).1, h1) ∧ XR h1 (q_ts P A).2 ∧ KM h h1 ∧ oC h1 = oC h ∧ oS h1 = oS h := by
  obtain ⟨Tb, -, c8, c9, -⟩ := C
  have x0 := X1.1.1.1
  obtain ⟨K, M⟩ := XR_K (z := 0) (y1 := nI 0) (y2 := -1) (f := va_up (va_up (va_up (oI h 64) 4 (nI 0)) 5 (oI h o 8)) 6 (oI h o 9)) X1 (by rw [up_ne (by decide), up_ne (by decide), up_s]) (by rw [up_ne (by decide), up_s]; exact c8) (by rw [up_s]; exact c9)
  have e0 := kX0_tx0 (d := d + 1) (s1 := .val (.int (nI 0))) (s2 := .val (.int y2)) x0 Tb.1
  have o64 : ¬ o = 64 := by have := Tb.2.2.2.2.2.2.2.1; omega
  obtain ⟨k1, k2, k3, k4, k5, k6⟩ := S
  obtain ⟨H, eH⟩ : ∃ H, H = pI h 64 (va_up (va_up (va_up (oI h 64) 4 (nI 0)) 5 (oI h o 8)) 6 (oI h o 9)) := ⟨_, rfl⟩
  have s0 : ∀ a, ¬ a = 64 → sm h H a := fun a ha => by rw [eH]; exact sm_I sm_refl ha
  have i5 : oI H 64 5 = nI 0 := K.2.2.2.2.2.2.2.1 |> fun z => by rw [eH]; exact z
  have oc : oC H = oC h ∧ oS H = oS h ∧ oX H = oX h := by rw [eH]; exact ⟨rfl, rfl, rfl⟩
  rw [← eH] at K M e0
  have st : ∀ a, 9 ≤ oT h a → oT h a ≤ 18 → sm h H a := fun a h1 h2 => s0 a (fun z => by rw [z, x0] at h1; omega)
  have SH : SCo H c A := SC_m (s0 c (by omega)) (s0 _ (by omega)) (s0 _ (by omega)) st k2
  have r0 : rq H c 0 = rq h c 0 := rq_m (s0 c (by omega))
  have r1 : rq H (rq h c 0) 1 = rq h (rq h c 0) 1 := rq_m (s0 _ (by omega))
  have tc := k2.1
  have t4 := k2.2.2.2.2.2.2.2.2.2.1.1
  have t45 := k2.2.2.2.2.2.2.2.2.2.1.2.2.2.1
  have lc := TX_lt T (a := c) (by rw [tc]; decide)
  have l4 := TX_lt T (a := rq h c 0) (by rw [t4]; decide)
  have l45 := TX_lt T (a := rq h (rq h c 0) 1) (by rw [t45]; decide)
  have SB : SCo H c (tko (pA P) A 0 40) := SC_A (A := A) (fun k hk => if_pos ⟨Nat.zero_le _, hk⟩) h8 SH
  obtain ⟨F, M2⟩ := XR_scene K SB (fun a ha => by
    rw [r0, r1] at ha
    rcases ha with z | z | z
    · rw [z]; exact ⟨by omega, by omega, wX c k4⟩
    · rw [z]; exact ⟨by omega, by omega, wX _ k5⟩
    · rw [z]; exact ⟨by omega, by omega, wX _ k6⟩) (fun i hi => if_neg (by omega)) W.1.2.1 W.1.2.2.2.1
  have tH := K.1.1.1
  have hs := K.2.1
  have ts := K.2.2.1.2.1
  have t8 : oT H o = 8 := by rw [(s0 o o64).1]; exact Tb.1
  have ro : oR H o 1 = some c := by rw [(s0 o o64).2.2.2.1]; exact k1
  have ns : ¬ o = s := fun z => by rw [z, ts] at t8; omega
  have ro2 : oR (pR H s (va_up (oR H s) 0 (some c))) o 1 = some c := by rw [o_RR, if_neg ns]; exact ro
  have t82 : oT (pR H s (va_up (oR H s) 0 (some c))) o = 8 := t8
  have tc2 : oT (pR H s (va_up (oR H s) 0 (some c))) c = 3 := SH.1
  have ic : oI (pR H s (va_up (oR H s) 0 (some c))) c 7 = A 39 := SH.2.2.2.2.2.2.2.1
  have nz : (nI 0 = nI 1) = False := nI_01
  obtain ⟨H2, eH2⟩ : ∃ H2, H2 = pR H s (va_up (oR H s) 0 (some c)) := ⟨_, rfl⟩
  have oc2 : oC H2 = oC H ∧ oS H2 = oS H := by rw [eH2]; exact ⟨rfl, rfl⟩
  rw [← eH2] at ro2 t82 tc2 ic F M2
  refine ⟨H2, e0.trans ?_, ⟨_, _, F⟩, fun a ha => sm_trans (M a ha) (M2 a ha), oc2.1.trans oc.1, oc2.2.trans oc.2.1⟩
  refine wX0_text_84.trans ?_
  simp (disch := first | exact t82 | exact tc2 | first | assumption | exact nI_ne0 (by decide) (by decide) | exact zb_01 | exact Or.inl rfl | exact Or.inr rfl | with_unfolding_all exact id (by assumption) | with_unfolding_all exact id (xix_8 (by assumption) (by omega) (by omega)) | omega) only [wX0_text_e, wX0_text_0, wX0_text_1, wX0_text_2, wX0_text_3, wX0_text_4, wX0_text_7, wX0_text_10, wX0_text_11, wX0_text_13, wX0_text_16, wX0_text_17, wX0_text_18, wX0_text_19, wX0_text_20, wX0_text_21, wX0_text_24, wX0_text_25, wX0_text_28, wX0_text_31, wX0_text_32, wX0_text_34, wX0_text_37, wX0_text_38, wX0_text_41, wX0_text_42, wX0_text_43, wX0_text_44, wX0_text_47, wX0_text_48, wX0_text_49, wX0_text_52, wX0_text_53, wX0_text_56, wX0_text_59, wX0_text_60, wX0_text_64, wX0_text_65, wX0_text_68, wX0_text_69, wX0_text_70, wX0_text_73, wX0_text_76, wX0_text_77, wX0_text_78, wX0_text_81, wX0_text_85, wX0_text_88, wX0_text_91, wX0_text_92, wX0_text_94, wX0_text_95, wX0_text_98, wX0_text_99, wX0_text_102, wX0_text_103, wX0_text_104, wX0_text_105, wX0_text_108, wX0_text_109, wX0_text_112, wX0_text_113, wX0_text_116, wX0_text_119, wX0_text_120, wX0_text_123, wX0_text_126, wX0_text_127, wX0_text_128, wX0_text_131, wX0_text_132, wX0_text_135, wX0_text_138, wX0_text_139, wX0_text_142, wX0_text_145, if_true, if_false, ↓reduceIte, xpu_s, xpu_n, Option.bind_some, xk_i, xk_r, xk_0, xk_u, xk_l, xk_k, xk_q, rf_s, rf_n, q_e1, q_e2, Nat.zero_add, Nat.reduceEqDiff, Nat.reduceAdd, Nat.reduceMul, Nat.reduceSub, Nat.reduceLT, Nat.reduceLeDiff, Nat.reduceDiv, Nat.reduceMod, i5, nI_00, nz, hs, ro, ← eH2, ro2, ic, q_ts]
/-- a law -/
theorem kX0_txL (X1 : XRo ow s h P) (W : WF P) (C : CS h o n t 0 (.inr L)) (S : LK h X o l A) (hX : 170 ≤ X) (wX : ∀ a, X ≤ a → ow a = 100) (T : TX h) (WA : WFl A) : ∃ h1, E_ (d + 1) mX0_text 63 [.val (.ref 64), .val (.int (nI 1)), .val (.int y2), .val (.ref o)] [] h = some (some (q_tl P A).1, h1) ∧ XR h1 (q_tl P A).2 ∧ KM h h1 ∧ oC h1 = oC h ∧ oS h1 = oS h := by
  obtain ⟨Tb, -, c8, c9, -⟩ := C
  have x0 := X1.1.1.1
  obtain ⟨K, M⟩ := XR_K (z := 0) (y1 := nI 0) (y2 := -1) (f := va_up (va_up (va_up (oI h 64) 4 (nI 0)) 5 (oI h o 8)) 6 (oI h o 9)) X1 (by rw [up_ne (by decide), up_ne (by decide), up_s]) (by rw [up_ne (by decide), up_s]; exact c8) (by rw [up_s]; exact c9)
  have e0 := kX0_tx0 (d := d + 1) (s1 := .val (.int (nI 1))) (s2 := .val (.int y2)) x0 Tb.1
  have o64 : ¬ o = 64 := by have := Tb.2.2.2.2.2.2.2.1; omega
  obtain ⟨k1, k2, k3, k4, k5⟩ := S
  obtain ⟨H, eH⟩ : ∃ H, H = pI h 64 (va_up (va_up (va_up (oI h 64) 4 (nI 0)) 5 (oI h o 8)) 6 (oI h o 9)) := ⟨_, rfl⟩
  have s0 : ∀ a, ¬ a = 64 → sm h H a := fun a ha => by rw [eH]; exact sm_I sm_refl ha
  have i5 : oI H 64 5 = nI 0 := K.2.2.2.2.2.2.2.1 |> fun z => by rw [eH]; exact z
  have oc : oC H = oC h ∧ oS H = oS h ∧ oX H = oX h := by rw [eH]; exact ⟨rfl, rfl, rfl⟩
  rw [← eH] at K M e0
  have st : ∀ a, 9 ≤ oT h a → oT h a ≤ 18 → sm h H a := fun a h1 h2 => s0 a (fun z => by rw [z, x0] at h1; omega)
  have SH : LWo H l A := LW_m (s0 l (by omega)) (s0 _ (by omega)) st k2
  have r1 : rq H l 1 = rq h l 1 := rq_m (s0 l (by omega))
  have t4 := k3.1.1
  have t45 := k3.1.2.2.2.1
  have l4 := TX_lt T (a := l) (by rw [t4]; decide)
  have l45 := TX_lt T (a := rq h l 1) (by rw [t45]; decide)
  have SB : LWo H l (tko (pA P) A 40 477) := LW_A (A := A) (fun k h1 h2 => if_pos ⟨h1, h2⟩) WA SH
  obtain ⟨F, M2⟩ := XR_law K (b := l) ⟨by omega, by omega, Or.inl (wX l k4)⟩ (by rw [r1]; exact ⟨by omega, by omega, Or.inl (wX _ k5)⟩) SB (fun i hi => if_neg (by omega)) W.1.1.2.1 W.1.2.2.2.1
  have tH := K.1.1.1
  have hs := K.2.1
  have ts := K.2.2.1.2.1
  have t8 : oT H o = 8 := by rw [(s0 o o64).1]; exact Tb.1
  have ro : oR H o 2 = some l := by rw [(s0 o o64).2.2.2.1]; exact k1
  have ns : ¬ o = s := fun z => by rw [z, ts] at t8; omega
  have ro2 : oR (pR H s (va_up (oR H s) 1 (some l))) o 2 = some l := by rw [o_RR, if_neg ns]; exact ro
  have t82 : oT (pR H s (va_up (oR H s) 1 (some l))) o = 8 := t8
  have LH := (LS_m (s0 l (by omega)) (s0 _ (by omega)) k3.1).1
  have nls : ¬ l = s := fun z => by have := LH.1; rw [z, ts] at this; omega
  have nqs : ¬ rq H l 1 = s := fun z => by have := LH.2.2.2.1; rw [z, ts] at this; omega
  have LH2 := (LS_m (h1 := pR H s (va_up (oR H s) 1 (some l))) (sm_R sm_refl nls) (sm_R sm_refl nqs) LH).1
  have nz : (nI 0 = nI 1) = False := nI_01
  obtain ⟨H2, eH2⟩ : ∃ H2, H2 = pR H s (va_up (oR H s) 1 (some l)) := ⟨_, rfl⟩
  have oc2 : oC H2 = oC H ∧ oS H2 = oS H := by rw [eH2]; exact ⟨rfl, rfl⟩
  rw [← eH2] at ro2 t82 F M2 LH2
  have SZ := kJ2_size (d := d) LH2
  have a40 : A 40 = nI (sNl A) := WA.1
  have tl2 := LH2.1
  refine ⟨H2, e0.trans ?_, ⟨_, _, F⟩, fun a ha => sm_trans (M a ha) (M2 a ha), oc2.1.trans oc.1, oc2.2.trans oc.2.1⟩
  refine wX0_text_84.trans ?_
  simp (disch := first | exact t82 | exact tl2 | first | assumption | exact nI_ne0 (by decide) (by decide) | exact zb_01 | exact Or.inl rfl | exact Or.inr rfl | with_unfolding_all exact id (by assumption) | with_unfolding_all exact id (xix_8 (by assumption) (by omega) (by omega)) | omega) only [wX0_text_e, wX0_text_0, wX0_text_1, wX0_text_2, wX0_text_3, wX0_text_4, wX0_text_7, wX0_text_10, wX0_text_11, wX0_text_13, wX0_text_16, wX0_text_17, wX0_text_18, wX0_text_19, wX0_text_20, wX0_text_21, wX0_text_24, wX0_text_25, wX0_text_28, wX0_text_31, wX0_text_32, wX0_text_34, wX0_text_37, wX0_text_38, wX0_text_41, wX0_text_42, wX0_text_43, wX0_text_44, wX0_text_47, wX0_text_48, wX0_text_49, wX0_text_52, wX0_text_53, wX0_text_56, wX0_text_59, wX0_text_60, wX0_text_64, wX0_text_65, wX0_text_68, wX0_text_69, wX0_text_70, wX0_text_73, wX0_text_76, wX0_text_77, wX0_text_78, wX0_text_81, wX0_text_85, wX0_text_88, wX0_text_91, wX0_text_92, wX0_text_94, wX0_text_95, wX0_text_98, wX0_text_99, wX0_text_102, wX0_text_103, wX0_text_104, wX0_text_105, wX0_text_108, wX0_text_109, wX0_text_112, wX0_text_113, wX0_text_116, wX0_text_119, wX0_text_120, wX0_text_123, wX0_text_126, wX0_text_127, wX0_text_128, wX0_text_131, wX0_text_132, wX0_text_135, wX0_text_138, wX0_text_139, wX0_text_142, wX0_text_145, if_true, if_false, ↓reduceIte, xpu_s, xpu_n, Option.bind_some, xk_i, xk_r, xk_0, xk_u, xk_l, xk_k, xk_q, rf_s, rf_n, q_e1, q_e2, Nat.zero_add, Nat.reduceEqDiff, Nat.reduceAdd, Nat.reduceMul, Nat.reduceSub, Nat.reduceLT, Nat.reduceLeDiff, Nat.reduceDiv, Nat.reduceMod, i5, nI_00, hs, ro, ← eH2, ro2, SZ, q_tl, a40]
end
