/-! SOUNDNESS, arrays and what is made -/
def XNok (own k t N : Nat) : Prop := ∃ (C : String) (T : u_T) (ty0 : Nat → FieldType), 1 ≤ t ∧ t ≤ 19 ∧ XC t C T N ty0 ∧ Cond.classLink (xnm own) k C ∈ lw_all
/-- the element class of an array of references, by its tag -/
def xec : Nat → String
  | 45 => "java/lang/Object"
  | 46 => "FootOut$Walk"
  | 47 => "FootOut$Numbers"
  | _ => "FootOut$State"
def XQok (own k t : Nat) : Prop := 45 ≤ t ∧ t ≤ 48 ∧ Cond.classLink (xnm own) k (xec t) ∈ lw_all ∧ xec t ∈ xao
/-- arrays' class names -/
def xan : Nat → String
  | 40 => "[I"
  | 41 => "[B"
  | 42 => "[Z"
  | 43 => "[S"
  | _ => "[J"
def XTok (own k t : Nat) : Prop := (1 ≤ t ∧ t ≤ 19 ∧ ∃ C T N ty0, XC t C T N ty0 ∧ Cond.classLink (xnm own) k C ∈ lw_all) ∨ (40 ≤ t ∧ t ≤ 44 ∧ Cond.classLink (xnm own) k (xan t) ∈ lw_all ∧ (∀ u, 40 ≤ u → u ≤ 44 → u ≠ t → (xan u, xan t) ∈ xnc)) ∨ (t = 44 ∧ Cond.classLink (xnm own) k (xan t) ∈ lw_all)
section
variable {D : va_G} {G : Nat → ClassId} {l : Launch} {Hb : Heap} {h0 : xH} {b0 : Nat → Nat} {mm : xM} {pc n d len : Nat} {ls : List Slot} {st : List Value} {h : xH} {r : xR} {c' : xC}
theorem xce_a {β : Nat → Nat} {a t : Nat} (ht : oT h a = t) (h2 : 19 < t) : xce G β h a = .inl (G t, xac h β a) := by
  unfold xce
  rw [ht, if_neg (by omega)]
theorem xac_i {β : Nat → Nat} {a t : Nat} (ht : oT h a = t) (h1 : 40 ≤ t) (h2 : t ≤ 43) : xac h β a = (oN h a, .inl (oI h a)) := by
  unfold xac
  rw [ht]
  obtain rfl | rfl | rfl | rfl : t = 40 ∨ t = 41 ∨ t = 42 ∨ t = 43 := by omega
  all_goals rfl
theorem xac_l {β : Nat → Nat} {a : Nat} (ht : oT h a = 44) : xac h β a = (oN h a, .inr (.inl (oL h a))) := by
  unfold xac
  rw [ht]
  rfl
theorem xac_r {β : Nat → Nat} {a t : Nat} (ht : oT h a = t) (h1 : 45 ≤ t) (h2 : t ≤ 48) : xac h β a = (oN h a, .inr (.inr (.inr (.inr (fun j => (oR h a j).map β))))) := by
  unfold xac
  rw [ht]
  obtain rfl | rfl | rfl | rfl : t = 45 ∨ t = 46 ∨ t = 47 ∨ t = 48 := by omega
  all_goals rfl
theorem xaI {β : Nat → Nat} {a t : Nat} (o : xok h0 b0 β h) (ht : oT h a = t) (h1 : 40 ≤ t) (h2 : t ≤ 43) : (xw G β h)[a - 64]? = some (β a, .inl (G t, oN h a, .inl (oI h a))) := by
  have hlt := o.lt (a := a) (by rw [ht]; exact Or.inr ⟨h1, by omega⟩)
  rw [xw_at hlt.1 hlt.2, xce_a ht (by omega), xac_i ht h1 h2]
theorem xaL {β : Nat → Nat} {a : Nat} (o : xok h0 b0 β h) (ht : oT h a = 44) : (xw G β h)[a - 64]? = some (β a, .inl (G 44, oN h a, .inr (.inl (oL h a)))) := by
  have hlt := o.lt (a := a) (by rw [ht]; exact Or.inr ⟨by omega, by omega⟩)
  rw [xw_at hlt.1 hlt.2, xce_a ht (by omega), xac_l ht]
theorem xaR {β : Nat → Nat} {a t : Nat} (o : xok h0 b0 β h) (ht : oT h a = t) (h1 : 45 ≤ t) (h2 : t ≤ 48) : (xw G β h)[a - 64]? = some (β a, .inl (G t, oN h a, .inr (.inr (.inr (.inr (fun j => (oR h a j).map β)))))) := by
  have hlt := o.lt (a := a) (by rw [ht]; exact Or.inr ⟨by omega, h2⟩)
  rw [xw_at hlt.1 hlt.2, xce_a ht (by omega), xac_r ht h1 h2]
theorem xty_r {t : Nat} (h1 : 45 ≤ t) (h2 : t ≤ 48) : (xty G)[t - 40]? = some (G t, .object (xec t)) := by
  obtain rfl | rfl | rfl | rfl : t = 45 ∨ t = 46 ∨ t = 47 ∨ t = 48 := by omega
  all_goals rfl
theorem g_len (hd : decode mm.2.2.2.1 pc = .ok (.arraylength, 1)) (hi : (match st with | .ref a :: st => if 39 ≤ oT h a ∧ oT h a ≤ 48 then xgo mm (pc + 1) ls (.int (nI (oN h a)) :: st) h d else none | _ => none) = some (.inl c')) (ih : SMc D G l Hb h0 b0 c' r) : SM D G l Hb h0 b0 mm pc ls st h d r := by
  split at hi
  · rename_i a st'
    split at hi
    · rename_i ht
      rw [xgo_eq hi] at ih
      refine g_same ih (fun β H _ q => (q.tail.push (by exact trivial)).1) fun {p e R s m args below meth c Q H locs cells slots β M} X hw hS hL hR k => ?_
      by_cases h9 : oT h a = 39
      · have ha : a < 64 := by
          rcases Nat.lt_or_ge a 64 with q | q
          · exact q
          · rcases Nat.lt_or_ge a (oX h) with q2 | q2
            · have := hw.2.2.2.1 a q q2
              unfold xlv at this
              omega
            · have := hw.2.2.2.2.1 a q2
              omega
        obtain ⟨-, q1, q2, q3, q4⟩ := hw.2.2.2.2.2.2 a ha
        have e31 : a = 31 := X.2.2.2.2.2.2.2.2.2.2.2.1 a (by rw [← q1]; exact h9)
        subst e31
        have k : W p l e R s m args below meth c H locs cells slots Q (F0 m (pc + 1) M (.int (nI (oN h 31)) :: st'.map (cv β))) := k
        rw [q2] at k
        show W p l e R s m args below meth c H locs cells slots Q (F0 m pc M (.ref (β 31) :: st'.map (cv β)))
        rw [q4]
        obtain ⟨hX, hbl, -⟩ := X.2.2.2.2.2.2.2.2.2.2.2.2
        exact va_slen X.1 X.2.1 hX hbl (by show ¬ Hb.size ≤ b0 31; omega) hS hd k
      · rcases (by omega : oT h a ≤ 43 ∨ oT h a = 44 ∨ 45 ≤ oT h a) with q | q | q
        · exact va_alen X.1 X.2.1 X.2.2.2.2.2.2.1 hw.1 (a - 64) (oT h a - 40) (xaI hw.2.2 rfl (by omega) q) (ty := [FieldType.int, .byte, .boolean, .short].getD (oT h a - 40) .int) (by
            have : oT h a = 40 ∨ oT h a = 41 ∨ oT h a = 42 ∨ oT h a = 43 := by omega
            rcases this with e | e | e | e <;> rw [e] <;> rfl) rfl hd k
        · exact va_alen X.1 X.2.1 X.2.2.2.2.2.2.1 hw.1 (a - 64) 4 (xaL hw.2.2 q) (by rfl) rfl hd k
        · exact va_alen X.1 X.2.1 X.2.2.2.2.2.2.1 hw.1 (a - 64) (oT h a - 40) (xaR hw.2.2 rfl q (by omega)) (xty_r q (by omega)) rfl hd k
    · cases hi
  · cases hi
theorem g_iald (hd : decode mm.2.2.2.1 pc = .ok (.iaload, 1)) (hi : (match st with | .int i :: .ref a :: st => if (oT h a = 40 ∨ oT h a = 39) ∧ xix i (oN h a) = true then xgo mm (pc + 1) ls (.int (oI h a i.toNatClampNeg) :: st) h d else none | _ => none) = some (.inl c')) (ih : SMc D G l Hb h0 b0 c' r) : SM D G l Hb h0 b0 mm pc ls st h d r := by
  split at hi
  · rename_i i a st'
    split at hi
    · rename_i ht
      rw [xgo_eq hi] at ih
      refine g_same ih (fun β H _ q => (q.tail.tail.push (by exact trivial)).1) fun {p e R s m args below meth c Q H locs cells slots β M} X hw hS hL hR k => ?_
      rcases ht.1 with h9 | h9
      · exact va_iald X.1 X.2.1 X.2.2.2.2.2.2.1 hw.1 (a - 64) 0 (xaI hw.2.2 h9 (by omega) (by omega)) rfl (xix_in ht.2) hd k
      · have ha : a < 64 := by
          rcases Nat.lt_or_ge a 64 with q | q
          · exact q
          · rcases Nat.lt_or_ge a (oX h) with q2 | q2
            · have := hw.2.2.2.1 a q q2
              unfold xlv at this
              omega
            · have := hw.2.2.2.2.1 a q2
              omega
        obtain ⟨-, q1, q2, q3, q4⟩ := hw.2.2.2.2.2.2 a ha
        have e31 : a = 31 := X.2.2.2.2.2.2.2.2.2.2.2.1 a (by rw [← q1]; exact h9)
        subst e31
        have k : W p l e R s m args below meth c H locs cells slots Q (F0 m (pc + 1) M (.int (oI h 31 i.toNatClampNeg) :: st'.map (cv β))) := k
        rw [q3] at k
        show W p l e R s m args below meth c H locs cells slots Q (F0 m pc M (.int i :: .ref (β 31) :: st'.map (cv β)))
        rw [q4]
        obtain ⟨hX, hbl, -⟩ := X.2.2.2.2.2.2.2.2.2.2.2.2
        exact va_sld X.1 X.2.1 hX hbl (by show ¬ Hb.size ≤ b0 31; omega) hS (by rw [← q2]; exact xix_in ht.2) hd k
    · cases hi
  · cases hi
theorem g_bald (hd : decode mm.2.2.2.1 pc = .ok (.baload, 1)) (hi : (match st with | .int i :: .ref a :: st => if (oT h a = 41 ∨ oT h a = 42) ∧ xix i (oN h a) = true then xgo mm (pc + 1) ls (.int (oI h a i.toNatClampNeg) :: st) h d else none | _ => none) = some (.inl c')) (ih : SMc D G l Hb h0 b0 c' r) : SM D G l Hb h0 b0 mm pc ls st h d r := by
  split at hi
  · rename_i i a st'
    split at hi
    · rename_i ht
      rw [xgo_eq hi] at ih
      refine g_same ih (fun β H _ q => (q.tail.tail.push (by exact trivial)).1) fun {p e R s m args below meth c Q H locs cells slots β M} X hw hS hL hR k => ?_
      rcases ht.1 with h9 | h9
      · exact va_bald X.1 X.2.1 X.2.2.2.2.2.2.1 hw.1 (a - 64) 1 (xaI hw.2.2 h9 (by omega) (by omega)) rfl (xix_in ht.2) hd k
      · exact va_zald X.1 X.2.1 X.2.2.2.2.2.2.1 hw.1 (a - 64) 2 (xaI hw.2.2 h9 (by omega) (by omega)) rfl (xix_in ht.2) hd k
    · cases hi
  · cases hi
theorem g_sald (hd : decode mm.2.2.2.1 pc = .ok (.saload, 1)) (hi : (match st with | .int i :: .ref a :: st => if oT h a = 43 ∧ xix i (oN h a) = true then xgo mm (pc + 1) ls (.int (oI h a i.toNatClampNeg) :: st) h d else none | _ => none) = some (.inl c')) (ih : SMc D G l Hb h0 b0 c' r) : SM D G l Hb h0 b0 mm pc ls st h d r := by
  split at hi
  · rename_i i a st'
    split at hi
    · rename_i ht
      rw [xgo_eq hi] at ih
      exact g_same ih (fun β H _ q => (q.tail.tail.push (by exact trivial)).1) fun X hw _ _ _ k => va_sald X.1 X.2.1 X.2.2.2.2.2.2.1 hw.1 (a - 64) 3 (xaI hw.2.2 ht.1 (by omega) (by omega)) rfl (xix_in ht.2) hd k
    · cases hi
  · cases hi
theorem g_lald (hd : decode mm.2.2.2.1 pc = .ok (.laload, 1)) (hi : (match st with | .int i :: .ref a :: st => if oT h a = 44 ∧ xix i (oN h a) = true then xgo mm (pc + 1) ls (.long (oL h a i.toNatClampNeg) :: st) h d else none | _ => none) = some (.inl c')) (ih : SMc D G l Hb h0 b0 c' r) : SM D G l Hb h0 b0 mm pc ls st h d r := by
  split at hi
  · rename_i i a st'
    split at hi
    · rename_i ht
      rw [xgo_eq hi] at ih
      exact g_same ih (fun β H _ q => (q.tail.tail.push (by exact trivial)).1) fun X hw _ _ _ k => va_lald X.1 X.2.1 X.2.2.2.2.2.2.1 hw.1 (a - 64) 4 (xaL hw.2.2 ht.1) rfl (xix_in ht.2) hd k
    · cases hi
  · cases hi
theorem g_aald (hd : decode mm.2.2.2.1 pc = .ok (.aaload, 1)) (hi : (match st with | .int i :: .ref a :: st => if (45 ≤ oT h a ∧ oT h a ≤ 48) ∧ xix i (oN h a) = true then xgo mm (pc + 1) ls (va_rf (oR h a i.toNatClampNeg) :: st) h d else none | _ => none) = some (.inl c')) (ih : SMc D G l Hb h0 b0 c' r) : SM D G l Hb h0 b0 mm pc ls st h d r := by
  split at hi
  · rename_i i a st'
    split at hi
    · rename_i ht
      rw [xgo_eq hi] at ih
      exact g_same ih (fun β H hw q => (q.tail.tail.push (xvo_rf fun b hb => hw.2.2.2.2.2.1 a _ b hb)).1) fun X hw _ _ _ k => va_aldq X.1 X.2.1 X.2.2.2.2.2.2.1 hw.1 (a - 64) (oT h a - 40) (xaR hw.2.2 rfl ht.1.1 ht.1.2) (xty_r ht.1.1 ht.1.2) (xix_in ht.2) hd (by rw [List.map_cons, cv_rf] at k; exact k)
    · cases hi
  · cases hi
theorem xceI {β : Nat → Nat} {a t : Nat} {f : Nat → Int32} (ht : oT h a = t) (h1 : 40 ≤ t) (h2 : t ≤ 43) : xce G β (pI h a f) a = .inl (G t, oN h a, .inl f) := by
  rw [xce_a (h := pI h a f) ht (by omega), xac_i (h := pI h a f) ht h1 h2, o_II, if_pos rfl]
  rfl
theorem xceL {β : Nat → Nat} {a : Nat} {f : Nat → Int64} (ht : oT h a = 44) : xce G β (pL h a f) a = .inl (G 44, oN h a, .inr (.inl f)) := by
  rw [xce_a (h := pL h a f) ht (by omega), xac_l (h := pL h a f) ht, o_LL, if_pos rfl]
  rfl
theorem xceR {β : Nat → Nat} {a t : Nat} {f : Nat → Option Nat} (ht : oT h a = t) (h1 : 45 ≤ t) (h2 : t ≤ 48) : xce G β (pR h a f) a = .inl (G t, oN h a, .inr (.inr (.inr (.inr (fun j => (f j).map β))))) := by
  rw [xce_a (h := pR h a f) ht (by omega), xac_r (h := pR h a f) ht h1 h2, o_RR, if_pos rfl]
  rfl
theorem g_iast (hd : decode mm.2.2.2.1 pc = .ok (.iastore, 1)) (hi : (match st with | .int x :: .int i :: .ref a :: st => if oT h a = 40 ∧ xix i (oN h a) = true then xgo mm (pc + 1) ls st (pI h a (va_up (oI h a) i.toNatClampNeg x)) d else none | _ => none) = some (.inl c')) (ih : SMc D G l Hb h0 b0 c' r) : SM D G l Hb h0 b0 mm pc ls st h d r := by
  split at hi
  · rename_i x i a st'
    split at hi
    · rename_i ht
      have hlv : xlv (oT h a) := by rw [ht.1]; exact Or.inr ⟨by omega, by omega⟩
      rw [xgo_eq hi] at ih
      exact g_wr ih rfl rfl rfl (fun q => q.tail.tail.tail) (fun β o _ => xok_pI (o.lt hlv).1 o) (fun β o => o.lt hlv) (fun β b hb => xce_nI hb) fun X hw hS kk => va_iast X.1 X.2.1 X.2.2.2.2.2.2.1 hw.1 hw.2.1 hS (a - 64) 0 (xaI hw.2.2 ht.1 (by omega) (by omega)) rfl (xix_in ht.2) hd (by rw [xceI ht.1 (by omega) (by omega)] at kk; exact kk)
    · cases hi
  · cases hi
theorem g_bast (hd : decode mm.2.2.2.1 pc = .ok (.bastore, 1)) (hi : (match st with | .int x :: .int i :: .ref a :: st => if (oT h a = 41 ∨ oT h a = 42) ∧ xix i (oN h a) = true then xgo mm (pc + 1) ls st (pI h a (va_up (oI h a) i.toNatClampNeg (vp_nar (if oT h a = 41 then .byte else .boolean) x))) d else none | _ => none) = some (.inl c')) (ih : SMc D G l Hb h0 b0 c' r) : SM D G l Hb h0 b0 mm pc ls st h d r := by
  split at hi
  · rename_i x i a st'
    split at hi
    · rename_i ht
      have hlv : xlv (oT h a) := Or.inr ⟨by omega, by omega⟩
      rw [xgo_eq hi] at ih
      rcases ht.1 with h9 | h9
      · rw [if_pos h9] at ih
        exact g_wr ih rfl rfl rfl (fun q => q.tail.tail.tail) (fun β o _ => xok_pI (o.lt hlv).1 o) (fun β o => o.lt hlv) (fun β b hb => xce_nI hb) fun X hw hS kk => va_bast X.1 X.2.1 X.2.2.2.2.2.2.1 hw.1 hw.2.1 hS (a - 64) 1 (xaI hw.2.2 h9 (by omega) (by omega)) rfl (xix_in ht.2) hd (by rw [xceI h9 (by omega) (by omega)] at kk; exact kk)
      · rw [if_neg (by omega)] at ih
        exact g_wr ih rfl rfl rfl (fun q => q.tail.tail.tail) (fun β o _ => xok_pI (o.lt hlv).1 o) (fun β o => o.lt hlv) (fun β b hb => xce_nI hb) fun X hw hS kk => va_zast X.1 X.2.1 X.2.2.2.2.2.2.1 hw.1 hw.2.1 hS (a - 64) 2 (xaI hw.2.2 h9 (by omega) (by omega)) rfl (xix_in ht.2) hd (by rw [xceI h9 (by omega) (by omega)] at kk; exact kk)
    · cases hi
  · cases hi
theorem g_sast (hd : decode mm.2.2.2.1 pc = .ok (.sastore, 1)) (hi : (match st with | .int x :: .int i :: .ref a :: st => if oT h a = 43 ∧ xix i (oN h a) = true then xgo mm (pc + 1) ls st (pI h a (va_up (oI h a) i.toNatClampNeg (vp_nar .short x))) d else none | _ => none) = some (.inl c')) (ih : SMc D G l Hb h0 b0 c' r) : SM D G l Hb h0 b0 mm pc ls st h d r := by
  split at hi
  · rename_i x i a st'
    split at hi
    · rename_i ht
      have hlv : xlv (oT h a) := Or.inr ⟨by omega, by omega⟩
      rw [xgo_eq hi] at ih
      exact g_wr ih rfl rfl rfl (fun q => q.tail.tail.tail) (fun β o _ => xok_pI (o.lt hlv).1 o) (fun β o => o.lt hlv) (fun β b hb => xce_nI hb) fun X hw hS kk => va_sast X.1 X.2.1 X.2.2.2.2.2.2.1 hw.1 hw.2.1 hS (a - 64) 3 (xaI hw.2.2 ht.1 (by omega) (by omega)) rfl (xix_in ht.2) hd (by rw [xceI ht.1 (by omega) (by omega)] at kk; exact kk)
    · cases hi
  · cases hi
theorem g_last (hd : decode mm.2.2.2.1 pc = .ok (.lastore, 1)) (hi : (match st with | .long x :: .int i :: .ref a :: st => if oT h a = 44 ∧ xix i (oN h a) = true then xgo mm (pc + 1) ls st (pL h a (va_up (oL h a) i.toNatClampNeg x)) d else none | _ => none) = some (.inl c')) (ih : SMc D G l Hb h0 b0 c' r) : SM D G l Hb h0 b0 mm pc ls st h d r := by
  split at hi
  · rename_i x i a st'
    split at hi
    · rename_i ht
      have hlv : xlv (oT h a) := Or.inr ⟨by omega, by omega⟩
      rw [xgo_eq hi] at ih
      exact g_wr ih rfl rfl rfl (fun q => q.tail.tail.tail) (fun β o _ => xok_pL o) (fun β o => o.lt hlv) (fun β b hb => xce_nL hb) fun X hw hS kk => va_last X.1 X.2.1 X.2.2.2.2.2.2.1 hw.1 hw.2.1 hS (a - 64) 4 (xaL hw.2.2 ht.1) rfl (xix_in ht.2) hd (by rw [xceL ht.1] at kk; exact kk)
    · cases hi
  · cases hi
theorem xup_map {β : Nat → Nat} {f : Nat → Option Nat} {j : Nat} {q : Option Nat} : (fun i => (va_up f j q i).map β) = va_up (fun i => (f i).map β) j (q.map β) := by
  funext i
  unfold va_up
  by_cases h : i = j <;> simp [h]
theorem g_aast (hC : ∀ t, 1 ≤ t → t ≤ 19 → ∃ C T N ty0, XC t C T N ty0) (hd : decode mm.2.2.2.1 pc = .ok (.aastore, 1)) (hi : (match st with | .ref v :: .int i :: .ref a :: st => if xel (oT h a) (oT h v) = true ∧ xix i (oN h a) = true then xgo mm (pc + 1) ls st (pR h a (va_up (oR h a) i.toNatClampNeg (some v))) d else none | .null :: .int i :: .ref a :: st => if (45 ≤ oT h a ∧ oT h a ≤ 48) ∧ xix i (oN h a) = true then xgo mm (pc + 1) ls st (pR h a (va_up (oR h a) i.toNatClampNeg none)) d else none | _ => none) = some (.inl c')) (ih : SMc D G l Hb h0 b0 c' r) : SM D G l Hb h0 b0 mm pc ls st h d r := by
  split at hi
  · rename_i v i a st'
    split at hi
    · rename_i ht
      have hta : 45 ≤ oT h a ∧ oT h a ≤ 48 ∧ 1 ≤ oT h v ∧ oT h v ≤ 19 ∧ (46 ≤ oT h a → xcl[oT h v - 1]?.map (·.1) = some (xec (oT h a))) := by
        have q := ht.1
        unfold xel at q
        split at q
        · rename_i e
          rw [decide_eq_true_eq] at q
          exact ⟨by omega, by omega, q.1, q.2, fun _ => by omega⟩
        · rename_i e
          rw [decide_eq_true_eq] at q
          exact ⟨by omega, by omega, by omega, by omega, fun _ => by rw [e, q]; rfl⟩
        · rename_i e
          rw [decide_eq_true_eq] at q
          exact ⟨by omega, by omega, by omega, by omega, fun _ => by rw [e, q]; rfl⟩
        · rename_i e
          rw [decide_eq_true_eq] at q
          exact ⟨by omega, by omega, by omega, by omega, fun _ => by rw [e, q]; rfl⟩
        · cases q
      obtain ⟨a1, a2, v1, v2, hel⟩ := hta
      have hlv : xlv (oT h a) := Or.inr ⟨by omega, by omega⟩
      rw [xgo_eq hi] at ih
      refine g_wr ih rfl rfl rfl (fun q => q.tail.tail.tail) (fun β o q => xok_pR (xup_rf o fun b hb => by cases hb; exact q.head) o) (fun β o => o.lt hlv) (fun β b hb => xce_nR hb) fun {p e R s m args below meth c Q H locs cells slots β M} X hw hS kk => ?_
      have hvl := hw.2.2.lt (a := v) (Or.inl ⟨v1, v2⟩)
      have hve := xw_at (G := G) (β := β) hvl.1 hvl.2
      rw [xce_o rfl v2] at hve
      obtain ⟨C, T, N, ty0, c1, -, -, -, -, -, -, -, c9⟩ := hC _ v1 v2
      rw [xceR rfl a1 a2, xup_map] at kk
      by_cases h5 : oT h a = 45
      · exact va_astqO X.1 X.2.1 X.2.2.2.2.2.2.1 hw.1 hw.2.1 hS (a - 64) (oT h a - 40) (v - 64) (oT h v - 1) (xaR hw.2.2 rfl a1 a2) (xty_r a1 a2) (by rw [h5]; exact X.2.2.2.2.2.2.2.1 _ c9) hve c1 (xix_in ht.2) hd kk
      · have e1 := hel (by omega)
        rw [c1] at e1
        have e1 : C = xec (oT h a) := Option.some.inj e1
        exact va_astq X.1 X.2.1 X.2.2.2.2.2.2.1 hw.1 hw.2.1 hS (a - 64) (oT h a - 40) (v - 64) (oT h v - 1) (xaR hw.2.2 rfl a1 a2) (r := (C, T, N)) (by show _ = some (G (oT h a), FieldType.object C); rw [e1]; exact xty_r a1 a2) hve c1 (xix_in ht.2) hd kk
    · cases hi
  · rename_i i a st'
    split at hi
    · rename_i ht
      have hlv : xlv (oT h a) := Or.inr ⟨by omega, by omega⟩
      rw [xgo_eq hi] at ih
      refine g_wr ih rfl rfl rfl (fun q => q.tail.tail.tail) (fun β o q => xok_pR (xup_rf o fun b hb => by cases hb) o) (fun β o => o.lt hlv) (fun β b hb => xce_nR hb) fun {p e R s m args below meth c Q H locs cells slots β M} X hw hS kk => ?_
      rw [xceR rfl ht.1.1 ht.1.2, xup_map] at kk
      exact va_astqN X.1 X.2.1 X.2.2.2.2.2.2.1 hw.1 hw.2.1 hS (a - 64) (oT h a - 40) (xaR hw.2.2 rfl ht.1.1 ht.1.2) (xty_r ht.1.1 ht.1.2) (xix_in ht.2) hd kk
    · cases hi
  · cases hi
/-! what is made -/
theorem xw_new {β : Nat → Nat} {t n q : Nat} (o : xok h0 b0 β h) : xw G (va_up β (oX h) q) (pO h t n) = xw G β h ++ [(q, xce G (va_up β (oX h) q) (pO h t n) (oX h))] := by
  have hX : oX (pO h t n) = oX h + 1 := rfl
  apply List.ext_getElem?
  intro i
  rcases Nat.lt_trichotomy i (oX h - 64) with hi | hi | hi
  · rw [List.getElem?_append_left (by rw [xw_len]; exact hi)]
    have e1 := xw_at (G := G) (h := pO h t n) (β := va_up β (oX h) q) (a := i + 64) (by omega) (by omega)
    have e2 := xw_at (G := G) (h := h) (β := β) (a := i + 64) (by omega) (by omega)
    rw [Nat.add_sub_cancel] at e1 e2
    rw [e1, e2]
    have hne : i + 64 ≠ oX h := by omega
    have e3 : va_up β (oX h) q (i + 64) = β (i + 64) := by simp [va_up, hne]
    have e4 : xce G (va_up β (oX h) q) (pO h t n) (i + 64) = xce G β h (i + 64) := by
      refine xce_congr ?_ ?_ ?_ ?_ ?_
      · show va_up h.1 (oX h) t (i + 64) = _; simp [va_up, hne]; rfl
      · show va_up h.2.1 (oX h) n (i + 64) = _; simp [va_up, hne]; rfl
      · show va_up h.2.2.1 (oX h) (fun _ => 0) (i + 64) = _; simp [va_up, hne]; rfl
      · show va_up h.2.2.2.1 (oX h) (fun _ => 0) (i + 64) = _; simp [va_up, hne]; rfl
      · intro k
        have e5 : oR (pO h t n) (i + 64) k = oR h (i + 64) k := by show va_up h.2.2.2.2.1 (oX h) (fun _ => none) (i + 64) k = _; simp [va_up, hne]; rfl
        rw [e5]
        cases e6 : oR h (i + 64) k with
        | none => rfl
        | some b =>
          have := o.2.2.2.1 _ _ _ e6
          have hb : b ≠ oX h := by omega
          simp [va_up, hb]
    rw [e3, e4]
  · subst hi
    rw [List.getElem?_append_right (by rw [xw_len]; exact Nat.le_refl _), xw_len, Nat.sub_self]
    have h64 := o.1
    rw [xw_at (G := G) (h := pO h t n) (β := va_up β (oX h) q) (a := oX h) h64 (by omega)]
    show some (va_up β (oX h) q (oX h), _) = some (q, _)
    rw [up_s]
  · have h64 := o.1
    rw [List.getElem?_eq_none (by rw [xw_len]; omega), List.getElem?_eq_none (by simp [xw_len]; omega)]
theorem xok_pO {β : Nat → Nat} {t n q : Nat} (o : xok h0 b0 β h) (ht : xlv t) (hn : n ≤ 65536) : xok h0 b0 (va_up β (oX h) q) (pO h t n) := by
  obtain ⟨h1, h2, h3, h4, h5⟩ := o
  refine ⟨show 64 ≤ oX h + 1 by omega, fun a h6 h7 => ?_, fun a h6 => ?_, fun a k b hb => ?_, fun a ha => ?_⟩
  · show xlv (va_up h.1 (oX h) t a) ∧ va_up h.2.1 (oX h) n a ≤ 65536
    unfold va_up
    split
    · exact ⟨ht, hn⟩
    · have h7 : a < oX h + 1 := h7
      exact h2 a h6 (by omega)
  · have h6 : oX h + 1 ≤ a := h6
    show va_up h.1 (oX h) t a = 0
    unfold va_up
    rw [if_neg (by omega)]
    exact h3 a (by omega)
  · show b < oX h + 1
    have hb : va_up h.2.2.2.2.1 (oX h) (fun _ => none) a k = some b := hb
    unfold va_up at hb
    split at hb
    · cases hb
    · have := h4 a k b hb
      omega
  · have hne : a ≠ oX h := by omega
    obtain ⟨q1, q2, q3, q4, q5⟩ := h5 a ha
    have e1 : oT (pO h t n) a = oT h a := by show va_up h.1 (oX h) t a = _; simp [va_up, hne]; rfl
    refine ⟨by rw [e1]; exact q1, by rw [e1]; exact q2, ?_, ?_, ?_⟩
    · show va_up h.2.1 (oX h) n a = _; simp [va_up, hne]; exact q3
    · show va_up h.2.2.1 (oX h) (fun _ => 0) a = _; simp [va_up, hne]; exact q4
    · simp [va_up, hne]; exact q5
theorem g_mk {pc' t n : Nat} {st' : List Value} (ih : SM D G l Hb h0 b0 mm pc' ls (.ref (oX h) :: st') (pO h t n) d r) (ht : xlv t) (hn9 : n ≤ 65536) (hst : xvs (oX h) ls st → xvs (oX h) ls st')
    (row : ∀ {p : Program} {e : Env} {R : Room} {s : State} {m : MethodId} {args : Array Value} {below : List Frame} {meth : Method} {c : Code} {Q : State → Prop} {H : Heap} {locs : List Loc} {cells slots : Nat} {β : Nat → Nat} {M : Array Slot} (_ : xCt D G Hb h0 b0 mm p s m args meth c) (_ : xWd D G Hb h0 b0 β h H) (_ : va_S (fun q => Hb.size ≤ q) Hb H locs) (_ : cells + 1 ≤ R.cells) (_ : slots + n ≤ R.slots),
      (∀ (q : Nat) (H1 : Heap), va_P D xcl (xw G β h ++ [(q, xce G (va_up β (oX h) q) (pO h t n) (oX h))]) H1 → va_D (fun q => Hb.size ≤ q) (xw G β h ++ [(q, xce G (va_up β (oX h) q) (pO h t n) (oX h))]) → va_S (fun q => Hb.size ≤ q) Hb H1 locs → W p l e R s m args below meth c H1 locs (cells + 1) (slots + n) Q (F0 m pc' M (.ref q :: st'.map (cv β)))) → W p l e R s m args below meth c H locs cells slots Q (F0 m pc M (st.map (cv β)))) : SM D G l Hb h0 b0 mm pc ls st h d r := by
  obtain ⟨⟨i1, i2, i3⟩, ih⟩ := ih
  have j1 : oX (pO h t n) = oX h + 1 := rfl
  have j2 : oC (pO h t n) = oC h + 1 := rfl
  have j3 : oS (pO h t n) = oS h + n := rfl
  refine ⟨⟨by omega, by omega, by omega⟩, fun {p e R s m args below meth c Q H locs cells slots β M} X hw hS hL hvs hR hc hs fin => row X hw hS (by omega) (by omega) fun q H1 hP1 hD1 hS1 => ?_⟩
  have hv' := hst hvs
  have hb : ∀ a, a < oX h → va_up β (oX h) q a = β a := fun a ha => by simp [va_up, show a ≠ oX h by omega]
  have hw' : xWd D G Hb h0 b0 (va_up β (oX h) q) (pO h t n) H1 := ⟨by rw [xw_new hw.2.2]; exact hP1, by rw [xw_new hw.2.2]; exact hD1, xok_pO hw.2.2 ht hn9⟩
  have k := ih X (cells := cells + 1) (slots := slots + n) (Q := Q) hw' hS1 (hL.up hb hvs.2) (⟨fun v hm => by
      rcases List.mem_cons.mp hm with e | e
      · rw [e]; show oX h < oX h + 1; omega
      · exact xvo_mono (Nat.le_succ _) (hv'.1 v e), fun v hm => xvo_mono (Nat.le_succ _) (hvs.2 v hm)⟩) hR (by omega) (by omega) fun β' H' locs' cells' slots' M' pc' st'' a1 a2 a3 a4 a5 a6 a7 => fin β' H' locs' cells' slots' M' pc' st'' a1 (fun a ha => by rw [a2 a (by omega), hb a ha]) a3 a4 a5 a6 a7
  rw [List.map_cons, cv_sameL hb hv'.1] at k
  have e9 : cv (va_up β (oX h) q) (.ref (oX h)) = .ref q := by show Value.ref (va_up β (oX h) q (oX h)) = _; rw [up_s]
  rw [e9] at k
  exact k
def xdv (kd : Nat) : Value := match kd with
  | 1 => .long 0
  | 2 => .null
  | _ => .int 0
theorem xdf {kd : Nat} {ty : FieldType} (h : xtk kd ty = true) : defaultValue ty = xdv kd := by
  unfold xtk at h
  split at h <;> first | rfl | cases h
theorem xkd_le : ∀ t, 1 ≤ t → t ≤ 19 → (xkd t).length ≤ 65536 := by
  have e : ∀ t, t < 20 → (xkd t).length ≤ 65536 := by decide +kernel
  exact fun t _ h2 => e t (by omega)
theorem g_new (hN : ∀ own k t N, xN own k = some (t, N) → XNok own k t N) {k : Nat} (hd : decode mm.2.2.2.1 pc = .ok (.new k, 3)) (hi : (match xN mm.1 k with | some (t, N) => xgo mm (pc + 3) ls (.ref (oX h) :: st) (pO h t N) d | none => none) = some (.inl c')) (ih : SMc D G l Hb h0 b0 c' r) : SM D G l Hb h0 b0 mm pc ls st h d r := by
  split at hi
  · rename_i t N hx
    obtain ⟨C, T, ty0, t1, t2, ⟨c1, c2, c3, c4, c5, c6, c7, c8, -⟩, hlk⟩ := hN _ _ _ _ hx
    rw [xgo_eq hi] at ih
    refine g_mk ih (Or.inl ⟨t1, t2⟩) (by rw [← c5]; exact xkd_le t t1 t2) (fun q => q) fun {p e R s m args below meth c Q H locs cells slots β M} X hw hS hc hs kk => ?_
    obtain ⟨hx', hb, hml, hown, hts, -, hK⟩ := X
    have hT : oT (pO h t N) (oX h) = t := by show va_up h.1 (oX h) t (oX h) = t; exact up_s
    refine va_new (ci := t - 1) (C := C) (T := T) (N := N) hx' hb hts c2 ty0 c3 hown (hts _ hlk) (hts _ c7) (hts _ c8) hK.1 hw.1 hw.2.1 hS (fun q hq => hq) c1 (fs := xfs (pO h t N) β (oX h)) (fun j hj => ?_) hc hs hd fun q H1 hP1 hD1 hS1 => ?_
    · have hl : j < (xkd t).length := by rw [c5]; exact hj
      have e1 := c6 j hj
      rw [List.getD_eq_getElem?_getD, List.getElem?_eq_getElem hl] at e1
      have e2 := xfs_at (h := pO h t N) (β := β) hT (List.getElem?_eq_getElem hl)
      have e3 := xdf (show xtk _ (ty0 j) = true from e1)
      unfold vp_V
      rw [List.getD_eq_getElem?_getD, e2, e3]
      have eI : oI (pO h t N) (oX h) j = 0 := by show va_up h.2.2.1 (oX h) (fun _ => 0) (oX h) j = 0; rw [up_s]
      have eL : oL (pO h t N) (oX h) j = 0 := by show va_up h.2.2.2.1 (oX h) (fun _ => 0) (oX h) j = 0; rw [up_s]
      have eR : oR (pO h t N) (oX h) j = none := by show va_up h.2.2.2.2.1 (oX h) (fun _ => none) (oX h) j = none; rw [up_s]
      generalize (xkd t)[j] = kd
      unfold xfv xdv
      simp only [Option.getD_some, eI, eL, eR]
      rcases kd with _ | _ | _ | kd <;> rfl
    · have e4 : xfs (pO h t N) (va_up β (oX h) q) (oX h) = xfs (pO h t N) β (oX h) := by
        unfold xfs
        apply List.ext_getElem?
        intro i
        rw [List.getElem?_mapIdx, List.getElem?_mapIdx]
        congr 1
        funext kd
        refine xfv_congr rfl rfl ?_
        have eR : oR (pO h t N) (oX h) i = none := by show va_up h.2.2.2.2.1 (oX h) (fun _ => none) (oX h) i = none; rw [up_s]
        rw [eR]; rfl
      have e5 : xce G (va_up β (oX h) q) (pO h t N) (oX h) = .inr (t - 1, xfs (pO h t N) β (oX h)) := by rw [xce_o hT t2, e4]
      have kk := kk q H1
      rw [e5] at kk
      exact kk hP1 hD1 hS1
  · cases hi
theorem xnat {x : Int32} : x.toNatClampNeg = x.toInt.toNat := rfl
theorem xnneg {x : Int32} (h : 0 ≤ x.toInt) : ¬ x < 0 := by
  rw [Int32.lt_iff_toInt_lt]
  have : (0 : Int32).toInt = 0 := by decide
  omega
theorem x_newaW {t : Nat} {x : Int32} {ty : ArrayType} (hq : xnt ty = t) (ht : t ≠ 0) (h0' : 0 ≤ x.toInt) (h1 : x.toInt ≤ 65536) {p : Program} {e : Env} {R : Room} {s : State} {m : MethodId} {args : Array Value} {below : List Frame} {meth : Method} {c : Code} (X : xCt D G Hb h0 b0 mm p s m args meth c) (hac : ∀ ty, xnt ty ≠ 0 → Cond.arrayClass (newarray.typeOf ty) ∈ lw_all) {Q : State → Prop} {H : Heap} {locs : List Loc} {cells slots : Nat} {β : Nat → Nat} {M : Array Slot} {rest : List Value} (hw : xWd D G Hb h0 b0 β h H) (hS : va_S (fun q => Hb.size ≤ q) Hb H locs) (hc : cells + 1 ≤ R.cells) (hs : slots + x.toNatClampNeg ≤ R.slots) (hd : decode mm.2.2.2.1 pc = .ok (.newarray ty, 2))
    (kk : ∀ (q : Nat) (H1 : Heap), va_P D xcl (xw G β h ++ [(q, xce G (va_up β (oX h) q) (pO h t x.toNatClampNeg) (oX h))]) H1 → va_D (fun q => Hb.size ≤ q) (xw G β h ++ [(q, xce G (va_up β (oX h) q) (pO h t x.toNatClampNeg) (oX h))]) → va_S (fun q => Hb.size ≤ q) Hb H1 locs → W p l e R s m args below meth c H1 locs (cells + 1) (slots + x.toNatClampNeg) Q (F0 m (pc + 2) M (.ref q :: rest))) : W p l e R s m args below meth c H locs cells slots Q (F0 m pc M (.int x :: rest)) := by
  obtain ⟨hx', hb, hml, hown, hts, -, hK⟩ := X
  have hT : oT (pO h t x.toNatClampNeg) (oX h) = t := by show va_up h.1 (oX h) t (oX h) = t; exact up_s
  have hNN : oN (pO h t x.toNatClampNeg) (oX h) = x.toNatClampNeg := by show va_up h.2.1 (oX h) _ (oX h) = _; exact up_s
  have hII : oI (pO h t x.toNatClampNeg) (oX h) = fun _ => 0 := by show va_up h.2.2.1 (oX h) _ (oX h) = _; exact up_s
  have hLL : oL (pO h t x.toNatClampNeg) (oX h) = fun _ => 0 := by show va_up h.2.2.2.1 (oX h) _ (oX h) = _; exact up_s
  have hxn : x.toNatClampNeg ≤ 65536 := by show x.toInt.toNat ≤ 65536; omega
  have harr : (Cond.arrayClass (newarray.typeOf ty)).before args s = true := hts _ (hac ty (by rw [hq]; exact ht))
  have key : ∀ (cA : ClassId) (ty' : FieldType) (t0 : Nat), (xty G)[t0]? = some (G t, ty') → newarray.typeOf ty = ty' → s.vm.findClass ("[" ++ ty'.toString) = some cA → cA = G t := by
    intro cA ty' t0 e1 e2 e3
    have e4 := (hK.1.2 t0 _ e1).2
    have e5 : s.vm.findClass ("[" ++ ty'.toString) = some (G t) := by
      subst e2
      cases ty <;> first | exact e4 | (exfalso; rw [← hq] at ht; exact ht rfl)
    exact Option.some.inj (e3.symm.trans e5)
  refine va_newaK hx' hb harr rfl hd rfl (xnneg h0') rfl (by
    have : componentBytes (newarray.typeOf ty) ≤ 8 := by cases ty <;> decide
    have h9 := Nat.mul_le_mul hxn this
    omega) hc hs rfl fun H1 cA e1 z1 o1 hAr hNm => ?_
  have hkept : ∀ (k : Nat) (y : Nat × va_E), (xw G β h)[k]? = some y → H1[y.1]? = H[y.1]? := fun k y hy => o1 y.1 ((hw.1 k y hy).lt)
  have hcell : va_at D xcl (H.size, xce G (va_up β (oX h) H.size) (pO h t x.toNatClampNeg) (oX h)) H1 := by
    cases ty with
    | int =>
      have e : t = 40 := hq.symm
      subst e
      rw [xce_a hT (by omega), xac_i hT (by omega) (by omega), hNN, hII]
      rw [key cA .int 0 rfl rfl hNm] at e1
      exact e1
    | byte =>
      have e : t = 41 := hq.symm
      subst e
      rw [xce_a hT (by omega), xac_i hT (by omega) (by omega), hNN, hII]
      rw [key cA .byte 1 rfl rfl hNm] at e1
      exact e1
    | boolean =>
      have e : t = 42 := hq.symm
      subst e
      rw [xce_a hT (by omega), xac_i hT (by omega) (by omega), hNN, hII]
      rw [key cA .boolean 2 rfl rfl hNm] at e1
      exact e1
    | short =>
      have e : t = 43 := hq.symm
      subst e
      rw [xce_a hT (by omega), xac_i hT (by omega) (by omega), hNN, hII]
      rw [key cA .short 3 rfl rfl hNm] at e1
      exact e1
    | long =>
      have e : t = 44 := hq.symm
      subst e
      rw [xce_a hT (by omega), xac_l hT, hNN, hLL]
      rw [key cA .long 4 rfl rfl hNm] at e1
      exact e1
    | char => exact absurd hq.symm ht
    | float => exact absurd hq.symm ht
    | double => exact absurd hq.symm ht
  exact kk H.size H1 ((hw.1.kept hkept).app (fun k y hy => by
      have hz : k < 1 := (List.getElem?_eq_some_iff.mp hy).1
      rw [show k = 0 by omega] at hy
      cases hy
      exact hcell)) (hw.2.1.push hw.1 rfl hS.1) ⟨Nat.le_trans hS.1 (by omega), fun y h1 h2 => (o1 y (Nat.lt_of_lt_of_le h1 hS.1)).trans (hS.2.1 y h1 h2), hS.2.2⟩
theorem xnt_lv {ty : ArrayType} {t : Nat} (h : xnt ty = t) (ht : t ≠ 0) : xlv t := by
  subst h
  cases ty <;> first | exact Or.inr ⟨by decide, by decide⟩ | exact absurd rfl ht
theorem g_newa (hac : ∀ ty, xnt ty ≠ 0 → Cond.arrayClass (newarray.typeOf ty) ∈ lw_all) {ty : ArrayType} (hd : decode mm.2.2.2.1 pc = .ok (.newarray ty, 2)) (hi : (match xnt ty with | 0 => none | t + 1 => xnewa mm (pc + 2) ls h d (t + 1) st) = some (.inl c')) (ih : SMc D G l Hb h0 b0 c' r) : SM D G l Hb h0 b0 mm pc ls st h d r := by
  split at hi
  · cases hi
  · rename_i t hq
    unfold xnewa at hi
    split at hi
    · rename_i x st'
      split at hi
      · rename_i hx
        rw [xgo_eq hi] at ih
        exact g_mk ih (xnt_lv hq (by omega)) (by show x.toInt.toNat ≤ 65536; omega) (fun q => q.tail) fun X hw hS hc hs kk => x_newaW hq (by omega) hx.1 hx.2 X hac hw hS hc hs hd kk
      · cases hi
    · cases hi
theorem g_newq (hQ : ∀ own k t, xQ own k = some t → XQok own k t) {k : Nat} (hd : decode mm.2.2.2.1 pc = .ok (.anewarray k, 3)) (hi : (match xQ mm.1 k with | some t => xnewa mm (pc + 3) ls h d t st | none => none) = some (.inl c')) (ih : SMc D G l Hb h0 b0 c' r) : SM D G l Hb h0 b0 mm pc ls st h d r := by
  split at hi
  · rename_i t hq
    obtain ⟨t1, t2, hlk, hao⟩ := hQ _ _ _ hq
    unfold xnewa at hi
    split at hi
    · rename_i x st'
      split at hi
      · rename_i hx
        rw [xgo_eq hi] at ih
        refine g_mk ih (Or.inr ⟨by omega, t2⟩) (by show x.toInt.toNat ≤ 65536; omega) (fun q => q.tail) fun {p e R s m args below meth c Q H locs cells slots β M} X hw hS hc hs kk => ?_
        obtain ⟨hx', hb, hml, hown, hts, -, hK⟩ := X
        have hT : oT (pO h t x.toNatClampNeg) (oX h) = t := by show va_up h.1 (oX h) t (oX h) = t; exact up_s
        have hNN : oN (pO h t x.toNatClampNeg) (oX h) = x.toNatClampNeg := by show va_up h.2.1 (oX h) _ (oX h) = _; exact up_s
        have hRR : oR (pO h t x.toNatClampNeg) (oX h) = fun _ => none := by show va_up h.2.2.2.2.1 (oX h) _ (oX h) = _; exact up_s
        have hxn : x.toNatClampNeg ≤ 65536 := by show x.toInt.toNat ≤ 65536; omega
        refine va_newq hx' hb hown (hts _ hlk) (hK.2.2.1 _ hao) hK.1 hw.1 hw.2.1 hS (fun q hq => hq) (xnneg hx.1) rfl (by omega) hc hs hd fun q cA H1 hK1 hP1 hD1 hS1 => ?_
        have hcA : cA = G t := by
          obtain ⟨-, kA, comp, -, -, -, e4⟩ := hK1.2 (xty G).length _ (by rw [List.getElem?_append_right (Nat.le_refl _), Nat.sub_self]; rfl)
          obtain ⟨-, kB, compB, -, -, -, e5⟩ := hK.1.2 (t - 40) _ (xty_r t1 t2)
          exact Option.some.inj (e4.symm.trans e5)
        have kk := kk q H1
        rw [xce_a hT (by omega), xac_r hT t1 t2, hNN, hRR] at kk
        rw [hcA] at hP1 hD1
        exact kk hP1 hD1 hS1
      · cases hi
    · cases hi
  · cases hi
theorem x_recv {β : Nat → Nat} {a t : Nat} {C : String} {T : u_T} {N : Nat} {s : State} {H : Heap} (hK : xKs D G Hb h0 b0 s) (hw : xWd D G Hb h0 b0 β h H) (ht : oT h a = t) (t1 : 1 ≤ t) (t2 : t ≤ 19) (c1 : xcl[t - 1]? = some (C, T, N)) : ∃ cell : Cell, H[β a]? = some cell ∧ cell.vm.isStatics = false ∧ s.vm.findClass C = some cell.cls := by
  have hlt := hw.2.2.lt (a := a) (by rw [ht]; exact Or.inl ⟨t1, t2⟩)
  have he := xw_at (G := G) (β := β) hlt.1 hlt.2
  rw [xce_o ht t2] at he
  exact va_recv (q := (C, T, N)) hK.1 hw.1 c1 he
theorem x_an {s : State} {t : Nat} (hK : xKs D G Hb h0 b0 s) (h1 : 40 ≤ t) (h2 : t ≤ 44) : s.vm.findClass (xan t) = some (G t) := by
  obtain rfl | rfl | rfl | rfl | rfl : t = 40 ∨ t = 41 ∨ t = 42 ∨ t = 43 ∨ t = 44 := by omega
  · exact va_nm_int (hK.1.2 0 _ rfl).2
  · exact va_nm_byte (hK.1.2 1 _ rfl).2
  · exact va_nm_boolean (hK.1.2 2 _ rfl).2
  · exact va_nm_short (hK.1.2 3 _ rfl).2
  · exact va_nm_long (hK.1.2 4 _ rfl).2
theorem x_arr {β : Nat → Nat} {a t : Nat} (o : xok h0 b0 β h) (ht : oT h a = t) (h1 : 40 ≤ t) (h2 : t ≤ 44) : ∃ x : vp_A, (xw G β h)[a - 64]? = some (β a, .inl (G t, x)) := by
  rcases (by omega : t ≤ 43 ∨ t = 44) with q | q
  · exact ⟨_, xaI o ht h1 q⟩
  · subst q; exact ⟨_, xaL o ht⟩
theorem vp_cell_cls (cA : ClassId) (x : vp_A) : (vp_cell cA x).cls = cA ∧ (vp_cell cA x).vm = .none := by
  obtain ⟨n, f | f | f | f | f⟩ := x <;> exact ⟨rfl, rfl⟩
theorem g_cast (hT : ∀ own k t, xT own k = some t → XTok own k t) {k : Nat} (hd : decode mm.2.2.2.1 pc = .ok (.checkcast k, 3)) (hi : (match st with | .null :: st => xgo mm (pc + 3) ls (.null :: st) h d | .ref a :: st => (match xT mm.1 k with | some t => if oT h a = t then xgo mm (pc + 3) ls (.ref a :: st) h d else none | none => none) | _ => none) = some (.inl c')) (ih : SMc D G l Hb h0 b0 c' r) : SM D G l Hb h0 b0 mm pc ls st h d r := by
  split at hi
  · rw [xgo_eq hi] at ih
    exact g_same ih (fun β H _ q => q.1) fun X _ _ _ _ k => lv_castN X.1 X.2.1 hd k
  · rename_i a st'
    split at hi
    · rename_i t hx
      split at hi
      · rename_i ht
        rw [xgo_eq hi] at ih
        refine g_same ih (fun β H _ q => q.1) fun {p e R s m args below meth c Q H locs cells slots β M} X hw _ _ _ kk => ?_
        obtain ⟨hx', hb, hml, hown, hts, -, hK⟩ := X
        rcases hT _ _ _ hx with ⟨t1, t2, C, T, N, ty0, hc, hlk⟩ | ⟨t1, t2, hlk, -⟩ | ⟨t1, hlk⟩
        · exact va_castS hx' hb hown (hts _ hlk) ((hK.1.1 _ _ hc.1).2) (x_recv hK hw ht t1 t2 hc.1) hd kk
        · obtain ⟨x, hx⟩ := x_arr (G := G) hw.2.2 ht t1 t2
          exact va_castA hx' hb hown (hts _ hlk) hw.1 (a - 64) hx (x_an hK t1 t2) hd kk
        · obtain ⟨x, hx⟩ := x_arr (G := G) hw.2.2 ht (by omega) (by omega)
          exact va_castA hx' hb hown (hts _ hlk) hw.1 (a - 64) hx (x_an hK (by omega) (by omega)) hd kk
      · cases hi
    · cases hi
  · cases hi
theorem g_inst (hT : ∀ own k t, xT own k = some t → XTok own k t) {k : Nat} (hd : decode mm.2.2.2.1 pc = .ok (.instanceof k, 3)) (hi : (match st with | .null :: st => xgo mm (pc + 3) ls (.int 0 :: st) h d | .ref a :: st => (match xT mm.1 k with | some t => if 40 ≤ oT h a ∧ oT h a ≤ 44 ∧ 40 ≤ t ∧ t ≤ 43 then xgo mm (pc + 3) ls (.int (if oT h a = t then 1 else 0) :: st) h d else none | none => none) | _ => none) = some (.inl c')) (ih : SMc D G l Hb h0 b0 c' r) : SM D G l Hb h0 b0 mm pc ls st h d r := by
  split at hi
  · rw [xgo_eq hi] at ih
    exact g_same ih (fun β H _ q => (q.tail.push (by exact trivial)).1) fun X _ _ _ _ k => lv_instN X.1 X.2.1 hd k
  · rename_i a st'
    split at hi
    · rename_i t hx
      split at hi
      · rename_i ht
        rw [xgo_eq hi] at ih
        refine g_same ih (fun β H _ q => (q.tail.push (by exact trivial)).1) fun {p e R s m args below meth c Q H locs cells slots β M} X hw _ _ _ kk => ?_
        obtain ⟨hx', hb, hml, hown, hts, -, hK⟩ := X
        obtain ⟨x, hxa⟩ := x_arr (G := G) hw.2.2 rfl ht.1 ht.2.1
        have hcell : H[β a]? = some (vp_cell (G (oT h a)) x) := hw.1 (a - 64) _ hxa
        obtain ⟨v1, v2⟩ := vp_cell_cls (G (oT h a)) x
        have hlk : Cond.classLink (xnm mm.1) k (xan t) ∈ lw_all ∧ (∀ u, 40 ≤ u → u ≤ 44 → u ≠ t → (xan u, xan t) ∈ xnc) := by
          rcases hT _ _ _ hx with ⟨t1, t2, -⟩ | ⟨t1, t2, q1, q2⟩ | ⟨t1, -⟩
          · omega
          · exact ⟨q1, q2⟩
          · omega
        by_cases hq : oT h a = t
        · intro T hT X
          have kk : W p l e R s m args below meth c H locs cells slots Q (F0 m (pc + 3) M (.int (if oT h a = t then 1 else 0) :: st'.map (cv β))) := kk
          rw [if_pos hq] at kk
          obtain ⟨vm', X', st⟩ := X.instanceofYes hx' hown (hts _ hlk.1) (by rw [hT]; exact hcell) (by rw [v2]; rfl) (x_an hK ht.2.2.1 (by omega)) (by rw [v1, hq]; exact va_asg _ _) (g := F0 m pc M (.ref (β a) :: st'.map (cv β))) rfl rfl (by rw [hb]; exact hd)
          obtain ⟨t', a1, b1⟩ := kk (T.setVm vm') hT X'
          exact ⟨t', st t' a1, b1⟩
        · have kk : W p l e R s m args below meth c H locs cells slots Q (F0 m (pc + 3) M (.int (if oT h a = t then 1 else 0) :: st'.map (cv β))) := kk
          rw [if_neg hq] at kk
          exact va_instNo (C := xan (oT h a)) hx' hb hown (hts _ hlk.1) (hK.2.2.2.2.1 _ (hlk.2 _ ht.1 ht.2.1 hq)) ⟨_, hcell, by rw [v2]; rfl, by rw [v1]; exact x_an hK ht.1 ht.2.1⟩ hd kk
      · cases hi
    · cases hi
  · cases hi
end
