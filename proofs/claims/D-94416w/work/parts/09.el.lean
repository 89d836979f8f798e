/-! ROWS OF THE PURE MACHINE, one an instruction's kind -/
theorem xi_get {m : xM} {pc n k d : Nat} {ls : List Slot} {st : List Value} {h : xH} : xins (.getfield k) m pc n ls st h d = xget m n ls h d k st := rfl
theorem xi_put {m : xM} {pc n k d : Nat} {ls : List Slot} {st : List Value} {h : xH} : xins (.putfield k) m pc n ls st h d = xput m n ls h d k st := rfl
theorem xi_virt {m : xM} {pc n k d : Nat} {ls : List Slot} {st : List Value} {h : xH} : xins (.invokevirtual k) m pc n ls st h d = xvirt m n ls st h d k := rfl
theorem xi_stat {m : xM} {pc n k d : Nat} {ls : List Slot} {st : List Value} {h : xH} : xins (.invokestatic k) m pc n ls st h d = xstat m n ls st h d k := rfl
theorem xi_spec {m : xM} {pc n k d : Nat} {ls : List Slot} {st : List Value} {h : xH} : xins (.invokespecial k) m pc n ls st h d = xspec m n ls st h d k := rfl
theorem xi_sw {m : xM} {pc n d : Nat} {ls : List Slot} {st : List Value} {h : xH} {df lo hi : Int} {offs : Array Int} {x : Int32} : xins (.tableswitch df lo hi offs) m pc n ls (.int x :: st) h d = xsw pc df lo hi offs x fun t => xgo m t ls st h d := rfl
theorem xi_ir {m : xM} {pc n d : Nat} {ls : List Slot} {h : xH} {x : Int32} : xins .ireturn m pc n ls [.int x] h d = xret m.2.2.2.2.2 h (some (.int x)) := rfl
theorem xstep_of {m : xM} {pc len d : Nat} {ls : List Slot} {st : List Value} {h : xH} {i : Instr} {a : Option xA} (hd : decode m.2.2.2.1 pc = .ok (i, len)) (ha : xins i m pc (pc + len) ls st h d = a) (hl : xlo i len = true) : xstep (m, pc, ls, st, h, d) = a := by
  unfold xstep
  simp only [hd, hl]
  exact ha
section
variable {m m' m2 : xM} {pc pc' len d d' tgt : Nat} {ls ls' : List Slot} {st st' rest as : List Value} {h h' : xH} {i : Instr} {x y z : Int32} {u v : Int64} {a b t j k na : Nat} {off : Int}
theorem e_go (hd : decode m.2.2.2.1 pc = .ok (i, len)) (ha : xins i m pc (pc + len) ls st h d = some (.inl (m2, pc', ls', st', h', d'))) (hl : xlo i len = true) : E_ d m pc ls st h = E_ d' m2 pc' ls' st' h' := ev_go (xstep_of hd ha hl)
theorem e_rt {r : xR} (hd : decode m.2.2.2.1 pc = .ok (i, len)) (ha : xins i m pc (pc + len) ls st h d = some (.inr (.inr r))) (hl : xlo i len = true) : E_ d m pc ls st h = some r := ev_ret (xstep_of hd ha hl)
theorem e_call (hd : decode m.2.2.2.1 pc = .ok (i, len)) (ha : xins i m pc (pc + len) ls st h (d + 1) = some (.inr (.inl ((m', 0, xL as m'.2.2.2.2.1, [], h, d), fun r => some (m, pc', ls, xpu r.1 rest, r.2, d + 1))))) (hl : xlo i len = true) : E_ (d + 1) m pc ls st h = (C_ d m' as h).bind fun r => E_ (d + 1) m pc' ls (xpu r.1 rest) r.2 := by
  exact ev_call (xstep_of hd ha hl)
theorem e_iconst {n : Int} (hd : decode m.2.2.2.1 pc = .ok (.iconst n, 1)) (hv : Int32.ofInt n = x) (hp : pc + 1 = pc') : E_ d m pc ls st h = E_ d m pc' ls (.int x :: st) h := by
  subst hp; subst hv; exact e_go hd rfl rfl
theorem e_bipush {n : Int} (hd : decode m.2.2.2.1 pc = .ok (.bipush n, 2)) (hv : (Int8.ofInt n).toInt32 = x) (hp : pc + 2 = pc') : E_ d m pc ls st h = E_ d m pc' ls (.int x :: st) h := by
  subst hp; subst hv; exact e_go hd rfl rfl
theorem e_sipush {n : Int} (hd : decode m.2.2.2.1 pc = .ok (.sipush n, 3)) (hv : (Int16.ofInt n).toInt32 = x) (hp : pc + 3 = pc') : E_ d m pc ls st h = E_ d m pc' ls (.int x :: st) h := by
  subst hp; subst hv; exact e_go hd rfl rfl
theorem xj_of {f : Nat → Option xA} (ht : (pc : Int) + off = (tgt : Int)) : xj pc off f = f tgt := by
  unfold xj
  rw [ht]
theorem e_gt (hd : decode m.2.2.2.1 pc = .ok (.goto off, 3)) (ht : (pc : Int) + off = (tgt : Int)) : E_ d m pc ls st h = E_ d m tgt ls st h := e_go hd (by show xj _ _ _ = _; rw [xj_of ht]; rfl) rfl
theorem e_c2 {c : ClassFile.Cond} (hd : decode m.2.2.2.1 pc = .ok (.if_icmp c off, 3)) (ht : (pc : Int) + off = (tgt : Int)) (hp : pc + 3 = pc') : E_ d m pc ls (.int y :: .int x :: st) h = if xcmp c x y = true then E_ d m tgt ls st h else E_ d m pc' ls st h := by
  subst hp
  refine (e_go (d' := d) (m2 := m) (pc' := bif xcmp c x y then tgt else pc + 3) (ls' := ls) (st' := st) (h' := h) hd ?_ rfl).trans ?_
  · exact xj_of ht
  cases xcmp c x y <;> rfl
theorem e_c1 {c : ClassFile.Cond} (hd : decode m.2.2.2.1 pc = .ok (.ifCond c off, 3)) (ht : (pc : Int) + off = (tgt : Int)) (hp : pc + 3 = pc') : E_ d m pc ls (.int x :: st) h = if xcmp c x 0 = true then E_ d m tgt ls st h else E_ d m pc' ls st h := by
  subst hp
  refine (e_go (d' := d) (m2 := m) (pc' := bif xcmp c x 0 then tgt else pc + 3) (ls' := ls) (st' := st) (h' := h) hd ?_ rfl).trans ?_
  · exact xj_of ht
  cases xcmp c x 0 <;> rfl
theorem i_le (x y : Int32) : x ≤ y ↔ ¬ y < x := by
  rw [Int32.le_iff_toInt_le, Int32.lt_iff_toInt_lt]; omega
theorem e_ieq (hd : decode m.2.2.2.1 pc = .ok (.if_icmp .eq off, 3)) (ht : (pc : Int) + off = (tgt : Int)) (hp : pc + 3 = pc') : E_ d m pc ls (.int y :: .int x :: st) h = if x = y then E_ d m tgt ls st h else E_ d m pc' ls st h := by
  rw [e_c2 hd ht hp]; by_cases q : x = y <;> simp [xcmp, q]
theorem e_ine (hd : decode m.2.2.2.1 pc = .ok (.if_icmp .ne off, 3)) (ht : (pc : Int) + off = (tgt : Int)) (hp : pc + 3 = pc') : E_ d m pc ls (.int y :: .int x :: st) h = if x = y then E_ d m pc' ls st h else E_ d m tgt ls st h := by
  rw [e_c2 hd ht hp]; by_cases q : x = y <;> simp [xcmp, q]
theorem e_ilt (hd : decode m.2.2.2.1 pc = .ok (.if_icmp .lt off, 3)) (ht : (pc : Int) + off = (tgt : Int)) (hp : pc + 3 = pc') : E_ d m pc ls (.int y :: .int x :: st) h = if x < y then E_ d m tgt ls st h else E_ d m pc' ls st h := by
  rw [e_c2 hd ht hp]; by_cases q : x < y <;> simp [xcmp, q]
theorem e_ige (hd : decode m.2.2.2.1 pc = .ok (.if_icmp .ge off, 3)) (ht : (pc : Int) + off = (tgt : Int)) (hp : pc + 3 = pc') : E_ d m pc ls (.int y :: .int x :: st) h = if x < y then E_ d m pc' ls st h else E_ d m tgt ls st h := by
  rw [e_c2 hd ht hp]
  have e := i_le y x
  by_cases q : x < y
  · rw [if_pos q, if_neg (by simp [xcmp, e, q])]
  · rw [if_neg q, if_pos (by simp [xcmp, e, q])]
theorem e_igt (hd : decode m.2.2.2.1 pc = .ok (.if_icmp .gt off, 3)) (ht : (pc : Int) + off = (tgt : Int)) (hp : pc + 3 = pc') : E_ d m pc ls (.int y :: .int x :: st) h = if y < x then E_ d m tgt ls st h else E_ d m pc' ls st h := by
  rw [e_c2 hd ht hp]; by_cases q : y < x <;> simp [xcmp, q]
theorem e_ile (hd : decode m.2.2.2.1 pc = .ok (.if_icmp .le off, 3)) (ht : (pc : Int) + off = (tgt : Int)) (hp : pc + 3 = pc') : E_ d m pc ls (.int y :: .int x :: st) h = if y < x then E_ d m pc' ls st h else E_ d m tgt ls st h := by
  rw [e_c2 hd ht hp]
  have e := i_le x y
  by_cases q : y < x
  · rw [if_pos q, if_neg (by simp [xcmp, e, q])]
  · rw [if_neg q, if_pos (by simp [xcmp, e, q])]
theorem e_zeq (hd : decode m.2.2.2.1 pc = .ok (.ifCond .eq off, 3)) (ht : (pc : Int) + off = (tgt : Int)) (hp : pc + 3 = pc') : E_ d m pc ls (.int x :: st) h = if x = 0 then E_ d m tgt ls st h else E_ d m pc' ls st h := by
  rw [e_c1 hd ht hp]; by_cases q : x = 0 <;> simp [xcmp, q]
theorem e_zne (hd : decode m.2.2.2.1 pc = .ok (.ifCond .ne off, 3)) (ht : (pc : Int) + off = (tgt : Int)) (hp : pc + 3 = pc') : E_ d m pc ls (.int x :: st) h = if x = 0 then E_ d m pc' ls st h else E_ d m tgt ls st h := by
  rw [e_c1 hd ht hp]; by_cases q : x = 0 <;> simp [xcmp, q]
theorem e_zlt (hd : decode m.2.2.2.1 pc = .ok (.ifCond .lt off, 3)) (ht : (pc : Int) + off = (tgt : Int)) (hp : pc + 3 = pc') : E_ d m pc ls (.int x :: st) h = if x < 0 then E_ d m tgt ls st h else E_ d m pc' ls st h := by
  rw [e_c1 hd ht hp]; by_cases q : x < 0 <;> simp [xcmp, q]
theorem e_zge (hd : decode m.2.2.2.1 pc = .ok (.ifCond .ge off, 3)) (ht : (pc : Int) + off = (tgt : Int)) (hp : pc + 3 = pc') : E_ d m pc ls (.int x :: st) h = if x < 0 then E_ d m pc' ls st h else E_ d m tgt ls st h := by
  rw [e_c1 hd ht hp]
  have e := i_le 0 x
  by_cases q : x < 0
  · rw [if_pos q, if_neg (by simp [xcmp, e, q])]
  · rw [if_neg q, if_pos (by simp [xcmp, e, q])]
theorem e_zgt (hd : decode m.2.2.2.1 pc = .ok (.ifCond .gt off, 3)) (ht : (pc : Int) + off = (tgt : Int)) (hp : pc + 3 = pc') : E_ d m pc ls (.int x :: st) h = if 0 < x then E_ d m tgt ls st h else E_ d m pc' ls st h := by
  rw [e_c1 hd ht hp]; by_cases q : 0 < x <;> simp [xcmp, q]
theorem e_zle (hd : decode m.2.2.2.1 pc = .ok (.ifCond .le off, 3)) (ht : (pc : Int) + off = (tgt : Int)) (hp : pc + 3 = pc') : E_ d m pc ls (.int x :: st) h = if 0 < x then E_ d m pc' ls st h else E_ d m tgt ls st h := by
  rw [e_c1 hd ht hp]
  have e := i_le x 0
  by_cases q : 0 < x
  · rw [if_pos q, if_neg (by simp [xcmp, e, q])]
  · rw [if_neg q, if_pos (by simp [xcmp, e, q])]
theorem e_nnR (hd : decode m.2.2.2.1 pc = .ok (.ifnonnull off, 3)) (ht : (pc : Int) + off = (tgt : Int)) : E_ d m pc ls (.ref a :: st) h = E_ d m tgt ls st h := e_go hd (by show xj _ _ _ = _; rw [xj_of ht]; rfl) rfl
theorem e_nuN (hd : decode m.2.2.2.1 pc = .ok (.ifnull off, 3)) (ht : (pc : Int) + off = (tgt : Int)) : E_ d m pc ls (.null :: st) h = E_ d m tgt ls st h := e_go hd (by show xj _ _ _ = _; rw [xj_of ht]; rfl) rfl
theorem e_div (hd : decode m.2.2.2.1 pc = .ok (.idiv, 1)) (hp : pc + 1 = pc') (hy : ¬ y = 0) : E_ d m pc ls (.int y :: .int x :: st) h = E_ d m pc' ls (.int (x / y) :: st) h := by
  subst hp; exact e_go hd (by show (if y = 0 then none else _) = _; rw [if_neg hy]; rfl) rfl
theorem e_rem (hd : decode m.2.2.2.1 pc = .ok (.irem, 1)) (hp : pc + 1 = pc') (hy : ¬ y = 0) : E_ d m pc ls (.int y :: .int x :: st) h = E_ d m pc' ls (.int (x - x / y * y) :: st) h := by
  subst hp; exact e_go hd (by show (if y = 0 then none else _) = _; rw [if_neg hy]; rfl) rfl
theorem e_ldiv (hd : decode m.2.2.2.1 pc = .ok (.ldiv, 1)) (hp : pc + 1 = pc') (hy : ¬ v = 0) : E_ d m pc ls (.long v :: .long u :: st) h = E_ d m pc' ls (.long (u / v) :: st) h := by
  subst hp; exact e_go hd (by show (if v = 0 then none else _) = _; rw [if_neg hy]; rfl) rfl
theorem e_lrem (hd : decode m.2.2.2.1 pc = .ok (.lrem, 1)) (hp : pc + 1 = pc') (hy : ¬ v = 0) : E_ d m pc ls (.long v :: .long u :: st) h = E_ d m pc' ls (.long (u - u / v * v) :: st) h := by
  subst hp; exact e_go hd (by show (if v = 0 then none else _) = _; rw [if_neg hy]; rfl) rfl
/-! fields -/
theorem e_getI (hd : decode m.2.2.2.1 pc = .ok (.getfield k, 3)) (hp : pc + 3 = pc') (hf : xF m.1 k = some (t, j, 0)) (ht : oT h a = t) : E_ d m pc ls (.ref a :: st) h = E_ d m pc' ls (.int (oI h a j) :: st) h := by
  subst hp; exact e_go hd (by rw [xi_get]; unfold xget; simp only [hf, ht, if_true]; rfl) rfl
theorem e_getL (hd : decode m.2.2.2.1 pc = .ok (.getfield k, 3)) (hp : pc + 3 = pc') (hf : xF m.1 k = some (t, j, 1)) (ht : oT h a = t) : E_ d m pc ls (.ref a :: st) h = E_ d m pc' ls (.long (oL h a j) :: st) h := by
  subst hp; exact e_go hd (by rw [xi_get]; unfold xget; simp only [hf, ht, if_true]; rfl) rfl
theorem e_getR (hd : decode m.2.2.2.1 pc = .ok (.getfield k, 3)) (hp : pc + 3 = pc') (hf : xF m.1 k = some (t, j, 2)) (ht : oT h a = t) : E_ d m pc ls (.ref a :: st) h = E_ d m pc' ls (va_rf (oR h a j) :: st) h := by
  subst hp; exact e_go hd (by rw [xi_get]; unfold xget; simp only [hf, ht, if_true]; rfl) rfl
theorem e_getI0 (hd : decode m.2.2.2.1 pc = .ok (.getfield k, 3)) (hp : pc + 3 = pc') (hf : xF m.1 k = some (t, j, 10)) (ht : oT h a = t) : E_ d m pc ls (.ref a :: st) h = E_ d m pc' ls (.int (oI h a j) :: st) h := by
  subst hp; exact e_go hd (by rw [xi_get]; unfold xget; simp only [hf, ht, if_true]; rfl) rfl
theorem e_getZ0 (hd : decode m.2.2.2.1 pc = .ok (.getfield k, 3)) (hp : pc + 3 = pc') (hf : xF m.1 k = some (t, j, 13)) (ht : oT h a = t) : E_ d m pc ls (.ref a :: st) h = E_ d m pc' ls (.int (oI h a j) :: st) h := by
  subst hp; exact e_go hd (by rw [xi_get]; unfold xget; simp only [hf, ht, if_true]; rfl) rfl
theorem e_getR0 (hd : decode m.2.2.2.1 pc = .ok (.getfield k, 3)) (hp : pc + 3 = pc') (hf : xF m.1 k = some (t, j, 12)) (ht : oT h a = t) : E_ d m pc ls (.ref a :: st) h = E_ d m pc' ls (va_rf (oR h a j) :: st) h := by
  subst hp; exact e_go hd (by rw [xi_get]; unfold xget; simp only [hf, ht, if_true]; rfl) rfl
theorem e_putI (hd : decode m.2.2.2.1 pc = .ok (.putfield k, 3)) (hp : pc + 3 = pc') (hf : xF m.1 k = some (t, j, 0)) (ht : oT h a = t) : E_ d m pc ls (.int x :: .ref a :: st) h = E_ d m pc' ls st (pI h a (va_up (oI h a) j x)) := by
  subst hp; exact e_go hd (by rw [xi_put]; unfold xput; simp only [hf, ht, if_true]; rfl) rfl
theorem e_putL (hd : decode m.2.2.2.1 pc = .ok (.putfield k, 3)) (hp : pc + 3 = pc') (hf : xF m.1 k = some (t, j, 1)) (ht : oT h a = t) : E_ d m pc ls (.long u :: .ref a :: st) h = E_ d m pc' ls st (pL h a (va_up (oL h a) j u)) := by
  subst hp; exact e_go hd (by rw [xi_put]; unfold xput; simp only [hf, ht, if_true]; rfl) rfl
theorem e_putR (hd : decode m.2.2.2.1 pc = .ok (.putfield k, 3)) (hp : pc + 3 = pc') (hf : xF m.1 k = some (t, j, 2)) (ht : oT h a = t) : E_ d m pc ls (.ref b :: .ref a :: st) h = E_ d m pc' ls st (pR h a (va_up (oR h a) j (some b))) := by
  subst hp; exact e_go hd (by rw [xi_put]; unfold xput; simp only [hf, ht, if_true]; rfl) rfl
theorem e_putI0 (hd : decode m.2.2.2.1 pc = .ok (.putfield k, 3)) (hp : pc + 3 = pc') (hf : xF m.1 k = some (t, j, 10)) (hi : (m.2.1 && Nat.beq t m.1) = true) (ht : oT h a = t) : E_ d m pc ls (.int x :: .ref a :: st) h = E_ d m pc' ls st (pI h a (va_up (oI h a) j x)) := by
  subst hp; exact e_go hd (by rw [xi_put]; unfold xput; simp only [hf, ht, hi, if_true]; rfl) rfl
theorem e_putR0 (hd : decode m.2.2.2.1 pc = .ok (.putfield k, 3)) (hp : pc + 3 = pc') (hf : xF m.1 k = some (t, j, 12)) (hi : (m.2.1 && Nat.beq t m.1) = true) (ht : oT h a = t) : E_ d m pc ls (.ref b :: .ref a :: st) h = E_ d m pc' ls st (pR h a (va_up (oR h a) j (some b))) := by
  subst hp; exact e_go hd (by rw [xi_put]; unfold xput; simp only [hf, ht, hi, if_true]; rfl) rfl
theorem e_putR0q {r : Option Nat} (hd : decode m.2.2.2.1 pc = .ok (.putfield k, 3)) (hp : pc + 3 = pc') (hf : xF m.1 k = some (t, j, 12)) (hi : (m.2.1 && Nat.beq t m.1) = true) (ht : oT h a = t) : E_ d m pc ls (va_rf r :: .ref a :: st) h = E_ d m pc' ls st (pR h a (va_up (oR h a) j r)) := by
  cases r <;> (subst hp; exact e_go hd (by rw [xi_put]; unfold xput; simp only [va_rf, hf, ht, hi, if_true]; rfl) rfl)
theorem e_putZ0 (hd : decode m.2.2.2.1 pc = .ok (.putfield k, 3)) (hp : pc + 3 = pc') (hf : xF m.1 k = some (t, j, 13)) (hi : (m.2.1 && Nat.beq t m.1) = true) (ht : oT h a = t) (hx : x = 0 ∨ x = 1) : E_ d m pc ls (.int x :: .ref a :: st) h = E_ d m pc' ls st (pI h a (va_up (oI h a) j x)) := by
  subst hp; exact e_go hd (by rw [xi_put]; unfold xput; simp only [hf, ht, hi, if_true, if_pos hx]; rfl) rfl
/-! arrays -/
theorem e_len (hd : decode m.2.2.2.1 pc = .ok (.arraylength, 1)) (hp : pc + 1 = pc') (ht : 39 ≤ oT h a ∧ oT h a ≤ 48) : E_ d m pc ls (.ref a :: st) h = E_ d m pc' ls (.int (nI (oN h a)) :: st) h := by
  subst hp; exact e_go hd (by show (if 39 ≤ oT h a ∧ oT h a ≤ 48 then _ else none) = _; rw [if_pos ht]; rfl) rfl
theorem e_iald (hd : decode m.2.2.2.1 pc = .ok (.iaload, 1)) (hp : pc + 1 = pc') (ht : oT h a = 40) (hi : xix x (oN h a) = true) : E_ d m pc ls (.int x :: .ref a :: st) h = E_ d m pc' ls (.int (oI h a x.toNatClampNeg) :: st) h := by
  subst hp; exact e_go hd (by show (if (oT h a = 40 ∨ oT h a = 39) ∧ xix x (oN h a) = true then _ else none) = _; rw [if_pos ⟨Or.inl ht, hi⟩]; rfl) rfl
theorem e_iald9 (hd : decode m.2.2.2.1 pc = .ok (.iaload, 1)) (hp : pc + 1 = pc') (ht : oT h a = 39) (hi : xix x (oN h a) = true) : E_ d m pc ls (.int x :: .ref a :: st) h = E_ d m pc' ls (.int (oI h a x.toNatClampNeg) :: st) h := by
  subst hp; exact e_go hd (by show (if (oT h a = 40 ∨ oT h a = 39) ∧ xix x (oN h a) = true then _ else none) = _; rw [if_pos ⟨Or.inr ht, hi⟩]; rfl) rfl
theorem e_bald (hd : decode m.2.2.2.1 pc = .ok (.baload, 1)) (hp : pc + 1 = pc') (ht : oT h a = 41 ∨ oT h a = 42) (hi : xix x (oN h a) = true) : E_ d m pc ls (.int x :: .ref a :: st) h = E_ d m pc' ls (.int (oI h a x.toNatClampNeg) :: st) h := by
  subst hp; exact e_go hd (by show (if (oT h a = 41 ∨ oT h a = 42) ∧ xix x (oN h a) = true then _ else none) = _; rw [if_pos ⟨ht, hi⟩]; rfl) rfl
theorem e_sald (hd : decode m.2.2.2.1 pc = .ok (.saload, 1)) (hp : pc + 1 = pc') (ht : oT h a = 43) (hi : xix x (oN h a) = true) : E_ d m pc ls (.int x :: .ref a :: st) h = E_ d m pc' ls (.int (oI h a x.toNatClampNeg) :: st) h := by
  subst hp; exact e_go hd (by show (if oT h a = 43 ∧ xix x (oN h a) = true then _ else none) = _; rw [if_pos ⟨ht, hi⟩]; rfl) rfl
theorem e_lald (hd : decode m.2.2.2.1 pc = .ok (.laload, 1)) (hp : pc + 1 = pc') (ht : oT h a = 44) (hi : xix x (oN h a) = true) : E_ d m pc ls (.int x :: .ref a :: st) h = E_ d m pc' ls (.long (oL h a x.toNatClampNeg) :: st) h := by
  subst hp; exact e_go hd (by show (if oT h a = 44 ∧ xix x (oN h a) = true then _ else none) = _; rw [if_pos ⟨ht, hi⟩]; rfl) rfl
theorem e_aald (hd : decode m.2.2.2.1 pc = .ok (.aaload, 1)) (hp : pc + 1 = pc') (ht : 45 ≤ oT h a ∧ oT h a ≤ 48) (hi : xix x (oN h a) = true) : E_ d m pc ls (.int x :: .ref a :: st) h = E_ d m pc' ls (va_rf (oR h a x.toNatClampNeg) :: st) h := by
  subst hp; exact e_go hd (by show (if (45 ≤ oT h a ∧ oT h a ≤ 48) ∧ xix x (oN h a) = true then _ else none) = _; rw [if_pos ⟨ht, hi⟩]; rfl) rfl
theorem e_iast (hd : decode m.2.2.2.1 pc = .ok (.iastore, 1)) (hp : pc + 1 = pc') (ht : oT h a = 40) (hi : xix x (oN h a) = true) : E_ d m pc ls (.int y :: .int x :: .ref a :: st) h = E_ d m pc' ls st (pI h a (va_up (oI h a) x.toNatClampNeg y)) := by
  subst hp; exact e_go hd (by show (if oT h a = 40 ∧ xix x (oN h a) = true then _ else none) = _; rw [if_pos ⟨ht, hi⟩]; rfl) rfl
theorem e_bast (hd : decode m.2.2.2.1 pc = .ok (.bastore, 1)) (hp : pc + 1 = pc') (ht : oT h a = 41) (hi : xix x (oN h a) = true) : E_ d m pc ls (.int y :: .int x :: .ref a :: st) h = E_ d m pc' ls st (pI h a (va_up (oI h a) x.toNatClampNeg (vp_nar .byte y))) := by
  subst hp; exact e_go hd (by show (if (oT h a = 41 ∨ oT h a = 42) ∧ xix x (oN h a) = true then _ else none) = _; rw [if_pos ⟨Or.inl ht, hi⟩, if_pos ht]; rfl) rfl
theorem e_zast (hd : decode m.2.2.2.1 pc = .ok (.bastore, 1)) (hp : pc + 1 = pc') (ht : oT h a = 42) (hi : xix x (oN h a) = true) : E_ d m pc ls (.int y :: .int x :: .ref a :: st) h = E_ d m pc' ls st (pI h a (va_up (oI h a) x.toNatClampNeg (vp_nar .boolean y))) := by
  subst hp; exact e_go hd (by show (if (oT h a = 41 ∨ oT h a = 42) ∧ xix x (oN h a) = true then _ else none) = _; rw [if_pos ⟨Or.inr ht, hi⟩, if_neg (by omega)]; rfl) rfl
theorem e_last (hd : decode m.2.2.2.1 pc = .ok (.lastore, 1)) (hp : pc + 1 = pc') (ht : oT h a = 44) (hi : xix x (oN h a) = true) : E_ d m pc ls (.long u :: .int x :: .ref a :: st) h = E_ d m pc' ls st (pL h a (va_up (oL h a) x.toNatClampNeg u)) := by
  subst hp; exact e_go hd (by show (if oT h a = 44 ∧ xix x (oN h a) = true then _ else none) = _; rw [if_pos ⟨ht, hi⟩]; rfl) rfl
theorem e_aast (hd : decode m.2.2.2.1 pc = .ok (.aastore, 1)) (hp : pc + 1 = pc') (ht : xel (oT h a) (oT h b) = true) (hi : xix x (oN h a) = true) : E_ d m pc ls (.ref b :: .int x :: .ref a :: st) h = E_ d m pc' ls st (pR h a (va_up (oR h a) x.toNatClampNeg (some b))) := by
  subst hp; exact e_go hd (by show (if xel (oT h a) (oT h b) = true ∧ xix x (oN h a) = true then _ else none) = _; rw [if_pos ⟨ht, hi⟩]; rfl) rfl
theorem e_aastN (hd : decode m.2.2.2.1 pc = .ok (.aastore, 1)) (hp : pc + 1 = pc') (ht : 45 ≤ oT h a ∧ oT h a ≤ 48) (hi : xix x (oN h a) = true) : E_ d m pc ls (.null :: .int x :: .ref a :: st) h = E_ d m pc' ls st (pR h a (va_up (oR h a) x.toNatClampNeg none)) := by
  subst hp; exact e_go hd (by show (if (45 ≤ oT h a ∧ oT h a ≤ 48) ∧ xix x (oN h a) = true then _ else none) = _; rw [if_pos ⟨ht, hi⟩]; rfl) rfl
theorem e_newa {ty : ArrayType} (hd : decode m.2.2.2.1 pc = .ok (.newarray ty, 2)) (hp : pc + 2 = pc') (hq : xnt ty = t + 1) (h0 : 0 ≤ x.toInt) (h1 : x.toInt ≤ 65536) : E_ d m pc ls (.int x :: st) h = E_ d m pc' ls (.ref (oX h) :: st) (pO h (t + 1) x.toNatClampNeg) := by
  subst hp; exact e_go hd (by show (match xnt ty with | 0 => none | t + 1 => xnewa m _ ls h d (t + 1) _) = _; rw [hq]; show (if 0 ≤ x.toInt ∧ x.toInt ≤ 65536 then _ else none) = _; rw [if_pos ⟨h0, h1⟩]; rfl) rfl
theorem e_newq (hd : decode m.2.2.2.1 pc = .ok (.anewarray k, 3)) (hp : pc + 3 = pc') (hq : xQ m.1 k = some t) (h0 : 0 ≤ x.toInt) (h1 : x.toInt ≤ 65536) : E_ d m pc ls (.int x :: st) h = E_ d m pc' ls (.ref (oX h) :: st) (pO h t x.toNatClampNeg) := by
  subst hp; exact e_go hd (by show (match xQ m.1 k with | some t => xnewa m _ ls h d t _ | none => none) = _; rw [hq]; show (if 0 ≤ x.toInt ∧ x.toInt ≤ 65536 then _ else none) = _; rw [if_pos ⟨h0, h1⟩]; rfl) rfl
theorem e_cast (hd : decode m.2.2.2.1 pc = .ok (.checkcast k, 3)) (hp : pc + 3 = pc') (hq : xT m.1 k = some t) (ht : oT h a = t) : E_ d m pc ls (.ref a :: st) h = E_ d m pc' ls (.ref a :: st) h := by
  subst hp; exact e_go hd (by show (match xT m.1 k with | some t => if oT h a = t then _ else none | none => none) = _; rw [hq]; show (if oT h a = t then _ else none) = _; rw [if_pos ht]; rfl) rfl
theorem e_inst (hd : decode m.2.2.2.1 pc = .ok (.instanceof k, 3)) (hp : pc + 3 = pc') (hq : xT m.1 k = some t) (hq2 : 40 ≤ t ∧ t ≤ 43) (h0 : 40 ≤ oT h a) (h1 : oT h a ≤ 44) : E_ d m pc ls (.ref a :: st) h = E_ d m pc' ls (.int (if oT h a = t then 1 else 0) :: st) h := by
  subst hp; exact e_go hd (by show (match xT m.1 k with | some t => if 40 ≤ oT h a ∧ oT h a ≤ 44 ∧ 40 ≤ t ∧ t ≤ 43 then _ else none | none => none) = _; rw [hq]; show (if 40 ≤ oT h a ∧ oT h a ≤ 44 ∧ 40 ≤ t ∧ t ≤ 43 then _ else none) = _; rw [if_pos ⟨h0, h1, hq2⟩]; rfl) rfl
/-! calls -/
theorem e_vir {tb : List (Nat × (xM ⊕ Nat))} (hd : decode m.2.2.2.1 pc = .ok (.invokevirtual k, 3)) (hv : xV m.1 k = some (na, tb)) (hs : st[na]? = some (.ref a)) (hm : xlk tb t = some (.inl m')) (hp : pc + 3 = pc') (has : (st.take (na + 1)).reverse = as) (hr : st.drop (na + 1) = rest) (hc : xcat rest ≤ 8) (hk : xcat as ≤ m'.2.2.2.2.1) (ht : oT h a = t) : E_ (d + 1) m pc ls st h = (C_ d m' as h).bind fun r => E_ (d + 1) m pc' ls (xpu r.1 rest) r.2 := by
  subst hp; subst has; subst hr
  refine e_call hd ?_ rfl
  rw [xi_virt]
  unfold xvirt
  simp only [hv, hs, ht, hm]
  exact if_pos ⟨hc, hk⟩
theorem e_virP {tb : List (Nat × (xM ⊕ Nat))} {p : Nat} (hd : decode m.2.2.2.1 pc = .ok (.invokevirtual k, 3)) (hv : xV m.1 k = some (na, tb)) (hs : st[na]? = some (.ref a)) (hm : xlk tb t = some (.inr p)) (hp : pc + 3 = pc') (has : (st.take (na + 1)).reverse = as) (hr : st.drop (na + 1) = rest) (hc : xcat rest ≤ 8) (ht : oT h a = t) : E_ d m pc ls st h = (xP p as h).bind fun r => E_ d m pc' ls (xpu r.1 rest) r.2 := by
  subst hp; subst has; subst hr
  cases hq : xP p (st.take (na + 1)).reverse h with
  | none =>
    refine ev_stuck (xstep_of hd ?_ rfl)
    rw [xi_virt]
    unfold xvirt
    simp only [hv, hs, ht, hm]
    show (if xcat _ ≤ 8 then (match xP p _ h with | some r => _ | none => none) else none) = _
    rw [if_pos hc, hq]
  | some r =>
    refine e_go hd ?_ rfl
    rw [xi_virt]
    unfold xvirt
    simp only [hv, hs, ht, hm]
    show (if xcat _ ≤ 8 then (match xP p _ h with | some r => _ | none => none) else none) = _
    rw [if_pos hc, hq]
    rfl
theorem e_staP {p : Nat} (hd : decode m.2.2.2.1 pc = .ok (.invokestatic k, 3)) (hv : xS m.1 k = some (na, .inr p)) (hn : na ≤ st.length) (hp : pc + 3 = pc') (has : (st.take na).reverse = as) (hr : st.drop na = rest) (hc : xcat rest ≤ 8) : E_ d m pc ls st h = (xP p as h).bind fun r => E_ d m pc' ls (xpu r.1 rest) r.2 := by
  subst hp; subst has; subst hr
  cases hq : xP p (st.take na).reverse h with
  | none =>
    refine ev_stuck (xstep_of hd ?_ rfl)
    rw [xi_stat]
    unfold xstat
    simp only [hv, hn, if_true]
    show (if xcat _ ≤ 8 then (match xP p _ h with | some r => _ | none => none) else none) = _
    rw [if_pos hc, hq]
  | some r =>
    refine e_go hd ?_ rfl
    rw [xi_stat]
    unfold xstat
    simp only [hv, hn, if_true]
    show (if xcat _ ≤ 8 then (match xP p _ h with | some r => _ | none => none) else none) = _
    rw [if_pos hc, hq]
    rfl
theorem e_rtZ (hd : decode m.2.2.2.1 pc = .ok (.ireturn, 1)) (hr : m.2.2.2.2.2 = some .boolean) (hx : x = 0 ∨ x = 1) : E_ d m pc ls [.int x] h = some (some (.int x), h) := e_rt hd (by rw [xi_ir, hr]; show (if x = 0 ∨ x = 1 then _ else none) = _; rw [if_pos hx]) rfl
theorem e_swO {df lo hi : Int} {offs : Array Int} (hd : decode m.2.2.2.1 pc = .ok (.tableswitch df lo hi offs, len)) (ht : (pc : Int) + df = (tgt : Int)) (hx : x.toInt < lo ∨ hi < x.toInt) : E_ d m pc ls (.int x :: st) h = E_ d m tgt ls st h := e_go hd (by rw [xi_sw]; unfold xsw; rw [if_pos hx, xj_of ht]; rfl) rfl
theorem e_swI {df lo hi : Int} {offs : Array Int} {n : Int} (hd : decode m.2.2.2.1 pc = .ok (.tableswitch df lo hi offs, len)) (hx : x.toInt = n) (h1 : ¬ (n < lo ∨ hi < n)) (ho : offs[(n - lo).toNat]? = some off) (ht : (pc : Int) + off = (tgt : Int)) : E_ d m pc ls (.int x :: st) h = E_ d m tgt ls st h := e_go hd (by rw [xi_sw]; unfold xsw; rw [hx, if_neg h1]; simp only [ho]; rw [xj_of ht]; rfl) rfl
end
/-! what simp knows -/
theorem o_TI {h : xH} {a : Nat} {f : Nat → Int32} : oT (pI h a f) = oT h := rfl
theorem o_TL {h : xH} {a : Nat} {f : Nat → Int64} : oT (pL h a f) = oT h := rfl
theorem o_TR {h : xH} {a : Nat} {f : Nat → Option Nat} : oT (pR h a f) = oT h := rfl
theorem o_NI {h : xH} {a : Nat} {f : Nat → Int32} : oN (pI h a f) = oN h := rfl
theorem o_NL {h : xH} {a : Nat} {f : Nat → Int64} : oN (pL h a f) = oN h := rfl
theorem o_NR {h : xH} {a : Nat} {f : Nat → Option Nat} : oN (pR h a f) = oN h := rfl
theorem o_XI {h : xH} {a : Nat} {f : Nat → Int32} : oX (pI h a f) = oX h := rfl
theorem o_XL {h : xH} {a : Nat} {f : Nat → Int64} : oX (pL h a f) = oX h := rfl
theorem o_XR {h : xH} {a : Nat} {f : Nat → Option Nat} : oX (pR h a f) = oX h := rfl
theorem o_RI {h : xH} {a : Nat} {f : Nat → Int32} : oR (pI h a f) = oR h := rfl
theorem o_RL {h : xH} {a : Nat} {f : Nat → Int64} : oR (pL h a f) = oR h := rfl
theorem o_LI {h : xH} {a : Nat} {f : Nat → Int32} : oL (pI h a f) = oL h := rfl
theorem o_LR {h : xH} {a : Nat} {f : Nat → Option Nat} : oL (pR h a f) = oL h := rfl
theorem o_IL {h : xH} {a : Nat} {f : Nat → Int64} : oI (pL h a f) = oI h := rfl
theorem o_IR {h : xH} {a : Nat} {f : Nat → Option Nat} : oI (pR h a f) = oI h := rfl
theorem o_II {h : xH} {a b : Nat} {f : Nat → Int32} : oI (pI h a f) b = if b = a then f else oI h b := rfl
theorem o_LL {h : xH} {a b : Nat} {f : Nat → Int64} : oL (pL h a f) b = if b = a then f else oL h b := rfl
theorem o_RR {h : xH} {a b : Nat} {f : Nat → Option Nat} : oR (pR h a f) b = if b = a then f else oR h b := rfl
theorem o_pII {h : xH} {a : Nat} {f g : Nat → Int32} : pI (pI h a f) a g = pI h a g := by
  unfold pI; simp only [bx_uu]
theorem o_pLL {h : xH} {a : Nat} {f g : Nat → Int64} : pL (pL h a f) a g = pL h a g := by
  unfold pL; simp only [bx_uu]
theorem o_pRR {h : xH} {a : Nat} {f g : Nat → Option Nat} : pR (pR h a f) a g = pR h a g := by
  unfold pR; simp only [bx_uu]
theorem up_comm {α : Type} {f : Nat → α} {a b : Nat} {x y : α} (h : a ≠ b) : va_up (va_up f b y) a x = va_up (va_up f a x) b y := by
  funext k
  unfold va_up
  by_cases h1 : k = a
  · by_cases h2 : k = b
    · exact absurd (h1.symm.trans h2) h
    · simp [h1, h]
  · simp [h1]
theorem o_pIc {h : xH} {a b : Nat} {f g : Nat → Int32} (hab : a < b) : pI (pI h b g) a f = pI (pI h a f) b g := by
  unfold pI; simp only [up_comm (Nat.ne_of_lt hab)]
theorem o_pLc {h : xH} {a b : Nat} {f g : Nat → Int64} (hab : a < b) : pL (pL h b g) a f = pL (pL h a f) b g := by
  unfold pL; simp only [up_comm (Nat.ne_of_lt hab)]
theorem o_pLI {h : xH} {a b : Nat} {f : Nat → Int32} {g : Nat → Int64} : pI (pL h b g) a f = pL (pI h a f) b g := rfl
theorem up_s {α : Type} {f : Nat → α} {k : Nat} {x : α} : va_up f k x k = x := by simp [va_up]
theorem up_n {α : Type} {f : Nat → α} {k j : Nat} {x : α} : va_up f k x j = if j = k then x else f j := rfl
theorem up_i {α : Type} {f : Nat → α} {k : Nat} : va_up f k (f k) = f := by funext j; by_cases h : j = k <;> simp [va_up, h]
theorem o_pIi {h : xH} {a : Nat} : pI h a (oI h a) = h := by unfold pI oI; rw [up_i]
theorem o_pLi {h : xH} {a : Nat} : pL h a (oL h a) = h := by unfold pL oL; rw [up_i]
theorem xix_n {k n : Nat} (hk : k < 2147483648) : xix (nI k) n = decide (k < n) := by
  unfold xix
  rw [nI_toInt hk]
  simp
theorem xpu_s {v : Value} {s : List Value} : xpu (some v) s = v :: s := rfl
theorem xpu_n {s : List Value} : xpu none s = s := rfl
theorem xk_i {x : Int32} : xk (.val (.int x)) = .val (.int x) := rfl
theorem xk_r {x : Nat} : xk (.val (.ref x)) = .val (.ref x) := rfl
theorem xk_0 : xk (.val .null) = .val .null := rfl
theorem xk_u : xk .unset = .unset := rfl
theorem xk_l {x : Int64} : xk (.val (.long x)) = .unset := rfl
theorem xk_k {s : Slot} : xk (xk s) = xk s := by cases s with
  | val v => cases v <;> rfl
  | _ => rfl
theorem xk_q {r : Option Nat} : xk (.val (va_rf r)) = .val (va_rf r) := by cases r <;> rfl
theorem rf_s {b : Nat} : va_rf (some b) = .ref b := rfl
theorem rf_n : va_rf none = .null := rfl
def zb (b : Bool) : Int32 := if b then 1 else 0
theorem zb_0 {b : Bool} : zb b = 0 ↔ b = false := by cases b <;> decide
theorem zb_1 {b : Bool} : zb b = 1 ↔ b = true := by cases b <;> decide
theorem zb_01 {b : Bool} : zb b = 0 ∨ zb b = 1 := by cases b <;> decide
theorem zb_t : zb true = 1 := rfl
theorem zb_f : zb false = 0 := rfl
theorem lc_e {x y : Int64} : lg_cmp x y = 0 ↔ x = y := by
  unfold lg_cmp
  by_cases h1 : x > y
  · rw [if_pos h1]
    constructor
    · intro h; exact absurd h (by decide)
    · intro h; rw [h] at h1; exact absurd h1 (by rw [gt_iff_lt, Int64.lt_iff_toInt_lt]; omega)
  · rw [if_neg h1]
    by_cases h2 : x = y
    · simp [h2]
    · simp [h2]
theorem lc_l {x y : Int64} : lg_cmp x y < 0 ↔ x < y := by
  unfold lg_cmp
  by_cases h1 : x > y
  · rw [if_pos h1]
    constructor
    · intro h; exact absurd h (by decide)
    · intro h; exact absurd h1 (by rw [gt_iff_lt]; rw [Int64.lt_iff_toInt_lt] at h ⊢; omega)
  · rw [if_neg h1]
    by_cases h2 : x = y
    · rw [if_pos h2]
      constructor
      · intro h; exact absurd h (by decide)
      · intro h; rw [h2] at h; exact absurd h (by rw [Int64.lt_iff_toInt_lt]; omega)
    · rw [if_neg h2]
      constructor
      · intro _
        rw [gt_iff_lt] at h1
        rw [Int64.lt_iff_toInt_lt] at h1 ⊢
        have : x.toInt ≠ y.toInt := fun q => h2 (Int64.toInt_inj.mp q)
        omega
      · intro _; decide
theorem lc_g {x y : Int64} : 0 < lg_cmp x y ↔ y < x := by
  unfold lg_cmp
  by_cases h1 : x > y
  · rw [if_pos h1]
    exact ⟨fun _ => h1, fun _ => by decide⟩
  · rw [if_neg h1]
    constructor
    · intro h
      by_cases h2 : x = y
      · rw [if_pos h2] at h; exact absurd h (by decide)
      · rw [if_neg h2] at h; exact absurd h (by decide)
    · intro h; exact absurd h h1
/-! constants -/
theorem kbipush_10 : (Int8.ofInt (10)).toInt32 = nI 10 := by decide
theorem kbipush_100 : (Int8.ofInt (100)).toInt32 = nI 100 := by decide
theorem kbipush_12 : (Int8.ofInt (12)).toInt32 = nI 12 := by decide
theorem kbipush_120 : (Int8.ofInt (120)).toInt32 = nI 120 := by decide
theorem kbipush_122 : (Int8.ofInt (122)).toInt32 = nI 122 := by decide
theorem kbipush_13 : (Int8.ofInt (13)).toInt32 = nI 13 := by decide
theorem kbipush_14 : (Int8.ofInt (14)).toInt32 = nI 14 := by decide
theorem kbipush_15 : (Int8.ofInt (15)).toInt32 = nI 15 := by decide
theorem kbipush_16 : (Int8.ofInt (16)).toInt32 = nI 16 := by decide
theorem kbipush_17 : (Int8.ofInt (17)).toInt32 = nI 17 := by decide
theorem kbipush_18 : (Int8.ofInt (18)).toInt32 = nI 18 := by decide
theorem kbipush_19 : (Int8.ofInt (19)).toInt32 = nI 19 := by decide
theorem kbipush_20 : (Int8.ofInt (20)).toInt32 = nI 20 := by decide
theorem kbipush_21 : (Int8.ofInt (21)).toInt32 = nI 21 := by decide
theorem kbipush_24 : (Int8.ofInt (24)).toInt32 = nI 24 := by decide
theorem kbipush_26 : (Int8.ofInt (26)).toInt32 = nI 26 := by decide
theorem kbipush_29 : (Int8.ofInt (29)).toInt32 = nI 29 := by decide
theorem kbipush_30 : (Int8.ofInt (30)).toInt32 = nI 30 := by decide
theorem kbipush_31 : (Int8.ofInt (31)).toInt32 = nI 31 := by decide
theorem kbipush_32 : (Int8.ofInt (32)).toInt32 = nI 32 := by decide
theorem kbipush_33 : (Int8.ofInt (33)).toInt32 = nI 33 := by decide
theorem kbipush_34 : (Int8.ofInt (34)).toInt32 = nI 34 := by decide
theorem kbipush_35 : (Int8.ofInt (35)).toInt32 = nI 35 := by decide
theorem kbipush_36 : (Int8.ofInt (36)).toInt32 = nI 36 := by decide
theorem kbipush_37 : (Int8.ofInt (37)).toInt32 = nI 37 := by decide
theorem kbipush_38 : (Int8.ofInt (38)).toInt32 = nI 38 := by decide
theorem kbipush_39 : (Int8.ofInt (39)).toInt32 = nI 39 := by decide
theorem kbipush_40 : (Int8.ofInt (40)).toInt32 = nI 40 := by decide
theorem kbipush_41 : (Int8.ofInt (41)).toInt32 = nI 41 := by decide
theorem kbipush_42 : (Int8.ofInt (42)).toInt32 = nI 42 := by decide
theorem kbipush_48 : (Int8.ofInt (48)).toInt32 = nI 48 := by decide
theorem kbipush_53 : (Int8.ofInt (53)).toInt32 = nI 53 := by decide
theorem kbipush_57 : (Int8.ofInt (57)).toInt32 = nI 57 := by decide
theorem kbipush_59 : (Int8.ofInt (59)).toInt32 = nI 59 := by decide
theorem kbipush_6 : (Int8.ofInt (6)).toInt32 = nI 6 := by decide
theorem kbipush_60 : (Int8.ofInt (60)).toInt32 = nI 60 := by decide
theorem kbipush_63 : (Int8.ofInt (63)).toInt32 = nI 63 := by decide
theorem kbipush_65 : (Int8.ofInt (65)).toInt32 = nI 65 := by decide
theorem kbipush_7 : (Int8.ofInt (7)).toInt32 = nI 7 := by decide
theorem kbipush_77 : (Int8.ofInt (77)).toInt32 = nI 77 := by decide
theorem kbipush_8 : (Int8.ofInt (8)).toInt32 = nI 8 := by decide
theorem kbipush_9 : (Int8.ofInt (9)).toInt32 = nI 9 := by decide
theorem kbipush_97 : (Int8.ofInt (97)).toInt32 = nI 97 := by decide
theorem kbipush_99 : (Int8.ofInt (99)).toInt32 = nI 99 := by decide
theorem kbipush_m100 : (Int8.ofInt (-100)).toInt32 = (-100) := by decide
theorem kbipush_m2 : (Int8.ofInt (-2)).toInt32 = (-2) := by decide
theorem kbipush_m3 : (Int8.ofInt (-3)).toInt32 = (-3) := by decide
theorem kbipush_m30 : (Int8.ofInt (-30)).toInt32 = (-30) := by decide
theorem kbipush_m40 : (Int8.ofInt (-40)).toInt32 = (-40) := by decide
theorem kbipush_m5 : (Int8.ofInt (-5)).toInt32 = (-5) := by decide
theorem kbipush_m6 : (Int8.ofInt (-6)).toInt32 = (-6) := by decide
theorem kbipush_m7 : (Int8.ofInt (-7)).toInt32 = (-7) := by decide
theorem kiconst_0 : Int32.ofInt (0) = nI 0 := by decide
theorem kiconst_1 : Int32.ofInt (1) = nI 1 := by decide
theorem kiconst_2 : Int32.ofInt (2) = nI 2 := by decide
theorem kiconst_3 : Int32.ofInt (3) = nI 3 := by decide
theorem kiconst_4 : Int32.ofInt (4) = nI 4 := by decide
theorem kiconst_5 : Int32.ofInt (5) = nI 5 := by decide
theorem kiconst_m1 : Int32.ofInt (-1) = (-1) := by decide
theorem kiinc_1 : Int32.ofInt (1) = nI 1 := by decide
theorem kiinc_6 : Int32.ofInt (6) = nI 6 := by decide
theorem kiinc_m1 : Int32.ofInt (-1) = (-1) := by decide
theorem kiinc_m8 : Int32.ofInt (-8) = (-8) := by decide
theorem ksipush_1000 : (Int16.ofInt (1000)).toInt32 = nI 1000 := by decide
theorem ksipush_10000 : (Int16.ofInt (10000)).toInt32 = nI 10000 := by decide
theorem ksipush_12345 : (Int16.ofInt (12345)).toInt32 = nI 12345 := by decide
theorem ksipush_13000 : (Int16.ofInt (13000)).toInt32 = nI 13000 := by decide
theorem ksipush_160 : (Int16.ofInt (160)).toInt32 = nI 160 := by decide
theorem ksipush_1734 : (Int16.ofInt (1734)).toInt32 = nI 1734 := by decide
theorem ksipush_200 : (Int16.ofInt (200)).toInt32 = nI 200 := by decide
theorem ksipush_220 : (Int16.ofInt (220)).toInt32 = nI 220 := by decide
theorem ksipush_255 : (Int16.ofInt (255)).toInt32 = nI 255 := by decide
theorem ksipush_256 : (Int16.ofInt (256)).toInt32 = nI 256 := by decide
theorem ksipush_400 : (Int16.ofInt (400)).toInt32 = nI 400 := by decide
theorem ksipush_477 : (Int16.ofInt (477)).toInt32 = nI 477 := by decide
theorem ksipush_478 : (Int16.ofInt (478)).toInt32 = nI 478 := by decide
theorem ksipush_490 : (Int16.ofInt (490)).toInt32 = nI 490 := by decide
theorem ksipush_502 : (Int16.ofInt (502)).toInt32 = nI 502 := by decide
theorem ksipush_504 : (Int16.ofInt (504)).toInt32 = nI 504 := by decide
theorem ksipush_514 : (Int16.ofInt (514)).toInt32 = nI 514 := by decide
theorem ksipush_526 : (Int16.ofInt (526)).toInt32 = nI 526 := by decide
theorem ksipush_538 : (Int16.ofInt (538)).toInt32 = nI 538 := by decide
theorem ksipush_550 : (Int16.ofInt (550)).toInt32 = nI 550 := by decide
theorem ksipush_554 : (Int16.ofInt (554)).toInt32 = nI 554 := by decide
theorem ksipush_558 : (Int16.ofInt (558)).toInt32 = nI 558 := by decide
theorem ksipush_578 : (Int16.ofInt (578)).toInt32 = nI 578 := by decide
theorem ksipush_999 : (Int16.ofInt (999)).toInt32 = nI 999 := by decide
theorem ksipush_9999 : (Int16.ofInt (9999)).toInt32 = nI 9999 := by decide
theorem ksipush_m1000 : (Int16.ofInt (-1000)).toInt32 = (-1000) := by decide
