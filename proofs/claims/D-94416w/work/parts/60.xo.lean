/-! CONTRACTS of the component: what forks leaves as it is -/
def PA (h : xH) : aC := (oL h 140, oL h 141, oL h 142)
theorem HX_PA {h : xH} : HX h (PA h) = h := HX_self
theorem PA_HX {h : xH} {a : aC} : PA (HX h a) = a := rfl
def FF (dep : Nat) (h h' : xH) : Prop := h'.2.2.2.2.2 = h.2.2.2.2.2 ∧ oT h' = oT h ∧ oN h' = oN h ∧ (∀ a, (∀ k, k < 9 → dep < k → a ≠ 86 + 6 * k) → oR h' a = oR h a) ∧ (∀ a j, j ≠ 5 → oR h' a j = oR h a j) ∧ (∀ a, a ≠ 140 → a ≠ 141 → a ≠ 142 → oL h' a = oL h a) ∧ ∀ a, (a < 86 + 6 * dep ∨ 140 ≤ a) → oI h' a = oI h a
section
variable {dep : Nat} {h h1 h2 : xH} {c s l : Nat} {A : rI}
theorem FF_refl : FF dep h h := ⟨rfl, rfl, rfl, fun _ _ => rfl, fun _ _ _ => rfl, fun _ _ _ _ => rfl, fun _ _ => rfl⟩
theorem FF_trans (a : FF dep h h1) (b : FF dep h1 h2) : FF dep h h2 :=
  ⟨b.1.trans a.1, b.2.1.trans a.2.1, b.2.2.1.trans a.2.2.1, fun x hx => (b.2.2.2.1 x hx).trans (a.2.2.2.1 x hx), fun x j hj => (b.2.2.2.2.1 x j hj).trans (a.2.2.2.2.1 x j hj), fun x h1 h2 h3 => (b.2.2.2.2.2.1 x h1 h2 h3).trans (a.2.2.2.2.2.1 x h1 h2 h3), fun x hx => (b.2.2.2.2.2.2 x hx).trans (a.2.2.2.2.2.2 x hx)⟩
theorem FF_up (a : FF (dep + 1) h h1) : FF dep h h1 :=
  ⟨a.1, a.2.1, a.2.2.1, fun x hx => a.2.2.2.1 x fun k hk hd => hx k hk (by omega), a.2.2.2.2.1, a.2.2.2.2.2.1, fun x hx => a.2.2.2.2.2.2 x (by omega)⟩
theorem FF_W (hd : dep < 9) (F : WFr (86 + 6 * dep) h h1) : FF dep h h1 := by
  obtain ⟨f1, f2, f3, f4, f5, f6⟩ := F
  exact ⟨f1, f2, f3, fun a _ => by rw [f4], fun a j _ => by rw [f4], fun a _ _ _ => by rw [f5], fun a ha => f6 a (by omega)⟩
theorem FF_5 {k : Nat} (hk : k < 9) (hd : dep < k) : FF dep h (hR5 h (86 + 6 * k) c) := by
  unfold hR5
  refine ⟨rfl, rfl, rfl, fun a ha => ?_, fun a j hj => ?_, fun _ _ _ _ => rfl, fun _ _ => rfl⟩
  · rw [o_RR, if_neg (ha k hk hd)]
  · rw [o_RR]
    by_cases q : a = 86 + 6 * k
    · rw [if_pos q, up_ne hj, q]
    · rw [if_neg q]
theorem FF_X {a : aC} : FF dep h (HX h a) := by
  unfold HX
  refine ⟨rfl, rfl, rfl, fun _ _ => rfl, fun _ _ _ => rfl, fun x h1 h2 h3 => ?_, fun _ _ => rfl⟩
  rw [o_LL, if_neg h3, o_LL, if_neg h2, o_LL, if_neg h1]
/-- all that forks stands on -/
def FE (h : xH) (c s l : Nat) (A : rI) : Prop := PO h ∧ (∀ k, k < 9 → WO h (86 + 6 * k)) ∧ SCo h c A ∧ XL h s l ∧ LWo h l A
theorem FE_tag (E : FE h c s l A) {a : Nat} (h1 : 86 ≤ a) (h2 : a < 140) : oT h a = 5 ∨ oT h a = 40 ∨ oT h a = 42 := by
  obtain ⟨o1, o2, o3, o4, o5, o6, o7, o8, o9, o10, o11, -⟩ := E.2.1 ((a - 86) / 6) (by omega)
  have : a = 86 + 6 * ((a - 86) / 6) ∨ a = 86 + 6 * ((a - 86) / 6) + 1 ∨ a = 86 + 6 * ((a - 86) / 6) + 2 ∨ a = 86 + 6 * ((a - 86) / 6) + 3 ∨ a = 86 + 6 * ((a - 86) / 6) + 4 ∨ a = 86 + 6 * ((a - 86) / 6) + 5 := by omega
  generalize 86 + 6 * ((a - 86) / 6) = q at *
  rcases this with e | e | e | e | e | e
  · rw [e]; exact Or.inl o1
  · rw [e]; exact Or.inr (Or.inl o7)
  · rw [e]; exact Or.inr (Or.inl o8)
  · rw [e]; exact Or.inr (Or.inl o9)
  · rw [e]; exact Or.inr (Or.inr o10)
  · rw [e]; exact Or.inr (Or.inr o11)
theorem FE_FF (F : FF dep h h1) (E : FE h c s l A) : FE h1 c s l A := by
  have tg := fun {a : Nat} => FE_tag E (a := a)
  obtain ⟨P, Ws, S, X, L⟩ := E
  obtain ⟨f1, f2, f3, f4, f5, f6, f7⟩ := F
  have r4 : ∀ a, ¬ oT h a = 5 → oR h1 a = oR h a := fun a ha => f4 a fun k hk _ z => ha (by rw [z]; exact (Ws k hk).1)
  have r6 : ∀ a, ¬ oT h a = 5 → ¬ oT h a = 40 → ¬ oT h a = 42 → oI h1 a = oI h a := fun a t1 t2 t3 => f7 a (by
    rcases Nat.lt_or_ge a 86 with z | z
    · exact Or.inl (by omega)
    · rcases Nat.lt_or_ge a 140 with y | y
      · have := tg z y
        omega
      · exact Or.inr y)
  refine ⟨?_, fun k hk => ?_, SC_fr f2 f3 r4 (fun a ha => r6 a (by omega) (by omega) (by omega)) S, ?_, LW_fr f2 f3 r4 (fun a ha => r6 a (by omega) (by omega) (by omega)) L⟩
  · have e64 := f4 64 fun k _ _ => by omega
    have e85 := f4 85 fun k _ _ => by omega
    unfold PO at *
    rw [f2, f3, e64, e85]
    exact P
  · have W := Ws k hk
    unfold WO at *
    rw [f2, f3, f5 _ 0 (by omega), f5 _ 1 (by omega), f5 _ 2 (by omega), f5 _ 3 (by omega), f5 _ 4 (by omega)]
    exact W
  · unfold XL at *
    have e64 := r4 64 (by omega)
    have es := r4 s (by omega)
    rw [f2, e64, es]
    exact X
end
