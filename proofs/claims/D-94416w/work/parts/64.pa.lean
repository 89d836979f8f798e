/-! THE CALLS: what both objects stand for, what calls leave as it is -/
theorem wi_d {x lo hi : Int32} [i : Decidable (¬ x < lo ∧ ¬ hi < x)] : @decide (¬ x < lo ∧ ¬ hi < x) i = wi x lo hi := by
  unfold wi
  congr
theorem ns_2 : nslot (-2) = 0 := by decide
theorem ns_3 : nslot (-3) = 1 := by decide
theorem ns_5 : nslot (-5) = 2 := by decide
theorem ns_6 : nslot (-6) = 3 := by decide
theorem ns_7 : nslot (-7) = 4 := by decide
/-- numbers of both: all, tape, refused, hasImage, rowSort, rowMany, numbers; taped, fault -/
abbrev sS : Type := rI × rI × rI × rI × rI × rI × rL × Nat × Int32 × Int32
def pA (P : sS) : rI := P.1
def pT (P : sS) : rI := P.2.1
def pF (P : sS) : rI := P.2.2.1
def pB (P : sS) : rI := P.2.2.2.1
def pS (P : sS) : rI := P.2.2.2.2.1
def pM (P : sS) : rI := P.2.2.2.2.2.1
def pN (P : sS) : rL := P.2.2.2.2.2.2.1
def pn (P : sS) : Nat := P.2.2.2.2.2.2.2.1
def pk (P : sS) : Int32 := P.2.2.2.2.2.2.2.2.1
def pp (P : sS) : Int32 := P.2.2.2.2.2.2.2.2.2
def qA (P : sS) (f : rI) : sS := (f, P.2)
def qT (P : sS) (f : rI) (n : Nat) : sS := (P.1, f, P.2.2.1, P.2.2.2.1, P.2.2.2.2.1, P.2.2.2.2.2.1, P.2.2.2.2.2.2.1, n, P.2.2.2.2.2.2.2.2)
def qF (P : sS) (f : rI) : sS := (P.1, P.2.1, f, P.2.2.2)
def qB (P : sS) (f : rI) : sS := (P.1, P.2.1, P.2.2.1, f, P.2.2.2.2)
def qS (P : sS) (f g : rI) (k : rL) : sS := (P.1, P.2.1, P.2.2.1, P.2.2.2.1, f, g, k, P.2.2.2.2.2.2.2)
def qN (P : sS) (k : rL) : sS := (P.1, P.2.1, P.2.2.1, P.2.2.2.1, P.2.2.2.2.1, P.2.2.2.2.2.1, k, P.2.2.2.2.2.2.2)
def qK (P : sS) (n : Nat) (x y : Int32) : sS := (P.1, P.2.1, P.2.2.1, P.2.2.2.1, P.2.2.2.2.1, P.2.2.2.2.2.1, P.2.2.2.2.2.2.1, n, x, y)
/-- one more refused -/
def qR (P : sS) (j : Nat) : sS := qF P (rbump (pF P) j)
/-- the second object's numbers -/
def MR (h : xH) (P : sS) : Prop := MOK h ∧ oI h 152 = pA P ∧ oI h 154 = pT P ∧ oI h 151 = pF P ∧ oI h 153 = pB P ∧ oI h 167 = pS P ∧ oI h 168 = pM P ∧ oL h 169 = pN P ∧ oI h 150 6 = nI (pn P) ∧ oI h 150 16 = pk P ∧ oI h 150 17 = pp P ∧ oI h 150 21 = -1 ∧ oI h 150 22 = -1
/-- what the second object's calls leave as it is -/
def KX (h h2 : xH) : Prop := h2.2.2.2.2.2 = h.2.2.2.2.2 ∧ oT h2 = oT h ∧ oN h2 = oN h ∧ oR h2 = oR h ∧ ∀ a, (a < 150 ∨ 170 ≤ a) → oI h2 a = oI h a ∧ oL h2 a = oL h a
def R0 (h : xH) : xH := pI h 150 (va_up (oI h 150) 0 (nI 0))
def RF (h : xH) (j : Nat) : xH := pI h 151 (rbump (oI h 151) j)
section
variable {h h1 h2 : xH} {P : sS}
theorem KX_refl : KX h h := ⟨rfl, rfl, rfl, rfl, fun _ _ => ⟨rfl, rfl⟩⟩
theorem KX_trans (a : KX h h1) (b : KX h1 h2) : KX h h2 := ⟨b.1.trans a.1, b.2.1.trans a.2.1, b.2.2.1.trans a.2.2.1, b.2.2.2.1.trans a.2.2.2.1, fun x hx => ⟨(b.2.2.2.2 x hx).1.trans (a.2.2.2.2 x hx).1, (b.2.2.2.2 x hx).2.trans (a.2.2.2.2 x hx).2⟩⟩
theorem KX_I {a : Nat} {f : rI} (k : KX h h1) (ha : 150 ≤ a) (hb : a < 170) : KX h (pI h1 a f) := ⟨k.1, k.2.1, k.2.2.1, k.2.2.2.1, fun x hx => ⟨by rw [o_II, if_neg (by omega)]; exact (k.2.2.2.2 x hx).1, (k.2.2.2.2 x hx).2⟩⟩
theorem KX_L {a : Nat} {f : rL} (k : KX h h1) (ha : 150 ≤ a) (hb : a < 170) : KX h (pL h1 a f) := ⟨k.1, k.2.1, k.2.2.1, k.2.2.2.1, fun x hx => ⟨(k.2.2.2.2 x hx).1, by rw [o_LL, if_neg (by omega)]; exact (k.2.2.2.2 x hx).2⟩⟩
theorem KX_0 : KX h (R0 h) := KX_I KX_refl (by omega) (by omega)
theorem KX_RF {j : Nat} (k : KX h h1) : KX h (RF h1 j) := KX_I k (by omega) (by omega)
theorem MR_150 {f : rI} (M : MR h P) (e6 : f 6 = oI h 150 6) (e16 : f 16 = oI h 150 16) (e17 : f 17 = oI h 150 17) (e21 : f 21 = oI h 150 21) (e22 : f 22 = oI h 150 22) : MR (pI h 150 f) P := by
  obtain ⟨H, a1, a2, a3, a4, a5, a6, a7, a8, a9, a10, a11, a12⟩ := M
  exact ⟨H, a1, a2, a3, a4, a5, a6, a7, e6.trans a8, e16.trans a9, e17.trans a10, e21.trans a11, e22.trans a12⟩
theorem MR_0 (M : MR h P) : MR (R0 h) P := MR_150 M (up_ne (by decide)) (up_ne (by decide)) (up_ne (by decide)) (up_ne (by decide)) (up_ne (by decide))
theorem MR_I {a : Nat} {f : rI} (M : MR h P) (ha : ¬ a = 150 ∧ ¬ a = 151 ∧ ¬ a = 152 ∧ ¬ a = 153 ∧ ¬ a = 154 ∧ ¬ a = 167 ∧ ¬ a = 168) : MR (pI h a f) P := by
  obtain ⟨H, a1, a2, a3, a4, a5, a6, a7, a8, a9, a10, a11, a12⟩ := M
  have e : ∀ b, ¬ a = b → oI (pI h a f) b = oI h b := fun b hb => by rw [o_II, if_neg (fun z => hb z.symm)]
  refine ⟨H, ?_, ?_, ?_, ?_, ?_, ?_, a7, ?_, ?_, ?_, ?_, ?_⟩
  · rw [e 152 (by omega)]; exact a1
  · rw [e 154 (by omega)]; exact a2
  · rw [e 151 (by omega)]; exact a3
  · rw [e 153 (by omega)]; exact a4
  · rw [e 167 (by omega)]; exact a5
  · rw [e 168 (by omega)]; exact a6
  · rw [e 150 (by omega)]; exact a8
  · rw [e 150 (by omega)]; exact a9
  · rw [e 150 (by omega)]; exact a10
  · rw [e 150 (by omega)]; exact a11
  · rw [e 150 (by omega)]; exact a12
theorem MR_L {a : Nat} {f : rL} (M : MR h P) (ha : ¬ a = 169) : MR (pL h a f) P := by
  obtain ⟨H, a1, a2, a3, a4, a5, a6, a7, a8, a9, a10, a11, a12⟩ := M
  refine ⟨H, a1, a2, a3, a4, a5, a6, ?_, a8, a9, a10, a11, a12⟩
  rw [o_LL, if_neg (fun z => ha z.symm)]
  exact a7
theorem MR_A {f : rI} (M : MR h P) : MR (pI h 152 f) (qA P f) := by
  obtain ⟨H, a1, a2, a3, a4, a5, a6, a7, a8, a9, a10, a11, a12⟩ := M
  exact ⟨H, rfl, a2, a3, a4, a5, a6, a7, a8, a9, a10, a11, a12⟩
theorem MR_F {f : rI} (M : MR h P) : MR (pI h 151 f) (qF P f) := by
  obtain ⟨H, a1, a2, a3, a4, a5, a6, a7, a8, a9, a10, a11, a12⟩ := M
  exact ⟨H, a1, a2, rfl, a4, a5, a6, a7, a8, a9, a10, a11, a12⟩
theorem MR_B {f : rI} (M : MR h P) : MR (pI h 153 f) (qB P f) := by
  obtain ⟨H, a1, a2, a3, a4, a5, a6, a7, a8, a9, a10, a11, a12⟩ := M
  exact ⟨H, a1, a2, a3, rfl, a5, a6, a7, a8, a9, a10, a11, a12⟩
theorem MR_N {f : rL} (M : MR h P) : MR (pL h 169 f) (qN P f) := by
  obtain ⟨H, a1, a2, a3, a4, a5, a6, a7, a8, a9, a10, a11, a12⟩ := M
  exact ⟨H, a1, a2, a3, a4, a5, a6, rfl, a8, a9, a10, a11, a12⟩
theorem MR_RF {j : Nat} (M : MR h P) : MR (RF h j) (qR P j) := by
  have e := M.2.2.2.1
  unfold RF qR
  rw [e]
  exact MR_F M
end
/-! what calls answer -/
abbrev sV : Type := Value × sS
def vv (P : sS) (x : Int32) : sV := (.int x, P)
def vl (P : sS) (x : Int64) : sV := (.long x, P)
def nn (P : sS) (k : Int32) : sV := (.int k, qR P (nslot k))
/-- refused as if there were none -/
def n0 (P : sS) (k : Int32) : sV := (.int k, qR P 0)
def nl (P : sS) (k : Int32) : sV := (.long k.toInt64, qR P (nslot k))
/-- a call of the second object -/
def MG (d : Nat) (h : xH) (m : xM) (as : List Value) (q : sV) : Prop := ∃ h2, C_ d m as h = some (some q.1, h2) ∧ MR h2 q.2 ∧ KX h h2
section
variable {h h1 : xH} {P : sS} {d : Nat} {m : xM} {as : List Value}
theorem MG_vv {x : Int32} (M : MR h P) (e : C_ d m as h = some (some (.int x), R0 h)) : MG d h m as (vv P x) := ⟨_, e, MR_0 M, KX_0⟩
theorem MG_vl {x : Int64} (M : MR h P) (e : C_ d m as h = some (some (.long x), R0 h)) : MG d h m as (vl P x) := ⟨_, e, MR_0 M, KX_0⟩
theorem MG_nn {k : Int32} (M : MR h P) (e : C_ d m as h = some (some (.int k), RF (R0 h) (nslot k))) : MG d h m as (nn P k) := ⟨_, e, MR_RF (MR_0 M), KX_RF KX_0⟩
theorem MG_n0 {k : Int32} (M : MR h P) (e : C_ d m as h = some (some (.int k), RF (R0 h) 0)) : MG d h m as (n0 P k) := ⟨_, e, MR_RF (MR_0 M), KX_RF KX_0⟩
theorem MG_nl {k : Int32} (M : MR h P) (e : C_ d m as h = some (some (.long k.toInt64), RF (R0 h) (nslot k))) : MG d h m as (nl P k) := ⟨_, e, MR_RF (MR_0 M), KX_RF KX_0⟩
end
/-! ranges of what calls change -/
def sP_ (A : rI) : Nat := (A 477).toNatClampNeg
def WFp (A : rI) : Prop := A 477 = nI (sP_ A) ∧ sP_ A ≤ 12 ∧ (∀ i, i < sP_ A → (A (478 + i) = nI 0 ∨ A (478 + i) = nI 1) ∧ (∃ x y u v w, A (490 + i) = nI x ∧ A (502 + i) = nI y ∧ A (514 + i) = nI u ∧ A (526 + i) = nI v ∧ A (538 + i) = nI w ∧ x ≤ 300 ∧ y ≤ 300 ∧ u ≤ x ∧ v ≤ y ∧ w ≤ 600)) ∧ (∀ m, m < 4 → (∃ x, A (550 + m) = nI x ∧ 1 ≤ x ∧ x ≤ 99) ∧ ∃ x, A (554 + m) = nI x ∧ x ≤ 100)
def WFa (A : rI) : Prop := WFs A ∧ WFl A ∧ WFp A
/-- an image's numbers -/
def sh (A : rI) (i : Nat) : rI := fun k => A (578 * (i + 1) + k)
def WFn (P : sS) (r : Nat) : Prop := pS P r = -1 ∨ ∃ s n, pS P r = nI s ∧ s < 4 ∧ pM P r = nI n ∧ n ≤ 40
def WF (P : sS) : Prop := WFa (pA P) ∧ (∀ i, i < 2 → pB P i = nI 0 ∨ (pB P i = nI 1 ∧ WFa (sh (pA P) i))) ∧ pn P ≤ 400 ∧ (∀ r, r < 4 → WFn P r) ∧ ∀ k, k < 400 → ∃ x, pT P k = nI x ∧ x < 256
