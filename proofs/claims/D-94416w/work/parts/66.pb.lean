/-! THE CALLS: what the first object's heap stands for -/
/-- at one place nothing has changed -/
def sm (h h1 : xH) (a : Nat) : Prop := oT h1 a = oT h a ∧ oN h1 a = oN h a ∧ oI h1 a = oI h a ∧ oR h1 a = oR h a ∧ oL h1 a = oL h a
theorem sm_refl {h : xH} {a : Nat} : sm h h a := ⟨rfl, rfl, rfl, rfl, rfl⟩
theorem sm_trans {h h1 h2 : xH} {a : Nat} (x : sm h h1 a) (y : sm h1 h2 a) : sm h h2 a := ⟨y.1.trans x.1, y.2.1.trans x.2.1, y.2.2.1.trans x.2.2.1, y.2.2.2.1.trans x.2.2.2.1, y.2.2.2.2.trans x.2.2.2.2⟩
theorem sm_I {h h1 : xH} {a b : Nat} {f : rI} (x : sm h h1 a) (hb : ¬ a = b) : sm h (pI h1 b f) a := ⟨x.1, x.2.1, by rw [o_II, if_neg hb]; exact x.2.2.1, x.2.2.2.1, x.2.2.2.2⟩
theorem sm_L {h h1 : xH} {a b : Nat} {f : rL} (x : sm h h1 a) (hb : ¬ a = b) : sm h (pL h1 b f) a := ⟨x.1, x.2.1, x.2.2.1, x.2.2.2.1, by rw [o_LL, if_neg hb]; exact x.2.2.2.2⟩
theorem sm_R {h h1 : xH} {a b : Nat} {f : Nat → Option Nat} (x : sm h h1 a) (hb : ¬ a = b) : sm h (pR h1 b f) a := ⟨x.1, x.2.1, x.2.2.1, by rw [o_RR, if_neg hb]; exact x.2.2.2.1, x.2.2.2.2⟩
section
variable {h h1 : xH}
theorem rq_m {a j : Nat} (s : sm h h1 a) : rq h1 a j = rq h a j := rq_at s.2.2.2.1
theorem LS_m {l n : Nat} (s1 : sm h h1 l) (s2 : sm h h1 (rq h l 1)) (L : LSn h l n) : LSn h1 l n ∧ ∀ k, li h1 l k = li h l k := by
  obtain ⟨l1, l2, l3, l4, l5, l6⟩ := L
  have e1 := rq_m (j := 1) s1
  refine ⟨?_, fun k => ?_⟩
  · unfold LSn
    rw [e1, s1.1, s1.2.2.1, s1.2.2.2.1, s2.1, s2.2.1, s2.2.2.2.1]
    exact ⟨l1, l2, l3, l4, l5, fun k hk => by rw [rq_m s2]; exact l6 k hk⟩
  · unfold li
    rw [e1, rq_m s2]
theorem SC_m {c : Nat} {A : rI} (s1 : sm h h1 c) (s2 : sm h h1 (rq h c 0)) (s3 : sm h h1 (rq h (rq h c 0) 1)) (st : ∀ a, 9 ≤ oT h a → oT h a ≤ 18 → sm h h1 a) (S : SCo h c A) : SCo h1 c A := by
  obtain ⟨c1, c2, c3, c4, c5, c6, c7, c8, c9, c10, c11⟩ := S
  obtain ⟨L1, L2⟩ := LS_m s2 s3 c10
  have e0 := rq_m (j := 0) s1
  unfold SCo
  rw [e0, s1.1, s1.2.2.1, s1.2.2.2.1]
  refine ⟨c1, c2, c3, c4, c5, c6, c7, c8, c9, L1, fun k hk => ?_⟩
  obtain ⟨v1, v2, v3, v4, v5⟩ := c11 k hk
  have s4 := st (sc h c k) (by omega) (by omega)
  unfold sc CAo at *
  rw [e0, L2, s4.1, s4.2.2.1]
  exact ⟨v1, v2, v3, v4, v5⟩
theorem FT_m {A : rI} (st : ∀ a, 9 ≤ oT h a → oT h a ≤ 18 → sm h h1 a) : ∀ {m f i j : Nat}, FT h A m f i j → FT h1 A m f i j
  | 0, _, _, _, F => F.elim
  | m + 1, f, i, j, F => by
    have tg := FT_tag F
    have s := st f (by omega) (by omega)
    rcases F with ⟨e, L⟩ | ⟨t0, g, k, g0, e, e2, F⟩ | ⟨t0, g1, g2, k, l, g3, g4, e, e2, F1, F2⟩
    · exact Or.inl ⟨e, by unfold LF at *; rw [s.1, s.2.2.1]; exact L⟩
    · exact Or.inr (Or.inl ⟨by rw [s.1]; exact t0, g, k, by rw [s.2.2.2.1]; exact g0, e, e2, FT_m st F⟩)
    · exact Or.inr (Or.inr ⟨by rw [s.1]; exact t0, g1, g2, k, l, by rw [s.2.2.2.1]; exact g3, by rw [s.2.2.2.1]; exact g4, e, by rw [s.2.2.1]; exact e2, FT_m st F1, FT_m st F2⟩)
theorem LW_m {l : Nat} {A : rI} (s1 : sm h h1 l) (s2 : sm h h1 (rq h l 1)) (st : ∀ a, 9 ≤ oT h a → oT h a ≤ 18 → sm h h1 a) (L : LWo h l A) : LWo h1 l A := by
  obtain ⟨l1, l2⟩ := L
  obtain ⟨L1, L2⟩ := LS_m s1 s2 l1
  refine ⟨L1, fun k hk => ?_⟩
  obtain ⟨v1, v2, v3, v4⟩ := l2 k hk
  have s3 := st (li h l k) (by omega) (by omega)
  rw [L2, rq_m s3, s3.1, s3.2.2.1, s3.2.2.2.1]
  exact ⟨v1, v2, v3, FT_m st v4⟩
end
theorem FT_lt {h : xH} {A : rI} : ∀ {m f i j : Nat}, FT h A m f i j → i < j
  | 0, _, _, _, F => F.elim
  | m + 1, f, i, j, F => by
    rcases F with ⟨e1, L⟩ | ⟨t0, g, k, g0, e1, e2, F⟩ | ⟨t0, g1, g2, k, l, g3, g4, e1, e2, F1, F2⟩
    · omega
    · have := FT_lt F; omega
    · have := FT_lt F1; have := FT_lt F2; omega
/-- the same of other numbers, where they are alike -/
theorem FT_A {h : xH} {A B : rI} (e : ∀ k, 77 ≤ k → k < 477 → B k = A k) : ∀ {m f i j : Nat}, j ≤ 200 → FT h A m f i j → FT h B m f i j
  | 0, _, _, _, _, F => F.elim
  | m + 1, f, i, j, hj, F => by
    rcases F with ⟨e1, L⟩ | ⟨t0, g, k, g0, e1, e2, F⟩ | ⟨t0, g1, g2, k, l, g3, g4, e1, e2, F1, F2⟩
    · exact Or.inl ⟨e1, by rw [e _ (by omega) (by omega), e _ (by omega) (by omega)]; exact L⟩
    · exact Or.inr (Or.inl ⟨t0, g, k, g0, e1, by rw [e _ (by omega) (by omega)]; exact e2, FT_A e (by omega) F⟩)
    · have := FT_lt F2
      exact Or.inr (Or.inr ⟨t0, g1, g2, k, l, g3, g4, e1, by rw [e _ (by omega) (by omega)]; exact e2, FT_A e (by omega) F1, FT_A e (by omega) F2⟩)
theorem LW_A {h : xH} {l : Nat} {A B : rI} (e : ∀ k, 40 ≤ k → k < 477 → B k = A k) (WL : WFl A) (L : LWo h l A) : LWo h l B := by
  have hn := WL.2.1
  have e0 : sNl B = sNl A := by unfold sNl; rw [e 40 (by omega) (by omega)]
  obtain ⟨l1, l2⟩ := L
  unfold LWo
  rw [e0]
  refine ⟨l1, fun k hk => ?_⟩
  obtain ⟨v1, v2, v3, v4⟩ := l2 k hk
  have t200 := (WL.2.2 k hk).2.2.2.2.1
  have v4 := FT_A (fun k h1 h2 => e k (by omega) h2) t200 v4
  unfold sFm sTo at *
  rw [e (41 + k) (by omega) (by omega), e (53 + k) (by omega) (by omega), e (65 + k) (by omega) (by omega)]
  exact ⟨v1, v2, v3, v4⟩
/-- an array of ints -/
def AR (h : xH) (q n : Nat) (f : rI) : Prop := oT h q = 40 ∧ oN h q = n ∧ ∀ i, i < n → oI h q i = f i
/-- a place of such numbers -/
def PC (ow : Nat → Nat) (k : Nat) (h : xH) (a : Nat) (A : rI) (i : Nat) : Prop := ow a = k ∧ oT h a = 19 ∧ oI h a 0 = A (478 + i) ∧ oI h a 3 = A (538 + i) ∧ oR h a 1 = some (rq h a 1) ∧ oR h a 2 = some (rq h a 2) ∧ (ow (rq h a 1) = 101 ∧ oT h (rq h a 1) = 40 ∧ oN h (rq h a 1) = 2 ∧ oI h (rq h a 1) 0 = A (490 + i) ∧ oI h (rq h a 1) 1 = A (502 + i)) ∧ (ow (rq h a 2) = 101 ∧ oT h (rq h a 2) = 40 ∧ oN h (rq h a 2) = 2 ∧ oI h (rq h a 2) 0 = A (514 + i) ∧ oI h (rq h a 2) 1 = A (526 + i))
/-- a list of places -/
def PLo (ow : Nat → Nat) (k : Nat) (h : xH) (p : Nat) (A : rI) : Prop := ow p = 20 * k + 2 ∧ ow (rq h p 1) = 20 * k + 3 ∧ LSn h p (sP_ A) ∧ (2 ≤ oN h (rq h p 1) ∧ oN h (rq h p 1) ≤ 24) ∧ (∀ i, i < sP_ A → PC ow (20 * k + 4) h (li h p i) A i) ∧ ∀ i j, i < j → j < sP_ A → ¬ li h p i = li h p j
/-- a state of such numbers; ow tells whose each place is: of state k those from 20 k on, 101 what never changes, 110 .. rows, 100 else -/
def XS (ow : Nat → Nat) (k : Nat) (h : xH) (s : Nat) (A : rI) : Prop := ow s = 20 * k ∧ oT h s = 2 ∧ (∃ c, oR h s 0 = some c ∧ ow c = 20 * k + 1 ∧ SCo h c A ∧ ow (rq h c 0) = 101 ∧ ow (rq h (rq h c 0) 1) = 101) ∧ (∃ l, oR h s 1 = some l ∧ ow l = 101 ∧ ow (rq h l 1) = 101 ∧ LWo h l A) ∧ (∃ p, oR h s 2 = some p ∧ PLo ow k h p A) ∧ (∃ q, oR h s 3 = some q ∧ ow q = 20 * k + 5 ∧ AR h q 4 (fun i => A (550 + i))) ∧ (∃ q, oR h s 4 = some q ∧ ow q = 20 * k + 6 ∧ AR h q 4 (fun i => A (554 + i))) ∧ ∃ q, oR h s 5 = some q ∧ ow q = 20 * k + 7 ∧ AR h q 20 (fun i => A (558 + i))
theorem AR_m {h h1 : xH} {q n : Nat} {f : rI} (s : sm h h1 q) (a : AR h q n f) : AR h1 q n f := by
  unfold AR at *
  rw [s.1, s.2.1, s.2.2.1]
  exact a
theorem PC_m {ow ow1 : Nat → Nat} {k : Nat} {h h1 : xH} {a i : Nat} {A : rI} (s1 : sm h h1 a) (s2 : ∀ b, ow b = 101 → sm h h1 b) (w1 : ow1 a = ow a) (w2 : ∀ b, ow b = 101 → ow1 b = 101) (p : PC ow k h a A i) : PC ow1 k h1 a A i := by
  unfold PC at *
  rw [rq_m (j := 1) s1, rq_m (j := 2) s1, w1, s1.1, s1.2.2.1, s1.2.2.2.1]
  obtain ⟨p1, p2, p3, p4, p5, p6, p7, p8⟩ := p
  have t1 := s2 _ p7.1
  have t2 := s2 _ p8.1
  rw [t1.1, t1.2.1, t1.2.2.1, t2.1, t2.2.1, t2.2.2.1]
  exact ⟨p1, p2, p3, p4, p5, p6, ⟨w2 _ p7.1, p7.2⟩, ⟨w2 _ p8.1, p8.2⟩⟩
theorem PL_m {ow ow1 : Nat → Nat} {k : Nat} {h h1 : xH} {p : Nat} {A : rI} (s : ∀ a, (20 * k + 2 ≤ ow a ∧ ow a ≤ 20 * k + 4) ∨ ow a = 101 → sm h h1 a) (w : ∀ a, (20 * k + 2 ≤ ow a ∧ ow a ≤ 20 * k + 4) ∨ ow a = 101 → ow1 a = ow a) (L : PLo ow k h p A) : PLo ow1 k h1 p A := by
  obtain ⟨l1, l2, l3, l4, l5, l6⟩ := L
  have s1 := s p (Or.inl (by omega))
  have s2 := s (rq h p 1) (Or.inl (by omega))
  obtain ⟨L1, L2⟩ := LS_m s1 s2 l3
  unfold PLo
  rw [rq_m (j := 1) s1, w p (Or.inl (by omega)), w _ (Or.inl (by omega)), s2.2.1]
  refine ⟨l1, l2, L1, l4, fun i hi => ?_, fun i j h1 h2 => ?_⟩
  · have q := l5 i hi
    rw [L2]
    have q1 := q.1
    exact PC_m (s _ (Or.inl (by omega))) (fun b hb => s b (Or.inr hb)) (w _ (Or.inl (by omega))) (fun b hb => (w b (Or.inr hb)).trans hb) q
  · rw [L2, L2]; exact l6 i j h1 h2
theorem PL_A {ow : Nat → Nat} {k : Nat} {h : xH} {p : Nat} {A B : rI} (e : ∀ k, 477 ≤ k → k < 550 → B k = A k) (h12 : sP_ A ≤ 12) (L : PLo ow k h p A) : PLo ow k h p B := by
  have e0 : sP_ B = sP_ A := by unfold sP_; rw [e 477 (by omega) (by omega)]
  unfold PLo at *
  rw [e0]
  obtain ⟨l1, l2, l3, l4, l5, l6⟩ := L
  refine ⟨l1, l2, l3, l4, fun i hi => ?_, l6⟩
  have q := l5 i hi
  unfold PC at *
  rw [e (478 + i) (by omega) (by omega), e (538 + i) (by omega) (by omega), e (490 + i) (by omega) (by omega), e (502 + i) (by omega) (by omega), e (514 + i) (by omega) (by omega), e (526 + i) (by omega) (by omega)]
  exact q
theorem SC_A {h : xH} {c : Nat} {A B : rI} (e : ∀ k, k < 40 → B k = A k) (h8 : sN A ≤ 8) (S : SCo h c A) : SCo h c B := by
  have e0 : sN B = sN A := by unfold sN; rw [e 1 (by omega)]
  unfold SCo CAo at *
  rw [e0, e 0 (by omega), e 34 (by omega), e 35 (by omega), e 36 (by omega), e 37 (by omega), e 38 (by omega), e 39 (by omega)]
  obtain ⟨c1, c2, c3, c4, c5, c6, c7, c8, c9, c10, c11⟩ := S
  refine ⟨c1, c2, c3, c4, c5, c6, c7, c8, c9, c10, fun k hk => ?_⟩
  rw [e (2 + k) (by omega), e (10 + k) (by omega), e (18 + k) (by omega), e (26 + k) (by omega)]
  exact c11 k hk
theorem AR_A {h : xH} {q n : Nat} {f g : rI} (e : ∀ i, i < n → g i = f i) (a : AR h q n f) : AR h q n g := ⟨a.1, a.2.1, fun i hi => (a.2.2 i hi).trans (e i hi).symm⟩
theorem XS_m {ow ow1 : Nat → Nat} {k : Nat} {h h1 : xH} {s : Nat} {A : rI} (hk : k < 3) (t : ∀ a, ow a / 20 = k ∨ ow a = 101 → sm h h1 a) (st : ∀ a, 9 ≤ oT h a → oT h a ≤ 18 → sm h h1 a) (w : ∀ a, ow a / 20 = k ∨ ow a = 101 → ow1 a = ow a) (X : XS ow k h s A) : XS ow1 k h1 s A := by
  obtain ⟨x1, x2, ⟨c, c1, c2, c3, c4, c5⟩, ⟨l, l1, l2, l3, l4⟩, ⟨p, p1, p2⟩, ⟨q3, a1, a2, a3⟩, ⟨q4, b1, b2, b3⟩, ⟨q5, d1, d2, d3⟩⟩ := X
  have s1 := t s (Or.inl (by omega))
  unfold XS
  rw [s1.1, s1.2.2.2.1, w s (Or.inl (by omega))]
  have sc := t c (Or.inl (by omega))
  have e0 := rq_m (j := 0) sc
  refine ⟨x1, x2, ⟨c, c1, (w c (Or.inl (by omega))).trans c2, SC_m sc (t _ (Or.inr c4)) (t _ (Or.inr c5)) st c3, ?_, ?_⟩, ⟨l, l1, (w l (Or.inr l2)).trans l2, ?_, LW_m (t l (Or.inr l2)) (t _ (Or.inr l3)) st l4⟩, ⟨p, p1, PL_m (fun a ha => t a (by omega)) (fun a ha => w a (by omega)) p2⟩, ⟨q3, a1, (w q3 (Or.inl (by omega))).trans a2, AR_m (t q3 (Or.inl (by omega))) a3⟩, ⟨q4, b1, (w q4 (Or.inl (by omega))).trans b2, AR_m (t q4 (Or.inl (by omega))) b3⟩, ⟨q5, d1, (w q5 (Or.inl (by omega))).trans d2, AR_m (t q5 (Or.inl (by omega))) d3⟩⟩
  · rw [e0]; exact (w _ (Or.inr c4)).trans c4
  · rw [e0, rq_m (t _ (Or.inr c4))]; exact (w _ (Or.inr c5)).trans c5
  · rw [rq_m (t l (Or.inr l2))]; exact (w _ (Or.inr l3)).trans l3
/-- what never changes of the first object -/
def XT (h : xH) : Prop := PO h ∧ WO h 79 ∧ (∀ k, k < 9 → WO h (86 + 6 * k)) ∧ oR h 64 1 = some 76 ∧ oR h 64 2 = some 77 ∧ oR h 64 3 = some 78 ∧ oR h 64 7 = some 79 ∧ oR h 64 13 = some 143 ∧ oR h 64 14 = some 144 ∧ oR h 64 17 = some 145 ∧ oT h 76 = 48 ∧ oN h 76 = 2 ∧ oT h 77 = 40 ∧ oN h 77 = 6 ∧ oT h 78 = 41 ∧ oN h 78 = 400 ∧ oT h 143 = 44 ∧ oN h 143 = 13000 ∧ oT h 144 = 40 ∧ oN h 144 = 40 ∧ oT h 145 = 47 ∧ oN h 145 = 4 ∧ (∀ r, r < 4 → oR h 145 r = some (146 + r) ∧ oT h (146 + r) = 6) ∧ ∀ a, 1 ≤ a → a ≤ 30 → oT h a = 38 ∧ oN h a = (xtxt.getD a []).length ∧ ∀ k, k < (xtxt.getD a []).length → oI h a k = nI ((xtxt.getD a []).getD k 0)
/-- a row of numbers -/
def NR (ow : Nat → Nat) (h : xH) (r : Nat) (P : sS) : Prop := (pS P r = -1 ∧ oR h (146 + r) 0 = none) ∨ ∃ q s n, oR h (146 + r) 0 = some q ∧ ow q = 110 + r ∧ pS P r = nI s ∧ s < 4 ∧ pM P r = nI n ∧ n ≤ 40 ∧ oT h q = xsort (nI s) ∧ oN h q = n ∧ ∀ i, i < n → pN P (40 * r + i) = if s = 3 then oL h q i else (oI h q i).toInt64
def XRo (ow : Nat → Nat) (s : Nat) (h : xH) (P : sS) : Prop := XT h ∧ oR h 64 0 = some s ∧ XS ow 0 h s (pA P) ∧ (∀ i, i < 2 → (pB P i = nI 0 ∧ oR h 76 i = none) ∨ (pB P i = nI 1 ∧ ∃ t, oR h 76 i = some t ∧ XS ow (i + 1) h t (sh (pA P) i))) ∧ (∀ k, k < 6 → oI h 77 k = pF P k) ∧ (∀ k, k < 400 → oI h 78 k &&& nI 255 = pT P k) ∧ oI h 64 4 = nI (pn P) ∧ oI h 64 5 = pk P ∧ oI h 64 6 = pp P ∧ (∀ r, r < 4 → NR ow h r P) ∧ 170 ≤ oX h ∧ (∀ a, oX h ≤ a → oT h a = 0 ∧ ow a = 100) ∧ ∀ a, (a < 65 ∨ (76 ≤ a ∧ a < 170)) → ow a = 100 ∧ ¬ (9 ≤ oT h a ∧ oT h a ≤ 18)
def XR (h : xH) (P : sS) : Prop := ∃ ow s, XRo ow s h P
/-- what the first object's calls leave as it is: the second object, strings, the script -/
def KM (h h1 : xH) : Prop := ∀ a, (a < 64 ∨ (150 ≤ a ∧ a < 170)) → sm h h1 a
def XG (d : Nat) (h : xH) (m : xM) (as : List Value) (q : sV) : Prop := ∃ h1, C_ d m as h = some (some q.1, h1) ∧ XR h1 q.2 ∧ KM h h1 ∧ oC h1 ≤ oC h + 15000 ∧ oS h1 ≤ oS h + 60000
theorem KM_refl {h : xH} : KM h h := fun _ _ => sm_refl
theorem KM_trans {h h1 h2 : xH} (a : KM h h1) (b : KM h1 h2) : KM h h2 := fun x hx => sm_trans (a x hx) (b x hx)
theorem MR_KM {h h1 : xH} {P : sS} (k : KM h h1) (M : MR h P) : MR h1 P := by
  obtain ⟨H, a1, a2, a3, a4, a5, a6, a7, a8, a9, a10, a11, a12⟩ := M
  have e : ∀ a, 150 ≤ a → a < 170 → sm h h1 a := fun a h1 h2 => k a (Or.inr ⟨h1, h2⟩)
  have tg : ∀ a t, mT a = t + 1 → 150 ≤ a ∧ a < 170 := by
    intro a t ht
    unfold mT at ht
    split at ht <;> first | omega | cases ht
  refine ⟨⟨fun a t ht => ?_, fun j b hj => ?_⟩, ?_⟩
  · obtain ⟨t1, t2⟩ := tg a t ht
    have z := e a t1 t2
    rw [z.1, z.2.1]
    exact H.1 a t ht
  · rw [(e 150 (by omega) (by omega)).2.2.2.1]
    exact H.2 j b hj
  · rw [(e 152 (by omega) (by omega)).2.2.1, (e 154 (by omega) (by omega)).2.2.1, (e 151 (by omega) (by omega)).2.2.1, (e 153 (by omega) (by omega)).2.2.1, (e 167 (by omega) (by omega)).2.2.1, (e 168 (by omega) (by omega)).2.2.1, (e 169 (by omega) (by omega)).2.2.2.2, (e 150 (by omega) (by omega)).2.2.1]
    exact ⟨a1, a2, a3, a4, a5, a6, a7, a8, a9, a10, a11, a12⟩
/-- what the second object's calls leave: all that the first one stands for -/
theorem sm_KX {h h2 : xH} (k : KX h h2) {a : Nat} (ha : a < 150 ∨ 170 ≤ a) : sm h h2 a := ⟨by rw [k.2.1], by rw [k.2.2.1], (k.2.2.2.2 a ha).1, by rw [k.2.2.2.1], (k.2.2.2.2 a ha).2⟩
theorem XT_fr {h h1 : xH} (e0 : ∀ a, a < 150 → oT h1 a = oT h a ∧ oN h1 a = oN h a) (e1 : ∀ j, j ≠ 0 → oR h1 64 j = oR h 64 j) (e2 : oR h1 85 = oR h 85) (e3 : oR h1 145 = oR h 145) (e4 : ∀ a j, j ≠ 5 → 79 ≤ a → a < 140 → oR h1 a j = oR h a j) (e5 : ∀ a, a ≤ 30 → oI h1 a = oI h a) (X : XT h) : XT h1 := by
  have wo : ∀ q, 79 ≤ q → q + 5 < 140 → WO h q → WO h1 q := by
    intro q h1 h2 O
    unfold WO at *
    rw [(e0 q (by omega)).1, (e0 (q + 1) (by omega)).1, (e0 (q + 2) (by omega)).1, (e0 (q + 3) (by omega)).1, (e0 (q + 4) (by omega)).1, (e0 (q + 5) (by omega)).1, (e0 (q + 1) (by omega)).2, (e0 (q + 2) (by omega)).2, (e0 (q + 3) (by omega)).2, (e0 (q + 4) (by omega)).2, (e0 (q + 5) (by omega)).2, e4 q 0 (by omega) (by omega) (by omega), e4 q 1 (by omega) (by omega) (by omega), e4 q 2 (by omega) (by omega) (by omega), e4 q 3 (by omega) (by omega) (by omega), e4 q 4 (by omega) (by omega) (by omega)]
    exact O
  obtain ⟨x1, x2, x3, x4, x5, x6, x7, x8, x9, x10, x11, x12, x13, x14, x15, x16, x17, x18, x19, x20, x21, x22, x23, x24⟩ := X
  refine ⟨?_, wo 79 (by omega) (by omega) x2, fun k hk => wo _ (by omega) (by omega) (x3 k hk), ?_, ?_, ?_, ?_, ?_, ?_, ?_, ?_, ?_, ?_, ?_, ?_, ?_, ?_, ?_, ?_, ?_, ?_, ?_, fun r hr => ?_, fun a a1 a2 => ?_⟩
  · unfold PO at *
    rw [(e0 64 (by omega)).1, e1 9 (by omega), e1 10 (by omega), e1 11 (by omega), e1 12 (by omega), (e0 140 (by omega)).1, (e0 141 (by omega)).1, (e0 142 (by omega)).1, (e0 140 (by omega)).2, (e0 141 (by omega)).2, (e0 142 (by omega)).2, (e0 85 (by omega)).1, (e0 85 (by omega)).2, e2]
    exact x1
  · rw [e1 1 (by omega)]; exact x4
  · rw [e1 2 (by omega)]; exact x5
  · rw [e1 3 (by omega)]; exact x6
  · rw [e1 7 (by omega)]; exact x7
  · rw [e1 13 (by omega)]; exact x8
  · rw [e1 14 (by omega)]; exact x9
  · rw [e1 17 (by omega)]; exact x10
  · rw [(e0 76 (by omega)).1]; exact x11
  · rw [(e0 76 (by omega)).2]; exact x12
  · rw [(e0 77 (by omega)).1]; exact x13
  · rw [(e0 77 (by omega)).2]; exact x14
  · rw [(e0 78 (by omega)).1]; exact x15
  · rw [(e0 78 (by omega)).2]; exact x16
  · rw [(e0 143 (by omega)).1]; exact x17
  · rw [(e0 143 (by omega)).2]; exact x18
  · rw [(e0 144 (by omega)).1]; exact x19
  · rw [(e0 144 (by omega)).2]; exact x20
  · rw [(e0 145 (by omega)).1]; exact x21
  · rw [(e0 145 (by omega)).2]; exact x22
  · rw [e3, (e0 (146 + r) (by omega)).1]; exact x23 r hr
  · rw [(e0 a (by omega)).1, (e0 a (by omega)).2, e5 a a2]; exact x24 a a1 a2
theorem NR_m {ow ow1 : Nat → Nat} {h h1 : xH} {r : Nat} {P : sS} (er : oR h1 (146 + r) = oR h (146 + r)) (so : ∀ a, ow a = 110 + r → sm h h1 a ∧ ow1 a = ow a) (N : NR ow h r P) : NR ow1 h1 r P := by
  rcases N with ⟨n1, n2⟩ | ⟨q, s, n, n1, n2, n3⟩
  · exact Or.inl ⟨n1, by rw [er]; exact n2⟩
  · have z := so q n2
    refine Or.inr ⟨q, s, n, by rw [er]; exact n1, z.2.trans n2, ?_⟩
    rw [z.1.1, z.1.2.1, z.1.2.2.1, z.1.2.2.2.2]
    exact n3
/-- all that the first object stands for stays, refused calls may be counted -/
theorem XR_fr {ow : Nat → Nat} {s : Nat} {h h1 : xH} {P : sS} {F : rI} (X : XRo ow s h P) (T : XT h1) (e0 : oR h1 64 0 = oR h 64 0) (e4 : oI h1 64 4 = oI h 64 4) (e5 : oI h1 64 5 = oI h 64 5) (e6 : oI h1 64 6 = oI h 64 6) (e76 : oR h1 76 = oR h 76) (e77 : ∀ k, k < 6 → oI h1 77 k = F k) (e78 : oI h1 78 = oI h 78) (er : ∀ r, r < 4 → oR h1 (146 + r) = oR h (146 + r)) (so : ∀ a, ¬ ow a = 100 → sm h h1 a) (st : ∀ a, 9 ≤ oT h a → oT h a ≤ 18 → sm h h1 a) (ex : oX h ≤ oX h1) (et : ∀ a, oX h1 ≤ a → oT h1 a = 0) (eu : ∀ a, a < 170 → oT h1 a = oT h a) : XRo ow s h1 (qF P F) := by
  obtain ⟨x1, x2, x3, x4, x5, x6, x7, x8, x9, x10, x11, x12, x13⟩ := X
  have fr : ∀ k, k < 3 → ∀ t A, XS ow k h t A → XS ow k h1 t A := fun k hk t A q => XS_m hk (fun a ha => so a (by omega)) st (fun a _ => rfl) q
  refine ⟨T, e0.trans x2, fr 0 (by omega) _ _ x3, fun i hi => ?_, e77, ?_, e4.trans x7, e5.trans x8, e6.trans x9, fun r hr => NR_m (er r hr) (fun a ha => ⟨so a (by omega), rfl⟩) (x10 r hr), Nat.le_trans x11 ex, fun a ha => ⟨et a ha, (x12 a (by omega)).2⟩, fun a ha => ?_⟩
  · rcases x4 i hi with ⟨y1, y2⟩ | ⟨y1, t, y2, y3⟩
    · exact Or.inl ⟨y1, by rw [e76]; exact y2⟩
    · exact Or.inr ⟨y1, t, by rw [e76]; exact y2, fr (i + 1) (by omega) _ _ y3⟩
  · rw [e78]; exact x6
  · rw [eu a (by omega)]; exact x13 a ha
theorem qF_self {P : sS} : qF P (pF P) = P := rfl
/-- the second object's calls leave what the first one stands for -/
theorem XR_KX {h h2 : xH} {P : sS} (k : KX h h2) (X : XR h P) : XR h2 P := by
  obtain ⟨ow, s, X⟩ := X
  have s0 : ∀ a, a < 150 → sm h h2 a := fun a ha => sm_KX k (Or.inl ha)
  have X0 := X
  obtain ⟨x1, x2, x3, x4, x5, x6, x7, x8, x9, x10, x11, x12, x13⟩ := X0
  have ox : oX h2 = oX h := by unfold oX; rw [k.1]
  refine ⟨ow, s, qF_self (P := P) ▸ XR_fr (F := pF P) X (XT_fr (fun a ha => ⟨by rw [k.2.1], by rw [k.2.2.1]⟩) (fun j _ => by rw [k.2.2.2.1]) (by rw [k.2.2.2.1]) (by rw [k.2.2.2.1]) (fun a j _ _ _ => by rw [k.2.2.2.1]) (fun a ha => (s0 a (by omega)).2.2.1) x1) (by rw [k.2.2.2.1]) (by rw [(s0 64 (by omega)).2.2.1]) (by rw [(s0 64 (by omega)).2.2.1]) (by rw [(s0 64 (by omega)).2.2.1]) (by rw [k.2.2.2.1]) (by rw [(s0 77 (by omega)).2.2.1]; exact x5) (s0 78 (by omega)).2.2.1 (fun r _ => by rw [k.2.2.2.1]) (fun a ha => sm_KX k ?_) (fun a h1 h2 => sm_KX k ?_) (by rw [ox]; exact Nat.le_refl _) (fun a ha => by rw [k.2.1]; exact (x12 a (by omega)).1) (fun a _ => by rw [k.2.1])⟩
  · rcases Nat.lt_or_ge a 150 with z | z
    · exact Or.inl z
    · rcases Nat.lt_or_ge a 170 with y | y
      · exact absurd (x13 a (Or.inr ⟨by omega, y⟩)).1 ha
      · exact Or.inr y
  · rcases Nat.lt_or_ge a 150 with z | z
    · exact Or.inl z
    · rcases Nat.lt_or_ge a 170 with y | y
      · exact absurd ⟨h1, h2⟩ (x13 a (Or.inr ⟨by omega, y⟩)).2
      · exact Or.inr y
/-! one more refused -/
def XF (h : xH) (j : Nat) : xH := pI h 77 (rbump (oI h 77) j)
theorem rb_eq {f g : rI} {j : Nat} (hj : j < 6) (e : ∀ k, k < 6 → f k = g k) : ∀ k, k < 6 → rbump f j k = rbump g j k := fun k hk => by
  unfold rbump va_up
  by_cases q : k = j
  · rw [if_pos q, if_pos q, e j hj]
  · rw [if_neg q, if_neg q]; exact e k hk
theorem XR_XF {h : xH} {P : sS} {j : Nat} (hj : j < 6) (X : XR h P) : XR (XF h j) (qR P j) := by
  obtain ⟨ow, s, X⟩ := X
  have X0 := X
  obtain ⟨x1, x2, x3, x4, x5, x6, x7, x8, x9, x10, x11, x12, x13⟩ := X0
  have ne : ∀ a, ¬ a = 77 → oI (XF h j) a = oI h a := fun a ha => by unfold XF; rw [o_II, if_neg ha]
  have s0 : ∀ a, ¬ a = 77 → sm h (XF h j) a := fun a ha => sm_I sm_refl ha
  refine ⟨ow, s, XR_fr (F := rbump (pF P) j) X (XT_fr (h := h) (fun a ha => ⟨rfl, rfl⟩) (fun j _ => rfl) rfl rfl (fun a j _ _ _ => rfl) (fun a ha => ne a (by omega)) x1) rfl (by rw [ne 64 (by omega)]) (by rw [ne 64 (by omega)]) (by rw [ne 64 (by omega)]) rfl ?_ (ne 78 (by omega)) (fun r _ => rfl) (fun a ha => s0 a ?_) (fun a h1 h2 => s0 a ?_) (Nat.le_refl _) (fun a ha => (x12 a ha).1) (fun a _ => rfl)⟩
  · unfold XF
    rw [o_II, if_pos rfl]
    exact rb_eq hj x5
  · intro z
    rw [z] at ha
    exact ha (x13 77 (by omega)).1
  · intro z
    rw [z] at h1 h2
    exact (x13 77 (by omega)).2 ⟨h1, h2⟩
theorem KM_XF {h : xH} {j : Nat} : KM h (XF h j) := fun a ha => sm_I sm_refl (by omega)
section
variable {h : xH} {P : sS} {d : Nat} {m : xM} {as : List Value}
theorem XG_vv {x : Int32} (X : XR h P) (e : C_ d m as h = some (some (.int x), h)) : XG d h m as (vv P x) := ⟨_, e, X, KM_refl, by omega, by omega⟩
theorem XG_vl {x : Int64} (X : XR h P) (e : C_ d m as h = some (some (.long x), h)) : XG d h m as (vl P x) := ⟨_, e, X, KM_refl, by omega, by omega⟩
theorem nslot_lt {k : Int32} : nslot k < 6 := by
  unfold nslot
  repeat' split
  all_goals omega
theorem XG_nn {k : Int32} (X : XR h P) (e : C_ d m as h = some (some (.int k), XF h (nslot k))) : XG d h m as (nn P k) := ⟨_, e, XR_XF nslot_lt X, KM_XF, Nat.le_add_right _ _, Nat.le_add_right _ _⟩
theorem XG_n0 {k : Int32} (X : XR h P) (e : C_ d m as h = some (some (.int k), XF h 0)) : XG d h m as (n0 P k) := ⟨_, e, XR_XF (by omega) X, KM_XF, Nat.le_add_right _ _, Nat.le_add_right _ _⟩
theorem XG_nl {k : Int32} (X : XR h P) (e : C_ d m as h = some (some (.long k.toInt64), XF h (nslot k))) : XG d h m as (nl P k) := ⟨_, e, XR_XF nslot_lt X, KM_XF, Nat.le_add_right _ _, Nat.le_add_right _ _⟩
/-- where a refused call is counted -/
def nsx (k : Int32) : Nat := if k = -3 then 1 else if k = -5 then 2 else if k = -6 then 3 else if k = -7 then 4 else if k < -30 then (if -40 < k then 5 else 0) else 0
theorem kX0_no (X : XT h) {k : Int32} : C_ d mX0_no [.ref 64, .int k] h = some (some (.int k), XF h (nsx k)) := by
  obtain ⟨x1, -, -, -, x5, -, -, -, -, -, -, -, x13, x14, -⟩ := X
  have x0 := x1.1
  unfold XF rbump nsx
  have ix : ∀ j, j < 6 → xix (nI j) (oN h 77) = true := fun j hj => xix_8 x14 hj (by omega)
  by_cases h1 : k = -3
  · simp (disch := first | assumption | exact ix _ (by omega) | omega) only [wX0_no_e, wX0_no_0, wX0_no_1, wX0_no_4, wX0_no_5, wX0_no_7, wX0_no_10, wX0_no_11, wX0_no_14, wX0_no_15, wX0_no_17, wX0_no_20, wX0_no_21, wX0_no_24, wX0_no_25, wX0_no_27, wX0_no_30, wX0_no_31, wX0_no_34, wX0_no_35, wX0_no_37, wX0_no_40, wX0_no_41, wX0_no_44, wX0_no_45, wX0_no_47, wX0_no_50, wX0_no_51, wX0_no_53, wX0_no_56, wX0_no_57, wX0_no_60, wX0_no_61, wX0_no_62, wX0_no_63, wX0_no_64, wX0_no_65, wX0_no_66, wX0_no_67, if_true, if_false, ↓reduceIte, xpu_s, xpu_n, Option.bind_some, xk_i, xk_r, xk_0, xk_u, xk_l, xk_k, xk_q, rf_s, rf_n, o_TI, o_TL, o_TR, o_NI, o_NL, o_NR, o_XI, o_XL, o_XR, o_RI, o_RL, o_LI, o_LR, o_IL, o_IR, o_II, o_LL, o_RR, o_pII, o_pLL, up_s, q_e1, q_e2, Nat.zero_add, Nat.reduceEqDiff, Nat.reduceAdd, Nat.reduceMul, Nat.reduceSub, Nat.reduceLT, Nat.reduceLeDiff, Nat.reduceDiv, Nat.reduceMod, nI_c, nI_add, up_ne, x5, h1, if_true]
  · by_cases h2 : k = -5
    · subst h2
      simp (disch := first | assumption | exact ix _ (by omega) | omega) only [wX0_no_e, wX0_no_0, wX0_no_1, wX0_no_4, wX0_no_5, wX0_no_7, wX0_no_10, wX0_no_11, wX0_no_14, wX0_no_15, wX0_no_17, wX0_no_20, wX0_no_21, wX0_no_24, wX0_no_25, wX0_no_27, wX0_no_30, wX0_no_31, wX0_no_34, wX0_no_35, wX0_no_37, wX0_no_40, wX0_no_41, wX0_no_44, wX0_no_45, wX0_no_47, wX0_no_50, wX0_no_51, wX0_no_53, wX0_no_56, wX0_no_57, wX0_no_60, wX0_no_61, wX0_no_62, wX0_no_63, wX0_no_64, wX0_no_65, wX0_no_66, wX0_no_67, if_true, if_false, ↓reduceIte, xpu_s, xpu_n, Option.bind_some, xk_i, xk_r, xk_0, xk_u, xk_l, xk_k, xk_q, rf_s, rf_n, o_TI, o_TL, o_TR, o_NI, o_NL, o_NR, o_XI, o_XL, o_XR, o_RI, o_RL, o_LI, o_LR, o_IL, o_IR, o_II, o_LL, o_RR, o_pII, o_pLL, up_s, q_e1, q_e2, Nat.zero_add, Nat.reduceEqDiff, Nat.reduceAdd, Nat.reduceMul, Nat.reduceSub, Nat.reduceLT, Nat.reduceLeDiff, Nat.reduceDiv, Nat.reduceMod, nI_c, nI_add, up_ne, x5, h1, if_true, if_false]
    · by_cases h3 : k = -6
      · subst h3
        simp (disch := first | assumption | exact ix _ (by omega) | omega) only [wX0_no_e, wX0_no_0, wX0_no_1, wX0_no_4, wX0_no_5, wX0_no_7, wX0_no_10, wX0_no_11, wX0_no_14, wX0_no_15, wX0_no_17, wX0_no_20, wX0_no_21, wX0_no_24, wX0_no_25, wX0_no_27, wX0_no_30, wX0_no_31, wX0_no_34, wX0_no_35, wX0_no_37, wX0_no_40, wX0_no_41, wX0_no_44, wX0_no_45, wX0_no_47, wX0_no_50, wX0_no_51, wX0_no_53, wX0_no_56, wX0_no_57, wX0_no_60, wX0_no_61, wX0_no_62, wX0_no_63, wX0_no_64, wX0_no_65, wX0_no_66, wX0_no_67, if_true, if_false, ↓reduceIte, xpu_s, xpu_n, Option.bind_some, xk_i, xk_r, xk_0, xk_u, xk_l, xk_k, xk_q, rf_s, rf_n, o_TI, o_TL, o_TR, o_NI, o_NL, o_NR, o_XI, o_XL, o_XR, o_RI, o_RL, o_LI, o_LR, o_IL, o_IR, o_II, o_LL, o_RR, o_pII, o_pLL, up_s, q_e1, q_e2, Nat.zero_add, Nat.reduceEqDiff, Nat.reduceAdd, Nat.reduceMul, Nat.reduceSub, Nat.reduceLT, Nat.reduceLeDiff, Nat.reduceDiv, Nat.reduceMod, nI_c, nI_add, up_ne, x5, h1, h2, if_true, if_false]
      · by_cases h4 : k = -7
        · subst h4
          simp (disch := first | assumption | exact ix _ (by omega) | omega) only [wX0_no_e, wX0_no_0, wX0_no_1, wX0_no_4, wX0_no_5, wX0_no_7, wX0_no_10, wX0_no_11, wX0_no_14, wX0_no_15, wX0_no_17, wX0_no_20, wX0_no_21, wX0_no_24, wX0_no_25, wX0_no_27, wX0_no_30, wX0_no_31, wX0_no_34, wX0_no_35, wX0_no_37, wX0_no_40, wX0_no_41, wX0_no_44, wX0_no_45, wX0_no_47, wX0_no_50, wX0_no_51, wX0_no_53, wX0_no_56, wX0_no_57, wX0_no_60, wX0_no_61, wX0_no_62, wX0_no_63, wX0_no_64, wX0_no_65, wX0_no_66, wX0_no_67, if_true, if_false, ↓reduceIte, xpu_s, xpu_n, Option.bind_some, xk_i, xk_r, xk_0, xk_u, xk_l, xk_k, xk_q, rf_s, rf_n, o_TI, o_TL, o_TR, o_NI, o_NL, o_NR, o_XI, o_XL, o_XR, o_RI, o_RL, o_LI, o_LR, o_IL, o_IR, o_II, o_LL, o_RR, o_pII, o_pLL, up_s, q_e1, q_e2, Nat.zero_add, Nat.reduceEqDiff, Nat.reduceAdd, Nat.reduceMul, Nat.reduceSub, Nat.reduceLT, Nat.reduceLeDiff, Nat.reduceDiv, Nat.reduceMod, nI_c, nI_add, up_ne, x5, h1, h2, h3, if_true, if_false]
        · by_cases h5 : k < -30
          · by_cases h6 : -40 < k
            · simp (disch := first | assumption | exact ix _ (by omega) | omega) only [wX0_no_e, wX0_no_0, wX0_no_1, wX0_no_4, wX0_no_5, wX0_no_7, wX0_no_10, wX0_no_11, wX0_no_14, wX0_no_15, wX0_no_17, wX0_no_20, wX0_no_21, wX0_no_24, wX0_no_25, wX0_no_27, wX0_no_30, wX0_no_31, wX0_no_34, wX0_no_35, wX0_no_37, wX0_no_40, wX0_no_41, wX0_no_44, wX0_no_45, wX0_no_47, wX0_no_50, wX0_no_51, wX0_no_53, wX0_no_56, wX0_no_57, wX0_no_60, wX0_no_61, wX0_no_62, wX0_no_63, wX0_no_64, wX0_no_65, wX0_no_66, wX0_no_67, if_true, if_false, ↓reduceIte, xpu_s, xpu_n, Option.bind_some, xk_i, xk_r, xk_0, xk_u, xk_l, xk_k, xk_q, rf_s, rf_n, o_TI, o_TL, o_TR, o_NI, o_NL, o_NR, o_XI, o_XL, o_XR, o_RI, o_RL, o_LI, o_LR, o_IL, o_IR, o_II, o_LL, o_RR, o_pII, o_pLL, up_s, q_e1, q_e2, Nat.zero_add, Nat.reduceEqDiff, Nat.reduceAdd, Nat.reduceMul, Nat.reduceSub, Nat.reduceLT, Nat.reduceLeDiff, Nat.reduceDiv, Nat.reduceMod, nI_c, nI_add, up_ne, x5, h1, h2, h3, h4, h5, h6, if_true, if_false]
            · simp (disch := first | assumption | exact ix _ (by omega) | omega) only [wX0_no_e, wX0_no_0, wX0_no_1, wX0_no_4, wX0_no_5, wX0_no_7, wX0_no_10, wX0_no_11, wX0_no_14, wX0_no_15, wX0_no_17, wX0_no_20, wX0_no_21, wX0_no_24, wX0_no_25, wX0_no_27, wX0_no_30, wX0_no_31, wX0_no_34, wX0_no_35, wX0_no_37, wX0_no_40, wX0_no_41, wX0_no_44, wX0_no_45, wX0_no_47, wX0_no_50, wX0_no_51, wX0_no_53, wX0_no_56, wX0_no_57, wX0_no_60, wX0_no_61, wX0_no_62, wX0_no_63, wX0_no_64, wX0_no_65, wX0_no_66, wX0_no_67, if_true, if_false, ↓reduceIte, xpu_s, xpu_n, Option.bind_some, xk_i, xk_r, xk_0, xk_u, xk_l, xk_k, xk_q, rf_s, rf_n, o_TI, o_TL, o_TR, o_NI, o_NL, o_NR, o_XI, o_XL, o_XR, o_RI, o_RL, o_LI, o_LR, o_IL, o_IR, o_II, o_LL, o_RR, o_pII, o_pLL, up_s, q_e1, q_e2, Nat.zero_add, Nat.reduceEqDiff, Nat.reduceAdd, Nat.reduceMul, Nat.reduceSub, Nat.reduceLT, Nat.reduceLeDiff, Nat.reduceDiv, Nat.reduceMod, nI_c, nI_add, up_ne, x5, h1, h2, h3, h4, h5, h6, if_true, if_false]
          · simp (disch := first | assumption | exact ix _ (by omega) | omega) only [wX0_no_e, wX0_no_0, wX0_no_1, wX0_no_4, wX0_no_5, wX0_no_7, wX0_no_10, wX0_no_11, wX0_no_14, wX0_no_15, wX0_no_17, wX0_no_20, wX0_no_21, wX0_no_24, wX0_no_25, wX0_no_27, wX0_no_30, wX0_no_31, wX0_no_34, wX0_no_35, wX0_no_37, wX0_no_40, wX0_no_41, wX0_no_44, wX0_no_45, wX0_no_47, wX0_no_50, wX0_no_51, wX0_no_53, wX0_no_56, wX0_no_57, wX0_no_60, wX0_no_61, wX0_no_62, wX0_no_63, wX0_no_64, wX0_no_65, wX0_no_66, wX0_no_67, if_true, if_false, ↓reduceIte, xpu_s, xpu_n, Option.bind_some, xk_i, xk_r, xk_0, xk_u, xk_l, xk_k, xk_q, rf_s, rf_n, o_TI, o_TL, o_TR, o_NI, o_NL, o_NR, o_XI, o_XL, o_XR, o_RI, o_RL, o_LI, o_LR, o_IL, o_IR, o_II, o_LL, o_RR, o_pII, o_pLL, up_s, q_e1, q_e2, Nat.zero_add, Nat.reduceEqDiff, Nat.reduceAdd, Nat.reduceMul, Nat.reduceSub, Nat.reduceLT, Nat.reduceLeDiff, Nat.reduceDiv, Nat.reduceMod, nI_c, nI_add, up_ne, x5, h1, h2, h3, h4, h5, if_true, if_false]
end
theorem nx_2 : nsx (-2) = 0 := by decide
theorem nx_3 : nsx (-3) = 1 := by decide
theorem nx_5 : nsx (-5) = 2 := by decide
theorem nx_6 : nsx (-6) = 3 := by decide
theorem nx_7 : nsx (-7) = 4 := by decide
theorem nx_f : nsx (-1000) = 0 := by decide
theorem nx_s : nsx (-100) = 0 := by decide
theorem nx_w : nsx (-1000000) = 0 := by decide
theorem XR_T {h : xH} {P : sS} (X : XR h P) : XT h := by
  obtain ⟨ow, s, X⟩ := X
  exact X.1
