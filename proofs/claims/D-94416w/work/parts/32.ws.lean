/-! WALKS: what both sides compute, over the rows A (all) and w (now) -/
abbrev rI : Type := Nat → Int32
def sN (A : rI) : Nat := (A 1).toNatClampNeg
def sNl (A : rI) : Nat := (A 40).toNatClampNeg
def sL (A : rI) : Nat := (A 0).toNatClampNeg
def sT (A : rI) (k : Int32) : Bool := decide ((A 34 >>> (k &&& 31)) &&& nI 1 = nI 1)
def sO (A : rI) : Int32 := if sT A (nI 0) = true then nI 2 else nI 1
def sCan (A w : rI) (c : Nat) : Bool := decide (¬ w c - A 35 < w (8 + c) * (w (8 + c) - nI 1) / nI 2)
def sSm (A w : rI) (f t but dec below : Int32) : Bool := an_ (fun k => decide (¬ A (2 + k) < f ∧ ¬ t < A (2 + k) ∧ ¬ A (2 + k) = but ∧ w (16 + k) = dec ∧ 0 < w k ∧ w k < below)) (sN A)
def sFa (A w : rI) (c : Nat) (k v : Int32) : Bool :=
  if ¬ k < nI 5 ∧ ¬ nI 12 < k then sT A (k - nI 5)
  else if k = nI 22 then decide (w c < v)
  else if k = nI 23 then decide (¬ w (8 + c) < v)
  else if k = nI 24 then decide (A (2 + c) = v)
  else if k = nI 4 then decide (A (26 + c) = v)
  else if k = nI 25 then sSm A w (A (2 + c)) (A (2 + c)) (-1) (nI 2) (w c)
  else if k = nI 26 then sSm A w (A (2 + c) - nI 1) (A (2 + c) + nI 1) (A (2 + c)) (nI 2) (nI 1000)
  else if k = nI 27 then sSm A w (nI 0) (nI 3) (A (2 + c)) (nI 1) (w c)
  else decide (0 < w 32 ∨ w 33 = nI 1)
/-- one code of the postfix -/
def sOp (A w : rI) (c i : Nat) (st : List Bool) : List Bool :=
  if A (77 + 2 * i) = nI 21 then (match st with
    | b :: t => (!b) :: t
    | [] => [])
  else if A (77 + 2 * i) = nI 20 then (match st with
    | b :: a :: t => (a && b) :: t
    | _ => [])
  else if A (77 + 2 * i) = nI 19 then (match st with
    | b :: a :: t => (a || b) :: t
    | _ => [])
  else sFa A w c (A (77 + 2 * i)) (A (77 + 2 * i + 1)) :: st
def sRn (A w : rI) (c : Nat) : Nat → Nat → List Bool → List Bool
  | _, 0, st => st
  | i, m + 1, st => sRn A w c (i + 1) m (sOp A w c i st)
def cOk (k : Int32) : Prop := ∃ j : Nat, k = nI j ∧ (j = 4 ∨ (5 ≤ j ∧ j ≤ 12) ∨ (22 ≤ j ∧ j ≤ 28))
/-- are so many codes from one on such that no stack of that depth is short; how deep it is then -/
def sDp (A : rI) : Nat → Nat → Nat → Nat → Prop
  | _, 0, s, t => s = t
  | i, m + 1, s, t => (A (77 + 2 * i) = nI 21 ∧ 1 ≤ s ∧ sDp A (i + 1) m s t) ∨ ((A (77 + 2 * i) = nI 20 ∨ A (77 + 2 * i) = nI 19) ∧ 2 ≤ s ∧ sDp A (i + 1) m (s - 1) t) ∨ (cOk (A (77 + 2 * i)) ∧ sDp A (i + 1) m (s + 1) t)
def sFm (A : rI) (k : Nat) : Nat := (A (53 + k)).toNatClampNeg
def sTo (A : rI) (k : Nat) : Nat := (A (65 + k)).toNatClampNeg
def sSo (A w : rI) (c k : Nat) : Bool := (sRn A w c (sFm A k) (sTo A k - sFm A k) []).headD false
def sSt (A w : rI) (wl : Int32) (c : Nat) : Int32 := match fi_ (fun k => !decide (nI k = wl) && sSo A w c k) (sNl A) with
  | some k => A (41 + k)
  | none => nI 0
def sAs (A w : rI) (c : Nat) : Bool := decide (w (16 + c) = 0 ∧ ¬ w c < nI 1 ∧ ¬ A 38 < w c)
def sCh (A w : rI) (wl : Int32) (c : Nat) : Int32 := if sCan A w c = true then sSt A w wl c else nI 0
def sRd (x : Int32) : Int32 := nI 1103515245 * x + nI 12345
def sSh (x : Int32) : Int32 := (x.toUInt32 >>> ((nI 16).toUInt32 &&& Int32.toUInt32 31)).toInt32
def sRm (x y : Int32) : Int32 := x - x / y * y
def sDv (A : rI) (wl : Int32) (c : Nat) (w : rI) : rI :=
  if sAs A w c = true then
    if sCh A w wl c = 0 then va_up w (16 + c) (nI 1)
    else if sCh A w wl c = nI 100 then va_up w (16 + c) (nI 2)
    else va_up (va_up w 40 (sRd (w 40))) (16 + c) (if sRm (sSh (sRd (w 40))) (nI 100) < sCh A w wl c then nI 2 else nI 1)
  else w
/-- one car decides by draws; place 41 tells the next one -/
def sDe (A : rI) (wl : Int32) (c : Nat) (w : rI) : rI := va_up (sDv A wl c w) 41 (nI (c + 1))
def sDs (A : rI) (wl : Int32) (w : rI) : rI := fo_ (sDe A wl) (sN A) w
def sHi (A w : rI) (c : Nat) : Bool := an_ (fun k => decide (A (2 + k) = A (2 + c) - nI 1 ∧ 0 < A (26 + k) ∧ w (16 + k) = nI 2 ∧ w (8 + k) = 0 ∧ (¬ w k < nI 1 ∧ ¬ nI 3 < w k) ∧ w k < w c)) (sN A)
def sFr (A w : rI) (lane : Int32) : Bool := !an_ (fun c => decide (A (2 + c) = lane ∧ 0 < w c ∧ ¬ w (16 + c) = nI 2 ∧ ¬ w (24 + c) = nI 1) && (!sHi A w c && decide (¬ A 36 < (w c + w (8 + c) - nI 1) / w (8 + c)))) (sN A)
def nq (w : rI) (c : Nat) : Option Nat → Bool
  | none => true
  | some j => decide (w c < w j)
/-- in a lane the nearest car that has not gone -/
def sNe (A w : rI) (mv : Nat → Bool) (lane : Int32) : Option Nat := fo_ (fun c b => if A (2 + c) = lane ∧ mv c = false ∧ 0 < w c ∧ nq w c b = true then some c else b) (sN A) none
/-- how far a car comes at the least (the nearest one of those that stand ahead of it: b) -/
def gL (w : rI) (b : Int32) (c : Nat) : Int32 := if w c < (if b = -1 then w c - w (8 + c) else b + nI 2) then w c else (if b = -1 then w c - w (8 + c) else b + nI 2)
def gP (w : rI) (c : Nat) : Int32 := if 0 < w (8 + c) then w (8 + c) - nI 1 else nI 0
def gT (w : rI) (c : Nat) : Int32 := w c - w (8 + c)
def gW (w : rI) (b : Int32) (c : Nat) : rI := if w (16 + c) = nI 2 then va_up (va_up w (8 + c) (gP w c)) c (w c - gP w c) else va_up w c (if gT w c < gL w b c then gL w b c else gT w c)
def gH (w f : rI) (b : Int32) (c : Nat) : rI := if w (16 + c) = nI 2 then f else va_up f c (zb (decide (gT w c < gL w b c)))
def sGo (w : rI) (b : Int32) (c : Nat) : rI := va_up (gW w b c) (24 + c) (if w (16 + c) = nI 2 then nI 0 else zb (decide (gT w c < gL w b c)))
abbrev sM : Type := rI × (Nat → Bool) × Int32 × Option Nat
def fmin (c : Nat) : Option Nat → Option Nat
  | none => some c
  | some j => if c < j then some c else some j
def im (a b : Int32) : Int32 := if a < b then b else a
def sMv (c : Nat) (s : sM) : sM := (sGo s.1 s.2.2.1 c, va_up s.2.1 c true,
  (if 0 < sGo s.1 s.2.2.1 c c ∧ (sGo s.1 s.2.2.1 c (16 + c) = nI 2 ∨ ¬ sGo s.1 s.2.2.1 c (24 + c) = 0) then im s.2.2.1 (sGo s.1 s.2.2.1 c c) else s.2.2.1),
  (if 0 < sGo s.1 s.2.2.1 c c then s.2.2.2 else fmin c s.2.2.2))
def sLn (A : rI) (lane : Int32) : Nat → sM → sM
  | 0, s => s
  | f + 1, s => match sNe A s.1 s.2.1 lane with
    | none => s
    | some c => sLn A lane f (sMv c s)
abbrev sP : Type := rI × (Nat → Bool) × Option Nat
def sLa (A : rI) (lane : Nat) (p : sP) : sP :=
  ((sLn A (nI lane) 8 (p.1, p.2.1, -1, none)).1, (sLn A (nI lane) 8 (p.1, p.2.1, -1, none)).2.1, if p.1 33 = nI 1 ∧ nI lane = p.1 32 then (sLn A (nI lane) 8 (p.1, p.2.1, -1, none)).2.2.2 else p.2.2)
def sZh (w : rI) : rI := fun k => if 24 ≤ k ∧ k < 32 then nI 0 else w k
def sCg (A w : rI) : sP := fo_ (sLa A) (sL A) (sZh w, fun _ => false, none)
def sIn (A w : rI) : rI := if w 33 = 0 ∧ (sFr A w (w 32) = true ∨ (w 32 = 0 ∧ ¬ w 35 < A 37)) then va_up (va_up w 33 (nI 1)) 34 (nI 0) else w
def sE1 (A w : rI) (kn : Option Nat) : rI := match kn with
  | some k => va_up (va_up (va_up w 37 (nI 2)) 39 (nI k)) 38 (w (8 + k) * w (8 + k) * sO A)
  | none => if w 33 = nI 1 then
      if w 34 + nI 1 < sO A then va_up w 34 (w 34 + nI 1)
      else va_up (va_up (va_up (va_up w 34 (w 34 + nI 1)) 33 (nI 0)) 32 (w 32 + nI 1)) 37 (if w 32 + nI 1 = A 0 then nI 1 else nI 0)
    else w
def sE2 (w : rI) : rI := va_up (va_up w 35 (w 35 + (if w 33 = 0 ∧ w 32 = 0 then nI 1 else nI 0))) 36 (w 36 + nI 1)
def sE3 (w : rI) : rI := va_up (if w 37 = 0 ∧ w 36 = nI 99 then va_up w 37 (nI 3) else w) 41 (nI 0)
/-- a tick behind its decisions -/
def sTk (A w : rI) : rI := sE3 (sE2 (sE1 A (sCg A (sIn A w)).1 (sCg A (sIn A w)).2.2))
def sBp (A : rI) (k : Nat) : Int32 := if sT A (nI 6) = true ∧ nI 4 < A (18 + k) then nI 4 else A (18 + k)
def sB0 (A w : rI) (wc : Int32) (i : Nat) : rI := fun k => if k < i then (if nI k = wc then nI 0 else A (10 + k)) else if 8 ≤ k ∧ k < 8 + i then sBp A (k - 8) else if k < 42 then nI 0 else w k
def sBg (A w : rI) (wc seed : Int32) : rI := va_up (va_up (sB0 A w wc (sN A)) 39 (-1)) 40 seed
def sRu (A : rI) (wl : Int32) : Nat → rI → rI
  | 0, w => w
  | f + 1, w => if w 37 = 0 then sRu A wl f (sTk A (sDs A wl w)) else w
/-- the scene's numbers are in their ranges -/
def WFs (A : rI) : Prop := A 1 = nI (sN A) ∧ sN A ≤ 8 ∧ A 0 = nI (sL A) ∧ 1 ≤ sL A ∧ sL A ≤ 4 ∧
  (∀ c, c < sN A → ∃ l, A (2 + c) = nI l ∧ l < sL A) ∧ (∀ c, c < sN A → ∃ x, A (10 + c) = nI x ∧ 1 ≤ x ∧ x ≤ 200) ∧ (∀ c, c < sN A → ∃ x, A (18 + c) = nI x ∧ 1 ≤ x ∧ x ≤ 9) ∧ (∀ c, c < sN A → ∃ x, A (26 + c) = nI x ∧ x ≤ 3) ∧
  (∃ x, A 34 = nI x ∧ x < 256) ∧ (∃ x, A 35 = nI x ∧ x ≤ 30) ∧ (∃ x, A 36 = nI x ∧ x ≤ 20) ∧ (∃ x, A 37 = nI x ∧ x ≤ 60) ∧ (∃ x, A 38 = nI x ∧ 1 ≤ x ∧ x ≤ 200) ∧ ∃ x, A 39 = nI x ∧ x ≤ 400
/-- the law's -/
def WFl (A : rI) : Prop := A 40 = nI (sNl A) ∧ sNl A ≤ 12 ∧ ∀ k, k < sNl A → (∃ x, A (41 + k) = nI x ∧ x ≤ 100) ∧ A (53 + k) = nI (sFm A k) ∧ A (65 + k) = nI (sTo A k) ∧ sFm A k ≤ sTo A k ∧ sTo A k ≤ 200 ∧ sDp A (sFm A k) (sTo A k - sFm A k) 0 1
