/-! ALL SINGLE STEPS -/
section
variable {D : va_G} {G : Nat → ClassId} {l : Launch} {Hb : Heap} {h0 : xH} {b0 : Nat → Nat}
theorem xPV_all (hlt : l.stackTraces = false) (hT0 : XTx h0) : XPV D G l Hb h0 b0 := fun mm pc ls st h d k na a t p q r hO hs ht h8 hd hq ih => by
  obtain ⟨hl, hp⟩ := hO
  unfold xpv at hp
  split at hp
  · cases hp
    rcases st with _ | ⟨v0, st'⟩
    · cases hs
    · cases hs
      have hq : (if oT h a = 38 then some (some (Value.int (nI (oN h a))), h) else none) = some q := hq
      rw [if_pos ht] at hq
      cases hq
      exact xPV_len hT0 ht h8 hl hd ih
  · cases hp
    rcases st with _ | ⟨v0, _ | ⟨v1, st'⟩⟩
    · cases hs
    · cases hs
    · cases hs
      have hq : xP 1 [.ref a, v0] h = some q := hq
      cases v0 with
      | int i =>
        have hq : (if oT h a = 38 ∧ xin_ i (oN h a) = true then some (some (Value.int (oI h a i.toNatClampNeg)), h) else none) = some q := hq
        split at hq
        · rename_i hc
          cases hq
          exact xPV_chr hT0 ht hc.2 h8 hl hd ih
        · cases hq
      | _ => cases hq
  · cases hp
    rcases st with _ | ⟨v0, _ | ⟨v1, _ | ⟨v2, st'⟩⟩⟩
    · cases hs
    · cases hs
    · cases hs
    · cases hs
      have hq : xP 4 [.ref a, v1, v0] h = some q := hq
      cases v1 with
      | int x =>
        cases v0 with
        | int n => exact xPV_beg hlt hq h8 hl hd ih
        | _ => cases hq
      | _ => cases hq
  · cases hp
    rcases st with _ | ⟨v0, _ | ⟨v1, _ | ⟨v2, _ | ⟨v3, st'⟩⟩⟩⟩
    · cases hs
    · cases hs
    · cases hs
    · cases hs
    · cases hs
      have hq : xP 5 [.ref a, v2, v1, v0] h = some q := hq
      cases v2 with
      | int j =>
        cases v1 with
        | int i =>
          cases v0 with
          | long v => exact xPV_wr hlt hq h8 hl hd ih
          | _ => cases hq
        | _ => cases hq
      | _ => cases hq
  · cases hp
theorem xPS_all : XPS D G l Hb h0 b0 := fun mm pc ls st h d k na p q r hO hn h8 hd hq ih => by
  by_cases h6 : 6 ≤ p
  · exact xPS_math h6 hO h8 hd hq ih
  · obtain ⟨hl, hp⟩ := hO
    unfold xps at hp
    split at hp
    · cases hp
      rcases st with _ | ⟨v0, _ | ⟨v1, st'⟩⟩
      · exact absurd hn (by simp)
      · exact absurd hn (by simp)
      · have hq : xP 2 [v1, v0] h = some q := hq
        cases v1 with
        | ref a =>
          cases v0 with
          | int n =>
            have hq : (if oT h a = 45 ∧ 0 ≤ n.toInt ∧ n.toInt ≤ 65536 ∧ oN h a ≤ 65536 ∧ xuni h (oR h a) (min (oN h a) n.toNatClampNeg) = true then some (some (Value.ref (oX h)), xcpo h a n.toNatClampNeg) else none) = some q := hq
            split at hq
            · rename_i hc
              cases hq
              obtain ⟨c1, c2, c3, c4, c5⟩ := hc
              exact xPS_cpo xC_ok c1 c2 c3 c4 c5 h8 hl hd ih
            · cases hq
          | _ => cases hq
        | _ => cases hq
    · cases hp
      rcases st with _ | ⟨v0, _ | ⟨v1, _ | ⟨v2, _ | ⟨v3, _ | ⟨v4, st'⟩⟩⟩⟩⟩
      · exact absurd hn (by simp)
      · exact absurd hn (by simp)
      · exact absurd hn (by simp)
      · exact absurd hn (by simp)
      · exact absurd hn (by simp)
      · have hq : xP 3 [v4, v3, v2, v1, v0] h = some q := hq
        cases v4 with
        | ref a =>
          cases v3 with
          | int sp =>
            cases v2 with
            | ref b =>
              cases v1 with
              | int dp =>
                cases v0 with
                | int n =>
                  have hq : (if a = b ∧ oT h a = 45 ∧ 0 ≤ sp.toInt ∧ 0 ≤ dp.toInt ∧ 0 ≤ n.toInt ∧ sp.toInt + n.toInt ≤ oN h a ∧ dp.toInt + n.toInt ≤ oN h a ∧ xuni h (fun i => oR h a (sp.toNatClampNeg + i)) n.toNatClampNeg = true then some ((none : Option Value), pR h a (va_cpy (oR h a) (oR h a) sp.toNatClampNeg dp.toNatClampNeg n.toNatClampNeg)) else none) = some q := hq
                  split at hq
                  · rename_i hc
                    cases hq
                    obtain ⟨rfl, c1, c2, c3, c4, c5, c6, c7⟩ := hc
                    exact xPS_acp xC_ok c1 c2 c3 c4 c5 c6 c7 h8 hl hd ih
                  · cases hq
                | _ => cases hq
              | _ => cases hq
            | _ => cases hq
          | _ => cases hq
        | _ => cases hq
    all_goals first | (exfalso; omega) | cases hp
end
/-! THE START -/
def gvL : List Cond := flatC (Jvm.Cond.and given_1 narrow_1)
def tmS (i : Nat) : Term := .string (xstr.getD i ("", 0, "", 0)).1 (xstr.getD i ("", 0, "", 0)).2.1
def posS : List Nat := [249, 256, 262, 270, 278, 287, 295, 302, 311, 320, 327, 335, 343, 350, 357, 365, 373, 382, 390, 396, 403, 412, 422, 432, 438, 446, 454, 462, 469, 475]
theorem gv_at {args : Array Value} {s : State} (hgv : (Jvm.Cond.and given_1 narrow_1).before args s = true) {w : Cond} {i : Nat} (h : gvL[i]? = some w) : w.before args s = true := flat_of_before _ hgv _ (List.mem_of_getElem? h)
abbrev vlS (i : Nat) : Term := .field (tmS i) "java/lang/String" "value" "[B"
theorem gS1 : ∀ i, i < 30 → gvL[posS.getD i 0]? = some (.exactly (tmS i) "java/lang/String") := by decide +kernel
theorem gS2 : ∀ i, i < 30 → gvL[posS.getD i 0 + 1]? = some (.eq (.field (tmS i) "java/lang/String" "coder" "B") (.int 0)) := by decide +kernel
theorem gS3 : ∀ i, i < 30 → gvL[posS.getD i 0 + 2]? = some (.arrayOf (vlS i) .byte) := by decide +kernel
theorem gS4 : ∀ i, i < 30 → gvL[posS.getD i 0 + 3]? = some (.eq (.length (vlS i)) (.int (Int32.ofNat (xtxt.getD (i + 1) []).length))) := by decide +kernel
theorem gS5 : ∀ i, i < 30 → ∀ j, j < (xtxt.getD (i + 1) []).length → gvL[posS.getD i 0 + 4 + j]? = some (.eq (.elem (vlS i) (.int (Int32.ofNat j))) (.int (nI ((xtxt.getD (i + 1) []).getD j 0)))) := by decide +kernel
theorem gS6 : ∀ q ∈ xnc, Cond.not (.castable q.1 q.2) ∈ gvL := by decide +kernel
theorem gS7 : ∀ i, i < 30 → (xstr.getD i ("", 0, "", 0)).2.2.2 = i + 1 := by decide +kernel
theorem gS8 : gvL[8]? = some (.eq (.static "java/lang/String" "COMPACT_STRINGS" "Z") (.int 1)) := by decide +kernel
theorem gS9 : gvL[9]? = some (.isRef (.static "jdk/internal/util/Preconditions" "SIOOBE_FORMATTER" "Ljava/util/function/BiFunction;")) := by decide +kernel
theorem gS10 : gvL[18]? = some (.isRef (.static "java/lang/Throwable" "UNASSIGNED_STACK" "[Ljava/lang/StackTraceElement;")) := by decide +kernel
theorem gS11 : gvL[19]? = some (.isRef (.static "java/lang/Throwable" "SUPPRESSED_SENTINEL" "Ljava/util/List;")) := by decide +kernel
theorem gS12 : gvL[248]? = some (.isRef (.mirror "[Ljava/lang/Object;")) := by decide +kernel
theorem st_str {args : Array Value} {s : State} (hgv : (Jvm.Cond.and given_1 narrow_1).before args s = true) : ∃ ad : Nat → Nat × Nat, ∀ i, i < 30 → (tmS i).eval args s none [] s = some (.ref (ad i).1) ∧ va_O "java/lang/String" (ad i).1 (fun q => s.heap.size ≤ q) s s.heap ∧ va_OF "java/lang/String" "coder" "B" (.int 0) (ad i).1 (fun q => s.heap.size ≤ q) s s.heap ∧ va_OF "java/lang/String" "value" "[B" (.ref (ad i).2) (ad i).1 (fun q => s.heap.size ≤ q) s s.heap ∧ va_T .byte (ad i).2 (xtxt.getD (i + 1) []).length (fun j => .int (nI ((xtxt.getD (i + 1) []).getD j 0))) (fun q => s.heap.size ≤ q) s s.heap := by
  have hA : ∀ a : Nat, a < s.heap.size → ¬ (fun q => s.heap.size ≤ q) a := fun a h => Nat.not_le.mpr h
  have h0 : ∀ i : Nat, ∃ q : Nat × Nat, i < 30 → (tmS i).eval args s none [] s = some (.ref q.1) ∧ va_O "java/lang/String" q.1 (fun q => s.heap.size ≤ q) s s.heap ∧ va_OF "java/lang/String" "coder" "B" (.int 0) q.1 (fun q => s.heap.size ≤ q) s s.heap ∧ va_OF "java/lang/String" "value" "[B" (.ref q.2) q.1 (fun q => s.heap.size ≤ q) s s.heap ∧ va_T .byte q.2 (xtxt.getD (i + 1) []).length (fun j => .int (nI ((xtxt.getD (i + 1) []).getD j 0))) (fun q => s.heap.size ≤ q) s s.heap := by
    intro i
    by_cases hi : i < 30
    · obtain ⟨a, c, cA, kA, q1, q2, q3, q4, q5, q6, -⟩ := Cond.exactly_spec (args := args) (first := s) (o := none) (s := s) (idx := []) (t := tmS i) (cls := "java/lang/String") (gv_at hgv (gS1 i hi))
      have hl := xt_len (i + 1) (by omega)
      obtain ⟨t, ht, hT⟩ := va_Tof (f := fun j => .int (nI ((xtxt.getD (i + 1) []).getD j 0))) (A := fun q => s.heap.size ≤ q) (by omega) (gv_at hgv (gS3 i hi)) (va_eqt (gv_at hgv (gS4 i hi))) (fun j hj => va_eqt (gv_at hgv (gS5 i hi j hj))) hA
      exact ⟨(a, t), fun _ => ⟨q1, ⟨cA, q3, q5, by rw [q6]; exact q2, hA a (Array.getElem?_eq_some_iff.mp q3).1⟩, vk_OFof q1 (va_eqt (gv_at hgv (gS2 i hi))) hA, vk_OFof q1 ht hA, hT⟩⟩
    · exact ⟨(0, 0), fun h => absurd h hi⟩
  exact Classical.axiomOfChoice h0
theorem st_ref : ∀ q ∈ xstr, Cond.stringRef q.1 q.2.1 q.2.2.1 ∈ lw_tbl := by
  unfold xstr
  refine List.forall_mem_cons.mpr ⟨q526, ?_⟩
  refine List.forall_mem_cons.mpr ⟨q599, ?_⟩
  refine List.forall_mem_cons.mpr ⟨q608, ?_⟩
  refine List.forall_mem_cons.mpr ⟨q609, ?_⟩
  refine List.forall_mem_cons.mpr ⟨q712, ?_⟩
  refine List.forall_mem_cons.mpr ⟨q730, ?_⟩
  refine List.forall_mem_cons.mpr ⟨q731, ?_⟩
  refine List.forall_mem_cons.mpr ⟨q732, ?_⟩
  refine List.forall_mem_cons.mpr ⟨q733, ?_⟩
  refine List.forall_mem_cons.mpr ⟨q742, ?_⟩
  refine List.forall_mem_cons.mpr ⟨q743, ?_⟩
  refine List.forall_mem_cons.mpr ⟨q744, ?_⟩
  refine List.forall_mem_cons.mpr ⟨q745, ?_⟩
  refine List.forall_mem_cons.mpr ⟨q746, ?_⟩
  refine List.forall_mem_cons.mpr ⟨q747, ?_⟩
  refine List.forall_mem_cons.mpr ⟨q748, ?_⟩
  refine List.forall_mem_cons.mpr ⟨q749, ?_⟩
  refine List.forall_mem_cons.mpr ⟨q758, ?_⟩
  refine List.forall_mem_cons.mpr ⟨q759, ?_⟩
  refine List.forall_mem_cons.mpr ⟨q772, ?_⟩
  refine List.forall_mem_cons.mpr ⟨q800, ?_⟩
  refine List.forall_mem_cons.mpr ⟨q811, ?_⟩
  refine List.forall_mem_cons.mpr ⟨q819, ?_⟩
  refine List.forall_mem_cons.mpr ⟨q827, ?_⟩
  refine List.forall_mem_cons.mpr ⟨q839, ?_⟩
  refine List.forall_mem_cons.mpr ⟨q840, ?_⟩
  refine List.forall_mem_cons.mpr ⟨q841, ?_⟩
  refine List.forall_mem_cons.mpr ⟨q855, ?_⟩
  refine List.forall_mem_cons.mpr ⟨q872, ?_⟩
  refine List.forall_mem_cons.mpr ⟨q1760, ?_⟩
  exact fun _ h => absurd h List.not_mem_nil
/-- the classes and the arrays' classes, as they stand at the start -/
theorem st_K {args : Array Value} {s : State} (hts : ∀ w ∈ lw_all, w.before args s = true) (htb : ∀ w ∈ lw_tbl, w.before args s = true) : ∃ (D : va_G) (G : Nat → ClassId), va_K D xcl (xty G) s := by
  have h1 : ∀ k : Nat, ∃ z : ClassId × (Nat → Nat), ∀ q : vw_C, xcl[k]? = some q → u_Kn s q.1 q.2.1 q.2.2 z.1 z.2 := by
    intro k
    by_cases hk : k < 19
    · obtain ⟨C, T, N, ty0, c1, c2, c3, c4, c5, c6, c7, -⟩ := xC_ok (k + 1) (by omega) (by omega)
      obtain ⟨cC, iS, hKn⟩ := u_known (C := C) (T := T) (N := N) hts c2 (hts _ c7)
      refine ⟨(cC, iS), fun q hq => ?_⟩
      rw [Nat.add_sub_cancel] at c1
      cases c1.symm.trans hq
      exact hKn
    · refine ⟨(0, fun _ => 0), fun q hq => ?_⟩
      have hl : xcl.length = 19 := rfl
      have := (List.getElem?_eq_some_iff.mp hq).1
      omega
  obtain ⟨zd, hzd⟩ := Classical.axiomOfChoice h1
  have pr : ∀ ty : ArrayType, xnt ty ≠ 0 → ∃ cA : ClassId, ArrOfT s cA (newarray.typeOf ty) ∧ s.vm.findClass ("[" ++ (newarray.typeOf ty).toString) = some cA := by
    intro ty hty
    obtain ⟨cA, kA, comp, f1, f2, f3⟩ := Cond.arrayClass_spec (args := args) (first := s) (o := none) (s := s) (idx := []) (hts _ (xac_ok ty hty))
    exact ⟨cA, fun n z => ⟨fun k h => (by cases h), kA, f2, comp, f3⟩, f1⟩
  have ob : ∀ C : String, Cond.arrayOver (.object C) ∈ lw_tbl → ∃ cA : ClassId, ArrOfT s cA (.object C) ∧ va_RA s cA (.object C) := by
    intro C hC
    obtain ⟨comp, cA, kA, f1, -, f3, f4, f5⟩ := Cond.arrayOver_spec (args := args) (first := s) (o := none) (s := s) (idx := []) (htb _ hC)
    exact ⟨cA, fun n z => ⟨fun k h => (by cases h), kA, f3, comp, f4⟩, kA, comp, f3, f4, f1, f5⟩
  obtain ⟨a0, p0, r0⟩ := pr .int (by decide)
  obtain ⟨a1, p1, r1⟩ := pr .byte (by decide)
  obtain ⟨a2, p2, r2⟩ := pr .boolean (by decide)
  obtain ⟨a3, p3, r3⟩ := pr .short (by decide)
  obtain ⟨a4, p4, r4⟩ := pr .long (by decide)
  obtain ⟨a5, p5, r5⟩ := ob "java/lang/Object" q197
  obtain ⟨a6, p6, r6⟩ := ob "FootOut$Walk" q360
  obtain ⟨a7, p7, r7⟩ := ob "FootOut$Numbers" q362
  obtain ⟨a8, p8, r8⟩ := ob "FootOut$State" q286
  refine ⟨(fun k => (zd k).1, fun k => (zd k).2), fun t => [a0, a1, a2, a3, a4, a5, a6, a7, a8].getD (t - 40) 0, fun c q hq => hzd c q hq, fun k q hk => ?_⟩
  match k, hk with
  | 0, hk => cases hk; exact ⟨p0, r0⟩
  | 1, hk => cases hk; exact ⟨p1, r1⟩
  | 2, hk => cases hk; exact ⟨p2, r2⟩
  | 3, hk => cases hk; exact ⟨p3, r3⟩
  | 4, hk => cases hk; exact ⟨p4, r4⟩
  | 5, hk => cases hk; exact ⟨p5, r5⟩
  | 6, hk => cases hk; exact ⟨p6, r6⟩
  | 7, hk => cases hk; exact ⟨p7, r7⟩
  | 8, hk => cases hk; exact ⟨p8, r8⟩
  | k + 9, hk => cases hk
/-- the pure heap at the start -/
def h0S (L : Nat) (xs : Nat → Int32) : xH := (fun a => if a = 31 then 39 else if 1 ≤ a ∧ a ≤ 30 then 38 else 0, fun a => if a = 31 then L else (xtxt.getD a []).length, fun a => if a = 31 then xs else fun j => nI ((xtxt.getD a []).getD j 0), fun _ _ => 0, fun _ _ => none, (64, 0, 0))
theorem h0S_T {L : Nat} {xs : Nat → Int32} {a : Nat} : oT (h0S L xs) a = if a = 31 then 39 else if 1 ≤ a ∧ a ≤ 30 then 38 else 0 := rfl
theorem h0S_N {L : Nat} {xs : Nat → Int32} {a : Nat} : oN (h0S L xs) a = if a = 31 then L else (xtxt.getD a []).length := rfl
theorem h0S_I {L : Nat} {xs : Nat → Int32} {a : Nat} : oI (h0S L xs) a = if a = 31 then xs else fun j => nI ((xtxt.getD a []).getD j 0) := rfl
def bS0 (b : Nat) (ad : Nat → Nat × Nat) : Nat → Nat := fun a => if a = 31 then b else (ad (a - 1)).1
theorem bS0_i {b i : Nat} {ad : Nat → Nat × Nat} (h : i ≠ 31) : bS0 b ad i = (ad (i - 1)).1 := if_neg h
theorem st_Ks {args : Array Value} {s : State} {b L : Nat} {xs : Nat → Int32} (htb : ∀ w ∈ lw_tbl, w.before args s = true) (hX : va_X b L xs s s.heap) (hbl : b < s.heap.size) (hgv : (Jvm.Cond.and given_1 narrow_1).before args s = true) : ∃ (D : va_G) (G : Nat → ClassId) (b0 : Nat → Nat), b0 31 = b ∧ xKs D G s.heap (h0S L xs) b0 s := by
  have hts : ∀ w ∈ lw_all, w.before args s = true := fun w h => htb w (lw_all_tbl h)
  obtain ⟨D, G, hK⟩ := st_K hts htb
  obtain ⟨ad, had⟩ := st_str hgv
  have hA : ∀ a : Nat, a < s.heap.size → ¬ (fun q => s.heap.size ≤ q) a := fun a h => Nat.not_le.mpr h
  obtain ⟨mi, hmi⟩ := va_Mi.of (gv_at hgv gS12)
  refine ⟨D, G, bS0 b ad, rfl, hK, fun w hw => va_any (xnw_tab (xnest_k w hw)) (htb w (xnest_t w hw)), ?_, fun q hq => ?_, fun q hq => va_Nc.of (flat_of_before _ hgv _ (gS6 q hq)), fun a ha => ?_, ?_, ?_, ?_⟩
  · unfold xao
    refine List.forall_mem_cons.mpr ⟨va_AO.of (A := args) (htb _ q197), List.forall_mem_cons.mpr ⟨va_AO.of (A := args) (htb _ q360), List.forall_mem_cons.mpr ⟨va_AO.of (A := args) (htb _ q362), List.forall_mem_cons.mpr ⟨va_AO.of (A := args) (htb _ q286), fun _ h => absurd h List.not_mem_nil⟩⟩⟩⟩
  · obtain ⟨i, hi⟩ := List.getElem?_of_mem hq
    have hl : i < 30 := (List.getElem?_eq_some_iff.mp hi).1
    have e : xstr.getD i ("", 0, "", 0) = q := by rw [List.getD_eq_getElem?_getD, hi]; rfl
    have e4 := gS7 i hl
    rw [e] at e4
    have ev := (had i hl).1
    unfold tmS at ev
    rw [e] at ev
    rw [e4, bS0_i (by omega), Nat.add_sub_cancel]
    exact vk_R.of (A := args) (htb _ (st_ref q hq)) ev
  · rw [h0S_T] at ha
    split at ha
    · assumption
    · split at ha <;> cases ha
  · exact hX
  · exact hbl
  · refine ⟨fun a => (ad (a - 1)).2, fun i h1 h2 => ?_, va_Zof (args := args) (htb _ q540) (hts _ q134) (va_eqt (gv_at hgv gS8)) hA, va_Zqof (htb _ q556) (hts _ q136) (gv_at hgv gS9) hA, ⟨mi, hmi⟩, va_Dc.of (htb _ q2232), vx_Zqof (htb _ q1458) (hts _ q157) (gv_at hgv gS10) hA, vx_Zqof (htb _ q1460) (hts _ q157) (gv_at hgv gS11) hA⟩
    have h9 := (had (i - 1) (by omega)).2
    rw [show i - 1 + 1 = i by omega] at h9
    rw [bS0_i (by omega)]
    exact h9
theorem h0S_str {L : Nat} {xs : Nat → Int32} : STR (h0S L xs) := fun a a1 a2 => by
  rw [h0S_T, h0S_N, h0S_I, if_neg (by omega), if_pos ⟨a1, a2⟩, if_neg (by omega), if_neg (by omega)]
  exact ⟨rfl, rfl, fun _ _ => rfl⟩
theorem h0S_tx {L : Nat} {xs : Nat → Int32} : XTx (h0S L xs) := fun a ha ht => by
  rw [h0S_T] at ht
  split at ht
  · cases ht
  · rename_i h31
    split at ht
    · rename_i hc
      rw [h0S_N, h0S_I, if_neg h31, if_neg h31]
      exact ⟨hc, rfl, fun _ _ => rfl⟩
    · cases ht
theorem h0S_lo {L : Nat} {xs : Nat → Int32} : ∀ a, a < 64 → oT (h0S L xs) a = 0 ∨ oT (h0S L xs) a = 38 ∨ oT (h0S L xs) a = 39 := fun a _ => by
  rw [h0S_T]
  split
  · exact Or.inr (Or.inr rfl)
  · split
    · exact Or.inr (Or.inl rfl)
    · exact Or.inl rfl
theorem h0S_TX {L : Nat} {xs : Nat → Int32} : TX (h0S L xs) := fun a ha => by
  have ha : 64 ≤ a := ha
  rw [h0S_T, if_neg (by omega), if_neg (by omega)]
