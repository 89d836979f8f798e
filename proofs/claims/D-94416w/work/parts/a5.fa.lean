/-! SOUNDNESS, calls: what the tables say of them -/
abbrev xar (y : MethodName) (n : Nat) : Prop := (parseMethodDescriptor y.desc).map (fun d => d.parameters.length) = some n
abbrev xmh (c : String) : Prop := c ≠ "java/lang/invoke/MethodHandle" ∧ c ≠ "java/lang/invoke/VarHandle"
def XMok (mm : xM) : Prop := plainName mm.2.2.1.cls = true ∧ xmh mm.2.2.1.cls ∧ Cond.code mm.2.2.1 mm.2.2.2.1 mm.2.2.2.2.1 mm.2.2.2.2.2 ∈ lw_all ∧ Cond.initialized mm.2.2.1.cls ∈ lw_all ∧ mm.2.2.1.cls = xnm mm.1 ∧ (mm.2.1 = true → mm.2.2.1.name = "<init>") ∧ mm.2.2.2.2.1 ≤ 70
def xpn : Nat → MethodName
  | 0 => ⟨"java/lang/String", "length", "()I"⟩
  | 1 => ⟨"java/lang/String", "charAt", "(I)C"⟩
  | 2 => ⟨"java/util/Arrays", "copyOf", "([Ljava/lang/Object;I)[Ljava/lang/Object;"⟩
  | 3 => ⟨"java/lang/System", "arraycopy", "(Ljava/lang/Object;ILjava/lang/Object;II)V"⟩
  | 4 => ⟨"FootOut$Numbers", "begins", "(II)Z"⟩
  | 5 => ⟨"FootOut", "write", "(IIJ)J"⟩
  | 6 => ⟨"java/lang/Math", "max", "(II)I"⟩
  | 7 => ⟨"java/lang/Math", "min", "(II)I"⟩
  | 8 => ⟨"java/lang/Math", "abs", "(I)I"⟩
  | 9 => ⟨"java/lang/Math", "max", "(JJ)J"⟩
  | _ => ⟨"java/lang/Math", "min", "(JJ)J"⟩
def xpv : Nat → Option (Nat × Nat)
  | 0 => some (0, 38)
  | 1 => some (1, 38)
  | 4 => some (2, 6)
  | 5 => some (3, 1)
  | _ => none
def xps : Nat → Option Nat
  | 2 => some 2
  | 3 => some 5
  | 6 => some 2
  | 7 => some 2
  | 8 => some 1
  | 9 => some 2
  | 10 => some 2
  | _ => none
def XVok (own k na t : Nat) : xM ⊕ Nat → Prop
  | .inl m' => ∃ (C : String) (T : u_T) (N : Nat) (ty0 : Nat → FieldType), 1 ≤ t ∧ t ≤ 19 ∧ XC t C T N ty0 ∧ XMok m' ∧ xar m'.2.2.1 na ∧ ((Cond.methodLink (xnm own) k m'.2.2.1 ∈ lw_all ∧ Cond.instanceMethod m'.2.2.1 ∈ lw_all ∧ Cond.selects C m'.2.2.1 m'.2.2.1 ∈ lw_all ∧ Cond.initialized C ∈ lw_all ∧ m'.2.2.1.cls = C) ∨ ∃ (x : MethodName) (owner : String), Cond.methodLink (xnm own) k x ∈ lw_all ∧ Cond.sameMethod x.cls owner x.name x.desc ∈ lw_all ∧ Cond.selects C x m'.2.2.1 ∈ lw_all ∧ Cond.instanceMethod m'.2.2.1 ∈ lw_all ∧ Cond.declares ⟨owner, x.name, x.desc⟩ ∈ xnest ∧ xmh owner ∧ xar x na)
  | .inr p => Cond.methodLink (xnm own) k (xpn p) ∈ lw_all ∧ xpv p = some (na, t)
def XSok (own k na : Nat) : xM ⊕ Nat → Prop
  | .inl m' => XMok m' ∧ xar m'.2.2.1 na ∧ Cond.static m'.2.2.1 ∈ lw_all ∧ (Cond.methodLink (xnm own) k m'.2.2.1 ∈ lw_all ∨ ∃ host, Cond.methodLinkNest (xnm own) k m'.2.2.1 host ∈ xnest)
  | .inr p => Cond.methodLink (xnm own) k (xpn p) ∈ lw_all ∧ xps p = some na
def XZok (own k na : Nat) : Option xM → Prop
  | some m' => XMok m' ∧ xar m'.2.2.1 na ∧ m'.2.1 = true ∧ m'.2.2.2.2.2 = none ∧ Cond.instanceMethod m'.2.2.1 ∈ lw_all ∧ (Cond.methodLink (xnm own) k m'.2.2.1 ∈ lw_all ∨ ∃ host, Cond.methodLinkNest (xnm own) k m'.2.2.1 host ∈ xnest)
  | none => Cond.methodLink (xnm own) k Jvm.Lib.objectInit ∈ lw_all
def XKok (own k : Nat) : Value → Prop
  | .int v => Cond.constant (xnm own) k v ∈ lw_all
  | .ref a => ∃ tx : String, (xnm own, k, tx, a) ∈ xstr ∧ a < 64
  | _ => False
def XJok (own k : Nat) (v : Int64) : Prop := Cond.constantLong (xnm own) k v ∈ lw_all
/-! FACTS: what the tables say of the pure machine's tables -/
theorem xC_1 : XC 1 RX0 TX0 18 tyX0 := ⟨rfl, in_X0, tyX0_ok, nmX0, rfl, by decide +kernel, q165, q124, List.mem_of_getElem? (i := 98) rfl⟩
theorem xC_2 : XC 2 RX1 TX1 6 tyX1 := ⟨rfl, in_X1, tyX1_ok, nmX1, rfl, by decide +kernel, q173, q125, List.mem_of_getElem? (i := 99) rfl⟩
theorem xC_3 : XC 3 RX2 TX2 8 tyX2 := ⟨rfl, in_X2, tyX2_ok, nmX2, rfl, by decide +kernel, q179, q126, List.mem_of_getElem? (i := 100) rfl⟩
theorem xC_4 : XC 4 RJ2 TJ2 3 tyJ2 := ⟨rfl, in_J2, tyJ2_ok, nmJ2, rfl, by decide +kernel, q185, q129, List.mem_of_getElem? (i := 101) rfl⟩
theorem xC_5 : XC 5 RX3 TX3 13 tyX3 := ⟨rfl, in_X3, tyX3_ok, nmX3, rfl, by decide +kernel, q288, q130, List.mem_of_getElem? (i := 102) rfl⟩
theorem xC_6 : XC 6 RX4 TX4 1 tyX4 := ⟨rfl, in_X4, tyX4_ok, nmX4, rfl, by decide +kernel, q363, q131, List.mem_of_getElem? (i := 103) rfl⟩
theorem xC_7 : XC 7 RX5 TX5 36 tyX5 := ⟨rfl, in_X5, tyX5_ok, nmX5, rfl, by decide +kernel, q1613, q132, List.mem_of_getElem? (i := 104) rfl⟩
theorem xC_8 : XC 8 RX6 TX6 11 tyX6 := ⟨rfl, in_X6, tyX6_ok, nmX6, rfl, by decide +kernel, q450, q133, List.mem_of_getElem? (i := 105) rfl⟩
theorem xC_9 : XC 9 RX7 TX7 4 tyX7 := ⟨rfl, in_X7, tyX7_ok, nmX7, rfl, by decide +kernel, q611, q138, List.mem_of_getElem? (i := 106) rfl⟩
theorem xC_10 : XC 10 RX9 TX9 1 tyX9 := ⟨rfl, in_X9, tyX9_ok, nmX9, rfl, by decide +kernel, q778, q145, List.mem_of_getElem? (i := 107) rfl⟩
theorem xC_11 : XC 11 RX10 TX10 1 tyX10 := ⟨rfl, in_X10, tyX10_ok, nmX10, rfl, by decide +kernel, q791, q146, List.mem_of_getElem? (i := 108) rfl⟩
theorem xC_12 : XC 12 RX12 (fun _ => ("", "", "", false)) 0 (fun _ => FieldType.int) := ⟨rfl, fun w h => absurd h List.not_mem_nil, fun _ h => absurd h (Nat.not_lt_zero _), fun _ h => absurd h (Nat.not_lt_zero _), rfl, fun _ h => absurd h (Nat.not_lt_zero _), q802, q148, List.mem_of_getElem? (i := 109) rfl⟩
theorem xC_13 : XC 13 RX13 (fun _ => ("", "", "", false)) 0 (fun _ => FieldType.int) := ⟨rfl, fun w h => absurd h List.not_mem_nil, fun _ h => absurd h (Nat.not_lt_zero _), fun _ h => absurd h (Nat.not_lt_zero _), rfl, fun _ h => absurd h (Nat.not_lt_zero _), q813, q149, List.mem_of_getElem? (i := 110) rfl⟩
theorem xC_14 : XC 14 RX14 (fun _ => ("", "", "", false)) 0 (fun _ => FieldType.int) := ⟨rfl, fun w h => absurd h List.not_mem_nil, fun _ h => absurd h (Nat.not_lt_zero _), fun _ h => absurd h (Nat.not_lt_zero _), rfl, fun _ h => absurd h (Nat.not_lt_zero _), q821, q150, List.mem_of_getElem? (i := 111) rfl⟩
theorem xC_15 : XC 15 RX15 (fun _ => ("", "", "", false)) 0 (fun _ => FieldType.int) := ⟨rfl, fun w h => absurd h List.not_mem_nil, fun _ h => absurd h (Nat.not_lt_zero _), fun _ h => absurd h (Nat.not_lt_zero _), rfl, fun _ h => absurd h (Nat.not_lt_zero _), q829, q151, List.mem_of_getElem? (i := 112) rfl⟩
theorem xC_16 : XC 16 RX16 TX16 2 tyX16 := ⟨rfl, in_X16, tyX16_ok, nmX16, rfl, by decide +kernel, q843, q152, List.mem_of_getElem? (i := 113) rfl⟩
theorem xC_17 : XC 17 RX17 TX17 3 tyX17 := ⟨rfl, in_X17, tyX17_ok, nmX17, rfl, by decide +kernel, q857, q153, List.mem_of_getElem? (i := 114) rfl⟩
theorem xC_18 : XC 18 RX18 TX18 2 tyX18 := ⟨rfl, in_X18, tyX18_ok, nmX18, rfl, by decide +kernel, q874, q154, List.mem_of_getElem? (i := 115) rfl⟩
theorem xC_19 : XC 19 RX19 TX19 4 tyX19 := ⟨rfl, in_X19, tyX19_ok, nmX19, rfl, by decide +kernel, q1199, q156, List.mem_of_getElem? (i := 116) rfl⟩
theorem xC_ok : ∀ t, 1 ≤ t → t ≤ 19 → ∃ C T N ty0, XC t C T N ty0 := by
  intro t h1 h2
  match t, h1, h2 with
  | 1, _, _ => exact ⟨_, _, _, _, xC_1⟩
  | 2, _, _ => exact ⟨_, _, _, _, xC_2⟩
  | 3, _, _ => exact ⟨_, _, _, _, xC_3⟩
  | 4, _, _ => exact ⟨_, _, _, _, xC_4⟩
  | 5, _, _ => exact ⟨_, _, _, _, xC_5⟩
  | 6, _, _ => exact ⟨_, _, _, _, xC_6⟩
  | 7, _, _ => exact ⟨_, _, _, _, xC_7⟩
  | 8, _, _ => exact ⟨_, _, _, _, xC_8⟩
  | 9, _, _ => exact ⟨_, _, _, _, xC_9⟩
  | 10, _, _ => exact ⟨_, _, _, _, xC_10⟩
  | 11, _, _ => exact ⟨_, _, _, _, xC_11⟩
  | 12, _, _ => exact ⟨_, _, _, _, xC_12⟩
  | 13, _, _ => exact ⟨_, _, _, _, xC_13⟩
  | 14, _, _ => exact ⟨_, _, _, _, xC_14⟩
  | 15, _, _ => exact ⟨_, _, _, _, xC_15⟩
  | 16, _, _ => exact ⟨_, _, _, _, xC_16⟩
  | 17, _, _ => exact ⟨_, _, _, _, xC_17⟩
  | 18, _, _ => exact ⟨_, _, _, _, xC_18⟩
  | 19, _, _ => exact ⟨_, _, _, _, xC_19⟩
  | n + 20, _, h2 => exact absurd h2 (by omega)
theorem xlk_mem {α : Type} : ∀ {t : List (Nat × α)} {i : Nat} {v : α}, xlk t i = some v → (i, v) ∈ t
  | [], i, v, h => by cases h
  | (k, w) :: t, i, v, h => by
    unfold xlk at h
    cases e : Nat.beq i k with
    | true => rw [e] at h; cases h; rw [Nat.eq_of_beq_eq_true e]; exact List.mem_cons_self
    | false => rw [e] at h; exact List.mem_cons_of_mem _ (xlk_mem h)
theorem xF_ok_1_10 : XFok 1 10 1 0 2 := ⟨_, _, _, _, "FootOut", by decide, by decide, xC_1, by decide, rfl, Or.inl q374, Or.inl rfl, rfl, fun _ h => absurd h (by decide)⟩
theorem xF_ok_1_16 : XFok 1 16 1 1 12 := ⟨_, _, _, _, "FootOut", by decide, by decide, xC_1, by decide, rfl, Or.inl q375, Or.inl rfl, rfl, fun _ _ => ⟨rfl, q375⟩⟩
theorem xF_ok_1_20 : XFok 1 20 1 2 12 := ⟨_, _, _, _, "FootOut", by decide, by decide, xC_1, by decide, rfl, Or.inl q376, Or.inl rfl, rfl, fun _ _ => ⟨rfl, q376⟩⟩
theorem xF_ok_1_24 : XFok 1 24 1 3 12 := ⟨_, _, _, _, "FootOut", by decide, by decide, xC_1, by decide, rfl, Or.inl q378, Or.inl rfl, rfl, fun _ _ => ⟨rfl, q378⟩⟩
theorem xF_ok_1_28 : XFok 1 28 1 6 0 := ⟨_, _, _, _, "FootOut", by decide, by decide, xC_1, by decide, rfl, Or.inl q381, Or.inl rfl, rfl, fun _ h => absurd h (by decide)⟩
theorem xF_ok_1_35 : XFok 1 35 1 7 12 := ⟨_, _, _, _, "FootOut", by decide, by decide, xC_1, by decide, rfl, Or.inl q382, Or.inl rfl, rfl, fun _ _ => ⟨rfl, q382⟩⟩
theorem xF_ok_1_43 : XFok 1 43 1 9 12 := ⟨_, _, _, _, "FootOut", by decide, by decide, xC_1, by decide, rfl, Or.inl q384, Or.inl rfl, rfl, fun _ _ => ⟨rfl, q384⟩⟩
theorem xF_ok_1_47 : XFok 1 47 1 10 12 := ⟨_, _, _, _, "FootOut", by decide, by decide, xC_1, by decide, rfl, Or.inl q385, Or.inl rfl, rfl, fun _ _ => ⟨rfl, q385⟩⟩
theorem xF_ok_1_51 : XFok 1 51 1 11 12 := ⟨_, _, _, _, "FootOut", by decide, by decide, xC_1, by decide, rfl, Or.inl q386, Or.inl rfl, rfl, fun _ _ => ⟨rfl, q386⟩⟩
theorem xF_ok_1_54 : XFok 1 54 1 12 12 := ⟨_, _, _, _, "FootOut", by decide, by decide, xC_1, by decide, rfl, Or.inl q387, Or.inl rfl, rfl, fun _ _ => ⟨rfl, q387⟩⟩
theorem xF_ok_1_57 : XFok 1 57 1 13 12 := ⟨_, _, _, _, "FootOut", by decide, by decide, xC_1, by decide, rfl, Or.inl q388, Or.inl rfl, rfl, fun _ _ => ⟨rfl, q388⟩⟩
theorem xF_ok_1_60 : XFok 1 60 1 14 12 := ⟨_, _, _, _, "FootOut", by decide, by decide, xC_1, by decide, rfl, Or.inl q389, Or.inl rfl, rfl, fun _ _ => ⟨rfl, q389⟩⟩
theorem xF_ok_1_66 : XFok 1 66 1 17 12 := ⟨_, _, _, _, "FootOut", by decide, by decide, xC_1, by decide, rfl, Or.inl q392, Or.inl rfl, rfl, fun _ _ => ⟨rfl, q392⟩⟩
theorem xF_ok_1_70 : XFok 1 70 1 4 0 := ⟨_, _, _, _, "FootOut", by decide, by decide, xC_1, by decide, rfl, Or.inl q379, Or.inl rfl, rfl, fun _ h => absurd h (by decide)⟩
theorem xF_ok_1_96 : XFok 1 96 8 8 0 := ⟨_, _, _, _, "FootOut$Reader", by decide, by decide, xC_8, by decide, rfl, Or.inr ⟨"FootOut", List.mem_of_getElem? (i := 0) rfl⟩, Or.inl rfl, rfl, fun h _ => absurd h (by decide)⟩
theorem xF_ok_1_99 : XFok 1 99 1 5 0 := ⟨_, _, _, _, "FootOut", by decide, by decide, xC_1, by decide, rfl, Or.inl q380, Or.inl rfl, rfl, fun _ h => absurd h (by decide)⟩
theorem xF_ok_1_102 : XFok 1 102 8 9 0 := ⟨_, _, _, _, "FootOut$Reader", by decide, by decide, xC_8, by decide, rfl, Or.inr ⟨"FootOut", List.mem_of_getElem? (i := 1) rfl⟩, Or.inl rfl, rfl, fun h _ => absurd h (by decide)⟩
theorem xF_ok_1_105 : XFok 1 105 8 2 12 := ⟨_, _, _, _, "FootOut$Reader", by decide, by decide, xC_8, by decide, rfl, Or.inr ⟨"FootOut", List.mem_of_getElem? (i := 2) rfl⟩, Or.inl rfl, rfl, fun h _ => absurd h (by decide)⟩
theorem xF_ok_1_108 : XFok 1 108 2 1 2 := ⟨_, _, _, _, "FootOut$State", by decide, by decide, xC_2, by decide, rfl, Or.inr ⟨"FootOut", List.mem_of_getElem? (i := 3) rfl⟩, Or.inl rfl, rfl, fun h _ => absurd h (by decide)⟩
theorem xF_ok_1_115 : XFok 1 115 8 1 12 := ⟨_, _, _, _, "FootOut$Reader", by decide, by decide, xC_8, by decide, rfl, Or.inr ⟨"FootOut", List.mem_of_getElem? (i := 4) rfl⟩, Or.inl rfl, rfl, fun h _ => absurd h (by decide)⟩
theorem xF_ok_1_118 : XFok 1 118 2 0 2 := ⟨_, _, _, _, "FootOut$State", by decide, by decide, xC_2, by decide, rfl, Or.inr ⟨"FootOut", List.mem_of_getElem? (i := 5) rfl⟩, Or.inl rfl, rfl, fun h _ => absurd h (by decide)⟩
theorem xF_ok_1_119 : XFok 1 119 3 7 0 := ⟨_, _, _, _, "FootOut$Scene", by decide, by decide, xC_3, by decide, rfl, Or.inr ⟨"FootOut", List.mem_of_getElem? (i := 6) rfl⟩, Or.inl rfl, rfl, fun h _ => absurd h (by decide)⟩
theorem xF_ok_1_124 : XFok 1 124 3 0 12 := ⟨_, _, _, _, "FootOut$Scene", by decide, by decide, xC_3, by decide, rfl, Or.inr ⟨"FootOut", List.mem_of_getElem? (i := 7) rfl⟩, Or.inl rfl, rfl, fun h _ => absurd h (by decide)⟩
theorem xF_ok_1_139 : XFok 1 139 9 0 10 := ⟨_, _, _, _, "FootOut$Car", by decide, by decide, xC_9, by decide, rfl, Or.inr ⟨"FootOut", List.mem_of_getElem? (i := 8) rfl⟩, Or.inl rfl, rfl, fun h _ => absurd h (by decide)⟩
theorem xF_ok_1_142 : XFok 1 142 9 1 10 := ⟨_, _, _, _, "FootOut$Car", by decide, by decide, xC_9, by decide, rfl, Or.inr ⟨"FootOut", List.mem_of_getElem? (i := 9) rfl⟩, Or.inl rfl, rfl, fun h _ => absurd h (by decide)⟩
theorem xF_ok_1_145 : XFok 1 145 9 2 10 := ⟨_, _, _, _, "FootOut$Car", by decide, by decide, xC_9, by decide, rfl, Or.inr ⟨"FootOut", List.mem_of_getElem? (i := 10) rfl⟩, Or.inl rfl, rfl, fun h _ => absurd h (by decide)⟩
theorem xF_ok_1_148 : XFok 1 148 9 3 10 := ⟨_, _, _, _, "FootOut$Car", by decide, by decide, xC_9, by decide, rfl, Or.inr ⟨"FootOut", List.mem_of_getElem? (i := 11) rfl⟩, Or.inl rfl, rfl, fun h _ => absurd h (by decide)⟩
theorem xF_ok_1_156 : XFok 1 156 3 2 0 := ⟨_, _, _, _, "FootOut$Scene", by decide, by decide, xC_3, by decide, rfl, Or.inr ⟨"FootOut", List.mem_of_getElem? (i := 12) rfl⟩, Or.inl rfl, rfl, fun h _ => absurd h (by decide)⟩
theorem xF_ok_1_175 : XFok 1 175 18 1 12 := ⟨_, _, _, _, "FootOut$Stop", by decide, by decide, xC_18, by decide, rfl, Or.inr ⟨"FootOut", List.mem_of_getElem? (i := 13) rfl⟩, Or.inl rfl, rfl, fun h _ => absurd h (by decide)⟩
theorem xF_ok_1_185 : XFok 1 185 18 0 10 := ⟨_, _, _, _, "FootOut$Stop", by decide, by decide, xC_18, by decide, rfl, Or.inr ⟨"FootOut", List.mem_of_getElem? (i := 14) rfl⟩, Or.inl rfl, rfl, fun h _ => absurd h (by decide)⟩
theorem xF_ok_1_200 : XFok 1 200 1 8 0 := ⟨_, _, _, _, "FootOut", by decide, by decide, xC_1, by decide, rfl, Or.inl q383, Or.inl rfl, rfl, fun _ h => absurd h (by decide)⟩
theorem xF_ok_1_209 : XFok 1 209 5 2 12 := ⟨_, _, _, _, "FootOut$Walk", by decide, by decide, xC_5, by decide, rfl, Or.inr ⟨"FootOut", List.mem_of_getElem? (i := 15) rfl⟩, Or.inl rfl, rfl, fun h _ => absurd h (by decide)⟩
theorem xF_ok_1_218 : XFok 1 218 5 10 0 := ⟨_, _, _, _, "FootOut$Walk", by decide, by decide, xC_5, by decide, rfl, Or.inr ⟨"FootOut", List.mem_of_getElem? (i := 16) rfl⟩, Or.inl rfl, rfl, fun h _ => absurd h (by decide)⟩
theorem xF_ok_1_221 : XFok 1 221 5 9 0 := ⟨_, _, _, _, "FootOut$Walk", by decide, by decide, xC_5, by decide, rfl, Or.inr ⟨"FootOut", List.mem_of_getElem? (i := 17) rfl⟩, Or.inl rfl, rfl, fun h _ => absurd h (by decide)⟩
theorem xF_ok_1_234 : XFok 1 234 5 12 0 := ⟨_, _, _, _, "FootOut$Walk", by decide, by decide, xC_5, by decide, rfl, Or.inr ⟨"FootOut", List.mem_of_getElem? (i := 18) rfl⟩, Or.inl rfl, rfl, fun h _ => absurd h (by decide)⟩
theorem xF_ok_1_237 : XFok 1 237 5 11 0 := ⟨_, _, _, _, "FootOut$Walk", by decide, by decide, xC_5, by decide, rfl, Or.inr ⟨"FootOut", List.mem_of_getElem? (i := 19) rfl⟩, Or.inl rfl, rfl, fun h _ => absurd h (by decide)⟩
theorem xF_ok_1_244 : XFok 1 244 5 8 0 := ⟨_, _, _, _, "FootOut$Walk", by decide, by decide, xC_5, by decide, rfl, Or.inr ⟨"FootOut", List.mem_of_getElem? (i := 20) rfl⟩, Or.inl rfl, rfl, fun h _ => absurd h (by decide)⟩
theorem xF_ok_1_249 : XFok 1 249 5 0 12 := ⟨_, _, _, _, "FootOut$Walk", by decide, by decide, xC_5, by decide, rfl, Or.inr ⟨"FootOut", List.mem_of_getElem? (i := 21) rfl⟩, Or.inl rfl, rfl, fun h _ => absurd h (by decide)⟩
theorem xF_ok_1_251 : XFok 1 251 5 1 12 := ⟨_, _, _, _, "FootOut$Walk", by decide, by decide, xC_5, by decide, rfl, Or.inr ⟨"FootOut", List.mem_of_getElem? (i := 22) rfl⟩, Or.inl rfl, rfl, fun h _ => absurd h (by decide)⟩
theorem xF_ok_1_253 : XFok 1 253 5 3 12 := ⟨_, _, _, _, "FootOut$Walk", by decide, by decide, xC_5, by decide, rfl, Or.inr ⟨"FootOut", List.mem_of_getElem? (i := 23) rfl⟩, Or.inl rfl, rfl, fun h _ => absurd h (by decide)⟩
theorem xF_ok_1_257 : XFok 1 257 5 6 0 := ⟨_, _, _, _, "FootOut$Walk", by decide, by decide, xC_5, by decide, rfl, Or.inr ⟨"FootOut", List.mem_of_getElem? (i := 24) rfl⟩, Or.inl rfl, rfl, fun h _ => absurd h (by decide)⟩
theorem xF_ok_1_260 : XFok 1 260 5 7 0 := ⟨_, _, _, _, "FootOut$Walk", by decide, by decide, xC_5, by decide, rfl, Or.inr ⟨"FootOut", List.mem_of_getElem? (i := 25) rfl⟩, Or.inl rfl, rfl, fun h _ => absurd h (by decide)⟩
theorem xF_ok_1_291 : XFok 1 291 3 3 0 := ⟨_, _, _, _, "FootOut$Scene", by decide, by decide, xC_3, by decide, rfl, Or.inr ⟨"FootOut", List.mem_of_getElem? (i := 26) rfl⟩, Or.inl rfl, rfl, fun h _ => absurd h (by decide)⟩
theorem xF_ok_1_328 : XFok 1 328 2 2 12 := ⟨_, _, _, _, "FootOut$State", by decide, by decide, xC_2, by decide, rfl, Or.inr ⟨"FootOut", List.mem_of_getElem? (i := 27) rfl⟩, Or.inl rfl, rfl, fun h _ => absurd h (by decide)⟩
theorem xF_ok_1_343 : XFok 1 343 19 3 0 := ⟨_, _, _, _, "FootOut$Place", by decide, by decide, xC_19, by decide, rfl, Or.inr ⟨"FootOut", List.mem_of_getElem? (i := 28) rfl⟩, Or.inl rfl, rfl, fun h _ => absurd h (by decide)⟩
theorem xF_ok_1_346 : XFok 1 346 19 0 13 := ⟨_, _, _, _, "FootOut$Place", by decide, by decide, xC_19, by decide, rfl, Or.inr ⟨"FootOut", List.mem_of_getElem? (i := 29) rfl⟩, Or.inl rfl, rfl, fun h _ => absurd h (by decide)⟩
theorem xF_ok_1_350 : XFok 1 350 19 1 12 := ⟨_, _, _, _, "FootOut$Place", by decide, by decide, xC_19, by decide, rfl, Or.inr ⟨"FootOut", List.mem_of_getElem? (i := 30) rfl⟩, Or.inl rfl, rfl, fun h _ => absurd h (by decide)⟩
theorem xF_ok_1_353 : XFok 1 353 19 2 12 := ⟨_, _, _, _, "FootOut$Place", by decide, by decide, xC_19, by decide, rfl, Or.inr ⟨"FootOut", List.mem_of_getElem? (i := 31) rfl⟩, Or.inl rfl, rfl, fun h _ => absurd h (by decide)⟩
theorem xF_ok_1_406 : XFok 1 406 2 3 12 := ⟨_, _, _, _, "FootOut$State", by decide, by decide, xC_2, by decide, rfl, Or.inr ⟨"FootOut", List.mem_of_getElem? (i := 32) rfl⟩, Or.inl rfl, rfl, fun h _ => absurd h (by decide)⟩
theorem xF_ok_1_409 : XFok 1 409 2 4 12 := ⟨_, _, _, _, "FootOut$State", by decide, by decide, xC_2, by decide, rfl, Or.inr ⟨"FootOut", List.mem_of_getElem? (i := 33) rfl⟩, Or.inl rfl, rfl, fun h _ => absurd h (by decide)⟩
theorem xF_ok_1_445 : XFok 1 445 6 0 2 := ⟨_, _, _, _, "FootOut$Numbers", by decide, by decide, xC_6, by decide, rfl, Or.inr ⟨"FootOut", List.mem_of_getElem? (i := 34) rfl⟩, Or.inl rfl, rfl, fun h _ => absurd h (by decide)⟩
theorem xF_ok_1_461 : XFok 1 461 2 5 12 := ⟨_, _, _, _, "FootOut$State", by decide, by decide, xC_2, by decide, rfl, Or.inr ⟨"FootOut", List.mem_of_getElem? (i := 35) rfl⟩, Or.inl rfl, rfl, fun h _ => absurd h (by decide)⟩
theorem xF_ok_1_485 : XFok 1 485 1 15 1 := ⟨_, _, _, _, "FootOut", by decide, by decide, xC_1, by decide, rfl, Or.inl q390, Or.inl rfl, rfl, fun _ h => absurd h (by decide)⟩
theorem xF_ok_1_489 : XFok 1 489 1 16 0 := ⟨_, _, _, _, "FootOut", by decide, by decide, xC_1, by decide, rfl, Or.inl q391, Or.inl rfl, rfl, fun _ h => absurd h (by decide)⟩
theorem xF_ok_1_512 : XFok 1 512 3 1 0 := ⟨_, _, _, _, "FootOut$Scene", by decide, by decide, xC_3, by decide, rfl, Or.inr ⟨"FootOut", List.mem_of_getElem? (i := 36) rfl⟩, Or.inl rfl, rfl, fun h _ => absurd h (by decide)⟩
theorem xF_ok_2_12 : XFok 2 12 2 0 2 := ⟨_, _, _, _, "FootOut$State", by decide, by decide, xC_2, by decide, rfl, Or.inl q260, Or.inl rfl, rfl, fun _ h => absurd h (by decide)⟩
theorem xF_ok_2_23 : XFok 2 23 2 1 2 := ⟨_, _, _, _, "FootOut$State", by decide, by decide, xC_2, by decide, rfl, Or.inl q262, Or.inl rfl, rfl, fun _ h => absurd h (by decide)⟩
theorem xF_ok_2_27 : XFok 2 27 2 2 12 := ⟨_, _, _, _, "FootOut$State", by decide, by decide, xC_2, by decide, rfl, Or.inl q264, Or.inl rfl, rfl, fun _ _ => ⟨rfl, q264⟩⟩
theorem xF_ok_2_30 : XFok 2 30 2 3 12 := ⟨_, _, _, _, "FootOut$State", by decide, by decide, xC_2, by decide, rfl, Or.inl q266, Or.inl rfl, rfl, fun _ _ => ⟨rfl, q266⟩⟩
theorem xF_ok_2_34 : XFok 2 34 2 4 12 := ⟨_, _, _, _, "FootOut$State", by decide, by decide, xC_2, by decide, rfl, Or.inl q268, Or.inl rfl, rfl, fun _ _ => ⟨rfl, q268⟩⟩
theorem xF_ok_2_37 : XFok 2 37 2 5 12 := ⟨_, _, _, _, "FootOut$State", by decide, by decide, xC_2, by decide, rfl, Or.inl q270, Or.inl rfl, rfl, fun _ _ => ⟨rfl, q270⟩⟩
theorem xF_ok_3_14 : XFok 3 14 3 0 12 := ⟨_, _, _, _, "FootOut$Scene", by decide, by decide, xC_3, by decide, rfl, Or.inl q212, Or.inl rfl, rfl, fun _ _ => ⟨rfl, q212⟩⟩
theorem xF_ok_3_20 : XFok 3 20 3 1 0 := ⟨_, _, _, _, "FootOut$Scene", by decide, by decide, xC_3, by decide, rfl, Or.inl q216, Or.inl rfl, rfl, fun _ h => absurd h (by decide)⟩
theorem xF_ok_3_24 : XFok 3 24 3 4 0 := ⟨_, _, _, _, "FootOut$Scene", by decide, by decide, xC_3, by decide, rfl, Or.inl q229, Or.inl rfl, rfl, fun _ h => absurd h (by decide)⟩
theorem xF_ok_3_27 : XFok 3 27 3 5 0 := ⟨_, _, _, _, "FootOut$Scene", by decide, by decide, xC_3, by decide, rfl, Or.inl q232, Or.inl rfl, rfl, fun _ h => absurd h (by decide)⟩
theorem xF_ok_3_30 : XFok 3 30 3 6 0 := ⟨_, _, _, _, "FootOut$Scene", by decide, by decide, xC_3, by decide, rfl, Or.inl q235, Or.inl rfl, rfl, fun _ h => absurd h (by decide)⟩
theorem xF_ok_3_48 : XFok 3 48 3 2 0 := ⟨_, _, _, _, "FootOut$Scene", by decide, by decide, xC_3, by decide, rfl, Or.inl q221, Or.inl rfl, rfl, fun _ h => absurd h (by decide)⟩
theorem xF_ok_3_51 : XFok 3 51 3 3 0 := ⟨_, _, _, _, "FootOut$Scene", by decide, by decide, xC_3, by decide, rfl, Or.inl q225, Or.inl rfl, rfl, fun _ h => absurd h (by decide)⟩
theorem xF_ok_3_54 : XFok 3 54 3 7 0 := ⟨_, _, _, _, "FootOut$Scene", by decide, by decide, xC_3, by decide, rfl, Or.inl q238, Or.inl rfl, rfl, fun _ h => absurd h (by decide)⟩
theorem xF_ok_3_61 : XFok 3 61 9 2 10 := ⟨_, _, _, _, "FootOut$Car", by decide, by decide, xC_9, by decide, rfl, Or.inr ⟨"FootOut", List.mem_of_getElem? (i := 61) rfl⟩, Or.inl rfl, rfl, fun h _ => absurd h (by decide)⟩
theorem xF_ok_4_9 : XFok 4 9 4 1 2 := ⟨_, _, _, _, "java/util/ArrayList", by decide, by decide, xC_4, by decide, rfl, Or.inl q200, Or.inl rfl, rfl, fun _ h => absurd h (by decide)⟩
theorem xF_ok_4_48 : XFok 4 48 4 2 0 := ⟨_, _, _, _, "java/util/ArrayList", by decide, by decide, xC_4, by decide, rfl, Or.inl q201, Or.inl rfl, rfl, fun _ h => absurd h (by decide)⟩
theorem xF_ok_4_63 : XFok 4 63 4 0 0 := ⟨_, _, _, _, "java/util/ArrayList", by decide, by decide, xC_4, by decide, rfl, Or.inl q203, Or.inr q204, rfl, fun _ h => absurd h (by decide)⟩
theorem xF_ok_5_9 : XFok 5 9 5 0 12 := ⟨_, _, _, _, "FootOut$Walk", by decide, by decide, xC_5, by decide, rfl, Or.inl q293, Or.inl rfl, rfl, fun _ _ => ⟨rfl, q293⟩⟩
theorem xF_ok_5_15 : XFok 5 15 5 1 12 := ⟨_, _, _, _, "FootOut$Walk", by decide, by decide, xC_5, by decide, rfl, Or.inl q299, Or.inl rfl, rfl, fun _ _ => ⟨rfl, q299⟩⟩
theorem xF_ok_5_18 : XFok 5 18 5 2 12 := ⟨_, _, _, _, "FootOut$Walk", by decide, by decide, xC_5, by decide, rfl, Or.inl q302, Or.inl rfl, rfl, fun _ _ => ⟨rfl, q302⟩⟩
theorem xF_ok_5_21 : XFok 5 21 5 3 12 := ⟨_, _, _, _, "FootOut$Walk", by decide, by decide, xC_5, by decide, rfl, Or.inl q307, Or.inl rfl, rfl, fun _ _ => ⟨rfl, q307⟩⟩
theorem xF_ok_5_25 : XFok 5 25 5 4 12 := ⟨_, _, _, _, "FootOut$Walk", by decide, by decide, xC_5, by decide, rfl, Or.inl q309, Or.inl rfl, rfl, fun _ _ => ⟨rfl, q309⟩⟩
theorem xF_ok_5_28 : XFok 5 28 5 5 2 := ⟨_, _, _, _, "FootOut$Walk", by decide, by decide, xC_5, by decide, rfl, Or.inl q311, Or.inl rfl, rfl, fun _ h => absurd h (by decide)⟩
theorem xF_ok_5_32 : XFok 5 32 5 6 0 := ⟨_, _, _, _, "FootOut$Walk", by decide, by decide, xC_5, by decide, rfl, Or.inl q313, Or.inl rfl, rfl, fun _ h => absurd h (by decide)⟩
theorem xF_ok_5_36 : XFok 5 36 5 7 0 := ⟨_, _, _, _, "FootOut$Walk", by decide, by decide, xC_5, by decide, rfl, Or.inl q316, Or.inl rfl, rfl, fun _ h => absurd h (by decide)⟩
theorem xF_ok_5_39 : XFok 5 39 5 8 0 := ⟨_, _, _, _, "FootOut$Walk", by decide, by decide, xC_5, by decide, rfl, Or.inl q318, Or.inl rfl, rfl, fun _ h => absurd h (by decide)⟩
theorem xF_ok_5_42 : XFok 5 42 5 9 0 := ⟨_, _, _, _, "FootOut$Walk", by decide, by decide, xC_5, by decide, rfl, Or.inl q320, Or.inl rfl, rfl, fun _ h => absurd h (by decide)⟩
theorem xF_ok_5_45 : XFok 5 45 5 10 0 := ⟨_, _, _, _, "FootOut$Walk", by decide, by decide, xC_5, by decide, rfl, Or.inl q322, Or.inl rfl, rfl, fun _ h => absurd h (by decide)⟩
theorem xF_ok_5_48 : XFok 5 48 5 11 0 := ⟨_, _, _, _, "FootOut$Walk", by decide, by decide, xC_5, by decide, rfl, Or.inl q324, Or.inl rfl, rfl, fun _ h => absurd h (by decide)⟩
theorem xF_ok_5_51 : XFok 5 51 5 12 0 := ⟨_, _, _, _, "FootOut$Walk", by decide, by decide, xC_5, by decide, rfl, Or.inl q326, Or.inl rfl, rfl, fun _ h => absurd h (by decide)⟩
theorem xF_ok_5_62 : XFok 5 62 9 1 10 := ⟨_, _, _, _, "FootOut$Car", by decide, by decide, xC_9, by decide, rfl, Or.inr ⟨"FootOut", List.mem_of_getElem? (i := 65) rfl⟩, Or.inl rfl, rfl, fun h _ => absurd h (by decide)⟩
theorem xF_ok_5_71 : XFok 5 71 3 0 12 := ⟨_, _, _, _, "FootOut$Scene", by decide, by decide, xC_3, by decide, rfl, Or.inr ⟨"FootOut", List.mem_of_getElem? (i := 66) rfl⟩, Or.inl rfl, rfl, fun h _ => absurd h (by decide)⟩
theorem xF_ok_5_84 : XFok 5 84 3 6 0 := ⟨_, _, _, _, "FootOut$Scene", by decide, by decide, xC_3, by decide, rfl, Or.inr ⟨"FootOut", List.mem_of_getElem? (i := 67) rfl⟩, Or.inl rfl, rfl, fun h _ => absurd h (by decide)⟩
theorem xF_ok_5_91 : XFok 5 91 3 3 0 := ⟨_, _, _, _, "FootOut$Scene", by decide, by decide, xC_3, by decide, rfl, Or.inr ⟨"FootOut", List.mem_of_getElem? (i := 68) rfl⟩, Or.inl rfl, rfl, fun h _ => absurd h (by decide)⟩
theorem xF_ok_5_94 : XFok 5 94 9 0 10 := ⟨_, _, _, _, "FootOut$Car", by decide, by decide, xC_9, by decide, rfl, Or.inr ⟨"FootOut", List.mem_of_getElem? (i := 69) rfl⟩, Or.inl rfl, rfl, fun h _ => absurd h (by decide)⟩
theorem xF_ok_5_97 : XFok 5 97 9 3 10 := ⟨_, _, _, _, "FootOut$Car", by decide, by decide, xC_9, by decide, rfl, Or.inr ⟨"FootOut", List.mem_of_getElem? (i := 70) rfl⟩, Or.inl rfl, rfl, fun h _ => absurd h (by decide)⟩
theorem xF_ok_5_106 : XFok 5 106 3 4 0 := ⟨_, _, _, _, "FootOut$Scene", by decide, by decide, xC_3, by decide, rfl, Or.inr ⟨"FootOut", List.mem_of_getElem? (i := 71) rfl⟩, Or.inl rfl, rfl, fun h _ => absurd h (by decide)⟩
theorem xF_ok_5_116 : XFok 5 116 3 5 0 := ⟨_, _, _, _, "FootOut$Scene", by decide, by decide, xC_3, by decide, rfl, Or.inr ⟨"FootOut", List.mem_of_getElem? (i := 72) rfl⟩, Or.inl rfl, rfl, fun h _ => absurd h (by decide)⟩
theorem xF_ok_5_119 : XFok 5 119 3 2 0 := ⟨_, _, _, _, "FootOut$Scene", by decide, by decide, xC_3, by decide, rfl, Or.inr ⟨"FootOut", List.mem_of_getElem? (i := 73) rfl⟩, Or.inl rfl, rfl, fun h _ => absurd h (by decide)⟩
theorem xF_ok_5_126 : XFok 5 126 3 1 0 := ⟨_, _, _, _, "FootOut$Scene", by decide, by decide, xC_3, by decide, rfl, Or.inr ⟨"FootOut", List.mem_of_getElem? (i := 74) rfl⟩, Or.inl rfl, rfl, fun h _ => absurd h (by decide)⟩
theorem xF_ok_6_7 : XFok 6 7 6 0 2 := ⟨_, _, _, _, "FootOut$Numbers", by decide, by decide, xC_6, by decide, rfl, Or.inl q368, Or.inl rfl, rfl, fun _ h => absurd h (by decide)⟩
theorem xF_ok_7_1 : XFok 7 1 7 0 0 := ⟨_, _, _, _, "FootOutModel", by decide, by decide, xC_7, by decide, rfl, Or.inl q1621, Or.inl rfl, rfl, fun _ h => absurd h (by decide)⟩
theorem xF_ok_7_7 : XFok 7 7 7 1 12 := ⟨_, _, _, _, "FootOutModel", by decide, by decide, xC_7, by decide, rfl, Or.inl q1622, Or.inl rfl, rfl, fun _ _ => ⟨rfl, q1622⟩⟩
theorem xF_ok_7_17 : XFok 7 17 7 2 12 := ⟨_, _, _, _, "FootOutModel", by decide, by decide, xC_7, by decide, rfl, Or.inl q1623, Or.inl rfl, rfl, fun _ _ => ⟨rfl, q1623⟩⟩
theorem xF_ok_7_20 : XFok 7 20 7 3 12 := ⟨_, _, _, _, "FootOutModel", by decide, by decide, xC_7, by decide, rfl, Or.inl q1624, Or.inl rfl, rfl, fun _ _ => ⟨rfl, q1624⟩⟩
theorem xF_ok_7_24 : XFok 7 24 7 4 12 := ⟨_, _, _, _, "FootOutModel", by decide, by decide, xC_7, by decide, rfl, Or.inl q1625, Or.inl rfl, rfl, fun _ _ => ⟨rfl, q1625⟩⟩
theorem xF_ok_7_27 : XFok 7 27 7 5 12 := ⟨_, _, _, _, "FootOutModel", by decide, by decide, xC_7, by decide, rfl, Or.inl q1626, Or.inl rfl, rfl, fun _ _ => ⟨rfl, q1626⟩⟩
theorem xF_ok_7_30 : XFok 7 30 7 17 0 := ⟨_, _, _, _, "FootOutModel", by decide, by decide, xC_7, by decide, rfl, Or.inl q1638, Or.inl rfl, rfl, fun _ h => absurd h (by decide)⟩
theorem xF_ok_7_33 : XFok 7 33 7 18 12 := ⟨_, _, _, _, "FootOutModel", by decide, by decide, xC_7, by decide, rfl, Or.inl q1639, Or.inl rfl, rfl, fun _ _ => ⟨rfl, q1639⟩⟩
theorem xF_ok_7_36 : XFok 7 36 7 19 12 := ⟨_, _, _, _, "FootOutModel", by decide, by decide, xC_7, by decide, rfl, Or.inl q1640, Or.inl rfl, rfl, fun _ _ => ⟨rfl, q1640⟩⟩
theorem xF_ok_7_39 : XFok 7 39 7 20 12 := ⟨_, _, _, _, "FootOutModel", by decide, by decide, xC_7, by decide, rfl, Or.inl q1641, Or.inl rfl, rfl, fun _ _ => ⟨rfl, q1641⟩⟩
theorem xF_ok_7_42 : XFok 7 42 7 21 0 := ⟨_, _, _, _, "FootOutModel", by decide, by decide, xC_7, by decide, rfl, Or.inl q1642, Or.inl rfl, rfl, fun _ h => absurd h (by decide)⟩
theorem xF_ok_7_45 : XFok 7 45 7 22 0 := ⟨_, _, _, _, "FootOutModel", by decide, by decide, xC_7, by decide, rfl, Or.inl q1643, Or.inl rfl, rfl, fun _ h => absurd h (by decide)⟩
theorem xF_ok_7_48 : XFok 7 48 7 24 12 := ⟨_, _, _, _, "FootOutModel", by decide, by decide, xC_7, by decide, rfl, Or.inl q1645, Or.inl rfl, rfl, fun _ _ => ⟨rfl, q1645⟩⟩
theorem xF_ok_7_51 : XFok 7 51 7 25 12 := ⟨_, _, _, _, "FootOutModel", by decide, by decide, xC_7, by decide, rfl, Or.inl q1646, Or.inl rfl, rfl, fun _ _ => ⟨rfl, q1646⟩⟩
theorem xF_ok_7_54 : XFok 7 54 7 27 12 := ⟨_, _, _, _, "FootOutModel", by decide, by decide, xC_7, by decide, rfl, Or.inl q1648, Or.inl rfl, rfl, fun _ _ => ⟨rfl, q1648⟩⟩
theorem xF_ok_7_58 : XFok 7 58 7 28 12 := ⟨_, _, _, _, "FootOutModel", by decide, by decide, xC_7, by decide, rfl, Or.inl q1649, Or.inl rfl, rfl, fun _ _ => ⟨rfl, q1649⟩⟩
theorem xF_ok_7_61 : XFok 7 61 7 29 12 := ⟨_, _, _, _, "FootOutModel", by decide, by decide, xC_7, by decide, rfl, Or.inl q1650, Or.inl rfl, rfl, fun _ _ => ⟨rfl, q1650⟩⟩
theorem xF_ok_7_64 : XFok 7 64 7 30 12 := ⟨_, _, _, _, "FootOutModel", by decide, by decide, xC_7, by decide, rfl, Or.inl q1651, Or.inl rfl, rfl, fun _ _ => ⟨rfl, q1651⟩⟩
theorem xF_ok_7_67 : XFok 7 67 7 31 12 := ⟨_, _, _, _, "FootOutModel", by decide, by decide, xC_7, by decide, rfl, Or.inl q1652, Or.inl rfl, rfl, fun _ _ => ⟨rfl, q1652⟩⟩
theorem xF_ok_7_70 : XFok 7 70 7 32 12 := ⟨_, _, _, _, "FootOutModel", by decide, by decide, xC_7, by decide, rfl, Or.inl q1653, Or.inl rfl, rfl, fun _ _ => ⟨rfl, q1653⟩⟩
theorem xF_ok_7_73 : XFok 7 73 7 33 12 := ⟨_, _, _, _, "FootOutModel", by decide, by decide, xC_7, by decide, rfl, Or.inl q1654, Or.inl rfl, rfl, fun _ _ => ⟨rfl, q1654⟩⟩
theorem xF_ok_7_76 : XFok 7 76 7 34 12 := ⟨_, _, _, _, "FootOutModel", by decide, by decide, xC_7, by decide, rfl, Or.inl q1655, Or.inl rfl, rfl, fun _ _ => ⟨rfl, q1655⟩⟩
theorem xF_ok_7_79 : XFok 7 79 7 35 12 := ⟨_, _, _, _, "FootOutModel", by decide, by decide, xC_7, by decide, rfl, Or.inl q1656, Or.inl rfl, rfl, fun _ _ => ⟨rfl, q1656⟩⟩
theorem xF_ok_7_86 : XFok 7 86 7 6 0 := ⟨_, _, _, _, "FootOutModel", by decide, by decide, xC_7, by decide, rfl, Or.inl q1627, Or.inl rfl, rfl, fun _ h => absurd h (by decide)⟩
theorem xF_ok_7_93 : XFok 7 93 7 9 0 := ⟨_, _, _, _, "FootOutModel", by decide, by decide, xC_7, by decide, rfl, Or.inl q1630, Or.inl rfl, rfl, fun _ h => absurd h (by decide)⟩
theorem xF_ok_7_108 : XFok 7 108 7 7 0 := ⟨_, _, _, _, "FootOutModel", by decide, by decide, xC_7, by decide, rfl, Or.inl q1628, Or.inl rfl, rfl, fun _ h => absurd h (by decide)⟩
theorem xF_ok_7_111 : XFok 7 111 7 8 0 := ⟨_, _, _, _, "FootOutModel", by decide, by decide, xC_7, by decide, rfl, Or.inl q1629, Or.inl rfl, rfl, fun _ h => absurd h (by decide)⟩
theorem xF_ok_7_117 : XFok 7 117 7 10 0 := ⟨_, _, _, _, "FootOutModel", by decide, by decide, xC_7, by decide, rfl, Or.inl q1631, Or.inl rfl, rfl, fun _ h => absurd h (by decide)⟩
theorem xF_ok_7_130 : XFok 7 130 7 11 0 := ⟨_, _, _, _, "FootOutModel", by decide, by decide, xC_7, by decide, rfl, Or.inl q1632, Or.inl rfl, rfl, fun _ h => absurd h (by decide)⟩
theorem xF_ok_7_133 : XFok 7 133 7 12 0 := ⟨_, _, _, _, "FootOutModel", by decide, by decide, xC_7, by decide, rfl, Or.inl q1633, Or.inl rfl, rfl, fun _ h => absurd h (by decide)⟩
theorem xF_ok_7_136 : XFok 7 136 7 13 0 := ⟨_, _, _, _, "FootOutModel", by decide, by decide, xC_7, by decide, rfl, Or.inl q1634, Or.inl rfl, rfl, fun _ h => absurd h (by decide)⟩
theorem xF_ok_7_176 : XFok 7 176 7 15 0 := ⟨_, _, _, _, "FootOutModel", by decide, by decide, xC_7, by decide, rfl, Or.inl q1636, Or.inl rfl, rfl, fun _ h => absurd h (by decide)⟩
theorem xF_ok_7_189 : XFok 7 189 7 14 0 := ⟨_, _, _, _, "FootOutModel", by decide, by decide, xC_7, by decide, rfl, Or.inl q1635, Or.inl rfl, rfl, fun _ h => absurd h (by decide)⟩
theorem xF_ok_7_207 : XFok 7 207 7 16 0 := ⟨_, _, _, _, "FootOutModel", by decide, by decide, xC_7, by decide, rfl, Or.inl q1637, Or.inl rfl, rfl, fun _ h => absurd h (by decide)⟩
theorem xF_ok_7_249 : XFok 7 249 7 23 0 := ⟨_, _, _, _, "FootOutModel", by decide, by decide, xC_7, by decide, rfl, Or.inl q1644, Or.inl rfl, rfl, fun _ h => absurd h (by decide)⟩
theorem xF_ok_7_256 : XFok 7 256 7 26 0 := ⟨_, _, _, _, "FootOutModel", by decide, by decide, xC_7, by decide, rfl, Or.inl q1647, Or.inl rfl, rfl, fun _ h => absurd h (by decide)⟩
theorem xF_ok_8_3 : XFok 8 3 8 10 12 := ⟨_, _, _, _, "FootOut$Reader", by decide, by decide, xC_8, by decide, rfl, Or.inl q473, Or.inl rfl, rfl, fun _ _ => ⟨rfl, q473⟩⟩
theorem xF_ok_8_18 : XFok 8 18 8 1 12 := ⟨_, _, _, _, "FootOut$Reader", by decide, by decide, xC_8, by decide, rfl, Or.inl q460, Or.inl rfl, rfl, fun _ _ => ⟨rfl, q460⟩⟩
theorem xF_ok_8_27 : XFok 8 27 8 2 12 := ⟨_, _, _, _, "FootOut$Reader", by decide, by decide, xC_8, by decide, rfl, Or.inl q462, Or.inl rfl, rfl, fun _ _ => ⟨rfl, q462⟩⟩
theorem xF_ok_8_31 : XFok 8 31 8 9 0 := ⟨_, _, _, _, "FootOut$Reader", by decide, by decide, xC_8, by decide, rfl, Or.inl q471, Or.inl rfl, rfl, fun _ h => absurd h (by decide)⟩
theorem xF_ok_8_35 : XFok 8 35 8 0 10 := ⟨_, _, _, _, "FootOut$Reader", by decide, by decide, xC_8, by decide, rfl, Or.inl q459, Or.inl rfl, rfl, fun _ _ => ⟨rfl, q459⟩⟩
theorem xF_ok_8_38 : XFok 8 38 1 3 12 := ⟨_, _, _, _, "FootOut", by decide, by decide, xC_1, by decide, rfl, Or.inr ⟨"FootOut", List.mem_of_getElem? (i := 51) rfl⟩, Or.inl rfl, rfl, fun h _ => absurd h (by decide)⟩
theorem xF_ok_8_58 : XFok 8 58 8 3 0 := ⟨_, _, _, _, "FootOut$Reader", by decide, by decide, xC_8, by decide, rfl, Or.inl q464, Or.inl rfl, rfl, fun _ h => absurd h (by decide)⟩
theorem xF_ok_8_61 : XFok 8 61 8 4 0 := ⟨_, _, _, _, "FootOut$Reader", by decide, by decide, xC_8, by decide, rfl, Or.inl q465, Or.inl rfl, rfl, fun _ h => absurd h (by decide)⟩
theorem xF_ok_8_64 : XFok 8 64 8 5 0 := ⟨_, _, _, _, "FootOut$Reader", by decide, by decide, xC_8, by decide, rfl, Or.inl q466, Or.inl rfl, rfl, fun _ h => absurd h (by decide)⟩
theorem xF_ok_8_74 : XFok 8 74 8 6 0 := ⟨_, _, _, _, "FootOut$Reader", by decide, by decide, xC_8, by decide, rfl, Or.inl q467, Or.inl rfl, rfl, fun _ h => absurd h (by decide)⟩
theorem xF_ok_8_77 : XFok 8 77 8 8 0 := ⟨_, _, _, _, "FootOut$Reader", by decide, by decide, xC_8, by decide, rfl, Or.inl q469, Or.inl rfl, rfl, fun _ h => absurd h (by decide)⟩
theorem xF_ok_8_129 : XFok 8 129 3 7 0 := ⟨_, _, _, _, "FootOut$Scene", by decide, by decide, xC_3, by decide, rfl, Or.inr ⟨"FootOut", List.mem_of_getElem? (i := 52) rfl⟩, Or.inl rfl, rfl, fun h _ => absurd h (by decide)⟩
theorem xF_ok_8_132 : XFok 8 132 3 0 12 := ⟨_, _, _, _, "FootOut$Scene", by decide, by decide, xC_3, by decide, rfl, Or.inr ⟨"FootOut", List.mem_of_getElem? (i := 53) rfl⟩, Or.inl rfl, rfl, fun h _ => absurd h (by decide)⟩
theorem xF_ok_8_143 : XFok 8 143 9 0 10 := ⟨_, _, _, _, "FootOut$Car", by decide, by decide, xC_9, by decide, rfl, Or.inr ⟨"FootOut", List.mem_of_getElem? (i := 54) rfl⟩, Or.inl rfl, rfl, fun h _ => absurd h (by decide)⟩
theorem xF_ok_8_160 : XFok 8 160 3 1 0 := ⟨_, _, _, _, "FootOut$Scene", by decide, by decide, xC_3, by decide, rfl, Or.inr ⟨"FootOut", List.mem_of_getElem? (i := 55) rfl⟩, Or.inl rfl, rfl, fun h _ => absurd h (by decide)⟩
theorem xF_ok_8_163 : XFok 8 163 3 3 0 := ⟨_, _, _, _, "FootOut$Scene", by decide, by decide, xC_3, by decide, rfl, Or.inr ⟨"FootOut", List.mem_of_getElem? (i := 56) rfl⟩, Or.inl rfl, rfl, fun h _ => absurd h (by decide)⟩
theorem xF_ok_8_167 : XFok 8 167 3 4 0 := ⟨_, _, _, _, "FootOut$Scene", by decide, by decide, xC_3, by decide, rfl, Or.inr ⟨"FootOut", List.mem_of_getElem? (i := 57) rfl⟩, Or.inl rfl, rfl, fun h _ => absurd h (by decide)⟩
theorem xF_ok_8_171 : XFok 8 171 3 5 0 := ⟨_, _, _, _, "FootOut$Scene", by decide, by decide, xC_3, by decide, rfl, Or.inr ⟨"FootOut", List.mem_of_getElem? (i := 58) rfl⟩, Or.inl rfl, rfl, fun h _ => absurd h (by decide)⟩
theorem xF_ok_8_175 : XFok 8 175 3 6 0 := ⟨_, _, _, _, "FootOut$Scene", by decide, by decide, xC_3, by decide, rfl, Or.inr ⟨"FootOut", List.mem_of_getElem? (i := 59) rfl⟩, Or.inl rfl, rfl, fun h _ => absurd h (by decide)⟩
theorem xF_ok_8_183 : XFok 8 183 3 2 0 := ⟨_, _, _, _, "FootOut$Scene", by decide, by decide, xC_3, by decide, rfl, Or.inr ⟨"FootOut", List.mem_of_getElem? (i := 60) rfl⟩, Or.inl rfl, rfl, fun h _ => absurd h (by decide)⟩
theorem xF_ok_8_234 : XFok 8 234 8 7 0 := ⟨_, _, _, _, "FootOut$Reader", by decide, by decide, xC_8, by decide, rfl, Or.inl q468, Or.inl rfl, rfl, fun _ h => absurd h (by decide)⟩
theorem xF_ok_9_7 : XFok 9 7 9 0 10 := ⟨_, _, _, _, "FootOut$Car", by decide, by decide, xC_9, by decide, rfl, Or.inl q616, Or.inl rfl, rfl, fun _ _ => ⟨rfl, q616⟩⟩
theorem xF_ok_9_13 : XFok 9 13 9 1 10 := ⟨_, _, _, _, "FootOut$Car", by decide, by decide, xC_9, by decide, rfl, Or.inl q624, Or.inl rfl, rfl, fun _ _ => ⟨rfl, q624⟩⟩
theorem xF_ok_9_16 : XFok 9 16 9 2 10 := ⟨_, _, _, _, "FootOut$Car", by decide, by decide, xC_9, by decide, rfl, Or.inl q627, Or.inl rfl, rfl, fun _ _ => ⟨rfl, q627⟩⟩
theorem xF_ok_9_19 : XFok 9 19 9 3 10 := ⟨_, _, _, _, "FootOut$Car", by decide, by decide, xC_9, by decide, rfl, Or.inl q630, Or.inl rfl, rfl, fun _ _ => ⟨rfl, q630⟩⟩
theorem xF_ok_10_7 : XFok 10 7 10 0 12 := ⟨_, _, _, _, "FootOut$Not", by decide, by decide, xC_10, by decide, rfl, Or.inl q786, Or.inl rfl, rfl, fun _ _ => ⟨rfl, q786⟩⟩
theorem xF_ok_11_7 : XFok 11 7 11 0 10 := ⟨_, _, _, _, "FootOut$Trait", by decide, by decide, xC_11, by decide, rfl, Or.inl q796, Or.inl rfl, rfl, fun _ _ => ⟨rfl, q796⟩⟩
theorem xF_ok_11_13 : XFok 11 13 5 5 2 := ⟨_, _, _, _, "FootOut$Walk", by decide, by decide, xC_5, by decide, rfl, Or.inr ⟨"FootOut", List.mem_of_getElem? (i := 63) rfl⟩, Or.inl rfl, rfl, fun h _ => absurd h (by decide)⟩
theorem xF_ok_11_19 : XFok 11 19 3 2 0 := ⟨_, _, _, _, "FootOut$Scene", by decide, by decide, xC_3, by decide, rfl, Or.inr ⟨"FootOut", List.mem_of_getElem? (i := 64) rfl⟩, Or.inl rfl, rfl, fun h _ => absurd h (by decide)⟩
theorem xF_ok_12_15 : XFok 12 15 9 0 10 := ⟨_, _, _, _, "FootOut$Car", by decide, by decide, xC_9, by decide, rfl, Or.inr ⟨"FootOut", List.mem_of_getElem? (i := 37) rfl⟩, Or.inl rfl, rfl, fun h _ => absurd h (by decide)⟩
theorem xF_ok_12_21 : XFok 12 21 5 0 12 := ⟨_, _, _, _, "FootOut$Walk", by decide, by decide, xC_5, by decide, rfl, Or.inr ⟨"FootOut", List.mem_of_getElem? (i := 38) rfl⟩, Or.inl rfl, rfl, fun h _ => absurd h (by decide)⟩
theorem xF_ok_12_25 : XFok 12 25 5 2 12 := ⟨_, _, _, _, "FootOut$Walk", by decide, by decide, xC_5, by decide, rfl, Or.inr ⟨"FootOut", List.mem_of_getElem? (i := 39) rfl⟩, Or.inl rfl, rfl, fun h _ => absurd h (by decide)⟩
theorem xF_ok_13_15 : XFok 13 15 9 0 10 := ⟨_, _, _, _, "FootOut$Car", by decide, by decide, xC_9, by decide, rfl, Or.inr ⟨"FootOut", List.mem_of_getElem? (i := 40) rfl⟩, Or.inl rfl, rfl, fun h _ => absurd h (by decide)⟩
theorem xF_ok_13_27 : XFok 13 27 5 2 12 := ⟨_, _, _, _, "FootOut$Walk", by decide, by decide, xC_5, by decide, rfl, Or.inr ⟨"FootOut", List.mem_of_getElem? (i := 41) rfl⟩, Or.inl rfl, rfl, fun h _ => absurd h (by decide)⟩
theorem xF_ok_14_15 : XFok 14 15 9 0 10 := ⟨_, _, _, _, "FootOut$Car", by decide, by decide, xC_9, by decide, rfl, Or.inr ⟨"FootOut", List.mem_of_getElem? (i := 48) rfl⟩, Or.inl rfl, rfl, fun h _ => absurd h (by decide)⟩
theorem xF_ok_14_21 : XFok 14 21 5 0 12 := ⟨_, _, _, _, "FootOut$Walk", by decide, by decide, xC_5, by decide, rfl, Or.inr ⟨"FootOut", List.mem_of_getElem? (i := 49) rfl⟩, Or.inl rfl, rfl, fun h _ => absurd h (by decide)⟩
theorem xF_ok_14_25 : XFok 14 25 5 2 12 := ⟨_, _, _, _, "FootOut$Walk", by decide, by decide, xC_5, by decide, rfl, Or.inr ⟨"FootOut", List.mem_of_getElem? (i := 50) rfl⟩, Or.inl rfl, rfl, fun h _ => absurd h (by decide)⟩
theorem xF_ok_15_7 : XFok 15 7 5 6 0 := ⟨_, _, _, _, "FootOut$Walk", by decide, by decide, xC_5, by decide, rfl, Or.inr ⟨"FootOut", List.mem_of_getElem? (i := 42) rfl⟩, Or.inl rfl, rfl, fun h _ => absurd h (by decide)⟩
theorem xF_ok_15_13 : XFok 15 13 5 7 0 := ⟨_, _, _, _, "FootOut$Walk", by decide, by decide, xC_5, by decide, rfl, Or.inr ⟨"FootOut", List.mem_of_getElem? (i := 43) rfl⟩, Or.inl rfl, rfl, fun h _ => absurd h (by decide)⟩
theorem xF_ok_16_7 : XFok 16 7 16 0 10 := ⟨_, _, _, _, "FootOut$Own", by decide, by decide, xC_16, by decide, rfl, Or.inl q848, Or.inl rfl, rfl, fun _ _ => ⟨rfl, q848⟩⟩
theorem xF_ok_16_13 : XFok 16 13 16 1 10 := ⟨_, _, _, _, "FootOut$Own", by decide, by decide, xC_16, by decide, rfl, Or.inl q849, Or.inl rfl, rfl, fun _ _ => ⟨rfl, q849⟩⟩
theorem xF_ok_16_16 : XFok 16 16 5 0 12 := ⟨_, _, _, _, "FootOut$Walk", by decide, by decide, xC_5, by decide, rfl, Or.inr ⟨"FootOut", List.mem_of_getElem? (i := 44) rfl⟩, Or.inl rfl, rfl, fun h _ => absurd h (by decide)⟩
theorem xF_ok_16_22 : XFok 16 22 5 1 12 := ⟨_, _, _, _, "FootOut$Walk", by decide, by decide, xC_5, by decide, rfl, Or.inr ⟨"FootOut", List.mem_of_getElem? (i := 45) rfl⟩, Or.inl rfl, rfl, fun h _ => absurd h (by decide)⟩
theorem xF_ok_16_29 : XFok 16 29 9 0 10 := ⟨_, _, _, _, "FootOut$Car", by decide, by decide, xC_9, by decide, rfl, Or.inr ⟨"FootOut", List.mem_of_getElem? (i := 46) rfl⟩, Or.inl rfl, rfl, fun h _ => absurd h (by decide)⟩
theorem xF_ok_16_34 : XFok 16 34 9 3 10 := ⟨_, _, _, _, "FootOut$Car", by decide, by decide, xC_9, by decide, rfl, Or.inr ⟨"FootOut", List.mem_of_getElem? (i := 47) rfl⟩, Or.inl rfl, rfl, fun h _ => absurd h (by decide)⟩
theorem xF_ok_17_7 : XFok 17 7 17 0 13 := ⟨_, _, _, _, "FootOut$Both", by decide, by decide, xC_17, by decide, rfl, Or.inl q862, Or.inl rfl, rfl, fun _ _ => ⟨rfl, q862⟩⟩
theorem xF_ok_17_13 : XFok 17 13 17 1 12 := ⟨_, _, _, _, "FootOut$Both", by decide, by decide, xC_17, by decide, rfl, Or.inl q863, Or.inl rfl, rfl, fun _ _ => ⟨rfl, q863⟩⟩
theorem xF_ok_17_17 : XFok 17 17 17 2 12 := ⟨_, _, _, _, "FootOut$Both", by decide, by decide, xC_17, by decide, rfl, Or.inl q864, Or.inl rfl, rfl, fun _ _ => ⟨rfl, q864⟩⟩
theorem xF_ok_18_7 : XFok 18 7 18 0 10 := ⟨_, _, _, _, "FootOut$Stop", by decide, by decide, xC_18, by decide, rfl, Or.inl q879, Or.inl rfl, rfl, fun _ _ => ⟨rfl, q879⟩⟩
theorem xF_ok_18_13 : XFok 18 13 18 1 12 := ⟨_, _, _, _, "FootOut$Stop", by decide, by decide, xC_18, by decide, rfl, Or.inl q881, Or.inl rfl, rfl, fun _ _ => ⟨rfl, q881⟩⟩
theorem xF_ok_19_7 : XFok 19 7 19 0 13 := ⟨_, _, _, _, "FootOut$Place", by decide, by decide, xC_19, by decide, rfl, Or.inl q1204, Or.inl rfl, rfl, fun _ _ => ⟨rfl, q1204⟩⟩
theorem xF_ok_19_13 : XFok 19 13 19 1 12 := ⟨_, _, _, _, "FootOut$Place", by decide, by decide, xC_19, by decide, rfl, Or.inl q1206, Or.inl rfl, rfl, fun _ _ => ⟨rfl, q1206⟩⟩
theorem xF_ok_19_17 : XFok 19 17 19 2 12 := ⟨_, _, _, _, "FootOut$Place", by decide, by decide, xC_19, by decide, rfl, Or.inl q1208, Or.inl rfl, rfl, fun _ _ => ⟨rfl, q1208⟩⟩
theorem xF_ok_19_23 : XFok 19 23 19 3 0 := ⟨_, _, _, _, "FootOut$Place", by decide, by decide, xC_19, by decide, rfl, Or.inl q1210, Or.inl rfl, rfl, fun _ h => absurd h (by decide)⟩
theorem xF_ok_21_13 : XFok 21 13 5 0 12 := ⟨_, _, _, _, "FootOut$Walk", by decide, by decide, xC_5, by decide, rfl, Or.inr ⟨"FootOut", List.mem_of_getElem? (i := 62) rfl⟩, Or.inl rfl, rfl, fun h _ => absurd h (by decide)⟩
theorem xF_ok_23_7 : XFok 23 7 4 0 0 := ⟨_, _, _, _, "java/util/AbstractList", by decide, by decide, xC_4, by decide, rfl, Or.inl q202, Or.inl rfl, rfl, fun h _ => absurd h (by decide)⟩
theorem xF_ok_1 : ∀ e ∈ xF_1, XFok 1 e.1 e.2.1 e.2.2.1 e.2.2.2 := List.forall_mem_cons.mpr ⟨xF_ok_1_10, List.forall_mem_cons.mpr ⟨xF_ok_1_16, List.forall_mem_cons.mpr ⟨xF_ok_1_20, List.forall_mem_cons.mpr ⟨xF_ok_1_24, List.forall_mem_cons.mpr ⟨xF_ok_1_28, List.forall_mem_cons.mpr ⟨xF_ok_1_35, List.forall_mem_cons.mpr ⟨xF_ok_1_43, List.forall_mem_cons.mpr ⟨xF_ok_1_47, List.forall_mem_cons.mpr ⟨xF_ok_1_51, List.forall_mem_cons.mpr ⟨xF_ok_1_54, List.forall_mem_cons.mpr ⟨xF_ok_1_57, List.forall_mem_cons.mpr ⟨xF_ok_1_60, List.forall_mem_cons.mpr ⟨xF_ok_1_66, List.forall_mem_cons.mpr ⟨xF_ok_1_70, List.forall_mem_cons.mpr ⟨xF_ok_1_96, List.forall_mem_cons.mpr ⟨xF_ok_1_99, List.forall_mem_cons.mpr ⟨xF_ok_1_102, List.forall_mem_cons.mpr ⟨xF_ok_1_105, List.forall_mem_cons.mpr ⟨xF_ok_1_108, List.forall_mem_cons.mpr ⟨xF_ok_1_115, List.forall_mem_cons.mpr ⟨xF_ok_1_118, List.forall_mem_cons.mpr ⟨xF_ok_1_119, List.forall_mem_cons.mpr ⟨xF_ok_1_124, List.forall_mem_cons.mpr ⟨xF_ok_1_139, List.forall_mem_cons.mpr ⟨xF_ok_1_142, List.forall_mem_cons.mpr ⟨xF_ok_1_145, List.forall_mem_cons.mpr ⟨xF_ok_1_148, List.forall_mem_cons.mpr ⟨xF_ok_1_156, List.forall_mem_cons.mpr ⟨xF_ok_1_175, List.forall_mem_cons.mpr ⟨xF_ok_1_185, List.forall_mem_cons.mpr ⟨xF_ok_1_200, List.forall_mem_cons.mpr ⟨xF_ok_1_209, List.forall_mem_cons.mpr ⟨xF_ok_1_218, List.forall_mem_cons.mpr ⟨xF_ok_1_221, List.forall_mem_cons.mpr ⟨xF_ok_1_234, List.forall_mem_cons.mpr ⟨xF_ok_1_237, List.forall_mem_cons.mpr ⟨xF_ok_1_244, List.forall_mem_cons.mpr ⟨xF_ok_1_249, List.forall_mem_cons.mpr ⟨xF_ok_1_251, List.forall_mem_cons.mpr ⟨xF_ok_1_253, List.forall_mem_cons.mpr ⟨xF_ok_1_257, List.forall_mem_cons.mpr ⟨xF_ok_1_260, List.forall_mem_cons.mpr ⟨xF_ok_1_291, List.forall_mem_cons.mpr ⟨xF_ok_1_328, List.forall_mem_cons.mpr ⟨xF_ok_1_343, List.forall_mem_cons.mpr ⟨xF_ok_1_346, List.forall_mem_cons.mpr ⟨xF_ok_1_350, List.forall_mem_cons.mpr ⟨xF_ok_1_353, List.forall_mem_cons.mpr ⟨xF_ok_1_406, List.forall_mem_cons.mpr ⟨xF_ok_1_409, List.forall_mem_cons.mpr ⟨xF_ok_1_445, List.forall_mem_cons.mpr ⟨xF_ok_1_461, List.forall_mem_cons.mpr ⟨xF_ok_1_485, List.forall_mem_cons.mpr ⟨xF_ok_1_489, List.forall_mem_cons.mpr ⟨xF_ok_1_512, fun _ h => absurd h List.not_mem_nil⟩⟩⟩⟩⟩⟩⟩⟩⟩⟩⟩⟩⟩⟩⟩⟩⟩⟩⟩⟩⟩⟩⟩⟩⟩⟩⟩⟩⟩⟩⟩⟩⟩⟩⟩⟩⟩⟩⟩⟩⟩⟩⟩⟩⟩⟩⟩⟩⟩⟩⟩⟩⟩⟩⟩
theorem xF_ok_2 : ∀ e ∈ xF_2, XFok 2 e.1 e.2.1 e.2.2.1 e.2.2.2 := List.forall_mem_cons.mpr ⟨xF_ok_2_12, List.forall_mem_cons.mpr ⟨xF_ok_2_23, List.forall_mem_cons.mpr ⟨xF_ok_2_27, List.forall_mem_cons.mpr ⟨xF_ok_2_30, List.forall_mem_cons.mpr ⟨xF_ok_2_34, List.forall_mem_cons.mpr ⟨xF_ok_2_37, fun _ h => absurd h List.not_mem_nil⟩⟩⟩⟩⟩⟩
theorem xF_ok_3 : ∀ e ∈ xF_3, XFok 3 e.1 e.2.1 e.2.2.1 e.2.2.2 := List.forall_mem_cons.mpr ⟨xF_ok_3_14, List.forall_mem_cons.mpr ⟨xF_ok_3_20, List.forall_mem_cons.mpr ⟨xF_ok_3_24, List.forall_mem_cons.mpr ⟨xF_ok_3_27, List.forall_mem_cons.mpr ⟨xF_ok_3_30, List.forall_mem_cons.mpr ⟨xF_ok_3_48, List.forall_mem_cons.mpr ⟨xF_ok_3_51, List.forall_mem_cons.mpr ⟨xF_ok_3_54, List.forall_mem_cons.mpr ⟨xF_ok_3_61, fun _ h => absurd h List.not_mem_nil⟩⟩⟩⟩⟩⟩⟩⟩⟩
theorem xF_ok_4 : ∀ e ∈ xF_4, XFok 4 e.1 e.2.1 e.2.2.1 e.2.2.2 := List.forall_mem_cons.mpr ⟨xF_ok_4_9, List.forall_mem_cons.mpr ⟨xF_ok_4_48, List.forall_mem_cons.mpr ⟨xF_ok_4_63, fun _ h => absurd h List.not_mem_nil⟩⟩⟩
theorem xF_ok_5 : ∀ e ∈ xF_5, XFok 5 e.1 e.2.1 e.2.2.1 e.2.2.2 := List.forall_mem_cons.mpr ⟨xF_ok_5_9, List.forall_mem_cons.mpr ⟨xF_ok_5_15, List.forall_mem_cons.mpr ⟨xF_ok_5_18, List.forall_mem_cons.mpr ⟨xF_ok_5_21, List.forall_mem_cons.mpr ⟨xF_ok_5_25, List.forall_mem_cons.mpr ⟨xF_ok_5_28, List.forall_mem_cons.mpr ⟨xF_ok_5_32, List.forall_mem_cons.mpr ⟨xF_ok_5_36, List.forall_mem_cons.mpr ⟨xF_ok_5_39, List.forall_mem_cons.mpr ⟨xF_ok_5_42, List.forall_mem_cons.mpr ⟨xF_ok_5_45, List.forall_mem_cons.mpr ⟨xF_ok_5_48, List.forall_mem_cons.mpr ⟨xF_ok_5_51, List.forall_mem_cons.mpr ⟨xF_ok_5_62, List.forall_mem_cons.mpr ⟨xF_ok_5_71, List.forall_mem_cons.mpr ⟨xF_ok_5_84, List.forall_mem_cons.mpr ⟨xF_ok_5_91, List.forall_mem_cons.mpr ⟨xF_ok_5_94, List.forall_mem_cons.mpr ⟨xF_ok_5_97, List.forall_mem_cons.mpr ⟨xF_ok_5_106, List.forall_mem_cons.mpr ⟨xF_ok_5_116, List.forall_mem_cons.mpr ⟨xF_ok_5_119, List.forall_mem_cons.mpr ⟨xF_ok_5_126, fun _ h => absurd h List.not_mem_nil⟩⟩⟩⟩⟩⟩⟩⟩⟩⟩⟩⟩⟩⟩⟩⟩⟩⟩⟩⟩⟩⟩⟩
theorem xF_ok_6 : ∀ e ∈ xF_6, XFok 6 e.1 e.2.1 e.2.2.1 e.2.2.2 := List.forall_mem_cons.mpr ⟨xF_ok_6_7, fun _ h => absurd h List.not_mem_nil⟩
theorem xF_ok_7 : ∀ e ∈ xF_7, XFok 7 e.1 e.2.1 e.2.2.1 e.2.2.2 := List.forall_mem_cons.mpr ⟨xF_ok_7_1, List.forall_mem_cons.mpr ⟨xF_ok_7_7, List.forall_mem_cons.mpr ⟨xF_ok_7_17, List.forall_mem_cons.mpr ⟨xF_ok_7_20, List.forall_mem_cons.mpr ⟨xF_ok_7_24, List.forall_mem_cons.mpr ⟨xF_ok_7_27, List.forall_mem_cons.mpr ⟨xF_ok_7_30, List.forall_mem_cons.mpr ⟨xF_ok_7_33, List.forall_mem_cons.mpr ⟨xF_ok_7_36, List.forall_mem_cons.mpr ⟨xF_ok_7_39, List.forall_mem_cons.mpr ⟨xF_ok_7_42, List.forall_mem_cons.mpr ⟨xF_ok_7_45, List.forall_mem_cons.mpr ⟨xF_ok_7_48, List.forall_mem_cons.mpr ⟨xF_ok_7_51, List.forall_mem_cons.mpr ⟨xF_ok_7_54, List.forall_mem_cons.mpr ⟨xF_ok_7_58, List.forall_mem_cons.mpr ⟨xF_ok_7_61, List.forall_mem_cons.mpr ⟨xF_ok_7_64, List.forall_mem_cons.mpr ⟨xF_ok_7_67, List.forall_mem_cons.mpr ⟨xF_ok_7_70, List.forall_mem_cons.mpr ⟨xF_ok_7_73, List.forall_mem_cons.mpr ⟨xF_ok_7_76, List.forall_mem_cons.mpr ⟨xF_ok_7_79, List.forall_mem_cons.mpr ⟨xF_ok_7_86, List.forall_mem_cons.mpr ⟨xF_ok_7_93, List.forall_mem_cons.mpr ⟨xF_ok_7_108, List.forall_mem_cons.mpr ⟨xF_ok_7_111, List.forall_mem_cons.mpr ⟨xF_ok_7_117, List.forall_mem_cons.mpr ⟨xF_ok_7_130, List.forall_mem_cons.mpr ⟨xF_ok_7_133, List.forall_mem_cons.mpr ⟨xF_ok_7_136, List.forall_mem_cons.mpr ⟨xF_ok_7_176, List.forall_mem_cons.mpr ⟨xF_ok_7_189, List.forall_mem_cons.mpr ⟨xF_ok_7_207, List.forall_mem_cons.mpr ⟨xF_ok_7_249, List.forall_mem_cons.mpr ⟨xF_ok_7_256, fun _ h => absurd h List.not_mem_nil⟩⟩⟩⟩⟩⟩⟩⟩⟩⟩⟩⟩⟩⟩⟩⟩⟩⟩⟩⟩⟩⟩⟩⟩⟩⟩⟩⟩⟩⟩⟩⟩⟩⟩⟩⟩
theorem xF_ok_8 : ∀ e ∈ xF_8, XFok 8 e.1 e.2.1 e.2.2.1 e.2.2.2 := List.forall_mem_cons.mpr ⟨xF_ok_8_3, List.forall_mem_cons.mpr ⟨xF_ok_8_18, List.forall_mem_cons.mpr ⟨xF_ok_8_27, List.forall_mem_cons.mpr ⟨xF_ok_8_31, List.forall_mem_cons.mpr ⟨xF_ok_8_35, List.forall_mem_cons.mpr ⟨xF_ok_8_38, List.forall_mem_cons.mpr ⟨xF_ok_8_58, List.forall_mem_cons.mpr ⟨xF_ok_8_61, List.forall_mem_cons.mpr ⟨xF_ok_8_64, List.forall_mem_cons.mpr ⟨xF_ok_8_74, List.forall_mem_cons.mpr ⟨xF_ok_8_77, List.forall_mem_cons.mpr ⟨xF_ok_8_129, List.forall_mem_cons.mpr ⟨xF_ok_8_132, List.forall_mem_cons.mpr ⟨xF_ok_8_143, List.forall_mem_cons.mpr ⟨xF_ok_8_160, List.forall_mem_cons.mpr ⟨xF_ok_8_163, List.forall_mem_cons.mpr ⟨xF_ok_8_167, List.forall_mem_cons.mpr ⟨xF_ok_8_171, List.forall_mem_cons.mpr ⟨xF_ok_8_175, List.forall_mem_cons.mpr ⟨xF_ok_8_183, List.forall_mem_cons.mpr ⟨xF_ok_8_234, fun _ h => absurd h List.not_mem_nil⟩⟩⟩⟩⟩⟩⟩⟩⟩⟩⟩⟩⟩⟩⟩⟩⟩⟩⟩⟩⟩
theorem xF_ok_9 : ∀ e ∈ xF_9, XFok 9 e.1 e.2.1 e.2.2.1 e.2.2.2 := List.forall_mem_cons.mpr ⟨xF_ok_9_7, List.forall_mem_cons.mpr ⟨xF_ok_9_13, List.forall_mem_cons.mpr ⟨xF_ok_9_16, List.forall_mem_cons.mpr ⟨xF_ok_9_19, fun _ h => absurd h List.not_mem_nil⟩⟩⟩⟩
theorem xF_ok_10 : ∀ e ∈ xF_10, XFok 10 e.1 e.2.1 e.2.2.1 e.2.2.2 := List.forall_mem_cons.mpr ⟨xF_ok_10_7, fun _ h => absurd h List.not_mem_nil⟩
theorem xF_ok_11 : ∀ e ∈ xF_11, XFok 11 e.1 e.2.1 e.2.2.1 e.2.2.2 := List.forall_mem_cons.mpr ⟨xF_ok_11_7, List.forall_mem_cons.mpr ⟨xF_ok_11_13, List.forall_mem_cons.mpr ⟨xF_ok_11_19, fun _ h => absurd h List.not_mem_nil⟩⟩⟩
theorem xF_ok_12 : ∀ e ∈ xF_12, XFok 12 e.1 e.2.1 e.2.2.1 e.2.2.2 := List.forall_mem_cons.mpr ⟨xF_ok_12_15, List.forall_mem_cons.mpr ⟨xF_ok_12_21, List.forall_mem_cons.mpr ⟨xF_ok_12_25, fun _ h => absurd h List.not_mem_nil⟩⟩⟩
theorem xF_ok_13 : ∀ e ∈ xF_13, XFok 13 e.1 e.2.1 e.2.2.1 e.2.2.2 := List.forall_mem_cons.mpr ⟨xF_ok_13_15, List.forall_mem_cons.mpr ⟨xF_ok_13_27, fun _ h => absurd h List.not_mem_nil⟩⟩
theorem xF_ok_14 : ∀ e ∈ xF_14, XFok 14 e.1 e.2.1 e.2.2.1 e.2.2.2 := List.forall_mem_cons.mpr ⟨xF_ok_14_15, List.forall_mem_cons.mpr ⟨xF_ok_14_21, List.forall_mem_cons.mpr ⟨xF_ok_14_25, fun _ h => absurd h List.not_mem_nil⟩⟩⟩
theorem xF_ok_15 : ∀ e ∈ xF_15, XFok 15 e.1 e.2.1 e.2.2.1 e.2.2.2 := List.forall_mem_cons.mpr ⟨xF_ok_15_7, List.forall_mem_cons.mpr ⟨xF_ok_15_13, fun _ h => absurd h List.not_mem_nil⟩⟩
theorem xF_ok_16 : ∀ e ∈ xF_16, XFok 16 e.1 e.2.1 e.2.2.1 e.2.2.2 := List.forall_mem_cons.mpr ⟨xF_ok_16_7, List.forall_mem_cons.mpr ⟨xF_ok_16_13, List.forall_mem_cons.mpr ⟨xF_ok_16_16, List.forall_mem_cons.mpr ⟨xF_ok_16_22, List.forall_mem_cons.mpr ⟨xF_ok_16_29, List.forall_mem_cons.mpr ⟨xF_ok_16_34, fun _ h => absurd h List.not_mem_nil⟩⟩⟩⟩⟩⟩
theorem xF_ok_17 : ∀ e ∈ xF_17, XFok 17 e.1 e.2.1 e.2.2.1 e.2.2.2 := List.forall_mem_cons.mpr ⟨xF_ok_17_7, List.forall_mem_cons.mpr ⟨xF_ok_17_13, List.forall_mem_cons.mpr ⟨xF_ok_17_17, fun _ h => absurd h List.not_mem_nil⟩⟩⟩
theorem xF_ok_18 : ∀ e ∈ xF_18, XFok 18 e.1 e.2.1 e.2.2.1 e.2.2.2 := List.forall_mem_cons.mpr ⟨xF_ok_18_7, List.forall_mem_cons.mpr ⟨xF_ok_18_13, fun _ h => absurd h List.not_mem_nil⟩⟩
theorem xF_ok_19 : ∀ e ∈ xF_19, XFok 19 e.1 e.2.1 e.2.2.1 e.2.2.2 := List.forall_mem_cons.mpr ⟨xF_ok_19_7, List.forall_mem_cons.mpr ⟨xF_ok_19_13, List.forall_mem_cons.mpr ⟨xF_ok_19_17, List.forall_mem_cons.mpr ⟨xF_ok_19_23, fun _ h => absurd h List.not_mem_nil⟩⟩⟩⟩
theorem xF_ok_21 : ∀ e ∈ xF_21, XFok 21 e.1 e.2.1 e.2.2.1 e.2.2.2 := List.forall_mem_cons.mpr ⟨xF_ok_21_13, fun _ h => absurd h List.not_mem_nil⟩
theorem xF_ok_23 : ∀ e ∈ xF_23, XFok 23 e.1 e.2.1 e.2.2.1 e.2.2.2 := List.forall_mem_cons.mpr ⟨xF_ok_23_7, fun _ h => absurd h List.not_mem_nil⟩
theorem xF_ok : ∀ own k t j kd, xF own k = some (t, j, kd) → XFok own k t j kd := by
  intro own k t j kd h
  unfold xF at h
  split at h
  · exact xF_ok_1 _ (xlk_mem h)
  · exact xF_ok_2 _ (xlk_mem h)
  · exact xF_ok_3 _ (xlk_mem h)
  · exact xF_ok_4 _ (xlk_mem h)
  · exact xF_ok_5 _ (xlk_mem h)
  · exact xF_ok_6 _ (xlk_mem h)
  · exact xF_ok_7 _ (xlk_mem h)
  · exact xF_ok_8 _ (xlk_mem h)
  · exact xF_ok_9 _ (xlk_mem h)
  · exact xF_ok_10 _ (xlk_mem h)
  · exact xF_ok_11 _ (xlk_mem h)
  · exact xF_ok_12 _ (xlk_mem h)
  · exact xF_ok_13 _ (xlk_mem h)
  · exact xF_ok_14 _ (xlk_mem h)
  · exact xF_ok_15 _ (xlk_mem h)
  · exact xF_ok_16 _ (xlk_mem h)
  · exact xF_ok_17 _ (xlk_mem h)
  · exact xF_ok_18 _ (xlk_mem h)
  · exact xF_ok_19 _ (xlk_mem h)
  · exact xF_ok_21 _ (xlk_mem h)
  · exact xF_ok_23 _ (xlk_mem h)
  · cases h
theorem xN_ok_0_7 : XNok 0 7 1 18 := ⟨_, _, _, by decide, by decide, xC_1, q164⟩
theorem xN_ok_0_10 : XNok 0 10 7 36 := ⟨_, _, _, by decide, by decide, xC_7, q1612⟩
theorem xN_ok_1_7 : XNok 1 7 2 6 := ⟨_, _, _, by decide, by decide, xC_2, q172⟩
theorem xN_ok_1_32 : XNok 1 32 5 13 := ⟨_, _, _, by decide, by decide, xC_5, q287⟩
theorem xN_ok_1_63 : XNok 1 63 6 1 := ⟨_, _, _, by decide, by decide, xC_6, q361⟩
theorem xN_ok_1_85 : XNok 1 85 8 11 := ⟨_, _, _, by decide, by decide, xC_8, q449⟩
theorem xN_ok_1_110 : XNok 1 110 4 3 := ⟨_, _, _, by decide, by decide, xC_4, q1159⟩
theorem xN_ok_1_333 : XNok 1 333 19 4 := ⟨_, _, _, by decide, by decide, xC_19, q1198⟩
theorem xN_ok_2_9 : XNok 2 9 3 8 := ⟨_, _, _, by decide, by decide, xC_3, q178⟩
theorem xN_ok_2_13 : XNok 2 13 2 6 := ⟨_, _, _, by decide, by decide, xC_2, q1587⟩
theorem xN_ok_2_18 : XNok 2 18 4 3 := ⟨_, _, _, by decide, by decide, xC_4, q258⟩
theorem xN_ok_3_9 : XNok 3 9 4 3 := ⟨_, _, _, by decide, by decide, xC_4, q184⟩
theorem xN_ok_3_15 : XNok 3 15 3 8 := ⟨_, _, _, by decide, by decide, xC_3, q1170⟩
theorem xN_ok_8_15 : XNok 8 15 3 8 := ⟨_, _, _, by decide, by decide, xC_3, q455⟩
theorem xN_ok_8_22 : XNok 8 22 4 3 := ⟨_, _, _, by decide, by decide, xC_4, q457⟩
theorem xN_ok_8_141 : XNok 8 141 9 4 := ⟨_, _, _, by decide, by decide, xC_9, q610⟩
theorem xN_ok_8_214 : XNok 8 214 18 2 := ⟨_, _, _, by decide, by decide, xC_18, q873⟩
theorem xN_ok_8_224 : XNok 8 224 17 3 := ⟨_, _, _, by decide, by decide, xC_17, q856⟩
theorem xN_ok_8_242 : XNok 8 242 10 1 := ⟨_, _, _, by decide, by decide, xC_10, q777⟩
theorem xN_ok_8_247 : XNok 8 247 11 1 := ⟨_, _, _, by decide, by decide, xC_11, q790⟩
theorem xN_ok_8_252 : XNok 8 252 12 0 := ⟨_, _, _, by decide, by decide, xC_12, q801⟩
theorem xN_ok_8_257 : XNok 8 257 13 0 := ⟨_, _, _, by decide, by decide, xC_13, q812⟩
theorem xN_ok_8_262 : XNok 8 262 14 0 := ⟨_, _, _, by decide, by decide, xC_14, q820⟩
theorem xN_ok_8_266 : XNok 8 266 15 0 := ⟨_, _, _, by decide, by decide, xC_15, q828⟩
theorem xN_ok_8_277 : XNok 8 277 16 2 := ⟨_, _, _, by decide, by decide, xC_16, q842⟩
theorem xN_ok_19_8 : XNok 19 8 19 4 := ⟨_, _, _, by decide, by decide, xC_19, q1597⟩
theorem xN_ok_0 : ∀ e ∈ xN_0, XNok 0 e.1 e.2.1 e.2.2 := List.forall_mem_cons.mpr ⟨xN_ok_0_7, List.forall_mem_cons.mpr ⟨xN_ok_0_10, fun _ h => absurd h List.not_mem_nil⟩⟩
theorem xN_ok_1 : ∀ e ∈ xN_1, XNok 1 e.1 e.2.1 e.2.2 := List.forall_mem_cons.mpr ⟨xN_ok_1_7, List.forall_mem_cons.mpr ⟨xN_ok_1_32, List.forall_mem_cons.mpr ⟨xN_ok_1_63, List.forall_mem_cons.mpr ⟨xN_ok_1_85, List.forall_mem_cons.mpr ⟨xN_ok_1_110, List.forall_mem_cons.mpr ⟨xN_ok_1_333, fun _ h => absurd h List.not_mem_nil⟩⟩⟩⟩⟩⟩
theorem xN_ok_2 : ∀ e ∈ xN_2, XNok 2 e.1 e.2.1 e.2.2 := List.forall_mem_cons.mpr ⟨xN_ok_2_9, List.forall_mem_cons.mpr ⟨xN_ok_2_13, List.forall_mem_cons.mpr ⟨xN_ok_2_18, fun _ h => absurd h List.not_mem_nil⟩⟩⟩
theorem xN_ok_3 : ∀ e ∈ xN_3, XNok 3 e.1 e.2.1 e.2.2 := List.forall_mem_cons.mpr ⟨xN_ok_3_9, List.forall_mem_cons.mpr ⟨xN_ok_3_15, fun _ h => absurd h List.not_mem_nil⟩⟩
theorem xN_ok_8 : ∀ e ∈ xN_8, XNok 8 e.1 e.2.1 e.2.2 := List.forall_mem_cons.mpr ⟨xN_ok_8_15, List.forall_mem_cons.mpr ⟨xN_ok_8_22, List.forall_mem_cons.mpr ⟨xN_ok_8_141, List.forall_mem_cons.mpr ⟨xN_ok_8_214, List.forall_mem_cons.mpr ⟨xN_ok_8_224, List.forall_mem_cons.mpr ⟨xN_ok_8_242, List.forall_mem_cons.mpr ⟨xN_ok_8_247, List.forall_mem_cons.mpr ⟨xN_ok_8_252, List.forall_mem_cons.mpr ⟨xN_ok_8_257, List.forall_mem_cons.mpr ⟨xN_ok_8_262, List.forall_mem_cons.mpr ⟨xN_ok_8_266, List.forall_mem_cons.mpr ⟨xN_ok_8_277, fun _ h => absurd h List.not_mem_nil⟩⟩⟩⟩⟩⟩⟩⟩⟩⟩⟩⟩
theorem xN_ok_19 : ∀ e ∈ xN_19, XNok 19 e.1 e.2.1 e.2.2 := List.forall_mem_cons.mpr ⟨xN_ok_19_8, fun _ h => absurd h List.not_mem_nil⟩
theorem xN_ok : ∀ own k t N, xN own k = some (t, N) → XNok own k t N := by
  intro own k t N h
  unfold xN at h
  split at h
  · exact xN_ok_0 _ (xlk_mem h)
  · exact xN_ok_1 _ (xlk_mem h)
  · exact xN_ok_2 _ (xlk_mem h)
  · exact xN_ok_3 _ (xlk_mem h)
  · exact xN_ok_8 _ (xlk_mem h)
  · exact xN_ok_19 _ (xlk_mem h)
  · cases h
theorem xQ_ok_1_7 : XQok 1 7 48 := ⟨by decide, by decide, q172, List.mem_of_getElem? (i := 3) rfl⟩
theorem xQ_ok_1_32 : XQok 1 32 46 := ⟨by decide, by decide, q287, List.mem_of_getElem? (i := 1) rfl⟩
theorem xQ_ok_1_63 : XQok 1 63 47 := ⟨by decide, by decide, q361, List.mem_of_getElem? (i := 2) rfl⟩
theorem xQ_ok_4_7 : XQok 4 7 45 := ⟨by decide, by decide, q196, List.mem_of_getElem? (i := 0) rfl⟩
theorem xQ_ok_1 : ∀ e ∈ xQ_1, XQok 1 e.1 e.2 := List.forall_mem_cons.mpr ⟨xQ_ok_1_7, List.forall_mem_cons.mpr ⟨xQ_ok_1_32, List.forall_mem_cons.mpr ⟨xQ_ok_1_63, fun _ h => absurd h List.not_mem_nil⟩⟩⟩
theorem xQ_ok_4 : ∀ e ∈ xQ_4, XQok 4 e.1 e.2 := List.forall_mem_cons.mpr ⟨xQ_ok_4_7, fun _ h => absurd h List.not_mem_nil⟩
theorem xQ_ok : ∀ own k t, xQ own k = some t → XQok own k t := by
  intro own k t h
  unfold xQ at h
  split at h
  · exact xQ_ok_1 _ (xlk_mem h)
  · exact xQ_ok_4 _ (xlk_mem h)
  · cases h
theorem xnc_ok (t : Nat) (ht : t = 40 ∨ t = 41 ∨ t = 43) : ∀ u, 40 ≤ u → u ≤ 44 → u ≠ t → (xan u, xan t) ∈ xnc := by
  intro u h1 h2 h3
  have hu : u = 40 ∨ u = 41 ∨ u = 42 ∨ u = 43 ∨ u = 44 := by omega
  rcases ht with rfl | rfl | rfl <;> rcases hu with rfl | rfl | rfl | rfl | rfl <;> first | exact absurd rfl h3 | exact List.elem_iff.mp (by decide +kernel)
theorem xT_ok_1_137 : XTok 1 137 9 := Or.inl ⟨by decide, by decide, _, _, _, _, xC_9, q903⟩
theorem xT_ok_1_173 : XTok 1 173 18 := Or.inl ⟨by decide, by decide, _, _, _, _, xC_18, q961⟩
theorem xT_ok_1_333 : XTok 1 333 19 := Or.inl ⟨by decide, by decide, _, _, _, _, xC_19, q1198⟩
theorem xT_ok_2_53 : XTok 2 53 19 := Or.inl ⟨by decide, by decide, _, _, _, _, xC_19, q1592⟩
theorem xT_ok_3_42 : XTok 3 42 9 := Or.inl ⟨by decide, by decide, _, _, _, _, xC_9, q955⟩
theorem xT_ok_5_63 : XTok 5 63 9 := Or.inl ⟨by decide, by decide, _, _, _, _, xC_9, q946⟩
theorem xT_ok_6_15 : XTok 6 15 41 := Or.inr (Or.inl ⟨by decide, by decide, q1369, xnc_ok 41 (by decide)⟩)
theorem xT_ok_6_17 : XTok 6 17 43 := Or.inr (Or.inl ⟨by decide, by decide, q1370, xnc_ok 43 (by decide)⟩)
theorem xT_ok_6_19 : XTok 6 19 40 := Or.inr (Or.inl ⟨by decide, by decide, q1371, xnc_ok 40 (by decide)⟩)
theorem xT_ok_6_21 : XTok 6 21 44 := Or.inr (Or.inr ⟨rfl, q1372⟩)
theorem xT_ok_8_141 : XTok 8 141 9 := Or.inl ⟨by decide, by decide, _, _, _, _, xC_9, q610⟩
theorem xT_ok_1 : ∀ e ∈ xT_1, XTok 1 e.1 e.2 := List.forall_mem_cons.mpr ⟨xT_ok_1_137, List.forall_mem_cons.mpr ⟨xT_ok_1_173, List.forall_mem_cons.mpr ⟨xT_ok_1_333, fun _ h => absurd h List.not_mem_nil⟩⟩⟩
theorem xT_ok_2 : ∀ e ∈ xT_2, XTok 2 e.1 e.2 := List.forall_mem_cons.mpr ⟨xT_ok_2_53, fun _ h => absurd h List.not_mem_nil⟩
theorem xT_ok_3 : ∀ e ∈ xT_3, XTok 3 e.1 e.2 := List.forall_mem_cons.mpr ⟨xT_ok_3_42, fun _ h => absurd h List.not_mem_nil⟩
theorem xT_ok_5 : ∀ e ∈ xT_5, XTok 5 e.1 e.2 := List.forall_mem_cons.mpr ⟨xT_ok_5_63, fun _ h => absurd h List.not_mem_nil⟩
theorem xT_ok_6 : ∀ e ∈ xT_6, XTok 6 e.1 e.2 := List.forall_mem_cons.mpr ⟨xT_ok_6_15, List.forall_mem_cons.mpr ⟨xT_ok_6_17, List.forall_mem_cons.mpr ⟨xT_ok_6_19, List.forall_mem_cons.mpr ⟨xT_ok_6_21, fun _ h => absurd h List.not_mem_nil⟩⟩⟩⟩
theorem xT_ok_8 : ∀ e ∈ xT_8, XTok 8 e.1 e.2 := List.forall_mem_cons.mpr ⟨xT_ok_8_141, fun _ h => absurd h List.not_mem_nil⟩
theorem xT_ok : ∀ own k t, xT own k = some t → XTok own k t := by
  intro own k t h
  unfold xT at h
  split at h
  · exact xT_ok_1 _ (xlk_mem h)
  · exact xT_ok_2 _ (xlk_mem h)
  · exact xT_ok_3 _ (xlk_mem h)
  · exact xT_ok_5 _ (xlk_mem h)
  · exact xT_ok_6 _ (xlk_mem h)
  · exact xT_ok_8 _ (xlk_mem h)
  · cases h
theorem xK_ok_1_199 : XKok 1 199 (.int (nI 1103515245)) := q1039
theorem xK_ok_1_391 : XKok 1 391 (.int ((-1000000))) := q1272
theorem xK_ok_7_96 : XKok 7 96 (.ref 30) := ⟨" lanes car at pace kind old pram foot eye two lamp hump paint line gap waits sight stop if or and not near fast lane ahead beside passed in ", List.mem_of_getElem? (i := 29) rfl, by decide⟩
theorem xK_ok_7_252 : XKok 7 252 (.int (nI 1103515245)) := q1901
theorem xK_ok_7_334 : XKok 7 334 (.int ((-1000000))) := q2050
theorem xK_ok_8_107 : XKok 8 107 (.ref 10) := ⟨"old", List.mem_of_getElem? (i := 9) rfl, by decide⟩
theorem xK_ok_8_109 : XKok 8 109 (.ref 11) := ⟨"pram", List.mem_of_getElem? (i := 10) rfl, by decide⟩
theorem xK_ok_8_111 : XKok 8 111 (.ref 12) := ⟨"foot", List.mem_of_getElem? (i := 11) rfl, by decide⟩
theorem xK_ok_8_113 : XKok 8 113 (.ref 13) := ⟨"eye", List.mem_of_getElem? (i := 12) rfl, by decide⟩
theorem xK_ok_8_115 : XKok 8 115 (.ref 14) := ⟨"two", List.mem_of_getElem? (i := 13) rfl, by decide⟩
theorem xK_ok_8_117 : XKok 8 117 (.ref 15) := ⟨"lamp", List.mem_of_getElem? (i := 14) rfl, by decide⟩
theorem xK_ok_8_119 : XKok 8 119 (.ref 16) := ⟨"hump", List.mem_of_getElem? (i := 15) rfl, by decide⟩
theorem xK_ok_8_121 : XKok 8 121 (.ref 17) := ⟨"paint", List.mem_of_getElem? (i := 16) rfl, by decide⟩
theorem xK_ok_8_151 : XKok 8 151 (.ref 1) := ⟨"car", List.mem_of_getElem? (i := 0) rfl, by decide⟩
theorem xK_ok_8_155 : XKok 8 155 (.ref 5) := ⟨"lanes", List.mem_of_getElem? (i := 4) rfl, by decide⟩
theorem xK_ok_8_162 : XKok 8 162 (.ref 6) := ⟨"line", List.mem_of_getElem? (i := 5) rfl, by decide⟩
theorem xK_ok_8_165 : XKok 8 165 (.ref 7) := ⟨"gap", List.mem_of_getElem? (i := 6) rfl, by decide⟩
theorem xK_ok_8_169 : XKok 8 169 (.ref 8) := ⟨"waits", List.mem_of_getElem? (i := 7) rfl, by decide⟩
theorem xK_ok_8_173 : XKok 8 173 (.ref 9) := ⟨"sight", List.mem_of_getElem? (i := 8) rfl, by decide⟩
theorem xK_ok_8_190 : XKok 8 190 (.ref 2) := ⟨"at", List.mem_of_getElem? (i := 1) rfl, by decide⟩
theorem xK_ok_8_195 : XKok 8 195 (.ref 3) := ⟨"pace", List.mem_of_getElem? (i := 2) rfl, by decide⟩
theorem xK_ok_8_197 : XKok 8 197 (.ref 4) := ⟨"kind", List.mem_of_getElem? (i := 3) rfl, by decide⟩
theorem xK_ok_8_206 : XKok 8 206 (.ref 18) := ⟨"stop", List.mem_of_getElem? (i := 17) rfl, by decide⟩
theorem xK_ok_8_208 : XKok 8 208 (.ref 19) := ⟨"if", List.mem_of_getElem? (i := 18) rfl, by decide⟩
theorem xK_ok_8_222 : XKok 8 222 (.ref 29) := ⟨"or", List.mem_of_getElem? (i := 28) rfl, by decide⟩
theorem xK_ok_8_232 : XKok 8 232 (.ref 28) := ⟨"and", List.mem_of_getElem? (i := 27) rfl, by decide⟩
theorem xK_ok_8_237 : XKok 8 237 (.ref 20) := ⟨"not", List.mem_of_getElem? (i := 19) rfl, by decide⟩
theorem xK_ok_8_250 : XKok 8 250 (.ref 21) := ⟨"ahead", List.mem_of_getElem? (i := 20) rfl, by decide⟩
theorem xK_ok_8_255 : XKok 8 255 (.ref 22) := ⟨"beside", List.mem_of_getElem? (i := 21) rfl, by decide⟩
theorem xK_ok_8_260 : XKok 8 260 (.ref 23) := ⟨"passed", List.mem_of_getElem? (i := 22) rfl, by decide⟩
theorem xK_ok_8_265 : XKok 8 265 (.ref 24) := ⟨"in", List.mem_of_getElem? (i := 23) rfl, by decide⟩
theorem xK_ok_8_272 : XKok 8 272 (.ref 25) := ⟨"near", List.mem_of_getElem? (i := 24) rfl, by decide⟩
theorem xK_ok_8_274 : XKok 8 274 (.ref 26) := ⟨"fast", List.mem_of_getElem? (i := 25) rfl, by decide⟩
theorem xK_ok_8_276 : XKok 8 276 (.ref 27) := ⟨"lane", List.mem_of_getElem? (i := 26) rfl, by decide⟩
theorem xK_ok_27_200 : XKok 27 200 (.int (nI 2147483639)) := q667
theorem xK_ok_29_265 : XKok 29 265 (.int (nI 1431655765)) := q1129
theorem xK_ok_29_266 : XKok 29 266 (.int (nI 858993459)) := q1130
theorem xK_ok_29_267 : XKok 29 267 (.int (nI 252645135)) := q1131
theorem xK_ok_1 : ∀ e ∈ xK_1, XKok 1 e.1 e.2 := List.forall_mem_cons.mpr ⟨xK_ok_1_199, List.forall_mem_cons.mpr ⟨xK_ok_1_391, fun _ h => absurd h List.not_mem_nil⟩⟩
theorem xK_ok_7 : ∀ e ∈ xK_7, XKok 7 e.1 e.2 := List.forall_mem_cons.mpr ⟨xK_ok_7_96, List.forall_mem_cons.mpr ⟨xK_ok_7_252, List.forall_mem_cons.mpr ⟨xK_ok_7_334, fun _ h => absurd h List.not_mem_nil⟩⟩⟩
theorem xK_ok_8 : ∀ e ∈ xK_8, XKok 8 e.1 e.2 := List.forall_mem_cons.mpr ⟨xK_ok_8_107, List.forall_mem_cons.mpr ⟨xK_ok_8_109, List.forall_mem_cons.mpr ⟨xK_ok_8_111, List.forall_mem_cons.mpr ⟨xK_ok_8_113, List.forall_mem_cons.mpr ⟨xK_ok_8_115, List.forall_mem_cons.mpr ⟨xK_ok_8_117, List.forall_mem_cons.mpr ⟨xK_ok_8_119, List.forall_mem_cons.mpr ⟨xK_ok_8_121, List.forall_mem_cons.mpr ⟨xK_ok_8_151, List.forall_mem_cons.mpr ⟨xK_ok_8_155, List.forall_mem_cons.mpr ⟨xK_ok_8_162, List.forall_mem_cons.mpr ⟨xK_ok_8_165, List.forall_mem_cons.mpr ⟨xK_ok_8_169, List.forall_mem_cons.mpr ⟨xK_ok_8_173, List.forall_mem_cons.mpr ⟨xK_ok_8_190, List.forall_mem_cons.mpr ⟨xK_ok_8_195, List.forall_mem_cons.mpr ⟨xK_ok_8_197, List.forall_mem_cons.mpr ⟨xK_ok_8_206, List.forall_mem_cons.mpr ⟨xK_ok_8_208, List.forall_mem_cons.mpr ⟨xK_ok_8_222, List.forall_mem_cons.mpr ⟨xK_ok_8_232, List.forall_mem_cons.mpr ⟨xK_ok_8_237, List.forall_mem_cons.mpr ⟨xK_ok_8_250, List.forall_mem_cons.mpr ⟨xK_ok_8_255, List.forall_mem_cons.mpr ⟨xK_ok_8_260, List.forall_mem_cons.mpr ⟨xK_ok_8_265, List.forall_mem_cons.mpr ⟨xK_ok_8_272, List.forall_mem_cons.mpr ⟨xK_ok_8_274, List.forall_mem_cons.mpr ⟨xK_ok_8_276, fun _ h => absurd h List.not_mem_nil⟩⟩⟩⟩⟩⟩⟩⟩⟩⟩⟩⟩⟩⟩⟩⟩⟩⟩⟩⟩⟩⟩⟩⟩⟩⟩⟩⟩⟩
theorem xK_ok_27 : ∀ e ∈ xK_27, XKok 27 e.1 e.2 := List.forall_mem_cons.mpr ⟨xK_ok_27_200, fun _ h => absurd h List.not_mem_nil⟩
theorem xK_ok_29 : ∀ e ∈ xK_29, XKok 29 e.1 e.2 := List.forall_mem_cons.mpr ⟨xK_ok_29_265, List.forall_mem_cons.mpr ⟨xK_ok_29_266, List.forall_mem_cons.mpr ⟨xK_ok_29_267, fun _ h => absurd h List.not_mem_nil⟩⟩⟩
theorem xK_ok : ∀ own k v, xK own k = some v → XKok own k v := by
  intro own k v h
  unfold xK at h
  split at h
  · exact xK_ok_1 _ (xlk_mem h)
  · exact xK_ok_7 _ (xlk_mem h)
  · exact xK_ok_8 _ (xlk_mem h)
  · exact xK_ok_27 _ (xlk_mem h)
  · exact xK_ok_29 _ (xlk_mem h)
  · cases h
theorem xJ_ok_0_196 : XJok 0 196 (4294967295) := q2203
theorem xJ_ok_1_131 : XJok 1 131 (3) := q901
theorem xJ_ok_1_151 : XJok 1 151 (7) := q911
theorem xJ_ok_1_159 : XJok 1 159 (30) := q916
theorem xJ_ok_1_161 : XJok 1 161 (20) := q917
theorem xJ_ok_1_163 : XJok 1 163 (60) := q918
theorem xJ_ok_1_165 : XJok 1 165 (200) := q919
theorem xJ_ok_1_228 : XJok 1 228 (5) := q1020
theorem xJ_ok_1_247 : XJok 1 247 (99) := q1084
theorem xJ_ok_1_263 : XJok 1 263 (100) := q1109
theorem xJ_ok_1_289 : XJok 1 289 (1000) := q1136
theorem xJ_ok_1_331 : XJok 1 331 (300) := q1197
theorem xJ_ok_1_341 : XJok 1 341 (600) := q1229
theorem xJ_ok_1_412 : XJok 1 412 (10000) := q1322
theorem xJ_ok_1_426 : XJok 1 426 (999) := q1313
theorem xJ_ok_1_431 : XJok 1 431 (4) := q1349
theorem xJ_ok_1_443 : XJok 1 443 (2) := q1364
theorem xJ_ok_1_453 : XJok 1 453 (9999) := q1377
theorem xJ_ok_1_459 : XJok 1 459 (-99) := q1389
theorem xJ_ok_1_472 : XJok 1 472 (1000000) := q1405
theorem xJ_ok_1_474 : XJok 1 474 (100000000) := q1406
theorem xJ_ok_5_100 : XJok 5 100 (3) := q1052
theorem xJ_ok_7_172 : XJok 7 172 (5) := q1802
theorem xJ_ok_7_174 : XJok 7 174 (12) := q1803
theorem xJ_ok_7_195 : XJok 7 195 (22) := q1824
theorem xJ_ok_7_197 : XJok 7 197 (28) := q1825
theorem xJ_ok_7_199 : XJok 7 199 (24) := q1826
theorem xJ_ok_7_213 : XJok 7 213 (3) := q1839
theorem xJ_ok_7_215 : XJok 7 215 (7) := q1844
theorem xJ_ok_7_217 : XJok 7 217 (30) := q1849
theorem xJ_ok_7_219 : XJok 7 219 (20) := q1850
theorem xJ_ok_7_221 : XJok 7 221 (60) := q1851
theorem xJ_ok_7_223 : XJok 7 223 (200) := q1852
theorem xJ_ok_7_281 : XJok 7 281 (99) := q1930
theorem xJ_ok_7_286 : XJok 7 286 (100) := q1955
theorem xJ_ok_7_306 : XJok 7 306 (1000) := q1979
theorem xJ_ok_7_308 : XJok 7 308 (-1) := q1984
theorem xJ_ok_7_314 : XJok 7 314 (300) := q2012
theorem xJ_ok_7_319 : XJok 7 319 (600) := q2021
theorem xJ_ok_7_353 : XJok 7 353 (999) := q2083
theorem xJ_ok_7_361 : XJok 7 361 (4) := q2112
theorem xJ_ok_7_363 : XJok 7 363 (2) := q2121
theorem xJ_ok_7_365 : XJok 7 365 (9999) := q2122
theorem xJ_ok_7_367 : XJok 7 367 (-99) := q2131
theorem xJ_ok_7_377 : XJok 7 377 (1000000) := q2148
theorem xJ_ok_7_379 : XJok 7 379 (100000000) := q2149
theorem xJ_ok_7_381 : XJok 7 381 (10000) := q2150
theorem xJ_ok_7_395 : XJok 7 395 (40) := q2179
theorem xJ_ok_8_46 : XJok 8 46 (97) := q513
theorem xJ_ok_8_48 : XJok 8 48 (122) := q514
theorem xJ_ok_8_54 : XJok 8 54 (48) := q520
theorem xJ_ok_8_56 : XJok 8 56 (57) := q521
theorem xJ_ok_0 : ∀ e ∈ xJ_0, XJok 0 e.1 e.2 := List.forall_mem_cons.mpr ⟨xJ_ok_0_196, fun _ h => absurd h List.not_mem_nil⟩
theorem xJ_ok_1 : ∀ e ∈ xJ_1, XJok 1 e.1 e.2 := List.forall_mem_cons.mpr ⟨xJ_ok_1_131, List.forall_mem_cons.mpr ⟨xJ_ok_1_151, List.forall_mem_cons.mpr ⟨xJ_ok_1_159, List.forall_mem_cons.mpr ⟨xJ_ok_1_161, List.forall_mem_cons.mpr ⟨xJ_ok_1_163, List.forall_mem_cons.mpr ⟨xJ_ok_1_165, List.forall_mem_cons.mpr ⟨xJ_ok_1_228, List.forall_mem_cons.mpr ⟨xJ_ok_1_247, List.forall_mem_cons.mpr ⟨xJ_ok_1_263, List.forall_mem_cons.mpr ⟨xJ_ok_1_289, List.forall_mem_cons.mpr ⟨xJ_ok_1_331, List.forall_mem_cons.mpr ⟨xJ_ok_1_341, List.forall_mem_cons.mpr ⟨xJ_ok_1_412, List.forall_mem_cons.mpr ⟨xJ_ok_1_426, List.forall_mem_cons.mpr ⟨xJ_ok_1_431, List.forall_mem_cons.mpr ⟨xJ_ok_1_443, List.forall_mem_cons.mpr ⟨xJ_ok_1_453, List.forall_mem_cons.mpr ⟨xJ_ok_1_459, List.forall_mem_cons.mpr ⟨xJ_ok_1_472, List.forall_mem_cons.mpr ⟨xJ_ok_1_474, fun _ h => absurd h List.not_mem_nil⟩⟩⟩⟩⟩⟩⟩⟩⟩⟩⟩⟩⟩⟩⟩⟩⟩⟩⟩⟩
theorem xJ_ok_5 : ∀ e ∈ xJ_5, XJok 5 e.1 e.2 := List.forall_mem_cons.mpr ⟨xJ_ok_5_100, fun _ h => absurd h List.not_mem_nil⟩
theorem xJ_ok_7 : ∀ e ∈ xJ_7, XJok 7 e.1 e.2 := List.forall_mem_cons.mpr ⟨xJ_ok_7_172, List.forall_mem_cons.mpr ⟨xJ_ok_7_174, List.forall_mem_cons.mpr ⟨xJ_ok_7_195, List.forall_mem_cons.mpr ⟨xJ_ok_7_197, List.forall_mem_cons.mpr ⟨xJ_ok_7_199, List.forall_mem_cons.mpr ⟨xJ_ok_7_213, List.forall_mem_cons.mpr ⟨xJ_ok_7_215, List.forall_mem_cons.mpr ⟨xJ_ok_7_217, List.forall_mem_cons.mpr ⟨xJ_ok_7_219, List.forall_mem_cons.mpr ⟨xJ_ok_7_221, List.forall_mem_cons.mpr ⟨xJ_ok_7_223, List.forall_mem_cons.mpr ⟨xJ_ok_7_281, List.forall_mem_cons.mpr ⟨xJ_ok_7_286, List.forall_mem_cons.mpr ⟨xJ_ok_7_306, List.forall_mem_cons.mpr ⟨xJ_ok_7_308, List.forall_mem_cons.mpr ⟨xJ_ok_7_314, List.forall_mem_cons.mpr ⟨xJ_ok_7_319, List.forall_mem_cons.mpr ⟨xJ_ok_7_353, List.forall_mem_cons.mpr ⟨xJ_ok_7_361, List.forall_mem_cons.mpr ⟨xJ_ok_7_363, List.forall_mem_cons.mpr ⟨xJ_ok_7_365, List.forall_mem_cons.mpr ⟨xJ_ok_7_367, List.forall_mem_cons.mpr ⟨xJ_ok_7_377, List.forall_mem_cons.mpr ⟨xJ_ok_7_379, List.forall_mem_cons.mpr ⟨xJ_ok_7_381, List.forall_mem_cons.mpr ⟨xJ_ok_7_395, fun _ h => absurd h List.not_mem_nil⟩⟩⟩⟩⟩⟩⟩⟩⟩⟩⟩⟩⟩⟩⟩⟩⟩⟩⟩⟩⟩⟩⟩⟩⟩⟩
theorem xJ_ok_8 : ∀ e ∈ xJ_8, XJok 8 e.1 e.2 := List.forall_mem_cons.mpr ⟨xJ_ok_8_46, List.forall_mem_cons.mpr ⟨xJ_ok_8_48, List.forall_mem_cons.mpr ⟨xJ_ok_8_54, List.forall_mem_cons.mpr ⟨xJ_ok_8_56, fun _ h => absurd h List.not_mem_nil⟩⟩⟩⟩
theorem xJ_ok : ∀ own k v, xJ own k = some v → XJok own k v := by
  intro own k v h
  unfold xJ at h
  split at h
  · exact xJ_ok_0 _ (xlk_mem h)
  · exact xJ_ok_1 _ (xlk_mem h)
  · exact xJ_ok_5 _ (xlk_mem h)
  · exact xJ_ok_7 _ (xlk_mem h)
  · exact xJ_ok_8 _ (xlk_mem h)
  · cases h
theorem xM_J0_init : XMok mJ0_init := ⟨by decide +kernel, by decide +kernel, q194, q127, rfl, fun _ => rfl, by decide⟩
theorem xM_J1_init : XMok mJ1_init := ⟨by decide +kernel, by decide +kernel, q191, q128, rfl, fun _ => rfl, by decide⟩
theorem xM_J10_checkIndex : XMok mJ10_checkIndex := ⟨by decide +kernel, by decide +kernel, q723, q143, rfl, fun h => absurd h (by decide), by decide⟩
theorem xM_J11_bitCount : XMok mJ11_bitCount := ⟨by decide +kernel, by decide +kernel, q1128, q155, rfl, fun h => absurd h (by decide), by decide⟩
theorem xM_J2_init : XMok mJ2_init := ⟨by decide +kernel, by decide +kernel, q188, q129, rfl, fun _ => rfl, by decide⟩
theorem xM_J2_size : XMok mJ2_size := ⟨by decide +kernel, by decide +kernel, q586, q129, rfl, fun h => absurd h (by decide), by decide⟩
theorem xM_J2_add : XMok mJ2_add := ⟨by decide +kernel, by decide +kernel, q646, q129, rfl, fun h => absurd h (by decide), by decide⟩
theorem xM_J2_add_2 : XMok mJ2_add_2 := ⟨by decide +kernel, by decide +kernel, q650, q129, rfl, fun h => absurd h (by decide), by decide⟩
theorem xM_J2_grow : XMok mJ2_grow := ⟨by decide +kernel, by decide +kernel, q654, q129, rfl, fun h => absurd h (by decide), by decide⟩
theorem xM_J2_grow_2 : XMok mJ2_grow_2 := ⟨by decide +kernel, by decide +kernel, q658, q129, rfl, fun h => absurd h (by decide), by decide⟩
theorem xM_J2_get : XMok mJ2_get := ⟨by decide +kernel, by decide +kernel, q720, q129, rfl, fun h => absurd h (by decide), by decide⟩
theorem xM_J2_elementData : XMok mJ2_elementData := ⟨by decide +kernel, by decide +kernel, q728, q129, rfl, fun h => absurd h (by decide), by decide⟩
theorem xM_J2_remove : XMok mJ2_remove := ⟨by decide +kernel, by decide +kernel, q1177, q129, rfl, fun h => absurd h (by decide), by decide⟩
theorem xM_J2_fastRemove : XMok mJ2_fastRemove := ⟨by decide +kernel, by decide +kernel, q1181, q129, rfl, fun h => absurd h (by decide), by decide⟩
theorem xM_J5_checkIndex : XMok mJ5_checkIndex := ⟨by decide +kernel, by decide +kernel, q559, q136, rfl, fun h => absurd h (by decide), by decide⟩
theorem xM_J7_newLength : XMok mJ7_newLength := ⟨by decide +kernel, by decide +kernel, q663, q139, rfl, fun h => absurd h (by decide), by decide⟩
theorem xM_X0_init : XMok mX0_init := ⟨by decide +kernel, by decide +kernel, q168, q124, rfl, fun _ => rfl, by decide⟩
theorem xM_X0_walks : XMok mX0_walks := ⟨by decide +kernel, by decide +kernel, q359, q124, rfl, fun h => absurd h (by decide), by decide⟩
theorem xM_X0_feed : XMok mX0_feed := ⟨by decide +kernel, by decide +kernel, q433, q124, rfl, fun h => absurd h (by decide), by decide⟩
theorem xM_X0_no : XMok mX0_no := ⟨by decide +kernel, by decide +kernel, q437, q124, rfl, fun h => absurd h (by decide), by decide⟩
theorem xM_X0_bytes : XMok mX0_bytes := ⟨by decide +kernel, by decide +kernel, q441, q124, rfl, fun h => absurd h (by decide), by decide⟩
theorem xM_X0_text : XMok mX0_text := ⟨by decide +kernel, by decide +kernel, q445, q124, rfl, fun h => absurd h (by decide), by decide⟩
theorem xM_X0_in : XMok mX0_in := ⟨by decide +kernel, by decide +kernel, q448, q124, rfl, fun h => absurd h (by decide), by decide⟩
theorem xM_X0_fault : XMok mX0_fault := ⟨by decide +kernel, by decide +kernel, q892, q124, rfl, fun h => absurd h (by decide), by decide⟩
theorem xM_X0_car : XMok mX0_car := ⟨by decide +kernel, by decide +kernel, q896, q124, rfl, fun h => absurd h (by decide), by decide⟩
theorem xM_X0_isCar : XMok mX0_isCar := ⟨by decide +kernel, by decide +kernel, q900, q124, rfl, fun h => absurd h (by decide), by decide⟩
theorem xM_X0_trait : XMok mX0_trait := ⟨by decide +kernel, by decide +kernel, q907, q124, rfl, fun h => absurd h (by decide), by decide⟩
theorem xM_X0_isTrait : XMok mX0_isTrait := ⟨by decide +kernel, by decide +kernel, q910, q124, rfl, fun h => absurd h (by decide), by decide⟩
theorem xM_X0_set : XMok mX0_set := ⟨by decide +kernel, by decide +kernel, q915, q124, rfl, fun h => absurd h (by decide), by decide⟩
theorem xM_X0_chance : XMok mX0_chance := ⟨by decide +kernel, by decide +kernel, q931, q124, rfl, fun h => absurd h (by decide), by decide⟩
theorem xM_X0_has : XMok mX0_has := ⟨by decide +kernel, by decide +kernel, q953, q124, rfl, fun h => absurd h (by decide), by decide⟩
theorem xM_X0_chanceOf : XMok mX0_chanceOf := ⟨by decide +kernel, by decide +kernel, q960, q124, rfl, fun h => absurd h (by decide), by decide⟩
theorem xM_X0_can : XMok mX0_can := ⟨by decide +kernel, by decide +kernel, q1011, q124, rfl, fun h => absurd h (by decide), by decide⟩
theorem xM_X0_run : XMok mX0_run := ⟨by decide +kernel, by decide +kernel, q1019, q124, rfl, fun h => absurd h (by decide), by decide⟩
theorem xM_X0_runs : XMok mX0_runs := ⟨by decide +kernel, by decide +kernel, q1024, q124, rfl, fun h => absurd h (by decide), by decide⟩
theorem xM_X0_tick : XMok mX0_tick := ⟨by decide +kernel, by decide +kernel, q1028, q124, rfl, fun h => absurd h (by decide), by decide⟩
theorem xM_X0_draw : XMok mX0_draw := ⟨by decide +kernel, by decide +kernel, q1038, q124, rfl, fun h => absurd h (by decide), by decide⟩
theorem xM_X0_stopped : XMok mX0_stopped := ⟨by decide +kernel, by decide +kernel, q1079, q124, rfl, fun h => absurd h (by decide), by decide⟩
theorem xM_X0_watch : XMok mX0_watch := ⟨by decide +kernel, by decide +kernel, q1083, q124, rfl, fun h => absurd h (by decide), by decide⟩
theorem xM_X0_stands : XMok mX0_stands := ⟨by decide +kernel, by decide +kernel, q1088, q124, rfl, fun h => absurd h (by decide), by decide⟩
theorem xM_X0_tries : XMok mX0_tries := ⟨by decide +kernel, by decide +kernel, q1092, q124, rfl, fun h => absurd h (by decide), by decide⟩
theorem xM_X0_odds : XMok mX0_odds := ⟨by decide +kernel, by decide +kernel, q1096, q124, rfl, fun h => absurd h (by decide), by decide⟩
theorem xM_X0_gathers : XMok mX0_gathers := ⟨by decide +kernel, by decide +kernel, q1100, q124, rfl, fun h => absurd h (by decide), by decide⟩
theorem xM_X0_forks : XMok mX0_forks := ⟨by decide +kernel, by decide +kernel, q1104, q124, rfl, fun h => absurd h (by decide), by decide⟩
theorem xM_X0_counts : XMok mX0_counts := ⟨by decide +kernel, by decide +kernel, q1113, q124, rfl, fun h => absurd h (by decide), by decide⟩
theorem xM_X0_helps : XMok mX0_helps := ⟨by decide +kernel, by decide +kernel, q1117, q124, rfl, fun h => absurd h (by decide), by decide⟩
theorem xM_X0_overBy : XMok mX0_overBy := ⟨by decide +kernel, by decide +kernel, q1121, q124, rfl, fun h => absurd h (by decide), by decide⟩
theorem xM_X0_best : XMok mX0_best := ⟨by decide +kernel, by decide +kernel, q1125, q124, rfl, fun h => absurd h (by decide), by decide⟩
theorem xM_X0_back : XMok mX0_back := ⟨by decide +kernel, by decide +kernel, q1135, q124, rfl, fun h => absurd h (by decide), by decide⟩
theorem xM_X0_isAtMost : XMok mX0_isAtMost := ⟨by decide +kernel, by decide +kernel, q1139, q124, rfl, fun h => absurd h (by decide), by decide⟩
theorem xM_X0_wise : XMok mX0_wise := ⟨by decide +kernel, by decide +kernel, q1143, q124, rfl, fun h => absurd h (by decide), by decide⟩
theorem xM_X0_blame : XMok mX0_blame := ⟨by decide +kernel, by decide +kernel, q1147, q124, rfl, fun h => absurd h (by decide), by decide⟩
theorem xM_X0_mean : XMok mX0_mean := ⟨by decide +kernel, by decide +kernel, q1151, q124, rfl, fun h => absurd h (by decide), by decide⟩
theorem xM_X0_commonOf : XMok mX0_commonOf := ⟨by decide +kernel, by decide +kernel, q1154, q124, rfl, fun h => absurd h (by decide), by decide⟩
theorem xM_X0_repeals : XMok mX0_repeals := ⟨by decide +kernel, by decide +kernel, q1158, q124, rfl, fun h => absurd h (by decide), by decide⟩
theorem xM_X0_absent : XMok mX0_absent := ⟨by decide +kernel, by decide +kernel, q1165, q124, rfl, fun h => absurd h (by decide), by decide⟩
theorem xM_X0_margin : XMok mX0_margin := ⟨by decide +kernel, by decide +kernel, q1186, q124, rfl, fun h => absurd h (by decide), by decide⟩
theorem xM_X0_off : XMok mX0_off := ⟨by decide +kernel, by decide +kernel, q1190, q124, rfl, fun h => absurd h (by decide), by decide⟩
theorem xM_X0_place : XMok mX0_place := ⟨by decide +kernel, by decide +kernel, q1196, q124, rfl, fun h => absurd h (by decide), by decide⟩
theorem xM_X0_behind : XMok mX0_behind := ⟨by decide +kernel, by decide +kernel, q1224, q124, rfl, fun h => absurd h (by decide), by decide⟩
theorem xM_X0_isPlace : XMok mX0_isPlace := ⟨by decide +kernel, by decide +kernel, q1228, q124, rfl, fun h => absurd h (by decide), by decide⟩
theorem xM_X0_at : XMok mX0_at := ⟨by decide +kernel, by decide +kernel, q1233, q124, rfl, fun h => absurd h (by decide), by decide⟩
theorem xM_X0_rate : XMok mX0_rate := ⟨by decide +kernel, by decide +kernel, q1237, q124, rfl, fun h => absurd h (by decide), by decide⟩
theorem xM_X0_common : XMok mX0_common := ⟨by decide +kernel, by decide +kernel, q1248, q124, rfl, fun h => absurd h (by decide), by decide⟩
theorem xM_X0_parted : XMok mX0_parted := ⟨by decide +kernel, by decide +kernel, q1252, q124, rfl, fun h => absurd h (by decide), by decide⟩
theorem xM_X0_above : XMok mX0_above := ⟨by decide +kernel, by decide +kernel, q1256, q124, rfl, fun h => absurd h (by decide), by decide⟩
theorem xM_X0_sumOf : XMok mX0_sumOf := ⟨by decide +kernel, by decide +kernel, q1260, q124, rfl, fun h => absurd h (by decide), by decide⟩
theorem xM_X0_below : XMok mX0_below := ⟨by decide +kernel, by decide +kernel, q1264, q124, rfl, fun h => absurd h (by decide), by decide⟩
theorem xM_X0_worst : XMok mX0_worst := ⟨by decide +kernel, by decide +kernel, q1271, q124, rfl, fun h => absurd h (by decide), by decide⟩
theorem xM_X0_worstOf : XMok mX0_worstOf := ⟨by decide +kernel, by decide +kernel, q1276, q124, rfl, fun h => absurd h (by decide), by decide⟩
theorem xM_X0_fallOf : XMok mX0_fallOf := ⟨by decide +kernel, by decide +kernel, q1281, q124, rfl, fun h => absurd h (by decide), by decide⟩
theorem xM_X0_matches : XMok mX0_matches := ⟨by decide +kernel, by decide +kernel, q1290, q124, rfl, fun h => absurd h (by decide), by decide⟩
theorem xM_X0_apart : XMok mX0_apart := ⟨by decide +kernel, by decide +kernel, q1294, q124, rfl, fun h => absurd h (by decide), by decide⟩
theorem xM_X0_ranked : XMok mX0_ranked := ⟨by decide +kernel, by decide +kernel, q1299, q124, rfl, fun h => absurd h (by decide), by decide⟩
theorem xM_X0_isWorse : XMok mX0_isWorse := ⟨by decide +kernel, by decide +kernel, q1303, q124, rfl, fun h => absurd h (by decide), by decide⟩
theorem xM_X0_measure : XMok mX0_measure := ⟨by decide +kernel, by decide +kernel, q1308, q124, rfl, fun h => absurd h (by decide), by decide⟩
theorem xM_X0_spent : XMok mX0_spent := ⟨by decide +kernel, by decide +kernel, q1312, q124, rfl, fun h => absurd h (by decide), by decide⟩
theorem xM_X0_laysSpent : XMok mX0_laysSpent := ⟨by decide +kernel, by decide +kernel, q1317, q124, rfl, fun h => absurd h (by decide), by decide⟩
theorem xM_X0_spends : XMok mX0_spends := ⟨by decide +kernel, by decide +kernel, q1321, q124, rfl, fun h => absurd h (by decide), by decide⟩
theorem xM_X0_leftAt : XMok mX0_leftAt := ⟨by decide +kernel, by decide +kernel, q1326, q124, rfl, fun h => absurd h (by decide), by decide⟩
theorem xM_X0_costOf : XMok mX0_costOf := ⟨by decide +kernel, by decide +kernel, q1330, q124, rfl, fun h => absurd h (by decide), by decide⟩
theorem xM_X0_fine : XMok mX0_fine := ⟨by decide +kernel, by decide +kernel, q1337, q124, rfl, fun h => absurd h (by decide), by decide⟩
theorem xM_X0_until : XMok mX0_until := ⟨by decide +kernel, by decide +kernel, q1341, q124, rfl, fun h => absurd h (by decide), by decide⟩
theorem xM_X0_lot : XMok mX0_lot := ⟨by decide +kernel, by decide +kernel, q1345, q124, rfl, fun h => absurd h (by decide), by decide⟩
theorem xM_X0_spread : XMok mX0_spread := ⟨by decide +kernel, by decide +kernel, q1348, q124, rfl, fun h => absurd h (by decide), by decide⟩
theorem xM_X0_shown : XMok mX0_shown := ⟨by decide +kernel, by decide +kernel, q1353, q124, rfl, fun h => absurd h (by decide), by decide⟩
theorem xM_X0_cube : XMok mX0_cube := ⟨by decide +kernel, by decide +kernel, q1356, q124, rfl, fun h => absurd h (by decide), by decide⟩
theorem xM_X0_clumps : XMok mX0_clumps := ⟨by decide +kernel, by decide +kernel, q1360, q124, rfl, fun h => absurd h (by decide), by decide⟩
theorem xM_X0_isRow : XMok mX0_isRow := ⟨by decide +kernel, by decide +kernel, q1363, q124, rfl, fun h => absurd h (by decide), by decide⟩
theorem xM_X0_lamp : XMok mX0_lamp := ⟨by decide +kernel, by decide +kernel, q1381, q124, rfl, fun h => absurd h (by decide), by decide⟩
theorem xM_X0_waste : XMok mX0_waste := ⟨by decide +kernel, by decide +kernel, q1384, q124, rfl, fun h => absurd h (by decide), by decide⟩
theorem xM_X0_pay : XMok mX0_pay := ⟨by decide +kernel, by decide +kernel, q1388, q124, rfl, fun h => absurd h (by decide), by decide⟩
theorem xM_X0_payAt : XMok mX0_payAt := ⟨by decide +kernel, by decide +kernel, q1392, q124, rfl, fun h => absurd h (by decide), by decide⟩
theorem xM_X0_rests : XMok mX0_rests := ⟨by decide +kernel, by decide +kernel, q1396, q124, rfl, fun h => absurd h (by decide), by decide⟩
theorem xM_X0_isContent : XMok mX0_isContent := ⟨by decide +kernel, by decide +kernel, q1400, q124, rfl, fun h => absurd h (by decide), by decide⟩
theorem xM_X0_thanks : XMok mX0_thanks := ⟨by decide +kernel, by decide +kernel, q1404, q124, rfl, fun h => absurd h (by decide), by decide⟩
theorem xM_X0_filled : XMok mX0_filled := ⟨by decide +kernel, by decide +kernel, q1410, q124, rfl, fun h => absurd h (by decide), by decide⟩
theorem xM_X0_countsFault : XMok mX0_countsFault := ⟨by decide +kernel, by decide +kernel, q1414, q124, rfl, fun h => absurd h (by decide), by decide⟩
theorem xM_X0_filledAt : XMok mX0_filledAt := ⟨by decide +kernel, by decide +kernel, q1418, q124, rfl, fun h => absurd h (by decide), by decide⟩
theorem xM_X0_nearest : XMok mX0_nearest := ⟨by decide +kernel, by decide +kernel, q1422, q124, rfl, fun h => absurd h (by decide), by decide⟩
theorem xM_X0_slip : XMok mX0_slip := ⟨by decide +kernel, by decide +kernel, q1426, q124, rfl, fun h => absurd h (by decide), by decide⟩
theorem xM_X0_isCounted : XMok mX0_isCounted := ⟨by decide +kernel, by decide +kernel, q1430, q124, rfl, fun h => absurd h (by decide), by decide⟩
theorem xM_X0_slips : XMok mX0_slips := ⟨by decide +kernel, by decide +kernel, q1434, q124, rfl, fun h => absurd h (by decide), by decide⟩
theorem xM_X0_numbers : XMok mX0_numbers := ⟨by decide +kernel, by decide +kernel, q1438, q124, rfl, fun h => absurd h (by decide), by decide⟩
theorem xM_X0_image : XMok mX0_image := ⟨by decide +kernel, by decide +kernel, q1582, q124, rfl, fun h => absurd h (by decide), by decide⟩
theorem xM_X0_restore : XMok mX0_restore := ⟨by decide +kernel, by decide +kernel, q1603, q124, rfl, fun h => absurd h (by decide), by decide⟩
theorem xM_X0_status : XMok mX0_status := ⟨by decide +kernel, by decide +kernel, q1607, q124, rfl, fun h => absurd h (by decide), by decide⟩
theorem xM_X0_count : XMok mX0_count := ⟨by decide +kernel, by decide +kernel, q1611, q124, rfl, fun h => absurd h (by decide), by decide⟩
theorem xM_X1_init : XMok mX1_init := ⟨by decide +kernel, by decide +kernel, q176, q125, rfl, fun _ => rfl, by decide⟩
theorem xM_X1_copy : XMok mX1_copy := ⟨by decide +kernel, by decide +kernel, q1586, q125, rfl, fun h => absurd h (by decide), by decide⟩
theorem xM_X10_init : XMok mX10_init := ⟨by decide +kernel, by decide +kernel, q794, q146, rfl, fun _ => rfl, by decide⟩
theorem xM_X10_is : XMok mX10_is := ⟨by decide +kernel, by decide +kernel, q1001, q146, rfl, fun h => absurd h (by decide), by decide⟩
theorem xM_X11_init : XMok mX11_init := ⟨by decide +kernel, by decide +kernel, q808, q147, rfl, fun _ => rfl, by decide⟩
theorem xM_X11_is : XMok mX11_is := ⟨by decide +kernel, by decide +kernel, q967, q147, rfl, fun h => absurd h (by decide), by decide⟩
theorem xM_X12_init : XMok mX12_init := ⟨by decide +kernel, by decide +kernel, q805, q148, rfl, fun _ => rfl, by decide⟩
theorem xM_X12_isSo : XMok mX12_isSo := ⟨by decide +kernel, by decide +kernel, q974, q148, rfl, fun h => absurd h (by decide), by decide⟩
theorem xM_X13_init : XMok mX13_init := ⟨by decide +kernel, by decide +kernel, q816, q149, rfl, fun _ => rfl, by decide⟩
theorem xM_X13_isSo : XMok mX13_isSo := ⟨by decide +kernel, by decide +kernel, q978, q149, rfl, fun h => absurd h (by decide), by decide⟩
theorem xM_X14_init : XMok mX14_init := ⟨by decide +kernel, by decide +kernel, q824, q150, rfl, fun _ => rfl, by decide⟩
theorem xM_X14_isSo : XMok mX14_isSo := ⟨by decide +kernel, by decide +kernel, q985, q150, rfl, fun h => absurd h (by decide), by decide⟩
theorem xM_X15_init : XMok mX15_init := ⟨by decide +kernel, by decide +kernel, q832, q151, rfl, fun _ => rfl, by decide⟩
theorem xM_X15_is : XMok mX15_is := ⟨by decide +kernel, by decide +kernel, q996, q151, rfl, fun h => absurd h (by decide), by decide⟩
theorem xM_X16_init : XMok mX16_init := ⟨by decide +kernel, by decide +kernel, q846, q152, rfl, fun _ => rfl, by decide⟩
theorem xM_X16_is : XMok mX16_is := ⟨by decide +kernel, by decide +kernel, q998, q152, rfl, fun h => absurd h (by decide), by decide⟩
theorem xM_X17_init : XMok mX17_init := ⟨by decide +kernel, by decide +kernel, q860, q153, rfl, fun _ => rfl, by decide⟩
theorem xM_X17_is : XMok mX17_is := ⟨by decide +kernel, by decide +kernel, q990, q153, rfl, fun h => absurd h (by decide), by decide⟩
theorem xM_X18_init : XMok mX18_init := ⟨by decide +kernel, by decide +kernel, q877, q154, rfl, fun _ => rfl, by decide⟩
theorem xM_X19_init : XMok mX19_init := ⟨by decide +kernel, by decide +kernel, q1202, q156, rfl, fun _ => rfl, by decide⟩
theorem xM_X19_hurt : XMok mX19_hurt := ⟨by decide +kernel, by decide +kernel, q1241, q156, rfl, fun h => absurd h (by decide), by decide⟩
theorem xM_X19_crossing : XMok mX19_crossing := ⟨by decide +kernel, by decide +kernel, q1245, q156, rfl, fun h => absurd h (by decide), by decide⟩
theorem xM_X19_fall : XMok mX19_fall := ⟨by decide +kernel, by decide +kernel, q1285, q156, rfl, fun h => absurd h (by decide), by decide⟩
theorem xM_X19_copy : XMok mX19_copy := ⟨by decide +kernel, by decide +kernel, q1596, q156, rfl, fun h => absurd h (by decide), by decide⟩
theorem xM_X2_init : XMok mX2_init := ⟨by decide +kernel, by decide +kernel, q182, q126, rfl, fun _ => rfl, by decide⟩
theorem xM_X2_get : XMok mX2_get := ⟨by decide +kernel, by decide +kernel, q923, q126, rfl, fun h => absurd h (by decide), by decide⟩
theorem xM_X2_put : XMok mX2_put := ⟨by decide +kernel, by decide +kernel, q927, q126, rfl, fun h => absurd h (by decide), by decide⟩
theorem xM_X2_pace : XMok mX2_pace := ⟨by decide +kernel, by decide +kernel, q950, q126, rfl, fun h => absurd h (by decide), by decide⟩
theorem xM_X2_copy : XMok mX2_copy := ⟨by decide +kernel, by decide +kernel, q1169, q126, rfl, fun h => absurd h (by decide), by decide⟩
theorem xM_X3_init : XMok mX3_init := ⟨by decide +kernel, by decide +kernel, q291, q130, rfl, fun _ => rfl, by decide⟩
theorem xM_X3_begins : XMok mX3_begins := ⟨by decide +kernel, by decide +kernel, q935, q130, rfl, fun h => absurd h (by decide), by decide⟩
theorem xM_X3_many : XMok mX3_many := ⟨by decide +kernel, by decide +kernel, q939, q130, rfl, fun h => absurd h (by decide), by decide⟩
theorem xM_X3_car : XMok mX3_car := ⟨by decide +kernel, by decide +kernel, q944, q130, rfl, fun h => absurd h (by decide), by decide⟩
theorem xM_X3_can : XMok mX3_can := ⟨by decide +kernel, by decide +kernel, q1015, q130, rfl, fun h => absurd h (by decide), by decide⟩
theorem xM_X3_isAsked : XMok mX3_isAsked := ⟨by decide +kernel, by decide +kernel, q1033, q130, rfl, fun h => absurd h (by decide), by decide⟩
theorem xM_X3_goesOn : XMok mX3_goesOn := ⟨by decide +kernel, by decide +kernel, q1043, q130, rfl, fun h => absurd h (by decide), by decide⟩
theorem xM_X3_isFree : XMok mX3_isFree := ⟨by decide +kernel, by decide +kernel, q1047, q130, rfl, fun h => absurd h (by decide), by decide⟩
theorem xM_X3_isHidden : XMok mX3_isHidden := ⟨by decide +kernel, by decide +kernel, q1051, q130, rfl, fun h => absurd h (by decide), by decide⟩
theorem xM_X3_isAtKerb : XMok mX3_isAtKerb := ⟨by decide +kernel, by decide +kernel, q1056, q130, rfl, fun h => absurd h (by decide), by decide⟩
theorem xM_X3_moves : XMok mX3_moves := ⟨by decide +kernel, by decide +kernel, q1061, q130, rfl, fun h => absurd h (by decide), by decide⟩
theorem xM_X3_nearest : XMok mX3_nearest := ⟨by decide +kernel, by decide +kernel, q1065, q130, rfl, fun h => absurd h (by decide), by decide⟩
theorem xM_X3_goes : XMok mX3_goes := ⟨by decide +kernel, by decide +kernel, q1069, q130, rfl, fun h => absurd h (by decide), by decide⟩
theorem xM_X3_crosses : XMok mX3_crosses := ⟨by decide +kernel, by decide +kernel, q1075, q130, rfl, fun h => absurd h (by decide), by decide⟩
theorem xM_X3_be : XMok mX3_be := ⟨by decide +kernel, by decide +kernel, q1108, q130, rfl, fun h => absurd h (by decide), by decide⟩
theorem xM_X4_init : XMok mX4_init := ⟨by decide +kernel, by decide +kernel, q366, q131, rfl, fun _ => rfl, by decide⟩
theorem xM_X4_many : XMok mX4_many := ⟨by decide +kernel, by decide +kernel, q1368, q131, rfl, fun h => absurd h (by decide), by decide⟩
theorem xM_X4_number : XMok mX4_number := ⟨by decide +kernel, by decide +kernel, q1376, q131, rfl, fun h => absurd h (by decide), by decide⟩
theorem xM_X5_init : XMok mX5_init := ⟨by decide +kernel, by decide +kernel, q1616, q132, rfl, fun _ => rfl, by decide⟩
theorem xM_X5_plain : XMok mX5_plain := ⟨by decide +kernel, by decide +kernel, q1620, q132, rfl, fun h => absurd h (by decide), by decide⟩
theorem xM_X5_feed : XMok mX5_feed := ⟨by decide +kernel, by decide +kernel, q1733, q132, rfl, fun h => absurd h (by decide), by decide⟩
theorem xM_X5_no : XMok mX5_no := ⟨by decide +kernel, by decide +kernel, q1737, q132, rfl, fun h => absurd h (by decide), by decide⟩
theorem xM_X5_text : XMok mX5_text := ⟨by decide +kernel, by decide +kernel, q1741, q132, rfl, fun h => absurd h (by decide), by decide⟩
theorem xM_X5_within : XMok mX5_within := ⟨by decide +kernel, by decide +kernel, q1744, q132, rfl, fun h => absurd h (by decide), by decide⟩
theorem xM_X5_next : XMok mX5_next := ⟨by decide +kernel, by decide +kernel, q1748, q132, rfl, fun h => absurd h (by decide), by decide⟩
theorem xM_X5_see : XMok mX5_see := ⟨by decide +kernel, by decide +kernel, q1752, q132, rfl, fun h => absurd h (by decide), by decide⟩
theorem xM_X5_isSmall : XMok mX5_isSmall := ⟨by decide +kernel, by decide +kernel, q1755, q132, rfl, fun h => absurd h (by decide), by decide⟩
theorem xM_X5_keyAt : XMok mX5_keyAt := ⟨by decide +kernel, by decide +kernel, q1759, q132, rfl, fun h => absurd h (by decide), by decide⟩
theorem xM_X5_isDigit : XMok mX5_isDigit := ⟨by decide +kernel, by decide +kernel, q1765, q132, rfl, fun h => absurd h (by decide), by decide⟩
theorem xM_X5_readLine : XMok mX5_readLine := ⟨by decide +kernel, by decide +kernel, q1769, q132, rfl, fun h => absurd h (by decide), by decide⟩
theorem xM_X5_eats : XMok mX5_eats := ⟨by decide +kernel, by decide +kernel, q1773, q132, rfl, fun h => absurd h (by decide), by decide⟩
theorem xM_X5_is : XMok mX5_is := ⟨by decide +kernel, by decide +kernel, q1777, q132, rfl, fun h => absurd h (by decide), by decide⟩
theorem xM_X5_lanesNeeded : XMok mX5_lanesNeeded := ⟨by decide +kernel, by decide +kernel, q1781, q132, rfl, fun h => absurd h (by decide), by decide⟩
theorem xM_X5_takes : XMok mX5_takes := ⟨by decide +kernel, by decide +kernel, q1785, q132, rfl, fun h => absurd h (by decide), by decide⟩
theorem xM_X5_fails : XMok mX5_fails := ⟨by decide +kernel, by decide +kernel, q1789, q132, rfl, fun h => absurd h (by decide), by decide⟩
theorem xM_X5_readCar : XMok mX5_readCar := ⟨by decide +kernel, by decide +kernel, q1793, q132, rfl, fun h => absurd h (by decide), by decide⟩
theorem xM_X5_needs : XMok mX5_needs := ⟨by decide +kernel, by decide +kernel, q1797, q132, rfl, fun h => absurd h (by decide), by decide⟩
theorem xM_X5_readTrait : XMok mX5_readTrait := ⟨by decide +kernel, by decide +kernel, q1801, q132, rfl, fun h => absurd h (by decide), by decide⟩
theorem xM_X5_readLaw : XMok mX5_readLaw := ⟨by decide +kernel, by decide +kernel, q1807, q132, rfl, fun h => absurd h (by decide), by decide⟩
theorem xM_X5_readTest : XMok mX5_readTest := ⟨by decide +kernel, by decide +kernel, q1811, q132, rfl, fun h => absurd h (by decide), by decide⟩
theorem xM_X5_readPart : XMok mX5_readPart := ⟨by decide +kernel, by decide +kernel, q1815, q132, rfl, fun h => absurd h (by decide), by decide⟩
theorem xM_X5_readFact : XMok mX5_readFact := ⟨by decide +kernel, by decide +kernel, q1819, q132, rfl, fun h => absurd h (by decide), by decide⟩
theorem xM_X5_emit : XMok mX5_emit := ⟨by decide +kernel, by decide +kernel, q1823, q132, rfl, fun h => absurd h (by decide), by decide⟩
theorem xM_X5_fault : XMok mX5_fault := ⟨by decide +kernel, by decide +kernel, q1830, q132, rfl, fun h => absurd h (by decide), by decide⟩
theorem xM_X5_car : XMok mX5_car := ⟨by decide +kernel, by decide +kernel, q1834, q132, rfl, fun h => absurd h (by decide), by decide⟩
theorem xM_X5_isCar : XMok mX5_isCar := ⟨by decide +kernel, by decide +kernel, q1838, q132, rfl, fun h => absurd h (by decide), by decide⟩
theorem xM_X5_trait : XMok mX5_trait := ⟨by decide +kernel, by decide +kernel, q1843, q132, rfl, fun h => absurd h (by decide), by decide⟩
theorem xM_X5_set : XMok mX5_set := ⟨by decide +kernel, by decide +kernel, q1848, q132, rfl, fun h => absurd h (by decide), by decide⟩
theorem xM_X5_chance : XMok mX5_chance := ⟨by decide +kernel, by decide +kernel, q1856, q132, rfl, fun h => absurd h (by decide), by decide⟩
theorem xM_X5_begins : XMok mX5_begins := ⟨by decide +kernel, by decide +kernel, q1860, q132, rfl, fun h => absurd h (by decide), by decide⟩
theorem xM_X5_hasTrait : XMok mX5_hasTrait := ⟨by decide +kernel, by decide +kernel, q1864, q132, rfl, fun h => absurd h (by decide), by decide⟩
theorem xM_X5_stopsBy : XMok mX5_stopsBy := ⟨by decide +kernel, by decide +kernel, q1868, q132, rfl, fun h => absurd h (by decide), by decide⟩
theorem xM_X5_isSo : XMok mX5_isSo := ⟨by decide +kernel, by decide +kernel, q1872, q132, rfl, fun h => absurd h (by decide), by decide⟩
theorem xM_X5_fact : XMok mX5_fact := ⟨by decide +kernel, by decide +kernel, q1876, q132, rfl, fun h => absurd h (by decide), by decide⟩
theorem xM_X5_isSome : XMok mX5_isSome := ⟨by decide +kernel, by decide +kernel, q1880, q132, rfl, fun h => absurd h (by decide), by decide⟩
theorem xM_X5_can : XMok mX5_can := ⟨by decide +kernel, by decide +kernel, q1884, q132, rfl, fun h => absurd h (by decide), by decide⟩
theorem xM_X5_canStop : XMok mX5_canStop := ⟨by decide +kernel, by decide +kernel, q1888, q132, rfl, fun h => absurd h (by decide), by decide⟩
theorem xM_X5_run : XMok mX5_run := ⟨by decide +kernel, by decide +kernel, q1892, q132, rfl, fun h => absurd h (by decide), by decide⟩
theorem xM_X5_runs : XMok mX5_runs := ⟨by decide +kernel, by decide +kernel, q1896, q132, rfl, fun h => absurd h (by decide), by decide⟩
theorem xM_X5_decides : XMok mX5_decides := ⟨by decide +kernel, by decide +kernel, q1900, q132, rfl, fun h => absurd h (by decide), by decide⟩
theorem xM_X5_ticks : XMok mX5_ticks := ⟨by decide +kernel, by decide +kernel, q1905, q132, rfl, fun h => absurd h (by decide), by decide⟩
theorem xM_X5_isFree : XMok mX5_isFree := ⟨by decide +kernel, by decide +kernel, q1909, q132, rfl, fun h => absurd h (by decide), by decide⟩
theorem xM_X5_isHidden : XMok mX5_isHidden := ⟨by decide +kernel, by decide +kernel, q1913, q132, rfl, fun h => absurd h (by decide), by decide⟩
theorem xM_X5_carsGo : XMok mX5_carsGo := ⟨by decide +kernel, by decide +kernel, q1917, q132, rfl, fun h => absurd h (by decide), by decide⟩
theorem xM_X5_goesOn : XMok mX5_goesOn := ⟨by decide +kernel, by decide +kernel, q1921, q132, rfl, fun h => absurd h (by decide), by decide⟩
theorem xM_X5_stopped : XMok mX5_stopped := ⟨by decide +kernel, by decide +kernel, q1925, q132, rfl, fun h => absurd h (by decide), by decide⟩
theorem xM_X5_watch : XMok mX5_watch := ⟨by decide +kernel, by decide +kernel, q1929, q132, rfl, fun h => absurd h (by decide), by decide⟩
theorem xM_X5_none : XMok mX5_none := ⟨by decide +kernel, by decide +kernel, q1934, q132, rfl, fun h => absurd h (by decide), by decide⟩
theorem xM_X5_stands : XMok mX5_stands := ⟨by decide +kernel, by decide +kernel, q1938, q132, rfl, fun h => absurd h (by decide), by decide⟩
theorem xM_X5_tries : XMok mX5_tries := ⟨by decide +kernel, by decide +kernel, q1942, q132, rfl, fun h => absurd h (by decide), by decide⟩
theorem xM_X5_odds : XMok mX5_odds := ⟨by decide +kernel, by decide +kernel, q1946, q132, rfl, fun h => absurd h (by decide), by decide⟩
theorem xM_X5_worksOdds : XMok mX5_worksOdds := ⟨by decide +kernel, by decide +kernel, q1950, q132, rfl, fun h => absurd h (by decide), by decide⟩
theorem xM_X5_allParts : XMok mX5_allParts := ⟨by decide +kernel, by decide +kernel, q1954, q132, rfl, fun h => absurd h (by decide), by decide⟩
theorem xM_X5_branches : XMok mX5_branches := ⟨by decide +kernel, by decide +kernel, q1959, q132, rfl, fun h => absurd h (by decide), by decide⟩
theorem xM_X5_helps : XMok mX5_helps := ⟨by decide +kernel, by decide +kernel, q1963, q132, rfl, fun h => absurd h (by decide), by decide⟩
theorem xM_X5_overIf : XMok mX5_overIf := ⟨by decide +kernel, by decide +kernel, q1967, q132, rfl, fun h => absurd h (by decide), by decide⟩
theorem xM_X5_best : XMok mX5_best := ⟨by decide +kernel, by decide +kernel, q1971, q132, rfl, fun h => absurd h (by decide), by decide⟩
theorem xM_X5_bitsOf : XMok mX5_bitsOf := ⟨by decide +kernel, by decide +kernel, q1974, q132, rfl, fun h => absurd h (by decide), by decide⟩
theorem xM_X5_back : XMok mX5_back := ⟨by decide +kernel, by decide +kernel, q1978, q132, rfl, fun h => absurd h (by decide), by decide⟩
theorem xM_X5_wise : XMok mX5_wise := ⟨by decide +kernel, by decide +kernel, q1983, q132, rfl, fun h => absurd h (by decide), by decide⟩
theorem xM_X5_blame : XMok mX5_blame := ⟨by decide +kernel, by decide +kernel, q1988, q132, rfl, fun h => absurd h (by decide), by decide⟩
theorem xM_X5_mean : XMok mX5_mean := ⟨by decide +kernel, by decide +kernel, q1992, q132, rfl, fun h => absurd h (by decide), by decide⟩
theorem xM_X5_common : XMok mX5_common := ⟨by decide +kernel, by decide +kernel, q1995, q132, rfl, fun h => absurd h (by decide), by decide⟩
theorem xM_X5_repeals : XMok mX5_repeals := ⟨by decide +kernel, by decide +kernel, q1999, q132, rfl, fun h => absurd h (by decide), by decide⟩
theorem xM_X5_absent : XMok mX5_absent := ⟨by decide +kernel, by decide +kernel, q2003, q132, rfl, fun h => absurd h (by decide), by decide⟩
theorem xM_X5_margin : XMok mX5_margin := ⟨by decide +kernel, by decide +kernel, q2007, q132, rfl, fun h => absurd h (by decide), by decide⟩
theorem xM_X5_place : XMok mX5_place := ⟨by decide +kernel, by decide +kernel, q2011, q132, rfl, fun h => absurd h (by decide), by decide⟩
theorem xM_X5_behind : XMok mX5_behind := ⟨by decide +kernel, by decide +kernel, q2016, q132, rfl, fun h => absurd h (by decide), by decide⟩
theorem xM_X5_isPlace : XMok mX5_isPlace := ⟨by decide +kernel, by decide +kernel, q2020, q132, rfl, fun h => absurd h (by decide), by decide⟩
theorem xM_X5_at : XMok mX5_at := ⟨by decide +kernel, by decide +kernel, q2025, q132, rfl, fun h => absurd h (by decide), by decide⟩
theorem xM_X5_rate : XMok mX5_rate := ⟨by decide +kernel, by decide +kernel, q2029, q132, rfl, fun h => absurd h (by decide), by decide⟩
theorem xM_X5_sumOf : XMok mX5_sumOf := ⟨by decide +kernel, by decide +kernel, q2033, q132, rfl, fun h => absurd h (by decide), by decide⟩
theorem xM_X5_parted : XMok mX5_parted := ⟨by decide +kernel, by decide +kernel, q2037, q132, rfl, fun h => absurd h (by decide), by decide⟩
theorem xM_X5_partedAbove : XMok mX5_partedAbove := ⟨by decide +kernel, by decide +kernel, q2041, q132, rfl, fun h => absurd h (by decide), by decide⟩
theorem xM_X5_partedBelow : XMok mX5_partedBelow := ⟨by decide +kernel, by decide +kernel, q2045, q132, rfl, fun h => absurd h (by decide), by decide⟩
theorem xM_X5_worst : XMok mX5_worst := ⟨by decide +kernel, by decide +kernel, q2049, q132, rfl, fun h => absurd h (by decide), by decide⟩
theorem xM_X5_worstOf : XMok mX5_worstOf := ⟨by decide +kernel, by decide +kernel, q2054, q132, rfl, fun h => absurd h (by decide), by decide⟩
theorem xM_X5_hurtAt : XMok mX5_hurtAt := ⟨by decide +kernel, by decide +kernel, q2058, q132, rfl, fun h => absurd h (by decide), by decide⟩
theorem xM_X5_fallOf : XMok mX5_fallOf := ⟨by decide +kernel, by decide +kernel, q2062, q132, rfl, fun h => absurd h (by decide), by decide⟩
theorem xM_X5_matchesOf : XMok mX5_matchesOf := ⟨by decide +kernel, by decide +kernel, q2066, q132, rfl, fun h => absurd h (by decide), by decide⟩
theorem xM_X5_ranked : XMok mX5_ranked := ⟨by decide +kernel, by decide +kernel, q2070, q132, rfl, fun h => absurd h (by decide), by decide⟩
theorem xM_X5_isWorse : XMok mX5_isWorse := ⟨by decide +kernel, by decide +kernel, q2074, q132, rfl, fun h => absurd h (by decide), by decide⟩
theorem xM_X5_measure : XMok mX5_measure := ⟨by decide +kernel, by decide +kernel, q2078, q132, rfl, fun h => absurd h (by decide), by decide⟩
theorem xM_X5_spent : XMok mX5_spent := ⟨by decide +kernel, by decide +kernel, q2082, q132, rfl, fun h => absurd h (by decide), by decide⟩
theorem xM_X5_laysSpent : XMok mX5_laysSpent := ⟨by decide +kernel, by decide +kernel, q2087, q132, rfl, fun h => absurd h (by decide), by decide⟩
theorem xM_X5_costOf : XMok mX5_costOf := ⟨by decide +kernel, by decide +kernel, q2091, q132, rfl, fun h => absurd h (by decide), by decide⟩
theorem xM_X5_leftOf : XMok mX5_leftOf := ⟨by decide +kernel, by decide +kernel, q2095, q132, rfl, fun h => absurd h (by decide), by decide⟩
theorem xM_X5_isBest : XMok mX5_isBest := ⟨by decide +kernel, by decide +kernel, q2099, q132, rfl, fun h => absurd h (by decide), by decide⟩
theorem xM_X5_fine : XMok mX5_fine := ⟨by decide +kernel, by decide +kernel, q2103, q132, rfl, fun h => absurd h (by decide), by decide⟩
theorem xM_X5_until : XMok mX5_until := ⟨by decide +kernel, by decide +kernel, q2107, q132, rfl, fun h => absurd h (by decide), by decide⟩
theorem xM_X5_lot : XMok mX5_lot := ⟨by decide +kernel, by decide +kernel, q2111, q132, rfl, fun h => absurd h (by decide), by decide⟩
theorem xM_X5_shown : XMok mX5_shown := ⟨by decide +kernel, by decide +kernel, q2116, q132, rfl, fun h => absurd h (by decide), by decide⟩
theorem xM_X5_clumps : XMok mX5_clumps := ⟨by decide +kernel, by decide +kernel, q2120, q132, rfl, fun h => absurd h (by decide), by decide⟩
theorem xM_X5_lamp : XMok mX5_lamp := ⟨by decide +kernel, by decide +kernel, q2126, q132, rfl, fun h => absurd h (by decide), by decide⟩
theorem xM_X5_pay : XMok mX5_pay := ⟨by decide +kernel, by decide +kernel, q2130, q132, rfl, fun h => absurd h (by decide), by decide⟩
theorem xM_X5_payAt : XMok mX5_payAt := ⟨by decide +kernel, by decide +kernel, q2135, q132, rfl, fun h => absurd h (by decide), by decide⟩
theorem xM_X5_rests : XMok mX5_rests := ⟨by decide +kernel, by decide +kernel, q2139, q132, rfl, fun h => absurd h (by decide), by decide⟩
theorem xM_X5_isRest : XMok mX5_isRest := ⟨by decide +kernel, by decide +kernel, q2143, q132, rfl, fun h => absurd h (by decide), by decide⟩
theorem xM_X5_thanks : XMok mX5_thanks := ⟨by decide +kernel, by decide +kernel, q2147, q132, rfl, fun h => absurd h (by decide), by decide⟩
theorem xM_X5_filled : XMok mX5_filled := ⟨by decide +kernel, by decide +kernel, q2154, q132, rfl, fun h => absurd h (by decide), by decide⟩
theorem xM_X5_isTooMuch : XMok mX5_isTooMuch := ⟨by decide +kernel, by decide +kernel, q2158, q132, rfl, fun h => absurd h (by decide), by decide⟩
theorem xM_X5_hereIn : XMok mX5_hereIn := ⟨by decide +kernel, by decide +kernel, q2162, q132, rfl, fun h => absurd h (by decide), by decide⟩
theorem xM_X5_filledAt : XMok mX5_filledAt := ⟨by decide +kernel, by decide +kernel, q2166, q132, rfl, fun h => absurd h (by decide), by decide⟩
theorem xM_X5_slip : XMok mX5_slip := ⟨by decide +kernel, by decide +kernel, q2170, q132, rfl, fun h => absurd h (by decide), by decide⟩
theorem xM_X5_isRow : XMok mX5_isRow := ⟨by decide +kernel, by decide +kernel, q2174, q132, rfl, fun h => absurd h (by decide), by decide⟩
theorem xM_X5_numbers : XMok mX5_numbers := ⟨by decide +kernel, by decide +kernel, q2178, q132, rfl, fun h => absurd h (by decide), by decide⟩
theorem xM_X5_write : XMok mX5_write := ⟨by decide +kernel, by decide +kernel, q2183, q132, rfl, fun h => absurd h (by decide), by decide⟩
theorem xM_X5_cut : XMok mX5_cut := ⟨by decide +kernel, by decide +kernel, q2186, q132, rfl, fun h => absurd h (by decide), by decide⟩
theorem xM_X5_image : XMok mX5_image := ⟨by decide +kernel, by decide +kernel, q2190, q132, rfl, fun h => absurd h (by decide), by decide⟩
theorem xM_X5_restore : XMok mX5_restore := ⟨by decide +kernel, by decide +kernel, q2194, q132, rfl, fun h => absurd h (by decide), by decide⟩
theorem xM_X5_status : XMok mX5_status := ⟨by decide +kernel, by decide +kernel, q2198, q132, rfl, fun h => absurd h (by decide), by decide⟩
theorem xM_X5_count : XMok mX5_count := ⟨by decide +kernel, by decide +kernel, q2202, q132, rfl, fun h => absurd h (by decide), by decide⟩
theorem xM_X6_init : XMok mX6_init := ⟨by decide +kernel, by decide +kernel, q453, q133, rfl, fun _ => rfl, by decide⟩
theorem xM_X6_scene : XMok mX6_scene := ⟨by decide +kernel, by decide +kernel, q500, q133, rfl, fun h => absurd h (by decide), by decide⟩
theorem xM_X6_next : XMok mX6_next := ⟨by decide +kernel, by decide +kernel, q504, q133, rfl, fun h => absurd h (by decide), by decide⟩
theorem xM_X6_see : XMok mX6_see := ⟨by decide +kernel, by decide +kernel, q508, q133, rfl, fun h => absurd h (by decide), by decide⟩
theorem xM_X6_isSmall : XMok mX6_isSmall := ⟨by decide +kernel, by decide +kernel, q512, q133, rfl, fun h => absurd h (by decide), by decide⟩
theorem xM_X6_isDigit : XMok mX6_isDigit := ⟨by decide +kernel, by decide +kernel, q519, q133, rfl, fun h => absurd h (by decide), by decide⟩
theorem xM_X6_line : XMok mX6_line := ⟨by decide +kernel, by decide +kernel, q525, q133, rfl, fun h => absurd h (by decide), by decide⟩
theorem xM_X6_is : XMok mX6_is := ⟨by decide +kernel, by decide +kernel, q530, q133, rfl, fun h => absurd h (by decide), by decide⟩
theorem xM_X6_car : XMok mX6_car := ⟨by decide +kernel, by decide +kernel, q582, q133, rfl, fun h => absurd h (by decide), by decide⟩
theorem xM_X6_space : XMok mX6_space := ⟨by decide +kernel, by decide +kernel, q590, q133, rfl, fun h => absurd h (by decide), by decide⟩
theorem xM_X6_wrong : XMok mX6_wrong := ⟨by decide +kernel, by decide +kernel, q594, q133, rfl, fun h => absurd h (by decide), by decide⟩
theorem xM_X6_number : XMok mX6_number := ⟨by decide +kernel, by decide +kernel, q598, q133, rfl, fun h => absurd h (by decide), by decide⟩
theorem xM_X6_told : XMok mX6_told := ⟨by decide +kernel, by decide +kernel, q603, q133, rfl, fun h => absurd h (by decide), by decide⟩
theorem xM_X6_takes : XMok mX6_takes := ⟨by decide +kernel, by decide +kernel, q607, q133, rfl, fun h => absurd h (by decide), by decide⟩
theorem xM_X6_leastLanes : XMok mX6_leastLanes := ⟨by decide +kernel, by decide +kernel, q716, q133, rfl, fun h => absurd h (by decide), by decide⟩
theorem xM_X6_traitLine : XMok mX6_traitLine := ⟨by decide +kernel, by decide +kernel, q737, q133, rfl, fun h => absurd h (by decide), by decide⟩
theorem xM_X6_trait : XMok mX6_trait := ⟨by decide +kernel, by decide +kernel, q741, q133, rfl, fun h => absurd h (by decide), by decide⟩
theorem xM_X6_over : XMok mX6_over := ⟨by decide +kernel, by decide +kernel, q753, q133, rfl, fun h => absurd h (by decide), by decide⟩
theorem xM_X6_law : XMok mX6_law := ⟨by decide +kernel, by decide +kernel, q757, q133, rfl, fun h => absurd h (by decide), by decide⟩
theorem xM_X6_some : XMok mX6_some := ⟨by decide +kernel, by decide +kernel, q763, q133, rfl, fun h => absurd h (by decide), by decide⟩
theorem xM_X6_all : XMok mX6_all := ⟨by decide +kernel, by decide +kernel, q767, q133, rfl, fun h => absurd h (by decide), by decide⟩
theorem xM_X6_fact : XMok mX6_fact := ⟨by decide +kernel, by decide +kernel, q771, q133, rfl, fun h => absurd h (by decide), by decide⟩
theorem xM_X6_opens : XMok mX6_opens := ⟨by decide +kernel, by decide +kernel, q776, q133, rfl, fun h => absurd h (by decide), by decide⟩
theorem xM_X6_own : XMok mX6_own := ⟨by decide +kernel, by decide +kernel, q838, q133, rfl, fun h => absurd h (by decide), by decide⟩
theorem xM_X7_init : XMok mX7_init := ⟨by decide +kernel, by decide +kernel, q614, q138, rfl, fun _ => rfl, by decide⟩
theorem xM_X8_init : XMok mX8_init := ⟨by decide +kernel, by decide +kernel, q784, q144, rfl, fun _ => rfl, by decide⟩
theorem xM_X9_init : XMok mX9_init := ⟨by decide +kernel, by decide +kernel, q781, q145, rfl, fun _ => rfl, by decide⟩
theorem xM_X9_is : XMok mX9_is := ⟨by decide +kernel, by decide +kernel, q993, q145, rfl, fun h => absurd h (by decide), by decide⟩
theorem xV_ok_0_13_1 : XVok 0 13 5 1 (.inl mX0_feed) := ⟨_, _, _, _, by decide, by decide, xC_1, xM_X0_feed, by decide +kernel, Or.inl ⟨q430, q431, q432, q124, rfl⟩⟩
theorem xV_ok_0_17_7 : XVok 0 17 5 7 (.inl mX5_feed) := ⟨_, _, _, _, by decide, by decide, xC_7, xM_X5_feed, by decide +kernel, Or.inl ⟨q1730, q1731, q1732, q132, rfl⟩⟩
theorem xV_ok_0_18_1 : XVok 0 18 2 1 (.inl mX0_text) := ⟨_, _, _, _, by decide, by decide, xC_1, xM_X0_text, by decide +kernel, Or.inl ⟨q442, q443, q444, q124, rfl⟩⟩
theorem xV_ok_0_22_7 : XVok 0 22 2 7 (.inl mX5_text) := ⟨_, _, _, _, by decide, by decide, xC_7, xM_X5_text, by decide +kernel, Or.inl ⟨q1738, q1739, q1740, q132, rfl⟩⟩
theorem xV_ok_0_23_1 : XVok 0 23 1 1 (.inl mX0_fault) := ⟨_, _, _, _, by decide, by decide, xC_1, xM_X0_fault, by decide +kernel, Or.inl ⟨q889, q890, q891, q124, rfl⟩⟩
theorem xV_ok_0_27_7 : XVok 0 27 1 7 (.inl mX5_fault) := ⟨_, _, _, _, by decide, by decide, xC_7, xM_X5_fault, by decide +kernel, Or.inl ⟨q1827, q1828, q1829, q132, rfl⟩⟩
theorem xV_ok_0_28_1 : XVok 0 28 2 1 (.inl mX0_car) := ⟨_, _, _, _, by decide, by decide, xC_1, xM_X0_car, by decide +kernel, Or.inl ⟨q893, q894, q895, q124, rfl⟩⟩
theorem xV_ok_0_31_7 : XVok 0 31 2 7 (.inl mX5_car) := ⟨_, _, _, _, by decide, by decide, xC_7, xM_X5_car, by decide +kernel, Or.inl ⟨q1831, q1832, q1833, q132, rfl⟩⟩
theorem xV_ok_0_32_1 : XVok 0 32 2 1 (.inl mX0_trait) := ⟨_, _, _, _, by decide, by decide, xC_1, xM_X0_trait, by decide +kernel, Or.inl ⟨q904, q905, q906, q124, rfl⟩⟩
theorem xV_ok_0_36_7 : XVok 0 36 2 7 (.inl mX5_trait) := ⟨_, _, _, _, by decide, by decide, xC_7, xM_X5_trait, by decide +kernel, Or.inl ⟨q1840, q1841, q1842, q132, rfl⟩⟩
theorem xV_ok_0_37_1 : XVok 0 37 2 1 (.inl mX0_set) := ⟨_, _, _, _, by decide, by decide, xC_1, xM_X0_set, by decide +kernel, Or.inl ⟨q912, q913, q914, q124, rfl⟩⟩
theorem xV_ok_0_40_7 : XVok 0 40 2 7 (.inl mX5_set) := ⟨_, _, _, _, by decide, by decide, xC_7, xM_X5_set, by decide +kernel, Or.inl ⟨q1845, q1846, q1847, q132, rfl⟩⟩
theorem xV_ok_0_41_1 : XVok 0 41 1 1 (.inl mX0_chance) := ⟨_, _, _, _, by decide, by decide, xC_1, xM_X0_chance, by decide +kernel, Or.inl ⟨q928, q929, q930, q124, rfl⟩⟩
theorem xV_ok_0_44_7 : XVok 0 44 1 7 (.inl mX5_chance) := ⟨_, _, _, _, by decide, by decide, xC_7, xM_X5_chance, by decide +kernel, Or.inl ⟨q1853, q1854, q1855, q132, rfl⟩⟩
theorem xV_ok_0_45_1 : XVok 0 45 1 1 (.inl mX0_can) := ⟨_, _, _, _, by decide, by decide, xC_1, xM_X0_can, by decide +kernel, Or.inl ⟨q1008, q1009, q1010, q124, rfl⟩⟩
theorem xV_ok_0_48_7 : XVok 0 48 1 7 (.inl mX5_can) := ⟨_, _, _, _, by decide, by decide, xC_7, xM_X5_can, by decide +kernel, Or.inl ⟨q1881, q1882, q1883, q132, rfl⟩⟩
theorem xV_ok_0_49_1 : XVok 0 49 2 1 (.inl mX0_run) := ⟨_, _, _, _, by decide, by decide, xC_1, xM_X0_run, by decide +kernel, Or.inl ⟨q1016, q1017, q1018, q124, rfl⟩⟩
theorem xV_ok_0_52_7 : XVok 0 52 2 7 (.inl mX5_run) := ⟨_, _, _, _, by decide, by decide, xC_7, xM_X5_run, by decide +kernel, Or.inl ⟨q1889, q1890, q1891, q132, rfl⟩⟩
theorem xV_ok_0_53_1 : XVok 0 53 4 1 (.inl mX0_watch) := ⟨_, _, _, _, by decide, by decide, xC_1, xM_X0_watch, by decide +kernel, Or.inl ⟨q1080, q1081, q1082, q124, rfl⟩⟩
theorem xV_ok_0_57_7 : XVok 0 57 4 7 (.inl mX5_watch) := ⟨_, _, _, _, by decide, by decide, xC_7, xM_X5_watch, by decide +kernel, Or.inl ⟨q1926, q1927, q1928, q132, rfl⟩⟩
theorem xV_ok_0_58_1 : XVok 0 58 2 1 (.inl mX0_stands) := ⟨_, _, _, _, by decide, by decide, xC_1, xM_X0_stands, by decide +kernel, Or.inl ⟨q1085, q1086, q1087, q124, rfl⟩⟩
theorem xV_ok_0_61_7 : XVok 0 61 2 7 (.inl mX5_stands) := ⟨_, _, _, _, by decide, by decide, xC_7, xM_X5_stands, by decide +kernel, Or.inl ⟨q1935, q1936, q1937, q132, rfl⟩⟩
theorem xV_ok_0_62_1 : XVok 0 62 3 1 (.inl mX0_tries) := ⟨_, _, _, _, by decide, by decide, xC_1, xM_X0_tries, by decide +kernel, Or.inl ⟨q1089, q1090, q1091, q124, rfl⟩⟩
theorem xV_ok_0_66_7 : XVok 0 66 3 7 (.inl mX5_tries) := ⟨_, _, _, _, by decide, by decide, xC_7, xM_X5_tries, by decide +kernel, Or.inl ⟨q1939, q1940, q1941, q132, rfl⟩⟩
theorem xV_ok_0_67_1 : XVok 0 67 1 1 (.inl mX0_odds) := ⟨_, _, _, _, by decide, by decide, xC_1, xM_X0_odds, by decide +kernel, Or.inl ⟨q1093, q1094, q1095, q124, rfl⟩⟩
theorem xV_ok_0_71_7 : XVok 0 71 1 7 (.inl mX5_odds) := ⟨_, _, _, _, by decide, by decide, xC_7, xM_X5_odds, by decide +kernel, Or.inl ⟨q1943, q1944, q1945, q132, rfl⟩⟩
theorem xV_ok_0_72_1 : XVok 0 72 1 1 (.inl mX0_helps) := ⟨_, _, _, _, by decide, by decide, xC_1, xM_X0_helps, by decide +kernel, Or.inl ⟨q1114, q1115, q1116, q124, rfl⟩⟩
theorem xV_ok_0_75_7 : XVok 0 75 1 7 (.inl mX5_helps) := ⟨_, _, _, _, by decide, by decide, xC_7, xM_X5_helps, by decide +kernel, Or.inl ⟨q1960, q1961, q1962, q132, rfl⟩⟩
theorem xV_ok_0_76_1 : XVok 0 76 1 1 (.inl mX0_best) := ⟨_, _, _, _, by decide, by decide, xC_1, xM_X0_best, by decide +kernel, Or.inl ⟨q1122, q1123, q1124, q124, rfl⟩⟩
theorem xV_ok_0_79_7 : XVok 0 79 1 7 (.inl mX5_best) := ⟨_, _, _, _, by decide, by decide, xC_7, xM_X5_best, by decide +kernel, Or.inl ⟨q1968, q1969, q1970, q132, rfl⟩⟩
theorem xV_ok_0_80_1 : XVok 0 80 1 1 (.inl mX0_back) := ⟨_, _, _, _, by decide, by decide, xC_1, xM_X0_back, by decide +kernel, Or.inl ⟨q1132, q1133, q1134, q124, rfl⟩⟩
theorem xV_ok_0_83_7 : XVok 0 83 1 7 (.inl mX5_back) := ⟨_, _, _, _, by decide, by decide, xC_7, xM_X5_back, by decide +kernel, Or.inl ⟨q1975, q1976, q1977, q132, rfl⟩⟩
theorem xV_ok_0_84_1 : XVok 0 84 1 1 (.inl mX0_wise) := ⟨_, _, _, _, by decide, by decide, xC_1, xM_X0_wise, by decide +kernel, Or.inl ⟨q1140, q1141, q1142, q124, rfl⟩⟩
theorem xV_ok_0_87_7 : XVok 0 87 1 7 (.inl mX5_wise) := ⟨_, _, _, _, by decide, by decide, xC_7, xM_X5_wise, by decide +kernel, Or.inl ⟨q1980, q1981, q1982, q132, rfl⟩⟩
theorem xV_ok_0_88_1 : XVok 0 88 2 1 (.inl mX0_blame) := ⟨_, _, _, _, by decide, by decide, xC_1, xM_X0_blame, by decide +kernel, Or.inl ⟨q1144, q1145, q1146, q124, rfl⟩⟩
theorem xV_ok_0_92_7 : XVok 0 92 2 7 (.inl mX5_blame) := ⟨_, _, _, _, by decide, by decide, xC_7, xM_X5_blame, by decide +kernel, Or.inl ⟨q1985, q1986, q1987, q132, rfl⟩⟩
theorem xV_ok_0_93_1 : XVok 0 93 1 1 (.inl mX0_mean) := ⟨_, _, _, _, by decide, by decide, xC_1, xM_X0_mean, by decide +kernel, Or.inl ⟨q1148, q1149, q1150, q124, rfl⟩⟩
theorem xV_ok_0_96_7 : XVok 0 96 1 7 (.inl mX5_mean) := ⟨_, _, _, _, by decide, by decide, xC_7, xM_X5_mean, by decide +kernel, Or.inl ⟨q1989, q1990, q1991, q132, rfl⟩⟩
theorem xV_ok_0_97_1 : XVok 0 97 1 1 (.inl mX0_repeals) := ⟨_, _, _, _, by decide, by decide, xC_1, xM_X0_repeals, by decide +kernel, Or.inl ⟨q1155, q1156, q1157, q124, rfl⟩⟩
theorem xV_ok_0_100_7 : XVok 0 100 1 7 (.inl mX5_repeals) := ⟨_, _, _, _, by decide, by decide, xC_7, xM_X5_repeals, by decide +kernel, Or.inl ⟨q1996, q1997, q1998, q132, rfl⟩⟩
theorem xV_ok_0_101_1 : XVok 0 101 1 1 (.inl mX0_absent) := ⟨_, _, _, _, by decide, by decide, xC_1, xM_X0_absent, by decide +kernel, Or.inl ⟨q1162, q1163, q1164, q124, rfl⟩⟩
theorem xV_ok_0_104_7 : XVok 0 104 1 7 (.inl mX5_absent) := ⟨_, _, _, _, by decide, by decide, xC_7, xM_X5_absent, by decide +kernel, Or.inl ⟨q2000, q2001, q2002, q132, rfl⟩⟩
theorem xV_ok_0_105_1 : XVok 0 105 1 1 (.inl mX0_margin) := ⟨_, _, _, _, by decide, by decide, xC_1, xM_X0_margin, by decide +kernel, Or.inl ⟨q1183, q1184, q1185, q124, rfl⟩⟩
theorem xV_ok_0_108_7 : XVok 0 108 1 7 (.inl mX5_margin) := ⟨_, _, _, _, by decide, by decide, xC_7, xM_X5_margin, by decide +kernel, Or.inl ⟨q2004, q2005, q2006, q132, rfl⟩⟩
theorem xV_ok_0_109_1 : XVok 0 109 5 1 (.inl mX0_place) := ⟨_, _, _, _, by decide, by decide, xC_1, xM_X0_place, by decide +kernel, Or.inl ⟨q1193, q1194, q1195, q124, rfl⟩⟩
theorem xV_ok_0_113_7 : XVok 0 113 5 7 (.inl mX5_place) := ⟨_, _, _, _, by decide, by decide, xC_7, xM_X5_place, by decide +kernel, Or.inl ⟨q2008, q2009, q2010, q132, rfl⟩⟩
theorem xV_ok_0_114_1 : XVok 0 114 2 1 (.inl mX0_behind) := ⟨_, _, _, _, by decide, by decide, xC_1, xM_X0_behind, by decide +kernel, Or.inl ⟨q1221, q1222, q1223, q124, rfl⟩⟩
theorem xV_ok_0_117_7 : XVok 0 117 2 7 (.inl mX5_behind) := ⟨_, _, _, _, by decide, by decide, xC_7, xM_X5_behind, by decide +kernel, Or.inl ⟨q2013, q2014, q2015, q132, rfl⟩⟩
theorem xV_ok_0_118_1 : XVok 0 118 2 1 (.inl mX0_at) := ⟨_, _, _, _, by decide, by decide, xC_1, xM_X0_at, by decide +kernel, Or.inl ⟨q1230, q1231, q1232, q124, rfl⟩⟩
theorem xV_ok_0_121_7 : XVok 0 121 2 7 (.inl mX5_at) := ⟨_, _, _, _, by decide, by decide, xC_7, xM_X5_at, by decide +kernel, Or.inl ⟨q2022, q2023, q2024, q132, rfl⟩⟩
theorem xV_ok_0_122_1 : XVok 0 122 2 1 (.inl mX0_rate) := ⟨_, _, _, _, by decide, by decide, xC_1, xM_X0_rate, by decide +kernel, Or.inl ⟨q1234, q1235, q1236, q124, rfl⟩⟩
theorem xV_ok_0_126_7 : XVok 0 126 2 7 (.inl mX5_rate) := ⟨_, _, _, _, by decide, by decide, xC_7, xM_X5_rate, by decide +kernel, Or.inl ⟨q2026, q2027, q2028, q132, rfl⟩⟩
theorem xV_ok_0_127_1 : XVok 0 127 0 1 (.inl mX0_parted) := ⟨_, _, _, _, by decide, by decide, xC_1, xM_X0_parted, by decide +kernel, Or.inl ⟨q1249, q1250, q1251, q124, rfl⟩⟩
theorem xV_ok_0_131_7 : XVok 0 131 0 7 (.inl mX5_parted) := ⟨_, _, _, _, by decide, by decide, xC_7, xM_X5_parted, by decide +kernel, Or.inl ⟨q2034, q2035, q2036, q132, rfl⟩⟩
theorem xV_ok_0_132_1 : XVok 0 132 2 1 (.inl mX0_worst) := ⟨_, _, _, _, by decide, by decide, xC_1, xM_X0_worst, by decide +kernel, Or.inl ⟨q1268, q1269, q1270, q124, rfl⟩⟩
theorem xV_ok_0_135_7 : XVok 0 135 2 7 (.inl mX5_worst) := ⟨_, _, _, _, by decide, by decide, xC_7, xM_X5_worst, by decide +kernel, Or.inl ⟨q2046, q2047, q2048, q132, rfl⟩⟩
theorem xV_ok_0_136_1 : XVok 0 136 1 1 (.inl mX0_ranked) := ⟨_, _, _, _, by decide, by decide, xC_1, xM_X0_ranked, by decide +kernel, Or.inl ⟨q1296, q1297, q1298, q124, rfl⟩⟩
theorem xV_ok_0_139_7 : XVok 0 139 1 7 (.inl mX5_ranked) := ⟨_, _, _, _, by decide, by decide, xC_7, xM_X5_ranked, by decide +kernel, Or.inl ⟨q2067, q2068, q2069, q132, rfl⟩⟩
theorem xV_ok_0_140_1 : XVok 0 140 3 1 (.inl mX0_measure) := ⟨_, _, _, _, by decide, by decide, xC_1, xM_X0_measure, by decide +kernel, Or.inl ⟨q1305, q1306, q1307, q124, rfl⟩⟩
theorem xV_ok_0_143_7 : XVok 0 143 3 7 (.inl mX5_measure) := ⟨_, _, _, _, by decide, by decide, xC_7, xM_X5_measure, by decide +kernel, Or.inl ⟨q2075, q2076, q2077, q132, rfl⟩⟩
theorem xV_ok_0_144_1 : XVok 0 144 2 1 (.inl mX0_spent) := ⟨_, _, _, _, by decide, by decide, xC_1, xM_X0_spent, by decide +kernel, Or.inl ⟨q1309, q1310, q1311, q124, rfl⟩⟩
theorem xV_ok_0_147_7 : XVok 0 147 2 7 (.inl mX5_spent) := ⟨_, _, _, _, by decide, by decide, xC_7, xM_X5_spent, by decide +kernel, Or.inl ⟨q2079, q2080, q2081, q132, rfl⟩⟩
theorem xV_ok_0_148_1 : XVok 0 148 4 1 (.inl mX0_fine) := ⟨_, _, _, _, by decide, by decide, xC_1, xM_X0_fine, by decide +kernel, Or.inl ⟨q1334, q1335, q1336, q124, rfl⟩⟩
theorem xV_ok_0_151_7 : XVok 0 151 4 7 (.inl mX5_fine) := ⟨_, _, _, _, by decide, by decide, xC_7, xM_X5_fine, by decide +kernel, Or.inl ⟨q2100, q2101, q2102, q132, rfl⟩⟩
theorem xV_ok_0_152_1 : XVok 0 152 4 1 (.inl mX0_until) := ⟨_, _, _, _, by decide, by decide, xC_1, xM_X0_until, by decide +kernel, Or.inl ⟨q1338, q1339, q1340, q124, rfl⟩⟩
theorem xV_ok_0_155_7 : XVok 0 155 4 7 (.inl mX5_until) := ⟨_, _, _, _, by decide, by decide, xC_7, xM_X5_until, by decide +kernel, Or.inl ⟨q2104, q2105, q2106, q132, rfl⟩⟩
theorem xV_ok_0_156_1 : XVok 0 156 2 1 (.inl mX0_lot) := ⟨_, _, _, _, by decide, by decide, xC_1, xM_X0_lot, by decide +kernel, Or.inl ⟨q1342, q1343, q1344, q124, rfl⟩⟩
theorem xV_ok_0_159_7 : XVok 0 159 2 7 (.inl mX5_lot) := ⟨_, _, _, _, by decide, by decide, xC_7, xM_X5_lot, by decide +kernel, Or.inl ⟨q2108, q2109, q2110, q132, rfl⟩⟩
theorem xV_ok_0_160_1 : XVok 0 160 4 1 (.inl mX0_shown) := ⟨_, _, _, _, by decide, by decide, xC_1, xM_X0_shown, by decide +kernel, Or.inl ⟨q1350, q1351, q1352, q124, rfl⟩⟩
theorem xV_ok_0_163_7 : XVok 0 163 4 7 (.inl mX5_shown) := ⟨_, _, _, _, by decide, by decide, xC_7, xM_X5_shown, by decide +kernel, Or.inl ⟨q2113, q2114, q2115, q132, rfl⟩⟩
theorem xV_ok_0_164_1 : XVok 0 164 4 1 (.inl mX0_clumps) := ⟨_, _, _, _, by decide, by decide, xC_1, xM_X0_clumps, by decide +kernel, Or.inl ⟨q1357, q1358, q1359, q124, rfl⟩⟩
theorem xV_ok_0_167_7 : XVok 0 167 4 7 (.inl mX5_clumps) := ⟨_, _, _, _, by decide, by decide, xC_7, xM_X5_clumps, by decide +kernel, Or.inl ⟨q2117, q2118, q2119, q132, rfl⟩⟩
theorem xV_ok_0_168_1 : XVok 0 168 3 1 (.inl mX0_lamp) := ⟨_, _, _, _, by decide, by decide, xC_1, xM_X0_lamp, by decide +kernel, Or.inl ⟨q1378, q1379, q1380, q124, rfl⟩⟩
theorem xV_ok_0_171_7 : XVok 0 171 3 7 (.inl mX5_lamp) := ⟨_, _, _, _, by decide, by decide, xC_7, xM_X5_lamp, by decide +kernel, Or.inl ⟨q2123, q2124, q2125, q132, rfl⟩⟩
theorem xV_ok_0_172_1 : XVok 0 172 4 1 (.inl mX0_pay) := ⟨_, _, _, _, by decide, by decide, xC_1, xM_X0_pay, by decide +kernel, Or.inl ⟨q1385, q1386, q1387, q124, rfl⟩⟩
theorem xV_ok_0_175_7 : XVok 0 175 4 7 (.inl mX5_pay) := ⟨_, _, _, _, by decide, by decide, xC_7, xM_X5_pay, by decide +kernel, Or.inl ⟨q2127, q2128, q2129, q132, rfl⟩⟩
theorem xV_ok_0_176_1 : XVok 0 176 3 1 (.inl mX0_rests) := ⟨_, _, _, _, by decide, by decide, xC_1, xM_X0_rests, by decide +kernel, Or.inl ⟨q1393, q1394, q1395, q124, rfl⟩⟩
theorem xV_ok_0_179_7 : XVok 0 179 3 7 (.inl mX5_rests) := ⟨_, _, _, _, by decide, by decide, xC_7, xM_X5_rests, by decide +kernel, Or.inl ⟨q2136, q2137, q2138, q132, rfl⟩⟩
theorem xV_ok_0_180_1 : XVok 0 180 5 1 (.inl mX0_thanks) := ⟨_, _, _, _, by decide, by decide, xC_1, xM_X0_thanks, by decide +kernel, Or.inl ⟨q1401, q1402, q1403, q124, rfl⟩⟩
theorem xV_ok_0_183_7 : XVok 0 183 5 7 (.inl mX5_thanks) := ⟨_, _, _, _, by decide, by decide, xC_7, xM_X5_thanks, by decide +kernel, Or.inl ⟨q2144, q2145, q2146, q132, rfl⟩⟩
theorem xV_ok_0_184_1 : XVok 0 184 2 1 (.inl mX0_filled) := ⟨_, _, _, _, by decide, by decide, xC_1, xM_X0_filled, by decide +kernel, Or.inl ⟨q1407, q1408, q1409, q124, rfl⟩⟩
theorem xV_ok_0_187_7 : XVok 0 187 2 7 (.inl mX5_filled) := ⟨_, _, _, _, by decide, by decide, xC_7, xM_X5_filled, by decide +kernel, Or.inl ⟨q2151, q2152, q2153, q132, rfl⟩⟩
theorem xV_ok_0_188_1 : XVok 0 188 2 1 (.inl mX0_slip) := ⟨_, _, _, _, by decide, by decide, xC_1, xM_X0_slip, by decide +kernel, Or.inl ⟨q1423, q1424, q1425, q124, rfl⟩⟩
theorem xV_ok_0_191_7 : XVok 0 191 2 7 (.inl mX5_slip) := ⟨_, _, _, _, by decide, by decide, xC_7, xM_X5_slip, by decide +kernel, Or.inl ⟨q2167, q2168, q2169, q132, rfl⟩⟩
theorem xV_ok_0_192_1 : XVok 0 192 3 1 (.inl mX0_numbers) := ⟨_, _, _, _, by decide, by decide, xC_1, xM_X0_numbers, by decide +kernel, Or.inl ⟨q1435, q1436, q1437, q124, rfl⟩⟩
theorem xV_ok_0_195_7 : XVok 0 195 3 7 (.inl mX5_numbers) := ⟨_, _, _, _, by decide, by decide, xC_7, xM_X5_numbers, by decide +kernel, Or.inl ⟨q2175, q2176, q2177, q132, rfl⟩⟩
theorem xV_ok_0_202_7 : XVok 0 202 3 7 (.inl mX5_write) := ⟨_, _, _, _, by decide, by decide, xC_7, xM_X5_write, by decide +kernel, Or.inl ⟨q2180, q2181, q2182, q132, rfl⟩⟩
theorem xV_ok_0_203_1 : XVok 0 203 1 1 (.inl mX0_image) := ⟨_, _, _, _, by decide, by decide, xC_1, xM_X0_image, by decide +kernel, Or.inl ⟨q1579, q1580, q1581, q124, rfl⟩⟩
theorem xV_ok_0_206_7 : XVok 0 206 1 7 (.inl mX5_image) := ⟨_, _, _, _, by decide, by decide, xC_7, xM_X5_image, by decide +kernel, Or.inl ⟨q2187, q2188, q2189, q132, rfl⟩⟩
theorem xV_ok_0_207_1 : XVok 0 207 1 1 (.inl mX0_restore) := ⟨_, _, _, _, by decide, by decide, xC_1, xM_X0_restore, by decide +kernel, Or.inl ⟨q1600, q1601, q1602, q124, rfl⟩⟩
theorem xV_ok_0_210_7 : XVok 0 210 1 7 (.inl mX5_restore) := ⟨_, _, _, _, by decide, by decide, xC_7, xM_X5_restore, by decide +kernel, Or.inl ⟨q2191, q2192, q2193, q132, rfl⟩⟩
theorem xV_ok_0_211_1 : XVok 0 211 1 1 (.inl mX0_status) := ⟨_, _, _, _, by decide, by decide, xC_1, xM_X0_status, by decide +kernel, Or.inl ⟨q1604, q1605, q1606, q124, rfl⟩⟩
theorem xV_ok_0_214_7 : XVok 0 214 1 7 (.inl mX5_status) := ⟨_, _, _, _, by decide, by decide, xC_7, xM_X5_status, by decide +kernel, Or.inl ⟨q2195, q2196, q2197, q132, rfl⟩⟩
theorem xV_ok_0_215_1 : XVok 0 215 1 1 (.inl mX0_count) := ⟨_, _, _, _, by decide, by decide, xC_1, xM_X0_count, by decide +kernel, Or.inl ⟨q1608, q1609, q1610, q124, rfl⟩⟩
theorem xV_ok_0_218_7 : XVok 0 218 1 7 (.inl mX5_count) := ⟨_, _, _, _, by decide, by decide, xC_7, xM_X5_count, by decide +kernel, Or.inl ⟨q2199, q2200, q2201, q132, rfl⟩⟩
theorem xV_ok_1_73_1 : XVok 1 73 1 1 (.inl mX0_no) := ⟨_, _, _, _, by decide, by decide, xC_1, xM_X0_no, by decide +kernel, Or.inl ⟨q434, q436, qs0, q124, rfl⟩⟩
theorem xV_ok_1_77_1 : XVok 1 77 1 1 (.inl mX0_bytes) := ⟨_, _, _, _, by decide, by decide, xC_1, xM_X0_bytes, by decide +kernel, Or.inl ⟨q438, q440, qs1, q124, rfl⟩⟩
theorem xV_ok_1_90_8 : XVok 1 90 0 8 (.inl mX6_scene) := ⟨_, _, _, _, by decide, by decide, xC_8, xM_X6_scene, by decide +kernel, Or.inl ⟨q497, q498, q499, q133, rfl⟩⟩
theorem xV_ok_1_93_8 : XVok 1 93 0 8 (.inl mX6_law) := ⟨_, _, _, _, by decide, by decide, xC_8, xM_X6_law, by decide +kernel, Or.inl ⟨q754, q755, q756, q133, rfl⟩⟩
theorem xV_ok_1_109_4 : XVok 1 109 0 4 (.inl mJ2_size) := ⟨_, _, _, _, by decide, by decide, xC_4, xM_J2_size, by decide +kernel, Or.inl ⟨q888, q584, q585, q129, rfl⟩⟩
theorem xV_ok_1_127_1 : XVok 1 127 1 1 (.inl mX0_isCar) := ⟨_, _, _, _, by decide, by decide, xC_1, xM_X0_isCar, by decide +kernel, Or.inl ⟨q897, q899, qs26, q124, rfl⟩⟩
theorem xV_ok_1_133_4 : XVok 1 133 1 4 (.inl mJ2_get) := ⟨_, _, _, _, by decide, by decide, xC_4, xM_J2_get, by decide +kernel, Or.inl ⟨q902, q718, q719, q129, rfl⟩⟩
theorem xV_ok_1_167_3 : XVok 1 167 1 3 (.inl mX2_get) := ⟨_, _, _, _, by decide, by decide, xC_3, xM_X2_get, by decide +kernel, Or.inl ⟨q920, q921, q922, q126, rfl⟩⟩
theorem xV_ok_1_169_3 : XVok 1 169 2 3 (.inl mX2_put) := ⟨_, _, _, _, by decide, by decide, xC_3, xM_X2_put, by decide +kernel, Or.inl ⟨q924, q925, q926, q126, rfl⟩⟩
theorem xV_ok_1_179_10 : XVok 1 179 2 10 (.inl mX9_is) := ⟨_, _, _, _, by decide, by decide, xC_10, xM_X9_is, by decide +kernel, Or.inr ⟨⟨"FootOut$Fact", "is", "(LFootOut$Walk;I)Z"⟩, "FootOut$Fact", q962, q964, q1003, q992, List.mem_of_getElem? (i := 117) rfl, by decide +kernel, by decide +kernel⟩⟩
theorem xV_ok_1_179_11 : XVok 1 179 2 11 (.inl mX10_is) := ⟨_, _, _, _, by decide, by decide, xC_11, xM_X10_is, by decide +kernel, Or.inr ⟨⟨"FootOut$Fact", "is", "(LFootOut$Walk;I)Z"⟩, "FootOut$Fact", q962, q964, q1007, q1000, List.mem_of_getElem? (i := 117) rfl, by decide +kernel, by decide +kernel⟩⟩
theorem xV_ok_1_179_12 : XVok 1 179 2 12 (.inl mX11_is) := ⟨_, _, _, _, by decide, by decide, xC_12, xM_X11_is, by decide +kernel, Or.inr ⟨⟨"FootOut$Fact", "is", "(LFootOut$Walk;I)Z"⟩, "FootOut$Fact", q962, q964, q965, q966, List.mem_of_getElem? (i := 117) rfl, by decide +kernel, by decide +kernel⟩⟩
theorem xV_ok_1_179_13 : XVok 1 179 2 13 (.inl mX11_is) := ⟨_, _, _, _, by decide, by decide, xC_13, xM_X11_is, by decide +kernel, Or.inr ⟨⟨"FootOut$Fact", "is", "(LFootOut$Walk;I)Z"⟩, "FootOut$Fact", q962, q964, q987, q966, List.mem_of_getElem? (i := 117) rfl, by decide +kernel, by decide +kernel⟩⟩
theorem xV_ok_1_179_14 : XVok 1 179 2 14 (.inl mX11_is) := ⟨_, _, _, _, by decide, by decide, xC_14, xM_X11_is, by decide +kernel, Or.inr ⟨⟨"FootOut$Fact", "is", "(LFootOut$Walk;I)Z"⟩, "FootOut$Fact", q962, q964, q1006, q966, List.mem_of_getElem? (i := 117) rfl, by decide +kernel, by decide +kernel⟩⟩
theorem xV_ok_1_179_15 : XVok 1 179 2 15 (.inl mX15_is) := ⟨_, _, _, _, by decide, by decide, xC_15, xM_X15_is, by decide +kernel, Or.inr ⟨⟨"FootOut$Fact", "is", "(LFootOut$Walk;I)Z"⟩, "FootOut$Fact", q962, q964, q1004, q995, List.mem_of_getElem? (i := 117) rfl, by decide +kernel, by decide +kernel⟩⟩
theorem xV_ok_1_179_16 : XVok 1 179 2 16 (.inl mX16_is) := ⟨_, _, _, _, by decide, by decide, xC_16, xM_X16_is, by decide +kernel, Or.inr ⟨⟨"FootOut$Fact", "is", "(LFootOut$Walk;I)Z"⟩, "FootOut$Fact", q962, q964, q1005, q997, List.mem_of_getElem? (i := 117) rfl, by decide +kernel, by decide +kernel⟩⟩
theorem xV_ok_1_179_17 : XVok 1 179 2 17 (.inl mX17_is) := ⟨_, _, _, _, by decide, by decide, xC_17, xM_X17_is, by decide +kernel, Or.inr ⟨⟨"FootOut$Fact", "is", "(LFootOut$Walk;I)Z"⟩, "FootOut$Fact", q962, q964, q988, q989, List.mem_of_getElem? (i := 117) rfl, by decide +kernel, by decide +kernel⟩⟩
theorem xV_ok_1_188_5 : XVok 1 188 1 5 (.inl mX3_begins) := ⟨_, _, _, _, by decide, by decide, xC_5, xM_X3_begins, by decide +kernel, Or.inl ⟨q932, q933, q934, q130, rfl⟩⟩
theorem xV_ok_1_192_1 : XVok 1 192 2 1 (.inl mX0_chanceOf) := ⟨_, _, _, _, by decide, by decide, xC_1, xM_X0_chanceOf, by decide +kernel, Or.inl ⟨q957, q959, qs27, q124, rfl⟩⟩
theorem xV_ok_1_196_5 : XVok 1 196 1 5 (.inl mX3_can) := ⟨_, _, _, _, by decide, by decide, xC_5, xM_X3_can, by decide +kernel, Or.inl ⟨q1012, q1013, q1014, q130, rfl⟩⟩
theorem xV_ok_1_203_5 : XVok 1 203 0 5 (.inl mX3_many) := ⟨_, _, _, _, by decide, by decide, xC_5, xM_X3_many, by decide +kernel, Or.inl ⟨q1029, q937, q938, q130, rfl⟩⟩
theorem xV_ok_1_206_5 : XVok 1 206 1 5 (.inl mX3_isAsked) := ⟨_, _, _, _, by decide, by decide, xC_5, xM_X3_isAsked, by decide +kernel, Or.inl ⟨q1030, q1031, q1032, q130, rfl⟩⟩
theorem xV_ok_1_212_1 : XVok 1 212 1 1 (.inl mX0_draw) := ⟨_, _, _, _, by decide, by decide, xC_1, xM_X0_draw, by decide +kernel, Or.inl ⟨q1035, q1037, qs30, q124, rfl⟩⟩
theorem xV_ok_1_215_5 : XVok 1 215 0 5 (.inl mX3_goesOn) := ⟨_, _, _, _, by decide, by decide, xC_5, xM_X3_goesOn, by decide +kernel, Or.inl ⟨q1040, q1041, q1042, q130, rfl⟩⟩
theorem xV_ok_1_224_1 : XVok 1 224 1 1 (.inl mX0_tick) := ⟨_, _, _, _, by decide, by decide, xC_1, xM_X0_tick, by decide +kernel, Or.inl ⟨q1025, q1027, qs29, q124, rfl⟩⟩
theorem xV_ok_1_230_1 : XVok 1 230 2 1 (.inl mX0_runs) := ⟨_, _, _, _, by decide, by decide, xC_1, xM_X0_runs, by decide +kernel, Or.inl ⟨q1021, q1023, qs28, q124, rfl⟩⟩
theorem xV_ok_1_240_1 : XVok 1 240 1 1 (.inl mX0_stopped) := ⟨_, _, _, _, by decide, by decide, xC_1, xM_X0_stopped, by decide +kernel, Or.inl ⟨q1076, q1078, qs37, q124, rfl⟩⟩
theorem xV_ok_1_265_5 : XVok 1 265 1 5 (.inl mX3_be) := ⟨_, _, _, _, by decide, by decide, xC_5, xM_X3_be, by decide +kernel, Or.inl ⟨q1105, q1106, q1107, q130, rfl⟩⟩
theorem xV_ok_1_268_1 : XVok 1 268 3 1 (.inl mX0_forks) := ⟨_, _, _, _, by decide, by decide, xC_1, xM_X0_forks, by decide +kernel, Or.inl ⟨q1101, q1103, qs39, q124, rfl⟩⟩
theorem xV_ok_1_272_1 : XVok 1 272 2 1 (.inl mX0_counts) := ⟨_, _, _, _, by decide, by decide, xC_1, xM_X0_counts, by decide +kernel, Or.inl ⟨q1110, q1112, qs40, q124, rfl⟩⟩
theorem xV_ok_1_276_1 : XVok 1 276 1 1 (.inl mX0_gathers) := ⟨_, _, _, _, by decide, by decide, xC_1, xM_X0_gathers, by decide +kernel, Or.inl ⟨q1097, q1099, qs38, q124, rfl⟩⟩
theorem xV_ok_1_280_1 : XVok 1 280 1 1 (.inl mX0_overBy) := ⟨_, _, _, _, by decide, by decide, xC_1, xM_X0_overBy, by decide +kernel, Or.inl ⟨q1118, q1120, qs41, q124, rfl⟩⟩
theorem xV_ok_1_304_4 : XVok 1 304 1 4 (.inl mJ2_add) := ⟨_, _, _, _, by decide, by decide, xC_4, xM_J2_add, by decide +kernel, Or.inl ⟨q1161, q644, q645, q129, rfl⟩⟩
theorem xV_ok_1_308_3 : XVok 1 308 0 3 (.inl mX2_copy) := ⟨_, _, _, _, by decide, by decide, xC_3, xM_X2_copy, by decide +kernel, Or.inl ⟨q1166, q1167, q1168, q126, rfl⟩⟩
theorem xV_ok_1_312_4 : XVok 1 312 1 4 (.inl mJ2_remove) := ⟨_, _, _, _, by decide, by decide, xC_4, xM_J2_remove, by decide +kernel, Or.inl ⟨q1174, q1175, q1176, q129, rfl⟩⟩
theorem xV_ok_1_315_5 : XVok 1 315 1 5 (.inl mX3_car) := ⟨_, _, _, _, by decide, by decide, xC_5, xM_X3_car, by decide +kernel, Or.inl ⟨q1191, q942, q943, q130, rfl⟩⟩
theorem xV_ok_1_319_1 : XVok 1 319 1 1 (.inl mX0_off) := ⟨_, _, _, _, by decide, by decide, xC_1, xM_X0_off, by decide +kernel, Or.inl ⟨q1187, q1189, qs43, q124, rfl⟩⟩
theorem xV_ok_1_338_1 : XVok 1 338 1 1 (.inl mX0_isPlace) := ⟨_, _, _, _, by decide, by decide, xC_1, xM_X0_isPlace, by decide +kernel, Or.inl ⟨q1225, q1227, qs44, q124, rfl⟩⟩
theorem xV_ok_1_359_19 : XVok 1 359 0 19 (.inl mX19_hurt) := ⟨_, _, _, _, by decide, by decide, xC_19, xM_X19_hurt, by decide +kernel, Or.inl ⟨q1238, q1239, q1240, q156, rfl⟩⟩
theorem xV_ok_1_361_19 : XVok 1 361 0 19 (.inl mX19_crossing) := ⟨_, _, _, _, by decide, by decide, xC_19, xM_X19_crossing, by decide +kernel, Or.inl ⟨q1242, q1243, q1244, q156, rfl⟩⟩
theorem xV_ok_1_363_1 : XVok 1 363 4 1 (.inl mX0_sumOf) := ⟨_, _, _, _, by decide, by decide, xC_1, xM_X0_sumOf, by decide +kernel, Or.inl ⟨q1257, q1259, qs46, q124, rfl⟩⟩
theorem xV_ok_1_370_1 : XVok 1 370 2 1 (.inl mX0_below) := ⟨_, _, _, _, by decide, by decide, xC_1, xM_X0_below, by decide +kernel, Or.inl ⟨q1261, q1263, qs47, q124, rfl⟩⟩
theorem xV_ok_1_374_1 : XVok 1 374 1 1 (.inl mX0_above) := ⟨_, _, _, _, by decide, by decide, xC_1, xM_X0_above, by decide +kernel, Or.inl ⟨q1253, q1255, qs45, q124, rfl⟩⟩
theorem xV_ok_1_382_19 : XVok 1 382 0 19 (.inl mX19_fall) := ⟨_, _, _, _, by decide, by decide, xC_19, xM_X19_fall, by decide +kernel, Or.inl ⟨q1282, q1283, q1284, q156, rfl⟩⟩
theorem xV_ok_1_388_1 : XVok 1 388 2 1 (.inl mX0_apart) := ⟨_, _, _, _, by decide, by decide, xC_1, xM_X0_apart, by decide +kernel, Or.inl ⟨q1291, q1293, qs51, q124, rfl⟩⟩
theorem xV_ok_1_392_1 : XVok 1 392 1 1 (.inl mX0_worstOf) := ⟨_, _, _, _, by decide, by decide, xC_1, xM_X0_worstOf, by decide +kernel, Or.inl ⟨q1273, q1275, qs48, q124, rfl⟩⟩
theorem xV_ok_1_395_1 : XVok 1 395 1 1 (.inl mX0_fallOf) := ⟨_, _, _, _, by decide, by decide, xC_1, xM_X0_fallOf, by decide +kernel, Or.inl ⟨q1278, q1280, qs49, q124, rfl⟩⟩
theorem xV_ok_1_398_1 : XVok 1 398 1 1 (.inl mX0_matches) := ⟨_, _, _, _, by decide, by decide, xC_1, xM_X0_matches, by decide +kernel, Or.inl ⟨q1287, q1289, qs50, q124, rfl⟩⟩
theorem xV_ok_1_403_1 : XVok 1 403 2 1 (.inl mX0_isWorse) := ⟨_, _, _, _, by decide, by decide, xC_1, xM_X0_isWorse, by decide +kernel, Or.inl ⟨q1300, q1302, qs52, q124, rfl⟩⟩
theorem xV_ok_1_414_1 : XVok 1 414 2 1 (.inl mX0_leftAt) := ⟨_, _, _, _, by decide, by decide, xC_1, xM_X0_leftAt, by decide +kernel, Or.inl ⟨q1323, q1325, qs55, q124, rfl⟩⟩
theorem xV_ok_1_417_1 : XVok 1 417 1 1 (.inl mX0_costOf) := ⟨_, _, _, _, by decide, by decide, xC_1, xM_X0_costOf, by decide +kernel, Or.inl ⟨q1327, q1329, qs56, q124, rfl⟩⟩
theorem xV_ok_1_420_1 : XVok 1 420 3 1 (.inl mX0_spends) := ⟨_, _, _, _, by decide, by decide, xC_1, xM_X0_spends, by decide +kernel, Or.inl ⟨q1318, q1320, qs54, q124, rfl⟩⟩
theorem xV_ok_1_428_1 : XVok 1 428 1 1 (.inl mX0_laysSpent) := ⟨_, _, _, _, by decide, by decide, xC_1, xM_X0_laysSpent, by decide +kernel, Or.inl ⟨q1314, q1316, qs53, q124, rfl⟩⟩
theorem xV_ok_1_449_6 : XVok 1 449 0 6 (.inl mX4_many) := ⟨_, _, _, _, by decide, by decide, xC_6, xM_X4_many, by decide +kernel, Or.inl ⟨q1365, q1366, q1367, q131, rfl⟩⟩
theorem xV_ok_1_450_6 : XVok 1 450 1 6 (.inl mX4_number) := ⟨_, _, _, _, by decide, by decide, xC_6, xM_X4_number, by decide +kernel, Or.inl ⟨q1373, q1374, q1375, q131, rfl⟩⟩
theorem xV_ok_1_468_1 : XVok 1 468 4 1 (.inl mX0_isContent) := ⟨_, _, _, _, by decide, by decide, xC_1, xM_X0_isContent, by decide +kernel, Or.inl ⟨q1397, q1399, qs57, q124, rfl⟩⟩
theorem xV_ok_1_476_1 : XVok 1 476 3 1 (.inl mX0_nearest) := ⟨_, _, _, _, by decide, by decide, xC_1, xM_X0_nearest, by decide +kernel, Or.inl ⟨q1419, q1421, qs60, q124, rfl⟩⟩
theorem xV_ok_1_479_1 : XVok 1 479 1 1 (.inl mX0_countsFault) := ⟨_, _, _, _, by decide, by decide, xC_1, xM_X0_countsFault, by decide +kernel, Or.inl ⟨q1411, q1413, qs58, q124, rfl⟩⟩
theorem xV_ok_1_482_1 : XVok 1 482 2 1 (.inl mX0_filledAt) := ⟨_, _, _, _, by decide, by decide, xC_1, xM_X0_filledAt, by decide +kernel, Or.inl ⟨q1415, q1417, qs59, q124, rfl⟩⟩
theorem xV_ok_1_492_1 : XVok 1 492 1 1 (.inl mX0_isCounted) := ⟨_, _, _, _, by decide, by decide, xC_1, xM_X0_isCounted, by decide +kernel, Or.inl ⟨q1427, q1429, qs61, q124, rfl⟩⟩
theorem xV_ok_1_495_1 : XVok 1 495 3 1 (.inl mX0_slips) := ⟨_, _, _, _, by decide, by decide, xC_1, xM_X0_slips, by decide +kernel, Or.inl ⟨q1431, q1433, qs62, q124, rfl⟩⟩
theorem xV_ok_1_509_2 : XVok 1 509 0 2 (.inl mX1_copy) := ⟨_, _, _, _, by decide, by decide, xC_2, xM_X1_copy, by decide +kernel, Or.inl ⟨q1583, q1584, q1585, q125, rfl⟩⟩
theorem xV_ok_2_41_3 : XVok 2 41 0 3 (.inl mX2_copy) := ⟨_, _, _, _, by decide, by decide, xC_3, xM_X2_copy, by decide +kernel, Or.inl ⟨q1589, q1167, q1168, q126, rfl⟩⟩
theorem xV_ok_2_45_4 : XVok 2 45 0 4 (.inl mJ2_size) := ⟨_, _, _, _, by decide, by decide, xC_4, xM_J2_size, by decide +kernel, Or.inl ⟨q1590, q584, q585, q129, rfl⟩⟩
theorem xV_ok_2_49_4 : XVok 2 49 1 4 (.inl mJ2_get) := ⟨_, _, _, _, by decide, by decide, xC_4, xM_J2_get, by decide +kernel, Or.inl ⟨q1591, q718, q719, q129, rfl⟩⟩
theorem xV_ok_2_55_19 : XVok 2 55 0 19 (.inl mX19_copy) := ⟨_, _, _, _, by decide, by decide, xC_19, xM_X19_copy, by decide +kernel, Or.inl ⟨q1593, q1594, q1595, q156, rfl⟩⟩
theorem xV_ok_2_58_4 : XVok 2 58 1 4 (.inl mJ2_add) := ⟨_, _, _, _, by decide, by decide, xC_4, xM_J2_add, by decide +kernel, Or.inl ⟨q1599, q644, q645, q129, rfl⟩⟩
theorem xV_ok_3_34_4 : XVok 3 34 0 4 (.inl mJ2_size) := ⟨_, _, _, _, by decide, by decide, xC_4, xM_J2_size, by decide +kernel, Or.inl ⟨q1172, q584, q585, q129, rfl⟩⟩
theorem xV_ok_3_38_4 : XVok 3 38 1 4 (.inl mJ2_get) := ⟨_, _, _, _, by decide, by decide, xC_4, xM_J2_get, by decide +kernel, Or.inl ⟨q954, q718, q719, q129, rfl⟩⟩
theorem xV_ok_3_44_4 : XVok 3 44 1 4 (.inl mJ2_add) := ⟨_, _, _, _, by decide, by decide, xC_4, xM_J2_add, by decide +kernel, Or.inl ⟨q1173, q644, q645, q129, rfl⟩⟩
theorem xV_ok_4_69_4 : XVok 4 69 1 4 (.inl mJ2_grow_2) := ⟨_, _, _, _, by decide, by decide, xC_4, xM_J2_grow_2, by decide +kernel, Or.inl ⟨q655, q657, qs16, q129, rfl⟩⟩
theorem xV_ok_4_123_4 : XVok 4 123 1 4 (.inl mJ2_elementData) := ⟨_, _, _, _, by decide, by decide, xC_4, xM_J2_elementData, by decide +kernel, Or.inl ⟨q725, q726, q727, q129, rfl⟩⟩
theorem xV_ok_4_129_4 : XVok 4 129 0 4 (.inl mJ2_grow) := ⟨_, _, _, _, by decide, by decide, xC_4, xM_J2_grow, by decide +kernel, Or.inl ⟨q651, q653, qs15, q129, rfl⟩⟩
theorem xV_ok_4_131_4 : XVok 4 131 3 4 (.inl mJ2_add_2) := ⟨_, _, _, _, by decide, by decide, xC_4, xM_J2_add_2, by decide +kernel, Or.inl ⟨q647, q649, qs14, q129, rfl⟩⟩
theorem xV_ok_4_144_4 : XVok 4 144 2 4 (.inl mJ2_fastRemove) := ⟨_, _, _, _, by decide, by decide, xC_4, xM_J2_fastRemove, by decide +kernel, Or.inl ⟨q1178, q1180, qs42, q129, rfl⟩⟩
theorem xV_ok_5_54_5 : XVok 5 54 0 5 (.inl mX3_many) := ⟨_, _, _, _, by decide, by decide, xC_5, xM_X3_many, by decide +kernel, Or.inl ⟨q936, q937, q938, q130, rfl⟩⟩
theorem xV_ok_5_58_5 : XVok 5 58 1 5 (.inl mX3_car) := ⟨_, _, _, _, by decide, by decide, xC_5, xM_X3_car, by decide +kernel, Or.inl ⟨q941, q942, q943, q130, rfl⟩⟩
theorem xV_ok_5_66_3 : XVok 5 66 1 3 (.inl mX2_pace) := ⟨_, _, _, _, by decide, by decide, xC_3, xM_X2_pace, by decide +kernel, Or.inl ⟨q947, q948, q949, q126, rfl⟩⟩
theorem xV_ok_5_75_4 : XVok 5 75 0 4 (.inl mJ2_size) := ⟨_, _, _, _, by decide, by decide, xC_4, xM_J2_size, by decide +kernel, Or.inl ⟨q940, q584, q585, q129, rfl⟩⟩
theorem xV_ok_5_80_4 : XVok 5 80 1 4 (.inl mJ2_get) := ⟨_, _, _, _, by decide, by decide, xC_4, xM_J2_get, by decide +kernel, Or.inl ⟨q945, q718, q719, q129, rfl⟩⟩
theorem xV_ok_5_102_5 : XVok 5 102 1 5 (.inl mX3_isHidden) := ⟨_, _, _, _, by decide, by decide, xC_5, xM_X3_isHidden, by decide +kernel, Or.inl ⟨q1048, q1050, qs32, q130, rfl⟩⟩
theorem xV_ok_5_109_5 : XVok 5 109 0 5 (.inl mX3_isFree) := ⟨_, _, _, _, by decide, by decide, xC_5, xM_X3_isFree, by decide +kernel, Or.inl ⟨q1044, q1046, qs31, q130, rfl⟩⟩
theorem xV_ok_5_113_5 : XVok 5 113 0 5 (.inl mX3_isAtKerb) := ⟨_, _, _, _, by decide, by decide, xC_5, xM_X3_isAtKerb, by decide +kernel, Or.inl ⟨q1053, q1054, q1055, q130, rfl⟩⟩
theorem xV_ok_5_129_5 : XVok 5 129 1 5 (.inl mX3_moves) := ⟨_, _, _, _, by decide, by decide, xC_5, xM_X3_moves, by decide +kernel, Or.inl ⟨q1058, q1060, qs33, q130, rfl⟩⟩
theorem xV_ok_5_132_5 : XVok 5 132 1 5 (.inl mX3_crosses) := ⟨_, _, _, _, by decide, by decide, xC_5, xM_X3_crosses, by decide +kernel, Or.inl ⟨q1072, q1074, qs36, q130, rfl⟩⟩
theorem xV_ok_5_136_5 : XVok 5 136 1 5 (.inl mX3_nearest) := ⟨_, _, _, _, by decide, by decide, xC_5, xM_X3_nearest, by decide +kernel, Or.inl ⟨q1062, q1064, qs34, q130, rfl⟩⟩
theorem xV_ok_5_139_5 : XVok 5 139 2 5 (.inl mX3_goes) := ⟨_, _, _, _, by decide, by decide, xC_5, xM_X3_goes, by decide +kernel, Or.inl ⟨q1066, q1068, qs35, q130, rfl⟩⟩
theorem xV_ok_7_89_7 : XVok 7 89 1 7 (.inl mX5_no) := ⟨_, _, _, _, by decide, by decide, xC_7, xM_X5_no, by decide +kernel, Or.inl ⟨q1734, q1736, qs65, q132, rfl⟩⟩
theorem xV_ok_7_114_7 : XVok 7 114 1 7 (.inl mX5_see) := ⟨_, _, _, _, by decide, by decide, xC_7, xM_X5_see, by decide +kernel, Or.inl ⟨q1749, q1751, qs67, q132, rfl⟩⟩
theorem xV_ok_7_124_7 : XVok 7 124 0 7 (.inl mX5_keyAt) := ⟨_, _, _, _, by decide, by decide, xC_7, xM_X5_keyAt, by decide +kernel, Or.inl ⟨q1756, q1758, qs68, q132, rfl⟩⟩
theorem xV_ok_7_139_7 : XVok 7 139 1 7 (.inl mX5_is) := ⟨_, _, _, _, by decide, by decide, xC_7, xM_X5_is, by decide +kernel, Or.inl ⟨q1774, q1776, qs71, q132, rfl⟩⟩
theorem xV_ok_7_142_7 : XVok 7 142 0 7 (.inl mX5_next) := ⟨_, _, _, _, by decide, by decide, xC_7, xM_X5_next, by decide +kernel, Or.inl ⟨q1745, q1747, qs66, q132, rfl⟩⟩
theorem xV_ok_7_145_7 : XVok 7 145 1 7 (.inl mX5_eats) := ⟨_, _, _, _, by decide, by decide, xC_7, xM_X5_eats, by decide +kernel, Or.inl ⟨q1770, q1772, qs70, q132, rfl⟩⟩
theorem xV_ok_7_148_7 : XVok 7 148 1 7 (.inl mX5_fails) := ⟨_, _, _, _, by decide, by decide, xC_7, xM_X5_fails, by decide +kernel, Or.inl ⟨q1786, q1788, qs74, q132, rfl⟩⟩
theorem xV_ok_7_156_7 : XVok 7 156 2 7 (.inl mX5_takes) := ⟨_, _, _, _, by decide, by decide, xC_7, xM_X5_takes, by decide +kernel, Or.inl ⟨q1782, q1784, qs73, q132, rfl⟩⟩
theorem xV_ok_7_160_7 : XVok 7 160 1 7 (.inl mX5_needs) := ⟨_, _, _, _, by decide, by decide, xC_7, xM_X5_needs, by decide +kernel, Or.inl ⟨q1794, q1796, qs76, q132, rfl⟩⟩
theorem xV_ok_7_163_7 : XVok 7 163 0 7 (.inl mX5_lanesNeeded) := ⟨_, _, _, _, by decide, by decide, xC_7, xM_X5_lanesNeeded, by decide +kernel, Or.inl ⟨q1778, q1780, qs72, q132, rfl⟩⟩
theorem xV_ok_7_166_7 : XVok 7 166 0 7 (.inl mX5_readCar) := ⟨_, _, _, _, by decide, by decide, xC_7, xM_X5_readCar, by decide +kernel, Or.inl ⟨q1790, q1792, qs75, q132, rfl⟩⟩
theorem xV_ok_7_169_7 : XVok 7 169 0 7 (.inl mX5_readTrait) := ⟨_, _, _, _, by decide, by decide, xC_7, xM_X5_readTrait, by decide +kernel, Or.inl ⟨q1798, q1800, qs77, q132, rfl⟩⟩
theorem xV_ok_7_179_7 : XVok 7 179 0 7 (.inl mX5_readPart) := ⟨_, _, _, _, by decide, by decide, xC_7, xM_X5_readPart, by decide +kernel, Or.inl ⟨q1812, q1814, qs80, q132, rfl⟩⟩
theorem xV_ok_7_182_7 : XVok 7 182 2 7 (.inl mX5_emit) := ⟨_, _, _, _, by decide, by decide, xC_7, xM_X5_emit, by decide +kernel, Or.inl ⟨q1820, q1822, qs82, q132, rfl⟩⟩
theorem xV_ok_7_186_7 : XVok 7 186 0 7 (.inl mX5_readFact) := ⟨_, _, _, _, by decide, by decide, xC_7, xM_X5_readFact, by decide +kernel, Or.inl ⟨q1816, q1818, qs81, q132, rfl⟩⟩
theorem xV_ok_7_192_7 : XVok 7 192 0 7 (.inl mX5_readTest) := ⟨_, _, _, _, by decide, by decide, xC_7, xM_X5_readTest, by decide +kernel, Or.inl ⟨q1808, q1810, qs79, q132, rfl⟩⟩
theorem xV_ok_7_201_7 : XVok 7 201 0 7 (.inl mX5_readLine) := ⟨_, _, _, _, by decide, by decide, xC_7, xM_X5_readLine, by decide +kernel, Or.inl ⟨q1766, q1768, qs69, q132, rfl⟩⟩
theorem xV_ok_7_204_7 : XVok 7 204 0 7 (.inl mX5_readLaw) := ⟨_, _, _, _, by decide, by decide, xC_7, xM_X5_readLaw, by decide +kernel, Or.inl ⟨q1804, q1806, qs78, q132, rfl⟩⟩
theorem xV_ok_7_210_7 : XVok 7 210 1 7 (.inl mX5_isCar) := ⟨_, _, _, _, by decide, by decide, xC_7, xM_X5_isCar, by decide +kernel, Or.inl ⟨q1835, q1837, qs83, q132, rfl⟩⟩
theorem xV_ok_7_225_7 : XVok 7 225 1 7 (.inl mX5_hasTrait) := ⟨_, _, _, _, by decide, by decide, xC_7, xM_X5_hasTrait, by decide +kernel, Or.inl ⟨q1861, q1863, qs85, q132, rfl⟩⟩
theorem xV_ok_7_228_7 : XVok 7 228 5 7 (.inl mX5_isSome) := ⟨_, _, _, _, by decide, by decide, xC_7, xM_X5_isSome, by decide +kernel, Or.inl ⟨q1877, q1879, qs89, q132, rfl⟩⟩
theorem xV_ok_7_232_7 : XVok 7 232 3 7 (.inl mX5_fact) := ⟨_, _, _, _, by decide, by decide, xC_7, xM_X5_fact, by decide +kernel, Or.inl ⟨q1873, q1875, qs88, q132, rfl⟩⟩
theorem xV_ok_7_236_7 : XVok 7 236 2 7 (.inl mX5_isSo) := ⟨_, _, _, _, by decide, by decide, xC_7, xM_X5_isSo, by decide +kernel, Or.inl ⟨q1869, q1871, qs87, q132, rfl⟩⟩
theorem xV_ok_7_240_7 : XVok 7 240 1 7 (.inl mX5_begins) := ⟨_, _, _, _, by decide, by decide, xC_7, xM_X5_begins, by decide +kernel, Or.inl ⟨q1857, q1859, qs84, q132, rfl⟩⟩
theorem xV_ok_7_243_7 : XVok 7 243 1 7 (.inl mX5_stopsBy) := ⟨_, _, _, _, by decide, by decide, xC_7, xM_X5_stopsBy, by decide +kernel, Or.inl ⟨q1865, q1867, qs86, q132, rfl⟩⟩
theorem xV_ok_7_246_7 : XVok 7 246 1 7 (.inl mX5_canStop) := ⟨_, _, _, _, by decide, by decide, xC_7, xM_X5_canStop, by decide +kernel, Or.inl ⟨q1885, q1887, qs90, q132, rfl⟩⟩
theorem xV_ok_7_253_7 : XVok 7 253 1 7 (.inl mX5_isHidden) := ⟨_, _, _, _, by decide, by decide, xC_7, xM_X5_isHidden, by decide +kernel, Or.inl ⟨q1910, q1912, qs95, q132, rfl⟩⟩
theorem xV_ok_7_259_7 : XVok 7 259 1 7 (.inl mX5_goesOn) := ⟨_, _, _, _, by decide, by decide, xC_7, xM_X5_goesOn, by decide +kernel, Or.inl ⟨q1918, q1920, qs97, q132, rfl⟩⟩
theorem xV_ok_7_262_7 : XVok 7 262 1 7 (.inl mX5_isFree) := ⟨_, _, _, _, by decide, by decide, xC_7, xM_X5_isFree, by decide +kernel, Or.inl ⟨q1906, q1908, qs94, q132, rfl⟩⟩
theorem xV_ok_7_265_7 : XVok 7 265 0 7 (.inl mX5_carsGo) := ⟨_, _, _, _, by decide, by decide, xC_7, xM_X5_carsGo, by decide +kernel, Or.inl ⟨q1914, q1916, qs96, q132, rfl⟩⟩
theorem xV_ok_7_268_7 : XVok 7 268 1 7 (.inl mX5_decides) := ⟨_, _, _, _, by decide, by decide, xC_7, xM_X5_decides, by decide +kernel, Or.inl ⟨q1897, q1899, qs92, q132, rfl⟩⟩
theorem xV_ok_7_272_7 : XVok 7 272 0 7 (.inl mX5_ticks) := ⟨_, _, _, _, by decide, by decide, xC_7, xM_X5_ticks, by decide +kernel, Or.inl ⟨q1902, q1904, qs93, q132, rfl⟩⟩
theorem xV_ok_7_275_7 : XVok 7 275 2 7 (.inl mX5_runs) := ⟨_, _, _, _, by decide, by decide, xC_7, xM_X5_runs, by decide +kernel, Or.inl ⟨q1893, q1895, qs91, q132, rfl⟩⟩
theorem xV_ok_7_278_7 : XVok 7 278 0 7 (.inl mX5_stopped) := ⟨_, _, _, _, by decide, by decide, xC_7, xM_X5_stopped, by decide +kernel, Or.inl ⟨q1922, q1924, qs98, q132, rfl⟩⟩
theorem xV_ok_7_283_7 : XVok 7 283 1 7 (.inl mX5_none) := ⟨_, _, _, _, by decide, by decide, xC_7, xM_X5_none, by decide +kernel, Or.inl ⟨q1931, q1933, qs99, q132, rfl⟩⟩
theorem xV_ok_7_288_7 : XVok 7 288 2 7 (.inl mX5_branches) := ⟨_, _, _, _, by decide, by decide, xC_7, xM_X5_branches, by decide +kernel, Or.inl ⟨q1956, q1958, qs102, q132, rfl⟩⟩
theorem xV_ok_7_292_7 : XVok 7 292 0 7 (.inl mX5_allParts) := ⟨_, _, _, _, by decide, by decide, xC_7, xM_X5_allParts, by decide +kernel, Or.inl ⟨q1951, q1953, qs101, q132, rfl⟩⟩
theorem xV_ok_7_296_7 : XVok 7 296 0 7 (.inl mX5_worksOdds) := ⟨_, _, _, _, by decide, by decide, xC_7, xM_X5_worksOdds, by decide +kernel, Or.inl ⟨q1947, q1949, qs100, q132, rfl⟩⟩
theorem xV_ok_7_299_7 : XVok 7 299 1 7 (.inl mX5_overIf) := ⟨_, _, _, _, by decide, by decide, xC_7, xM_X5_overIf, by decide +kernel, Or.inl ⟨q1964, q1966, qs103, q132, rfl⟩⟩
theorem xV_ok_7_316_7 : XVok 7 316 1 7 (.inl mX5_isPlace) := ⟨_, _, _, _, by decide, by decide, xC_7, xM_X5_isPlace, by decide +kernel, Or.inl ⟨q2017, q2019, qs104, q132, rfl⟩⟩
theorem xV_ok_7_321_7 : XVok 7 321 2 7 (.inl mX5_sumOf) := ⟨_, _, _, _, by decide, by decide, xC_7, xM_X5_sumOf, by decide +kernel, Or.inl ⟨q2030, q2032, qs105, q132, rfl⟩⟩
theorem xV_ok_7_325_7 : XVok 7 325 1 7 (.inl mX5_partedAbove) := ⟨_, _, _, _, by decide, by decide, xC_7, xM_X5_partedAbove, by decide +kernel, Or.inl ⟨q2038, q2040, qs106, q132, rfl⟩⟩
theorem xV_ok_7_328_7 : XVok 7 328 1 7 (.inl mX5_partedBelow) := ⟨_, _, _, _, by decide, by decide, xC_7, xM_X5_partedBelow, by decide +kernel, Or.inl ⟨q2042, q2044, qs107, q132, rfl⟩⟩
theorem xV_ok_7_331_7 : XVok 7 331 1 7 (.inl mX5_hurtAt) := ⟨_, _, _, _, by decide, by decide, xC_7, xM_X5_hurtAt, by decide +kernel, Or.inl ⟨q2055, q2057, qs109, q132, rfl⟩⟩
theorem xV_ok_7_335_7 : XVok 7 335 1 7 (.inl mX5_worstOf) := ⟨_, _, _, _, by decide, by decide, xC_7, xM_X5_worstOf, by decide +kernel, Or.inl ⟨q2051, q2053, qs108, q132, rfl⟩⟩
theorem xV_ok_7_338_7 : XVok 7 338 1 7 (.inl mX5_fallOf) := ⟨_, _, _, _, by decide, by decide, xC_7, xM_X5_fallOf, by decide +kernel, Or.inl ⟨q2059, q2061, qs110, q132, rfl⟩⟩
theorem xV_ok_7_341_7 : XVok 7 341 1 7 (.inl mX5_matchesOf) := ⟨_, _, _, _, by decide, by decide, xC_7, xM_X5_matchesOf, by decide +kernel, Or.inl ⟨q2063, q2065, qs111, q132, rfl⟩⟩
theorem xV_ok_7_344_7 : XVok 7 344 2 7 (.inl mX5_isWorse) := ⟨_, _, _, _, by decide, by decide, xC_7, xM_X5_isWorse, by decide +kernel, Or.inl ⟨q2071, q2073, qs112, q132, rfl⟩⟩
theorem xV_ok_7_347_7 : XVok 7 347 1 7 (.inl mX5_costOf) := ⟨_, _, _, _, by decide, by decide, xC_7, xM_X5_costOf, by decide +kernel, Or.inl ⟨q2088, q2090, qs114, q132, rfl⟩⟩
theorem xV_ok_7_350_7 : XVok 7 350 2 7 (.inl mX5_leftOf) := ⟨_, _, _, _, by decide, by decide, xC_7, xM_X5_leftOf, by decide +kernel, Or.inl ⟨q2092, q2094, qs115, q132, rfl⟩⟩
theorem xV_ok_7_355_7 : XVok 7 355 1 7 (.inl mX5_laysSpent) := ⟨_, _, _, _, by decide, by decide, xC_7, xM_X5_laysSpent, by decide +kernel, Or.inl ⟨q2084, q2086, qs113, q132, rfl⟩⟩
theorem xV_ok_7_358_7 : XVok 7 358 3 7 (.inl mX5_isBest) := ⟨_, _, _, _, by decide, by decide, xC_7, xM_X5_isBest, by decide +kernel, Or.inl ⟨q2096, q2098, qs116, q132, rfl⟩⟩
theorem xV_ok_7_369_7 : XVok 7 369 3 7 (.inl mX5_payAt) := ⟨_, _, _, _, by decide, by decide, xC_7, xM_X5_payAt, by decide +kernel, Or.inl ⟨q2132, q2134, qs117, q132, rfl⟩⟩
theorem xV_ok_7_373_7 : XVok 7 373 4 7 (.inl mX5_isRest) := ⟨_, _, _, _, by decide, by decide, xC_7, xM_X5_isRest, by decide +kernel, Or.inl ⟨q2140, q2142, qs118, q132, rfl⟩⟩
theorem xV_ok_7_383_7 : XVok 7 383 1 7 (.inl mX5_isTooMuch) := ⟨_, _, _, _, by decide, by decide, xC_7, xM_X5_isTooMuch, by decide +kernel, Or.inl ⟨q2155, q2157, qs119, q132, rfl⟩⟩
theorem xV_ok_7_386_7 : XVok 7 386 1 7 (.inl mX5_hereIn) := ⟨_, _, _, _, by decide, by decide, xC_7, xM_X5_hereIn, by decide +kernel, Or.inl ⟨q2159, q2161, qs120, q132, rfl⟩⟩
theorem xV_ok_7_389_7 : XVok 7 389 2 7 (.inl mX5_filledAt) := ⟨_, _, _, _, by decide, by decide, xC_7, xM_X5_filledAt, by decide +kernel, Or.inl ⟨q2163, q2165, qs121, q132, rfl⟩⟩
theorem xV_ok_7_392_7 : XVok 7 392 1 7 (.inl mX5_isRow) := ⟨_, _, _, _, by decide, by decide, xC_7, xM_X5_isRow, by decide +kernel, Or.inl ⟨q2171, q2173, qs122, q132, rfl⟩⟩
theorem xV_ok_8_42_8 : XVok 8 42 1 8 (.inl mX6_see) := ⟨_, _, _, _, by decide, by decide, xC_8, xM_X6_see, by decide +kernel, Or.inl ⟨q505, q507, qs3, q133, rfl⟩⟩
theorem xV_ok_8_67_8 : XVok 8 67 1 8 (.inl mX6_isSmall) := ⟨_, _, _, _, by decide, by decide, xC_8, xM_X6_isSmall, by decide +kernel, Or.inl ⟨q509, q511, qs4, q133, rfl⟩⟩
theorem xV_ok_8_71_8 : XVok 8 71 1 8 (.inl mX6_isDigit) := ⟨_, _, _, _, by decide, by decide, xC_8, xM_X6_isDigit, by decide +kernel, Or.inl ⟨q516, q518, qs5, q133, rfl⟩⟩
theorem xV_ok_8_90_8 : XVok 8 90 1 8 (.inl mX6_is) := ⟨_, _, _, _, by decide, by decide, xC_8, xM_X6_is, by decide +kernel, Or.inl ⟨q527, q529, qs7, q133, rfl⟩⟩
theorem xV_ok_8_94_8 : XVok 8 94 0 8 (.inl mX6_next) := ⟨_, _, _, _, by decide, by decide, xC_8, xM_X6_next, by decide +kernel, Or.inl ⟨q501, q503, qs2, q133, rfl⟩⟩
theorem xV_ok_8_97_8 : XVok 8 97 1 8 (.inl mX6_wrong) := ⟨_, _, _, _, by decide, by decide, xC_8, xM_X6_wrong, by decide +kernel, Or.inl ⟨q591, q593, qs10, q133, rfl⟩⟩
theorem xV_ok_8_100_8 : XVok 8 100 1 8 (.inl mX6_takes) := ⟨_, _, _, _, by decide, by decide, xC_8, xM_X6_takes, by decide +kernel, Or.inl ⟨q604, q606, qs13, q133, rfl⟩⟩
theorem xV_ok_8_103_8 : XVok 8 103 2 8 (.inl mX6_number) := ⟨_, _, _, _, by decide, by decide, xC_8, xM_X6_number, by decide +kernel, Or.inl ⟨q595, q597, qs11, q133, rfl⟩⟩
theorem xV_ok_8_123_8 : XVok 8 123 0 8 (.inl mX6_line) := ⟨_, _, _, _, by decide, by decide, xC_8, xM_X6_line, by decide +kernel, Or.inl ⟨q522, q524, qs6, q133, rfl⟩⟩
theorem xV_ok_8_126_8 : XVok 8 126 0 8 (.inl mX6_over) := ⟨_, _, _, _, by decide, by decide, xC_8, xM_X6_over, by decide +kernel, Or.inl ⟨q750, q752, qs20, q133, rfl⟩⟩
theorem xV_ok_8_135_4 : XVok 8 135 0 4 (.inl mJ2_size) := ⟨_, _, _, _, by decide, by decide, xC_4, xM_J2_size, by decide +kernel, Or.inl ⟨q583, q584, q585, q129, rfl⟩⟩
theorem xV_ok_8_137_4 : XVok 8 137 1 4 (.inl mJ2_get) := ⟨_, _, _, _, by decide, by decide, xC_4, xM_J2_get, by decide +kernel, Or.inl ⟨q717, q718, q719, q129, rfl⟩⟩
theorem xV_ok_8_153_8 : XVok 8 153 0 8 (.inl mX6_car) := ⟨_, _, _, _, by decide, by decide, xC_8, xM_X6_car, by decide +kernel, Or.inl ⟨q579, q581, qs8, q133, rfl⟩⟩
theorem xV_ok_8_157_8 : XVok 8 157 0 8 (.inl mX6_leastLanes) := ⟨_, _, _, _, by decide, by decide, xC_8, xM_X6_leastLanes, by decide +kernel, Or.inl ⟨q713, q715, qs17, q133, rfl⟩⟩
theorem xV_ok_8_177_8 : XVok 8 177 0 8 (.inl mX6_traitLine) := ⟨_, _, _, _, by decide, by decide, xC_8, xM_X6_traitLine, by decide +kernel, Or.inl ⟨q734, q736, qs18, q133, rfl⟩⟩
theorem xV_ok_8_180_8 : XVok 8 180 0 8 (.inl mX6_trait) := ⟨_, _, _, _, by decide, by decide, xC_8, xM_X6_trait, by decide +kernel, Or.inl ⟨q738, q740, qs19, q133, rfl⟩⟩
theorem xV_ok_8_186_8 : XVok 8 186 1 8 (.inl mX6_space) := ⟨_, _, _, _, by decide, by decide, xC_8, xM_X6_space, by decide +kernel, Or.inl ⟨q587, q589, qs9, q133, rfl⟩⟩
theorem xV_ok_8_191_8 : XVok 8 191 3 8 (.inl mX6_told) := ⟨_, _, _, _, by decide, by decide, xC_8, xM_X6_told, by decide +kernel, Or.inl ⟨q600, q602, qs12, q133, rfl⟩⟩
theorem xV_ok_8_202_4 : XVok 8 202 1 4 (.inl mJ2_add) := ⟨_, _, _, _, by decide, by decide, xC_4, xM_J2_add, by decide +kernel, Or.inl ⟨q643, q644, q645, q129, rfl⟩⟩
theorem xV_ok_8_210_8 : XVok 8 210 0 8 (.inl mX6_some) := ⟨_, _, _, _, by decide, by decide, xC_8, xM_X6_some, by decide +kernel, Or.inl ⟨q760, q762, qs21, q133, rfl⟩⟩
theorem xV_ok_8_219_8 : XVok 8 219 0 8 (.inl mX6_all) := ⟨_, _, _, _, by decide, by decide, xC_8, xM_X6_all, by decide +kernel, Or.inl ⟨q764, q766, qs22, q133, rfl⟩⟩
theorem xV_ok_8_229_8 : XVok 8 229 0 8 (.inl mX6_fact) := ⟨_, _, _, _, by decide, by decide, xC_8, xM_X6_fact, by decide +kernel, Or.inl ⟨q768, q770, qs23, q133, rfl⟩⟩
theorem xV_ok_8_239_8 : XVok 8 239 0 8 (.inl mX6_opens) := ⟨_, _, _, _, by decide, by decide, xC_8, xM_X6_opens, by decide +kernel, Or.inl ⟨q773, q775, qs24, q133, rfl⟩⟩
theorem xV_ok_8_269_8 : XVok 8 269 0 8 (.inl mX6_own) := ⟨_, _, _, _, by decide, by decide, xC_8, xM_X6_own, by decide +kernel, Or.inl ⟨q835, q837, qs25, q133, rfl⟩⟩
theorem xV_ok_10_13_10 : XVok 10 13 2 10 (.inl mX9_is) := ⟨_, _, _, _, by decide, by decide, xC_10, xM_X9_is, by decide +kernel, Or.inr ⟨⟨"FootOut$Fact", "is", "(LFootOut$Walk;I)Z"⟩, "FootOut$Fact", q994, q964, q1003, q992, List.mem_of_getElem? (i := 117) rfl, by decide +kernel, by decide +kernel⟩⟩
theorem xV_ok_10_13_11 : XVok 10 13 2 11 (.inl mX10_is) := ⟨_, _, _, _, by decide, by decide, xC_11, xM_X10_is, by decide +kernel, Or.inr ⟨⟨"FootOut$Fact", "is", "(LFootOut$Walk;I)Z"⟩, "FootOut$Fact", q994, q964, q1007, q1000, List.mem_of_getElem? (i := 117) rfl, by decide +kernel, by decide +kernel⟩⟩
theorem xV_ok_10_13_12 : XVok 10 13 2 12 (.inl mX11_is) := ⟨_, _, _, _, by decide, by decide, xC_12, xM_X11_is, by decide +kernel, Or.inr ⟨⟨"FootOut$Fact", "is", "(LFootOut$Walk;I)Z"⟩, "FootOut$Fact", q994, q964, q965, q966, List.mem_of_getElem? (i := 117) rfl, by decide +kernel, by decide +kernel⟩⟩
theorem xV_ok_10_13_13 : XVok 10 13 2 13 (.inl mX11_is) := ⟨_, _, _, _, by decide, by decide, xC_13, xM_X11_is, by decide +kernel, Or.inr ⟨⟨"FootOut$Fact", "is", "(LFootOut$Walk;I)Z"⟩, "FootOut$Fact", q994, q964, q987, q966, List.mem_of_getElem? (i := 117) rfl, by decide +kernel, by decide +kernel⟩⟩
theorem xV_ok_10_13_14 : XVok 10 13 2 14 (.inl mX11_is) := ⟨_, _, _, _, by decide, by decide, xC_14, xM_X11_is, by decide +kernel, Or.inr ⟨⟨"FootOut$Fact", "is", "(LFootOut$Walk;I)Z"⟩, "FootOut$Fact", q994, q964, q1006, q966, List.mem_of_getElem? (i := 117) rfl, by decide +kernel, by decide +kernel⟩⟩
theorem xV_ok_10_13_15 : XVok 10 13 2 15 (.inl mX15_is) := ⟨_, _, _, _, by decide, by decide, xC_15, xM_X15_is, by decide +kernel, Or.inr ⟨⟨"FootOut$Fact", "is", "(LFootOut$Walk;I)Z"⟩, "FootOut$Fact", q994, q964, q1004, q995, List.mem_of_getElem? (i := 117) rfl, by decide +kernel, by decide +kernel⟩⟩
theorem xV_ok_10_13_16 : XVok 10 13 2 16 (.inl mX16_is) := ⟨_, _, _, _, by decide, by decide, xC_16, xM_X16_is, by decide +kernel, Or.inr ⟨⟨"FootOut$Fact", "is", "(LFootOut$Walk;I)Z"⟩, "FootOut$Fact", q994, q964, q1005, q997, List.mem_of_getElem? (i := 117) rfl, by decide +kernel, by decide +kernel⟩⟩
theorem xV_ok_10_13_17 : XVok 10 13 2 17 (.inl mX17_is) := ⟨_, _, _, _, by decide, by decide, xC_17, xM_X17_is, by decide +kernel, Or.inr ⟨⟨"FootOut$Fact", "is", "(LFootOut$Walk;I)Z"⟩, "FootOut$Fact", q994, q964, q988, q989, List.mem_of_getElem? (i := 117) rfl, by decide +kernel, by decide +kernel⟩⟩
theorem xV_ok_12_9_5 : XVok 12 9 1 5 (.inl mX3_car) := ⟨_, _, _, _, by decide, by decide, xC_5, xM_X3_car, by decide +kernel, Or.inl ⟨q975, q942, q943, q130, rfl⟩⟩
theorem xV_ok_13_9_5 : XVok 13 9 1 5 (.inl mX3_car) := ⟨_, _, _, _, by decide, by decide, xC_5, xM_X3_car, by decide +kernel, Or.inl ⟨q979, q942, q943, q130, rfl⟩⟩
theorem xV_ok_14_9_5 : XVok 14 9 1 5 (.inl mX3_car) := ⟨_, _, _, _, by decide, by decide, xC_5, xM_X3_car, by decide +kernel, Or.inl ⟨q986, q942, q943, q130, rfl⟩⟩
theorem xV_ok_16_25_5 : XVok 16 25 1 5 (.inl mX3_car) := ⟨_, _, _, _, by decide, by decide, xC_5, xM_X3_car, by decide +kernel, Or.inl ⟨q999, q942, q943, q130, rfl⟩⟩
theorem xV_ok_17_20_10 : XVok 17 20 2 10 (.inl mX9_is) := ⟨_, _, _, _, by decide, by decide, xC_10, xM_X9_is, by decide +kernel, Or.inr ⟨⟨"FootOut$Fact", "is", "(LFootOut$Walk;I)Z"⟩, "FootOut$Fact", q991, q964, q1003, q992, List.mem_of_getElem? (i := 117) rfl, by decide +kernel, by decide +kernel⟩⟩
theorem xV_ok_17_20_11 : XVok 17 20 2 11 (.inl mX10_is) := ⟨_, _, _, _, by decide, by decide, xC_11, xM_X10_is, by decide +kernel, Or.inr ⟨⟨"FootOut$Fact", "is", "(LFootOut$Walk;I)Z"⟩, "FootOut$Fact", q991, q964, q1007, q1000, List.mem_of_getElem? (i := 117) rfl, by decide +kernel, by decide +kernel⟩⟩
theorem xV_ok_17_20_12 : XVok 17 20 2 12 (.inl mX11_is) := ⟨_, _, _, _, by decide, by decide, xC_12, xM_X11_is, by decide +kernel, Or.inr ⟨⟨"FootOut$Fact", "is", "(LFootOut$Walk;I)Z"⟩, "FootOut$Fact", q991, q964, q965, q966, List.mem_of_getElem? (i := 117) rfl, by decide +kernel, by decide +kernel⟩⟩
theorem xV_ok_17_20_13 : XVok 17 20 2 13 (.inl mX11_is) := ⟨_, _, _, _, by decide, by decide, xC_13, xM_X11_is, by decide +kernel, Or.inr ⟨⟨"FootOut$Fact", "is", "(LFootOut$Walk;I)Z"⟩, "FootOut$Fact", q991, q964, q987, q966, List.mem_of_getElem? (i := 117) rfl, by decide +kernel, by decide +kernel⟩⟩
theorem xV_ok_17_20_14 : XVok 17 20 2 14 (.inl mX11_is) := ⟨_, _, _, _, by decide, by decide, xC_14, xM_X11_is, by decide +kernel, Or.inr ⟨⟨"FootOut$Fact", "is", "(LFootOut$Walk;I)Z"⟩, "FootOut$Fact", q991, q964, q1006, q966, List.mem_of_getElem? (i := 117) rfl, by decide +kernel, by decide +kernel⟩⟩
theorem xV_ok_17_20_15 : XVok 17 20 2 15 (.inl mX15_is) := ⟨_, _, _, _, by decide, by decide, xC_15, xM_X15_is, by decide +kernel, Or.inr ⟨⟨"FootOut$Fact", "is", "(LFootOut$Walk;I)Z"⟩, "FootOut$Fact", q991, q964, q1004, q995, List.mem_of_getElem? (i := 117) rfl, by decide +kernel, by decide +kernel⟩⟩
theorem xV_ok_17_20_16 : XVok 17 20 2 16 (.inl mX16_is) := ⟨_, _, _, _, by decide, by decide, xC_16, xM_X16_is, by decide +kernel, Or.inr ⟨⟨"FootOut$Fact", "is", "(LFootOut$Walk;I)Z"⟩, "FootOut$Fact", q991, q964, q1005, q997, List.mem_of_getElem? (i := 117) rfl, by decide +kernel, by decide +kernel⟩⟩
theorem xV_ok_17_20_17 : XVok 17 20 2 17 (.inl mX17_is) := ⟨_, _, _, _, by decide, by decide, xC_17, xM_X17_is, by decide +kernel, Or.inr ⟨⟨"FootOut$Fact", "is", "(LFootOut$Walk;I)Z"⟩, "FootOut$Fact", q991, q964, q988, q989, List.mem_of_getElem? (i := 117) rfl, by decide +kernel, by decide +kernel⟩⟩
theorem xV_ok_19_20_19 : XVok 19 20 0 19 (.inl mX19_hurt) := ⟨_, _, _, _, by decide, by decide, xC_19, xM_X19_hurt, by decide +kernel, Or.inl ⟨q1286, q1239, q1240, q156, rfl⟩⟩
theorem xV_ok_21_7_5 : XVok 21 7 0 5 (.inl mX3_many) := ⟨_, _, _, _, by decide, by decide, xC_5, xM_X3_many, by decide +kernel, Or.inl ⟨q968, q937, q938, q130, rfl⟩⟩
theorem xV_ok_21_17_12 : XVok 21 17 3 12 (.inl mX12_isSo) := ⟨_, _, _, _, by decide, by decide, xC_12, xM_X12_isSo, by decide +kernel, Or.inr ⟨⟨"FootOut$Seen", "isSo", "(LFootOut$Walk;II)Z"⟩, "FootOut$Seen", q969, q971, q972, q973, List.mem_of_getElem? (i := 118) rfl, by decide +kernel, by decide +kernel⟩⟩
theorem xV_ok_21_17_13 : XVok 21 17 3 13 (.inl mX13_isSo) := ⟨_, _, _, _, by decide, by decide, xC_13, xM_X13_isSo, by decide +kernel, Or.inr ⟨⟨"FootOut$Seen", "isSo", "(LFootOut$Walk;II)Z"⟩, "FootOut$Seen", q969, q971, q976, q977, List.mem_of_getElem? (i := 118) rfl, by decide +kernel, by decide +kernel⟩⟩
theorem xV_ok_21_17_14 : XVok 21 17 3 14 (.inl mX14_isSo) := ⟨_, _, _, _, by decide, by decide, xC_14, xM_X14_isSo, by decide +kernel, Or.inr ⟨⟨"FootOut$Seen", "isSo", "(LFootOut$Walk;II)Z"⟩, "FootOut$Seen", q969, q971, q983, q984, List.mem_of_getElem? (i := 118) rfl, by decide +kernel, by decide +kernel⟩⟩
theorem xV_ok_0_13 : ∀ e ∈ (([(1, .inl mX0_feed)] : List (Nat × (xM ⊕ Nat)))), XVok 0 13 5 e.1 e.2 := List.forall_mem_cons.mpr ⟨xV_ok_0_13_1, fun _ h => absurd h List.not_mem_nil⟩
theorem xV_ok_0_17 : ∀ e ∈ (([(7, .inl mX5_feed)] : List (Nat × (xM ⊕ Nat)))), XVok 0 17 5 e.1 e.2 := List.forall_mem_cons.mpr ⟨xV_ok_0_17_7, fun _ h => absurd h List.not_mem_nil⟩
theorem xV_ok_0_18 : ∀ e ∈ (([(1, .inl mX0_text)] : List (Nat × (xM ⊕ Nat)))), XVok 0 18 2 e.1 e.2 := List.forall_mem_cons.mpr ⟨xV_ok_0_18_1, fun _ h => absurd h List.not_mem_nil⟩
theorem xV_ok_0_22 : ∀ e ∈ (([(7, .inl mX5_text)] : List (Nat × (xM ⊕ Nat)))), XVok 0 22 2 e.1 e.2 := List.forall_mem_cons.mpr ⟨xV_ok_0_22_7, fun _ h => absurd h List.not_mem_nil⟩
theorem xV_ok_0_23 : ∀ e ∈ (([(1, .inl mX0_fault)] : List (Nat × (xM ⊕ Nat)))), XVok 0 23 1 e.1 e.2 := List.forall_mem_cons.mpr ⟨xV_ok_0_23_1, fun _ h => absurd h List.not_mem_nil⟩
theorem xV_ok_0_27 : ∀ e ∈ (([(7, .inl mX5_fault)] : List (Nat × (xM ⊕ Nat)))), XVok 0 27 1 e.1 e.2 := List.forall_mem_cons.mpr ⟨xV_ok_0_27_7, fun _ h => absurd h List.not_mem_nil⟩
theorem xV_ok_0_28 : ∀ e ∈ (([(1, .inl mX0_car)] : List (Nat × (xM ⊕ Nat)))), XVok 0 28 2 e.1 e.2 := List.forall_mem_cons.mpr ⟨xV_ok_0_28_1, fun _ h => absurd h List.not_mem_nil⟩
theorem xV_ok_0_31 : ∀ e ∈ (([(7, .inl mX5_car)] : List (Nat × (xM ⊕ Nat)))), XVok 0 31 2 e.1 e.2 := List.forall_mem_cons.mpr ⟨xV_ok_0_31_7, fun _ h => absurd h List.not_mem_nil⟩
theorem xV_ok_0_32 : ∀ e ∈ (([(1, .inl mX0_trait)] : List (Nat × (xM ⊕ Nat)))), XVok 0 32 2 e.1 e.2 := List.forall_mem_cons.mpr ⟨xV_ok_0_32_1, fun _ h => absurd h List.not_mem_nil⟩
theorem xV_ok_0_36 : ∀ e ∈ (([(7, .inl mX5_trait)] : List (Nat × (xM ⊕ Nat)))), XVok 0 36 2 e.1 e.2 := List.forall_mem_cons.mpr ⟨xV_ok_0_36_7, fun _ h => absurd h List.not_mem_nil⟩
theorem xV_ok_0_37 : ∀ e ∈ (([(1, .inl mX0_set)] : List (Nat × (xM ⊕ Nat)))), XVok 0 37 2 e.1 e.2 := List.forall_mem_cons.mpr ⟨xV_ok_0_37_1, fun _ h => absurd h List.not_mem_nil⟩
theorem xV_ok_0_40 : ∀ e ∈ (([(7, .inl mX5_set)] : List (Nat × (xM ⊕ Nat)))), XVok 0 40 2 e.1 e.2 := List.forall_mem_cons.mpr ⟨xV_ok_0_40_7, fun _ h => absurd h List.not_mem_nil⟩
theorem xV_ok_0_41 : ∀ e ∈ (([(1, .inl mX0_chance)] : List (Nat × (xM ⊕ Nat)))), XVok 0 41 1 e.1 e.2 := List.forall_mem_cons.mpr ⟨xV_ok_0_41_1, fun _ h => absurd h List.not_mem_nil⟩
theorem xV_ok_0_44 : ∀ e ∈ (([(7, .inl mX5_chance)] : List (Nat × (xM ⊕ Nat)))), XVok 0 44 1 e.1 e.2 := List.forall_mem_cons.mpr ⟨xV_ok_0_44_7, fun _ h => absurd h List.not_mem_nil⟩
theorem xV_ok_0_45 : ∀ e ∈ (([(1, .inl mX0_can)] : List (Nat × (xM ⊕ Nat)))), XVok 0 45 1 e.1 e.2 := List.forall_mem_cons.mpr ⟨xV_ok_0_45_1, fun _ h => absurd h List.not_mem_nil⟩
theorem xV_ok_0_48 : ∀ e ∈ (([(7, .inl mX5_can)] : List (Nat × (xM ⊕ Nat)))), XVok 0 48 1 e.1 e.2 := List.forall_mem_cons.mpr ⟨xV_ok_0_48_7, fun _ h => absurd h List.not_mem_nil⟩
theorem xV_ok_0_49 : ∀ e ∈ (([(1, .inl mX0_run)] : List (Nat × (xM ⊕ Nat)))), XVok 0 49 2 e.1 e.2 := List.forall_mem_cons.mpr ⟨xV_ok_0_49_1, fun _ h => absurd h List.not_mem_nil⟩
theorem xV_ok_0_52 : ∀ e ∈ (([(7, .inl mX5_run)] : List (Nat × (xM ⊕ Nat)))), XVok 0 52 2 e.1 e.2 := List.forall_mem_cons.mpr ⟨xV_ok_0_52_7, fun _ h => absurd h List.not_mem_nil⟩
theorem xV_ok_0_53 : ∀ e ∈ (([(1, .inl mX0_watch)] : List (Nat × (xM ⊕ Nat)))), XVok 0 53 4 e.1 e.2 := List.forall_mem_cons.mpr ⟨xV_ok_0_53_1, fun _ h => absurd h List.not_mem_nil⟩
theorem xV_ok_0_57 : ∀ e ∈ (([(7, .inl mX5_watch)] : List (Nat × (xM ⊕ Nat)))), XVok 0 57 4 e.1 e.2 := List.forall_mem_cons.mpr ⟨xV_ok_0_57_7, fun _ h => absurd h List.not_mem_nil⟩
theorem xV_ok_0_58 : ∀ e ∈ (([(1, .inl mX0_stands)] : List (Nat × (xM ⊕ Nat)))), XVok 0 58 2 e.1 e.2 := List.forall_mem_cons.mpr ⟨xV_ok_0_58_1, fun _ h => absurd h List.not_mem_nil⟩
theorem xV_ok_0_61 : ∀ e ∈ (([(7, .inl mX5_stands)] : List (Nat × (xM ⊕ Nat)))), XVok 0 61 2 e.1 e.2 := List.forall_mem_cons.mpr ⟨xV_ok_0_61_7, fun _ h => absurd h List.not_mem_nil⟩
theorem xV_ok_0_62 : ∀ e ∈ (([(1, .inl mX0_tries)] : List (Nat × (xM ⊕ Nat)))), XVok 0 62 3 e.1 e.2 := List.forall_mem_cons.mpr ⟨xV_ok_0_62_1, fun _ h => absurd h List.not_mem_nil⟩
theorem xV_ok_0_66 : ∀ e ∈ (([(7, .inl mX5_tries)] : List (Nat × (xM ⊕ Nat)))), XVok 0 66 3 e.1 e.2 := List.forall_mem_cons.mpr ⟨xV_ok_0_66_7, fun _ h => absurd h List.not_mem_nil⟩
theorem xV_ok_0_67 : ∀ e ∈ (([(1, .inl mX0_odds)] : List (Nat × (xM ⊕ Nat)))), XVok 0 67 1 e.1 e.2 := List.forall_mem_cons.mpr ⟨xV_ok_0_67_1, fun _ h => absurd h List.not_mem_nil⟩
theorem xV_ok_0_71 : ∀ e ∈ (([(7, .inl mX5_odds)] : List (Nat × (xM ⊕ Nat)))), XVok 0 71 1 e.1 e.2 := List.forall_mem_cons.mpr ⟨xV_ok_0_71_7, fun _ h => absurd h List.not_mem_nil⟩
theorem xV_ok_0_72 : ∀ e ∈ (([(1, .inl mX0_helps)] : List (Nat × (xM ⊕ Nat)))), XVok 0 72 1 e.1 e.2 := List.forall_mem_cons.mpr ⟨xV_ok_0_72_1, fun _ h => absurd h List.not_mem_nil⟩
theorem xV_ok_0_75 : ∀ e ∈ (([(7, .inl mX5_helps)] : List (Nat × (xM ⊕ Nat)))), XVok 0 75 1 e.1 e.2 := List.forall_mem_cons.mpr ⟨xV_ok_0_75_7, fun _ h => absurd h List.not_mem_nil⟩
theorem xV_ok_0_76 : ∀ e ∈ (([(1, .inl mX0_best)] : List (Nat × (xM ⊕ Nat)))), XVok 0 76 1 e.1 e.2 := List.forall_mem_cons.mpr ⟨xV_ok_0_76_1, fun _ h => absurd h List.not_mem_nil⟩
theorem xV_ok_0_79 : ∀ e ∈ (([(7, .inl mX5_best)] : List (Nat × (xM ⊕ Nat)))), XVok 0 79 1 e.1 e.2 := List.forall_mem_cons.mpr ⟨xV_ok_0_79_7, fun _ h => absurd h List.not_mem_nil⟩
theorem xV_ok_0_80 : ∀ e ∈ (([(1, .inl mX0_back)] : List (Nat × (xM ⊕ Nat)))), XVok 0 80 1 e.1 e.2 := List.forall_mem_cons.mpr ⟨xV_ok_0_80_1, fun _ h => absurd h List.not_mem_nil⟩
theorem xV_ok_0_83 : ∀ e ∈ (([(7, .inl mX5_back)] : List (Nat × (xM ⊕ Nat)))), XVok 0 83 1 e.1 e.2 := List.forall_mem_cons.mpr ⟨xV_ok_0_83_7, fun _ h => absurd h List.not_mem_nil⟩
theorem xV_ok_0_84 : ∀ e ∈ (([(1, .inl mX0_wise)] : List (Nat × (xM ⊕ Nat)))), XVok 0 84 1 e.1 e.2 := List.forall_mem_cons.mpr ⟨xV_ok_0_84_1, fun _ h => absurd h List.not_mem_nil⟩
theorem xV_ok_0_87 : ∀ e ∈ (([(7, .inl mX5_wise)] : List (Nat × (xM ⊕ Nat)))), XVok 0 87 1 e.1 e.2 := List.forall_mem_cons.mpr ⟨xV_ok_0_87_7, fun _ h => absurd h List.not_mem_nil⟩
theorem xV_ok_0_88 : ∀ e ∈ (([(1, .inl mX0_blame)] : List (Nat × (xM ⊕ Nat)))), XVok 0 88 2 e.1 e.2 := List.forall_mem_cons.mpr ⟨xV_ok_0_88_1, fun _ h => absurd h List.not_mem_nil⟩
theorem xV_ok_0_92 : ∀ e ∈ (([(7, .inl mX5_blame)] : List (Nat × (xM ⊕ Nat)))), XVok 0 92 2 e.1 e.2 := List.forall_mem_cons.mpr ⟨xV_ok_0_92_7, fun _ h => absurd h List.not_mem_nil⟩
theorem xV_ok_0_93 : ∀ e ∈ (([(1, .inl mX0_mean)] : List (Nat × (xM ⊕ Nat)))), XVok 0 93 1 e.1 e.2 := List.forall_mem_cons.mpr ⟨xV_ok_0_93_1, fun _ h => absurd h List.not_mem_nil⟩
theorem xV_ok_0_96 : ∀ e ∈ (([(7, .inl mX5_mean)] : List (Nat × (xM ⊕ Nat)))), XVok 0 96 1 e.1 e.2 := List.forall_mem_cons.mpr ⟨xV_ok_0_96_7, fun _ h => absurd h List.not_mem_nil⟩
theorem xV_ok_0_97 : ∀ e ∈ (([(1, .inl mX0_repeals)] : List (Nat × (xM ⊕ Nat)))), XVok 0 97 1 e.1 e.2 := List.forall_mem_cons.mpr ⟨xV_ok_0_97_1, fun _ h => absurd h List.not_mem_nil⟩
theorem xV_ok_0_100 : ∀ e ∈ (([(7, .inl mX5_repeals)] : List (Nat × (xM ⊕ Nat)))), XVok 0 100 1 e.1 e.2 := List.forall_mem_cons.mpr ⟨xV_ok_0_100_7, fun _ h => absurd h List.not_mem_nil⟩
theorem xV_ok_0_101 : ∀ e ∈ (([(1, .inl mX0_absent)] : List (Nat × (xM ⊕ Nat)))), XVok 0 101 1 e.1 e.2 := List.forall_mem_cons.mpr ⟨xV_ok_0_101_1, fun _ h => absurd h List.not_mem_nil⟩
theorem xV_ok_0_104 : ∀ e ∈ (([(7, .inl mX5_absent)] : List (Nat × (xM ⊕ Nat)))), XVok 0 104 1 e.1 e.2 := List.forall_mem_cons.mpr ⟨xV_ok_0_104_7, fun _ h => absurd h List.not_mem_nil⟩
theorem xV_ok_0_105 : ∀ e ∈ (([(1, .inl mX0_margin)] : List (Nat × (xM ⊕ Nat)))), XVok 0 105 1 e.1 e.2 := List.forall_mem_cons.mpr ⟨xV_ok_0_105_1, fun _ h => absurd h List.not_mem_nil⟩
theorem xV_ok_0_108 : ∀ e ∈ (([(7, .inl mX5_margin)] : List (Nat × (xM ⊕ Nat)))), XVok 0 108 1 e.1 e.2 := List.forall_mem_cons.mpr ⟨xV_ok_0_108_7, fun _ h => absurd h List.not_mem_nil⟩
theorem xV_ok_0_109 : ∀ e ∈ (([(1, .inl mX0_place)] : List (Nat × (xM ⊕ Nat)))), XVok 0 109 5 e.1 e.2 := List.forall_mem_cons.mpr ⟨xV_ok_0_109_1, fun _ h => absurd h List.not_mem_nil⟩
theorem xV_ok_0_113 : ∀ e ∈ (([(7, .inl mX5_place)] : List (Nat × (xM ⊕ Nat)))), XVok 0 113 5 e.1 e.2 := List.forall_mem_cons.mpr ⟨xV_ok_0_113_7, fun _ h => absurd h List.not_mem_nil⟩
theorem xV_ok_0_114 : ∀ e ∈ (([(1, .inl mX0_behind)] : List (Nat × (xM ⊕ Nat)))), XVok 0 114 2 e.1 e.2 := List.forall_mem_cons.mpr ⟨xV_ok_0_114_1, fun _ h => absurd h List.not_mem_nil⟩
theorem xV_ok_0_117 : ∀ e ∈ (([(7, .inl mX5_behind)] : List (Nat × (xM ⊕ Nat)))), XVok 0 117 2 e.1 e.2 := List.forall_mem_cons.mpr ⟨xV_ok_0_117_7, fun _ h => absurd h List.not_mem_nil⟩
theorem xV_ok_0_118 : ∀ e ∈ (([(1, .inl mX0_at)] : List (Nat × (xM ⊕ Nat)))), XVok 0 118 2 e.1 e.2 := List.forall_mem_cons.mpr ⟨xV_ok_0_118_1, fun _ h => absurd h List.not_mem_nil⟩
theorem xV_ok_0_121 : ∀ e ∈ (([(7, .inl mX5_at)] : List (Nat × (xM ⊕ Nat)))), XVok 0 121 2 e.1 e.2 := List.forall_mem_cons.mpr ⟨xV_ok_0_121_7, fun _ h => absurd h List.not_mem_nil⟩
theorem xV_ok_0_122 : ∀ e ∈ (([(1, .inl mX0_rate)] : List (Nat × (xM ⊕ Nat)))), XVok 0 122 2 e.1 e.2 := List.forall_mem_cons.mpr ⟨xV_ok_0_122_1, fun _ h => absurd h List.not_mem_nil⟩
theorem xV_ok_0_126 : ∀ e ∈ (([(7, .inl mX5_rate)] : List (Nat × (xM ⊕ Nat)))), XVok 0 126 2 e.1 e.2 := List.forall_mem_cons.mpr ⟨xV_ok_0_126_7, fun _ h => absurd h List.not_mem_nil⟩
theorem xV_ok_0_127 : ∀ e ∈ (([(1, .inl mX0_parted)] : List (Nat × (xM ⊕ Nat)))), XVok 0 127 0 e.1 e.2 := List.forall_mem_cons.mpr ⟨xV_ok_0_127_1, fun _ h => absurd h List.not_mem_nil⟩
theorem xV_ok_0_131 : ∀ e ∈ (([(7, .inl mX5_parted)] : List (Nat × (xM ⊕ Nat)))), XVok 0 131 0 e.1 e.2 := List.forall_mem_cons.mpr ⟨xV_ok_0_131_7, fun _ h => absurd h List.not_mem_nil⟩
theorem xV_ok_0_132 : ∀ e ∈ (([(1, .inl mX0_worst)] : List (Nat × (xM ⊕ Nat)))), XVok 0 132 2 e.1 e.2 := List.forall_mem_cons.mpr ⟨xV_ok_0_132_1, fun _ h => absurd h List.not_mem_nil⟩
theorem xV_ok_0_135 : ∀ e ∈ (([(7, .inl mX5_worst)] : List (Nat × (xM ⊕ Nat)))), XVok 0 135 2 e.1 e.2 := List.forall_mem_cons.mpr ⟨xV_ok_0_135_7, fun _ h => absurd h List.not_mem_nil⟩
theorem xV_ok_0_136 : ∀ e ∈ (([(1, .inl mX0_ranked)] : List (Nat × (xM ⊕ Nat)))), XVok 0 136 1 e.1 e.2 := List.forall_mem_cons.mpr ⟨xV_ok_0_136_1, fun _ h => absurd h List.not_mem_nil⟩
theorem xV_ok_0_139 : ∀ e ∈ (([(7, .inl mX5_ranked)] : List (Nat × (xM ⊕ Nat)))), XVok 0 139 1 e.1 e.2 := List.forall_mem_cons.mpr ⟨xV_ok_0_139_7, fun _ h => absurd h List.not_mem_nil⟩
theorem xV_ok_0_140 : ∀ e ∈ (([(1, .inl mX0_measure)] : List (Nat × (xM ⊕ Nat)))), XVok 0 140 3 e.1 e.2 := List.forall_mem_cons.mpr ⟨xV_ok_0_140_1, fun _ h => absurd h List.not_mem_nil⟩
theorem xV_ok_0_143 : ∀ e ∈ (([(7, .inl mX5_measure)] : List (Nat × (xM ⊕ Nat)))), XVok 0 143 3 e.1 e.2 := List.forall_mem_cons.mpr ⟨xV_ok_0_143_7, fun _ h => absurd h List.not_mem_nil⟩
theorem xV_ok_0_144 : ∀ e ∈ (([(1, .inl mX0_spent)] : List (Nat × (xM ⊕ Nat)))), XVok 0 144 2 e.1 e.2 := List.forall_mem_cons.mpr ⟨xV_ok_0_144_1, fun _ h => absurd h List.not_mem_nil⟩
theorem xV_ok_0_147 : ∀ e ∈ (([(7, .inl mX5_spent)] : List (Nat × (xM ⊕ Nat)))), XVok 0 147 2 e.1 e.2 := List.forall_mem_cons.mpr ⟨xV_ok_0_147_7, fun _ h => absurd h List.not_mem_nil⟩
theorem xV_ok_0_148 : ∀ e ∈ (([(1, .inl mX0_fine)] : List (Nat × (xM ⊕ Nat)))), XVok 0 148 4 e.1 e.2 := List.forall_mem_cons.mpr ⟨xV_ok_0_148_1, fun _ h => absurd h List.not_mem_nil⟩
theorem xV_ok_0_151 : ∀ e ∈ (([(7, .inl mX5_fine)] : List (Nat × (xM ⊕ Nat)))), XVok 0 151 4 e.1 e.2 := List.forall_mem_cons.mpr ⟨xV_ok_0_151_7, fun _ h => absurd h List.not_mem_nil⟩
theorem xV_ok_0_152 : ∀ e ∈ (([(1, .inl mX0_until)] : List (Nat × (xM ⊕ Nat)))), XVok 0 152 4 e.1 e.2 := List.forall_mem_cons.mpr ⟨xV_ok_0_152_1, fun _ h => absurd h List.not_mem_nil⟩
theorem xV_ok_0_155 : ∀ e ∈ (([(7, .inl mX5_until)] : List (Nat × (xM ⊕ Nat)))), XVok 0 155 4 e.1 e.2 := List.forall_mem_cons.mpr ⟨xV_ok_0_155_7, fun _ h => absurd h List.not_mem_nil⟩
theorem xV_ok_0_156 : ∀ e ∈ (([(1, .inl mX0_lot)] : List (Nat × (xM ⊕ Nat)))), XVok 0 156 2 e.1 e.2 := List.forall_mem_cons.mpr ⟨xV_ok_0_156_1, fun _ h => absurd h List.not_mem_nil⟩
theorem xV_ok_0_159 : ∀ e ∈ (([(7, .inl mX5_lot)] : List (Nat × (xM ⊕ Nat)))), XVok 0 159 2 e.1 e.2 := List.forall_mem_cons.mpr ⟨xV_ok_0_159_7, fun _ h => absurd h List.not_mem_nil⟩
theorem xV_ok_0_160 : ∀ e ∈ (([(1, .inl mX0_shown)] : List (Nat × (xM ⊕ Nat)))), XVok 0 160 4 e.1 e.2 := List.forall_mem_cons.mpr ⟨xV_ok_0_160_1, fun _ h => absurd h List.not_mem_nil⟩
theorem xV_ok_0_163 : ∀ e ∈ (([(7, .inl mX5_shown)] : List (Nat × (xM ⊕ Nat)))), XVok 0 163 4 e.1 e.2 := List.forall_mem_cons.mpr ⟨xV_ok_0_163_7, fun _ h => absurd h List.not_mem_nil⟩
theorem xV_ok_0_164 : ∀ e ∈ (([(1, .inl mX0_clumps)] : List (Nat × (xM ⊕ Nat)))), XVok 0 164 4 e.1 e.2 := List.forall_mem_cons.mpr ⟨xV_ok_0_164_1, fun _ h => absurd h List.not_mem_nil⟩
theorem xV_ok_0_167 : ∀ e ∈ (([(7, .inl mX5_clumps)] : List (Nat × (xM ⊕ Nat)))), XVok 0 167 4 e.1 e.2 := List.forall_mem_cons.mpr ⟨xV_ok_0_167_7, fun _ h => absurd h List.not_mem_nil⟩
theorem xV_ok_0_168 : ∀ e ∈ (([(1, .inl mX0_lamp)] : List (Nat × (xM ⊕ Nat)))), XVok 0 168 3 e.1 e.2 := List.forall_mem_cons.mpr ⟨xV_ok_0_168_1, fun _ h => absurd h List.not_mem_nil⟩
theorem xV_ok_0_171 : ∀ e ∈ (([(7, .inl mX5_lamp)] : List (Nat × (xM ⊕ Nat)))), XVok 0 171 3 e.1 e.2 := List.forall_mem_cons.mpr ⟨xV_ok_0_171_7, fun _ h => absurd h List.not_mem_nil⟩
theorem xV_ok_0_172 : ∀ e ∈ (([(1, .inl mX0_pay)] : List (Nat × (xM ⊕ Nat)))), XVok 0 172 4 e.1 e.2 := List.forall_mem_cons.mpr ⟨xV_ok_0_172_1, fun _ h => absurd h List.not_mem_nil⟩
theorem xV_ok_0_175 : ∀ e ∈ (([(7, .inl mX5_pay)] : List (Nat × (xM ⊕ Nat)))), XVok 0 175 4 e.1 e.2 := List.forall_mem_cons.mpr ⟨xV_ok_0_175_7, fun _ h => absurd h List.not_mem_nil⟩
theorem xV_ok_0_176 : ∀ e ∈ (([(1, .inl mX0_rests)] : List (Nat × (xM ⊕ Nat)))), XVok 0 176 3 e.1 e.2 := List.forall_mem_cons.mpr ⟨xV_ok_0_176_1, fun _ h => absurd h List.not_mem_nil⟩
theorem xV_ok_0_179 : ∀ e ∈ (([(7, .inl mX5_rests)] : List (Nat × (xM ⊕ Nat)))), XVok 0 179 3 e.1 e.2 := List.forall_mem_cons.mpr ⟨xV_ok_0_179_7, fun _ h => absurd h List.not_mem_nil⟩
theorem xV_ok_0_180 : ∀ e ∈ (([(1, .inl mX0_thanks)] : List (Nat × (xM ⊕ Nat)))), XVok 0 180 5 e.1 e.2 := List.forall_mem_cons.mpr ⟨xV_ok_0_180_1, fun _ h => absurd h List.not_mem_nil⟩
theorem xV_ok_0_183 : ∀ e ∈ (([(7, .inl mX5_thanks)] : List (Nat × (xM ⊕ Nat)))), XVok 0 183 5 e.1 e.2 := List.forall_mem_cons.mpr ⟨xV_ok_0_183_7, fun _ h => absurd h List.not_mem_nil⟩
theorem xV_ok_0_184 : ∀ e ∈ (([(1, .inl mX0_filled)] : List (Nat × (xM ⊕ Nat)))), XVok 0 184 2 e.1 e.2 := List.forall_mem_cons.mpr ⟨xV_ok_0_184_1, fun _ h => absurd h List.not_mem_nil⟩
theorem xV_ok_0_187 : ∀ e ∈ (([(7, .inl mX5_filled)] : List (Nat × (xM ⊕ Nat)))), XVok 0 187 2 e.1 e.2 := List.forall_mem_cons.mpr ⟨xV_ok_0_187_7, fun _ h => absurd h List.not_mem_nil⟩
theorem xV_ok_0_188 : ∀ e ∈ (([(1, .inl mX0_slip)] : List (Nat × (xM ⊕ Nat)))), XVok 0 188 2 e.1 e.2 := List.forall_mem_cons.mpr ⟨xV_ok_0_188_1, fun _ h => absurd h List.not_mem_nil⟩
theorem xV_ok_0_191 : ∀ e ∈ (([(7, .inl mX5_slip)] : List (Nat × (xM ⊕ Nat)))), XVok 0 191 2 e.1 e.2 := List.forall_mem_cons.mpr ⟨xV_ok_0_191_7, fun _ h => absurd h List.not_mem_nil⟩
theorem xV_ok_0_192 : ∀ e ∈ (([(1, .inl mX0_numbers)] : List (Nat × (xM ⊕ Nat)))), XVok 0 192 3 e.1 e.2 := List.forall_mem_cons.mpr ⟨xV_ok_0_192_1, fun _ h => absurd h List.not_mem_nil⟩
theorem xV_ok_0_195 : ∀ e ∈ (([(7, .inl mX5_numbers)] : List (Nat × (xM ⊕ Nat)))), XVok 0 195 3 e.1 e.2 := List.forall_mem_cons.mpr ⟨xV_ok_0_195_7, fun _ h => absurd h List.not_mem_nil⟩
theorem xV_ok_0_198_1 : XVok 0 198 3 1 (.inr 5) := ⟨q1527, rfl⟩
theorem xV_ok_0_198 : ∀ e ∈ (([(1, .inr 5)] : List (Nat × (xM ⊕ Nat)))), XVok 0 198 3 e.1 e.2 := List.forall_mem_cons.mpr ⟨xV_ok_0_198_1, fun _ h => absurd h List.not_mem_nil⟩
theorem xV_ok_0_202 : ∀ e ∈ (([(7, .inl mX5_write)] : List (Nat × (xM ⊕ Nat)))), XVok 0 202 3 e.1 e.2 := List.forall_mem_cons.mpr ⟨xV_ok_0_202_7, fun _ h => absurd h List.not_mem_nil⟩
theorem xV_ok_0_203 : ∀ e ∈ (([(1, .inl mX0_image)] : List (Nat × (xM ⊕ Nat)))), XVok 0 203 1 e.1 e.2 := List.forall_mem_cons.mpr ⟨xV_ok_0_203_1, fun _ h => absurd h List.not_mem_nil⟩
theorem xV_ok_0_206 : ∀ e ∈ (([(7, .inl mX5_image)] : List (Nat × (xM ⊕ Nat)))), XVok 0 206 1 e.1 e.2 := List.forall_mem_cons.mpr ⟨xV_ok_0_206_7, fun _ h => absurd h List.not_mem_nil⟩
theorem xV_ok_0_207 : ∀ e ∈ (([(1, .inl mX0_restore)] : List (Nat × (xM ⊕ Nat)))), XVok 0 207 1 e.1 e.2 := List.forall_mem_cons.mpr ⟨xV_ok_0_207_1, fun _ h => absurd h List.not_mem_nil⟩
theorem xV_ok_0_210 : ∀ e ∈ (([(7, .inl mX5_restore)] : List (Nat × (xM ⊕ Nat)))), XVok 0 210 1 e.1 e.2 := List.forall_mem_cons.mpr ⟨xV_ok_0_210_7, fun _ h => absurd h List.not_mem_nil⟩
theorem xV_ok_0_211 : ∀ e ∈ (([(1, .inl mX0_status)] : List (Nat × (xM ⊕ Nat)))), XVok 0 211 1 e.1 e.2 := List.forall_mem_cons.mpr ⟨xV_ok_0_211_1, fun _ h => absurd h List.not_mem_nil⟩
theorem xV_ok_0_214 : ∀ e ∈ (([(7, .inl mX5_status)] : List (Nat × (xM ⊕ Nat)))), XVok 0 214 1 e.1 e.2 := List.forall_mem_cons.mpr ⟨xV_ok_0_214_7, fun _ h => absurd h List.not_mem_nil⟩
theorem xV_ok_0_215 : ∀ e ∈ (([(1, .inl mX0_count)] : List (Nat × (xM ⊕ Nat)))), XVok 0 215 1 e.1 e.2 := List.forall_mem_cons.mpr ⟨xV_ok_0_215_1, fun _ h => absurd h List.not_mem_nil⟩
theorem xV_ok_0_218 : ∀ e ∈ (([(7, .inl mX5_count)] : List (Nat × (xM ⊕ Nat)))), XVok 0 218 1 e.1 e.2 := List.forall_mem_cons.mpr ⟨xV_ok_0_218_7, fun _ h => absurd h List.not_mem_nil⟩
theorem xV_ok_1_73 : ∀ e ∈ (([(1, .inl mX0_no)] : List (Nat × (xM ⊕ Nat)))), XVok 1 73 1 e.1 e.2 := List.forall_mem_cons.mpr ⟨xV_ok_1_73_1, fun _ h => absurd h List.not_mem_nil⟩
theorem xV_ok_1_77 : ∀ e ∈ (([(1, .inl mX0_bytes)] : List (Nat × (xM ⊕ Nat)))), XVok 1 77 1 e.1 e.2 := List.forall_mem_cons.mpr ⟨xV_ok_1_77_1, fun _ h => absurd h List.not_mem_nil⟩
theorem xV_ok_1_90 : ∀ e ∈ (([(8, .inl mX6_scene)] : List (Nat × (xM ⊕ Nat)))), XVok 1 90 0 e.1 e.2 := List.forall_mem_cons.mpr ⟨xV_ok_1_90_8, fun _ h => absurd h List.not_mem_nil⟩
theorem xV_ok_1_93 : ∀ e ∈ (([(8, .inl mX6_law)] : List (Nat × (xM ⊕ Nat)))), XVok 1 93 0 e.1 e.2 := List.forall_mem_cons.mpr ⟨xV_ok_1_93_8, fun _ h => absurd h List.not_mem_nil⟩
theorem xV_ok_1_109 : ∀ e ∈ (([(4, .inl mJ2_size)] : List (Nat × (xM ⊕ Nat)))), XVok 1 109 0 e.1 e.2 := List.forall_mem_cons.mpr ⟨xV_ok_1_109_4, fun _ h => absurd h List.not_mem_nil⟩
theorem xV_ok_1_127 : ∀ e ∈ (([(1, .inl mX0_isCar)] : List (Nat × (xM ⊕ Nat)))), XVok 1 127 1 e.1 e.2 := List.forall_mem_cons.mpr ⟨xV_ok_1_127_1, fun _ h => absurd h List.not_mem_nil⟩
theorem xV_ok_1_133 : ∀ e ∈ (([(4, .inl mJ2_get)] : List (Nat × (xM ⊕ Nat)))), XVok 1 133 1 e.1 e.2 := List.forall_mem_cons.mpr ⟨xV_ok_1_133_4, fun _ h => absurd h List.not_mem_nil⟩
theorem xV_ok_1_167 : ∀ e ∈ (([(3, .inl mX2_get)] : List (Nat × (xM ⊕ Nat)))), XVok 1 167 1 e.1 e.2 := List.forall_mem_cons.mpr ⟨xV_ok_1_167_3, fun _ h => absurd h List.not_mem_nil⟩
theorem xV_ok_1_169 : ∀ e ∈ (([(3, .inl mX2_put)] : List (Nat × (xM ⊕ Nat)))), XVok 1 169 2 e.1 e.2 := List.forall_mem_cons.mpr ⟨xV_ok_1_169_3, fun _ h => absurd h List.not_mem_nil⟩
theorem xV_ok_1_179 : ∀ e ∈ (([(10, .inl mX9_is), (11, .inl mX10_is), (12, .inl mX11_is), (13, .inl mX11_is), (14, .inl mX11_is), (15, .inl mX15_is), (16, .inl mX16_is), (17, .inl mX17_is)] : List (Nat × (xM ⊕ Nat)))), XVok 1 179 2 e.1 e.2 := List.forall_mem_cons.mpr ⟨xV_ok_1_179_10, List.forall_mem_cons.mpr ⟨xV_ok_1_179_11, List.forall_mem_cons.mpr ⟨xV_ok_1_179_12, List.forall_mem_cons.mpr ⟨xV_ok_1_179_13, List.forall_mem_cons.mpr ⟨xV_ok_1_179_14, List.forall_mem_cons.mpr ⟨xV_ok_1_179_15, List.forall_mem_cons.mpr ⟨xV_ok_1_179_16, List.forall_mem_cons.mpr ⟨xV_ok_1_179_17, fun _ h => absurd h List.not_mem_nil⟩⟩⟩⟩⟩⟩⟩⟩
theorem xV_ok_1_188 : ∀ e ∈ (([(5, .inl mX3_begins)] : List (Nat × (xM ⊕ Nat)))), XVok 1 188 1 e.1 e.2 := List.forall_mem_cons.mpr ⟨xV_ok_1_188_5, fun _ h => absurd h List.not_mem_nil⟩
theorem xV_ok_1_192 : ∀ e ∈ (([(1, .inl mX0_chanceOf)] : List (Nat × (xM ⊕ Nat)))), XVok 1 192 2 e.1 e.2 := List.forall_mem_cons.mpr ⟨xV_ok_1_192_1, fun _ h => absurd h List.not_mem_nil⟩
theorem xV_ok_1_196 : ∀ e ∈ (([(5, .inl mX3_can)] : List (Nat × (xM ⊕ Nat)))), XVok 1 196 1 e.1 e.2 := List.forall_mem_cons.mpr ⟨xV_ok_1_196_5, fun _ h => absurd h List.not_mem_nil⟩
theorem xV_ok_1_203 : ∀ e ∈ (([(5, .inl mX3_many)] : List (Nat × (xM ⊕ Nat)))), XVok 1 203 0 e.1 e.2 := List.forall_mem_cons.mpr ⟨xV_ok_1_203_5, fun _ h => absurd h List.not_mem_nil⟩
theorem xV_ok_1_206 : ∀ e ∈ (([(5, .inl mX3_isAsked)] : List (Nat × (xM ⊕ Nat)))), XVok 1 206 1 e.1 e.2 := List.forall_mem_cons.mpr ⟨xV_ok_1_206_5, fun _ h => absurd h List.not_mem_nil⟩
theorem xV_ok_1_212 : ∀ e ∈ (([(1, .inl mX0_draw)] : List (Nat × (xM ⊕ Nat)))), XVok 1 212 1 e.1 e.2 := List.forall_mem_cons.mpr ⟨xV_ok_1_212_1, fun _ h => absurd h List.not_mem_nil⟩
theorem xV_ok_1_215 : ∀ e ∈ (([(5, .inl mX3_goesOn)] : List (Nat × (xM ⊕ Nat)))), XVok 1 215 0 e.1 e.2 := List.forall_mem_cons.mpr ⟨xV_ok_1_215_5, fun _ h => absurd h List.not_mem_nil⟩
theorem xV_ok_1_224 : ∀ e ∈ (([(1, .inl mX0_tick)] : List (Nat × (xM ⊕ Nat)))), XVok 1 224 1 e.1 e.2 := List.forall_mem_cons.mpr ⟨xV_ok_1_224_1, fun _ h => absurd h List.not_mem_nil⟩
theorem xV_ok_1_230 : ∀ e ∈ (([(1, .inl mX0_runs)] : List (Nat × (xM ⊕ Nat)))), XVok 1 230 2 e.1 e.2 := List.forall_mem_cons.mpr ⟨xV_ok_1_230_1, fun _ h => absurd h List.not_mem_nil⟩
theorem xV_ok_1_240 : ∀ e ∈ (([(1, .inl mX0_stopped)] : List (Nat × (xM ⊕ Nat)))), XVok 1 240 1 e.1 e.2 := List.forall_mem_cons.mpr ⟨xV_ok_1_240_1, fun _ h => absurd h List.not_mem_nil⟩
theorem xV_ok_1_265 : ∀ e ∈ (([(5, .inl mX3_be)] : List (Nat × (xM ⊕ Nat)))), XVok 1 265 1 e.1 e.2 := List.forall_mem_cons.mpr ⟨xV_ok_1_265_5, fun _ h => absurd h List.not_mem_nil⟩
theorem xV_ok_1_268 : ∀ e ∈ (([(1, .inl mX0_forks)] : List (Nat × (xM ⊕ Nat)))), XVok 1 268 3 e.1 e.2 := List.forall_mem_cons.mpr ⟨xV_ok_1_268_1, fun _ h => absurd h List.not_mem_nil⟩
theorem xV_ok_1_272 : ∀ e ∈ (([(1, .inl mX0_counts)] : List (Nat × (xM ⊕ Nat)))), XVok 1 272 2 e.1 e.2 := List.forall_mem_cons.mpr ⟨xV_ok_1_272_1, fun _ h => absurd h List.not_mem_nil⟩
theorem xV_ok_1_276 : ∀ e ∈ (([(1, .inl mX0_gathers)] : List (Nat × (xM ⊕ Nat)))), XVok 1 276 1 e.1 e.2 := List.forall_mem_cons.mpr ⟨xV_ok_1_276_1, fun _ h => absurd h List.not_mem_nil⟩
theorem xV_ok_1_280 : ∀ e ∈ (([(1, .inl mX0_overBy)] : List (Nat × (xM ⊕ Nat)))), XVok 1 280 1 e.1 e.2 := List.forall_mem_cons.mpr ⟨xV_ok_1_280_1, fun _ h => absurd h List.not_mem_nil⟩
theorem xV_ok_1_304 : ∀ e ∈ (([(4, .inl mJ2_add)] : List (Nat × (xM ⊕ Nat)))), XVok 1 304 1 e.1 e.2 := List.forall_mem_cons.mpr ⟨xV_ok_1_304_4, fun _ h => absurd h List.not_mem_nil⟩
theorem xV_ok_1_308 : ∀ e ∈ (([(3, .inl mX2_copy)] : List (Nat × (xM ⊕ Nat)))), XVok 1 308 0 e.1 e.2 := List.forall_mem_cons.mpr ⟨xV_ok_1_308_3, fun _ h => absurd h List.not_mem_nil⟩
theorem xV_ok_1_312 : ∀ e ∈ (([(4, .inl mJ2_remove)] : List (Nat × (xM ⊕ Nat)))), XVok 1 312 1 e.1 e.2 := List.forall_mem_cons.mpr ⟨xV_ok_1_312_4, fun _ h => absurd h List.not_mem_nil⟩
theorem xV_ok_1_315 : ∀ e ∈ (([(5, .inl mX3_car)] : List (Nat × (xM ⊕ Nat)))), XVok 1 315 1 e.1 e.2 := List.forall_mem_cons.mpr ⟨xV_ok_1_315_5, fun _ h => absurd h List.not_mem_nil⟩
theorem xV_ok_1_319 : ∀ e ∈ (([(1, .inl mX0_off)] : List (Nat × (xM ⊕ Nat)))), XVok 1 319 1 e.1 e.2 := List.forall_mem_cons.mpr ⟨xV_ok_1_319_1, fun _ h => absurd h List.not_mem_nil⟩
theorem xV_ok_1_338 : ∀ e ∈ (([(1, .inl mX0_isPlace)] : List (Nat × (xM ⊕ Nat)))), XVok 1 338 1 e.1 e.2 := List.forall_mem_cons.mpr ⟨xV_ok_1_338_1, fun _ h => absurd h List.not_mem_nil⟩
theorem xV_ok_1_359 : ∀ e ∈ (([(19, .inl mX19_hurt)] : List (Nat × (xM ⊕ Nat)))), XVok 1 359 0 e.1 e.2 := List.forall_mem_cons.mpr ⟨xV_ok_1_359_19, fun _ h => absurd h List.not_mem_nil⟩
theorem xV_ok_1_361 : ∀ e ∈ (([(19, .inl mX19_crossing)] : List (Nat × (xM ⊕ Nat)))), XVok 1 361 0 e.1 e.2 := List.forall_mem_cons.mpr ⟨xV_ok_1_361_19, fun _ h => absurd h List.not_mem_nil⟩
theorem xV_ok_1_363 : ∀ e ∈ (([(1, .inl mX0_sumOf)] : List (Nat × (xM ⊕ Nat)))), XVok 1 363 4 e.1 e.2 := List.forall_mem_cons.mpr ⟨xV_ok_1_363_1, fun _ h => absurd h List.not_mem_nil⟩
theorem xV_ok_1_370 : ∀ e ∈ (([(1, .inl mX0_below)] : List (Nat × (xM ⊕ Nat)))), XVok 1 370 2 e.1 e.2 := List.forall_mem_cons.mpr ⟨xV_ok_1_370_1, fun _ h => absurd h List.not_mem_nil⟩
theorem xV_ok_1_374 : ∀ e ∈ (([(1, .inl mX0_above)] : List (Nat × (xM ⊕ Nat)))), XVok 1 374 1 e.1 e.2 := List.forall_mem_cons.mpr ⟨xV_ok_1_374_1, fun _ h => absurd h List.not_mem_nil⟩
theorem xV_ok_1_382 : ∀ e ∈ (([(19, .inl mX19_fall)] : List (Nat × (xM ⊕ Nat)))), XVok 1 382 0 e.1 e.2 := List.forall_mem_cons.mpr ⟨xV_ok_1_382_19, fun _ h => absurd h List.not_mem_nil⟩
theorem xV_ok_1_388 : ∀ e ∈ (([(1, .inl mX0_apart)] : List (Nat × (xM ⊕ Nat)))), XVok 1 388 2 e.1 e.2 := List.forall_mem_cons.mpr ⟨xV_ok_1_388_1, fun _ h => absurd h List.not_mem_nil⟩
theorem xV_ok_1_392 : ∀ e ∈ (([(1, .inl mX0_worstOf)] : List (Nat × (xM ⊕ Nat)))), XVok 1 392 1 e.1 e.2 := List.forall_mem_cons.mpr ⟨xV_ok_1_392_1, fun _ h => absurd h List.not_mem_nil⟩
theorem xV_ok_1_395 : ∀ e ∈ (([(1, .inl mX0_fallOf)] : List (Nat × (xM ⊕ Nat)))), XVok 1 395 1 e.1 e.2 := List.forall_mem_cons.mpr ⟨xV_ok_1_395_1, fun _ h => absurd h List.not_mem_nil⟩
theorem xV_ok_1_398 : ∀ e ∈ (([(1, .inl mX0_matches)] : List (Nat × (xM ⊕ Nat)))), XVok 1 398 1 e.1 e.2 := List.forall_mem_cons.mpr ⟨xV_ok_1_398_1, fun _ h => absurd h List.not_mem_nil⟩
theorem xV_ok_1_403 : ∀ e ∈ (([(1, .inl mX0_isWorse)] : List (Nat × (xM ⊕ Nat)))), XVok 1 403 2 e.1 e.2 := List.forall_mem_cons.mpr ⟨xV_ok_1_403_1, fun _ h => absurd h List.not_mem_nil⟩
theorem xV_ok_1_414 : ∀ e ∈ (([(1, .inl mX0_leftAt)] : List (Nat × (xM ⊕ Nat)))), XVok 1 414 2 e.1 e.2 := List.forall_mem_cons.mpr ⟨xV_ok_1_414_1, fun _ h => absurd h List.not_mem_nil⟩
theorem xV_ok_1_417 : ∀ e ∈ (([(1, .inl mX0_costOf)] : List (Nat × (xM ⊕ Nat)))), XVok 1 417 1 e.1 e.2 := List.forall_mem_cons.mpr ⟨xV_ok_1_417_1, fun _ h => absurd h List.not_mem_nil⟩
theorem xV_ok_1_420 : ∀ e ∈ (([(1, .inl mX0_spends)] : List (Nat × (xM ⊕ Nat)))), XVok 1 420 3 e.1 e.2 := List.forall_mem_cons.mpr ⟨xV_ok_1_420_1, fun _ h => absurd h List.not_mem_nil⟩
theorem xV_ok_1_428 : ∀ e ∈ (([(1, .inl mX0_laysSpent)] : List (Nat × (xM ⊕ Nat)))), XVok 1 428 1 e.1 e.2 := List.forall_mem_cons.mpr ⟨xV_ok_1_428_1, fun _ h => absurd h List.not_mem_nil⟩
theorem xV_ok_1_449 : ∀ e ∈ (([(6, .inl mX4_many)] : List (Nat × (xM ⊕ Nat)))), XVok 1 449 0 e.1 e.2 := List.forall_mem_cons.mpr ⟨xV_ok_1_449_6, fun _ h => absurd h List.not_mem_nil⟩
theorem xV_ok_1_450 : ∀ e ∈ (([(6, .inl mX4_number)] : List (Nat × (xM ⊕ Nat)))), XVok 1 450 1 e.1 e.2 := List.forall_mem_cons.mpr ⟨xV_ok_1_450_6, fun _ h => absurd h List.not_mem_nil⟩
theorem xV_ok_1_468 : ∀ e ∈ (([(1, .inl mX0_isContent)] : List (Nat × (xM ⊕ Nat)))), XVok 1 468 4 e.1 e.2 := List.forall_mem_cons.mpr ⟨xV_ok_1_468_1, fun _ h => absurd h List.not_mem_nil⟩
theorem xV_ok_1_476 : ∀ e ∈ (([(1, .inl mX0_nearest)] : List (Nat × (xM ⊕ Nat)))), XVok 1 476 3 e.1 e.2 := List.forall_mem_cons.mpr ⟨xV_ok_1_476_1, fun _ h => absurd h List.not_mem_nil⟩
theorem xV_ok_1_479 : ∀ e ∈ (([(1, .inl mX0_countsFault)] : List (Nat × (xM ⊕ Nat)))), XVok 1 479 1 e.1 e.2 := List.forall_mem_cons.mpr ⟨xV_ok_1_479_1, fun _ h => absurd h List.not_mem_nil⟩
theorem xV_ok_1_482 : ∀ e ∈ (([(1, .inl mX0_filledAt)] : List (Nat × (xM ⊕ Nat)))), XVok 1 482 2 e.1 e.2 := List.forall_mem_cons.mpr ⟨xV_ok_1_482_1, fun _ h => absurd h List.not_mem_nil⟩
theorem xV_ok_1_492 : ∀ e ∈ (([(1, .inl mX0_isCounted)] : List (Nat × (xM ⊕ Nat)))), XVok 1 492 1 e.1 e.2 := List.forall_mem_cons.mpr ⟨xV_ok_1_492_1, fun _ h => absurd h List.not_mem_nil⟩
theorem xV_ok_1_495 : ∀ e ∈ (([(1, .inl mX0_slips)] : List (Nat × (xM ⊕ Nat)))), XVok 1 495 3 e.1 e.2 := List.forall_mem_cons.mpr ⟨xV_ok_1_495_1, fun _ h => absurd h List.not_mem_nil⟩
theorem xV_ok_1_499_6 : XVok 1 499 2 6 (.inr 4) := ⟨q1439, rfl⟩
theorem xV_ok_1_499 : ∀ e ∈ (([(6, .inr 4)] : List (Nat × (xM ⊕ Nat)))), XVok 1 499 2 e.1 e.2 := List.forall_mem_cons.mpr ⟨xV_ok_1_499_6, fun _ h => absurd h List.not_mem_nil⟩
theorem xV_ok_1_509 : ∀ e ∈ (([(2, .inl mX1_copy)] : List (Nat × (xM ⊕ Nat)))), XVok 1 509 0 e.1 e.2 := List.forall_mem_cons.mpr ⟨xV_ok_1_509_2, fun _ h => absurd h List.not_mem_nil⟩
theorem xV_ok_2_41 : ∀ e ∈ (([(3, .inl mX2_copy)] : List (Nat × (xM ⊕ Nat)))), XVok 2 41 0 e.1 e.2 := List.forall_mem_cons.mpr ⟨xV_ok_2_41_3, fun _ h => absurd h List.not_mem_nil⟩
theorem xV_ok_2_45 : ∀ e ∈ (([(4, .inl mJ2_size)] : List (Nat × (xM ⊕ Nat)))), XVok 2 45 0 e.1 e.2 := List.forall_mem_cons.mpr ⟨xV_ok_2_45_4, fun _ h => absurd h List.not_mem_nil⟩
theorem xV_ok_2_49 : ∀ e ∈ (([(4, .inl mJ2_get)] : List (Nat × (xM ⊕ Nat)))), XVok 2 49 1 e.1 e.2 := List.forall_mem_cons.mpr ⟨xV_ok_2_49_4, fun _ h => absurd h List.not_mem_nil⟩
theorem xV_ok_2_55 : ∀ e ∈ (([(19, .inl mX19_copy)] : List (Nat × (xM ⊕ Nat)))), XVok 2 55 0 e.1 e.2 := List.forall_mem_cons.mpr ⟨xV_ok_2_55_19, fun _ h => absurd h List.not_mem_nil⟩
theorem xV_ok_2_58 : ∀ e ∈ (([(4, .inl mJ2_add)] : List (Nat × (xM ⊕ Nat)))), XVok 2 58 1 e.1 e.2 := List.forall_mem_cons.mpr ⟨xV_ok_2_58_4, fun _ h => absurd h List.not_mem_nil⟩
theorem xV_ok_3_34 : ∀ e ∈ (([(4, .inl mJ2_size)] : List (Nat × (xM ⊕ Nat)))), XVok 3 34 0 e.1 e.2 := List.forall_mem_cons.mpr ⟨xV_ok_3_34_4, fun _ h => absurd h List.not_mem_nil⟩
theorem xV_ok_3_38 : ∀ e ∈ (([(4, .inl mJ2_get)] : List (Nat × (xM ⊕ Nat)))), XVok 3 38 1 e.1 e.2 := List.forall_mem_cons.mpr ⟨xV_ok_3_38_4, fun _ h => absurd h List.not_mem_nil⟩
theorem xV_ok_3_44 : ∀ e ∈ (([(4, .inl mJ2_add)] : List (Nat × (xM ⊕ Nat)))), XVok 3 44 1 e.1 e.2 := List.forall_mem_cons.mpr ⟨xV_ok_3_44_4, fun _ h => absurd h List.not_mem_nil⟩
theorem xV_ok_4_69 : ∀ e ∈ (([(4, .inl mJ2_grow_2)] : List (Nat × (xM ⊕ Nat)))), XVok 4 69 1 e.1 e.2 := List.forall_mem_cons.mpr ⟨xV_ok_4_69_4, fun _ h => absurd h List.not_mem_nil⟩
theorem xV_ok_4_123 : ∀ e ∈ (([(4, .inl mJ2_elementData)] : List (Nat × (xM ⊕ Nat)))), XVok 4 123 1 e.1 e.2 := List.forall_mem_cons.mpr ⟨xV_ok_4_123_4, fun _ h => absurd h List.not_mem_nil⟩
theorem xV_ok_4_129 : ∀ e ∈ (([(4, .inl mJ2_grow)] : List (Nat × (xM ⊕ Nat)))), XVok 4 129 0 e.1 e.2 := List.forall_mem_cons.mpr ⟨xV_ok_4_129_4, fun _ h => absurd h List.not_mem_nil⟩
theorem xV_ok_4_131 : ∀ e ∈ (([(4, .inl mJ2_add_2)] : List (Nat × (xM ⊕ Nat)))), XVok 4 131 3 e.1 e.2 := List.forall_mem_cons.mpr ⟨xV_ok_4_131_4, fun _ h => absurd h List.not_mem_nil⟩
theorem xV_ok_4_144 : ∀ e ∈ (([(4, .inl mJ2_fastRemove)] : List (Nat × (xM ⊕ Nat)))), XVok 4 144 2 e.1 e.2 := List.forall_mem_cons.mpr ⟨xV_ok_4_144_4, fun _ h => absurd h List.not_mem_nil⟩
theorem xV_ok_5_54 : ∀ e ∈ (([(5, .inl mX3_many)] : List (Nat × (xM ⊕ Nat)))), XVok 5 54 0 e.1 e.2 := List.forall_mem_cons.mpr ⟨xV_ok_5_54_5, fun _ h => absurd h List.not_mem_nil⟩
theorem xV_ok_5_58 : ∀ e ∈ (([(5, .inl mX3_car)] : List (Nat × (xM ⊕ Nat)))), XVok 5 58 1 e.1 e.2 := List.forall_mem_cons.mpr ⟨xV_ok_5_58_5, fun _ h => absurd h List.not_mem_nil⟩
theorem xV_ok_5_66 : ∀ e ∈ (([(3, .inl mX2_pace)] : List (Nat × (xM ⊕ Nat)))), XVok 5 66 1 e.1 e.2 := List.forall_mem_cons.mpr ⟨xV_ok_5_66_3, fun _ h => absurd h List.not_mem_nil⟩
theorem xV_ok_5_75 : ∀ e ∈ (([(4, .inl mJ2_size)] : List (Nat × (xM ⊕ Nat)))), XVok 5 75 0 e.1 e.2 := List.forall_mem_cons.mpr ⟨xV_ok_5_75_4, fun _ h => absurd h List.not_mem_nil⟩
theorem xV_ok_5_80 : ∀ e ∈ (([(4, .inl mJ2_get)] : List (Nat × (xM ⊕ Nat)))), XVok 5 80 1 e.1 e.2 := List.forall_mem_cons.mpr ⟨xV_ok_5_80_4, fun _ h => absurd h List.not_mem_nil⟩
theorem xV_ok_5_102 : ∀ e ∈ (([(5, .inl mX3_isHidden)] : List (Nat × (xM ⊕ Nat)))), XVok 5 102 1 e.1 e.2 := List.forall_mem_cons.mpr ⟨xV_ok_5_102_5, fun _ h => absurd h List.not_mem_nil⟩
theorem xV_ok_5_109 : ∀ e ∈ (([(5, .inl mX3_isFree)] : List (Nat × (xM ⊕ Nat)))), XVok 5 109 0 e.1 e.2 := List.forall_mem_cons.mpr ⟨xV_ok_5_109_5, fun _ h => absurd h List.not_mem_nil⟩
theorem xV_ok_5_113 : ∀ e ∈ (([(5, .inl mX3_isAtKerb)] : List (Nat × (xM ⊕ Nat)))), XVok 5 113 0 e.1 e.2 := List.forall_mem_cons.mpr ⟨xV_ok_5_113_5, fun _ h => absurd h List.not_mem_nil⟩
theorem xV_ok_5_129 : ∀ e ∈ (([(5, .inl mX3_moves)] : List (Nat × (xM ⊕ Nat)))), XVok 5 129 1 e.1 e.2 := List.forall_mem_cons.mpr ⟨xV_ok_5_129_5, fun _ h => absurd h List.not_mem_nil⟩
theorem xV_ok_5_132 : ∀ e ∈ (([(5, .inl mX3_crosses)] : List (Nat × (xM ⊕ Nat)))), XVok 5 132 1 e.1 e.2 := List.forall_mem_cons.mpr ⟨xV_ok_5_132_5, fun _ h => absurd h List.not_mem_nil⟩
theorem xV_ok_5_136 : ∀ e ∈ (([(5, .inl mX3_nearest)] : List (Nat × (xM ⊕ Nat)))), XVok 5 136 1 e.1 e.2 := List.forall_mem_cons.mpr ⟨xV_ok_5_136_5, fun _ h => absurd h List.not_mem_nil⟩
theorem xV_ok_5_139 : ∀ e ∈ (([(5, .inl mX3_goes)] : List (Nat × (xM ⊕ Nat)))), XVok 5 139 2 e.1 e.2 := List.forall_mem_cons.mpr ⟨xV_ok_5_139_5, fun _ h => absurd h List.not_mem_nil⟩
theorem xV_ok_7_89 : ∀ e ∈ (([(7, .inl mX5_no)] : List (Nat × (xM ⊕ Nat)))), XVok 7 89 1 e.1 e.2 := List.forall_mem_cons.mpr ⟨xV_ok_7_89_7, fun _ h => absurd h List.not_mem_nil⟩
theorem xV_ok_7_98_38 : XVok 7 98 0 38 (.inr 0) := ⟨q1761, rfl⟩
theorem xV_ok_7_98 : ∀ e ∈ (([(38, .inr 0)] : List (Nat × (xM ⊕ Nat)))), XVok 7 98 0 e.1 e.2 := List.forall_mem_cons.mpr ⟨xV_ok_7_98_38, fun _ h => absurd h List.not_mem_nil⟩
theorem xV_ok_7_104_38 : XVok 7 104 1 38 (.inr 1) := ⟨q1762, rfl⟩
theorem xV_ok_7_104 : ∀ e ∈ (([(38, .inr 1)] : List (Nat × (xM ⊕ Nat)))), XVok 7 104 1 e.1 e.2 := List.forall_mem_cons.mpr ⟨xV_ok_7_104_38, fun _ h => absurd h List.not_mem_nil⟩
theorem xV_ok_7_114 : ∀ e ∈ (([(7, .inl mX5_see)] : List (Nat × (xM ⊕ Nat)))), XVok 7 114 1 e.1 e.2 := List.forall_mem_cons.mpr ⟨xV_ok_7_114_7, fun _ h => absurd h List.not_mem_nil⟩
theorem xV_ok_7_124 : ∀ e ∈ (([(7, .inl mX5_keyAt)] : List (Nat × (xM ⊕ Nat)))), XVok 7 124 0 e.1 e.2 := List.forall_mem_cons.mpr ⟨xV_ok_7_124_7, fun _ h => absurd h List.not_mem_nil⟩
theorem xV_ok_7_139 : ∀ e ∈ (([(7, .inl mX5_is)] : List (Nat × (xM ⊕ Nat)))), XVok 7 139 1 e.1 e.2 := List.forall_mem_cons.mpr ⟨xV_ok_7_139_7, fun _ h => absurd h List.not_mem_nil⟩
theorem xV_ok_7_142 : ∀ e ∈ (([(7, .inl mX5_next)] : List (Nat × (xM ⊕ Nat)))), XVok 7 142 0 e.1 e.2 := List.forall_mem_cons.mpr ⟨xV_ok_7_142_7, fun _ h => absurd h List.not_mem_nil⟩
theorem xV_ok_7_145 : ∀ e ∈ (([(7, .inl mX5_eats)] : List (Nat × (xM ⊕ Nat)))), XVok 7 145 1 e.1 e.2 := List.forall_mem_cons.mpr ⟨xV_ok_7_145_7, fun _ h => absurd h List.not_mem_nil⟩
theorem xV_ok_7_148 : ∀ e ∈ (([(7, .inl mX5_fails)] : List (Nat × (xM ⊕ Nat)))), XVok 7 148 1 e.1 e.2 := List.forall_mem_cons.mpr ⟨xV_ok_7_148_7, fun _ h => absurd h List.not_mem_nil⟩
theorem xV_ok_7_156 : ∀ e ∈ (([(7, .inl mX5_takes)] : List (Nat × (xM ⊕ Nat)))), XVok 7 156 2 e.1 e.2 := List.forall_mem_cons.mpr ⟨xV_ok_7_156_7, fun _ h => absurd h List.not_mem_nil⟩
theorem xV_ok_7_160 : ∀ e ∈ (([(7, .inl mX5_needs)] : List (Nat × (xM ⊕ Nat)))), XVok 7 160 1 e.1 e.2 := List.forall_mem_cons.mpr ⟨xV_ok_7_160_7, fun _ h => absurd h List.not_mem_nil⟩
theorem xV_ok_7_163 : ∀ e ∈ (([(7, .inl mX5_lanesNeeded)] : List (Nat × (xM ⊕ Nat)))), XVok 7 163 0 e.1 e.2 := List.forall_mem_cons.mpr ⟨xV_ok_7_163_7, fun _ h => absurd h List.not_mem_nil⟩
theorem xV_ok_7_166 : ∀ e ∈ (([(7, .inl mX5_readCar)] : List (Nat × (xM ⊕ Nat)))), XVok 7 166 0 e.1 e.2 := List.forall_mem_cons.mpr ⟨xV_ok_7_166_7, fun _ h => absurd h List.not_mem_nil⟩
theorem xV_ok_7_169 : ∀ e ∈ (([(7, .inl mX5_readTrait)] : List (Nat × (xM ⊕ Nat)))), XVok 7 169 0 e.1 e.2 := List.forall_mem_cons.mpr ⟨xV_ok_7_169_7, fun _ h => absurd h List.not_mem_nil⟩
theorem xV_ok_7_179 : ∀ e ∈ (([(7, .inl mX5_readPart)] : List (Nat × (xM ⊕ Nat)))), XVok 7 179 0 e.1 e.2 := List.forall_mem_cons.mpr ⟨xV_ok_7_179_7, fun _ h => absurd h List.not_mem_nil⟩
theorem xV_ok_7_182 : ∀ e ∈ (([(7, .inl mX5_emit)] : List (Nat × (xM ⊕ Nat)))), XVok 7 182 2 e.1 e.2 := List.forall_mem_cons.mpr ⟨xV_ok_7_182_7, fun _ h => absurd h List.not_mem_nil⟩
theorem xV_ok_7_186 : ∀ e ∈ (([(7, .inl mX5_readFact)] : List (Nat × (xM ⊕ Nat)))), XVok 7 186 0 e.1 e.2 := List.forall_mem_cons.mpr ⟨xV_ok_7_186_7, fun _ h => absurd h List.not_mem_nil⟩
theorem xV_ok_7_192 : ∀ e ∈ (([(7, .inl mX5_readTest)] : List (Nat × (xM ⊕ Nat)))), XVok 7 192 0 e.1 e.2 := List.forall_mem_cons.mpr ⟨xV_ok_7_192_7, fun _ h => absurd h List.not_mem_nil⟩
theorem xV_ok_7_201 : ∀ e ∈ (([(7, .inl mX5_readLine)] : List (Nat × (xM ⊕ Nat)))), XVok 7 201 0 e.1 e.2 := List.forall_mem_cons.mpr ⟨xV_ok_7_201_7, fun _ h => absurd h List.not_mem_nil⟩
theorem xV_ok_7_204 : ∀ e ∈ (([(7, .inl mX5_readLaw)] : List (Nat × (xM ⊕ Nat)))), XVok 7 204 0 e.1 e.2 := List.forall_mem_cons.mpr ⟨xV_ok_7_204_7, fun _ h => absurd h List.not_mem_nil⟩
theorem xV_ok_7_210 : ∀ e ∈ (([(7, .inl mX5_isCar)] : List (Nat × (xM ⊕ Nat)))), XVok 7 210 1 e.1 e.2 := List.forall_mem_cons.mpr ⟨xV_ok_7_210_7, fun _ h => absurd h List.not_mem_nil⟩
theorem xV_ok_7_225 : ∀ e ∈ (([(7, .inl mX5_hasTrait)] : List (Nat × (xM ⊕ Nat)))), XVok 7 225 1 e.1 e.2 := List.forall_mem_cons.mpr ⟨xV_ok_7_225_7, fun _ h => absurd h List.not_mem_nil⟩
theorem xV_ok_7_228 : ∀ e ∈ (([(7, .inl mX5_isSome)] : List (Nat × (xM ⊕ Nat)))), XVok 7 228 5 e.1 e.2 := List.forall_mem_cons.mpr ⟨xV_ok_7_228_7, fun _ h => absurd h List.not_mem_nil⟩
theorem xV_ok_7_232 : ∀ e ∈ (([(7, .inl mX5_fact)] : List (Nat × (xM ⊕ Nat)))), XVok 7 232 3 e.1 e.2 := List.forall_mem_cons.mpr ⟨xV_ok_7_232_7, fun _ h => absurd h List.not_mem_nil⟩
theorem xV_ok_7_236 : ∀ e ∈ (([(7, .inl mX5_isSo)] : List (Nat × (xM ⊕ Nat)))), XVok 7 236 2 e.1 e.2 := List.forall_mem_cons.mpr ⟨xV_ok_7_236_7, fun _ h => absurd h List.not_mem_nil⟩
theorem xV_ok_7_240 : ∀ e ∈ (([(7, .inl mX5_begins)] : List (Nat × (xM ⊕ Nat)))), XVok 7 240 1 e.1 e.2 := List.forall_mem_cons.mpr ⟨xV_ok_7_240_7, fun _ h => absurd h List.not_mem_nil⟩
theorem xV_ok_7_243 : ∀ e ∈ (([(7, .inl mX5_stopsBy)] : List (Nat × (xM ⊕ Nat)))), XVok 7 243 1 e.1 e.2 := List.forall_mem_cons.mpr ⟨xV_ok_7_243_7, fun _ h => absurd h List.not_mem_nil⟩
theorem xV_ok_7_246 : ∀ e ∈ (([(7, .inl mX5_canStop)] : List (Nat × (xM ⊕ Nat)))), XVok 7 246 1 e.1 e.2 := List.forall_mem_cons.mpr ⟨xV_ok_7_246_7, fun _ h => absurd h List.not_mem_nil⟩
theorem xV_ok_7_253 : ∀ e ∈ (([(7, .inl mX5_isHidden)] : List (Nat × (xM ⊕ Nat)))), XVok 7 253 1 e.1 e.2 := List.forall_mem_cons.mpr ⟨xV_ok_7_253_7, fun _ h => absurd h List.not_mem_nil⟩
theorem xV_ok_7_259 : ∀ e ∈ (([(7, .inl mX5_goesOn)] : List (Nat × (xM ⊕ Nat)))), XVok 7 259 1 e.1 e.2 := List.forall_mem_cons.mpr ⟨xV_ok_7_259_7, fun _ h => absurd h List.not_mem_nil⟩
theorem xV_ok_7_262 : ∀ e ∈ (([(7, .inl mX5_isFree)] : List (Nat × (xM ⊕ Nat)))), XVok 7 262 1 e.1 e.2 := List.forall_mem_cons.mpr ⟨xV_ok_7_262_7, fun _ h => absurd h List.not_mem_nil⟩
theorem xV_ok_7_265 : ∀ e ∈ (([(7, .inl mX5_carsGo)] : List (Nat × (xM ⊕ Nat)))), XVok 7 265 0 e.1 e.2 := List.forall_mem_cons.mpr ⟨xV_ok_7_265_7, fun _ h => absurd h List.not_mem_nil⟩
theorem xV_ok_7_268 : ∀ e ∈ (([(7, .inl mX5_decides)] : List (Nat × (xM ⊕ Nat)))), XVok 7 268 1 e.1 e.2 := List.forall_mem_cons.mpr ⟨xV_ok_7_268_7, fun _ h => absurd h List.not_mem_nil⟩
theorem xV_ok_7_272 : ∀ e ∈ (([(7, .inl mX5_ticks)] : List (Nat × (xM ⊕ Nat)))), XVok 7 272 0 e.1 e.2 := List.forall_mem_cons.mpr ⟨xV_ok_7_272_7, fun _ h => absurd h List.not_mem_nil⟩
theorem xV_ok_7_275 : ∀ e ∈ (([(7, .inl mX5_runs)] : List (Nat × (xM ⊕ Nat)))), XVok 7 275 2 e.1 e.2 := List.forall_mem_cons.mpr ⟨xV_ok_7_275_7, fun _ h => absurd h List.not_mem_nil⟩
theorem xV_ok_7_278 : ∀ e ∈ (([(7, .inl mX5_stopped)] : List (Nat × (xM ⊕ Nat)))), XVok 7 278 0 e.1 e.2 := List.forall_mem_cons.mpr ⟨xV_ok_7_278_7, fun _ h => absurd h List.not_mem_nil⟩
theorem xV_ok_7_283 : ∀ e ∈ (([(7, .inl mX5_none)] : List (Nat × (xM ⊕ Nat)))), XVok 7 283 1 e.1 e.2 := List.forall_mem_cons.mpr ⟨xV_ok_7_283_7, fun _ h => absurd h List.not_mem_nil⟩
theorem xV_ok_7_288 : ∀ e ∈ (([(7, .inl mX5_branches)] : List (Nat × (xM ⊕ Nat)))), XVok 7 288 2 e.1 e.2 := List.forall_mem_cons.mpr ⟨xV_ok_7_288_7, fun _ h => absurd h List.not_mem_nil⟩
theorem xV_ok_7_292 : ∀ e ∈ (([(7, .inl mX5_allParts)] : List (Nat × (xM ⊕ Nat)))), XVok 7 292 0 e.1 e.2 := List.forall_mem_cons.mpr ⟨xV_ok_7_292_7, fun _ h => absurd h List.not_mem_nil⟩
theorem xV_ok_7_296 : ∀ e ∈ (([(7, .inl mX5_worksOdds)] : List (Nat × (xM ⊕ Nat)))), XVok 7 296 0 e.1 e.2 := List.forall_mem_cons.mpr ⟨xV_ok_7_296_7, fun _ h => absurd h List.not_mem_nil⟩
theorem xV_ok_7_299 : ∀ e ∈ (([(7, .inl mX5_overIf)] : List (Nat × (xM ⊕ Nat)))), XVok 7 299 1 e.1 e.2 := List.forall_mem_cons.mpr ⟨xV_ok_7_299_7, fun _ h => absurd h List.not_mem_nil⟩
theorem xV_ok_7_316 : ∀ e ∈ (([(7, .inl mX5_isPlace)] : List (Nat × (xM ⊕ Nat)))), XVok 7 316 1 e.1 e.2 := List.forall_mem_cons.mpr ⟨xV_ok_7_316_7, fun _ h => absurd h List.not_mem_nil⟩
theorem xV_ok_7_321 : ∀ e ∈ (([(7, .inl mX5_sumOf)] : List (Nat × (xM ⊕ Nat)))), XVok 7 321 2 e.1 e.2 := List.forall_mem_cons.mpr ⟨xV_ok_7_321_7, fun _ h => absurd h List.not_mem_nil⟩
theorem xV_ok_7_325 : ∀ e ∈ (([(7, .inl mX5_partedAbove)] : List (Nat × (xM ⊕ Nat)))), XVok 7 325 1 e.1 e.2 := List.forall_mem_cons.mpr ⟨xV_ok_7_325_7, fun _ h => absurd h List.not_mem_nil⟩
theorem xV_ok_7_328 : ∀ e ∈ (([(7, .inl mX5_partedBelow)] : List (Nat × (xM ⊕ Nat)))), XVok 7 328 1 e.1 e.2 := List.forall_mem_cons.mpr ⟨xV_ok_7_328_7, fun _ h => absurd h List.not_mem_nil⟩
theorem xV_ok_7_331 : ∀ e ∈ (([(7, .inl mX5_hurtAt)] : List (Nat × (xM ⊕ Nat)))), XVok 7 331 1 e.1 e.2 := List.forall_mem_cons.mpr ⟨xV_ok_7_331_7, fun _ h => absurd h List.not_mem_nil⟩
theorem xV_ok_7_335 : ∀ e ∈ (([(7, .inl mX5_worstOf)] : List (Nat × (xM ⊕ Nat)))), XVok 7 335 1 e.1 e.2 := List.forall_mem_cons.mpr ⟨xV_ok_7_335_7, fun _ h => absurd h List.not_mem_nil⟩
theorem xV_ok_7_338 : ∀ e ∈ (([(7, .inl mX5_fallOf)] : List (Nat × (xM ⊕ Nat)))), XVok 7 338 1 e.1 e.2 := List.forall_mem_cons.mpr ⟨xV_ok_7_338_7, fun _ h => absurd h List.not_mem_nil⟩
theorem xV_ok_7_341 : ∀ e ∈ (([(7, .inl mX5_matchesOf)] : List (Nat × (xM ⊕ Nat)))), XVok 7 341 1 e.1 e.2 := List.forall_mem_cons.mpr ⟨xV_ok_7_341_7, fun _ h => absurd h List.not_mem_nil⟩
theorem xV_ok_7_344 : ∀ e ∈ (([(7, .inl mX5_isWorse)] : List (Nat × (xM ⊕ Nat)))), XVok 7 344 2 e.1 e.2 := List.forall_mem_cons.mpr ⟨xV_ok_7_344_7, fun _ h => absurd h List.not_mem_nil⟩
theorem xV_ok_7_347 : ∀ e ∈ (([(7, .inl mX5_costOf)] : List (Nat × (xM ⊕ Nat)))), XVok 7 347 1 e.1 e.2 := List.forall_mem_cons.mpr ⟨xV_ok_7_347_7, fun _ h => absurd h List.not_mem_nil⟩
theorem xV_ok_7_350 : ∀ e ∈ (([(7, .inl mX5_leftOf)] : List (Nat × (xM ⊕ Nat)))), XVok 7 350 2 e.1 e.2 := List.forall_mem_cons.mpr ⟨xV_ok_7_350_7, fun _ h => absurd h List.not_mem_nil⟩
theorem xV_ok_7_355 : ∀ e ∈ (([(7, .inl mX5_laysSpent)] : List (Nat × (xM ⊕ Nat)))), XVok 7 355 1 e.1 e.2 := List.forall_mem_cons.mpr ⟨xV_ok_7_355_7, fun _ h => absurd h List.not_mem_nil⟩
theorem xV_ok_7_358 : ∀ e ∈ (([(7, .inl mX5_isBest)] : List (Nat × (xM ⊕ Nat)))), XVok 7 358 3 e.1 e.2 := List.forall_mem_cons.mpr ⟨xV_ok_7_358_7, fun _ h => absurd h List.not_mem_nil⟩
theorem xV_ok_7_369 : ∀ e ∈ (([(7, .inl mX5_payAt)] : List (Nat × (xM ⊕ Nat)))), XVok 7 369 3 e.1 e.2 := List.forall_mem_cons.mpr ⟨xV_ok_7_369_7, fun _ h => absurd h List.not_mem_nil⟩
theorem xV_ok_7_373 : ∀ e ∈ (([(7, .inl mX5_isRest)] : List (Nat × (xM ⊕ Nat)))), XVok 7 373 4 e.1 e.2 := List.forall_mem_cons.mpr ⟨xV_ok_7_373_7, fun _ h => absurd h List.not_mem_nil⟩
theorem xV_ok_7_383 : ∀ e ∈ (([(7, .inl mX5_isTooMuch)] : List (Nat × (xM ⊕ Nat)))), XVok 7 383 1 e.1 e.2 := List.forall_mem_cons.mpr ⟨xV_ok_7_383_7, fun _ h => absurd h List.not_mem_nil⟩
theorem xV_ok_7_386 : ∀ e ∈ (([(7, .inl mX5_hereIn)] : List (Nat × (xM ⊕ Nat)))), XVok 7 386 1 e.1 e.2 := List.forall_mem_cons.mpr ⟨xV_ok_7_386_7, fun _ h => absurd h List.not_mem_nil⟩
theorem xV_ok_7_389 : ∀ e ∈ (([(7, .inl mX5_filledAt)] : List (Nat × (xM ⊕ Nat)))), XVok 7 389 2 e.1 e.2 := List.forall_mem_cons.mpr ⟨xV_ok_7_389_7, fun _ h => absurd h List.not_mem_nil⟩
theorem xV_ok_7_392 : ∀ e ∈ (([(7, .inl mX5_isRow)] : List (Nat × (xM ⊕ Nat)))), XVok 7 392 1 e.1 e.2 := List.forall_mem_cons.mpr ⟨xV_ok_7_392_7, fun _ h => absurd h List.not_mem_nil⟩
theorem xV_ok_8_42 : ∀ e ∈ (([(8, .inl mX6_see)] : List (Nat × (xM ⊕ Nat)))), XVok 8 42 1 e.1 e.2 := List.forall_mem_cons.mpr ⟨xV_ok_8_42_8, fun _ h => absurd h List.not_mem_nil⟩
theorem xV_ok_8_67 : ∀ e ∈ (([(8, .inl mX6_isSmall)] : List (Nat × (xM ⊕ Nat)))), XVok 8 67 1 e.1 e.2 := List.forall_mem_cons.mpr ⟨xV_ok_8_67_8, fun _ h => absurd h List.not_mem_nil⟩
theorem xV_ok_8_71 : ∀ e ∈ (([(8, .inl mX6_isDigit)] : List (Nat × (xM ⊕ Nat)))), XVok 8 71 1 e.1 e.2 := List.forall_mem_cons.mpr ⟨xV_ok_8_71_8, fun _ h => absurd h List.not_mem_nil⟩
theorem xV_ok_8_80_38 : XVok 8 80 0 38 (.inr 0) := ⟨q531, rfl⟩
theorem xV_ok_8_80 : ∀ e ∈ (([(38, .inr 0)] : List (Nat × (xM ⊕ Nat)))), XVok 8 80 0 e.1 e.2 := List.forall_mem_cons.mpr ⟨xV_ok_8_80_38, fun _ h => absurd h List.not_mem_nil⟩
theorem xV_ok_8_86_38 : XVok 8 86 1 38 (.inr 1) := ⟨q541, rfl⟩
theorem xV_ok_8_86 : ∀ e ∈ (([(38, .inr 1)] : List (Nat × (xM ⊕ Nat)))), XVok 8 86 1 e.1 e.2 := List.forall_mem_cons.mpr ⟨xV_ok_8_86_38, fun _ h => absurd h List.not_mem_nil⟩
theorem xV_ok_8_90 : ∀ e ∈ (([(8, .inl mX6_is)] : List (Nat × (xM ⊕ Nat)))), XVok 8 90 1 e.1 e.2 := List.forall_mem_cons.mpr ⟨xV_ok_8_90_8, fun _ h => absurd h List.not_mem_nil⟩
theorem xV_ok_8_94 : ∀ e ∈ (([(8, .inl mX6_next)] : List (Nat × (xM ⊕ Nat)))), XVok 8 94 0 e.1 e.2 := List.forall_mem_cons.mpr ⟨xV_ok_8_94_8, fun _ h => absurd h List.not_mem_nil⟩
theorem xV_ok_8_97 : ∀ e ∈ (([(8, .inl mX6_wrong)] : List (Nat × (xM ⊕ Nat)))), XVok 8 97 1 e.1 e.2 := List.forall_mem_cons.mpr ⟨xV_ok_8_97_8, fun _ h => absurd h List.not_mem_nil⟩
theorem xV_ok_8_100 : ∀ e ∈ (([(8, .inl mX6_takes)] : List (Nat × (xM ⊕ Nat)))), XVok 8 100 1 e.1 e.2 := List.forall_mem_cons.mpr ⟨xV_ok_8_100_8, fun _ h => absurd h List.not_mem_nil⟩
theorem xV_ok_8_103 : ∀ e ∈ (([(8, .inl mX6_number)] : List (Nat × (xM ⊕ Nat)))), XVok 8 103 2 e.1 e.2 := List.forall_mem_cons.mpr ⟨xV_ok_8_103_8, fun _ h => absurd h List.not_mem_nil⟩
theorem xV_ok_8_123 : ∀ e ∈ (([(8, .inl mX6_line)] : List (Nat × (xM ⊕ Nat)))), XVok 8 123 0 e.1 e.2 := List.forall_mem_cons.mpr ⟨xV_ok_8_123_8, fun _ h => absurd h List.not_mem_nil⟩
theorem xV_ok_8_126 : ∀ e ∈ (([(8, .inl mX6_over)] : List (Nat × (xM ⊕ Nat)))), XVok 8 126 0 e.1 e.2 := List.forall_mem_cons.mpr ⟨xV_ok_8_126_8, fun _ h => absurd h List.not_mem_nil⟩
theorem xV_ok_8_135 : ∀ e ∈ (([(4, .inl mJ2_size)] : List (Nat × (xM ⊕ Nat)))), XVok 8 135 0 e.1 e.2 := List.forall_mem_cons.mpr ⟨xV_ok_8_135_4, fun _ h => absurd h List.not_mem_nil⟩
theorem xV_ok_8_137 : ∀ e ∈ (([(4, .inl mJ2_get)] : List (Nat × (xM ⊕ Nat)))), XVok 8 137 1 e.1 e.2 := List.forall_mem_cons.mpr ⟨xV_ok_8_137_4, fun _ h => absurd h List.not_mem_nil⟩
theorem xV_ok_8_153 : ∀ e ∈ (([(8, .inl mX6_car)] : List (Nat × (xM ⊕ Nat)))), XVok 8 153 0 e.1 e.2 := List.forall_mem_cons.mpr ⟨xV_ok_8_153_8, fun _ h => absurd h List.not_mem_nil⟩
theorem xV_ok_8_157 : ∀ e ∈ (([(8, .inl mX6_leastLanes)] : List (Nat × (xM ⊕ Nat)))), XVok 8 157 0 e.1 e.2 := List.forall_mem_cons.mpr ⟨xV_ok_8_157_8, fun _ h => absurd h List.not_mem_nil⟩
theorem xV_ok_8_177 : ∀ e ∈ (([(8, .inl mX6_traitLine)] : List (Nat × (xM ⊕ Nat)))), XVok 8 177 0 e.1 e.2 := List.forall_mem_cons.mpr ⟨xV_ok_8_177_8, fun _ h => absurd h List.not_mem_nil⟩
theorem xV_ok_8_180 : ∀ e ∈ (([(8, .inl mX6_trait)] : List (Nat × (xM ⊕ Nat)))), XVok 8 180 0 e.1 e.2 := List.forall_mem_cons.mpr ⟨xV_ok_8_180_8, fun _ h => absurd h List.not_mem_nil⟩
theorem xV_ok_8_186 : ∀ e ∈ (([(8, .inl mX6_space)] : List (Nat × (xM ⊕ Nat)))), XVok 8 186 1 e.1 e.2 := List.forall_mem_cons.mpr ⟨xV_ok_8_186_8, fun _ h => absurd h List.not_mem_nil⟩
theorem xV_ok_8_191 : ∀ e ∈ (([(8, .inl mX6_told)] : List (Nat × (xM ⊕ Nat)))), XVok 8 191 3 e.1 e.2 := List.forall_mem_cons.mpr ⟨xV_ok_8_191_8, fun _ h => absurd h List.not_mem_nil⟩
theorem xV_ok_8_202 : ∀ e ∈ (([(4, .inl mJ2_add)] : List (Nat × (xM ⊕ Nat)))), XVok 8 202 1 e.1 e.2 := List.forall_mem_cons.mpr ⟨xV_ok_8_202_4, fun _ h => absurd h List.not_mem_nil⟩
theorem xV_ok_8_210 : ∀ e ∈ (([(8, .inl mX6_some)] : List (Nat × (xM ⊕ Nat)))), XVok 8 210 0 e.1 e.2 := List.forall_mem_cons.mpr ⟨xV_ok_8_210_8, fun _ h => absurd h List.not_mem_nil⟩
theorem xV_ok_8_219 : ∀ e ∈ (([(8, .inl mX6_all)] : List (Nat × (xM ⊕ Nat)))), XVok 8 219 0 e.1 e.2 := List.forall_mem_cons.mpr ⟨xV_ok_8_219_8, fun _ h => absurd h List.not_mem_nil⟩
theorem xV_ok_8_229 : ∀ e ∈ (([(8, .inl mX6_fact)] : List (Nat × (xM ⊕ Nat)))), XVok 8 229 0 e.1 e.2 := List.forall_mem_cons.mpr ⟨xV_ok_8_229_8, fun _ h => absurd h List.not_mem_nil⟩
theorem xV_ok_8_239 : ∀ e ∈ (([(8, .inl mX6_opens)] : List (Nat × (xM ⊕ Nat)))), XVok 8 239 0 e.1 e.2 := List.forall_mem_cons.mpr ⟨xV_ok_8_239_8, fun _ h => absurd h List.not_mem_nil⟩
theorem xV_ok_8_269 : ∀ e ∈ (([(8, .inl mX6_own)] : List (Nat × (xM ⊕ Nat)))), XVok 8 269 0 e.1 e.2 := List.forall_mem_cons.mpr ⟨xV_ok_8_269_8, fun _ h => absurd h List.not_mem_nil⟩
theorem xV_ok_10_13 : ∀ e ∈ (([(10, .inl mX9_is), (11, .inl mX10_is), (12, .inl mX11_is), (13, .inl mX11_is), (14, .inl mX11_is), (15, .inl mX15_is), (16, .inl mX16_is), (17, .inl mX17_is)] : List (Nat × (xM ⊕ Nat)))), XVok 10 13 2 e.1 e.2 := List.forall_mem_cons.mpr ⟨xV_ok_10_13_10, List.forall_mem_cons.mpr ⟨xV_ok_10_13_11, List.forall_mem_cons.mpr ⟨xV_ok_10_13_12, List.forall_mem_cons.mpr ⟨xV_ok_10_13_13, List.forall_mem_cons.mpr ⟨xV_ok_10_13_14, List.forall_mem_cons.mpr ⟨xV_ok_10_13_15, List.forall_mem_cons.mpr ⟨xV_ok_10_13_16, List.forall_mem_cons.mpr ⟨xV_ok_10_13_17, fun _ h => absurd h List.not_mem_nil⟩⟩⟩⟩⟩⟩⟩⟩
theorem xV_ok_12_9 : ∀ e ∈ (([(5, .inl mX3_car)] : List (Nat × (xM ⊕ Nat)))), XVok 12 9 1 e.1 e.2 := List.forall_mem_cons.mpr ⟨xV_ok_12_9_5, fun _ h => absurd h List.not_mem_nil⟩
theorem xV_ok_13_9 : ∀ e ∈ (([(5, .inl mX3_car)] : List (Nat × (xM ⊕ Nat)))), XVok 13 9 1 e.1 e.2 := List.forall_mem_cons.mpr ⟨xV_ok_13_9_5, fun _ h => absurd h List.not_mem_nil⟩
theorem xV_ok_14_9 : ∀ e ∈ (([(5, .inl mX3_car)] : List (Nat × (xM ⊕ Nat)))), XVok 14 9 1 e.1 e.2 := List.forall_mem_cons.mpr ⟨xV_ok_14_9_5, fun _ h => absurd h List.not_mem_nil⟩
theorem xV_ok_16_25 : ∀ e ∈ (([(5, .inl mX3_car)] : List (Nat × (xM ⊕ Nat)))), XVok 16 25 1 e.1 e.2 := List.forall_mem_cons.mpr ⟨xV_ok_16_25_5, fun _ h => absurd h List.not_mem_nil⟩
theorem xV_ok_17_20 : ∀ e ∈ (([(10, .inl mX9_is), (11, .inl mX10_is), (12, .inl mX11_is), (13, .inl mX11_is), (14, .inl mX11_is), (15, .inl mX15_is), (16, .inl mX16_is), (17, .inl mX17_is)] : List (Nat × (xM ⊕ Nat)))), XVok 17 20 2 e.1 e.2 := List.forall_mem_cons.mpr ⟨xV_ok_17_20_10, List.forall_mem_cons.mpr ⟨xV_ok_17_20_11, List.forall_mem_cons.mpr ⟨xV_ok_17_20_12, List.forall_mem_cons.mpr ⟨xV_ok_17_20_13, List.forall_mem_cons.mpr ⟨xV_ok_17_20_14, List.forall_mem_cons.mpr ⟨xV_ok_17_20_15, List.forall_mem_cons.mpr ⟨xV_ok_17_20_16, List.forall_mem_cons.mpr ⟨xV_ok_17_20_17, fun _ h => absurd h List.not_mem_nil⟩⟩⟩⟩⟩⟩⟩⟩
theorem xV_ok_19_20 : ∀ e ∈ (([(19, .inl mX19_hurt)] : List (Nat × (xM ⊕ Nat)))), XVok 19 20 0 e.1 e.2 := List.forall_mem_cons.mpr ⟨xV_ok_19_20_19, fun _ h => absurd h List.not_mem_nil⟩
theorem xV_ok_21_7 : ∀ e ∈ (([(5, .inl mX3_many)] : List (Nat × (xM ⊕ Nat)))), XVok 21 7 0 e.1 e.2 := List.forall_mem_cons.mpr ⟨xV_ok_21_7_5, fun _ h => absurd h List.not_mem_nil⟩
theorem xV_ok_21_17 : ∀ e ∈ (([(12, .inl mX12_isSo), (13, .inl mX13_isSo), (14, .inl mX14_isSo)] : List (Nat × (xM ⊕ Nat)))), XVok 21 17 3 e.1 e.2 := List.forall_mem_cons.mpr ⟨xV_ok_21_17_12, List.forall_mem_cons.mpr ⟨xV_ok_21_17_13, List.forall_mem_cons.mpr ⟨xV_ok_21_17_14, fun _ h => absurd h List.not_mem_nil⟩⟩⟩
theorem xV_ok_0 : ∀ e ∈ xV_0, ∀ q ∈ e.2.2, XVok 0 e.1 e.2.1 q.1 q.2 := List.forall_mem_cons.mpr ⟨xV_ok_0_13, List.forall_mem_cons.mpr ⟨xV_ok_0_17, List.forall_mem_cons.mpr ⟨xV_ok_0_18, List.forall_mem_cons.mpr ⟨xV_ok_0_22, List.forall_mem_cons.mpr ⟨xV_ok_0_23, List.forall_mem_cons.mpr ⟨xV_ok_0_27, List.forall_mem_cons.mpr ⟨xV_ok_0_28, List.forall_mem_cons.mpr ⟨xV_ok_0_31, List.forall_mem_cons.mpr ⟨xV_ok_0_32, List.forall_mem_cons.mpr ⟨xV_ok_0_36, List.forall_mem_cons.mpr ⟨xV_ok_0_37, List.forall_mem_cons.mpr ⟨xV_ok_0_40, List.forall_mem_cons.mpr ⟨xV_ok_0_41, List.forall_mem_cons.mpr ⟨xV_ok_0_44, List.forall_mem_cons.mpr ⟨xV_ok_0_45, List.forall_mem_cons.mpr ⟨xV_ok_0_48, List.forall_mem_cons.mpr ⟨xV_ok_0_49, List.forall_mem_cons.mpr ⟨xV_ok_0_52, List.forall_mem_cons.mpr ⟨xV_ok_0_53, List.forall_mem_cons.mpr ⟨xV_ok_0_57, List.forall_mem_cons.mpr ⟨xV_ok_0_58, List.forall_mem_cons.mpr ⟨xV_ok_0_61, List.forall_mem_cons.mpr ⟨xV_ok_0_62, List.forall_mem_cons.mpr ⟨xV_ok_0_66, List.forall_mem_cons.mpr ⟨xV_ok_0_67, List.forall_mem_cons.mpr ⟨xV_ok_0_71, List.forall_mem_cons.mpr ⟨xV_ok_0_72, List.forall_mem_cons.mpr ⟨xV_ok_0_75, List.forall_mem_cons.mpr ⟨xV_ok_0_76, List.forall_mem_cons.mpr ⟨xV_ok_0_79, List.forall_mem_cons.mpr ⟨xV_ok_0_80, List.forall_mem_cons.mpr ⟨xV_ok_0_83, List.forall_mem_cons.mpr ⟨xV_ok_0_84, List.forall_mem_cons.mpr ⟨xV_ok_0_87, List.forall_mem_cons.mpr ⟨xV_ok_0_88, List.forall_mem_cons.mpr ⟨xV_ok_0_92, List.forall_mem_cons.mpr ⟨xV_ok_0_93, List.forall_mem_cons.mpr ⟨xV_ok_0_96, List.forall_mem_cons.mpr ⟨xV_ok_0_97, List.forall_mem_cons.mpr ⟨xV_ok_0_100, List.forall_mem_cons.mpr ⟨xV_ok_0_101, List.forall_mem_cons.mpr ⟨xV_ok_0_104, List.forall_mem_cons.mpr ⟨xV_ok_0_105, List.forall_mem_cons.mpr ⟨xV_ok_0_108, List.forall_mem_cons.mpr ⟨xV_ok_0_109, List.forall_mem_cons.mpr ⟨xV_ok_0_113, List.forall_mem_cons.mpr ⟨xV_ok_0_114, List.forall_mem_cons.mpr ⟨xV_ok_0_117, List.forall_mem_cons.mpr ⟨xV_ok_0_118, List.forall_mem_cons.mpr ⟨xV_ok_0_121, List.forall_mem_cons.mpr ⟨xV_ok_0_122, List.forall_mem_cons.mpr ⟨xV_ok_0_126, List.forall_mem_cons.mpr ⟨xV_ok_0_127, List.forall_mem_cons.mpr ⟨xV_ok_0_131, List.forall_mem_cons.mpr ⟨xV_ok_0_132, List.forall_mem_cons.mpr ⟨xV_ok_0_135, List.forall_mem_cons.mpr ⟨xV_ok_0_136, List.forall_mem_cons.mpr ⟨xV_ok_0_139, List.forall_mem_cons.mpr ⟨xV_ok_0_140, List.forall_mem_cons.mpr ⟨xV_ok_0_143, List.forall_mem_cons.mpr ⟨xV_ok_0_144, List.forall_mem_cons.mpr ⟨xV_ok_0_147, List.forall_mem_cons.mpr ⟨xV_ok_0_148, List.forall_mem_cons.mpr ⟨xV_ok_0_151, List.forall_mem_cons.mpr ⟨xV_ok_0_152, List.forall_mem_cons.mpr ⟨xV_ok_0_155, List.forall_mem_cons.mpr ⟨xV_ok_0_156, List.forall_mem_cons.mpr ⟨xV_ok_0_159, List.forall_mem_cons.mpr ⟨xV_ok_0_160, List.forall_mem_cons.mpr ⟨xV_ok_0_163, List.forall_mem_cons.mpr ⟨xV_ok_0_164, List.forall_mem_cons.mpr ⟨xV_ok_0_167, List.forall_mem_cons.mpr ⟨xV_ok_0_168, List.forall_mem_cons.mpr ⟨xV_ok_0_171, List.forall_mem_cons.mpr ⟨xV_ok_0_172, List.forall_mem_cons.mpr ⟨xV_ok_0_175, List.forall_mem_cons.mpr ⟨xV_ok_0_176, List.forall_mem_cons.mpr ⟨xV_ok_0_179, List.forall_mem_cons.mpr ⟨xV_ok_0_180, List.forall_mem_cons.mpr ⟨xV_ok_0_183, List.forall_mem_cons.mpr ⟨xV_ok_0_184, List.forall_mem_cons.mpr ⟨xV_ok_0_187, List.forall_mem_cons.mpr ⟨xV_ok_0_188, List.forall_mem_cons.mpr ⟨xV_ok_0_191, List.forall_mem_cons.mpr ⟨xV_ok_0_192, List.forall_mem_cons.mpr ⟨xV_ok_0_195, List.forall_mem_cons.mpr ⟨xV_ok_0_198, List.forall_mem_cons.mpr ⟨xV_ok_0_202, List.forall_mem_cons.mpr ⟨xV_ok_0_203, List.forall_mem_cons.mpr ⟨xV_ok_0_206, List.forall_mem_cons.mpr ⟨xV_ok_0_207, List.forall_mem_cons.mpr ⟨xV_ok_0_210, List.forall_mem_cons.mpr ⟨xV_ok_0_211, List.forall_mem_cons.mpr ⟨xV_ok_0_214, List.forall_mem_cons.mpr ⟨xV_ok_0_215, List.forall_mem_cons.mpr ⟨xV_ok_0_218, fun _ h => absurd h List.not_mem_nil⟩⟩⟩⟩⟩⟩⟩⟩⟩⟩⟩⟩⟩⟩⟩⟩⟩⟩⟩⟩⟩⟩⟩⟩⟩⟩⟩⟩⟩⟩⟩⟩⟩⟩⟩⟩⟩⟩⟩⟩⟩⟩⟩⟩⟩⟩⟩⟩⟩⟩⟩⟩⟩⟩⟩⟩⟩⟩⟩⟩⟩⟩⟩⟩⟩⟩⟩⟩⟩⟩⟩⟩⟩⟩⟩⟩⟩⟩⟩⟩⟩⟩⟩⟩⟩⟩⟩⟩⟩⟩⟩⟩⟩⟩⟩⟩
theorem xV_ok_1 : ∀ e ∈ xV_1, ∀ q ∈ e.2.2, XVok 1 e.1 e.2.1 q.1 q.2 := List.forall_mem_cons.mpr ⟨xV_ok_1_73, List.forall_mem_cons.mpr ⟨xV_ok_1_77, List.forall_mem_cons.mpr ⟨xV_ok_1_90, List.forall_mem_cons.mpr ⟨xV_ok_1_93, List.forall_mem_cons.mpr ⟨xV_ok_1_109, List.forall_mem_cons.mpr ⟨xV_ok_1_127, List.forall_mem_cons.mpr ⟨xV_ok_1_133, List.forall_mem_cons.mpr ⟨xV_ok_1_167, List.forall_mem_cons.mpr ⟨xV_ok_1_169, List.forall_mem_cons.mpr ⟨xV_ok_1_179, List.forall_mem_cons.mpr ⟨xV_ok_1_188, List.forall_mem_cons.mpr ⟨xV_ok_1_192, List.forall_mem_cons.mpr ⟨xV_ok_1_196, List.forall_mem_cons.mpr ⟨xV_ok_1_203, List.forall_mem_cons.mpr ⟨xV_ok_1_206, List.forall_mem_cons.mpr ⟨xV_ok_1_212, List.forall_mem_cons.mpr ⟨xV_ok_1_215, List.forall_mem_cons.mpr ⟨xV_ok_1_224, List.forall_mem_cons.mpr ⟨xV_ok_1_230, List.forall_mem_cons.mpr ⟨xV_ok_1_240, List.forall_mem_cons.mpr ⟨xV_ok_1_265, List.forall_mem_cons.mpr ⟨xV_ok_1_268, List.forall_mem_cons.mpr ⟨xV_ok_1_272, List.forall_mem_cons.mpr ⟨xV_ok_1_276, List.forall_mem_cons.mpr ⟨xV_ok_1_280, List.forall_mem_cons.mpr ⟨xV_ok_1_304, List.forall_mem_cons.mpr ⟨xV_ok_1_308, List.forall_mem_cons.mpr ⟨xV_ok_1_312, List.forall_mem_cons.mpr ⟨xV_ok_1_315, List.forall_mem_cons.mpr ⟨xV_ok_1_319, List.forall_mem_cons.mpr ⟨xV_ok_1_338, List.forall_mem_cons.mpr ⟨xV_ok_1_359, List.forall_mem_cons.mpr ⟨xV_ok_1_361, List.forall_mem_cons.mpr ⟨xV_ok_1_363, List.forall_mem_cons.mpr ⟨xV_ok_1_370, List.forall_mem_cons.mpr ⟨xV_ok_1_374, List.forall_mem_cons.mpr ⟨xV_ok_1_382, List.forall_mem_cons.mpr ⟨xV_ok_1_388, List.forall_mem_cons.mpr ⟨xV_ok_1_392, List.forall_mem_cons.mpr ⟨xV_ok_1_395, List.forall_mem_cons.mpr ⟨xV_ok_1_398, List.forall_mem_cons.mpr ⟨xV_ok_1_403, List.forall_mem_cons.mpr ⟨xV_ok_1_414, List.forall_mem_cons.mpr ⟨xV_ok_1_417, List.forall_mem_cons.mpr ⟨xV_ok_1_420, List.forall_mem_cons.mpr ⟨xV_ok_1_428, List.forall_mem_cons.mpr ⟨xV_ok_1_449, List.forall_mem_cons.mpr ⟨xV_ok_1_450, List.forall_mem_cons.mpr ⟨xV_ok_1_468, List.forall_mem_cons.mpr ⟨xV_ok_1_476, List.forall_mem_cons.mpr ⟨xV_ok_1_479, List.forall_mem_cons.mpr ⟨xV_ok_1_482, List.forall_mem_cons.mpr ⟨xV_ok_1_492, List.forall_mem_cons.mpr ⟨xV_ok_1_495, List.forall_mem_cons.mpr ⟨xV_ok_1_499, List.forall_mem_cons.mpr ⟨xV_ok_1_509, fun _ h => absurd h List.not_mem_nil⟩⟩⟩⟩⟩⟩⟩⟩⟩⟩⟩⟩⟩⟩⟩⟩⟩⟩⟩⟩⟩⟩⟩⟩⟩⟩⟩⟩⟩⟩⟩⟩⟩⟩⟩⟩⟩⟩⟩⟩⟩⟩⟩⟩⟩⟩⟩⟩⟩⟩⟩⟩⟩⟩⟩⟩
theorem xV_ok_2 : ∀ e ∈ xV_2, ∀ q ∈ e.2.2, XVok 2 e.1 e.2.1 q.1 q.2 := List.forall_mem_cons.mpr ⟨xV_ok_2_41, List.forall_mem_cons.mpr ⟨xV_ok_2_45, List.forall_mem_cons.mpr ⟨xV_ok_2_49, List.forall_mem_cons.mpr ⟨xV_ok_2_55, List.forall_mem_cons.mpr ⟨xV_ok_2_58, fun _ h => absurd h List.not_mem_nil⟩⟩⟩⟩⟩
theorem xV_ok_3 : ∀ e ∈ xV_3, ∀ q ∈ e.2.2, XVok 3 e.1 e.2.1 q.1 q.2 := List.forall_mem_cons.mpr ⟨xV_ok_3_34, List.forall_mem_cons.mpr ⟨xV_ok_3_38, List.forall_mem_cons.mpr ⟨xV_ok_3_44, fun _ h => absurd h List.not_mem_nil⟩⟩⟩
theorem xV_ok_4 : ∀ e ∈ xV_4, ∀ q ∈ e.2.2, XVok 4 e.1 e.2.1 q.1 q.2 := List.forall_mem_cons.mpr ⟨xV_ok_4_69, List.forall_mem_cons.mpr ⟨xV_ok_4_123, List.forall_mem_cons.mpr ⟨xV_ok_4_129, List.forall_mem_cons.mpr ⟨xV_ok_4_131, List.forall_mem_cons.mpr ⟨xV_ok_4_144, fun _ h => absurd h List.not_mem_nil⟩⟩⟩⟩⟩
theorem xV_ok_5 : ∀ e ∈ xV_5, ∀ q ∈ e.2.2, XVok 5 e.1 e.2.1 q.1 q.2 := List.forall_mem_cons.mpr ⟨xV_ok_5_54, List.forall_mem_cons.mpr ⟨xV_ok_5_58, List.forall_mem_cons.mpr ⟨xV_ok_5_66, List.forall_mem_cons.mpr ⟨xV_ok_5_75, List.forall_mem_cons.mpr ⟨xV_ok_5_80, List.forall_mem_cons.mpr ⟨xV_ok_5_102, List.forall_mem_cons.mpr ⟨xV_ok_5_109, List.forall_mem_cons.mpr ⟨xV_ok_5_113, List.forall_mem_cons.mpr ⟨xV_ok_5_129, List.forall_mem_cons.mpr ⟨xV_ok_5_132, List.forall_mem_cons.mpr ⟨xV_ok_5_136, List.forall_mem_cons.mpr ⟨xV_ok_5_139, fun _ h => absurd h List.not_mem_nil⟩⟩⟩⟩⟩⟩⟩⟩⟩⟩⟩⟩
theorem xV_ok_7 : ∀ e ∈ xV_7, ∀ q ∈ e.2.2, XVok 7 e.1 e.2.1 q.1 q.2 := List.forall_mem_cons.mpr ⟨xV_ok_7_89, List.forall_mem_cons.mpr ⟨xV_ok_7_98, List.forall_mem_cons.mpr ⟨xV_ok_7_104, List.forall_mem_cons.mpr ⟨xV_ok_7_114, List.forall_mem_cons.mpr ⟨xV_ok_7_124, List.forall_mem_cons.mpr ⟨xV_ok_7_139, List.forall_mem_cons.mpr ⟨xV_ok_7_142, List.forall_mem_cons.mpr ⟨xV_ok_7_145, List.forall_mem_cons.mpr ⟨xV_ok_7_148, List.forall_mem_cons.mpr ⟨xV_ok_7_156, List.forall_mem_cons.mpr ⟨xV_ok_7_160, List.forall_mem_cons.mpr ⟨xV_ok_7_163, List.forall_mem_cons.mpr ⟨xV_ok_7_166, List.forall_mem_cons.mpr ⟨xV_ok_7_169, List.forall_mem_cons.mpr ⟨xV_ok_7_179, List.forall_mem_cons.mpr ⟨xV_ok_7_182, List.forall_mem_cons.mpr ⟨xV_ok_7_186, List.forall_mem_cons.mpr ⟨xV_ok_7_192, List.forall_mem_cons.mpr ⟨xV_ok_7_201, List.forall_mem_cons.mpr ⟨xV_ok_7_204, List.forall_mem_cons.mpr ⟨xV_ok_7_210, List.forall_mem_cons.mpr ⟨xV_ok_7_225, List.forall_mem_cons.mpr ⟨xV_ok_7_228, List.forall_mem_cons.mpr ⟨xV_ok_7_232, List.forall_mem_cons.mpr ⟨xV_ok_7_236, List.forall_mem_cons.mpr ⟨xV_ok_7_240, List.forall_mem_cons.mpr ⟨xV_ok_7_243, List.forall_mem_cons.mpr ⟨xV_ok_7_246, List.forall_mem_cons.mpr ⟨xV_ok_7_253, List.forall_mem_cons.mpr ⟨xV_ok_7_259, List.forall_mem_cons.mpr ⟨xV_ok_7_262, List.forall_mem_cons.mpr ⟨xV_ok_7_265, List.forall_mem_cons.mpr ⟨xV_ok_7_268, List.forall_mem_cons.mpr ⟨xV_ok_7_272, List.forall_mem_cons.mpr ⟨xV_ok_7_275, List.forall_mem_cons.mpr ⟨xV_ok_7_278, List.forall_mem_cons.mpr ⟨xV_ok_7_283, List.forall_mem_cons.mpr ⟨xV_ok_7_288, List.forall_mem_cons.mpr ⟨xV_ok_7_292, List.forall_mem_cons.mpr ⟨xV_ok_7_296, List.forall_mem_cons.mpr ⟨xV_ok_7_299, List.forall_mem_cons.mpr ⟨xV_ok_7_316, List.forall_mem_cons.mpr ⟨xV_ok_7_321, List.forall_mem_cons.mpr ⟨xV_ok_7_325, List.forall_mem_cons.mpr ⟨xV_ok_7_328, List.forall_mem_cons.mpr ⟨xV_ok_7_331, List.forall_mem_cons.mpr ⟨xV_ok_7_335, List.forall_mem_cons.mpr ⟨xV_ok_7_338, List.forall_mem_cons.mpr ⟨xV_ok_7_341, List.forall_mem_cons.mpr ⟨xV_ok_7_344, List.forall_mem_cons.mpr ⟨xV_ok_7_347, List.forall_mem_cons.mpr ⟨xV_ok_7_350, List.forall_mem_cons.mpr ⟨xV_ok_7_355, List.forall_mem_cons.mpr ⟨xV_ok_7_358, List.forall_mem_cons.mpr ⟨xV_ok_7_369, List.forall_mem_cons.mpr ⟨xV_ok_7_373, List.forall_mem_cons.mpr ⟨xV_ok_7_383, List.forall_mem_cons.mpr ⟨xV_ok_7_386, List.forall_mem_cons.mpr ⟨xV_ok_7_389, List.forall_mem_cons.mpr ⟨xV_ok_7_392, fun _ h => absurd h List.not_mem_nil⟩⟩⟩⟩⟩⟩⟩⟩⟩⟩⟩⟩⟩⟩⟩⟩⟩⟩⟩⟩⟩⟩⟩⟩⟩⟩⟩⟩⟩⟩⟩⟩⟩⟩⟩⟩⟩⟩⟩⟩⟩⟩⟩⟩⟩⟩⟩⟩⟩⟩⟩⟩⟩⟩⟩⟩⟩⟩⟩⟩
theorem xV_ok_8 : ∀ e ∈ xV_8, ∀ q ∈ e.2.2, XVok 8 e.1 e.2.1 q.1 q.2 := List.forall_mem_cons.mpr ⟨xV_ok_8_42, List.forall_mem_cons.mpr ⟨xV_ok_8_67, List.forall_mem_cons.mpr ⟨xV_ok_8_71, List.forall_mem_cons.mpr ⟨xV_ok_8_80, List.forall_mem_cons.mpr ⟨xV_ok_8_86, List.forall_mem_cons.mpr ⟨xV_ok_8_90, List.forall_mem_cons.mpr ⟨xV_ok_8_94, List.forall_mem_cons.mpr ⟨xV_ok_8_97, List.forall_mem_cons.mpr ⟨xV_ok_8_100, List.forall_mem_cons.mpr ⟨xV_ok_8_103, List.forall_mem_cons.mpr ⟨xV_ok_8_123, List.forall_mem_cons.mpr ⟨xV_ok_8_126, List.forall_mem_cons.mpr ⟨xV_ok_8_135, List.forall_mem_cons.mpr ⟨xV_ok_8_137, List.forall_mem_cons.mpr ⟨xV_ok_8_153, List.forall_mem_cons.mpr ⟨xV_ok_8_157, List.forall_mem_cons.mpr ⟨xV_ok_8_177, List.forall_mem_cons.mpr ⟨xV_ok_8_180, List.forall_mem_cons.mpr ⟨xV_ok_8_186, List.forall_mem_cons.mpr ⟨xV_ok_8_191, List.forall_mem_cons.mpr ⟨xV_ok_8_202, List.forall_mem_cons.mpr ⟨xV_ok_8_210, List.forall_mem_cons.mpr ⟨xV_ok_8_219, List.forall_mem_cons.mpr ⟨xV_ok_8_229, List.forall_mem_cons.mpr ⟨xV_ok_8_239, List.forall_mem_cons.mpr ⟨xV_ok_8_269, fun _ h => absurd h List.not_mem_nil⟩⟩⟩⟩⟩⟩⟩⟩⟩⟩⟩⟩⟩⟩⟩⟩⟩⟩⟩⟩⟩⟩⟩⟩⟩⟩
theorem xV_ok_10 : ∀ e ∈ xV_10, ∀ q ∈ e.2.2, XVok 10 e.1 e.2.1 q.1 q.2 := List.forall_mem_cons.mpr ⟨xV_ok_10_13, fun _ h => absurd h List.not_mem_nil⟩
theorem xV_ok_12 : ∀ e ∈ xV_12, ∀ q ∈ e.2.2, XVok 12 e.1 e.2.1 q.1 q.2 := List.forall_mem_cons.mpr ⟨xV_ok_12_9, fun _ h => absurd h List.not_mem_nil⟩
theorem xV_ok_13 : ∀ e ∈ xV_13, ∀ q ∈ e.2.2, XVok 13 e.1 e.2.1 q.1 q.2 := List.forall_mem_cons.mpr ⟨xV_ok_13_9, fun _ h => absurd h List.not_mem_nil⟩
theorem xV_ok_14 : ∀ e ∈ xV_14, ∀ q ∈ e.2.2, XVok 14 e.1 e.2.1 q.1 q.2 := List.forall_mem_cons.mpr ⟨xV_ok_14_9, fun _ h => absurd h List.not_mem_nil⟩
theorem xV_ok_16 : ∀ e ∈ xV_16, ∀ q ∈ e.2.2, XVok 16 e.1 e.2.1 q.1 q.2 := List.forall_mem_cons.mpr ⟨xV_ok_16_25, fun _ h => absurd h List.not_mem_nil⟩
theorem xV_ok_17 : ∀ e ∈ xV_17, ∀ q ∈ e.2.2, XVok 17 e.1 e.2.1 q.1 q.2 := List.forall_mem_cons.mpr ⟨xV_ok_17_20, fun _ h => absurd h List.not_mem_nil⟩
theorem xV_ok_19 : ∀ e ∈ xV_19, ∀ q ∈ e.2.2, XVok 19 e.1 e.2.1 q.1 q.2 := List.forall_mem_cons.mpr ⟨xV_ok_19_20, fun _ h => absurd h List.not_mem_nil⟩
theorem xV_ok_21 : ∀ e ∈ xV_21, ∀ q ∈ e.2.2, XVok 21 e.1 e.2.1 q.1 q.2 := List.forall_mem_cons.mpr ⟨xV_ok_21_7, List.forall_mem_cons.mpr ⟨xV_ok_21_17, fun _ h => absurd h List.not_mem_nil⟩⟩
theorem xV_ok : ∀ own k na tb, xV own k = some (na, tb) → ∀ t g, xlk tb t = some g → XVok own k na t g := by
  intro own k na tb h t g hg
  unfold xV at h
  split at h
  · exact xV_ok_0 _ (xlk_mem h) _ (xlk_mem hg)
  · exact xV_ok_1 _ (xlk_mem h) _ (xlk_mem hg)
  · exact xV_ok_2 _ (xlk_mem h) _ (xlk_mem hg)
  · exact xV_ok_3 _ (xlk_mem h) _ (xlk_mem hg)
  · exact xV_ok_4 _ (xlk_mem h) _ (xlk_mem hg)
  · exact xV_ok_5 _ (xlk_mem h) _ (xlk_mem hg)
  · exact xV_ok_7 _ (xlk_mem h) _ (xlk_mem hg)
  · exact xV_ok_8 _ (xlk_mem h) _ (xlk_mem hg)
  · exact xV_ok_10 _ (xlk_mem h) _ (xlk_mem hg)
  · exact xV_ok_12 _ (xlk_mem h) _ (xlk_mem hg)
  · exact xV_ok_13 _ (xlk_mem h) _ (xlk_mem hg)
  · exact xV_ok_14 _ (xlk_mem h) _ (xlk_mem hg)
  · exact xV_ok_16 _ (xlk_mem h) _ (xlk_mem hg)
  · exact xV_ok_17 _ (xlk_mem h) _ (xlk_mem hg)
  · exact xV_ok_19 _ (xlk_mem h) _ (xlk_mem hg)
  · exact xV_ok_21 _ (xlk_mem h) _ (xlk_mem hg)
  · cases h
theorem xS_ok_1_39 : XSok 1 39 0 (.inl mX0_walks) := ⟨xM_X0_walks, by decide +kernel, q358, Or.inl q357⟩
theorem xS_ok_1_81 : XSok 1 81 3 (.inl mX0_in) := ⟨xM_X0_in, by decide +kernel, q447, Or.inl q446⟩
theorem xS_ok_1_153 : XSok 1 153 1 (.inl mX0_isTrait) := ⟨xM_X0_isTrait, by decide +kernel, q909, Or.inl q908⟩
theorem xS_ok_1_284 : XSok 1 284 1 (.inl mJ11_bitCount) := ⟨xM_J11_bitCount, by decide +kernel, q1127, Or.inl q1126⟩
theorem xS_ok_1_294 : XSok 1 294 3 (.inl mX0_isAtMost) := ⟨xM_X0_isAtMost, by decide +kernel, q1138, Or.inl q1137⟩
theorem xS_ok_1_298 : XSok 1 298 2 (.inl mX0_commonOf) := ⟨xM_X0_commonOf, by decide +kernel, q1153, Or.inl q1152⟩
theorem xS_ok_1_322 : XSok 1 322 2 (.inr 7) := ⟨q1192, rfl⟩
theorem xS_ok_1_356 : XSok 1 356 2 (.inl mX0_common) := ⟨xM_X0_common, by decide +kernel, q1247, Or.inl q1246⟩
theorem xS_ok_1_367 : XSok 1 367 2 (.inr 9) := ⟨q1265, rfl⟩
theorem xS_ok_1_378 : XSok 1 378 2 (.inl mX0_has) := ⟨xM_X0_has, by decide +kernel, q952, Or.inl q1277⟩
theorem xS_ok_1_385 : XSok 1 385 1 (.inr 8) := ⟨q1295, rfl⟩
theorem xS_ok_1_401 : XSok 1 401 2 (.inr 6) := ⟨q1304, rfl⟩
theorem xS_ok_1_424 : XSok 1 424 2 (.inr 10) := ⟨q1331, rfl⟩
theorem xS_ok_1_433 : XSok 1 433 1 (.inl mX0_spread) := ⟨xM_X0_spread, by decide +kernel, q1347, Or.inl q1346⟩
theorem xS_ok_1_436 : XSok 1 436 1 (.inl mX0_cube) := ⟨xM_X0_cube, by decide +kernel, q1355, Or.inl q1354⟩
theorem xS_ok_1_440 : XSok 1 440 1 (.inl mX0_isRow) := ⟨xM_X0_isRow, by decide +kernel, q1362, Or.inl q1361⟩
theorem xS_ok_1_455 : XSok 1 455 4 (.inl mX0_waste) := ⟨xM_X0_waste, by decide +kernel, q1383, Or.inl q1382⟩
theorem xS_ok_1_464 : XSok 1 464 3 (.inl mX0_payAt) := ⟨xM_X0_payAt, by decide +kernel, q1391, Or.inl q1390⟩
theorem xS_ok_3_57 : XSok 3 57 2 (.inl mX0_has) := ⟨xM_X0_has, by decide +kernel, q952, Or.inr ⟨"FootOut", List.mem_of_getElem? (i := 91) rfl⟩⟩
theorem xS_ok_3_64 : XSok 3 64 2 (.inr 7) := ⟨q956, rfl⟩
theorem xS_ok_4_66 : XSok 4 66 2 (.inr 2) := ⟨q671, rfl⟩
theorem xS_ok_4_73 : XSok 4 73 3 (.inl mJ7_newLength) := ⟨xM_J7_newLength, by decide +kernel, q662, Or.inl q661⟩
theorem xS_ok_4_79 : XSok 4 79 2 (.inr 6) := ⟨q711, rfl⟩
theorem xS_ok_4_112 : XSok 4 112 5 (.inr 3) := ⟨q1182, rfl⟩
theorem xS_ok_4_118 : XSok 4 118 2 (.inl mJ10_checkIndex) := ⟨xM_J10_checkIndex, by decide +kernel, q722, Or.inl q721⟩
theorem xS_ok_5_87 : XSok 5 87 3 (.inl mX0_in) := ⟨xM_X0_in, by decide +kernel, q447, Or.inr ⟨"FootOut", List.mem_of_getElem? (i := 96) rfl⟩⟩
theorem xS_ok_5_122 : XSok 5 122 2 (.inl mX0_has) := ⟨xM_X0_has, by decide +kernel, q952, Or.inr ⟨"FootOut", List.mem_of_getElem? (i := 97) rfl⟩⟩
theorem xS_ok_5_143 : XSok 5 143 2 (.inr 7) := ⟨q1071, rfl⟩
theorem xS_ok_5_149 : XSok 5 149 2 (.inr 6) := ⟨q1070, rfl⟩
theorem xS_ok_7_82 : XSok 7 82 1 (.inl mX5_plain) := ⟨xM_X5_plain, by decide +kernel, q1619, Or.inl q1618⟩
theorem xS_ok_7_120 : XSok 7 120 1 (.inl mX5_isSmall) := ⟨xM_X5_isSmall, by decide +kernel, q1754, Or.inl q1753⟩
theorem xS_ok_7_127 : XSok 7 127 1 (.inl mX5_isDigit) := ⟨xM_X5_isDigit, by decide +kernel, q1764, Or.inl q1763⟩
theorem xS_ok_7_152 : XSok 7 152 3 (.inl mX5_within) := ⟨xM_X5_within, by decide +kernel, q1743, Or.inl q1742⟩
theorem xS_ok_7_303 : XSok 7 303 1 (.inl mX5_bitsOf) := ⟨xM_X5_bitsOf, by decide +kernel, q1973, Or.inl q1972⟩
theorem xS_ok_7_310 : XSok 7 310 2 (.inl mX5_common) := ⟨xM_X5_common, by decide +kernel, q1994, Or.inl q1993⟩
theorem xS_ok_7_397 : XSok 7 397 2 (.inl mX5_cut) := ⟨xM_X5_cut, by decide +kernel, q2185, Or.inl q2184⟩
theorem xS_ok_8_50 : XSok 8 50 3 (.inl mX0_in) := ⟨xM_X0_in, by decide +kernel, q447, Or.inr ⟨"FootOut", List.mem_of_getElem? (i := 86) rfl⟩⟩
theorem xS_ok_8_146 : XSok 8 146 2 (.inr 6) := ⟨q729, rfl⟩
theorem xS_ok_11_24 : XSok 11 24 2 (.inl mX0_has) := ⟨xM_X0_has, by decide +kernel, q952, Or.inr ⟨"FootOut", List.mem_of_getElem? (i := 95) rfl⟩⟩
theorem xS_ok_13_21 : XSok 13 21 1 (.inr 8) := ⟨q980, rfl⟩
theorem xS_ok_25_105 : XSok 25 105 3 (.inl mJ5_checkIndex) := ⟨xM_J5_checkIndex, by decide +kernel, q558, Or.inl q724⟩
theorem xS_ok_27_194 : XSok 27 194 2 (.inr 6) := ⟨q664, rfl⟩
theorem xS_ok_1 : ∀ e ∈ xS_1, XSok 1 e.1 e.2.1 e.2.2 := List.forall_mem_cons.mpr ⟨xS_ok_1_39, List.forall_mem_cons.mpr ⟨xS_ok_1_81, List.forall_mem_cons.mpr ⟨xS_ok_1_153, List.forall_mem_cons.mpr ⟨xS_ok_1_284, List.forall_mem_cons.mpr ⟨xS_ok_1_294, List.forall_mem_cons.mpr ⟨xS_ok_1_298, List.forall_mem_cons.mpr ⟨xS_ok_1_322, List.forall_mem_cons.mpr ⟨xS_ok_1_356, List.forall_mem_cons.mpr ⟨xS_ok_1_367, List.forall_mem_cons.mpr ⟨xS_ok_1_378, List.forall_mem_cons.mpr ⟨xS_ok_1_385, List.forall_mem_cons.mpr ⟨xS_ok_1_401, List.forall_mem_cons.mpr ⟨xS_ok_1_424, List.forall_mem_cons.mpr ⟨xS_ok_1_433, List.forall_mem_cons.mpr ⟨xS_ok_1_436, List.forall_mem_cons.mpr ⟨xS_ok_1_440, List.forall_mem_cons.mpr ⟨xS_ok_1_455, List.forall_mem_cons.mpr ⟨xS_ok_1_464, fun _ h => absurd h List.not_mem_nil⟩⟩⟩⟩⟩⟩⟩⟩⟩⟩⟩⟩⟩⟩⟩⟩⟩⟩
theorem xS_ok_3 : ∀ e ∈ xS_3, XSok 3 e.1 e.2.1 e.2.2 := List.forall_mem_cons.mpr ⟨xS_ok_3_57, List.forall_mem_cons.mpr ⟨xS_ok_3_64, fun _ h => absurd h List.not_mem_nil⟩⟩
theorem xS_ok_4 : ∀ e ∈ xS_4, XSok 4 e.1 e.2.1 e.2.2 := List.forall_mem_cons.mpr ⟨xS_ok_4_66, List.forall_mem_cons.mpr ⟨xS_ok_4_73, List.forall_mem_cons.mpr ⟨xS_ok_4_79, List.forall_mem_cons.mpr ⟨xS_ok_4_112, List.forall_mem_cons.mpr ⟨xS_ok_4_118, fun _ h => absurd h List.not_mem_nil⟩⟩⟩⟩⟩
theorem xS_ok_5 : ∀ e ∈ xS_5, XSok 5 e.1 e.2.1 e.2.2 := List.forall_mem_cons.mpr ⟨xS_ok_5_87, List.forall_mem_cons.mpr ⟨xS_ok_5_122, List.forall_mem_cons.mpr ⟨xS_ok_5_143, List.forall_mem_cons.mpr ⟨xS_ok_5_149, fun _ h => absurd h List.not_mem_nil⟩⟩⟩⟩
theorem xS_ok_7 : ∀ e ∈ xS_7, XSok 7 e.1 e.2.1 e.2.2 := List.forall_mem_cons.mpr ⟨xS_ok_7_82, List.forall_mem_cons.mpr ⟨xS_ok_7_120, List.forall_mem_cons.mpr ⟨xS_ok_7_127, List.forall_mem_cons.mpr ⟨xS_ok_7_152, List.forall_mem_cons.mpr ⟨xS_ok_7_303, List.forall_mem_cons.mpr ⟨xS_ok_7_310, List.forall_mem_cons.mpr ⟨xS_ok_7_397, fun _ h => absurd h List.not_mem_nil⟩⟩⟩⟩⟩⟩⟩
theorem xS_ok_8 : ∀ e ∈ xS_8, XSok 8 e.1 e.2.1 e.2.2 := List.forall_mem_cons.mpr ⟨xS_ok_8_50, List.forall_mem_cons.mpr ⟨xS_ok_8_146, fun _ h => absurd h List.not_mem_nil⟩⟩
theorem xS_ok_11 : ∀ e ∈ xS_11, XSok 11 e.1 e.2.1 e.2.2 := List.forall_mem_cons.mpr ⟨xS_ok_11_24, fun _ h => absurd h List.not_mem_nil⟩
theorem xS_ok_13 : ∀ e ∈ xS_13, XSok 13 e.1 e.2.1 e.2.2 := List.forall_mem_cons.mpr ⟨xS_ok_13_21, fun _ h => absurd h List.not_mem_nil⟩
theorem xS_ok_25 : ∀ e ∈ xS_25, XSok 25 e.1 e.2.1 e.2.2 := List.forall_mem_cons.mpr ⟨xS_ok_25_105, fun _ h => absurd h List.not_mem_nil⟩
theorem xS_ok_27 : ∀ e ∈ xS_27, XSok 27 e.1 e.2.1 e.2.2 := List.forall_mem_cons.mpr ⟨xS_ok_27_194, fun _ h => absurd h List.not_mem_nil⟩
theorem xS_ok : ∀ own k na t, xS own k = some (na, t) → XSok own k na t := by
  intro own k na t h
  unfold xS at h
  split at h
  · exact xS_ok_1 _ (xlk_mem h)
  · exact xS_ok_3 _ (xlk_mem h)
  · exact xS_ok_4 _ (xlk_mem h)
  · exact xS_ok_5 _ (xlk_mem h)
  · exact xS_ok_7 _ (xlk_mem h)
  · exact xS_ok_8 _ (xlk_mem h)
  · exact xS_ok_11 _ (xlk_mem h)
  · exact xS_ok_13 _ (xlk_mem h)
  · exact xS_ok_25 _ (xlk_mem h)
  · exact xS_ok_27 _ (xlk_mem h)
  · cases h
theorem xZ_ok_0_9 : XZok 0 9 0 (some mX0_init) := ⟨xM_X0_init, by decide +kernel, rfl, rfl, q167, Or.inl q166⟩
theorem xZ_ok_0_12 : XZok 0 12 0 (some mX5_init) := ⟨xM_X5_init, by decide +kernel, rfl, rfl, q1615, Or.inl q1614⟩
theorem xZ_ok_1_1 : XZok 1 1 0 none := q169
theorem xZ_ok_1_9 : XZok 1 9 0 (some mX1_init) := ⟨xM_X1_init, by decide +kernel, rfl, rfl, q175, Or.inr ⟨"FootOut", List.mem_of_getElem? (i := 75) rfl⟩⟩
theorem xZ_ok_1_34 : XZok 1 34 0 (some mX3_init) := ⟨xM_X3_init, by decide +kernel, rfl, rfl, q290, Or.inr ⟨"FootOut", List.mem_of_getElem? (i := 76) rfl⟩⟩
theorem xZ_ok_1_65 : XZok 1 65 0 (some mX4_init) := ⟨xM_X4_init, by decide +kernel, rfl, rfl, q365, Or.inr ⟨"FootOut", List.mem_of_getElem? (i := 77) rfl⟩⟩
theorem xZ_ok_1_87 : XZok 1 87 2 (some mX6_init) := ⟨xM_X6_init, by decide +kernel, rfl, rfl, q452, Or.inl q451⟩
theorem xZ_ok_1_302 : XZok 1 302 1 (some mJ2_init) := ⟨xM_J2_init, by decide +kernel, rfl, rfl, q187, Or.inl q1160⟩
theorem xZ_ok_1_335 : XZok 1 335 5 (some mX19_init) := ⟨xM_X19_init, by decide +kernel, rfl, rfl, q1201, Or.inl q1200⟩
theorem xZ_ok_2_3 : XZok 2 3 0 none := q177
theorem xZ_ok_2_11 : XZok 2 11 0 (some mX2_init) := ⟨xM_X2_init, by decide +kernel, rfl, rfl, q181, Or.inr ⟨"FootOut", List.mem_of_getElem? (i := 93) rfl⟩⟩
theorem xZ_ok_2_20 : XZok 2 20 1 (some mJ2_init) := ⟨xM_J2_init, by decide +kernel, rfl, rfl, q187, Or.inl q259⟩
theorem xZ_ok_2_40 : XZok 2 40 0 (some mX1_init) := ⟨xM_X1_init, by decide +kernel, rfl, rfl, q175, Or.inl q1588⟩
theorem xZ_ok_3_3 : XZok 3 3 0 none := q183
theorem xZ_ok_3_11 : XZok 3 11 1 (some mJ2_init) := ⟨xM_J2_init, by decide +kernel, rfl, rfl, q187, Or.inl q186⟩
theorem xZ_ok_3_33 : XZok 3 33 0 (some mX2_init) := ⟨xM_X2_init, by decide +kernel, rfl, rfl, q181, Or.inl q1171⟩
theorem xZ_ok_4_1 : XZok 4 1 0 (some mJ1_init) := ⟨xM_J1_init, by decide +kernel, rfl, rfl, q190, Or.inl q189⟩
theorem xZ_ok_5_3 : XZok 5 3 0 none := q292
theorem xZ_ok_6_1 : XZok 6 1 0 none := q367
theorem xZ_ok_7_11 : XZok 7 11 0 none := q1617
theorem xZ_ok_8_9 : XZok 8 9 0 none := q454
theorem xZ_ok_8_17 : XZok 8 17 0 (some mX2_init) := ⟨xM_X2_init, by decide +kernel, rfl, rfl, q181, Or.inr ⟨"FootOut", List.mem_of_getElem? (i := 85) rfl⟩⟩
theorem xZ_ok_8_24 : XZok 8 24 1 (some mJ2_init) := ⟨xM_J2_init, by decide +kernel, rfl, rfl, q187, Or.inl q458⟩
theorem xZ_ok_8_199 : XZok 8 199 4 (some mX7_init) := ⟨xM_X7_init, by decide +kernel, rfl, rfl, q613, Or.inl q612⟩
theorem xZ_ok_8_216 : XZok 8 216 2 (some mX18_init) := ⟨xM_X18_init, by decide +kernel, rfl, rfl, q876, Or.inl q875⟩
theorem xZ_ok_8_226 : XZok 8 226 3 (some mX17_init) := ⟨xM_X17_init, by decide +kernel, rfl, rfl, q859, Or.inl q858⟩
theorem xZ_ok_8_244 : XZok 8 244 1 (some mX9_init) := ⟨xM_X9_init, by decide +kernel, rfl, rfl, q780, Or.inl q779⟩
theorem xZ_ok_8_249 : XZok 8 249 1 (some mX10_init) := ⟨xM_X10_init, by decide +kernel, rfl, rfl, q793, Or.inl q792⟩
theorem xZ_ok_8_254 : XZok 8 254 0 (some mX12_init) := ⟨xM_X12_init, by decide +kernel, rfl, rfl, q804, Or.inr ⟨"FootOut", List.mem_of_getElem? (i := 87) rfl⟩⟩
theorem xZ_ok_8_259 : XZok 8 259 0 (some mX13_init) := ⟨xM_X13_init, by decide +kernel, rfl, rfl, q815, Or.inr ⟨"FootOut", List.mem_of_getElem? (i := 88) rfl⟩⟩
theorem xZ_ok_8_264 : XZok 8 264 0 (some mX14_init) := ⟨xM_X14_init, by decide +kernel, rfl, rfl, q823, Or.inr ⟨"FootOut", List.mem_of_getElem? (i := 89) rfl⟩⟩
theorem xZ_ok_8_268 : XZok 8 268 0 (some mX15_init) := ⟨xM_X15_init, by decide +kernel, rfl, rfl, q831, Or.inr ⟨"FootOut", List.mem_of_getElem? (i := 90) rfl⟩⟩
theorem xZ_ok_8_279 : XZok 8 279 2 (some mX16_init) := ⟨xM_X16_init, by decide +kernel, rfl, rfl, q845, Or.inl q844⟩
theorem xZ_ok_9_1 : XZok 9 1 0 none := q615
theorem xZ_ok_10_1 : XZok 10 1 0 (some mX8_init) := ⟨xM_X8_init, by decide +kernel, rfl, rfl, q783, Or.inr ⟨"FootOut", List.mem_of_getElem? (i := 81) rfl⟩⟩
theorem xZ_ok_11_1 : XZok 11 1 0 (some mX8_init) := ⟨xM_X8_init, by decide +kernel, rfl, rfl, q783, Or.inr ⟨"FootOut", List.mem_of_getElem? (i := 94) rfl⟩⟩
theorem xZ_ok_12_3 : XZok 12 3 0 (some mX11_init) := ⟨xM_X11_init, by decide +kernel, rfl, rfl, q807, Or.inr ⟨"FootOut", List.mem_of_getElem? (i := 78) rfl⟩⟩
theorem xZ_ok_13_3 : XZok 13 3 0 (some mX11_init) := ⟨xM_X11_init, by decide +kernel, rfl, rfl, q807, Or.inr ⟨"FootOut", List.mem_of_getElem? (i := 79) rfl⟩⟩
theorem xZ_ok_14_3 : XZok 14 3 0 (some mX11_init) := ⟨xM_X11_init, by decide +kernel, rfl, rfl, q807, Or.inr ⟨"FootOut", List.mem_of_getElem? (i := 84) rfl⟩⟩
theorem xZ_ok_15_1 : XZok 15 1 0 (some mX8_init) := ⟨xM_X8_init, by decide +kernel, rfl, rfl, q783, Or.inr ⟨"FootOut", List.mem_of_getElem? (i := 82) rfl⟩⟩
theorem xZ_ok_16_1 : XZok 16 1 0 (some mX8_init) := ⟨xM_X8_init, by decide +kernel, rfl, rfl, q783, Or.inr ⟨"FootOut", List.mem_of_getElem? (i := 83) rfl⟩⟩
theorem xZ_ok_17_1 : XZok 17 1 0 (some mX8_init) := ⟨xM_X8_init, by decide +kernel, rfl, rfl, q783, Or.inr ⟨"FootOut", List.mem_of_getElem? (i := 80) rfl⟩⟩
theorem xZ_ok_18_1 : XZok 18 1 0 none := q878
theorem xZ_ok_19_1 : XZok 19 1 0 none := q1203
theorem xZ_ok_19_27 : XZok 19 27 5 (some mX19_init) := ⟨xM_X19_init, by decide +kernel, rfl, rfl, q1201, Or.inl q1598⟩
theorem xZ_ok_20_1 : XZok 20 1 0 none := q785
theorem xZ_ok_21_1 : XZok 21 1 0 (some mX8_init) := ⟨xM_X8_init, by decide +kernel, rfl, rfl, q783, Or.inr ⟨"FootOut", List.mem_of_getElem? (i := 92) rfl⟩⟩
theorem xZ_ok_22_1 : XZok 22 1 0 none := q195
theorem xZ_ok_23_1 : XZok 23 1 0 (some mJ0_init) := ⟨xM_J0_init, by decide +kernel, rfl, rfl, q193, Or.inl q192⟩
theorem xZ_ok_0 : ∀ e ∈ xZ_0, XZok 0 e.1 e.2.1 e.2.2 := List.forall_mem_cons.mpr ⟨xZ_ok_0_9, List.forall_mem_cons.mpr ⟨xZ_ok_0_12, fun _ h => absurd h List.not_mem_nil⟩⟩
theorem xZ_ok_1 : ∀ e ∈ xZ_1, XZok 1 e.1 e.2.1 e.2.2 := List.forall_mem_cons.mpr ⟨xZ_ok_1_1, List.forall_mem_cons.mpr ⟨xZ_ok_1_9, List.forall_mem_cons.mpr ⟨xZ_ok_1_34, List.forall_mem_cons.mpr ⟨xZ_ok_1_65, List.forall_mem_cons.mpr ⟨xZ_ok_1_87, List.forall_mem_cons.mpr ⟨xZ_ok_1_302, List.forall_mem_cons.mpr ⟨xZ_ok_1_335, fun _ h => absurd h List.not_mem_nil⟩⟩⟩⟩⟩⟩⟩
theorem xZ_ok_2 : ∀ e ∈ xZ_2, XZok 2 e.1 e.2.1 e.2.2 := List.forall_mem_cons.mpr ⟨xZ_ok_2_3, List.forall_mem_cons.mpr ⟨xZ_ok_2_11, List.forall_mem_cons.mpr ⟨xZ_ok_2_20, List.forall_mem_cons.mpr ⟨xZ_ok_2_40, fun _ h => absurd h List.not_mem_nil⟩⟩⟩⟩
theorem xZ_ok_3 : ∀ e ∈ xZ_3, XZok 3 e.1 e.2.1 e.2.2 := List.forall_mem_cons.mpr ⟨xZ_ok_3_3, List.forall_mem_cons.mpr ⟨xZ_ok_3_11, List.forall_mem_cons.mpr ⟨xZ_ok_3_33, fun _ h => absurd h List.not_mem_nil⟩⟩⟩
theorem xZ_ok_4 : ∀ e ∈ xZ_4, XZok 4 e.1 e.2.1 e.2.2 := List.forall_mem_cons.mpr ⟨xZ_ok_4_1, fun _ h => absurd h List.not_mem_nil⟩
theorem xZ_ok_5 : ∀ e ∈ xZ_5, XZok 5 e.1 e.2.1 e.2.2 := List.forall_mem_cons.mpr ⟨xZ_ok_5_3, fun _ h => absurd h List.not_mem_nil⟩
theorem xZ_ok_6 : ∀ e ∈ xZ_6, XZok 6 e.1 e.2.1 e.2.2 := List.forall_mem_cons.mpr ⟨xZ_ok_6_1, fun _ h => absurd h List.not_mem_nil⟩
theorem xZ_ok_7 : ∀ e ∈ xZ_7, XZok 7 e.1 e.2.1 e.2.2 := List.forall_mem_cons.mpr ⟨xZ_ok_7_11, fun _ h => absurd h List.not_mem_nil⟩
theorem xZ_ok_8 : ∀ e ∈ xZ_8, XZok 8 e.1 e.2.1 e.2.2 := List.forall_mem_cons.mpr ⟨xZ_ok_8_9, List.forall_mem_cons.mpr ⟨xZ_ok_8_17, List.forall_mem_cons.mpr ⟨xZ_ok_8_24, List.forall_mem_cons.mpr ⟨xZ_ok_8_199, List.forall_mem_cons.mpr ⟨xZ_ok_8_216, List.forall_mem_cons.mpr ⟨xZ_ok_8_226, List.forall_mem_cons.mpr ⟨xZ_ok_8_244, List.forall_mem_cons.mpr ⟨xZ_ok_8_249, List.forall_mem_cons.mpr ⟨xZ_ok_8_254, List.forall_mem_cons.mpr ⟨xZ_ok_8_259, List.forall_mem_cons.mpr ⟨xZ_ok_8_264, List.forall_mem_cons.mpr ⟨xZ_ok_8_268, List.forall_mem_cons.mpr ⟨xZ_ok_8_279, fun _ h => absurd h List.not_mem_nil⟩⟩⟩⟩⟩⟩⟩⟩⟩⟩⟩⟩⟩
theorem xZ_ok_9 : ∀ e ∈ xZ_9, XZok 9 e.1 e.2.1 e.2.2 := List.forall_mem_cons.mpr ⟨xZ_ok_9_1, fun _ h => absurd h List.not_mem_nil⟩
theorem xZ_ok_10 : ∀ e ∈ xZ_10, XZok 10 e.1 e.2.1 e.2.2 := List.forall_mem_cons.mpr ⟨xZ_ok_10_1, fun _ h => absurd h List.not_mem_nil⟩
theorem xZ_ok_11 : ∀ e ∈ xZ_11, XZok 11 e.1 e.2.1 e.2.2 := List.forall_mem_cons.mpr ⟨xZ_ok_11_1, fun _ h => absurd h List.not_mem_nil⟩
theorem xZ_ok_12 : ∀ e ∈ xZ_12, XZok 12 e.1 e.2.1 e.2.2 := List.forall_mem_cons.mpr ⟨xZ_ok_12_3, fun _ h => absurd h List.not_mem_nil⟩
theorem xZ_ok_13 : ∀ e ∈ xZ_13, XZok 13 e.1 e.2.1 e.2.2 := List.forall_mem_cons.mpr ⟨xZ_ok_13_3, fun _ h => absurd h List.not_mem_nil⟩
theorem xZ_ok_14 : ∀ e ∈ xZ_14, XZok 14 e.1 e.2.1 e.2.2 := List.forall_mem_cons.mpr ⟨xZ_ok_14_3, fun _ h => absurd h List.not_mem_nil⟩
theorem xZ_ok_15 : ∀ e ∈ xZ_15, XZok 15 e.1 e.2.1 e.2.2 := List.forall_mem_cons.mpr ⟨xZ_ok_15_1, fun _ h => absurd h List.not_mem_nil⟩
theorem xZ_ok_16 : ∀ e ∈ xZ_16, XZok 16 e.1 e.2.1 e.2.2 := List.forall_mem_cons.mpr ⟨xZ_ok_16_1, fun _ h => absurd h List.not_mem_nil⟩
theorem xZ_ok_17 : ∀ e ∈ xZ_17, XZok 17 e.1 e.2.1 e.2.2 := List.forall_mem_cons.mpr ⟨xZ_ok_17_1, fun _ h => absurd h List.not_mem_nil⟩
theorem xZ_ok_18 : ∀ e ∈ xZ_18, XZok 18 e.1 e.2.1 e.2.2 := List.forall_mem_cons.mpr ⟨xZ_ok_18_1, fun _ h => absurd h List.not_mem_nil⟩
theorem xZ_ok_19 : ∀ e ∈ xZ_19, XZok 19 e.1 e.2.1 e.2.2 := List.forall_mem_cons.mpr ⟨xZ_ok_19_1, List.forall_mem_cons.mpr ⟨xZ_ok_19_27, fun _ h => absurd h List.not_mem_nil⟩⟩
theorem xZ_ok_20 : ∀ e ∈ xZ_20, XZok 20 e.1 e.2.1 e.2.2 := List.forall_mem_cons.mpr ⟨xZ_ok_20_1, fun _ h => absurd h List.not_mem_nil⟩
theorem xZ_ok_21 : ∀ e ∈ xZ_21, XZok 21 e.1 e.2.1 e.2.2 := List.forall_mem_cons.mpr ⟨xZ_ok_21_1, fun _ h => absurd h List.not_mem_nil⟩
theorem xZ_ok_22 : ∀ e ∈ xZ_22, XZok 22 e.1 e.2.1 e.2.2 := List.forall_mem_cons.mpr ⟨xZ_ok_22_1, fun _ h => absurd h List.not_mem_nil⟩
theorem xZ_ok_23 : ∀ e ∈ xZ_23, XZok 23 e.1 e.2.1 e.2.2 := List.forall_mem_cons.mpr ⟨xZ_ok_23_1, fun _ h => absurd h List.not_mem_nil⟩
theorem xZ_ok : ∀ own k na t, xZ own k = some (na, t) → XZok own k na t := by
  intro own k na t h
  unfold xZ at h
  split at h
  · exact xZ_ok_0 _ (xlk_mem h)
  · exact xZ_ok_1 _ (xlk_mem h)
  · exact xZ_ok_2 _ (xlk_mem h)
  · exact xZ_ok_3 _ (xlk_mem h)
  · exact xZ_ok_4 _ (xlk_mem h)
  · exact xZ_ok_5 _ (xlk_mem h)
  · exact xZ_ok_6 _ (xlk_mem h)
  · exact xZ_ok_7 _ (xlk_mem h)
  · exact xZ_ok_8 _ (xlk_mem h)
  · exact xZ_ok_9 _ (xlk_mem h)
  · exact xZ_ok_10 _ (xlk_mem h)
  · exact xZ_ok_11 _ (xlk_mem h)
  · exact xZ_ok_12 _ (xlk_mem h)
  · exact xZ_ok_13 _ (xlk_mem h)
  · exact xZ_ok_14 _ (xlk_mem h)
  · exact xZ_ok_15 _ (xlk_mem h)
  · exact xZ_ok_16 _ (xlk_mem h)
  · exact xZ_ok_17 _ (xlk_mem h)
  · exact xZ_ok_18 _ (xlk_mem h)
  · exact xZ_ok_19 _ (xlk_mem h)
  · exact xZ_ok_20 _ (xlk_mem h)
  · exact xZ_ok_21 _ (xlk_mem h)
  · exact xZ_ok_22 _ (xlk_mem h)
  · exact xZ_ok_23 _ (xlk_mem h)
  · cases h
