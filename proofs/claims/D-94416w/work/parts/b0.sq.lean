/-! SINGLE STEPS: members of java/lang/String -/
def nPc (D : va_G) (G : Nat → ClassId) (Hb : Heap) (h0 : xH) (b0 β : Nat → Nat) (h : xH) (as : List Value) : Array Value → State → Prop := va_Pc as (fun U => xWd D G Hb h0 b0 β h U.heap ∧ va_S (fun q => Hb.size ≤ q) Hb U.heap [] ∧ xKs D G Hb h0 b0 U)
def nPe (D : va_G) (G : Nat → ClassId) (Hb : Heap) (h0 : xH) (b0 β : Nat → Nat) (h : xH) (as : List Value) (E : State → Prop) : Array Value → State → Prop := va_Pc as (fun U => (xWd D G Hb h0 b0 β h U.heap ∧ va_S (fun q => Hb.size ≤ q) Hb U.heap [] ∧ xKs D G Hb h0 b0 U) ∧ E U)
def nQc (D : va_G) (G : Nat → ClassId) (Hb : Heap) (h0 : xH) (b0 β : Nat → Nat) (h : xH) (v : Option Value) : Array Value → State → Outcome → State → Prop := fun _ _ oc t => oc = .returned v ∧ xWd D G Hb h0 b0 β h t.heap ∧ va_S (fun q => Hb.size ≤ q) Hb t.heap []
section
variable {p : Program} {l : Launch} {e : Env} {R : Room} {s : State} {m : MethodId} {args : Array Value} {below : List Frame} {meth : Method} {c : Code} {H : Heap} {locs : List Loc} {cells slots : Nat} {Q : State → Prop} {cc : ByteArray} {pc : Nat} {ls : Array Slot} {rest st0 : List Value} {A : Nat → Prop}
variable {D : va_G} {G : Nat → ClassId} {Hb : Heap} {h0 h : xH} {b0 β : Nat → Nat}
theorem n_getf (hexec : p.tables.exec = Jvm.exec) (hb : c.code = cc) {o n d own ref : String} {index q : Nat} {v : Value} (hE : va_OF o n d v q A s H) (hown : s.vm.findClass own = some m.cls) (hlink : (Cond.fieldLink own index ref n d).before args s = true) (hsame : ∀ x, s.fieldFound? o n d = some x → s.fieldFound? ref n d = some x) (hdg : decode cc pc = .ok (.getfield index, 3))
    (kk : W p l e R s m args below meth c H locs cells slots Q (F0 m (pc + 3) ls (v :: rest))) : W p l e R s m args below meth c H locs cells slots Q (F0 m pc ls (.ref q :: rest)) := by
  obtain ⟨cf, k, fi, f, cell, h1, h2, h3, h4, h5, h6⟩ := hE
  exact W.getf hexec hb hown hlink (hsame _ h1) h2 h3 h4 (v := v) h5 rfl rfl hdg kk
theorem n_gets (hexec : p.tables.exec = Jvm.exec) (hb : c.code = cc) {C n d own ref : String} {v : Value} {index : Nat} (hZ : va_Z C n d v A s H) (hown : s.vm.findClass own = some m.cls) (hlink : (Cond.fieldLink own index ref n d).before args s = true) (hsame : ∀ x, s.fieldFound? C n d = some x → s.fieldFound? ref n d = some x) (hdg : decode cc pc = .ok (.getstatic index, 3))
    (kk : W p l e R s m args below meth c H locs cells slots Q (F0 m (pc + 3) ls (v :: rest))) : W p l e R s m args below meth c H locs cells slots Q (F0 m pc ls rest) := by
  obtain ⟨cf, kf, fi, f, a, cell, h1, h2, h3, h4, h5, h6, h7, h8⟩ := hZ
  exact W.gets hexec hb hown hlink (hsame _ h1) h2 h3 h4 h5 (fun e => by rw [e] at h6; cases h6) h7 rfl hdg kk
theorem n_len (hexec : p.tables.exec = Jvm.exec) (hb : c.code = cc) {ty : FieldType} {t N : Nat} {f : Nat → Value} (hT : va_T ty t N f A s H) (hdg : decode cc pc = .ok (.arraylength, 1))
    (kk : W p l e R s m args below meth c H locs cells slots Q (F0 m (pc + 1) ls (.int (nI N) :: rest))) : W p l e R s m args below meth c H locs cells slots Q (F0 m pc ls (.ref t :: rest)) := by
  obtain ⟨cell, h1, h2, h3, h4, h5, h6, h7⟩ := hT
  exact W.alen (n := Int32.ofNat N) hexec hb h1 h2 h5 rfl rfl hdg kk
theorem n_bald (hexec : p.tables.exec = Jvm.exec) (hb : c.code = cc) {t N : Nat} {f : Nat → Value} (hT : va_T .byte t N f A s H) {i : Int32} (hin : vp_in i N) {v : Value} (hv : f i.toNatClampNeg = v) (hdg : decode cc pc = .ok (.baload, 1))
    (kk : W p l e R s m args below meth c H locs cells slots Q (F0 m (pc + 1) ls (v :: rest))) : W p l e R s m args below meth c H locs cells slots Q (F0 m pc ls (.int i :: .ref t :: rest)) := by
  obtain ⟨cell, h1, h2, h3, h4, h5, h6, h7⟩ := hT
  have hlt : i.toNatClampNeg < N := Nat.not_le.mp fun q => hin (Or.inr q)
  have hin' : ¬ (i < 0 ∨ cell.slots.size ≤ i.toNatClampNeg) := by
    intro q
    rcases q with q | q
    · exact hin (Or.inl q)
    · omega
  exact W.bald (v := v) hexec hb h1 h2 h3 hin' (by rw [h6 _ hlt, hv]) rfl rfl hdg kk
/-- behind a call that leaves the world as it is -/
theorem n_callW {v : Option Value} {a : Array Value} (hr : va_Run p l e R s m args below meth c H locs cells slots 0 0 (F0 m pc ls st0) rest (nQc D G Hb h0 b0 β h v a) (fun q => Hb.size ≤ q)) (hS : va_S (fun q => Hb.size ≤ q) Hb H locs)
    (kk : ∀ (H1 : Heap) (locs1 : List Loc), xWd D G Hb h0 b0 β h H1 → va_S (fun q => Hb.size ≤ q) Hb H1 locs1 → W p l e R s m args below meth c H1 locs1 cells slots Q (F0 m (pc + 3) ls (v.toList ++ rest))) : W p l e R s m args below meth c H locs cells slots Q (F0 m pc ls st0) := by
  intro T hT X
  obtain ⟨v, st₀, t, T', L, h0', X', hL, e1, e2, ⟨hv, hw, hS1⟩, st⟩ := hr T hT X
  cases hv
  obtain ⟨t2, a1, b1⟩ := kk T'.heap (locs ++ L) (by rw [e1]; exact hw) ⟨by rw [e1]; exact hS1.1, fun z h1 h2 => by rw [e1]; exact hS1.2.1 z h1 h2, fun z hz => by
    rcases List.mem_append.mp hz with h | h
    · exact hS.2.2 z h
    · exact hL z h⟩ T' rfl X'
  exact ⟨t2, st t2 a1, b1⟩
theorem n_blind {as : List Value} : FrameBlind (nPc D G Hb h0 b0 β h as) := fun a U g mk q => by
  obtain ⟨q0, q1, q2, q3⟩ := q
  exact ⟨q0, q1, q2, xKs.same (u := U) (U := U.calling g mk a) rfl q3⟩
theorem n_at {as : List Value} (hK : xKs D G Hb h0 b0 s) (hw : xWd D G Hb h0 b0 β h H) (hS : va_S (fun q => Hb.size ≤ q) Hb H locs) : ∀ U : State, U.heap = H → s.WarmedH U.vm → nPc D G Hb h0 b0 β h as as.toArray U := fun U hU hW => ⟨rfl, by rw [hU]; exact hw, by rw [hU]; exact ⟨hS.1, hS.2.1, fun _ h => by cases h⟩, hK.warm hW⟩
theorem n_blindT {as : List Value} {t N : Nat} {f : Nat → Value} : FrameBlind (nPe D G Hb h0 b0 β h as (fun U => va_T .byte t N f A U Hb)) := fun a U g mk q => by
  obtain ⟨q0, ⟨q1, q2, q3⟩, q4⟩ := q
  exact ⟨q0, ⟨q1, q2, xKs.same (u := U) (U := U.calling g mk a) rfl q3⟩, va_T.moved (u := U) (U := U.calling g mk a) (Vm.Alike.refl U.vm) q4⟩
theorem n_atT {as : List Value} {t N : Nat} {f : Nat → Value} (hT : va_T .byte t N f A s Hb) (hK : xKs D G Hb h0 b0 s) (hw : xWd D G Hb h0 b0 β h H) (hS : va_S (fun q => Hb.size ≤ q) Hb H locs) : ∀ U : State, U.heap = H → s.WarmedH U.vm → nPe D G Hb h0 b0 β h as (fun U => va_T .byte t N f A U Hb) as.toArray U := fun U hU hW => ⟨rfl, ⟨by rw [hU]; exact hw, by rw [hU]; exact ⟨hS.1, hS.2.1, fun _ h => by cases h⟩, hK.warm hW⟩, va_T.moved hW.alike hT⟩
theorem n_recv {a : Nat} (hK : xKs D G Hb h0 b0 s) (hS : va_S (fun q => Hb.size ≤ q) Hb H locs) (ha : 1 ≤ a) (ha2 : a ≤ 30) : ∃ cell : Cell, H[b0 a]? = some cell ∧ cell.vm.isStatics = false ∧ s.vm.findClass "java/lang/String" = some cell.cls := by
  obtain ⟨adV, hst, -⟩ := hK.2.2.2.2.2.2.2.2
  obtain ⟨cell, h1, h2, h3, -⟩ := (hst a ha ha2).1.kept hS.2.1
  exact ⟨cell, h1, h2, h3⟩
theorem xt_lt : ∀ i, i ≤ 30 → ∀ j, j < (xtxt.getD i []).length → (xtxt.getD i []).getD j 0 < 128 := by decide +kernel
theorem xt_len : ∀ i, i ≤ 30 → (xtxt.getD i []).length < 400 := by decide +kernel
theorem chr_c : ∀ c, c < 128 → ((nI c &&& nI 255).toUInt32 % 65536).toInt32 = nI c ∧ narrow .char (.int (nI c)) = .int (nI c) := by decide +kernel
theorem nm_coder {a : Nat} (ha : 1 ≤ a) (ha2 : a ≤ 30) : Met l yJ3_coder (ws_ yJ3_coder cJ3_coder 1 (some .byte)) { frames := 1, cells := 0, slots := 0, locals := 40 } (nPc D G Hb h0 b0 β h [.ref (b0 a)]) (nQc D G Hb h0 b0 β h (some (.int 0))) 0 0 (fun q => Hb.size ≤ q) := by
  refine Met.ofW (cc := cJ3_coder) (maxL := 1) (ret := (some .byte)) (by decide) rfl ?_
  intro p e s m args below meth c s₁ B hml hv
  obtain ⟨rfl, hw, hS, hK⟩ := hv
  have hx := B.exec
  have hb := B.bytes
  have hr := B.returns
  have hlk := B.notSynchronized
  have hts := atoms_spec (ws := ws_ yJ3_coder cJ3_coder 1 (some .byte)) B.pre
  have hts : ∀ w ∈ lw_all, w.before _ s = true := fun w h => hts w (List.mem_cons_of_mem _ h)
  have hown : s.vm.findClass "java/lang/String" = some m.cls := findClass_of_methodNamed B.named
  have hl := lv_entry ([.ref (b0 a)]) (n := 1) (Nat.le_of_ble_eq_true rfl)
  rw [lg_entry_eq]
  generalize (lg_sl ([.ref (b0 a)]) ++ List.replicate (1 - (lg_sl ([.ref (b0 a)])).length) Slot.unset).toArray = ls at hl ⊢
  have hl : lv_has ls 1 [(0, .ref (b0 a))] := hl
  have hQ : ∀ (H : Heap) (locs : List Loc), xWd D G Hb h0 b0 β h H → va_S (fun q => Hb.size ≤ q) Hb H locs → ∀ t : State, t.heap = H → nQc D G Hb h0 b0 β h (some (.int 0)) ([.ref (b0 a)]).toArray s (.returned (some (.int 0))) t := fun H locs hw hS t ht => ⟨rfl, by rw [ht]; exact hw, by rw [ht]; exact ⟨hS.1, hS.2.1, fun _ h => by cases h⟩⟩
  obtain ⟨adV, hst, hcs, hsf, -⟩ := hK.2.2.2.2.2.2.2.2
  refine n_gets hx hb (hcs.kept hS.2.1) hown (hts _ q539) (fun _ h => h) dJ3_coder_0 ?_
  refine lv_if_eq (tgt := 13) hx hb dJ3_coder_3 (by decide) (fun c => absurd c (by decide)) (fun _ => ?_)
  refine lv_aload_n hx hb dJ3_coder_6 rfl (lv_at hl 0 rfl) ?_
  refine n_getf hx hb ((hst a ha ha2).2.1.kept hS.2.1) hown (hts _ q2243) (fun _ h => h) dJ3_coder_7 ?_
  refine lv_goto (tgt := 14) hx hb dJ3_coder_10 (by decide) ?_
  exact W.zret (ty := .byte) hx hb hr (by decide) (fun t ht _ => hQ _ _ hw hS t ht) hS.2.2 dJ3_coder_14 hlk
theorem nm_length {a : Nat} (ha : 1 ≤ a) (ha2 : a ≤ 30) : Met l yJ3_length (ws_ yJ3_length cJ3_length 1 (some .int)) { frames := 2, cells := 0, slots := 0, locals := 100 } (nPc D G Hb h0 b0 β h [.ref (b0 a)]) (nQc D G Hb h0 b0 β h (some (.int (nI (xtxt.getD a []).length)))) 0 0 (fun q => Hb.size ≤ q) := by
  refine Met.ofW (cc := cJ3_length) (maxL := 1) (ret := (some .int)) (by decide) rfl ?_
  intro p e s m args below meth c s₁ B hml hv
  obtain ⟨rfl, hw, hS, hK⟩ := hv
  have hx := B.exec
  have hb := B.bytes
  have hr := B.returns
  have hlk := B.notSynchronized
  have hts := atoms_spec (ws := ws_ yJ3_length cJ3_length 1 (some .int)) B.pre
  have hts : ∀ w ∈ lw_all, w.before _ s = true := fun w h => hts w (List.mem_cons_of_mem _ h)
  have hown : s.vm.findClass "java/lang/String" = some m.cls := findClass_of_methodNamed B.named
  have hl := lv_entry ([.ref (b0 a)]) (n := 1) (Nat.le_of_ble_eq_true rfl)
  rw [lg_entry_eq]
  generalize (lg_sl ([.ref (b0 a)]) ++ List.replicate (1 - (lg_sl ([.ref (b0 a)])).length) Slot.unset).toArray = ls at hl ⊢
  have hl : lv_has ls 1 [(0, .ref (b0 a))] := hl
  have hQ : ∀ (H : Heap) (locs : List Loc), xWd D G Hb h0 b0 β h H → va_S (fun q => Hb.size ≤ q) Hb H locs → ∀ t : State, t.heap = H → nQc D G Hb h0 b0 β h (some (.int (nI (xtxt.getD a []).length))) ([.ref (b0 a)]).toArray s (.returned (some (.int (nI (xtxt.getD a []).length)))) t := fun H locs hw hS t ht => ⟨rfl, by rw [ht]; exact hw, by rw [ht]; exact ⟨hS.1, hS.2.1, fun _ h => by cases h⟩⟩
  obtain ⟨adV, hst, hcs, hsf, -⟩ := hK.2.2.2.2.2.2.2.2
  refine lv_aload_n hx hb dJ3_length_0 rfl (lv_at hl 0 rfl) ?_
  refine n_getf hx hb ((hst a ha ha2).2.2.1.kept hS.2.1) hown (hts _ q2242) (fun _ h => h) dJ3_length_1 ?_
  refine n_len hx hb ((hst a ha ha2).2.2.2.kept hS.2.1) dJ3_length_4 ?_
  refine lv_aload_n hx hb dJ3_length_5 rfl (lv_at hl 0 rfl) ?_
  refine n_callW (va_runV (As := []) (rest := [.int (nI (xtxt.getD a []).length)]) ⟨hx, hb, hml, hown, hts⟩ (nm_coder (D := D) (G := G) (h0 := h0) (β := β) (h := h) ha ha2) (cwV 0 hts (lw_V q535 q536 q537 q134 q538) rfl rfl rfl (by decide +kernel) ⟨Nat.le_of_ble_eq_true rfl, Nat.le_of_ble_eq_true rfl⟩) ⟨n_blind, n_recv hK hS ha ha2, n_at hK hw hS⟩ rfl rfl hl.1 rfl (lv_room (Nat.le_of_ble_eq_true rfl)) dJ3_length_6 ⟨Nat.le_refl _, Nat.le_refl _⟩) hS (fun H1 locs1 hw hS => ?_)
  refine lv_ishr hx hb dJ3_length_9 ?_
  have e : nI (xtxt.getD a []).length >>> ((0 : Int32) &&& 31) = nI (xtxt.getD a []).length := by
    have : ((0 : Int32) &&& 31) = 0 := by decide
    rw [this]
    exact Int32.shiftRight_zero
  rw [e]
  exact W.zret (ty := .int) hx hb hr rfl (fun t ht _ => hQ _ _ hw hS t ht) hS.2.2 dJ3_length_10 hlk
theorem nm_latin {a : Nat} (ha : 1 ≤ a) (ha2 : a ≤ 30) : Met l yJ3_isLatin1 (ws_ yJ3_isLatin1 cJ3_isLatin1 1 (some .boolean)) { frames := 1, cells := 0, slots := 0, locals := 40 } (nPc D G Hb h0 b0 β h [.ref (b0 a)]) (nQc D G Hb h0 b0 β h (some (.int 1))) 0 0 (fun q => Hb.size ≤ q) := by
  refine Met.ofW (cc := cJ3_isLatin1) (maxL := 1) (ret := (some .boolean)) (by decide) rfl ?_
  intro p e s m args below meth c s₁ B hml hv
  obtain ⟨rfl, hw, hS, hK⟩ := hv
  have hx := B.exec
  have hb := B.bytes
  have hr := B.returns
  have hlk := B.notSynchronized
  have hts := atoms_spec (ws := ws_ yJ3_isLatin1 cJ3_isLatin1 1 (some .boolean)) B.pre
  have hts : ∀ w ∈ lw_all, w.before _ s = true := fun w h => hts w (List.mem_cons_of_mem _ h)
  have hown : s.vm.findClass "java/lang/String" = some m.cls := findClass_of_methodNamed B.named
  have hl := lv_entry ([.ref (b0 a)]) (n := 1) (Nat.le_of_ble_eq_true rfl)
  rw [lg_entry_eq]
  generalize (lg_sl ([.ref (b0 a)]) ++ List.replicate (1 - (lg_sl ([.ref (b0 a)])).length) Slot.unset).toArray = ls at hl ⊢
  have hl : lv_has ls 1 [(0, .ref (b0 a))] := hl
  have hQ : ∀ (H : Heap) (locs : List Loc), xWd D G Hb h0 b0 β h H → va_S (fun q => Hb.size ≤ q) Hb H locs → ∀ t : State, t.heap = H → nQc D G Hb h0 b0 β h (some (.int 1)) ([.ref (b0 a)]).toArray s (.returned (some (.int 1))) t := fun H locs hw hS t ht => ⟨rfl, by rw [ht]; exact hw, by rw [ht]; exact ⟨hS.1, hS.2.1, fun _ h => by cases h⟩⟩
  obtain ⟨adV, hst, hcs, hsf, -⟩ := hK.2.2.2.2.2.2.2.2
  refine n_gets hx hb (hcs.kept hS.2.1) hown (hts _ q539) (fun _ h => h) dJ3_isLatin1_0 ?_
  refine lv_if_eq (tgt := 17) hx hb dJ3_isLatin1_3 (by decide) (fun c => absurd c (by decide)) (fun _ => ?_)
  refine lv_aload_n hx hb dJ3_isLatin1_6 rfl (lv_at hl 0 rfl) ?_
  refine n_getf hx hb ((hst a ha ha2).2.1.kept hS.2.1) hown (hts _ q2243) (fun _ h => h) dJ3_isLatin1_7 ?_
  refine lv_if_ne (tgt := 17) hx hb dJ3_isLatin1_10 (by decide) (fun c => absurd rfl c) (fun _ => ?_)
  refine lv_iconst (v := 1) hx hb dJ3_isLatin1_13 (by decide) ?_
  refine lv_goto (tgt := 18) hx hb dJ3_isLatin1_14 (by decide) ?_
  exact W.zret (ty := .boolean) hx hb hr (by decide) (fun t ht _ => hQ _ _ hw hS t ht) hS.2.2 dJ3_isLatin1_18 hlk
theorem nm_chk5n {i n : Nat} (hi : i < n) (hn : n < 400) : Met l yJ5_checkIndex (ws_ yJ5_checkIndex cJ5_checkIndex 3 (some .int)) { frames := 1, cells := 0, slots := 0, locals := 40 } (nPc D G Hb h0 b0 β h [.int (nI i), .int (nI n), .null]) (nQc D G Hb h0 b0 β h (some (.int (nI i)))) 0 0 (fun q => Hb.size ≤ q) := by
  refine Met.ofW (cc := cJ5_checkIndex) (maxL := 3) (ret := (some .int)) (by decide) rfl ?_
  intro p e s m args below meth c s₁ B hml hv
  obtain ⟨rfl, hw, hS, hK⟩ := hv
  have hx := B.exec
  have hb := B.bytes
  have hr := B.returns
  have hlk := B.notSynchronized
  have hts := atoms_spec (ws := ws_ yJ5_checkIndex cJ5_checkIndex 3 (some .int)) B.pre
  have hts : ∀ w ∈ lw_all, w.before _ s = true := fun w h => hts w (List.mem_cons_of_mem _ h)
  have hown : s.vm.findClass "jdk/internal/util/Preconditions" = some m.cls := findClass_of_methodNamed B.named
  have hl := lv_entry ([.int (nI i), .int (nI n), .null]) (n := 3) (Nat.le_of_ble_eq_true rfl)
  rw [lg_entry_eq]
  generalize (lg_sl ([.int (nI i), .int (nI n), .null]) ++ List.replicate (3 - (lg_sl ([.int (nI i), .int (nI n), .null])).length) Slot.unset).toArray = ls at hl ⊢
  have hl : lv_has ls 3 [(0, .int (nI i)), (1, .int (nI n)), (2, .null)] := hl
  have hQ : ∀ (H : Heap) (locs : List Loc), xWd D G Hb h0 b0 β h H → va_S (fun q => Hb.size ≤ q) Hb H locs → ∀ t : State, t.heap = H → nQc D G Hb h0 b0 β h (some (.int (nI i))) ([.int (nI i), .int (nI n), .null]).toArray s (.returned (some (.int (nI i)))) t := fun H locs hw hS t ht => ⟨rfl, by rw [ht]; exact hw, by rw [ht]; exact ⟨hS.1, hS.2.1, fun _ h => by cases h⟩⟩
  refine lv_iload_n hx hb dJ5_checkIndex_0 rfl (lv_at hl 0 rfl) ?_
  refine lv_if_lt (tgt := 9) hx hb dJ5_checkIndex_1 (by decide) (fun c => absurd c (nI_pos (by omega))) (fun _ => ?_)
  refine lv_iload_n hx hb dJ5_checkIndex_4 rfl (lv_at hl 0 rfl) ?_
  refine lv_iload_n hx hb dJ5_checkIndex_5 rfl (lv_at hl 1 rfl) ?_
  refine lv_icmp_lt (tgt := 16) hx hb dJ5_checkIndex_6 (by decide) (fun _ => ?_) (fun c => absurd (nI_lt hi (by omega)) c)
  refine lv_iload_n hx hb dJ5_checkIndex_16 rfl (lv_at hl 0 rfl) ?_
  exact W.zret (ty := .int) hx hb hr rfl (fun t ht _ => hQ _ _ hw hS t ht) hS.2.2 dJ5_checkIndex_17 hlk
theorem nm_chk5r {i n : Nat} {q : Nat} (hi : i < n) (hn : n < 400) : Met l yJ5_checkIndex (ws_ yJ5_checkIndex cJ5_checkIndex 3 (some .int)) { frames := 1, cells := 0, slots := 0, locals := 40 } (nPc D G Hb h0 b0 β h [.int (nI i), .int (nI n), .ref q]) (nQc D G Hb h0 b0 β h (some (.int (nI i)))) 0 0 (fun q => Hb.size ≤ q) := by
  refine Met.ofW (cc := cJ5_checkIndex) (maxL := 3) (ret := (some .int)) (by decide) rfl ?_
  intro p e s m args below meth c s₁ B hml hv
  obtain ⟨rfl, hw, hS, hK⟩ := hv
  have hx := B.exec
  have hb := B.bytes
  have hr := B.returns
  have hlk := B.notSynchronized
  have hts := atoms_spec (ws := ws_ yJ5_checkIndex cJ5_checkIndex 3 (some .int)) B.pre
  have hts : ∀ w ∈ lw_all, w.before _ s = true := fun w h => hts w (List.mem_cons_of_mem _ h)
  have hown : s.vm.findClass "jdk/internal/util/Preconditions" = some m.cls := findClass_of_methodNamed B.named
  have hl := lv_entry ([.int (nI i), .int (nI n), .ref q]) (n := 3) (Nat.le_of_ble_eq_true rfl)
  rw [lg_entry_eq]
  generalize (lg_sl ([.int (nI i), .int (nI n), .ref q]) ++ List.replicate (3 - (lg_sl ([.int (nI i), .int (nI n), .ref q])).length) Slot.unset).toArray = ls at hl ⊢
  have hl : lv_has ls 3 [(0, .int (nI i)), (1, .int (nI n)), (2, .ref q)] := hl
  have hQ : ∀ (H : Heap) (locs : List Loc), xWd D G Hb h0 b0 β h H → va_S (fun q => Hb.size ≤ q) Hb H locs → ∀ t : State, t.heap = H → nQc D G Hb h0 b0 β h (some (.int (nI i))) ([.int (nI i), .int (nI n), .ref q]).toArray s (.returned (some (.int (nI i)))) t := fun H locs hw hS t ht => ⟨rfl, by rw [ht]; exact hw, by rw [ht]; exact ⟨hS.1, hS.2.1, fun _ h => by cases h⟩⟩
  refine lv_iload_n hx hb dJ5_checkIndex_0 rfl (lv_at hl 0 rfl) ?_
  refine lv_if_lt (tgt := 9) hx hb dJ5_checkIndex_1 (by decide) (fun c => absurd c (nI_pos (by omega))) (fun _ => ?_)
  refine lv_iload_n hx hb dJ5_checkIndex_4 rfl (lv_at hl 0 rfl) ?_
  refine lv_iload_n hx hb dJ5_checkIndex_5 rfl (lv_at hl 1 rfl) ?_
  refine lv_icmp_lt (tgt := 16) hx hb dJ5_checkIndex_6 (by decide) (fun _ => ?_) (fun c => absurd (nI_lt hi (by omega)) c)
  refine lv_iload_n hx hb dJ5_checkIndex_16 rfl (lv_at hl 0 rfl) ?_
  exact W.zret (ty := .int) hx hb hr rfl (fun t ht _ => hQ _ _ hw hS t ht) hS.2.2 dJ5_checkIndex_17 hlk
theorem nm_chk5 {i n : Nat} {q : Option Nat} (hi : i < n) (hn : n < 400) : Met l yJ5_checkIndex (ws_ yJ5_checkIndex cJ5_checkIndex 3 (some .int)) { frames := 1, cells := 0, slots := 0, locals := 40 } (nPc D G Hb h0 b0 β h [.int (nI i), .int (nI n), va_rf q]) (nQc D G Hb h0 b0 β h (some (.int (nI i)))) 0 0 (fun q => Hb.size ≤ q) := by
  cases q with
  | none => exact nm_chk5n hi hn
  | some t => exact nm_chk5r hi hn
theorem nm_chk3 {i n : Nat} (hi : i < n) (hn : n < 400) : Met l yJ3_checkIndex (ws_ yJ3_checkIndex cJ3_checkIndex 2 none) { frames := 2, cells := 0, slots := 0, locals := 100 } (nPc D G Hb h0 b0 β h [.int (nI i), .int (nI n)]) (nQc D G Hb h0 b0 β h (none)) 0 0 (fun q => Hb.size ≤ q) := by
  refine Met.ofW (cc := cJ3_checkIndex) (maxL := 2) (ret := none) (by decide) rfl ?_
  intro p e s m args below meth c s₁ B hml hv
  obtain ⟨rfl, hw, hS, hK⟩ := hv
  have hx := B.exec
  have hb := B.bytes
  have hr := B.returns
  have hlk := B.notSynchronized
  have hts := atoms_spec (ws := ws_ yJ3_checkIndex cJ3_checkIndex 2 none) B.pre
  have hts : ∀ w ∈ lw_all, w.before _ s = true := fun w h => hts w (List.mem_cons_of_mem _ h)
  have hown : s.vm.findClass "java/lang/String" = some m.cls := findClass_of_methodNamed B.named
  have hl := lv_entry ([.int (nI i), .int (nI n)]) (n := 2) (Nat.le_of_ble_eq_true rfl)
  rw [lg_entry_eq]
  generalize (lg_sl ([.int (nI i), .int (nI n)]) ++ List.replicate (2 - (lg_sl ([.int (nI i), .int (nI n)])).length) Slot.unset).toArray = ls at hl ⊢
  have hl : lv_has ls 2 [(0, .int (nI i)), (1, .int (nI n))] := hl
  have hQ : ∀ (H : Heap) (locs : List Loc), xWd D G Hb h0 b0 β h H → va_S (fun q => Hb.size ≤ q) Hb H locs → ∀ t : State, t.heap = H → nQc D G Hb h0 b0 β h (none) ([.int (nI i), .int (nI n)]).toArray s (.returned (none)) t := fun H locs hw hS t ht => ⟨rfl, by rw [ht]; exact hw, by rw [ht]; exact ⟨hS.1, hS.2.1, fun _ h => by cases h⟩⟩
  obtain ⟨adV, hst, hcs, hsf, -⟩ := hK.2.2.2.2.2.2.2.2
  have hsf : ∃ q : Option Nat, va_Z "jdk/internal/util/Preconditions" "SIOOBE_FORMATTER" "Ljava/util/function/BiFunction;" (va_rf q) (fun q => Hb.size ≤ q) s Hb := by
    rcases hsf with z | ⟨t, z⟩
    · exact ⟨none, z⟩
    · exact ⟨some t, z⟩
  obtain ⟨q, hsf⟩ := hsf
  refine lv_iload_n hx hb dJ3_checkIndex_0 rfl (lv_at hl 0 rfl) ?_
  refine lv_iload_n hx hb dJ3_checkIndex_1 rfl (lv_at hl 1 rfl) ?_
  refine n_gets hx hb (hsf.kept hS.2.1) hown (hts _ q555) (fun _ h => h) dJ3_checkIndex_2 ?_
  refine n_callW (va_runS (As := [.int (nI i), .int (nI n), va_rf q]) (rest := []) ⟨hx, hb, hml, hown, hts⟩ (nm_chk5 (D := D) (G := G) (h0 := h0) (β := β) (h := h) (q := q) hi hn) (va_cwS 3 hts (lw_S q557 q558 q136 q559) rfl rfl rfl (by decide +kernel) ⟨Nat.le_of_ble_eq_true rfl, Nat.le_of_ble_eq_true rfl⟩) ⟨n_blind, n_at hK hw hS⟩ rfl rfl hl.1 rfl (lv_room (Nat.le_of_ble_eq_true rfl)) dJ3_checkIndex_5 ⟨Nat.le_refl _, Nat.le_refl _⟩) hS (fun H1 locs1 hw hS => ?_)
  refine lv_pop hx hb dJ3_checkIndex_8 rfl ?_
  exact W.vret hx hb hr (fun t ht _ => hQ _ _ hw hS t ht) hS.2.2 dJ3_checkIndex_9 hlk
theorem nm_chr4 {a i v : Nat} (ha : 1 ≤ a) (ha2 : a ≤ 30) (hi : i < (xtxt.getD a []).length) : Met l yJ4_charAt (ws_ yJ4_charAt cJ4_charAt 2 (some .char)) { frames := 3, cells := 0, slots := 0, locals := 160 } (nPe D G Hb h0 b0 β h [.ref v, .int (nI i)] (fun U => va_T .byte v (xtxt.getD a []).length (fun j => .int (nI ((xtxt.getD a []).getD j 0))) (fun q => Hb.size ≤ q) U Hb)) (nQc D G Hb h0 b0 β h (some (.int (nI ((xtxt.getD a []).getD i 0))))) 0 0 (fun q => Hb.size ≤ q) := by
  refine Met.ofW (cc := cJ4_charAt) (maxL := 2) (ret := (some .char)) (by decide) rfl ?_
  intro p e s m args below meth c s₁ B hml hv
  obtain ⟨rfl, ⟨hw, hS, hK⟩, hE⟩ := hv
  have hx := B.exec
  have hb := B.bytes
  have hr := B.returns
  have hlk := B.notSynchronized
  have hts := atoms_spec (ws := ws_ yJ4_charAt cJ4_charAt 2 (some .char)) B.pre
  have hts : ∀ w ∈ lw_all, w.before _ s = true := fun w h => hts w (List.mem_cons_of_mem _ h)
  have hown : s.vm.findClass "java/lang/StringLatin1" = some m.cls := findClass_of_methodNamed B.named
  have hl := lv_entry ([.ref v, .int (nI i)]) (n := 2) (Nat.le_of_ble_eq_true rfl)
  rw [lg_entry_eq]
  generalize (lg_sl ([.ref v, .int (nI i)]) ++ List.replicate (2 - (lg_sl ([.ref v, .int (nI i)])).length) Slot.unset).toArray = ls at hl ⊢
  have hl : lv_has ls 2 [(0, .ref v), (1, .int (nI i))] := hl
  have hQ : ∀ (H : Heap) (locs : List Loc), xWd D G Hb h0 b0 β h H → va_S (fun q => Hb.size ≤ q) Hb H locs → ∀ t : State, t.heap = H → nQc D G Hb h0 b0 β h (some (.int (nI ((xtxt.getD a []).getD i 0)))) ([.ref v, .int (nI i)]).toArray s (.returned (some (.int (nI ((xtxt.getD a []).getD i 0))))) t := fun H locs hw hS t ht => ⟨rfl, by rw [ht]; exact hw, by rw [ht]; exact ⟨hS.1, hS.2.1, fun _ h => by cases h⟩⟩
  have hT := hE.kept hS.2.1
  have hn := xt_len a ha2
  have hc := chr_c _ (xt_lt a ha2 i hi)
  refine lv_iload_n hx hb dJ4_charAt_0 rfl (lv_at hl 1 rfl) ?_
  refine lv_aload_n hx hb dJ4_charAt_1 rfl (lv_at hl 0 rfl) ?_
  refine n_len hx hb hT dJ4_charAt_2 ?_
  refine n_callW (va_runS (As := [.int (nI i), .int (nI (xtxt.getD a []).length)]) (rest := []) ⟨hx, hb, hml, hown, hts⟩ (nm_chk3 (D := D) (G := G) (h0 := h0) (β := β) (h := h) hi hn) (va_cwS 2 hts (lw_S q552 q553 q134 q554) rfl rfl rfl (by decide +kernel) ⟨Nat.le_of_ble_eq_true rfl, Nat.le_of_ble_eq_true rfl⟩) ⟨n_blind, n_at hK hw hS⟩ rfl rfl hl.1 rfl (lv_room (Nat.le_of_ble_eq_true rfl)) dJ4_charAt_3 ⟨Nat.le_refl _, Nat.le_refl _⟩) hS (fun H1 locs1 hw hS => ?_)
  have hT := hE.kept hS.2.1
  refine lv_aload_n hx hb dJ4_charAt_6 rfl (lv_at hl 0 rfl) ?_
  refine lv_iload_n hx hb dJ4_charAt_7 rfl (lv_at hl 1 rfl) ?_
  refine n_bald hx hb hT (v := .int (nI ((xtxt.getD a []).getD i 0))) (nI_in hi (by omega)) (by show Value.int _ = _; rw [nI_clamp (by omega)]) dJ4_charAt_8 ?_
  refine lv_sipush (v := nI 255) hx hb dJ4_charAt_9 (by decide) ?_
  refine lv_iand hx hb dJ4_charAt_12 ?_
  refine lv_i2c (v := nI ((xtxt.getD a []).getD i 0)) hx hb dJ4_charAt_13 hc.1 ?_
  exact W.zret (ty := .char) hx hb hr hc.2 (fun t ht _ => hQ _ _ hw hS t ht) hS.2.2 dJ4_charAt_14 hlk
theorem nm_charAt {a i : Nat} (ha : 1 ≤ a) (ha2 : a ≤ 30) (hi : i < (xtxt.getD a []).length) : Met l yJ3_charAt (ws_ yJ3_charAt cJ3_charAt 2 (some .char)) { frames := 4, cells := 0, slots := 0, locals := 240 } (nPc D G Hb h0 b0 β h [.ref (b0 a), .int (nI i)]) (nQc D G Hb h0 b0 β h (some (.int (nI ((xtxt.getD a []).getD i 0))))) 0 0 (fun q => Hb.size ≤ q) := by
  refine Met.ofW (cc := cJ3_charAt) (maxL := 2) (ret := (some .char)) (by decide) rfl ?_
  intro p e s m args below meth c s₁ B hml hv
  obtain ⟨rfl, hw, hS, hK⟩ := hv
  have hx := B.exec
  have hb := B.bytes
  have hr := B.returns
  have hlk := B.notSynchronized
  have hts := atoms_spec (ws := ws_ yJ3_charAt cJ3_charAt 2 (some .char)) B.pre
  have hts : ∀ w ∈ lw_all, w.before _ s = true := fun w h => hts w (List.mem_cons_of_mem _ h)
  have hown : s.vm.findClass "java/lang/String" = some m.cls := findClass_of_methodNamed B.named
  have hl := lv_entry ([.ref (b0 a), .int (nI i)]) (n := 2) (Nat.le_of_ble_eq_true rfl)
  rw [lg_entry_eq]
  generalize (lg_sl ([.ref (b0 a), .int (nI i)]) ++ List.replicate (2 - (lg_sl ([.ref (b0 a), .int (nI i)])).length) Slot.unset).toArray = ls at hl ⊢
  have hl : lv_has ls 2 [(0, .ref (b0 a)), (1, .int (nI i))] := hl
  have hQ : ∀ (H : Heap) (locs : List Loc), xWd D G Hb h0 b0 β h H → va_S (fun q => Hb.size ≤ q) Hb H locs → ∀ t : State, t.heap = H → nQc D G Hb h0 b0 β h (some (.int (nI ((xtxt.getD a []).getD i 0)))) ([.ref (b0 a), .int (nI i)]).toArray s (.returned (some (.int (nI ((xtxt.getD a []).getD i 0))))) t := fun H locs hw hS t ht => ⟨rfl, by rw [ht]; exact hw, by rw [ht]; exact ⟨hS.1, hS.2.1, fun _ h => by cases h⟩⟩
  obtain ⟨adV, hst, hcs, hsf, -⟩ := hK.2.2.2.2.2.2.2.2
  have hc := chr_c _ (xt_lt a ha2 i hi)
  refine lv_aload_n hx hb dJ3_charAt_0 rfl (lv_at hl 0 rfl) ?_
  refine n_callW (va_runV (As := []) (rest := []) ⟨hx, hb, hml, hown, hts⟩ (nm_latin (D := D) (G := G) (h0 := h0) (β := β) (h := h) ha ha2) (cwV 0 hts (lw_V q545 q546 q547 q134 q548) rfl rfl rfl (by decide +kernel) ⟨Nat.le_of_ble_eq_true rfl, Nat.le_of_ble_eq_true rfl⟩) ⟨n_blind, n_recv hK hS ha ha2, n_at hK hw hS⟩ rfl rfl hl.1 rfl (lv_room (Nat.le_of_ble_eq_true rfl)) dJ3_charAt_1 ⟨Nat.le_refl _, Nat.le_refl _⟩) hS (fun H1 locs1 hw hS => ?_)
  refine lv_if_eq (tgt := 16) hx hb dJ3_charAt_4 (by decide) (fun c => absurd c (by decide)) (fun _ => ?_)
  refine lv_aload_n hx hb dJ3_charAt_7 rfl (lv_at hl 0 rfl) ?_
  refine n_getf hx hb ((hst a ha ha2).2.2.1.kept hS.2.1) hown (hts _ q2242) (fun _ h => h) dJ3_charAt_8 ?_
  refine lv_iload_n hx hb dJ3_charAt_11 rfl (lv_at hl 1 rfl) ?_
  refine n_callW (va_runS (As := [.ref (adV a), .int (nI i)]) (rest := []) ⟨hx, hb, hml, hown, hts⟩ (nm_chr4 (D := D) (G := G) (h0 := h0) (β := β) (h := h) ha ha2 hi (v := adV a)) (va_cwS 2 hts (lw_S q549 q550 q135 q551) rfl rfl rfl (by decide +kernel) ⟨Nat.le_of_ble_eq_true rfl, Nat.le_of_ble_eq_true rfl⟩) ⟨n_blindT, n_atT (hst a ha ha2).2.2.2 hK hw hS⟩ rfl rfl hl.1 rfl (lv_room (Nat.le_of_ble_eq_true rfl)) dJ3_charAt_12 ⟨Nat.le_refl _, Nat.le_refl _⟩) hS (fun H1 locs1 hw hS => ?_)
  exact W.zret (ty := .char) hx hb hr hc.2 (fun t ht _ => hQ _ _ hw hS t ht) hS.2.2 dJ3_charAt_15 hlk
end
