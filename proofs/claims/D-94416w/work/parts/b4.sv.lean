/-! SINGLE STEPS: FootOut.write, a method with two handlers, and what it calls -/
/-- a call of a contract throws E and leaves the heap's own part as it is -/
def nXc (D : va_G) (G : Nat → ClassId) (Hb : Heap) (h0 : xH) (b0 β : Nat → Nat) (h : xH) (E0 : String) : String → State → State → Prop := fun E _ t => E = E0 ∧ xWd D G Hb h0 b0 β h t.heap ∧ va_S (fun q => Hb.size ≤ q) Hb t.heap []
abbrev hhW : List (Nat × Nat × Nat × Nat) := [(15, 36, 37, 505), (15, 36, 47, 507)]
section
variable {p : Program} {l : Launch} {e : Env} {R : Room} {s : State} {m : MethodId} {args : Array Value} {below : List Frame} {meth : Method} {c : Code} {H : Heap} {locs : List Loc} {cells slots mc ms : Nat} {Q : State → Prop} {rest st0 : List Value} {pc : Nat} {ls : Array Slot} {v : Value}
variable {D : va_G} {G : Nat → ClassId} {Hb : Heap} {h0 h : xH} {b0 β : Nat → Nat} {E0 : String}
theorem n_callT (hr : vx_Run p l e R s m args below meth c H locs cells slots mc ms (F0 m pc ls st0) rest (fun _ _ _ => False) (nXc D G Hb h0 b0 β h E0) (fun q => Hb.size ≤ q)) (hS : va_S (fun q => Hb.size ≤ q) Hb H locs)
    (kt : ∀ (H1 : Heap) (locs1 : List Loc) (q : Nat) (ce : Cell), xWd D G Hb h0 b0 β h H1 → va_S (fun q => Hb.size ≤ q) Hb H1 locs1 → H1[q]? = some ce → ce.vm = .none → s.vm.findClass E0 = some ce.cls → vx_W p l e R s m args below meth c H1 locs1 (cells + mc) (slots + ms) Q (F0 m pc ls rest) q) : W p l e R s m args below meth c H locs cells slots Q (F0 m pc ls st0) := by
  intro T hT X
  rcases hr T hT X with ⟨v, st₀, t, T', L, e0, X', hL, e1, e2, hF, -⟩ | ⟨q, st₀, t, T', L, E, ce, e0, X', hL, e1, e2, ⟨hE, hw, hS1⟩, hce, hcv, hcl, st⟩
  · exact hF.elim
  · subst hE
    obtain ⟨t2, a1, b1⟩ := kt T'.heap (locs ++ L) q ce (by rw [e1]; exact hw) ⟨by rw [e1]; exact hS1.1, fun z h1 h2 => by rw [e1]; exact hS1.2.1 z h1 h2, fun z hz => by
      rcases List.mem_append.mp hz with h | h
      · exact hS.2.2 z h
      · exact hL z h⟩ (by rw [e1]; exact hce) hcv hcl T' rfl X'
    exact ⟨t2, st.trans a1, b1⟩
end
section
variable {D : va_G} {G : Nat → ClassId} {l : Launch} {Hb : Heap} {h0 : xH} {b0 : Nat → Nat} {mm : xM} {pc d k : Nat} {ls : List Slot} {st' : List Value} {h : xH} {r : xR} {β : Nat → Nat} {x q a rf rw : Nat} {i w : Int32} {v y z : Int64}
section
variable {p : Program} {e : Env} {R : Room} {s : State} {m : MethodId} {args : Array Value} {below : List Frame} {meth : Method} {c : Code} {Q : State → Prop} {H : Heap} {locs : List Loc} {cells slots : Nat} {M : Array Slot} {rest : List Value} {t u : Nat}
theorem x_ins1 (hT : XTok mm.1 k t) (t1 : 40 ≤ t) (t2 : t ≤ 43) (ha : oT h a = t) (X : xCt D G Hb h0 b0 mm p s m args meth c) (hw : xWd D G Hb h0 b0 β h H) (hd : decode mm.2.2.2.1 pc = .ok (.instanceof k, 3)) (kk : W p l e R s m args below meth c H locs cells slots Q (F0 m (pc + 3) M (.int 1 :: rest))) : W p l e R s m args below meth c H locs cells slots Q (F0 m pc M (.ref (β a) :: rest)) := by
  obtain ⟨hx', hb, hml, hown, hts, -, hK⟩ := X
  obtain ⟨x9, hxa⟩ := x_arr (G := G) hw.2.2 ha t1 (by omega)
  have hcell : H[β a]? = some (vp_cell (G t) x9) := hw.1 (a - 64) _ hxa
  obtain ⟨v1, v2⟩ := vp_cell_cls (G t) x9
  have hlk : Cond.classLink (xnm mm.1) k (xan t) ∈ lw_all := by
    rcases hT with ⟨q1, q2, -⟩ | ⟨-, -, q1, -⟩ | ⟨q1, -⟩
    · omega
    · exact q1
    · omega
  intro T hT X
  obtain ⟨vm', X', st⟩ := X.instanceofYes hx' hown (hts _ hlk) (by rw [hT]; exact hcell) (by rw [v2]; rfl) (x_an hK t1 (by omega)) (by rw [v1]; exact va_asg _ _) (g := F0 m pc M (.ref (β a) :: rest)) rfl rfl (by rw [hb]; exact hd)
  obtain ⟨t', a1, b1⟩ := kk (T.setVm vm') hT X'
  exact ⟨t', st t' a1, b1⟩
theorem x_ins0 (hT : XTok mm.1 k t) (t1 : 40 ≤ t) (t2 : t ≤ 43) (ha : oT h a = u) (u1 : 40 ≤ u) (u2 : u ≤ 44) (hne : u ≠ t) (X : xCt D G Hb h0 b0 mm p s m args meth c) (hw : xWd D G Hb h0 b0 β h H) (hd : decode mm.2.2.2.1 pc = .ok (.instanceof k, 3)) (kk : W p l e R s m args below meth c H locs cells slots Q (F0 m (pc + 3) M (.int 0 :: rest))) : W p l e R s m args below meth c H locs cells slots Q (F0 m pc M (.ref (β a) :: rest)) := by
  obtain ⟨hx', hb, hml, hown, hts, -, hK⟩ := X
  obtain ⟨x9, hxa⟩ := x_arr (G := G) hw.2.2 ha u1 u2
  have hcell : H[β a]? = some (vp_cell (G u) x9) := hw.1 (a - 64) _ hxa
  obtain ⟨v1, v2⟩ := vp_cell_cls (G u) x9
  have hlk : Cond.classLink (xnm mm.1) k (xan t) ∈ lw_all ∧ (∀ u, 40 ≤ u → u ≤ 44 → u ≠ t → (xan u, xan t) ∈ xnc) := by
    rcases hT with ⟨q1, q2, -⟩ | ⟨-, -, q1, q2⟩ | ⟨q1, -⟩
    · omega
    · exact ⟨q1, q2⟩
    · omega
  exact va_instNo (C := xan u) hx' hb hown (hts _ hlk.1) (hK.2.2.2.2.1 _ (hlk.2 u u1 u2 hne)) ⟨_, hcell, by rw [v2]; rfl, by rw [v1]; exact x_an hK u1 u2⟩ hd kk
theorem x_cas (hT : XTok mm.1 k t) (t1 : 40 ≤ t) (t2 : t ≤ 44) (ha : oT h a = t) (X : xCt D G Hb h0 b0 mm p s m args meth c) (hw : xWd D G Hb h0 b0 β h H) (hd : decode mm.2.2.2.1 pc = .ok (.checkcast k, 3)) (kk : W p l e R s m args below meth c H locs cells slots Q (F0 m (pc + 3) M (.ref (β a) :: rest))) : W p l e R s m args below meth c H locs cells slots Q (F0 m pc M (.ref (β a) :: rest)) := by
  obtain ⟨hx', hb, hml, hown, hts, -, hK⟩ := X
  obtain ⟨x9, hxa⟩ := x_arr (G := G) hw.2.2 ha t1 t2
  have hlk : Cond.classLink (xnm mm.1) k (xan t) ∈ lw_all := by
    rcases hT with ⟨q1, q2, -⟩ | ⟨-, -, q1, -⟩ | ⟨-, q1⟩
    · omega
    · exact q1
    · exact q1
  exact va_castA hx' hb hown (hts _ hlk) hw.1 (a - 64) hxa (x_an hK t1 t2) hd kk
end
theorem nm_in (hw0 : w = if v < y then 0 else if z < v then 0 else 1) : Met l yX0_in (ws_ yX0_in cX0_in 6 (some .boolean)) { frames := 1, cells := 0, slots := 0, locals := 40 } (xPc D G Hb h0 b0 β h [.long v, .long y, .long z]) (nQc D G Hb h0 b0 β h (some (.int w))) 0 0 (fun q => Hb.size ≤ q) := by
  refine Met.ofW (cc := cX0_in) (maxL := 6) (ret := (some .boolean)) (by decide) rfl ?_
  intro p e s m args below meth c s₁ B hml hv
  obtain ⟨rfl, hw, hS, hK⟩ := hv
  have hx := B.exec
  have hb := B.bytes
  have hr := B.returns
  have hlk := B.notSynchronized
  have hts := atoms_spec (ws := ws_ yX0_in cX0_in 6 (some .boolean)) B.pre
  have hts : ∀ w ∈ lw_all, w.before _ s = true := fun w h => hts w (List.mem_cons_of_mem _ h)
  have hown : s.vm.findClass "FootOut" = some m.cls := findClass_of_methodNamed B.named
  have hl := lv_entry ([.long v, .long y, .long z]) (n := 6) (Nat.le_of_ble_eq_true rfl)
  rw [lg_entry_eq]
  show W _ _ _ _ _ _ _ _ _ _ _ _ _ _ _ (F0 m 0 ((lg_sl ([.long v, .long y, .long z]) ++ List.replicate (6 - (lg_sl ([.long v, .long y, .long z])).length) Slot.unset).toArray) [])
  generalize (lg_sl ([.long v, .long y, .long z]) ++ List.replicate (6 - (lg_sl ([.long v, .long y, .long z])).length) Slot.unset).toArray = ls at hl ⊢
  have hl : lv_has ls 6 [(0, .long v), (2, .long y), (4, .long z)] := hl
  have X : xCt D G Hb h0 b0 (mX0_in) p s m _ meth c := ⟨hx, hb, hml, hown, hts, fun q => (by cases q), hK⟩
  refine lv_lload_n hx hb dX0_in_0 rfl (lv_at hl 0 rfl) ?_
  refine lv_lload_n hx hb dX0_in_1 rfl (lv_at hl 1 rfl) ?_
  refine W.lcmp hx hb dX0_in_2 ?_
  refine lv_if_lt (tgt := 17) hx hb dX0_in_3 (by decide) (fun c1 => ?_) (fun c1 => ?_)
  · have ew : w = 0 := by rw [hw0, if_pos (lc_l.mp c1)]
    subst ew
    refine lv_iconst (v := 0) hx hb dX0_in_17 (by decide) ?_
    exact W.zret (ty := .boolean) hx hb hr (by decide) (fun t ht _ => ⟨rfl, by rw [ht]; exact hw, by rw [ht]; exact ⟨hS.1, hS.2.1, fun _ h => by cases h⟩⟩) hS.2.2 dX0_in_18 hlk
  · refine lv_lload_n hx hb dX0_in_6 rfl (lv_at hl 0 rfl) ?_
    refine lv_lload hx hb dX0_in_7 (lv_at hl 2 rfl) ?_
    refine W.lcmp hx hb dX0_in_9 ?_
    refine lv_if_gt (tgt := 17) hx hb dX0_in_10 (by decide) (fun c2 => ?_) (fun c2 => ?_)
    · have ew : w = 0 := by rw [hw0, if_neg (fun z => c1 (lc_l.mpr z)), if_pos (lc_g.mp c2)]
      subst ew
      refine lv_iconst (v := 0) hx hb dX0_in_17 (by decide) ?_
      exact W.zret (ty := .boolean) hx hb hr (by decide) (fun t ht _ => ⟨rfl, by rw [ht]; exact hw, by rw [ht]; exact ⟨hS.1, hS.2.1, fun _ h => by cases h⟩⟩) hS.2.2 dX0_in_18 hlk
    · have ew : w = 1 := by rw [hw0, if_neg (fun z => c1 (lc_l.mpr z)), if_neg (fun z => c2 (lc_g.mpr z))]
      subst ew
      refine lv_iconst (v := 1) hx hb dX0_in_13 (by decide) ?_
      refine lv_goto (tgt := 18) hx hb dX0_in_14 (by decide) ?_
      exact W.zret (ty := .boolean) hx hb hr (by decide) (fun t ht _ => ⟨rfl, by rw [ht]; exact hw, by rw [ht]; exact ⟨hS.1, hS.2.1, fun _ h => by cases h⟩⟩) hS.2.2 dX0_in_18 hlk
theorem isrow_e {i : Int32} (hw0 : w = if 0 ≤ i.toInt ∧ i.toInt ≤ 3 then 1 else 0) : w = if i.toInt64 < 0 then 0 else if 3 < i.toInt64 then 0 else 1 := by
  have a1 : (i.toInt64 < 0) ↔ i.toInt < 0 := by
    rw [Int64.lt_iff_toInt_lt, Int32.toInt_toInt64]
    exact Iff.rfl
  have a2 : (3 < i.toInt64) ↔ 3 < i.toInt := by
    rw [Int64.lt_iff_toInt_lt, Int32.toInt_toInt64]
    exact Iff.rfl
  rw [hw0]
  by_cases c1 : i.toInt < 0
  · rw [if_neg (by omega), if_pos (a1.mpr c1)]
  · rw [if_neg (fun z => c1 (a1.mp z))]
    by_cases c2 : 3 < i.toInt
    · rw [if_neg (by omega), if_pos (a2.mpr c2)]
    · rw [if_pos (by omega), if_neg (fun z => c2 (a2.mp z))]
theorem nm_isRow (hw0 : w = if 0 ≤ i.toInt ∧ i.toInt ≤ 3 then 1 else 0) : Met l yX0_isRow (ws_ yX0_isRow cX0_isRow 1 (some .boolean)) { frames := 2, cells := 0, slots := 0, locals := 120 } (xPc D G Hb h0 b0 β h [.int i]) (nQc D G Hb h0 b0 β h (some (.int w))) 0 0 (fun q => Hb.size ≤ q) := by
  refine Met.ofW (cc := cX0_isRow) (maxL := 1) (ret := (some .boolean)) (by decide) rfl ?_
  intro p e s m args below meth c s₁ B hml hv
  obtain ⟨rfl, hw, hS, hK⟩ := hv
  have hx := B.exec
  have hb := B.bytes
  have hr := B.returns
  have hlk := B.notSynchronized
  have hts := atoms_spec (ws := ws_ yX0_isRow cX0_isRow 1 (some .boolean)) B.pre
  have hts : ∀ w ∈ lw_all, w.before _ s = true := fun w h => hts w (List.mem_cons_of_mem _ h)
  have hown : s.vm.findClass "FootOut" = some m.cls := findClass_of_methodNamed B.named
  have hl := lv_entry ([.int i]) (n := 1) (Nat.le_of_ble_eq_true rfl)
  rw [lg_entry_eq]
  show W _ _ _ _ _ _ _ _ _ _ _ _ _ _ _ (F0 m 0 ((lg_sl ([.int i]) ++ List.replicate (1 - (lg_sl ([.int i])).length) Slot.unset).toArray) [])
  generalize (lg_sl ([.int i]) ++ List.replicate (1 - (lg_sl ([.int i])).length) Slot.unset).toArray = ls at hl ⊢
  have hl : lv_has ls 1 [(0, .int i)] := hl
  have X : xCt D G Hb h0 b0 (mX0_isRow) p s m _ meth c := ⟨hx, hb, hml, hown, hts, fun q => (by cases q), hK⟩
  refine lv_iload_n hx hb dX0_isRow_0 rfl (lv_at hl 0 rfl) ?_
  refine lv_i2l (v := i.toInt64) hx hb dX0_isRow_1 rfl ?_
  refine lv_lconst (v := 0) hx hb dX0_isRow_2 (by decide) ?_
  refine lv_ldc2 (v := 3) hx hb hown (hts _ q901) dX0_isRow_3 ?_
  refine n_callW (va_runS (As := [.long i.toInt64, .long 0, .long 3]) (rest := []) ⟨hx, hb, hml, hown, hts⟩ (nm_in (D := D) (G := G) (Hb := Hb) (h0 := h0) (b0 := b0) (β := β) (h := h) (isrow_e hw0)) (va_cwS 3 hts (lw_S q446 q447 q124 q448) rfl rfl rfl (by decide +kernel) ⟨Nat.le_of_ble_eq_true rfl, Nat.le_of_ble_eq_true rfl⟩) ⟨xPc_blind, xPc_at hK hw hS⟩ rfl rfl hl.1 rfl (lv_room (Nat.le_of_ble_eq_true rfl)) dX0_isRow_6 ⟨Nat.le_refl _, Nat.le_refl _⟩) hS (fun H1 locs1 hw hS => ?_)
  have hwb : w = 0 ∨ w = 1 := by rw [hw0]; split <;> simp
  exact W.zret (ty := .boolean) hx hb hr (by rcases hwb with e9 | e9 <;> rw [e9] <;> decide) (fun t ht _ => ⟨rfl, by rw [ht]; exact hw, by rw [ht]; exact ⟨hS.1, hS.2.1, fun _ h => by cases h⟩⟩) hS.2.2 dX0_isRow_9 hlk
theorem nm_no2 (hx1 : oT h x = 1) (hrf : oR h x 2 = some rf) (tf : oT h rf = 40) (nf : oN h rf = 6) : Met l yX0_no (ws_ yX0_no cX0_no 2 (some .int)) { frames := 1, cells := 0, slots := 0, locals := 60 } (xPc D G Hb h0 b0 β h [.ref x, .int (-2)]) (nQc D G Hb h0 b0 β (xno h rf 0 0 0) (some (.int (-2)))) 0 0 (fun q => Hb.size ≤ q) := by
  refine Met.ofW (cc := cX0_no) (maxL := 2) (ret := (some .int)) (by decide) rfl ?_
  intro p e s m args below meth c s₁ B hml hv
  obtain ⟨rfl, hw, hS, hK⟩ := hv
  have hx := B.exec
  have hb := B.bytes
  have hr := B.returns
  have hlk := B.notSynchronized
  have hts := atoms_spec (ws := ws_ yX0_no cX0_no 2 (some .int)) B.pre
  have hts : ∀ w ∈ lw_all, w.before _ s = true := fun w h => hts w (List.mem_cons_of_mem _ h)
  have hown : s.vm.findClass "FootOut" = some m.cls := findClass_of_methodNamed B.named
  have hl := lv_entry ([.ref (β x), .int (-2)]) (n := 2) (Nat.le_of_ble_eq_true rfl)
  rw [lg_entry_eq]
  show W _ _ _ _ _ _ _ _ _ _ _ _ _ _ _ (F0 m 0 ((lg_sl ([.ref (β x), .int (-2)]) ++ List.replicate (2 - (lg_sl ([.ref (β x), .int (-2)])).length) Slot.unset).toArray) [])
  generalize (lg_sl ([.ref (β x), .int (-2)]) ++ List.replicate (2 - (lg_sl ([.ref (β x), .int (-2)])).length) Slot.unset).toArray = ls at hl ⊢
  have hl : lv_has ls 2 [(0, .ref (β x)), (1, .int (-2))] := hl
  have X : xCt D G Hb h0 b0 (mX0_no) p s m _ meth c := ⟨hx, hb, hml, hown, hts, fun q => (by cases q), hK⟩
  have fv : xfv h β x 2 (12 % 10) = .ref (β rf) := by
    show va_rf ((oR h x 2).map β) = _
    rw [hrf]
    rfl
  have hle := hw.2.2.lt (a := rf) (by rw [tf]; exact Or.inr ⟨by omega, by omega⟩)
  have hAr := xaI (G := G) hw.2.2 tf (by omega) (by omega)
  refine lv_aload_n hx hb dX0_no_0 rfl (lv_at hl 0 rfl) ?_
  refine x_getW (mm := mX0_no) (xF_ok 1 20 1 2 12 rfl) hx1 X hw dX0_no_1 ?_
  rw [fv]
  refine lv_iload_n hx hb dX0_no_4 rfl (lv_at hl 1 rfl) ?_
  refine lv_bipush (v := -3) hx hb dX0_no_5 (by decide) ?_
  refine lv_icmp_ne (tgt := 14) hx hb dX0_no_7 (by decide) (fun _ => ?_) (fun c9 => absurd c9 (by decide))
  refine lv_iload_n hx hb dX0_no_14 rfl (lv_at hl 1 rfl) ?_
  refine lv_bipush (v := -5) hx hb dX0_no_15 (by decide) ?_
  refine lv_icmp_ne (tgt := 24) hx hb dX0_no_17 (by decide) (fun _ => ?_) (fun c9 => absurd c9 (by decide))
  refine lv_iload_n hx hb dX0_no_24 rfl (lv_at hl 1 rfl) ?_
  refine lv_bipush (v := -6) hx hb dX0_no_25 (by decide) ?_
  refine lv_icmp_ne (tgt := 34) hx hb dX0_no_27 (by decide) (fun _ => ?_) (fun c9 => absurd c9 (by decide))
  refine lv_iload_n hx hb dX0_no_34 rfl (lv_at hl 1 rfl) ?_
  refine lv_bipush (v := -7) hx hb dX0_no_35 (by decide) ?_
  refine lv_icmp_ne (tgt := 44) hx hb dX0_no_37 (by decide) (fun _ => ?_) (fun c9 => absurd c9 (by decide))
  refine lv_iload_n hx hb dX0_no_44 rfl (lv_at hl 1 rfl) ?_
  refine lv_bipush (v := -30) hx hb dX0_no_45 (by decide) ?_
  refine lv_icmp_ge (tgt := 60) hx hb dX0_no_47 (by decide) (fun _ => ?_) (fun c9 => absurd (by decide) c9)
  refine lv_iconst (v := 0) hx hb dX0_no_60 (by decide) ?_
  refine lv_dup2_11 hx hb dX0_no_61 rfl rfl ?_
  have hin : vp_in (0) (oN h rf) := xix_in (by rw [nf]; decide)
  have ej : (0 : Int32).toNatClampNeg = 0 := by decide
  refine va_iald hx hb hK.1 hw.1 (rf - 64) 0 hAr rfl hin dX0_no_62 ?_
  rw [ej]
  refine lv_iconst (v := 1) hx hb dX0_no_63 (by decide) ?_
  refine lv_iadd hx hb dX0_no_64 ?_
  refine va_iast hx hb hK.1 hw.1 hw.2.1 hS (rf - 64) 0 hAr rfl hin dX0_no_65 fun H1 locs1 hP1 hD1 hS1 => ?_
  rw [ej] at hP1 hD1
  have e9 := xw_set (G := G) (β := β) (h := h) (a := rf) (h' := pI h rf (va_up (oI h rf) 0 (oI h rf 0 + 1))) hle.1 rfl (fun b hb => xce_nI hb)
  rw [xceI tf (by omega) (by omega)] at e9
  have hwF : xWd D G Hb h0 b0 β (pI h rf (va_up (oI h rf) 0 (oI h rf 0 + 1))) H1 := ⟨by rw [e9]; exact hP1, by rw [e9]; exact hD1, xok_pI hle.1 hw.2.2⟩
  refine lv_iload_n hx hb dX0_no_66 rfl (lv_at hl 1 rfl) ?_
  exact W.zret (ty := .int) hx hb hr rfl (fun t ht _ => ⟨rfl, by rw [ht]; exact hwF, by rw [ht]; exact ⟨hS1.1, hS1.2.1, fun _ h => by cases h⟩⟩) hS1.2.2 dX0_no_67 hlk
theorem nm_no6 (hx1 : oT h x = 1) (hrf : oR h x 2 = some rf) (tf : oT h rf = 40) (nf : oN h rf = 6) : Met l yX0_no (ws_ yX0_no cX0_no 2 (some .int)) { frames := 1, cells := 0, slots := 0, locals := 60 } (xPc D G Hb h0 b0 β h [.ref x, .int (-6)]) (nQc D G Hb h0 b0 β (xno h rf 3 0 0) (some (.int (-6)))) 0 0 (fun q => Hb.size ≤ q) := by
  refine Met.ofW (cc := cX0_no) (maxL := 2) (ret := (some .int)) (by decide) rfl ?_
  intro p e s m args below meth c s₁ B hml hv
  obtain ⟨rfl, hw, hS, hK⟩ := hv
  have hx := B.exec
  have hb := B.bytes
  have hr := B.returns
  have hlk := B.notSynchronized
  have hts := atoms_spec (ws := ws_ yX0_no cX0_no 2 (some .int)) B.pre
  have hts : ∀ w ∈ lw_all, w.before _ s = true := fun w h => hts w (List.mem_cons_of_mem _ h)
  have hown : s.vm.findClass "FootOut" = some m.cls := findClass_of_methodNamed B.named
  have hl := lv_entry ([.ref (β x), .int (-6)]) (n := 2) (Nat.le_of_ble_eq_true rfl)
  rw [lg_entry_eq]
  show W _ _ _ _ _ _ _ _ _ _ _ _ _ _ _ (F0 m 0 ((lg_sl ([.ref (β x), .int (-6)]) ++ List.replicate (2 - (lg_sl ([.ref (β x), .int (-6)])).length) Slot.unset).toArray) [])
  generalize (lg_sl ([.ref (β x), .int (-6)]) ++ List.replicate (2 - (lg_sl ([.ref (β x), .int (-6)])).length) Slot.unset).toArray = ls at hl ⊢
  have hl : lv_has ls 2 [(0, .ref (β x)), (1, .int (-6))] := hl
  have X : xCt D G Hb h0 b0 (mX0_no) p s m _ meth c := ⟨hx, hb, hml, hown, hts, fun q => (by cases q), hK⟩
  have fv : xfv h β x 2 (12 % 10) = .ref (β rf) := by
    show va_rf ((oR h x 2).map β) = _
    rw [hrf]
    rfl
  have hle := hw.2.2.lt (a := rf) (by rw [tf]; exact Or.inr ⟨by omega, by omega⟩)
  have hAr := xaI (G := G) hw.2.2 tf (by omega) (by omega)
  refine lv_aload_n hx hb dX0_no_0 rfl (lv_at hl 0 rfl) ?_
  refine x_getW (mm := mX0_no) (xF_ok 1 20 1 2 12 rfl) hx1 X hw dX0_no_1 ?_
  rw [fv]
  refine lv_iload_n hx hb dX0_no_4 rfl (lv_at hl 1 rfl) ?_
  refine lv_bipush (v := -3) hx hb dX0_no_5 (by decide) ?_
  refine lv_icmp_ne (tgt := 14) hx hb dX0_no_7 (by decide) (fun _ => ?_) (fun c9 => absurd c9 (by decide))
  refine lv_iload_n hx hb dX0_no_14 rfl (lv_at hl 1 rfl) ?_
  refine lv_bipush (v := -5) hx hb dX0_no_15 (by decide) ?_
  refine lv_icmp_ne (tgt := 24) hx hb dX0_no_17 (by decide) (fun _ => ?_) (fun c9 => absurd c9 (by decide))
  refine lv_iload_n hx hb dX0_no_24 rfl (lv_at hl 1 rfl) ?_
  refine lv_bipush (v := -6) hx hb dX0_no_25 (by decide) ?_
  refine lv_icmp_ne (tgt := 34) hx hb dX0_no_27 (by decide) (fun c9 => absurd rfl c9) (fun _ => ?_)
  refine lv_iconst (v := 3) hx hb dX0_no_30 (by decide) ?_
  refine lv_goto (tgt := 61) hx hb dX0_no_31 (by decide) ?_
  refine lv_dup2_11 hx hb dX0_no_61 rfl rfl ?_
  have hin : vp_in (3) (oN h rf) := xix_in (by rw [nf]; decide)
  have ej : (3 : Int32).toNatClampNeg = 3 := by decide
  refine va_iald hx hb hK.1 hw.1 (rf - 64) 0 hAr rfl hin dX0_no_62 ?_
  rw [ej]
  refine lv_iconst (v := 1) hx hb dX0_no_63 (by decide) ?_
  refine lv_iadd hx hb dX0_no_64 ?_
  refine va_iast hx hb hK.1 hw.1 hw.2.1 hS (rf - 64) 0 hAr rfl hin dX0_no_65 fun H1 locs1 hP1 hD1 hS1 => ?_
  rw [ej] at hP1 hD1
  have e9 := xw_set (G := G) (β := β) (h := h) (a := rf) (h' := pI h rf (va_up (oI h rf) 3 (oI h rf 3 + 1))) hle.1 rfl (fun b hb => xce_nI hb)
  rw [xceI tf (by omega) (by omega)] at e9
  have hwF : xWd D G Hb h0 b0 β (pI h rf (va_up (oI h rf) 3 (oI h rf 3 + 1))) H1 := ⟨by rw [e9]; exact hP1, by rw [e9]; exact hD1, xok_pI hle.1 hw.2.2⟩
  refine lv_iload_n hx hb dX0_no_66 rfl (lv_at hl 1 rfl) ?_
  exact W.zret (ty := .int) hx hb hr rfl (fun t ht _ => ⟨rfl, by rw [ht]; exact hwF, by rw [ht]; exact ⟨hS1.1, hS1.2.1, fun _ h => by cases h⟩⟩) hS1.2.2 dX0_no_67 hlk
theorem nm_no7 (hx1 : oT h x = 1) (hrf : oR h x 2 = some rf) (tf : oT h rf = 40) (nf : oN h rf = 6) : Met l yX0_no (ws_ yX0_no cX0_no 2 (some .int)) { frames := 1, cells := 0, slots := 0, locals := 60 } (xPc D G Hb h0 b0 β h [.ref x, .int (-7)]) (nQc D G Hb h0 b0 β (xno h rf 4 0 0) (some (.int (-7)))) 0 0 (fun q => Hb.size ≤ q) := by
  refine Met.ofW (cc := cX0_no) (maxL := 2) (ret := (some .int)) (by decide) rfl ?_
  intro p e s m args below meth c s₁ B hml hv
  obtain ⟨rfl, hw, hS, hK⟩ := hv
  have hx := B.exec
  have hb := B.bytes
  have hr := B.returns
  have hlk := B.notSynchronized
  have hts := atoms_spec (ws := ws_ yX0_no cX0_no 2 (some .int)) B.pre
  have hts : ∀ w ∈ lw_all, w.before _ s = true := fun w h => hts w (List.mem_cons_of_mem _ h)
  have hown : s.vm.findClass "FootOut" = some m.cls := findClass_of_methodNamed B.named
  have hl := lv_entry ([.ref (β x), .int (-7)]) (n := 2) (Nat.le_of_ble_eq_true rfl)
  rw [lg_entry_eq]
  show W _ _ _ _ _ _ _ _ _ _ _ _ _ _ _ (F0 m 0 ((lg_sl ([.ref (β x), .int (-7)]) ++ List.replicate (2 - (lg_sl ([.ref (β x), .int (-7)])).length) Slot.unset).toArray) [])
  generalize (lg_sl ([.ref (β x), .int (-7)]) ++ List.replicate (2 - (lg_sl ([.ref (β x), .int (-7)])).length) Slot.unset).toArray = ls at hl ⊢
  have hl : lv_has ls 2 [(0, .ref (β x)), (1, .int (-7))] := hl
  have X : xCt D G Hb h0 b0 (mX0_no) p s m _ meth c := ⟨hx, hb, hml, hown, hts, fun q => (by cases q), hK⟩
  have fv : xfv h β x 2 (12 % 10) = .ref (β rf) := by
    show va_rf ((oR h x 2).map β) = _
    rw [hrf]
    rfl
  have hle := hw.2.2.lt (a := rf) (by rw [tf]; exact Or.inr ⟨by omega, by omega⟩)
  have hAr := xaI (G := G) hw.2.2 tf (by omega) (by omega)
  refine lv_aload_n hx hb dX0_no_0 rfl (lv_at hl 0 rfl) ?_
  refine x_getW (mm := mX0_no) (xF_ok 1 20 1 2 12 rfl) hx1 X hw dX0_no_1 ?_
  rw [fv]
  refine lv_iload_n hx hb dX0_no_4 rfl (lv_at hl 1 rfl) ?_
  refine lv_bipush (v := -3) hx hb dX0_no_5 (by decide) ?_
  refine lv_icmp_ne (tgt := 14) hx hb dX0_no_7 (by decide) (fun _ => ?_) (fun c9 => absurd c9 (by decide))
  refine lv_iload_n hx hb dX0_no_14 rfl (lv_at hl 1 rfl) ?_
  refine lv_bipush (v := -5) hx hb dX0_no_15 (by decide) ?_
  refine lv_icmp_ne (tgt := 24) hx hb dX0_no_17 (by decide) (fun _ => ?_) (fun c9 => absurd c9 (by decide))
  refine lv_iload_n hx hb dX0_no_24 rfl (lv_at hl 1 rfl) ?_
  refine lv_bipush (v := -6) hx hb dX0_no_25 (by decide) ?_
  refine lv_icmp_ne (tgt := 34) hx hb dX0_no_27 (by decide) (fun _ => ?_) (fun c9 => absurd c9 (by decide))
  refine lv_iload_n hx hb dX0_no_34 rfl (lv_at hl 1 rfl) ?_
  refine lv_bipush (v := -7) hx hb dX0_no_35 (by decide) ?_
  refine lv_icmp_ne (tgt := 44) hx hb dX0_no_37 (by decide) (fun c9 => absurd rfl c9) (fun _ => ?_)
  refine lv_iconst (v := 4) hx hb dX0_no_40 (by decide) ?_
  refine lv_goto (tgt := 61) hx hb dX0_no_41 (by decide) ?_
  refine lv_dup2_11 hx hb dX0_no_61 rfl rfl ?_
  have hin : vp_in (4) (oN h rf) := xix_in (by rw [nf]; decide)
  have ej : (4 : Int32).toNatClampNeg = 4 := by decide
  refine va_iald hx hb hK.1 hw.1 (rf - 64) 0 hAr rfl hin dX0_no_62 ?_
  rw [ej]
  refine lv_iconst (v := 1) hx hb dX0_no_63 (by decide) ?_
  refine lv_iadd hx hb dX0_no_64 ?_
  refine va_iast hx hb hK.1 hw.1 hw.2.1 hS (rf - 64) 0 hAr rfl hin dX0_no_65 fun H1 locs1 hP1 hD1 hS1 => ?_
  rw [ej] at hP1 hD1
  have e9 := xw_set (G := G) (β := β) (h := h) (a := rf) (h' := pI h rf (va_up (oI h rf) 4 (oI h rf 4 + 1))) hle.1 rfl (fun b hb => xce_nI hb)
  rw [xceI tf (by omega) (by omega)] at e9
  have hwF : xWd D G Hb h0 b0 β (pI h rf (va_up (oI h rf) 4 (oI h rf 4 + 1))) H1 := ⟨by rw [e9]; exact hP1, by rw [e9]; exact hD1, xok_pI hle.1 hw.2.2⟩
  refine lv_iload_n hx hb dX0_no_66 rfl (lv_at hl 1 rfl) ?_
  exact W.zret (ty := .int) hx hb hr rfl (fun t ht _ => ⟨rfl, by rw [ht]; exact hwF, by rw [ht]; exact ⟨hS1.1, hS1.2.1, fun _ h => by cases h⟩⟩) hS1.2.2 dX0_no_67 hlk
theorem nm_num41 (hq6 : oT h q = 6) (ha : oR h q 0 = some a) (ta : oT h a = 41) (hin : vp_in i (oN h a)) : Met l yX4_number (ws_ yX4_number cX4_number 2 (some .long)) { frames := 1, cells := 0, slots := 0, locals := 60 } (xPc D G Hb h0 b0 β h [.ref q, .int i]) (nQc D G Hb h0 b0 β h (some (.long ((oI h a i.toNatClampNeg).toInt64)))) 0 0 (fun q => Hb.size ≤ q) := by
  refine Met.ofW (cc := cX4_number) (maxL := 2) (ret := (some .long)) (by decide) rfl ?_
  intro p e s m args below meth c s₁ B hml hv
  obtain ⟨rfl, hw, hS, hK⟩ := hv
  have hx := B.exec
  have hb := B.bytes
  have hr := B.returns
  have hlk := B.notSynchronized
  have hts := atoms_spec (ws := ws_ yX4_number cX4_number 2 (some .long)) B.pre
  have hts : ∀ w ∈ lw_all, w.before _ s = true := fun w h => hts w (List.mem_cons_of_mem _ h)
  have hown : s.vm.findClass "FootOut$Numbers" = some m.cls := findClass_of_methodNamed B.named
  have hl := lv_entry ([.ref (β q), .int i]) (n := 2) (Nat.le_of_ble_eq_true rfl)
  rw [lg_entry_eq]
  show W _ _ _ _ _ _ _ _ _ _ _ _ _ _ _ (F0 m 0 ((lg_sl ([.ref (β q), .int i]) ++ List.replicate (2 - (lg_sl ([.ref (β q), .int i])).length) Slot.unset).toArray) [])
  generalize (lg_sl ([.ref (β q), .int i]) ++ List.replicate (2 - (lg_sl ([.ref (β q), .int i])).length) Slot.unset).toArray = ls at hl ⊢
  have hl : lv_has ls 2 [(0, .ref (β q)), (1, .int i)] := hl
  have X : xCt D G Hb h0 b0 (mX4_number) p s m _ meth c := ⟨hx, hb, hml, hown, hts, fun q => (by cases q), hK⟩
  have fv : xfv h β q 0 (2 % 10) = .ref (β a) := by
    show va_rf ((oR h q 0).map β) = _
    rw [ha]
    rfl
  have hAr := xaI (G := G) hw.2.2 ta (by omega) (by omega)
  refine lv_aload_n hx hb dX4_number_0 rfl (lv_at hl 0 rfl) ?_
  refine x_getW (mm := mX4_number) (xF_ok 6 7 6 0 2 rfl) hq6 X hw dX4_number_1 ?_
  rw [fv]
  refine x_ins1 (mm := mX4_number) (xT_ok 6 15 41 rfl) (by decide) (by decide) ta X hw dX4_number_4 ?_
  refine lv_if_eq (tgt := 21) hx hb dX4_number_7 (by decide) (fun c9 => absurd c9 (by decide)) (fun _ => ?_)
  refine lv_aload_n hx hb dX4_number_10 rfl (lv_at hl 0 rfl) ?_
  refine x_getW (mm := mX4_number) (xF_ok 6 7 6 0 2 rfl) hq6 X hw dX4_number_11 ?_
  rw [fv]
  refine x_cas (mm := mX4_number) (xT_ok 6 15 41 rfl) (by decide) (by decide) ta X hw dX4_number_14 ?_
  refine lv_iload_n hx hb dX4_number_17 rfl (lv_at hl 1 rfl) ?_
  refine va_bald hx hb hK.1 hw.1 (a - 64) 1 hAr rfl hin dX4_number_18 ?_
  refine lv_i2l (v := (oI h a i.toNatClampNeg).toInt64) hx hb dX4_number_19 rfl ?_
  exact W.lret hx hb hr (fun t ht _ => ⟨rfl, by rw [ht]; exact hw, by rw [ht]; exact ⟨hS.1, hS.2.1, fun _ h => by cases h⟩⟩) hS.2.2 dX4_number_20 hlk
theorem nm_num43 (hq6 : oT h q = 6) (ha : oR h q 0 = some a) (ta : oT h a = 43) (hin : vp_in i (oN h a)) : Met l yX4_number (ws_ yX4_number cX4_number 2 (some .long)) { frames := 1, cells := 0, slots := 0, locals := 60 } (xPc D G Hb h0 b0 β h [.ref q, .int i]) (nQc D G Hb h0 b0 β h (some (.long ((oI h a i.toNatClampNeg).toInt64)))) 0 0 (fun q => Hb.size ≤ q) := by
  refine Met.ofW (cc := cX4_number) (maxL := 2) (ret := (some .long)) (by decide) rfl ?_
  intro p e s m args below meth c s₁ B hml hv
  obtain ⟨rfl, hw, hS, hK⟩ := hv
  have hx := B.exec
  have hb := B.bytes
  have hr := B.returns
  have hlk := B.notSynchronized
  have hts := atoms_spec (ws := ws_ yX4_number cX4_number 2 (some .long)) B.pre
  have hts : ∀ w ∈ lw_all, w.before _ s = true := fun w h => hts w (List.mem_cons_of_mem _ h)
  have hown : s.vm.findClass "FootOut$Numbers" = some m.cls := findClass_of_methodNamed B.named
  have hl := lv_entry ([.ref (β q), .int i]) (n := 2) (Nat.le_of_ble_eq_true rfl)
  rw [lg_entry_eq]
  show W _ _ _ _ _ _ _ _ _ _ _ _ _ _ _ (F0 m 0 ((lg_sl ([.ref (β q), .int i]) ++ List.replicate (2 - (lg_sl ([.ref (β q), .int i])).length) Slot.unset).toArray) [])
  generalize (lg_sl ([.ref (β q), .int i]) ++ List.replicate (2 - (lg_sl ([.ref (β q), .int i])).length) Slot.unset).toArray = ls at hl ⊢
  have hl : lv_has ls 2 [(0, .ref (β q)), (1, .int i)] := hl
  have X : xCt D G Hb h0 b0 (mX4_number) p s m _ meth c := ⟨hx, hb, hml, hown, hts, fun q => (by cases q), hK⟩
  have fv : xfv h β q 0 (2 % 10) = .ref (β a) := by
    show va_rf ((oR h q 0).map β) = _
    rw [ha]
    rfl
  have hAr := xaI (G := G) hw.2.2 ta (by omega) (by omega)
  refine lv_aload_n hx hb dX4_number_0 rfl (lv_at hl 0 rfl) ?_
  refine x_getW (mm := mX4_number) (xF_ok 6 7 6 0 2 rfl) hq6 X hw dX4_number_1 ?_
  rw [fv]
  refine x_ins0 (mm := mX4_number) (xT_ok 6 15 41 rfl) (by decide) (by decide) ta (by decide) (by decide) (by decide) X hw dX4_number_4 ?_
  refine lv_if_eq (tgt := 21) hx hb dX4_number_7 (by decide) (fun _ => ?_) (fun c9 => absurd rfl c9)
  refine lv_aload_n hx hb dX4_number_21 rfl (lv_at hl 0 rfl) ?_
  refine x_getW (mm := mX4_number) (xF_ok 6 7 6 0 2 rfl) hq6 X hw dX4_number_22 ?_
  rw [fv]
  refine x_ins1 (mm := mX4_number) (xT_ok 6 17 43 rfl) (by decide) (by decide) ta X hw dX4_number_25 ?_
  refine lv_if_eq (tgt := 42) hx hb dX4_number_28 (by decide) (fun c9 => absurd c9 (by decide)) (fun _ => ?_)
  refine lv_aload_n hx hb dX4_number_31 rfl (lv_at hl 0 rfl) ?_
  refine x_getW (mm := mX4_number) (xF_ok 6 7 6 0 2 rfl) hq6 X hw dX4_number_32 ?_
  rw [fv]
  refine x_cas (mm := mX4_number) (xT_ok 6 17 43 rfl) (by decide) (by decide) ta X hw dX4_number_35 ?_
  refine lv_iload_n hx hb dX4_number_38 rfl (lv_at hl 1 rfl) ?_
  refine va_sald hx hb hK.1 hw.1 (a - 64) 3 hAr rfl hin dX4_number_39 ?_
  refine lv_i2l (v := (oI h a i.toNatClampNeg).toInt64) hx hb dX4_number_40 rfl ?_
  exact W.lret hx hb hr (fun t ht _ => ⟨rfl, by rw [ht]; exact hw, by rw [ht]; exact ⟨hS.1, hS.2.1, fun _ h => by cases h⟩⟩) hS.2.2 dX4_number_41 hlk
theorem nm_num40 (hq6 : oT h q = 6) (ha : oR h q 0 = some a) (ta : oT h a = 40) (hin : vp_in i (oN h a)) : Met l yX4_number (ws_ yX4_number cX4_number 2 (some .long)) { frames := 1, cells := 0, slots := 0, locals := 60 } (xPc D G Hb h0 b0 β h [.ref q, .int i]) (nQc D G Hb h0 b0 β h (some (.long ((oI h a i.toNatClampNeg).toInt64)))) 0 0 (fun q => Hb.size ≤ q) := by
  refine Met.ofW (cc := cX4_number) (maxL := 2) (ret := (some .long)) (by decide) rfl ?_
  intro p e s m args below meth c s₁ B hml hv
  obtain ⟨rfl, hw, hS, hK⟩ := hv
  have hx := B.exec
  have hb := B.bytes
  have hr := B.returns
  have hlk := B.notSynchronized
  have hts := atoms_spec (ws := ws_ yX4_number cX4_number 2 (some .long)) B.pre
  have hts : ∀ w ∈ lw_all, w.before _ s = true := fun w h => hts w (List.mem_cons_of_mem _ h)
  have hown : s.vm.findClass "FootOut$Numbers" = some m.cls := findClass_of_methodNamed B.named
  have hl := lv_entry ([.ref (β q), .int i]) (n := 2) (Nat.le_of_ble_eq_true rfl)
  rw [lg_entry_eq]
  show W _ _ _ _ _ _ _ _ _ _ _ _ _ _ _ (F0 m 0 ((lg_sl ([.ref (β q), .int i]) ++ List.replicate (2 - (lg_sl ([.ref (β q), .int i])).length) Slot.unset).toArray) [])
  generalize (lg_sl ([.ref (β q), .int i]) ++ List.replicate (2 - (lg_sl ([.ref (β q), .int i])).length) Slot.unset).toArray = ls at hl ⊢
  have hl : lv_has ls 2 [(0, .ref (β q)), (1, .int i)] := hl
  have X : xCt D G Hb h0 b0 (mX4_number) p s m _ meth c := ⟨hx, hb, hml, hown, hts, fun q => (by cases q), hK⟩
  have fv : xfv h β q 0 (2 % 10) = .ref (β a) := by
    show va_rf ((oR h q 0).map β) = _
    rw [ha]
    rfl
  have hAr := xaI (G := G) hw.2.2 ta (by omega) (by omega)
  refine lv_aload_n hx hb dX4_number_0 rfl (lv_at hl 0 rfl) ?_
  refine x_getW (mm := mX4_number) (xF_ok 6 7 6 0 2 rfl) hq6 X hw dX4_number_1 ?_
  rw [fv]
  refine x_ins0 (mm := mX4_number) (xT_ok 6 15 41 rfl) (by decide) (by decide) ta (by decide) (by decide) (by decide) X hw dX4_number_4 ?_
  refine lv_if_eq (tgt := 21) hx hb dX4_number_7 (by decide) (fun _ => ?_) (fun c9 => absurd rfl c9)
  refine lv_aload_n hx hb dX4_number_21 rfl (lv_at hl 0 rfl) ?_
  refine x_getW (mm := mX4_number) (xF_ok 6 7 6 0 2 rfl) hq6 X hw dX4_number_22 ?_
  rw [fv]
  refine x_ins0 (mm := mX4_number) (xT_ok 6 17 43 rfl) (by decide) (by decide) ta (by decide) (by decide) (by decide) X hw dX4_number_25 ?_
  refine lv_if_eq (tgt := 42) hx hb dX4_number_28 (by decide) (fun _ => ?_) (fun c9 => absurd rfl c9)
  refine lv_aload_n hx hb dX4_number_42 rfl (lv_at hl 0 rfl) ?_
  refine x_getW (mm := mX4_number) (xF_ok 6 7 6 0 2 rfl) hq6 X hw dX4_number_43 ?_
  rw [fv]
  refine x_ins1 (mm := mX4_number) (xT_ok 6 19 40 rfl) (by decide) (by decide) ta X hw dX4_number_46 ?_
  refine lv_if_eq (tgt := 65) hx hb dX4_number_49 (by decide) (fun c9 => absurd c9 (by decide)) (fun _ => ?_)
  refine lv_aload_n hx hb dX4_number_52 rfl (lv_at hl 0 rfl) ?_
  refine x_getW (mm := mX4_number) (xF_ok 6 7 6 0 2 rfl) hq6 X hw dX4_number_53 ?_
  rw [fv]
  refine x_cas (mm := mX4_number) (xT_ok 6 19 40 rfl) (by decide) (by decide) ta X hw dX4_number_56 ?_
  refine lv_iload_n hx hb dX4_number_59 rfl (lv_at hl 1 rfl) ?_
  refine va_iald hx hb hK.1 hw.1 (a - 64) 0 hAr rfl hin dX4_number_60 ?_
  refine lv_i2l (v := (oI h a i.toNatClampNeg).toInt64) hx hb dX4_number_61 rfl ?_
  refine lv_goto (tgt := 74) hx hb dX4_number_62 (by decide) ?_
  exact W.lret hx hb hr (fun t ht _ => ⟨rfl, by rw [ht]; exact hw, by rw [ht]; exact ⟨hS.1, hS.2.1, fun _ h => by cases h⟩⟩) hS.2.2 dX4_number_74 hlk
theorem nm_num44 (hq6 : oT h q = 6) (ha : oR h q 0 = some a) (ta : oT h a = 44) (hin : vp_in i (oN h a)) : Met l yX4_number (ws_ yX4_number cX4_number 2 (some .long)) { frames := 1, cells := 0, slots := 0, locals := 60 } (xPc D G Hb h0 b0 β h [.ref q, .int i]) (nQc D G Hb h0 b0 β h (some (.long (oL h a i.toNatClampNeg)))) 0 0 (fun q => Hb.size ≤ q) := by
  refine Met.ofW (cc := cX4_number) (maxL := 2) (ret := (some .long)) (by decide) rfl ?_
  intro p e s m args below meth c s₁ B hml hv
  obtain ⟨rfl, hw, hS, hK⟩ := hv
  have hx := B.exec
  have hb := B.bytes
  have hr := B.returns
  have hlk := B.notSynchronized
  have hts := atoms_spec (ws := ws_ yX4_number cX4_number 2 (some .long)) B.pre
  have hts : ∀ w ∈ lw_all, w.before _ s = true := fun w h => hts w (List.mem_cons_of_mem _ h)
  have hown : s.vm.findClass "FootOut$Numbers" = some m.cls := findClass_of_methodNamed B.named
  have hl := lv_entry ([.ref (β q), .int i]) (n := 2) (Nat.le_of_ble_eq_true rfl)
  rw [lg_entry_eq]
  show W _ _ _ _ _ _ _ _ _ _ _ _ _ _ _ (F0 m 0 ((lg_sl ([.ref (β q), .int i]) ++ List.replicate (2 - (lg_sl ([.ref (β q), .int i])).length) Slot.unset).toArray) [])
  generalize (lg_sl ([.ref (β q), .int i]) ++ List.replicate (2 - (lg_sl ([.ref (β q), .int i])).length) Slot.unset).toArray = ls at hl ⊢
  have hl : lv_has ls 2 [(0, .ref (β q)), (1, .int i)] := hl
  have X : xCt D G Hb h0 b0 (mX4_number) p s m _ meth c := ⟨hx, hb, hml, hown, hts, fun q => (by cases q), hK⟩
  have fv : xfv h β q 0 (2 % 10) = .ref (β a) := by
    show va_rf ((oR h q 0).map β) = _
    rw [ha]
    rfl
  have hAr := xaL (G := G) hw.2.2 ta
  refine lv_aload_n hx hb dX4_number_0 rfl (lv_at hl 0 rfl) ?_
  refine x_getW (mm := mX4_number) (xF_ok 6 7 6 0 2 rfl) hq6 X hw dX4_number_1 ?_
  rw [fv]
  refine x_ins0 (mm := mX4_number) (xT_ok 6 15 41 rfl) (by decide) (by decide) ta (by decide) (by decide) (by decide) X hw dX4_number_4 ?_
  refine lv_if_eq (tgt := 21) hx hb dX4_number_7 (by decide) (fun _ => ?_) (fun c9 => absurd rfl c9)
  refine lv_aload_n hx hb dX4_number_21 rfl (lv_at hl 0 rfl) ?_
  refine x_getW (mm := mX4_number) (xF_ok 6 7 6 0 2 rfl) hq6 X hw dX4_number_22 ?_
  rw [fv]
  refine x_ins0 (mm := mX4_number) (xT_ok 6 17 43 rfl) (by decide) (by decide) ta (by decide) (by decide) (by decide) X hw dX4_number_25 ?_
  refine lv_if_eq (tgt := 42) hx hb dX4_number_28 (by decide) (fun _ => ?_) (fun c9 => absurd rfl c9)
  refine lv_aload_n hx hb dX4_number_42 rfl (lv_at hl 0 rfl) ?_
  refine x_getW (mm := mX4_number) (xF_ok 6 7 6 0 2 rfl) hq6 X hw dX4_number_43 ?_
  rw [fv]
  refine x_ins0 (mm := mX4_number) (xT_ok 6 19 40 rfl) (by decide) (by decide) ta (by decide) (by decide) (by decide) X hw dX4_number_46 ?_
  refine lv_if_eq (tgt := 65) hx hb dX4_number_49 (by decide) (fun _ => ?_) (fun c9 => absurd rfl c9)
  refine lv_aload_n hx hb dX4_number_65 rfl (lv_at hl 0 rfl) ?_
  refine x_getW (mm := mX4_number) (xF_ok 6 7 6 0 2 rfl) hq6 X hw dX4_number_66 ?_
  rw [fv]
  refine x_cas (mm := mX4_number) (xT_ok 6 21 44 rfl) (by decide) (by decide) ta X hw dX4_number_69 ?_
  refine lv_iload_n hx hb dX4_number_72 rfl (lv_at hl 1 rfl) ?_
  refine va_lald hx hb hK.1 hw.1 (a - 64) 4 hAr rfl hin dX4_number_73 ?_
  exact W.lret hx hb hr (fun t ht _ => ⟨rfl, by rw [ht]; exact hw, by rw [ht]; exact ⟨hS.1, hS.2.1, fun _ h => by cases h⟩⟩) hS.2.2 dX4_number_74 hlk
theorem nm_put41 (hq6 : oT h q = 6) (ha : oR h q 0 = some a) (ta : oT h a = 41) (hin : vp_in i (oN h a)) : Met l yX4_puts (ws_ yX4_puts cX4_puts 4 none) { frames := 9, cells := 0, slots := 0, locals := 10300 } (xPc D G Hb h0 b0 β h [.ref q, .int i, .long v]) (nQc D G Hb h0 b0 β (pI h a (va_up (oI h a) i.toNatClampNeg (xcut 41 v))) none) 0 0 (fun q => Hb.size ≤ q) := by
  refine Met.ofW (cc := cX4_puts) (maxL := 4) (ret := none) (by decide) rfl ?_
  intro p e s m args below meth c s₁ B hml hv
  obtain ⟨rfl, hw, hS, hK⟩ := hv
  have hx := B.exec
  have hb := B.bytes
  have hr := B.returns
  have hlk := B.notSynchronized
  have hts := atoms_spec (ws := ws_ yX4_puts cX4_puts 4 none) B.pre
  have hts : ∀ w ∈ lw_all, w.before _ s = true := fun w h => hts w (List.mem_cons_of_mem _ h)
  have hown : s.vm.findClass "FootOut$Numbers" = some m.cls := findClass_of_methodNamed B.named
  have hl := lv_entry ([.ref (β q), .int i, .long v]) (n := 4) (Nat.le_of_ble_eq_true rfl)
  rw [lg_entry_eq]
  show W _ _ _ _ _ _ _ _ _ _ _ _ _ _ _ (F0 m 0 ((lg_sl ([.ref (β q), .int i, .long v]) ++ List.replicate (4 - (lg_sl ([.ref (β q), .int i, .long v])).length) Slot.unset).toArray) [])
  generalize (lg_sl ([.ref (β q), .int i, .long v]) ++ List.replicate (4 - (lg_sl ([.ref (β q), .int i, .long v])).length) Slot.unset).toArray = ls at hl ⊢
  have hl : lv_has ls 4 [(0, .ref (β q)), (1, .int i), (2, .long v)] := hl
  have X : xCt D G Hb h0 b0 (((6, false, yX4_puts, cX4_puts, 4, none) : xM)) p s m _ meth c := ⟨hx, hb, hml, hown, hts, fun q => (by cases q), hK⟩
  have fv : xfv h β q 0 (2 % 10) = .ref (β a) := by
    show va_rf ((oR h q 0).map β) = _
    rw [ha]
    rfl
  have hle := hw.2.2.lt (a := a) (by rw [ta]; exact Or.inr ⟨by omega, by omega⟩)
  have hAr := xaI (G := G) hw.2.2 ta (by omega) (by omega)
  refine lv_aload_n hx hb dX4_puts_0 rfl (lv_at hl 0 rfl) ?_
  refine x_getW (mm := ((6, false, yX4_puts, cX4_puts, 4, none) : xM)) (xF_ok 6 7 6 0 2 rfl) hq6 X hw dX4_puts_1 ?_
  rw [fv]
  refine x_ins1 (mm := ((6, false, yX4_puts, cX4_puts, 4, none) : xM)) (xT_ok 6 15 41 rfl) (by decide) (by decide) ta X hw dX4_puts_4 ?_
  refine lv_if_eq (tgt := 25) hx hb dX4_puts_7 (by decide) (fun c9 => absurd c9 (by decide)) (fun _ => ?_)
  refine lv_aload_n hx hb dX4_puts_10 rfl (lv_at hl 0 rfl) ?_
  refine x_getW (mm := ((6, false, yX4_puts, cX4_puts, 4, none) : xM)) (xF_ok 6 7 6 0 2 rfl) hq6 X hw dX4_puts_11 ?_
  rw [fv]
  refine x_cas (mm := ((6, false, yX4_puts, cX4_puts, 4, none) : xM)) (xT_ok 6 15 41 rfl) (by decide) (by decide) ta X hw dX4_puts_14 ?_
  refine lv_iload_n hx hb dX4_puts_17 rfl (lv_at hl 1 rfl) ?_
  refine lv_lload_n hx hb dX4_puts_18 rfl (lv_at hl 2 rfl) ?_
  refine lv_l2i (v := v.toInt32) hx hb dX4_puts_19 rfl ?_
  refine lv_i2b (v := v.toInt32.toInt8.toInt32) hx hb dX4_puts_20 rfl ?_
  refine va_bast hx hb hK.1 hw.1 hw.2.1 hS (a - 64) 1 hAr rfl hin dX4_puts_21 fun H1 locs1 hP1 hD1 hS1 => ?_
  have e9 := xw_set (G := G) (β := β) (h := h) (a := a) (h' := pI h a (va_up (oI h a) i.toNatClampNeg (xcut 41 v))) hle.1 rfl (fun b hb => xce_nI hb)
  rw [xceI ta (by omega) (by omega)] at e9
  have hwF : xWd D G Hb h0 b0 β (pI h a (va_up (oI h a) i.toNatClampNeg (xcut 41 v))) H1 := ⟨by rw [e9]; exact hP1, by rw [e9]; exact hD1, xok_pI hle.1 hw.2.2⟩
  refine lv_goto (tgt := 84) hx hb dX4_puts_22 (by decide) ?_
  exact W.vret hx hb hr (fun t ht _ => ⟨rfl, by rw [ht]; exact hwF, by rw [ht]; exact ⟨hS1.1, hS1.2.1, fun _ h => by cases h⟩⟩) hS1.2.2 dX4_puts_84 hlk
theorem nm_put43 (hq6 : oT h q = 6) (ha : oR h q 0 = some a) (ta : oT h a = 43) (hin : vp_in i (oN h a)) : Met l yX4_puts (ws_ yX4_puts cX4_puts 4 none) { frames := 9, cells := 0, slots := 0, locals := 10300 } (xPc D G Hb h0 b0 β h [.ref q, .int i, .long v]) (nQc D G Hb h0 b0 β (pI h a (va_up (oI h a) i.toNatClampNeg (xcut 43 v))) none) 0 0 (fun q => Hb.size ≤ q) := by
  refine Met.ofW (cc := cX4_puts) (maxL := 4) (ret := none) (by decide) rfl ?_
  intro p e s m args below meth c s₁ B hml hv
  obtain ⟨rfl, hw, hS, hK⟩ := hv
  have hx := B.exec
  have hb := B.bytes
  have hr := B.returns
  have hlk := B.notSynchronized
  have hts := atoms_spec (ws := ws_ yX4_puts cX4_puts 4 none) B.pre
  have hts : ∀ w ∈ lw_all, w.before _ s = true := fun w h => hts w (List.mem_cons_of_mem _ h)
  have hown : s.vm.findClass "FootOut$Numbers" = some m.cls := findClass_of_methodNamed B.named
  have hl := lv_entry ([.ref (β q), .int i, .long v]) (n := 4) (Nat.le_of_ble_eq_true rfl)
  rw [lg_entry_eq]
  show W _ _ _ _ _ _ _ _ _ _ _ _ _ _ _ (F0 m 0 ((lg_sl ([.ref (β q), .int i, .long v]) ++ List.replicate (4 - (lg_sl ([.ref (β q), .int i, .long v])).length) Slot.unset).toArray) [])
  generalize (lg_sl ([.ref (β q), .int i, .long v]) ++ List.replicate (4 - (lg_sl ([.ref (β q), .int i, .long v])).length) Slot.unset).toArray = ls at hl ⊢
  have hl : lv_has ls 4 [(0, .ref (β q)), (1, .int i), (2, .long v)] := hl
  have X : xCt D G Hb h0 b0 (((6, false, yX4_puts, cX4_puts, 4, none) : xM)) p s m _ meth c := ⟨hx, hb, hml, hown, hts, fun q => (by cases q), hK⟩
  have fv : xfv h β q 0 (2 % 10) = .ref (β a) := by
    show va_rf ((oR h q 0).map β) = _
    rw [ha]
    rfl
  have hle := hw.2.2.lt (a := a) (by rw [ta]; exact Or.inr ⟨by omega, by omega⟩)
  have hAr := xaI (G := G) hw.2.2 ta (by omega) (by omega)
  refine lv_aload_n hx hb dX4_puts_0 rfl (lv_at hl 0 rfl) ?_
  refine x_getW (mm := ((6, false, yX4_puts, cX4_puts, 4, none) : xM)) (xF_ok 6 7 6 0 2 rfl) hq6 X hw dX4_puts_1 ?_
  rw [fv]
  refine x_ins0 (mm := ((6, false, yX4_puts, cX4_puts, 4, none) : xM)) (xT_ok 6 15 41 rfl) (by decide) (by decide) ta (by decide) (by decide) (by decide) X hw dX4_puts_4 ?_
  refine lv_if_eq (tgt := 25) hx hb dX4_puts_7 (by decide) (fun _ => ?_) (fun c9 => absurd rfl c9)
  refine lv_aload_n hx hb dX4_puts_25 rfl (lv_at hl 0 rfl) ?_
  refine x_getW (mm := ((6, false, yX4_puts, cX4_puts, 4, none) : xM)) (xF_ok 6 7 6 0 2 rfl) hq6 X hw dX4_puts_26 ?_
  rw [fv]
  refine x_ins1 (mm := ((6, false, yX4_puts, cX4_puts, 4, none) : xM)) (xT_ok 6 17 43 rfl) (by decide) (by decide) ta X hw dX4_puts_29 ?_
  refine lv_if_eq (tgt := 50) hx hb dX4_puts_32 (by decide) (fun c9 => absurd c9 (by decide)) (fun _ => ?_)
  refine lv_aload_n hx hb dX4_puts_35 rfl (lv_at hl 0 rfl) ?_
  refine x_getW (mm := ((6, false, yX4_puts, cX4_puts, 4, none) : xM)) (xF_ok 6 7 6 0 2 rfl) hq6 X hw dX4_puts_36 ?_
  rw [fv]
  refine x_cas (mm := ((6, false, yX4_puts, cX4_puts, 4, none) : xM)) (xT_ok 6 17 43 rfl) (by decide) (by decide) ta X hw dX4_puts_39 ?_
  refine lv_iload_n hx hb dX4_puts_42 rfl (lv_at hl 1 rfl) ?_
  refine lv_lload_n hx hb dX4_puts_43 rfl (lv_at hl 2 rfl) ?_
  refine lv_l2i (v := v.toInt32) hx hb dX4_puts_44 rfl ?_
  refine lv_i2s (v := v.toInt32.toInt16.toInt32) hx hb dX4_puts_45 rfl ?_
  refine va_sast hx hb hK.1 hw.1 hw.2.1 hS (a - 64) 3 hAr rfl hin dX4_puts_46 fun H1 locs1 hP1 hD1 hS1 => ?_
  have e9 := xw_set (G := G) (β := β) (h := h) (a := a) (h' := pI h a (va_up (oI h a) i.toNatClampNeg (xcut 43 v))) hle.1 rfl (fun b hb => xce_nI hb)
  rw [xceI ta (by omega) (by omega)] at e9
  have hwF : xWd D G Hb h0 b0 β (pI h a (va_up (oI h a) i.toNatClampNeg (xcut 43 v))) H1 := ⟨by rw [e9]; exact hP1, by rw [e9]; exact hD1, xok_pI hle.1 hw.2.2⟩
  refine lv_goto (tgt := 84) hx hb dX4_puts_47 (by decide) ?_
  exact W.vret hx hb hr (fun t ht _ => ⟨rfl, by rw [ht]; exact hwF, by rw [ht]; exact ⟨hS1.1, hS1.2.1, fun _ h => by cases h⟩⟩) hS1.2.2 dX4_puts_84 hlk
theorem nm_put40 (hq6 : oT h q = 6) (ha : oR h q 0 = some a) (ta : oT h a = 40) (hin : vp_in i (oN h a)) : Met l yX4_puts (ws_ yX4_puts cX4_puts 4 none) { frames := 9, cells := 0, slots := 0, locals := 10300 } (xPc D G Hb h0 b0 β h [.ref q, .int i, .long v]) (nQc D G Hb h0 b0 β (pI h a (va_up (oI h a) i.toNatClampNeg (xcut 40 v))) none) 0 0 (fun q => Hb.size ≤ q) := by
  refine Met.ofW (cc := cX4_puts) (maxL := 4) (ret := none) (by decide) rfl ?_
  intro p e s m args below meth c s₁ B hml hv
  obtain ⟨rfl, hw, hS, hK⟩ := hv
  have hx := B.exec
  have hb := B.bytes
  have hr := B.returns
  have hlk := B.notSynchronized
  have hts := atoms_spec (ws := ws_ yX4_puts cX4_puts 4 none) B.pre
  have hts : ∀ w ∈ lw_all, w.before _ s = true := fun w h => hts w (List.mem_cons_of_mem _ h)
  have hown : s.vm.findClass "FootOut$Numbers" = some m.cls := findClass_of_methodNamed B.named
  have hl := lv_entry ([.ref (β q), .int i, .long v]) (n := 4) (Nat.le_of_ble_eq_true rfl)
  rw [lg_entry_eq]
  show W _ _ _ _ _ _ _ _ _ _ _ _ _ _ _ (F0 m 0 ((lg_sl ([.ref (β q), .int i, .long v]) ++ List.replicate (4 - (lg_sl ([.ref (β q), .int i, .long v])).length) Slot.unset).toArray) [])
  generalize (lg_sl ([.ref (β q), .int i, .long v]) ++ List.replicate (4 - (lg_sl ([.ref (β q), .int i, .long v])).length) Slot.unset).toArray = ls at hl ⊢
  have hl : lv_has ls 4 [(0, .ref (β q)), (1, .int i), (2, .long v)] := hl
  have X : xCt D G Hb h0 b0 (((6, false, yX4_puts, cX4_puts, 4, none) : xM)) p s m _ meth c := ⟨hx, hb, hml, hown, hts, fun q => (by cases q), hK⟩
  have fv : xfv h β q 0 (2 % 10) = .ref (β a) := by
    show va_rf ((oR h q 0).map β) = _
    rw [ha]
    rfl
  have hle := hw.2.2.lt (a := a) (by rw [ta]; exact Or.inr ⟨by omega, by omega⟩)
  have hAr := xaI (G := G) hw.2.2 ta (by omega) (by omega)
  refine lv_aload_n hx hb dX4_puts_0 rfl (lv_at hl 0 rfl) ?_
  refine x_getW (mm := ((6, false, yX4_puts, cX4_puts, 4, none) : xM)) (xF_ok 6 7 6 0 2 rfl) hq6 X hw dX4_puts_1 ?_
  rw [fv]
  refine x_ins0 (mm := ((6, false, yX4_puts, cX4_puts, 4, none) : xM)) (xT_ok 6 15 41 rfl) (by decide) (by decide) ta (by decide) (by decide) (by decide) X hw dX4_puts_4 ?_
  refine lv_if_eq (tgt := 25) hx hb dX4_puts_7 (by decide) (fun _ => ?_) (fun c9 => absurd rfl c9)
  refine lv_aload_n hx hb dX4_puts_25 rfl (lv_at hl 0 rfl) ?_
  refine x_getW (mm := ((6, false, yX4_puts, cX4_puts, 4, none) : xM)) (xF_ok 6 7 6 0 2 rfl) hq6 X hw dX4_puts_26 ?_
  rw [fv]
  refine x_ins0 (mm := ((6, false, yX4_puts, cX4_puts, 4, none) : xM)) (xT_ok 6 17 43 rfl) (by decide) (by decide) ta (by decide) (by decide) (by decide) X hw dX4_puts_29 ?_
  refine lv_if_eq (tgt := 50) hx hb dX4_puts_32 (by decide) (fun _ => ?_) (fun c9 => absurd rfl c9)
  refine lv_aload_n hx hb dX4_puts_50 rfl (lv_at hl 0 rfl) ?_
  refine x_getW (mm := ((6, false, yX4_puts, cX4_puts, 4, none) : xM)) (xF_ok 6 7 6 0 2 rfl) hq6 X hw dX4_puts_51 ?_
  rw [fv]
  refine x_ins1 (mm := ((6, false, yX4_puts, cX4_puts, 4, none) : xM)) (xT_ok 6 19 40 rfl) (by decide) (by decide) ta X hw dX4_puts_54 ?_
  refine lv_if_eq (tgt := 74) hx hb dX4_puts_57 (by decide) (fun c9 => absurd c9 (by decide)) (fun _ => ?_)
  refine lv_aload_n hx hb dX4_puts_60 rfl (lv_at hl 0 rfl) ?_
  refine x_getW (mm := ((6, false, yX4_puts, cX4_puts, 4, none) : xM)) (xF_ok 6 7 6 0 2 rfl) hq6 X hw dX4_puts_61 ?_
  rw [fv]
  refine x_cas (mm := ((6, false, yX4_puts, cX4_puts, 4, none) : xM)) (xT_ok 6 19 40 rfl) (by decide) (by decide) ta X hw dX4_puts_64 ?_
  refine lv_iload_n hx hb dX4_puts_67 rfl (lv_at hl 1 rfl) ?_
  refine lv_lload_n hx hb dX4_puts_68 rfl (lv_at hl 2 rfl) ?_
  refine lv_l2i (v := v.toInt32) hx hb dX4_puts_69 rfl ?_
  refine va_iast hx hb hK.1 hw.1 hw.2.1 hS (a - 64) 0 hAr rfl hin dX4_puts_70 fun H1 locs1 hP1 hD1 hS1 => ?_
  have e9 := xw_set (G := G) (β := β) (h := h) (a := a) (h' := pI h a (va_up (oI h a) i.toNatClampNeg (xcut 40 v))) hle.1 rfl (fun b hb => xce_nI hb)
  rw [xceI ta (by omega) (by omega)] at e9
  have hwF : xWd D G Hb h0 b0 β (pI h a (va_up (oI h a) i.toNatClampNeg (xcut 40 v))) H1 := ⟨by rw [e9]; exact hP1, by rw [e9]; exact hD1, xok_pI hle.1 hw.2.2⟩
  refine lv_goto (tgt := 84) hx hb dX4_puts_71 (by decide) ?_
  exact W.vret hx hb hr (fun t ht _ => ⟨rfl, by rw [ht]; exact hwF, by rw [ht]; exact ⟨hS1.1, hS1.2.1, fun _ h => by cases h⟩⟩) hS1.2.2 dX4_puts_84 hlk
theorem nm_put44 (hq6 : oT h q = 6) (ha : oR h q 0 = some a) (ta : oT h a = 44) (hin : vp_in i (oN h a)) : Met l yX4_puts (ws_ yX4_puts cX4_puts 4 none) { frames := 9, cells := 0, slots := 0, locals := 10300 } (xPc D G Hb h0 b0 β h [.ref q, .int i, .long v]) (nQc D G Hb h0 b0 β (pL h a (va_up (oL h a) i.toNatClampNeg v)) none) 0 0 (fun q => Hb.size ≤ q) := by
  refine Met.ofW (cc := cX4_puts) (maxL := 4) (ret := none) (by decide) rfl ?_
  intro p e s m args below meth c s₁ B hml hv
  obtain ⟨rfl, hw, hS, hK⟩ := hv
  have hx := B.exec
  have hb := B.bytes
  have hr := B.returns
  have hlk := B.notSynchronized
  have hts := atoms_spec (ws := ws_ yX4_puts cX4_puts 4 none) B.pre
  have hts : ∀ w ∈ lw_all, w.before _ s = true := fun w h => hts w (List.mem_cons_of_mem _ h)
  have hown : s.vm.findClass "FootOut$Numbers" = some m.cls := findClass_of_methodNamed B.named
  have hl := lv_entry ([.ref (β q), .int i, .long v]) (n := 4) (Nat.le_of_ble_eq_true rfl)
  rw [lg_entry_eq]
  show W _ _ _ _ _ _ _ _ _ _ _ _ _ _ _ (F0 m 0 ((lg_sl ([.ref (β q), .int i, .long v]) ++ List.replicate (4 - (lg_sl ([.ref (β q), .int i, .long v])).length) Slot.unset).toArray) [])
  generalize (lg_sl ([.ref (β q), .int i, .long v]) ++ List.replicate (4 - (lg_sl ([.ref (β q), .int i, .long v])).length) Slot.unset).toArray = ls at hl ⊢
  have hl : lv_has ls 4 [(0, .ref (β q)), (1, .int i), (2, .long v)] := hl
  have X : xCt D G Hb h0 b0 (((6, false, yX4_puts, cX4_puts, 4, none) : xM)) p s m _ meth c := ⟨hx, hb, hml, hown, hts, fun q => (by cases q), hK⟩
  have fv : xfv h β q 0 (2 % 10) = .ref (β a) := by
    show va_rf ((oR h q 0).map β) = _
    rw [ha]
    rfl
  have hle := hw.2.2.lt (a := a) (by rw [ta]; exact Or.inr ⟨by omega, by omega⟩)
  have hAr := xaL (G := G) hw.2.2 ta
  refine lv_aload_n hx hb dX4_puts_0 rfl (lv_at hl 0 rfl) ?_
  refine x_getW (mm := ((6, false, yX4_puts, cX4_puts, 4, none) : xM)) (xF_ok 6 7 6 0 2 rfl) hq6 X hw dX4_puts_1 ?_
  rw [fv]
  refine x_ins0 (mm := ((6, false, yX4_puts, cX4_puts, 4, none) : xM)) (xT_ok 6 15 41 rfl) (by decide) (by decide) ta (by decide) (by decide) (by decide) X hw dX4_puts_4 ?_
  refine lv_if_eq (tgt := 25) hx hb dX4_puts_7 (by decide) (fun _ => ?_) (fun c9 => absurd rfl c9)
  refine lv_aload_n hx hb dX4_puts_25 rfl (lv_at hl 0 rfl) ?_
  refine x_getW (mm := ((6, false, yX4_puts, cX4_puts, 4, none) : xM)) (xF_ok 6 7 6 0 2 rfl) hq6 X hw dX4_puts_26 ?_
  rw [fv]
  refine x_ins0 (mm := ((6, false, yX4_puts, cX4_puts, 4, none) : xM)) (xT_ok 6 17 43 rfl) (by decide) (by decide) ta (by decide) (by decide) (by decide) X hw dX4_puts_29 ?_
  refine lv_if_eq (tgt := 50) hx hb dX4_puts_32 (by decide) (fun _ => ?_) (fun c9 => absurd rfl c9)
  refine lv_aload_n hx hb dX4_puts_50 rfl (lv_at hl 0 rfl) ?_
  refine x_getW (mm := ((6, false, yX4_puts, cX4_puts, 4, none) : xM)) (xF_ok 6 7 6 0 2 rfl) hq6 X hw dX4_puts_51 ?_
  rw [fv]
  refine x_ins0 (mm := ((6, false, yX4_puts, cX4_puts, 4, none) : xM)) (xT_ok 6 19 40 rfl) (by decide) (by decide) ta (by decide) (by decide) (by decide) X hw dX4_puts_54 ?_
  refine lv_if_eq (tgt := 74) hx hb dX4_puts_57 (by decide) (fun _ => ?_) (fun c9 => absurd rfl c9)
  refine lv_aload_n hx hb dX4_puts_74 rfl (lv_at hl 0 rfl) ?_
  refine x_getW (mm := ((6, false, yX4_puts, cX4_puts, 4, none) : xM)) (xF_ok 6 7 6 0 2 rfl) hq6 X hw dX4_puts_75 ?_
  rw [fv]
  refine x_cas (mm := ((6, false, yX4_puts, cX4_puts, 4, none) : xM)) (xT_ok 6 21 44 rfl) (by decide) (by decide) ta X hw dX4_puts_78 ?_
  refine lv_iload_n hx hb dX4_puts_81 rfl (lv_at hl 1 rfl) ?_
  refine lv_lload_n hx hb dX4_puts_82 rfl (lv_at hl 2 rfl) ?_
  refine va_last hx hb hK.1 hw.1 hw.2.1 hS (a - 64) 4 hAr rfl hin dX4_puts_83 fun H1 locs1 hP1 hD1 hS1 => ?_
  have e9 := xw_set (G := G) (β := β) (h := h) (a := a) (h' := pL h a (va_up (oL h a) i.toNatClampNeg v)) hle.1 rfl (fun b hb => xce_nL hb)
  rw [xceL ta] at e9
  have hwF : xWd D G Hb h0 b0 β (pL h a (va_up (oL h a) i.toNatClampNeg v)) H1 := ⟨by rw [e9]; exact hP1, by rw [e9]; exact hD1, xok_pL hw.2.2⟩
  exact W.vret hx hb hr (fun t ht _ => ⟨rfl, by rw [ht]; exact hwF, by rw [ht]; exact ⟨hS1.1, hS1.2.1, fun _ h => by cases h⟩⟩) hS1.2.2 dX4_puts_84 hlk
theorem nm_oob41 (hlt : l.stackTraces = false) (hq6 : oT h q = 6) (ha : oR h q 0 = some a) (ta : oT h a = 41) (hn : oN h a ≤ 65536) (hout : ¬ vp_in i (oN h a)) : vx_Met l yX4_puts (ws_ yX4_puts cX4_puts 4 none) { frames := 9, cells := 3, slots := 300, locals := 10300 } (xPc D G Hb h0 b0 β h [.ref q, .int i, .long v]) (fun _ _ _ _ => False) (nXc D G Hb h0 b0 β h "java/lang/ArrayIndexOutOfBoundsException") 3 300 (fun q => Hb.size ≤ q) := by
  refine vx_ofW (cc := cX4_puts) (maxL := 4) (ret := none) (by decide) rfl ?_
  intro p e s m args below meth c s₁ B hml htb hv
  obtain ⟨rfl, hw, hS, hK⟩ := hv
  have hx := B.exec
  have hb := B.bytes
  have hr := B.returns
  have hlk := B.notSynchronized
  have hts := atoms_spec (ws := ws_ yX4_puts cX4_puts 4 none) B.pre
  have hts : ∀ w ∈ lw_all, w.before _ s = true := fun w h => hts w (List.mem_cons_of_mem _ h)
  have hown : s.vm.findClass "FootOut$Numbers" = some m.cls := findClass_of_methodNamed B.named
  have hl := lv_entry ([.ref (β q), .int i, .long v]) (n := 4) (Nat.le_of_ble_eq_true rfl)
  rw [lg_entry_eq]
  show W _ _ _ _ _ _ _ _ _ _ _ _ _ _ _ (F0 m 0 ((lg_sl ([.ref (β q), .int i, .long v]) ++ List.replicate (4 - (lg_sl ([.ref (β q), .int i, .long v])).length) Slot.unset).toArray) [])
  generalize (lg_sl ([.ref (β q), .int i, .long v]) ++ List.replicate (4 - (lg_sl ([.ref (β q), .int i, .long v])).length) Slot.unset).toArray = ls at hl ⊢
  have hl : lv_has ls 4 [(0, .ref (β q)), (1, .int i), (2, .long v)] := hl
  have X : xCt D G Hb h0 b0 (((6, false, yX4_puts, cX4_puts, 4, none) : xM)) p s m _ meth c := ⟨hx, hb, hml, hown, hts, fun q => (by cases q), hK⟩
  have fv : xfv h β q 0 (2 % 10) = .ref (β a) := by
    show va_rf ((oR h q 0).map β) = _
    rw [ha]
    rfl
  obtain ⟨adV, -, -, -, -, -, hU, hN⟩ := hK.2.2.2.2.2.2.2.2
  have hU := hU.kept hS.2.1
  have hN := hN.kept hS.2.1
  have hAr := xaI (G := G) hw.2.2 ta (by omega) (by omega)
  refine lv_aload_n hx hb dX4_puts_0 rfl (lv_at hl 0 rfl) ?_
  refine x_getW (mm := ((6, false, yX4_puts, cX4_puts, 4, none) : xM)) (xF_ok 6 7 6 0 2 rfl) hq6 X hw dX4_puts_1 ?_
  rw [fv]
  refine x_ins1 (mm := ((6, false, yX4_puts, cX4_puts, 4, none) : xM)) (xT_ok 6 15 41 rfl) (by decide) (by decide) ta X hw dX4_puts_4 ?_
  refine lv_if_eq (tgt := 25) hx hb dX4_puts_7 (by decide) (fun c9 => absurd c9 (by decide)) (fun _ => ?_)
  refine lv_aload_n hx hb dX4_puts_10 rfl (lv_at hl 0 rfl) ?_
  refine x_getW (mm := ((6, false, yX4_puts, cX4_puts, 4, none) : xM)) (xF_ok 6 7 6 0 2 rfl) hq6 X hw dX4_puts_11 ?_
  rw [fv]
  refine x_cas (mm := ((6, false, yX4_puts, cX4_puts, 4, none) : xM)) (xT_ok 6 15 41 rfl) (by decide) (by decide) ta X hw dX4_puts_14 ?_
  refine lv_iload_n hx hb dX4_puts_17 rfl (lv_at hl 1 rfl) ?_
  refine lv_lload_n hx hb dX4_puts_18 rfl (lv_at hl 2 rfl) ?_
  refine lv_l2i (v := v.toInt32) hx hb dX4_puts_19 rfl ?_
  refine lv_i2b (v := v.toInt32.toInt8.toInt32) hx hb dX4_puts_20 rfl ?_
  refine vx_bastZ hx hb hK.1 hw.1 (a - 64) 1 hAr rfl hout dX4_puts_21 fun tx etx => ?_
  refine vx_vm (names := ["java/lang/IndexOutOfBoundsException", "java/lang/RuntimeException", "java/lang/Exception"]) (nb := 212) (A := fun q => Hb.size ≤ q) hx hlt (by decide +kernel) (by decide +kernel) (by decide +kernel) (by decide +kernel) (w_aio hts hK) w_aio_g hU hN ⟨Nat.le_refl _, fun _ _ _ => rfl, fun _ h => by cases h⟩ (hl.1.trans hml.symm) (by rw [etx]; exact index_text_modelled i (oN h a)) (by rw [etx]; exact index_text_bytes i (by omega)) (by decide) (by show 3 + 4 < 9; omega) (by show 0 + 10240 ≤ 10300; omega) (by decide) (by show 0 + 3 ≤ 3; omega) (by show 0 + (212 + 10) ≤ 300; omega) hlk fun H1 q9 ce hsz hkp hS1 hce hcv hcl => ?_
  have hwF : xWd D G Hb h0 b0 β h H1 := ⟨hw.1.kept (fun i9 y9 hy => hkp _ ((hw.1 i9 y9 hy).lt)), hw.2.1, hw.2.2⟩
  have hSF : va_S (fun q => Hb.size ≤ q) Hb H1 [] := ⟨Nat.le_trans hS.1 hS1.1, fun y9 h1 h2 => (hS1.2.1 y9 (Nat.lt_of_lt_of_le h1 hS.1) h2).trans (hS.2.1 y9 h1 h2), fun _ h => by cases h⟩
  exact vx_out (fun x9 h9 => (htb x9 h9).elim) hlk hce hcv hcl (fun t ht _ => ⟨rfl, by rw [ht]; exact hwF, by rw [ht]; exact hSF⟩) hS1.2.2 (by show _ ≤ 3; omega) (by show _ ≤ 300; omega)
theorem nm_oob43 (hlt : l.stackTraces = false) (hq6 : oT h q = 6) (ha : oR h q 0 = some a) (ta : oT h a = 43) (hn : oN h a ≤ 65536) (hout : ¬ vp_in i (oN h a)) : vx_Met l yX4_puts (ws_ yX4_puts cX4_puts 4 none) { frames := 9, cells := 3, slots := 300, locals := 10300 } (xPc D G Hb h0 b0 β h [.ref q, .int i, .long v]) (fun _ _ _ _ => False) (nXc D G Hb h0 b0 β h "java/lang/ArrayIndexOutOfBoundsException") 3 300 (fun q => Hb.size ≤ q) := by
  refine vx_ofW (cc := cX4_puts) (maxL := 4) (ret := none) (by decide) rfl ?_
  intro p e s m args below meth c s₁ B hml htb hv
  obtain ⟨rfl, hw, hS, hK⟩ := hv
  have hx := B.exec
  have hb := B.bytes
  have hr := B.returns
  have hlk := B.notSynchronized
  have hts := atoms_spec (ws := ws_ yX4_puts cX4_puts 4 none) B.pre
  have hts : ∀ w ∈ lw_all, w.before _ s = true := fun w h => hts w (List.mem_cons_of_mem _ h)
  have hown : s.vm.findClass "FootOut$Numbers" = some m.cls := findClass_of_methodNamed B.named
  have hl := lv_entry ([.ref (β q), .int i, .long v]) (n := 4) (Nat.le_of_ble_eq_true rfl)
  rw [lg_entry_eq]
  show W _ _ _ _ _ _ _ _ _ _ _ _ _ _ _ (F0 m 0 ((lg_sl ([.ref (β q), .int i, .long v]) ++ List.replicate (4 - (lg_sl ([.ref (β q), .int i, .long v])).length) Slot.unset).toArray) [])
  generalize (lg_sl ([.ref (β q), .int i, .long v]) ++ List.replicate (4 - (lg_sl ([.ref (β q), .int i, .long v])).length) Slot.unset).toArray = ls at hl ⊢
  have hl : lv_has ls 4 [(0, .ref (β q)), (1, .int i), (2, .long v)] := hl
  have X : xCt D G Hb h0 b0 (((6, false, yX4_puts, cX4_puts, 4, none) : xM)) p s m _ meth c := ⟨hx, hb, hml, hown, hts, fun q => (by cases q), hK⟩
  have fv : xfv h β q 0 (2 % 10) = .ref (β a) := by
    show va_rf ((oR h q 0).map β) = _
    rw [ha]
    rfl
  obtain ⟨adV, -, -, -, -, -, hU, hN⟩ := hK.2.2.2.2.2.2.2.2
  have hU := hU.kept hS.2.1
  have hN := hN.kept hS.2.1
  have hAr := xaI (G := G) hw.2.2 ta (by omega) (by omega)
  refine lv_aload_n hx hb dX4_puts_0 rfl (lv_at hl 0 rfl) ?_
  refine x_getW (mm := ((6, false, yX4_puts, cX4_puts, 4, none) : xM)) (xF_ok 6 7 6 0 2 rfl) hq6 X hw dX4_puts_1 ?_
  rw [fv]
  refine x_ins0 (mm := ((6, false, yX4_puts, cX4_puts, 4, none) : xM)) (xT_ok 6 15 41 rfl) (by decide) (by decide) ta (by decide) (by decide) (by decide) X hw dX4_puts_4 ?_
  refine lv_if_eq (tgt := 25) hx hb dX4_puts_7 (by decide) (fun _ => ?_) (fun c9 => absurd rfl c9)
  refine lv_aload_n hx hb dX4_puts_25 rfl (lv_at hl 0 rfl) ?_
  refine x_getW (mm := ((6, false, yX4_puts, cX4_puts, 4, none) : xM)) (xF_ok 6 7 6 0 2 rfl) hq6 X hw dX4_puts_26 ?_
  rw [fv]
  refine x_ins1 (mm := ((6, false, yX4_puts, cX4_puts, 4, none) : xM)) (xT_ok 6 17 43 rfl) (by decide) (by decide) ta X hw dX4_puts_29 ?_
  refine lv_if_eq (tgt := 50) hx hb dX4_puts_32 (by decide) (fun c9 => absurd c9 (by decide)) (fun _ => ?_)
  refine lv_aload_n hx hb dX4_puts_35 rfl (lv_at hl 0 rfl) ?_
  refine x_getW (mm := ((6, false, yX4_puts, cX4_puts, 4, none) : xM)) (xF_ok 6 7 6 0 2 rfl) hq6 X hw dX4_puts_36 ?_
  rw [fv]
  refine x_cas (mm := ((6, false, yX4_puts, cX4_puts, 4, none) : xM)) (xT_ok 6 17 43 rfl) (by decide) (by decide) ta X hw dX4_puts_39 ?_
  refine lv_iload_n hx hb dX4_puts_42 rfl (lv_at hl 1 rfl) ?_
  refine lv_lload_n hx hb dX4_puts_43 rfl (lv_at hl 2 rfl) ?_
  refine lv_l2i (v := v.toInt32) hx hb dX4_puts_44 rfl ?_
  refine lv_i2s (v := v.toInt32.toInt16.toInt32) hx hb dX4_puts_45 rfl ?_
  refine vx_sastZ hx hb hK.1 hw.1 (a - 64) 3 hAr rfl hout dX4_puts_46 fun tx etx => ?_
  refine vx_vm (names := ["java/lang/IndexOutOfBoundsException", "java/lang/RuntimeException", "java/lang/Exception"]) (nb := 212) (A := fun q => Hb.size ≤ q) hx hlt (by decide +kernel) (by decide +kernel) (by decide +kernel) (by decide +kernel) (w_aio hts hK) w_aio_g hU hN ⟨Nat.le_refl _, fun _ _ _ => rfl, fun _ h => by cases h⟩ (hl.1.trans hml.symm) (by rw [etx]; exact index_text_modelled i (oN h a)) (by rw [etx]; exact index_text_bytes i (by omega)) (by decide) (by show 3 + 4 < 9; omega) (by show 0 + 10240 ≤ 10300; omega) (by decide) (by show 0 + 3 ≤ 3; omega) (by show 0 + (212 + 10) ≤ 300; omega) hlk fun H1 q9 ce hsz hkp hS1 hce hcv hcl => ?_
  have hwF : xWd D G Hb h0 b0 β h H1 := ⟨hw.1.kept (fun i9 y9 hy => hkp _ ((hw.1 i9 y9 hy).lt)), hw.2.1, hw.2.2⟩
  have hSF : va_S (fun q => Hb.size ≤ q) Hb H1 [] := ⟨Nat.le_trans hS.1 hS1.1, fun y9 h1 h2 => (hS1.2.1 y9 (Nat.lt_of_lt_of_le h1 hS.1) h2).trans (hS.2.1 y9 h1 h2), fun _ h => by cases h⟩
  exact vx_out (fun x9 h9 => (htb x9 h9).elim) hlk hce hcv hcl (fun t ht _ => ⟨rfl, by rw [ht]; exact hwF, by rw [ht]; exact hSF⟩) hS1.2.2 (by show _ ≤ 3; omega) (by show _ ≤ 300; omega)
theorem nm_oob40 (hlt : l.stackTraces = false) (hq6 : oT h q = 6) (ha : oR h q 0 = some a) (ta : oT h a = 40) (hn : oN h a ≤ 65536) (hout : ¬ vp_in i (oN h a)) : vx_Met l yX4_puts (ws_ yX4_puts cX4_puts 4 none) { frames := 9, cells := 3, slots := 300, locals := 10300 } (xPc D G Hb h0 b0 β h [.ref q, .int i, .long v]) (fun _ _ _ _ => False) (nXc D G Hb h0 b0 β h "java/lang/ArrayIndexOutOfBoundsException") 3 300 (fun q => Hb.size ≤ q) := by
  refine vx_ofW (cc := cX4_puts) (maxL := 4) (ret := none) (by decide) rfl ?_
  intro p e s m args below meth c s₁ B hml htb hv
  obtain ⟨rfl, hw, hS, hK⟩ := hv
  have hx := B.exec
  have hb := B.bytes
  have hr := B.returns
  have hlk := B.notSynchronized
  have hts := atoms_spec (ws := ws_ yX4_puts cX4_puts 4 none) B.pre
  have hts : ∀ w ∈ lw_all, w.before _ s = true := fun w h => hts w (List.mem_cons_of_mem _ h)
  have hown : s.vm.findClass "FootOut$Numbers" = some m.cls := findClass_of_methodNamed B.named
  have hl := lv_entry ([.ref (β q), .int i, .long v]) (n := 4) (Nat.le_of_ble_eq_true rfl)
  rw [lg_entry_eq]
  show W _ _ _ _ _ _ _ _ _ _ _ _ _ _ _ (F0 m 0 ((lg_sl ([.ref (β q), .int i, .long v]) ++ List.replicate (4 - (lg_sl ([.ref (β q), .int i, .long v])).length) Slot.unset).toArray) [])
  generalize (lg_sl ([.ref (β q), .int i, .long v]) ++ List.replicate (4 - (lg_sl ([.ref (β q), .int i, .long v])).length) Slot.unset).toArray = ls at hl ⊢
  have hl : lv_has ls 4 [(0, .ref (β q)), (1, .int i), (2, .long v)] := hl
  have X : xCt D G Hb h0 b0 (((6, false, yX4_puts, cX4_puts, 4, none) : xM)) p s m _ meth c := ⟨hx, hb, hml, hown, hts, fun q => (by cases q), hK⟩
  have fv : xfv h β q 0 (2 % 10) = .ref (β a) := by
    show va_rf ((oR h q 0).map β) = _
    rw [ha]
    rfl
  obtain ⟨adV, -, -, -, -, -, hU, hN⟩ := hK.2.2.2.2.2.2.2.2
  have hU := hU.kept hS.2.1
  have hN := hN.kept hS.2.1
  have hAr := xaI (G := G) hw.2.2 ta (by omega) (by omega)
  refine lv_aload_n hx hb dX4_puts_0 rfl (lv_at hl 0 rfl) ?_
  refine x_getW (mm := ((6, false, yX4_puts, cX4_puts, 4, none) : xM)) (xF_ok 6 7 6 0 2 rfl) hq6 X hw dX4_puts_1 ?_
  rw [fv]
  refine x_ins0 (mm := ((6, false, yX4_puts, cX4_puts, 4, none) : xM)) (xT_ok 6 15 41 rfl) (by decide) (by decide) ta (by decide) (by decide) (by decide) X hw dX4_puts_4 ?_
  refine lv_if_eq (tgt := 25) hx hb dX4_puts_7 (by decide) (fun _ => ?_) (fun c9 => absurd rfl c9)
  refine lv_aload_n hx hb dX4_puts_25 rfl (lv_at hl 0 rfl) ?_
  refine x_getW (mm := ((6, false, yX4_puts, cX4_puts, 4, none) : xM)) (xF_ok 6 7 6 0 2 rfl) hq6 X hw dX4_puts_26 ?_
  rw [fv]
  refine x_ins0 (mm := ((6, false, yX4_puts, cX4_puts, 4, none) : xM)) (xT_ok 6 17 43 rfl) (by decide) (by decide) ta (by decide) (by decide) (by decide) X hw dX4_puts_29 ?_
  refine lv_if_eq (tgt := 50) hx hb dX4_puts_32 (by decide) (fun _ => ?_) (fun c9 => absurd rfl c9)
  refine lv_aload_n hx hb dX4_puts_50 rfl (lv_at hl 0 rfl) ?_
  refine x_getW (mm := ((6, false, yX4_puts, cX4_puts, 4, none) : xM)) (xF_ok 6 7 6 0 2 rfl) hq6 X hw dX4_puts_51 ?_
  rw [fv]
  refine x_ins1 (mm := ((6, false, yX4_puts, cX4_puts, 4, none) : xM)) (xT_ok 6 19 40 rfl) (by decide) (by decide) ta X hw dX4_puts_54 ?_
  refine lv_if_eq (tgt := 74) hx hb dX4_puts_57 (by decide) (fun c9 => absurd c9 (by decide)) (fun _ => ?_)
  refine lv_aload_n hx hb dX4_puts_60 rfl (lv_at hl 0 rfl) ?_
  refine x_getW (mm := ((6, false, yX4_puts, cX4_puts, 4, none) : xM)) (xF_ok 6 7 6 0 2 rfl) hq6 X hw dX4_puts_61 ?_
  rw [fv]
  refine x_cas (mm := ((6, false, yX4_puts, cX4_puts, 4, none) : xM)) (xT_ok 6 19 40 rfl) (by decide) (by decide) ta X hw dX4_puts_64 ?_
  refine lv_iload_n hx hb dX4_puts_67 rfl (lv_at hl 1 rfl) ?_
  refine lv_lload_n hx hb dX4_puts_68 rfl (lv_at hl 2 rfl) ?_
  refine lv_l2i (v := v.toInt32) hx hb dX4_puts_69 rfl ?_
  refine vx_iastZ hx hb hK.1 hw.1 (a - 64) 0 hAr rfl hout dX4_puts_70 fun tx etx => ?_
  refine vx_vm (names := ["java/lang/IndexOutOfBoundsException", "java/lang/RuntimeException", "java/lang/Exception"]) (nb := 212) (A := fun q => Hb.size ≤ q) hx hlt (by decide +kernel) (by decide +kernel) (by decide +kernel) (by decide +kernel) (w_aio hts hK) w_aio_g hU hN ⟨Nat.le_refl _, fun _ _ _ => rfl, fun _ h => by cases h⟩ (hl.1.trans hml.symm) (by rw [etx]; exact index_text_modelled i (oN h a)) (by rw [etx]; exact index_text_bytes i (by omega)) (by decide) (by show 3 + 4 < 9; omega) (by show 0 + 10240 ≤ 10300; omega) (by decide) (by show 0 + 3 ≤ 3; omega) (by show 0 + (212 + 10) ≤ 300; omega) hlk fun H1 q9 ce hsz hkp hS1 hce hcv hcl => ?_
  have hwF : xWd D G Hb h0 b0 β h H1 := ⟨hw.1.kept (fun i9 y9 hy => hkp _ ((hw.1 i9 y9 hy).lt)), hw.2.1, hw.2.2⟩
  have hSF : va_S (fun q => Hb.size ≤ q) Hb H1 [] := ⟨Nat.le_trans hS.1 hS1.1, fun y9 h1 h2 => (hS1.2.1 y9 (Nat.lt_of_lt_of_le h1 hS.1) h2).trans (hS.2.1 y9 h1 h2), fun _ h => by cases h⟩
  exact vx_out (fun x9 h9 => (htb x9 h9).elim) hlk hce hcv hcl (fun t ht _ => ⟨rfl, by rw [ht]; exact hwF, by rw [ht]; exact hSF⟩) hS1.2.2 (by show _ ≤ 3; omega) (by show _ ≤ 300; omega)
theorem nm_oob44 (hlt : l.stackTraces = false) (hq6 : oT h q = 6) (ha : oR h q 0 = some a) (ta : oT h a = 44) (hn : oN h a ≤ 65536) (hout : ¬ vp_in i (oN h a)) : vx_Met l yX4_puts (ws_ yX4_puts cX4_puts 4 none) { frames := 9, cells := 3, slots := 300, locals := 10300 } (xPc D G Hb h0 b0 β h [.ref q, .int i, .long v]) (fun _ _ _ _ => False) (nXc D G Hb h0 b0 β h "java/lang/ArrayIndexOutOfBoundsException") 3 300 (fun q => Hb.size ≤ q) := by
  refine vx_ofW (cc := cX4_puts) (maxL := 4) (ret := none) (by decide) rfl ?_
  intro p e s m args below meth c s₁ B hml htb hv
  obtain ⟨rfl, hw, hS, hK⟩ := hv
  have hx := B.exec
  have hb := B.bytes
  have hr := B.returns
  have hlk := B.notSynchronized
  have hts := atoms_spec (ws := ws_ yX4_puts cX4_puts 4 none) B.pre
  have hts : ∀ w ∈ lw_all, w.before _ s = true := fun w h => hts w (List.mem_cons_of_mem _ h)
  have hown : s.vm.findClass "FootOut$Numbers" = some m.cls := findClass_of_methodNamed B.named
  have hl := lv_entry ([.ref (β q), .int i, .long v]) (n := 4) (Nat.le_of_ble_eq_true rfl)
  rw [lg_entry_eq]
  show W _ _ _ _ _ _ _ _ _ _ _ _ _ _ _ (F0 m 0 ((lg_sl ([.ref (β q), .int i, .long v]) ++ List.replicate (4 - (lg_sl ([.ref (β q), .int i, .long v])).length) Slot.unset).toArray) [])
  generalize (lg_sl ([.ref (β q), .int i, .long v]) ++ List.replicate (4 - (lg_sl ([.ref (β q), .int i, .long v])).length) Slot.unset).toArray = ls at hl ⊢
  have hl : lv_has ls 4 [(0, .ref (β q)), (1, .int i), (2, .long v)] := hl
  have X : xCt D G Hb h0 b0 (((6, false, yX4_puts, cX4_puts, 4, none) : xM)) p s m _ meth c := ⟨hx, hb, hml, hown, hts, fun q => (by cases q), hK⟩
  have fv : xfv h β q 0 (2 % 10) = .ref (β a) := by
    show va_rf ((oR h q 0).map β) = _
    rw [ha]
    rfl
  obtain ⟨adV, -, -, -, -, -, hU, hN⟩ := hK.2.2.2.2.2.2.2.2
  have hU := hU.kept hS.2.1
  have hN := hN.kept hS.2.1
  have hAr := xaL (G := G) hw.2.2 ta
  refine lv_aload_n hx hb dX4_puts_0 rfl (lv_at hl 0 rfl) ?_
  refine x_getW (mm := ((6, false, yX4_puts, cX4_puts, 4, none) : xM)) (xF_ok 6 7 6 0 2 rfl) hq6 X hw dX4_puts_1 ?_
  rw [fv]
  refine x_ins0 (mm := ((6, false, yX4_puts, cX4_puts, 4, none) : xM)) (xT_ok 6 15 41 rfl) (by decide) (by decide) ta (by decide) (by decide) (by decide) X hw dX4_puts_4 ?_
  refine lv_if_eq (tgt := 25) hx hb dX4_puts_7 (by decide) (fun _ => ?_) (fun c9 => absurd rfl c9)
  refine lv_aload_n hx hb dX4_puts_25 rfl (lv_at hl 0 rfl) ?_
  refine x_getW (mm := ((6, false, yX4_puts, cX4_puts, 4, none) : xM)) (xF_ok 6 7 6 0 2 rfl) hq6 X hw dX4_puts_26 ?_
  rw [fv]
  refine x_ins0 (mm := ((6, false, yX4_puts, cX4_puts, 4, none) : xM)) (xT_ok 6 17 43 rfl) (by decide) (by decide) ta (by decide) (by decide) (by decide) X hw dX4_puts_29 ?_
  refine lv_if_eq (tgt := 50) hx hb dX4_puts_32 (by decide) (fun _ => ?_) (fun c9 => absurd rfl c9)
  refine lv_aload_n hx hb dX4_puts_50 rfl (lv_at hl 0 rfl) ?_
  refine x_getW (mm := ((6, false, yX4_puts, cX4_puts, 4, none) : xM)) (xF_ok 6 7 6 0 2 rfl) hq6 X hw dX4_puts_51 ?_
  rw [fv]
  refine x_ins0 (mm := ((6, false, yX4_puts, cX4_puts, 4, none) : xM)) (xT_ok 6 19 40 rfl) (by decide) (by decide) ta (by decide) (by decide) (by decide) X hw dX4_puts_54 ?_
  refine lv_if_eq (tgt := 74) hx hb dX4_puts_57 (by decide) (fun _ => ?_) (fun c9 => absurd rfl c9)
  refine lv_aload_n hx hb dX4_puts_74 rfl (lv_at hl 0 rfl) ?_
  refine x_getW (mm := ((6, false, yX4_puts, cX4_puts, 4, none) : xM)) (xF_ok 6 7 6 0 2 rfl) hq6 X hw dX4_puts_75 ?_
  rw [fv]
  refine x_cas (mm := ((6, false, yX4_puts, cX4_puts, 4, none) : xM)) (xT_ok 6 21 44 rfl) (by decide) (by decide) ta X hw dX4_puts_78 ?_
  refine lv_iload_n hx hb dX4_puts_81 rfl (lv_at hl 1 rfl) ?_
  refine lv_lload_n hx hb dX4_puts_82 rfl (lv_at hl 2 rfl) ?_
  refine vx_lastZ hx hb hK.1 hw.1 (a - 64) 4 hAr rfl hout dX4_puts_83 fun tx etx => ?_
  refine vx_vm (names := ["java/lang/IndexOutOfBoundsException", "java/lang/RuntimeException", "java/lang/Exception"]) (nb := 212) (A := fun q => Hb.size ≤ q) hx hlt (by decide +kernel) (by decide +kernel) (by decide +kernel) (by decide +kernel) (w_aio hts hK) w_aio_g hU hN ⟨Nat.le_refl _, fun _ _ _ => rfl, fun _ h => by cases h⟩ (hl.1.trans hml.symm) (by rw [etx]; exact index_text_modelled i (oN h a)) (by rw [etx]; exact index_text_bytes i (by omega)) (by decide) (by show 3 + 4 < 9; omega) (by show 0 + 10240 ≤ 10300; omega) (by decide) (by show 0 + 3 ≤ 3; omega) (by show 0 + (212 + 10) ≤ 300; omega) hlk fun H1 q9 ce hsz hkp hS1 hce hcv hcl => ?_
  have hwF : xWd D G Hb h0 b0 β h H1 := ⟨hw.1.kept (fun i9 y9 hy => hkp _ ((hw.1 i9 y9 hy).lt)), hw.2.1, hw.2.2⟩
  have hSF : va_S (fun q => Hb.size ≤ q) Hb H1 [] := ⟨Nat.le_trans hS.1 hS1.1, fun y9 h1 h2 => (hS1.2.1 y9 (Nat.lt_of_lt_of_le h1 hS.1) h2).trans (hS.2.1 y9 h1 h2), fun _ h => by cases h⟩
  exact vx_out (fun x9 h9 => (htb x9 h9).elim) hlk hce hcv hcl (fun t ht _ => ⟨rfl, by rw [ht]; exact hwF, by rw [ht]; exact hSF⟩) hS1.2.2 (by show _ ≤ 3; omega) (by show _ ≤ 300; omega)
theorem nm_npe (hlt : l.stackTraces = false) (hq6 : oT h q = 6) (ha : oR h q 0 = none) : vx_Met l yX4_puts (ws_ yX4_puts cX4_puts 4 none) { frames := 9, cells := 3, slots := 300, locals := 10300 } (xPc D G Hb h0 b0 β h [.ref q, .int i, .long v]) (fun _ _ _ _ => False) (nXc D G Hb h0 b0 β h "java/lang/NullPointerException") 3 300 (fun q => Hb.size ≤ q) := by
  refine vx_ofW (cc := cX4_puts) (maxL := 4) (ret := none) (by decide) rfl ?_
  intro p e s m args below meth c s₁ B hml htb hv
  obtain ⟨rfl, hw, hS, hK⟩ := hv
  have hx := B.exec
  have hb := B.bytes
  have hr := B.returns
  have hlk := B.notSynchronized
  have hts := atoms_spec (ws := ws_ yX4_puts cX4_puts 4 none) B.pre
  have hts : ∀ w ∈ lw_all, w.before _ s = true := fun w h => hts w (List.mem_cons_of_mem _ h)
  have hown : s.vm.findClass "FootOut$Numbers" = some m.cls := findClass_of_methodNamed B.named
  have hl := lv_entry ([.ref (β q), .int i, .long v]) (n := 4) (Nat.le_of_ble_eq_true rfl)
  rw [lg_entry_eq]
  show W _ _ _ _ _ _ _ _ _ _ _ _ _ _ _ (F0 m 0 ((lg_sl ([.ref (β q), .int i, .long v]) ++ List.replicate (4 - (lg_sl ([.ref (β q), .int i, .long v])).length) Slot.unset).toArray) [])
  generalize (lg_sl ([.ref (β q), .int i, .long v]) ++ List.replicate (4 - (lg_sl ([.ref (β q), .int i, .long v])).length) Slot.unset).toArray = ls at hl ⊢
  have hl : lv_has ls 4 [(0, .ref (β q)), (1, .int i), (2, .long v)] := hl
  have X : xCt D G Hb h0 b0 (((6, false, yX4_puts, cX4_puts, 4, none) : xM)) p s m _ meth c := ⟨hx, hb, hml, hown, hts, fun q => (by cases q), hK⟩
  have fv : xfv h β q 0 (2 % 10) = .null := by
    show va_rf ((oR h q 0).map β) = _
    rw [ha]
    rfl
  obtain ⟨adV, -, -, -, -, -, hU, hN⟩ := hK.2.2.2.2.2.2.2.2
  have hU := hU.kept hS.2.1
  have hN := hN.kept hS.2.1
  refine lv_aload_n hx hb dX4_puts_0 rfl (lv_at hl 0 rfl) ?_
  refine x_getW (mm := ((6, false, yX4_puts, cX4_puts, 4, none) : xM)) (xF_ok 6 7 6 0 2 rfl) hq6 X hw dX4_puts_1 ?_
  rw [fv]
  refine lv_instN hx hb dX4_puts_4 ?_
  refine lv_if_eq (tgt := 25) hx hb dX4_puts_7 (by decide) (fun _ => ?_) (fun c9 => absurd rfl c9)
  refine lv_aload_n hx hb dX4_puts_25 rfl (lv_at hl 0 rfl) ?_
  refine x_getW (mm := ((6, false, yX4_puts, cX4_puts, 4, none) : xM)) (xF_ok 6 7 6 0 2 rfl) hq6 X hw dX4_puts_26 ?_
  rw [fv]
  refine lv_instN hx hb dX4_puts_29 ?_
  refine lv_if_eq (tgt := 50) hx hb dX4_puts_32 (by decide) (fun _ => ?_) (fun c9 => absurd rfl c9)
  refine lv_aload_n hx hb dX4_puts_50 rfl (lv_at hl 0 rfl) ?_
  refine x_getW (mm := ((6, false, yX4_puts, cX4_puts, 4, none) : xM)) (xF_ok 6 7 6 0 2 rfl) hq6 X hw dX4_puts_51 ?_
  rw [fv]
  refine lv_instN hx hb dX4_puts_54 ?_
  refine lv_if_eq (tgt := 74) hx hb dX4_puts_57 (by decide) (fun _ => ?_) (fun c9 => absurd rfl c9)
  refine lv_aload_n hx hb dX4_puts_74 rfl (lv_at hl 0 rfl) ?_
  refine x_getW (mm := ((6, false, yX4_puts, cX4_puts, 4, none) : xM)) (xF_ok 6 7 6 0 2 rfl) hq6 X hw dX4_puts_75 ?_
  rw [fv]
  refine lv_castN hx hb dX4_puts_78 ?_
  refine lv_iload_n hx hb dX4_puts_81 rfl (lv_at hl 1 rfl) ?_
  refine lv_lload_n hx hb dX4_puts_82 rfl (lv_at hl 2 rfl) ?_
  refine vx_lastoreN hx hb dX4_puts_83 ?_
  refine vx_npe (nb := 8) (A := fun q => Hb.size ≤ q) hx hlt (w_npe hts hK) w_npe_g hU hN ⟨Nat.le_refl _, fun _ _ _ => rfl, fun _ h => by cases h⟩ (hl.1.trans hml.symm) (by show 7 < 9; omega) (by show 0 + 10240 ≤ 10300; omega) (by show 0 + 1 ≤ 3; omega) (by show 0 + 8 ≤ 300; omega) hlk fun H1 q9 ce hsz hkp hS1 hce hcv hcl => ?_
  have hwF : xWd D G Hb h0 b0 β h H1 := ⟨hw.1.kept (fun i9 y9 hy => hkp _ ((hw.1 i9 y9 hy).lt)), hw.2.1, hw.2.2⟩
  have hSF : va_S (fun q => Hb.size ≤ q) Hb H1 [] := ⟨Nat.le_trans hS.1 hS1.1, fun y9 h1 h2 => (hS1.2.1 y9 (Nat.lt_of_lt_of_le h1 hS.1) h2).trans (hS.2.1 y9 h1 h2), fun _ h => by cases h⟩
  exact vx_out (fun x9 h9 => (htb x9 h9).elim) hlk hce hcv hcl (fun t ht _ => ⟨rfl, by rw [ht]; exact hwF, by rw [ht]; exact hSF⟩) hS1.2.2 (by show _ ≤ 3; omega) (by show _ ≤ 300; omega)
/-- a number is put -/
def xst5 (h : xH) (a : Nat) (i : Int32) (v : Int64) : xH := if oT h a = 44 then pL h a (va_up (oL h a) i.toNatClampNeg v) else pI h a (va_up (oI h a) i.toNatClampNeg (xcut (oT h a) v))
def xva5 (h : xH) (a : Nat) (v : Int64) : Int64 := if oT h a = 44 then v else (xcut (oT h a) v).toInt64
theorem tag4 (ht : 40 ≤ oT h a ∧ oT h a ≤ 44 ∧ ¬ oT h a = 42) : oT h a = 41 ∨ oT h a = 43 ∨ oT h a = 40 ∨ oT h a = 44 := by omega
theorem nm_put (hq6 : oT h q = 6) (ha : oR h q 0 = some a) (ht : 40 ≤ oT h a ∧ oT h a ≤ 44 ∧ ¬ oT h a = 42) (hin : vp_in i (oN h a)) : Met l yX4_puts (ws_ yX4_puts cX4_puts 4 none) { frames := 9, cells := 0, slots := 0, locals := 10300 } (xPc D G Hb h0 b0 β h [.ref q, .int i, .long v]) (nQc D G Hb h0 b0 β (xst5 h a i v) none) 0 0 (fun q => Hb.size ≤ q) := by
  unfold xst5
  rcases tag4 ht with e | e | e | e
  · rw [if_neg (by omega), e]; exact nm_put41 hq6 ha e hin
  · rw [if_neg (by omega), e]; exact nm_put43 hq6 ha e hin
  · rw [if_neg (by omega), e]; exact nm_put40 hq6 ha e hin
  · rw [if_pos e]; exact nm_put44 hq6 ha e hin
theorem nm_num (hq6 : oT h q = 6) (ha : oR h q 0 = some a) (ht : 40 ≤ oT h a ∧ oT h a ≤ 44 ∧ ¬ oT h a = 42) (hin : vp_in i (oN h a)) : Met l yX4_number (ws_ yX4_number cX4_number 2 (some .long)) { frames := 1, cells := 0, slots := 0, locals := 60 } (xPc D G Hb h0 b0 β h [.ref q, .int i]) (nQc D G Hb h0 b0 β h (some (.long (if oT h a = 44 then oL h a i.toNatClampNeg else (oI h a i.toNatClampNeg).toInt64)))) 0 0 (fun q => Hb.size ≤ q) := by
  rcases tag4 ht with e | e | e | e
  · rw [if_neg (by omega)]; exact nm_num41 hq6 ha e hin
  · rw [if_neg (by omega)]; exact nm_num43 hq6 ha e hin
  · rw [if_neg (by omega)]; exact nm_num40 hq6 ha e hin
  · rw [if_pos e]; exact nm_num44 hq6 ha e hin
theorem nm_oob (hlt : l.stackTraces = false) (hq6 : oT h q = 6) (ha : oR h q 0 = some a) (ht : 40 ≤ oT h a ∧ oT h a ≤ 44 ∧ ¬ oT h a = 42) (hn : oN h a ≤ 65536) (hout : ¬ vp_in i (oN h a)) : vx_Met l yX4_puts (ws_ yX4_puts cX4_puts 4 none) { frames := 9, cells := 3, slots := 300, locals := 10300 } (xPc D G Hb h0 b0 β h [.ref q, .int i, .long v]) (fun _ _ _ _ => False) (nXc D G Hb h0 b0 β h "java/lang/ArrayIndexOutOfBoundsException") 3 300 (fun q => Hb.size ≤ q) := by
  rcases tag4 ht with e | e | e | e
  · exact nm_oob41 hlt hq6 ha e hn hout
  · exact nm_oob43 hlt hq6 ha e hn hout
  · exact nm_oob40 hlt hq6 ha e hn hout
  · exact nm_oob44 hlt hq6 ha e hn hout
end
