/-! SINGLE STEPS: FootOut.write; all of them -/
section
variable {p : Program} {l : Launch} {e : Env} {R : Room} {s : State} {m : MethodId} {args : Array Value} {below : List Frame} {meth : Method} {c : Code} {H : Heap} {locs : List Loc} {cells slots : Nat} {Q : State → Prop} {rest : List Value} {pc : Nat} {ls : Array Slot} {v v' : Value}
theorem n_top (e9 : v = v') (k : W p l e R s m args below meth c H locs cells slots Q (F0 m pc ls (v' :: rest))) : W p l e R s m args below meth c H locs cells slots Q (F0 m pc ls (v :: rest)) := by rw [e9]; exact k
end
section
variable {D : va_G} {G : Nat → ClassId} {l : Launch} {Hb : Heap} {h0 : xH} {b0 : Nat → Nat} {mm : xM} {pc d k : Nat} {ls : List Slot} {st' : List Value} {h : xH} {r : xR} {β : Nat → Nat} {x q a rf rw : Nat} {i j : Int32} {v : Int64}
theorem xst5_v : (if oT (xst5 h a i v) a = 44 then oL (xst5 h a i v) a i.toNatClampNeg else (oI (xst5 h a i v) a i.toNatClampNeg).toInt64) = xva5 h a v := by
  unfold xva5
  by_cases e : oT h a = 44
  · have e1 : xst5 h a i v = pL h a (va_up (oL h a) i.toNatClampNeg v) := if_pos e
    rw [e1, if_pos (show oT (pL h a _) a = 44 from e), if_pos e, o_LL, if_pos rfl, up_s]
  · have e1 : xst5 h a i v = pI h a (va_up (oI h a) i.toNatClampNeg (xcut (oT h a) v)) := if_neg e
    rw [e1, if_neg (show ¬ oT (pI h a _) a = 44 from e), if_neg e, o_II, if_pos rfl, up_s]
theorem xst5_s : oT (xst5 h a i v) = oT h ∧ oN (xst5 h a i v) = oN h ∧ oR (xst5 h a i v) = oR h ∧ oX (xst5 h a i v) = oX h ∧ oC (xst5 h a i v) = oC h ∧ oS (xst5 h a i v) = oS h := by
  unfold xst5
  split <;> exact ⟨rfl, rfl, rfl, rfl, rfl, rfl⟩
theorem j_in (hj : 0 ≤ j.toInt ∧ j.toInt ≤ 3) {n : Nat} (hn : n = 4) : vp_in j n := xix_in (by
  subst hn
  unfold xix
  rw [Bool.and_eq_true, decide_eq_true_eq, decide_eq_true_eq]
  omega)
theorem nm_wrA (hx1 : oT h x = 1) (hrf : oR h x 2 = some rf) (hrw : oR h x 17 = some rw) (tf : oT h rf = 40) (nf : oN h rf = 6) (tw : oT h rw = 47) (nw : oN h rw = 4) (hj : ¬ (0 ≤ j.toInt ∧ j.toInt ≤ 3)) : vx_Met l yX0_write (wsW_ yX0_write cX0_write 6 (some .long) hhW) { frames := 11, cells := 0, slots := 0, locals := 10400 } (xPc D G Hb h0 b0 β h [.ref x, .int j, .int i, .long v]) (xQc D G Hb h0 b0 β (oX h) (some (.long (-2)), xno h rf 0 0 0)) (fun _ _ _ => False) 0 0 (fun q => Hb.size ≤ q) := by
  refine vx_ofWH (cc := cX0_write) (maxL := 6) (ret := (some .long)) (hh := hhW) (by decide) rfl ?_
  intro p e s m args below meth c s₁ B hml hv
  obtain ⟨rfl, hw, hS, hK⟩ := hv
  have hx := B.exec
  have hb := B.bytes
  have hr := B.returns
  have hlk := B.notSynchronized
  have hts := atoms_spec (ws := wsW_ yX0_write cX0_write 6 (some .long) hhW) B.pre
  have hts : ∀ w ∈ lw_all, w.before _ s = true := fun w h => hts w (List.mem_cons_of_mem _ h)
  have hown : s.vm.findClass "FootOut" = some m.cls := findClass_of_methodNamed B.named
  have hl := lv_entry ([.ref (β x), .int j, .int i, .long v]) (n := 6) (Nat.le_of_ble_eq_true rfl)
  rw [lg_entry_eq]
  show W _ _ _ _ _ _ _ _ _ _ _ _ _ _ _ (F0 m 0 ((lg_sl ([.ref (β x), .int j, .int i, .long v]) ++ List.replicate (6 - (lg_sl ([.ref (β x), .int j, .int i, .long v])).length) Slot.unset).toArray) [])
  generalize (lg_sl ([.ref (β x), .int j, .int i, .long v]) ++ List.replicate (6 - (lg_sl ([.ref (β x), .int j, .int i, .long v])).length) Slot.unset).toArray = ls at hl ⊢
  have hl : lv_has ls 6 [(0, .ref (β x)), (1, .int j), (2, .int i), (3, .long v)] := hl
  have X : xCt D G Hb h0 b0 (((1, false, yX0_write, cX0_write, 6, some .long) : xM)) p s m _ meth c := ⟨hx, hb, hml, hown, hts, fun q => (by cases q), hK⟩
  refine lv_iload_n hx hb dX0_write_0 rfl (lv_at hl 1 rfl) ?_
  refine n_callW (va_runS (As := [.int j]) (rest := []) ⟨hx, hb, hml, hown, hts⟩ (nm_isRow (D := D) (G := G) (Hb := Hb) (h0 := h0) (b0 := b0) (β := β) (h := h) (w := 0) (if_neg hj).symm) (va_cwS 1 hts (lw_S q1361 q1362 q124 q1363) rfl rfl rfl (by decide +kernel) ⟨by show 2 + 1 ≤ 11; omega, by show 8 + (1 + 11) + 120 ≤ 10400; omega⟩) ⟨xPc_blind, xPc_at hK hw hS⟩ rfl rfl hl.1 rfl (lv_room (Nat.le_of_ble_eq_true rfl)) dX0_write_1 ⟨Nat.zero_le _, Nat.zero_le _⟩) hS (fun H1 locs1 hw hS => ?_)
  refine lv_if_ne (tgt := 15) hx hb dX0_write_4 (by decide) (fun c9 => absurd rfl c9) (fun _ => ?_)
  refine lv_aload_n hx hb dX0_write_7 rfl (lv_at hl 0 rfl) ?_
  refine lv_bipush (v := -2) hx hb dX0_write_8 (by decide) ?_
  refine n_callW (va_runV (As := [.int (-2)]) (rest := []) ⟨hx, hb, hml, hown, hts⟩ (nm_no2 (D := D) (G := G) (Hb := Hb) (h0 := h0) (b0 := b0) (β := β) (h := h) hx1 hrf tf nf) (cwV 1 hts (lw_V q434 q436 qs0 q124 q437) rfl rfl rfl (by decide +kernel) ⟨by show 1 + 1 ≤ 11; omega, by show 8 + (2 + 11) + 60 ≤ 10400; omega⟩) ⟨xPc_blind, x_recv hK hw hx1 (by omega) (by omega) (C := "FootOut") rfl, xPc_at hK hw hS⟩ rfl rfl hl.1 rfl (lv_room (Nat.le_of_ble_eq_true rfl)) dX0_write_10 ⟨Nat.zero_le _, Nat.zero_le _⟩) hS (fun H9 locs9 hw9 hS9 => ?_)
  refine lv_i2l (v := -2) hx hb dX0_write_13 (by decide) ?_
  exact vx_ret (W.lret hx hb hr (fun t ht _ => ⟨β, rfl, fun _ _ => rfl, by rw [ht]; exact hw9, fun v hv => (by cases hv; exact trivial), by rw [ht]; exact ⟨hS9.1, hS9.2.1, fun _ h => by cases h⟩⟩) hS9.2.2 dX0_write_14 hlk)
theorem nm_wrS (hx1 : oT h x = 1) (hrf : oR h x 2 = some rf) (hrw : oR h x 17 = some rw) (tf : oT h rf = 40) (nf : oN h rf = 6) (tw : oT h rw = 47) (nw : oN h rw = 4) (hj : 0 ≤ j.toInt ∧ j.toInt ≤ 3) (hq : oR h rw j.toNatClampNeg = some q) (hq6 : oT h q = 6) (ha : oR h q 0 = some a) (ht9 : 40 ≤ oT h a ∧ oT h a ≤ 44 ∧ ¬ oT h a = 42) (hin : vp_in i (oN h a)) : vx_Met l yX0_write (wsW_ yX0_write cX0_write 6 (some .long) hhW) { frames := 11, cells := 0, slots := 0, locals := 10400 } (xPc D G Hb h0 b0 β h [.ref x, .int j, .int i, .long v]) (xQc D G Hb h0 b0 β (oX h) (some (.long (xva5 h a v)), xst5 h a i v)) (fun _ _ _ => False) 0 0 (fun q => Hb.size ≤ q) := by
  refine vx_ofWH (cc := cX0_write) (maxL := 6) (ret := (some .long)) (hh := hhW) (by decide) rfl ?_
  intro p e s m args below meth c s₁ B hml hv
  obtain ⟨rfl, hw, hS, hK⟩ := hv
  have hx := B.exec
  have hb := B.bytes
  have hr := B.returns
  have hlk := B.notSynchronized
  have hts := atoms_spec (ws := wsW_ yX0_write cX0_write 6 (some .long) hhW) B.pre
  have hts : ∀ w ∈ lw_all, w.before _ s = true := fun w h => hts w (List.mem_cons_of_mem _ h)
  have hown : s.vm.findClass "FootOut" = some m.cls := findClass_of_methodNamed B.named
  have hl := lv_entry ([.ref (β x), .int j, .int i, .long v]) (n := 6) (Nat.le_of_ble_eq_true rfl)
  rw [lg_entry_eq]
  show W _ _ _ _ _ _ _ _ _ _ _ _ _ _ _ (F0 m 0 ((lg_sl ([.ref (β x), .int j, .int i, .long v]) ++ List.replicate (6 - (lg_sl ([.ref (β x), .int j, .int i, .long v])).length) Slot.unset).toArray) [])
  generalize (lg_sl ([.ref (β x), .int j, .int i, .long v]) ++ List.replicate (6 - (lg_sl ([.ref (β x), .int j, .int i, .long v])).length) Slot.unset).toArray = ls at hl ⊢
  have hl : lv_has ls 6 [(0, .ref (β x)), (1, .int j), (2, .int i), (3, .long v)] := hl
  have X : xCt D G Hb h0 b0 (((1, false, yX0_write, cX0_write, 6, some .long) : xM)) p s m _ meth c := ⟨hx, hb, hml, hown, hts, fun q => (by cases q), hK⟩
  refine lv_iload_n hx hb dX0_write_0 rfl (lv_at hl 1 rfl) ?_
  refine n_callW (va_runS (As := [.int j]) (rest := []) ⟨hx, hb, hml, hown, hts⟩ (nm_isRow (D := D) (G := G) (Hb := Hb) (h0 := h0) (b0 := b0) (β := β) (h := h) (w := 1) (if_pos hj).symm) (va_cwS 1 hts (lw_S q1361 q1362 q124 q1363) rfl rfl rfl (by decide +kernel) ⟨by show 2 + 1 ≤ 11; omega, by show 8 + (1 + 11) + 120 ≤ 10400; omega⟩) ⟨xPc_blind, xPc_at hK hw hS⟩ rfl rfl hl.1 rfl (lv_room (Nat.le_of_ble_eq_true rfl)) dX0_write_1 ⟨Nat.zero_le _, Nat.zero_le _⟩) hS (fun H1 locs1 hw hS => ?_)
  refine lv_if_ne (tgt := 15) hx hb dX0_write_4 (by decide) (fun _ => ?_) (fun c9 => absurd c9 (by decide))
  refine lv_aload_n hx hb dX0_write_15 rfl (lv_at hl 0 rfl) ?_
  refine x_getW (mm := ((1, false, yX0_write, cX0_write, 6, some .long) : xM)) (h := h) (xF_ok 1 66 1 17 12 rfl) hx1 X hw dX0_write_16 ?_
  refine n_top (v' := .ref (β rw)) (by show va_rf ((oR (h) x 17).map β) = _; rw [hrw]; rfl) ?_
  refine lv_iload_n hx hb dX0_write_19 rfl (lv_at hl 1 rfl) ?_
  refine va_aldq hx hb hK.1 hw.1 (rw - 64) _ (xaR (G := G) hw.2.2 tw (by omega) (by omega)) (xty_r (t := 47) (by omega) (by omega)) (j_in hj nw) dX0_write_20 ?_
  refine n_top (v' := .ref (β q)) (by show va_rf ((oR (h) rw j.toNatClampNeg).map β) = _; rw [hq]; rfl) ?_
  refine lv_iload_n hx hb dX0_write_21 rfl (lv_at hl 2 rfl) ?_
  refine lv_lload_n hx hb dX0_write_22 rfl (lv_at hl 3 rfl) ?_
  refine n_callW (va_runV (As := [.int i, .long v]) (rest := []) ⟨hx, hb, hml, hown, hts⟩ (nm_put (D := D) (G := G) (Hb := Hb) (h0 := h0) (b0 := b0) (β := β) (h := h) hq6 ha ht9 hin) (cwV 2 hts (lw_V q1575 q1576 q1577 q131 q1578) rfl rfl rfl (by decide +kernel) ⟨by show 9 + 1 ≤ 11; omega, by show 8 + (4 + 11) + 10300 ≤ 10400; omega⟩) ⟨xPc_blind, x_recv hK hw hq6 (by omega) (by omega) (C := "FootOut$Numbers") rfl, xPc_at hK hw hS⟩ rfl rfl hl.1 rfl (lv_room (Nat.le_of_ble_eq_true rfl)) dX0_write_23 ⟨Nat.zero_le _, Nat.zero_le _⟩) hS (fun H2 locs2 hw hS => ?_)
  obtain ⟨s1, s2, s3, s4, s5, s6⟩ := xst5_s (h := h) (a := a) (i := i) (v := v)
  refine lv_aload_n hx hb dX0_write_26 rfl (lv_at hl 0 rfl) ?_
  refine x_getW (mm := ((1, false, yX0_write, cX0_write, 6, some .long) : xM)) (h := xst5 h a i v) (xF_ok 1 66 1 17 12 rfl) (by rw [s1]; exact hx1) X hw dX0_write_27 ?_
  refine n_top (v' := .ref (β rw)) (by show va_rf ((oR (xst5 h a i v) x 17).map β) = _; rw [s3, hrw]; rfl) ?_
  refine lv_iload_n hx hb dX0_write_30 rfl (lv_at hl 1 rfl) ?_
  refine va_aldq hx hb hK.1 hw.1 (rw - 64) _ (xaR (G := G) hw.2.2 (by rw [s1]; exact tw) (by omega) (by omega)) (xty_r (t := 47) (by omega) (by omega)) (j_in hj (by rw [s2]; exact nw)) dX0_write_31 ?_
  refine n_top (v' := .ref (β q)) (by show va_rf ((oR (xst5 h a i v) rw j.toNatClampNeg).map β) = _; rw [s3, hq]; rfl) ?_
  refine lv_iload_n hx hb dX0_write_32 rfl (lv_at hl 2 rfl) ?_
  refine n_callW (va_runV (As := [.int i]) (rest := []) ⟨hx, hb, hml, hown, hts⟩ (nm_num (D := D) (G := G) (Hb := Hb) (h0 := h0) (b0 := b0) (β := β) (h := xst5 h a i v) (by rw [s1]; exact hq6) (by rw [s3]; exact ha) (by rw [s1]; exact ht9) (by rw [s2]; exact hin)) (cwV 1 hts (lw_V q1373 q1374 q1375 q131 q1376) rfl rfl rfl (by decide +kernel) ⟨by show 1 + 1 ≤ 11; omega, by show 8 + (2 + 11) + 60 ≤ 10400; omega⟩) ⟨xPc_blind, x_recv hK hw (t := 6) (by rw [s1]; exact hq6) (by omega) (by omega) (C := "FootOut$Numbers") rfl, xPc_at hK hw hS⟩ rfl rfl hl.1 rfl (lv_room (Nat.le_of_ble_eq_true rfl)) dX0_write_33 ⟨Nat.zero_le _, Nat.zero_le _⟩) hS (fun H9 locs9 hw9 hS9 => ?_)
  refine n_top (v' := .long (xva5 h a v)) (congrArg Value.long xst5_v) ?_
  exact vx_ret (W.lret hx hb hr (fun t ht _ => ⟨β, rfl, fun _ _ => rfl, by rw [ht]; exact hw9, fun v hv => (by cases hv; exact trivial), by rw [ht]; exact ⟨hS9.1, hS9.2.1, fun _ h => by cases h⟩⟩) hS9.2.2 dX0_write_36 hlk)
theorem nm_wrN (hlt : l.stackTraces = false) (hx1 : oT h x = 1) (hrf : oR h x 2 = some rf) (hrw : oR h x 17 = some rw) (tf : oT h rf = 40) (nf : oN h rf = 6) (tw : oT h rw = 47) (nw : oN h rw = 4) (hj : 0 ≤ j.toInt ∧ j.toInt ≤ 3) (hq : oR h rw j.toNatClampNeg = some q) (hq6 : oT h q = 6) (ha : oR h q 0 = none) : vx_Met l yX0_write (wsW_ yX0_write cX0_write 6 (some .long) hhW) { frames := 11, cells := 64, slots := 4096, locals := 10400 } (xPc D G Hb h0 b0 β h [.ref x, .int j, .int i, .long v]) (xQc D G Hb h0 b0 β (oX h) (some (.long (-6)), xno h rf 3 64 4096)) (fun _ _ _ => False) 64 4096 (fun q => Hb.size ≤ q) := by
  refine vx_ofWH (cc := cX0_write) (maxL := 6) (ret := (some .long)) (hh := hhW) (by decide) rfl ?_
  intro p e s m args below meth c s₁ B hml hv
  obtain ⟨rfl, hw, hS, hK⟩ := hv
  have hx := B.exec
  have hb := B.bytes
  have hr := B.returns
  have hlk := B.notSynchronized
  have hts := atoms_spec (ws := wsW_ yX0_write cX0_write 6 (some .long) hhW) B.pre
  have hts : ∀ w ∈ lw_all, w.before _ s = true := fun w h => hts w (List.mem_cons_of_mem _ h)
  have hown : s.vm.findClass "FootOut" = some m.cls := findClass_of_methodNamed B.named
  have hl := lv_entry ([.ref (β x), .int j, .int i, .long v]) (n := 6) (Nat.le_of_ble_eq_true rfl)
  rw [lg_entry_eq]
  show W _ _ _ _ _ _ _ _ _ _ _ _ _ _ _ (F0 m 0 ((lg_sl ([.ref (β x), .int j, .int i, .long v]) ++ List.replicate (6 - (lg_sl ([.ref (β x), .int j, .int i, .long v])).length) Slot.unset).toArray) [])
  generalize (lg_sl ([.ref (β x), .int j, .int i, .long v]) ++ List.replicate (6 - (lg_sl ([.ref (β x), .int j, .int i, .long v])).length) Slot.unset).toArray = ls at hl ⊢
  have hl : lv_has ls 6 [(0, .ref (β x)), (1, .int j), (2, .int i), (3, .long v)] := hl
  have X : xCt D G Hb h0 b0 (((1, false, yX0_write, cX0_write, 6, some .long) : xM)) p s m _ meth c := ⟨hx, hb, hml, hown, hts, fun q => (by cases q), hK⟩
  refine lv_iload_n hx hb dX0_write_0 rfl (lv_at hl 1 rfl) ?_
  refine n_callW (va_runS (As := [.int j]) (rest := []) ⟨hx, hb, hml, hown, hts⟩ (nm_isRow (D := D) (G := G) (Hb := Hb) (h0 := h0) (b0 := b0) (β := β) (h := h) (w := 1) (if_pos hj).symm) (va_cwS 1 hts (lw_S q1361 q1362 q124 q1363) rfl rfl rfl (by decide +kernel) ⟨by show 2 + 1 ≤ 11; omega, by show 8 + (1 + 11) + 120 ≤ 10400; omega⟩) ⟨xPc_blind, xPc_at hK hw hS⟩ rfl rfl hl.1 rfl (lv_room (Nat.le_of_ble_eq_true rfl)) dX0_write_1 ⟨Nat.zero_le _, Nat.zero_le _⟩) hS (fun H1 locs1 hw hS => ?_)
  refine lv_if_ne (tgt := 15) hx hb dX0_write_4 (by decide) (fun _ => ?_) (fun c9 => absurd c9 (by decide))
  refine lv_aload_n hx hb dX0_write_15 rfl (lv_at hl 0 rfl) ?_
  refine x_getW (mm := ((1, false, yX0_write, cX0_write, 6, some .long) : xM)) (h := h) (xF_ok 1 66 1 17 12 rfl) hx1 X hw dX0_write_16 ?_
  refine n_top (v' := .ref (β rw)) (by show va_rf ((oR (h) x 17).map β) = _; rw [hrw]; rfl) ?_
  refine lv_iload_n hx hb dX0_write_19 rfl (lv_at hl 1 rfl) ?_
  refine va_aldq hx hb hK.1 hw.1 (rw - 64) _ (xaR (G := G) hw.2.2 tw (by omega) (by omega)) (xty_r (t := 47) (by omega) (by omega)) (j_in hj nw) dX0_write_20 ?_
  refine n_top (v' := .ref (β q)) (by show va_rf ((oR (h) rw j.toNatClampNeg).map β) = _; rw [hq]; rfl) ?_
  refine lv_iload_n hx hb dX0_write_21 rfl (lv_at hl 2 rfl) ?_
  refine lv_lload_n hx hb dX0_write_22 rfl (lv_at hl 3 rfl) ?_
  have htab : c.exceptionTable.toList = tableOf hhW := vx_table (x := yX0_write) B (hts _ q1530)
  refine n_callT (vx_runV (As := [.int i, .long v]) (rest := []) ⟨hx, hb, hml, hown, hts⟩ (nm_npe (D := D) (G := G) (Hb := Hb) (h0 := h0) (b0 := b0) (β := β) (h := h) hlt hq6 ha) (cwV 2 hts (lw_V q1575 q1576 q1577 q131 q1578) rfl rfl rfl (by decide +kernel) ⟨by show 9 + 1 ≤ 11; omega, by show 8 + (4 + 11) + 10300 ≤ 10400; omega⟩) ⟨xPc_blind, x_recv hK hw hq6 (by omega) (by omega) (C := "FootOut$Numbers") rfl, xPc_at hK hw hS⟩ rfl rfl hl.1 rfl (lv_room (Nat.le_of_ble_eq_true rfl)) dX0_write_23 ⟨by show 0 + 3 ≤ 64; omega, by show 0 + 300 ≤ 4096; omega⟩) hS fun H2 locs2 q9 ce hw2 hS2 hce hcv hcl => ?_
  refine vx_catch hown [] ⟨15, 36, 37, 505⟩ [⟨15, 36, 47, 507⟩] htab (fun z hz => by cases hz) (by decide) (by decide) (hts _ q1531) (xnest_u hK (List.mem_of_getElem? (i := 127) rfl)) hce hcv hcl ?_
  refine lv_astore hx hb dX0_write_37 hl (by omega) rfl fun ls1 hl1 => ?_
  refine lv_aload_n hx hb dX0_write_39 rfl (lv_at hl1 1 rfl) ?_
  refine lv_bipush (v := -6) hx hb dX0_write_40 (by decide) ?_
  refine n_callW (va_runV (As := [.int (-6)]) (rest := []) ⟨hx, hb, hml, hown, hts⟩ (nm_no6 (D := D) (G := G) (Hb := Hb) (h0 := h0) (b0 := b0) (β := β) (h := h) hx1 hrf tf nf) (cwV 1 hts (lw_V q434 q436 qs0 q124 q437) rfl rfl rfl (by decide +kernel) ⟨by show 1 + 1 ≤ 11; omega, by show 8 + (2 + 11) + 60 ≤ 10400; omega⟩) ⟨xPc_blind, x_recv hK hw2 hx1 (by omega) (by omega) (C := "FootOut") rfl, xPc_at hK hw2 hS2⟩ rfl rfl hl1.1 rfl (lv_room (Nat.le_of_ble_eq_true rfl)) dX0_write_42 ⟨by show 0 + 3 + 0 ≤ 64; omega, by show 0 + 300 + 0 ≤ 4096; omega⟩) hS2 (fun H9 locs9 hw9 hS9 => ?_)
  refine lv_i2l (v := -6) hx hb dX0_write_45 (by decide) ?_
  have hwF : xWd D G Hb h0 b0 β (xno h rf 3 64 4096) H9 := hw9
  refine vx_ret (W.widen (k := 64) (n := 4096) (by omega) (by omega) ?_)
  exact W.lret hx hb hr (fun t ht _ => ⟨β, rfl, fun _ _ => rfl, by rw [ht]; exact hwF, fun v hv => (by cases hv; exact trivial), by rw [ht]; exact ⟨hS9.1, hS9.2.1, fun _ h => by cases h⟩⟩) hS9.2.2 dX0_write_46 hlk
theorem nm_wrO (hlt : l.stackTraces = false) (hx1 : oT h x = 1) (hrf : oR h x 2 = some rf) (hrw : oR h x 17 = some rw) (tf : oT h rf = 40) (nf : oN h rf = 6) (tw : oT h rw = 47) (nw : oN h rw = 4) (hj : 0 ≤ j.toInt ∧ j.toInt ≤ 3) (hq : oR h rw j.toNatClampNeg = some q) (hq6 : oT h q = 6) (ha : oR h q 0 = some a) (ht9 : 40 ≤ oT h a ∧ oT h a ≤ 44 ∧ ¬ oT h a = 42) (hout : ¬ vp_in i (oN h a)) : vx_Met l yX0_write (wsW_ yX0_write cX0_write 6 (some .long) hhW) { frames := 11, cells := 64, slots := 4096, locals := 10400 } (xPc D G Hb h0 b0 β h [.ref x, .int j, .int i, .long v]) (xQc D G Hb h0 b0 β (oX h) (some (.long (-7)), xno h rf 4 64 4096)) (fun _ _ _ => False) 64 4096 (fun q => Hb.size ≤ q) := by
  refine vx_ofWH (cc := cX0_write) (maxL := 6) (ret := (some .long)) (hh := hhW) (by decide) rfl ?_
  intro p e s m args below meth c s₁ B hml hv
  obtain ⟨rfl, hw, hS, hK⟩ := hv
  have hx := B.exec
  have hb := B.bytes
  have hr := B.returns
  have hlk := B.notSynchronized
  have hts := atoms_spec (ws := wsW_ yX0_write cX0_write 6 (some .long) hhW) B.pre
  have hts : ∀ w ∈ lw_all, w.before _ s = true := fun w h => hts w (List.mem_cons_of_mem _ h)
  have hown : s.vm.findClass "FootOut" = some m.cls := findClass_of_methodNamed B.named
  have hl := lv_entry ([.ref (β x), .int j, .int i, .long v]) (n := 6) (Nat.le_of_ble_eq_true rfl)
  rw [lg_entry_eq]
  show W _ _ _ _ _ _ _ _ _ _ _ _ _ _ _ (F0 m 0 ((lg_sl ([.ref (β x), .int j, .int i, .long v]) ++ List.replicate (6 - (lg_sl ([.ref (β x), .int j, .int i, .long v])).length) Slot.unset).toArray) [])
  generalize (lg_sl ([.ref (β x), .int j, .int i, .long v]) ++ List.replicate (6 - (lg_sl ([.ref (β x), .int j, .int i, .long v])).length) Slot.unset).toArray = ls at hl ⊢
  have hl : lv_has ls 6 [(0, .ref (β x)), (1, .int j), (2, .int i), (3, .long v)] := hl
  have X : xCt D G Hb h0 b0 (((1, false, yX0_write, cX0_write, 6, some .long) : xM)) p s m _ meth c := ⟨hx, hb, hml, hown, hts, fun q => (by cases q), hK⟩
  refine lv_iload_n hx hb dX0_write_0 rfl (lv_at hl 1 rfl) ?_
  refine n_callW (va_runS (As := [.int j]) (rest := []) ⟨hx, hb, hml, hown, hts⟩ (nm_isRow (D := D) (G := G) (Hb := Hb) (h0 := h0) (b0 := b0) (β := β) (h := h) (w := 1) (if_pos hj).symm) (va_cwS 1 hts (lw_S q1361 q1362 q124 q1363) rfl rfl rfl (by decide +kernel) ⟨by show 2 + 1 ≤ 11; omega, by show 8 + (1 + 11) + 120 ≤ 10400; omega⟩) ⟨xPc_blind, xPc_at hK hw hS⟩ rfl rfl hl.1 rfl (lv_room (Nat.le_of_ble_eq_true rfl)) dX0_write_1 ⟨Nat.zero_le _, Nat.zero_le _⟩) hS (fun H1 locs1 hw hS => ?_)
  refine lv_if_ne (tgt := 15) hx hb dX0_write_4 (by decide) (fun _ => ?_) (fun c9 => absurd c9 (by decide))
  refine lv_aload_n hx hb dX0_write_15 rfl (lv_at hl 0 rfl) ?_
  refine x_getW (mm := ((1, false, yX0_write, cX0_write, 6, some .long) : xM)) (h := h) (xF_ok 1 66 1 17 12 rfl) hx1 X hw dX0_write_16 ?_
  refine n_top (v' := .ref (β rw)) (by show va_rf ((oR (h) x 17).map β) = _; rw [hrw]; rfl) ?_
  refine lv_iload_n hx hb dX0_write_19 rfl (lv_at hl 1 rfl) ?_
  refine va_aldq hx hb hK.1 hw.1 (rw - 64) _ (xaR (G := G) hw.2.2 tw (by omega) (by omega)) (xty_r (t := 47) (by omega) (by omega)) (j_in hj nw) dX0_write_20 ?_
  refine n_top (v' := .ref (β q)) (by show va_rf ((oR (h) rw j.toNatClampNeg).map β) = _; rw [hq]; rfl) ?_
  refine lv_iload_n hx hb dX0_write_21 rfl (lv_at hl 2 rfl) ?_
  refine lv_lload_n hx hb dX0_write_22 rfl (lv_at hl 3 rfl) ?_
  have htab : c.exceptionTable.toList = tableOf hhW := vx_table (x := yX0_write) B (hts _ q1530)
  refine n_callT (vx_runV (As := [.int i, .long v]) (rest := []) ⟨hx, hb, hml, hown, hts⟩ (nm_oob (D := D) (G := G) (Hb := Hb) (h0 := h0) (b0 := b0) (β := β) (h := h) hlt hq6 ha ht9 ((hw.2.2.2.1 a (hw.2.2.lt (a := a) (Or.inr ⟨ht9.1, by omega⟩)).1 (hw.2.2.lt (a := a) (Or.inr ⟨ht9.1, by omega⟩)).2).2) hout) (cwV 2 hts (lw_V q1575 q1576 q1577 q131 q1578) rfl rfl rfl (by decide +kernel) ⟨by show 9 + 1 ≤ 11; omega, by show 8 + (4 + 11) + 10300 ≤ 10400; omega⟩) ⟨xPc_blind, x_recv hK hw hq6 (by omega) (by omega) (C := "FootOut$Numbers") rfl, xPc_at hK hw hS⟩ rfl rfl hl.1 rfl (lv_room (Nat.le_of_ble_eq_true rfl)) dX0_write_23 ⟨by show 0 + 3 ≤ 64; omega, by show 0 + 300 ≤ 4096; omega⟩) hS fun H2 locs2 q9 ce hw2 hS2 hce hcv hcl => ?_
  refine vx_catch hown [⟨15, 36, 37, 505⟩] ⟨15, 36, 47, 507⟩ [] htab (fun z hz => by rw [List.mem_singleton.mp hz]; exact Or.inr ⟨by decide, "java/lang/NullPointerException", hts _ q1531, hK.2.2.2.2.1 _ (List.mem_of_getElem? (i := 12) rfl)⟩) (by decide) (by decide) (hts _ q1556) (xnest_u hK (List.mem_of_getElem? (i := 129) rfl)) hce hcv hcl ?_
  refine lv_astore hx hb dX0_write_47 hl (by omega) rfl fun ls1 hl1 => ?_
  refine lv_aload_n hx hb dX0_write_49 rfl (lv_at hl1 1 rfl) ?_
  refine lv_bipush (v := -7) hx hb dX0_write_50 (by decide) ?_
  refine n_callW (va_runV (As := [.int (-7)]) (rest := []) ⟨hx, hb, hml, hown, hts⟩ (nm_no7 (D := D) (G := G) (Hb := Hb) (h0 := h0) (b0 := b0) (β := β) (h := h) hx1 hrf tf nf) (cwV 1 hts (lw_V q434 q436 qs0 q124 q437) rfl rfl rfl (by decide +kernel) ⟨by show 1 + 1 ≤ 11; omega, by show 8 + (2 + 11) + 60 ≤ 10400; omega⟩) ⟨xPc_blind, x_recv hK hw2 hx1 (by omega) (by omega) (C := "FootOut") rfl, xPc_at hK hw2 hS2⟩ rfl rfl hl1.1 rfl (lv_room (Nat.le_of_ble_eq_true rfl)) dX0_write_52 ⟨by show 0 + 3 + 0 ≤ 64; omega, by show 0 + 300 + 0 ≤ 4096; omega⟩) hS2 (fun H9 locs9 hw9 hS9 => ?_)
  refine lv_i2l (v := -7) hx hb dX0_write_55 (by decide) ?_
  have hwF : xWd D G Hb h0 b0 β (xno h rf 4 64 4096) H9 := hw9
  refine vx_ret (W.widen (k := 64) (n := 4096) (by omega) (by omega) ?_)
  exact W.lret hx hb hr (fun t ht _ => ⟨β, rfl, fun _ _ => rfl, by rw [ht]; exact hwF, fun v hv => (by cases hv; exact trivial), by rw [ht]; exact ⟨hS9.1, hS9.2.1, fun _ h => by cases h⟩⟩) hS9.2.2 dX0_write_56 hlk
theorem xPV_wr (hlt : l.stackTraces = false) {q : xR} (hq : xP 5 [.ref x, .int j, .int i, .long v] h = some q) (h8 : xcat st' ≤ 8) (hlk : Cond.methodLink (xnm mm.1) k (xpn 5) ∈ lw_all) (hd : decode mm.2.2.2.1 pc = .ok (.invokevirtual k, 3)) (ih : SM D G l Hb h0 b0 mm (pc + 3) ls (xpu q.1 st') q.2 d r) : SM D G l Hb h0 b0 mm pc ls (.long v :: .int i :: .int j :: .ref x :: st') h d r := by
  have hq : (match oR h x 2, oR h x 17 with
      | some rf, some rw => if oT h x = 1 ∧ oT h rf = 40 ∧ oN h rf = 6 ∧ oT h rw = 47 ∧ oN h rw = 4 then
          (if 0 ≤ j.toInt ∧ j.toInt ≤ 3 then match oR h rw j.toNatClampNeg with
            | some q => if oT h q = 6 then (match oR h q 0 with
              | none => some (some (Value.long (-6)), xno h rf 3 64 4096)
              | some a => if 40 ≤ oT h a ∧ oT h a ≤ 44 ∧ ¬ oT h a = 42 then (if xin_ i (oN h a) = true then (if oT h a = 44 then some (some (Value.long v), pL h a (va_up (oL h a) i.toNatClampNeg v)) else some (some (Value.long (xcut (oT h a) v).toInt64), pI h a (va_up (oI h a) i.toNatClampNeg (xcut (oT h a) v)))) else some (some (Value.long (-7)), xno h rf 4 64 4096)) else none) else none
            | none => none
          else some (some (Value.long (-2)), xno h rf 0 0 0)) else none
      | _, _ => none) = some q := hq
  split at hq
  · rename_i rf rw hrf hrw
    split at hq
    · rename_i hc
      obtain ⟨hx1, tf, nf, tw, nw⟩ := hc
      split at hq
      · rename_i hj
        split at hq
        · rename_i q1 hq1
          split at hq
          · rename_i hq6
            split at hq
            · rename_i ha
              cases hq
              refine xPV_go (mc := 64) (ms := 4096) (a := x) (na := 3) (As := []) (k := k) (q := (some (.long (-6)), xno h rf 3 64 4096)) (Nat.le_refl _) rfl rfl (fun v hv => by simp [hv]) ih fun {p e R s m args below meth c H locs cells slots β M} X hw hS hM hR hcs => ⟨(Value.ref (β x) :: [.int j, .int i, .long v]).toArray, n_noX ?_⟩
              obtain ⟨hx, hb, hml, hown, hts, -, hK⟩ := X
              exact vx_runVX (C := "FootOut") (As := [.int j, .int i, .long v]) (rest := st'.map (cv β)) ⟨hx, hb, hml, hown, hts⟩ (nm_wrN (D := D) (G := G) (Hb := Hb) (h0 := h0) (b0 := b0) (β := β) (h := h) hlt hx1 hrf hrw tf nf tw nw hj hq1 hq6 ha) (vx_cwVW 3 hts (lw_VW hlk q1528 q1529 q124 q1530) rfl rfl rfl (by decide +kernel) ⟨by show 11 + 1 ≤ _; omega, by show 8 + (6 + 11) + 10400 ≤ _; omega⟩) ⟨xPc_blind, x_recv hK hw hx1 (by omega) (by omega) (C := "FootOut") rfl, xPc_at hK hw hS⟩ rfl rfl hM rfl (lv_room (by rw [xcat_cv]; exact h8)) hd hcs
            · rename_i a ha
              split at hq
              · rename_i ht9
                split at hq
                · rename_i hin
                  have e9 : q = (some (.long (xva5 h a v)), xst5 h a i v) := by
                    unfold xva5 xst5
                    split at hq
                    · rename_i e; rw [if_pos e, if_pos e]; exact (Option.some.inj hq).symm
                    · rename_i e; rw [if_neg e, if_neg e]; exact (Option.some.inj hq).symm
                  subst e9
                  obtain ⟨s1, s2, s3, s4, s5, s6⟩ := xst5_s (h := h) (a := a) (i := i) (v := v)
                  have hin9 : vp_in i (oN h a) := xix_in hin
                  refine xPV_go (mc := 0) (ms := 0) (a := x) (na := 3) (As := []) (k := k) (q := (some (.long (xva5 h a v)), xst5 h a i v)) (Nat.le_of_eq s4.symm) s5 s6 (fun v hv => by simp [hv]) ih fun {p e R s m args below meth c H locs cells slots β M} X hw hS hM hR hcs => ⟨(Value.ref (β x) :: [.int j, .int i, .long v]).toArray, n_noX ?_⟩
                  obtain ⟨hx, hb, hml, hown, hts, -, hK⟩ := X
                  exact vx_runVX (C := "FootOut") (As := [.int j, .int i, .long v]) (rest := st'.map (cv β)) ⟨hx, hb, hml, hown, hts⟩ (nm_wrS (D := D) (G := G) (Hb := Hb) (h0 := h0) (b0 := b0) (β := β) (h := h) hx1 hrf hrw tf nf tw nw hj hq1 hq6 ha ht9 hin9) (vx_cwVW 3 hts (lw_VW hlk q1528 q1529 q124 q1530) rfl rfl rfl (by decide +kernel) ⟨by show 11 + 1 ≤ _; omega, by show 8 + (6 + 11) + 10400 ≤ _; omega⟩) ⟨xPc_blind, x_recv hK hw hx1 (by omega) (by omega) (C := "FootOut") rfl, xPc_at hK hw hS⟩ rfl rfl hM rfl (lv_room (by rw [xcat_cv]; exact h8)) hd hcs
                · rename_i hin
                  cases hq
                  have hout : ¬ vp_in i (oN h a) := fun z => hin (by unfold xin_; rw [Bool.and_eq_true, decide_eq_true_eq, decide_eq_true_eq]; exact vp_in_iff.mp z)
                  refine xPV_go (mc := 64) (ms := 4096) (a := x) (na := 3) (As := []) (k := k) (q := (some (.long (-7)), xno h rf 4 64 4096)) (Nat.le_refl _) rfl rfl (fun v hv => by simp [hv]) ih fun {p e R s m args below meth c H locs cells slots β M} X hw hS hM hR hcs => ⟨(Value.ref (β x) :: [.int j, .int i, .long v]).toArray, n_noX ?_⟩
                  obtain ⟨hx, hb, hml, hown, hts, -, hK⟩ := X
                  exact vx_runVX (C := "FootOut") (As := [.int j, .int i, .long v]) (rest := st'.map (cv β)) ⟨hx, hb, hml, hown, hts⟩ (nm_wrO (D := D) (G := G) (Hb := Hb) (h0 := h0) (b0 := b0) (β := β) (h := h) hlt hx1 hrf hrw tf nf tw nw hj hq1 hq6 ha ht9 hout) (vx_cwVW 3 hts (lw_VW hlk q1528 q1529 q124 q1530) rfl rfl rfl (by decide +kernel) ⟨by show 11 + 1 ≤ _; omega, by show 8 + (6 + 11) + 10400 ≤ _; omega⟩) ⟨xPc_blind, x_recv hK hw hx1 (by omega) (by omega) (C := "FootOut") rfl, xPc_at hK hw hS⟩ rfl rfl hM rfl (lv_room (by rw [xcat_cv]; exact h8)) hd hcs
              · cases hq
          · cases hq
        · cases hq
      · rename_i hj
        cases hq
        refine xPV_go (mc := 0) (ms := 0) (a := x) (na := 3) (As := []) (k := k) (q := (some (.long (-2)), xno h rf 0 0 0)) (Nat.le_refl _) rfl rfl (fun v hv => by simp [hv]) ih fun {p e R s m args below meth c H locs cells slots β M} X hw hS hM hR hcs => ⟨(Value.ref (β x) :: [.int j, .int i, .long v]).toArray, n_noX ?_⟩
        obtain ⟨hx, hb, hml, hown, hts, -, hK⟩ := X
        exact vx_runVX (C := "FootOut") (As := [.int j, .int i, .long v]) (rest := st'.map (cv β)) ⟨hx, hb, hml, hown, hts⟩ (nm_wrA (D := D) (G := G) (Hb := Hb) (h0 := h0) (b0 := b0) (β := β) (h := h) hx1 hrf hrw tf nf tw nw hj) (vx_cwVW 3 hts (lw_VW hlk q1528 q1529 q124 q1530) rfl rfl rfl (by decide +kernel) ⟨by show 11 + 1 ≤ _; omega, by show 8 + (6 + 11) + 10400 ≤ _; omega⟩) ⟨xPc_blind, x_recv hK hw hx1 (by omega) (by omega) (C := "FootOut") rfl, xPc_at hK hw hS⟩ rfl rfl hM rfl (lv_room (by rw [xcat_cv]; exact h8)) hd hcs
    · cases hq
  · cases hq
end
