/-! SINGLE STEPS: Numbers.begins, a method with a handler of its own -/
section
variable {p : Program} {l : Launch} {e : Env} {R : Room} {s : State} {m : MethodId} {args : Array Value} {below : List Frame} {meth : Method} {c : Code} {H : Heap} {locs : List Loc} {cells slots mc ms : Nat} {Q : State → Prop} {g : JFrame} {rest : List Value} {Qa : State → Outcome → State → Prop} {free : Addr → Prop} {pc : Nat} {ls : Array Slot} {v : Value}
/-- no throw: what is left is a return -/
theorem n_noX (hr : vx_Run p l e R s m args below meth c H locs cells slots mc ms g rest Qa (fun _ _ _ => False) free) : va_Run p l e R s m args below meth c H locs cells slots mc ms g rest Qa free := fun T hT X => by
  rcases hr T hT X with z | ⟨q, st₀, t, T', L, E, ce, e0, X', hL, e1, e2, hx, -⟩
  · exact z
  · exact hx.elim
theorem n_stk {b b' : Nat} (e9 : b' = b) (k : W p l e R s m args below meth c H locs cells slots Q (F0 m pc ls (v :: .ref b' :: rest))) : W p l e R s m args below meth c H locs cells slots Q (F0 m pc ls (v :: .ref b :: rest)) := by rw [← e9]; exact k
end
abbrev hhB : List (Nat × Nat × Nat × Nat) := [(0, 66, 67, 13)]
abbrev mmB : xM := (6, false, yX4_begins, cX4_begins, 4, some .boolean)
section
variable {D : va_G} {G : Nat → ClassId} {l : Launch} {Hb : Heap} {h0 : xH} {b0 : Nat → Nat} {mm : xM} {pc d k : Nat} {ls : List Slot} {st' : List Value} {h : xH} {r : xR}
theorem xi_ne {x : Int32} (c0 : ¬ x = 0) (c1 : ¬ x = 1) (c2 : ¬ x = 2) : x.toInt < 0 ∨ 2 < x.toInt := by
  have z0 : ¬ x.toInt = 0 := fun z => c0 (Int32.toInt_inj.mp z)
  have z1 : ¬ x.toInt = 1 := fun z => c1 (Int32.toInt_inj.mp z)
  have z2 : ¬ x.toInt = 2 := fun z => c2 (Int32.toInt_inj.mp z)
  omega
/-- what begins leaves behind -/
def xbeg (h : xH) (a t k : Nat) : xH := pR (pO h t k) a (va_up (oR h a) 0 (some (oX h)))
theorem nm_begP {β : Nat → Nat} {a t : Nat} {x n : Int32} (ha : oT h a = 6) (hn0 : 0 ≤ n.toInt) (hn : n.toInt ≤ 65536) (hs : xsort x = t) : vx_Met l yX4_begins (wsW_ yX4_begins cX4_begins 4 (some .boolean) hhB) { frames := 8, cells := 1, slots := n.toNatClampNeg, locals := 10400 } (xPc D G Hb h0 b0 β h [.ref a, .int x, .int n]) (xQc D G Hb h0 b0 β (oX h) (some (.int 1), xbeg h a t n.toNatClampNeg)) (fun _ _ _ => False) 1 n.toNatClampNeg (fun q => Hb.size ≤ q) := by
  refine vx_ofWH (cc := cX4_begins) (maxL := 4) (ret := some .boolean) (hh := hhB) (by decide) rfl ?_
  intro p e s m args below meth c s₁ B hml hv
  obtain ⟨rfl, hw, hS, hK⟩ := hv
  have hx := B.exec
  have hb := B.bytes
  have hr := B.returns
  have hlk := B.notSynchronized
  have hts := atoms_spec (ws := wsW_ yX4_begins cX4_begins 4 (some .boolean) hhB) B.pre
  have hts : ∀ w ∈ lw_all, w.before _ s = true := fun w h => hts w (List.mem_cons_of_mem _ h)
  have hown : s.vm.findClass "FootOut$Numbers" = some m.cls := findClass_of_methodNamed B.named
  have hl := lv_entry ([.ref (β a), .int x, .int n]) (n := 4) (Nat.le_of_ble_eq_true rfl)
  rw [lg_entry_eq]
  show W _ _ _ _ _ _ _ _ _ _ _ _ _ _ _ (F0 m 0 ((lg_sl ([.ref (β a), .int x, .int n]) ++ List.replicate (4 - (lg_sl ([.ref (β a), .int x, .int n])).length) Slot.unset).toArray) [])
  generalize (lg_sl ([.ref (β a), .int x, .int n]) ++ List.replicate (4 - (lg_sl ([.ref (β a), .int x, .int n])).length) Slot.unset).toArray = ls at hl ⊢
  have hl : lv_has ls 4 [(0, .ref (β a)), (1, .int x), (2, .int n)] := hl
  refine lv_iload_n hx hb dX4_begins_0 rfl (lv_at hl 1 rfl) ?_
  have X : xCt D G Hb h0 b0 mmB p s m ([Value.ref a, .int x, .int n].map (cv β)).toArray meth c := ⟨hx, hb, hml, hown, hts, fun q => (by cases q), hK⟩
  have hle := hw.2.2.lt (a := a) (Or.inl ⟨by omega, by omega⟩)
  have hne : ¬ a = oX h := by omega
  by_cases c0 : x = 0
  · subst c0
    refine lv_tableIn (off := 27) (tgt := 28) hx hb dX4_begins_1 (by decide) (by decide) (by decide) (by decide) ?_
    obtain rfl : t = 41 := hs.symm.trans (by decide : xsort 0 = 41)
    refine lv_aload_n hx hb dX4_begins_28 rfl (lv_at hl 0 rfl) ?_
    refine lv_iload_n hx hb dX4_begins_29 rfl (lv_at hl 2 rfl) ?_
    refine x_newaW (mm := mmB) (h := h) (t := 41) rfl (by decide) hn0 hn X xac_ok hw hS (by show 0 + 1 ≤ 1; omega) (by show 0 + _ ≤ n.toNatClampNeg; omega) dX4_begins_30 fun q H1 hP1 hD1 hS1 => ?_
    have hw1 : xWd D G Hb h0 b0 (va_up β (oX h) q) (pO h 41 n.toNatClampNeg) H1 := ⟨by rw [xw_new hw.2.2]; exact hP1, by rw [xw_new hw.2.2]; exact hD1, xok_pO hw.2.2 (Or.inr ⟨by omega, by omega⟩) (by first | omega | (show n.toInt.toNat ≤ 65536; omega))⟩
    have ta : oT (pO h 41 n.toNatClampNeg) a = 6 := by rw [o_TO, if_neg hne]; exact ha
    have ra : oR (pO h 41 n.toNatClampNeg) a = oR h a := by rw [o_RO, if_neg hne]
    have hba : va_up β (oX h) q a = β a := by simp [va_up, hne]
    have xb : xbeg h a 41 n.toNatClampNeg = pR (pO h 41 n.toNatClampNeg) a (va_up (oR (pO h 41 n.toNatClampNeg) a) 0 (some (oX h))) := by rw [ra]; rfl
    refine n_stk hba (x_putW (mm := mmB) (h := pO h 41 n.toNatClampNeg) (h' := pR (pO h 41 n.toNatClampNeg) a (va_up (oR (pO h 41 n.toNatClampNeg) a) 0 (some (oX h)))) (β := va_up β (oX h) q) (a := a) (k := 7) (t := 6) (j := 0) (kd := 2) (v := .ref q) (xF_ok 6 7 6 0 2 rfl) ta (fun z => absurd z (by decide)) rfl xne_R xnf_r X ?_ hw1 hS1 dX4_begins_32 fun H2 locs2 hP2 hD2 hS2 => ?_)
    · show va_rf _ = _
      rw [o_RR, if_pos rfl, up_s]
      show Value.ref (va_up β (oX h) q (oX h)) = _
      rw [up_s]
    · have e9 := xw_set (G := G) (β := va_up β (oX h) q) (h := pO h 41 n.toNatClampNeg) (a := a) (h' := pR (pO h 41 n.toNatClampNeg) a (va_up (oR (pO h 41 n.toNatClampNeg) a) 0 (some (oX h)))) hle.1 rfl (fun b hb => xce_nR hb)
      rw [← xb] at e9 hP2 hD2
      have hwF : xWd D G Hb h0 b0 (va_up β (oX h) q) (xbeg h a 41 n.toNatClampNeg) H2 := ⟨by rw [e9]; exact hP2, by rw [e9]; exact hD2, by rw [xb]; exact xok_pR (xup_rf hw1.2.2 fun b hb => by cases hb; exact Nat.lt_succ_self _) hw1.2.2⟩
      refine lv_goto (tgt := 65) hx hb dX4_begins_35 (by decide) ?_
      refine lv_iconst (v := 1) hx hb dX4_begins_65 (by decide) ?_
      refine vx_ret (W.widen (k := 1) (n := n.toNatClampNeg) (by omega) (by omega) ?_)
      exact W.zret (ty := .boolean) hx hb hr (by decide) (fun t9 ht9 _ => ⟨va_up β (oX h) q, rfl, fun b hb => by simp [va_up, show b ≠ oX h by omega], by rw [ht9]; exact hwF, fun v hv => (by cases hv; exact trivial), by rw [ht9]; exact ⟨hS2.1, hS2.2.1, fun _ h => by cases h⟩⟩) hS2.2.2 dX4_begins_66 hlk
  · skip
    by_cases c1 : x = 1
    · subst c1
      refine lv_tableIn (off := 37) (tgt := 38) hx hb dX4_begins_1 (by decide) (by decide) (by decide) (by decide) ?_
      obtain rfl : t = 43 := hs.symm.trans (by decide : xsort 1 = 43)
      refine lv_aload_n hx hb dX4_begins_38 rfl (lv_at hl 0 rfl) ?_
      refine lv_iload_n hx hb dX4_begins_39 rfl (lv_at hl 2 rfl) ?_
      refine x_newaW (mm := mmB) (h := h) (t := 43) rfl (by decide) hn0 hn X xac_ok hw hS (by show 0 + 1 ≤ 1; omega) (by show 0 + _ ≤ n.toNatClampNeg; omega) dX4_begins_40 fun q H1 hP1 hD1 hS1 => ?_
      have hw1 : xWd D G Hb h0 b0 (va_up β (oX h) q) (pO h 43 n.toNatClampNeg) H1 := ⟨by rw [xw_new hw.2.2]; exact hP1, by rw [xw_new hw.2.2]; exact hD1, xok_pO hw.2.2 (Or.inr ⟨by omega, by omega⟩) (by first | omega | (show n.toInt.toNat ≤ 65536; omega))⟩
      have ta : oT (pO h 43 n.toNatClampNeg) a = 6 := by rw [o_TO, if_neg hne]; exact ha
      have ra : oR (pO h 43 n.toNatClampNeg) a = oR h a := by rw [o_RO, if_neg hne]
      have hba : va_up β (oX h) q a = β a := by simp [va_up, hne]
      have xb : xbeg h a 43 n.toNatClampNeg = pR (pO h 43 n.toNatClampNeg) a (va_up (oR (pO h 43 n.toNatClampNeg) a) 0 (some (oX h))) := by rw [ra]; rfl
      refine n_stk hba (x_putW (mm := mmB) (h := pO h 43 n.toNatClampNeg) (h' := pR (pO h 43 n.toNatClampNeg) a (va_up (oR (pO h 43 n.toNatClampNeg) a) 0 (some (oX h)))) (β := va_up β (oX h) q) (a := a) (k := 7) (t := 6) (j := 0) (kd := 2) (v := .ref q) (xF_ok 6 7 6 0 2 rfl) ta (fun z => absurd z (by decide)) rfl xne_R xnf_r X ?_ hw1 hS1 dX4_begins_42 fun H2 locs2 hP2 hD2 hS2 => ?_)
      · show va_rf _ = _
        rw [o_RR, if_pos rfl, up_s]
        show Value.ref (va_up β (oX h) q (oX h)) = _
        rw [up_s]
      · have e9 := xw_set (G := G) (β := va_up β (oX h) q) (h := pO h 43 n.toNatClampNeg) (a := a) (h' := pR (pO h 43 n.toNatClampNeg) a (va_up (oR (pO h 43 n.toNatClampNeg) a) 0 (some (oX h)))) hle.1 rfl (fun b hb => xce_nR hb)
        rw [← xb] at e9 hP2 hD2
        have hwF : xWd D G Hb h0 b0 (va_up β (oX h) q) (xbeg h a 43 n.toNatClampNeg) H2 := ⟨by rw [e9]; exact hP2, by rw [e9]; exact hD2, by rw [xb]; exact xok_pR (xup_rf hw1.2.2 fun b hb => by cases hb; exact Nat.lt_succ_self _) hw1.2.2⟩
        refine lv_goto (tgt := 65) hx hb dX4_begins_45 (by decide) ?_
        refine lv_iconst (v := 1) hx hb dX4_begins_65 (by decide) ?_
        refine vx_ret (W.widen (k := 1) (n := n.toNatClampNeg) (by omega) (by omega) ?_)
        exact W.zret (ty := .boolean) hx hb hr (by decide) (fun t9 ht9 _ => ⟨va_up β (oX h) q, rfl, fun b hb => by simp [va_up, show b ≠ oX h by omega], by rw [ht9]; exact hwF, fun v hv => (by cases hv; exact trivial), by rw [ht9]; exact ⟨hS2.1, hS2.2.1, fun _ h => by cases h⟩⟩) hS2.2.2 dX4_begins_66 hlk
    · skip
      by_cases c2 : x = 2
      · subst c2
        refine lv_tableIn (off := 47) (tgt := 48) hx hb dX4_begins_1 (by decide) (by decide) (by decide) (by decide) ?_
        obtain rfl : t = 40 := hs.symm.trans (by decide : xsort 2 = 40)
        refine lv_aload_n hx hb dX4_begins_48 rfl (lv_at hl 0 rfl) ?_
        refine lv_iload_n hx hb dX4_begins_49 rfl (lv_at hl 2 rfl) ?_
        refine x_newaW (mm := mmB) (h := h) (t := 40) rfl (by decide) hn0 hn X xac_ok hw hS (by show 0 + 1 ≤ 1; omega) (by show 0 + _ ≤ n.toNatClampNeg; omega) dX4_begins_50 fun q H1 hP1 hD1 hS1 => ?_
        have hw1 : xWd D G Hb h0 b0 (va_up β (oX h) q) (pO h 40 n.toNatClampNeg) H1 := ⟨by rw [xw_new hw.2.2]; exact hP1, by rw [xw_new hw.2.2]; exact hD1, xok_pO hw.2.2 (Or.inr ⟨by omega, by omega⟩) (by first | omega | (show n.toInt.toNat ≤ 65536; omega))⟩
        have ta : oT (pO h 40 n.toNatClampNeg) a = 6 := by rw [o_TO, if_neg hne]; exact ha
        have ra : oR (pO h 40 n.toNatClampNeg) a = oR h a := by rw [o_RO, if_neg hne]
        have hba : va_up β (oX h) q a = β a := by simp [va_up, hne]
        have xb : xbeg h a 40 n.toNatClampNeg = pR (pO h 40 n.toNatClampNeg) a (va_up (oR (pO h 40 n.toNatClampNeg) a) 0 (some (oX h))) := by rw [ra]; rfl
        refine n_stk hba (x_putW (mm := mmB) (h := pO h 40 n.toNatClampNeg) (h' := pR (pO h 40 n.toNatClampNeg) a (va_up (oR (pO h 40 n.toNatClampNeg) a) 0 (some (oX h)))) (β := va_up β (oX h) q) (a := a) (k := 7) (t := 6) (j := 0) (kd := 2) (v := .ref q) (xF_ok 6 7 6 0 2 rfl) ta (fun z => absurd z (by decide)) rfl xne_R xnf_r X ?_ hw1 hS1 dX4_begins_52 fun H2 locs2 hP2 hD2 hS2 => ?_)
        · show va_rf _ = _
          rw [o_RR, if_pos rfl, up_s]
          show Value.ref (va_up β (oX h) q (oX h)) = _
          rw [up_s]
        · have e9 := xw_set (G := G) (β := va_up β (oX h) q) (h := pO h 40 n.toNatClampNeg) (a := a) (h' := pR (pO h 40 n.toNatClampNeg) a (va_up (oR (pO h 40 n.toNatClampNeg) a) 0 (some (oX h)))) hle.1 rfl (fun b hb => xce_nR hb)
          rw [← xb] at e9 hP2 hD2
          have hwF : xWd D G Hb h0 b0 (va_up β (oX h) q) (xbeg h a 40 n.toNatClampNeg) H2 := ⟨by rw [e9]; exact hP2, by rw [e9]; exact hD2, by rw [xb]; exact xok_pR (xup_rf hw1.2.2 fun b hb => by cases hb; exact Nat.lt_succ_self _) hw1.2.2⟩
          refine lv_goto (tgt := 65) hx hb dX4_begins_55 (by decide) ?_
          refine lv_iconst (v := 1) hx hb dX4_begins_65 (by decide) ?_
          refine vx_ret (W.widen (k := 1) (n := n.toNatClampNeg) (by omega) (by omega) ?_)
          exact W.zret (ty := .boolean) hx hb hr (by decide) (fun t9 ht9 _ => ⟨va_up β (oX h) q, rfl, fun b hb => by simp [va_up, show b ≠ oX h by omega], by rw [ht9]; exact hwF, fun v hv => (by cases hv; exact trivial), by rw [ht9]; exact ⟨hS2.1, hS2.2.1, fun _ h => by cases h⟩⟩) hS2.2.2 dX4_begins_66 hlk
      · skip
        refine lv_tableOut (tgt := 58) hx hb dX4_begins_1 (xi_ne c0 c1 c2) (by decide) ?_
        obtain rfl : t = 44 := hs.symm.trans (by unfold xsort; rw [if_neg c0, if_neg c1, if_neg c2] : xsort x = 44)
        refine lv_aload_n hx hb dX4_begins_58 rfl (lv_at hl 0 rfl) ?_
        refine lv_iload_n hx hb dX4_begins_59 rfl (lv_at hl 2 rfl) ?_
        refine x_newaW (mm := mmB) (h := h) (t := 44) rfl (by decide) hn0 hn X xac_ok hw hS (by show 0 + 1 ≤ 1; omega) (by show 0 + _ ≤ n.toNatClampNeg; omega) dX4_begins_60 fun q H1 hP1 hD1 hS1 => ?_
        have hw1 : xWd D G Hb h0 b0 (va_up β (oX h) q) (pO h 44 n.toNatClampNeg) H1 := ⟨by rw [xw_new hw.2.2]; exact hP1, by rw [xw_new hw.2.2]; exact hD1, xok_pO hw.2.2 (Or.inr ⟨by omega, by omega⟩) (by first | omega | (show n.toInt.toNat ≤ 65536; omega))⟩
        have ta : oT (pO h 44 n.toNatClampNeg) a = 6 := by rw [o_TO, if_neg hne]; exact ha
        have ra : oR (pO h 44 n.toNatClampNeg) a = oR h a := by rw [o_RO, if_neg hne]
        have hba : va_up β (oX h) q a = β a := by simp [va_up, hne]
        have xb : xbeg h a 44 n.toNatClampNeg = pR (pO h 44 n.toNatClampNeg) a (va_up (oR (pO h 44 n.toNatClampNeg) a) 0 (some (oX h))) := by rw [ra]; rfl
        refine n_stk hba (x_putW (mm := mmB) (h := pO h 44 n.toNatClampNeg) (h' := pR (pO h 44 n.toNatClampNeg) a (va_up (oR (pO h 44 n.toNatClampNeg) a) 0 (some (oX h)))) (β := va_up β (oX h) q) (a := a) (k := 7) (t := 6) (j := 0) (kd := 2) (v := .ref q) (xF_ok 6 7 6 0 2 rfl) ta (fun z => absurd z (by decide)) rfl xne_R xnf_r X ?_ hw1 hS1 dX4_begins_62 fun H2 locs2 hP2 hD2 hS2 => ?_)
        · show va_rf _ = _
          rw [o_RR, if_pos rfl, up_s]
          show Value.ref (va_up β (oX h) q (oX h)) = _
          rw [up_s]
        · have e9 := xw_set (G := G) (β := va_up β (oX h) q) (h := pO h 44 n.toNatClampNeg) (a := a) (h' := pR (pO h 44 n.toNatClampNeg) a (va_up (oR (pO h 44 n.toNatClampNeg) a) 0 (some (oX h)))) hle.1 rfl (fun b hb => xce_nR hb)
          rw [← xb] at e9 hP2 hD2
          have hwF : xWd D G Hb h0 b0 (va_up β (oX h) q) (xbeg h a 44 n.toNatClampNeg) H2 := ⟨by rw [e9]; exact hP2, by rw [e9]; exact hD2, by rw [xb]; exact xok_pR (xup_rf hw1.2.2 fun b hb => by cases hb; exact Nat.lt_succ_self _) hw1.2.2⟩
          refine lv_iconst (v := 1) hx hb dX4_begins_65 (by decide) ?_
          refine vx_ret (W.widen (k := 1) (n := n.toNatClampNeg) (by omega) (by omega) ?_)
          exact W.zret (ty := .boolean) hx hb hr (by decide) (fun t9 ht9 _ => ⟨va_up β (oX h) q, rfl, fun b hb => by simp [va_up, show b ≠ oX h by omega], by rw [ht9]; exact hwF, fun v hv => (by cases hv; exact trivial), by rw [ht9]; exact ⟨hS2.1, hS2.2.1, fun _ h => by cases h⟩⟩) hS2.2.2 dX4_begins_66 hlk
theorem nm_begN (hlt : l.stackTraces = false) {β : Nat → Nat} {a : Nat} {x n : Int32} (hn : n < 0) : vx_Met l yX4_begins (wsW_ yX4_begins cX4_begins 4 (some .boolean) hhB) { frames := 8, cells := 64, slots := 4096, locals := 10400 } (xPc D G Hb h0 b0 β h [.ref a, .int x, .int n]) (xQc D G Hb h0 b0 β (oX h) (some (.int 0), pC h 64 4096)) (fun _ _ _ => False) 64 4096 (fun q => Hb.size ≤ q) := by
  refine vx_ofWH (cc := cX4_begins) (maxL := 4) (ret := some .boolean) (hh := hhB) (by decide) rfl ?_
  intro p e s m args below meth c s₁ B hml hv
  obtain ⟨rfl, hw, hS, hK⟩ := hv
  have hx := B.exec
  have hb := B.bytes
  have hr := B.returns
  have hlk := B.notSynchronized
  have hts := atoms_spec (ws := wsW_ yX4_begins cX4_begins 4 (some .boolean) hhB) B.pre
  have hts : ∀ w ∈ lw_all, w.before _ s = true := fun w h => hts w (List.mem_cons_of_mem _ h)
  have hown : s.vm.findClass "FootOut$Numbers" = some m.cls := findClass_of_methodNamed B.named
  have hl := lv_entry ([.ref (β a), .int x, .int n]) (n := 4) (Nat.le_of_ble_eq_true rfl)
  rw [lg_entry_eq]
  show W _ _ _ _ _ _ _ _ _ _ _ _ _ _ _ (F0 m 0 ((lg_sl ([.ref (β a), .int x, .int n]) ++ List.replicate (4 - (lg_sl ([.ref (β a), .int x, .int n])).length) Slot.unset).toArray) [])
  generalize (lg_sl ([.ref (β a), .int x, .int n]) ++ List.replicate (4 - (lg_sl ([.ref (β a), .int x, .int n])).length) Slot.unset).toArray = ls at hl ⊢
  have hl : lv_has ls 4 [(0, .ref (β a)), (1, .int x), (2, .int n)] := hl
  refine lv_iload_n hx hb dX4_begins_0 rfl (lv_at hl 1 rfl) ?_
  obtain ⟨adV, -, -, -, -, -, hU, hN⟩ := hK.2.2.2.2.2.2.2.2
  have hU := hU.kept hS.2.1
  have hN := hN.kept hS.2.1
  have htab : c.exceptionTable.toList = tableOf hhB := vx_table (x := yX4_begins) B (hts _ q1442)
  by_cases c0 : x = 0
  · subst c0
    refine lv_tableIn (off := 27) (tgt := 28) hx hb dX4_begins_1 (by decide) (by decide) (by decide) (by decide) ?_
    refine lv_aload_n hx hb dX4_begins_28 rfl (lv_at hl 0 rfl) ?_
    refine lv_iload_n hx hb dX4_begins_29 rfl (lv_at hl 2 rfl) ?_
    refine vx_newarrayZ hx hb hn dX4_begins_30 fun tx etx => ?_
    refine vx_vm (names := ["java/lang/RuntimeException", "java/lang/Exception"]) (nb := 44) (A := fun q => Hb.size ≤ q) hx hlt (by decide +kernel) (by decide +kernel) (by decide +kernel) (by decide +kernel) (w_nas hts hK) w_nas_g hU hN ⟨Nat.le_refl _, fun _ _ _ => rfl, fun _ h => by cases h⟩ (hl.1.trans hml.symm) (by rw [etx]; exact negative_text_modelled hn) (by rw [etx]; exact negative_text_bytes n) (by decide) (by show 2 + 4 < 8; omega) (by show 1 + 10240 ≤ 10400; omega) (by decide) (by show 0 + 3 ≤ 64; omega) (by show 0 + (44 + 10) ≤ 4096; omega) hlk fun H1 q9 ce hsz hkp hS1 hce hcv hcl => ?_
    refine vx_catch hown [] ⟨0, 66, 67, 13⟩ [] htab (fun z hz => by cases hz) (by decide) (by decide) (hts _ q1443) (xnest_u hK (List.mem_of_getElem? (i := 120) rfl)) hce hcv hcl ?_
    refine lv_astore_n hx hb dX4_begins_67 rfl hl (by omega) rfl fun ls1 hl1 => ?_
    refine lv_iconst (v := 0) hx hb dX4_begins_68 (by decide) ?_
    have hwF : xWd D G Hb h0 b0 β (pC h 64 4096) H1 := ⟨hw.1.kept (fun i y hy => hkp _ ((hw.1 i y hy).lt)), hw.2.1, hw.2.2⟩
    refine vx_ret (W.widen (k := 64) (n := 4096) (by omega) (by omega) ?_)
    exact W.zret (ty := .boolean) hx hb hr (by decide) (fun t9 ht9 _ => ⟨β, rfl, fun _ _ => rfl, by rw [ht9]; exact hwF, fun v hv => (by cases hv; exact trivial), by rw [ht9]; exact ⟨Nat.le_trans hS.1 hS1.1, fun y h1 h2 => (hS1.2.1 y (Nat.lt_of_lt_of_le h1 hS.1) h2).trans (hS.2.1 y h1 h2), fun _ h => by cases h⟩⟩) hS1.2.2 dX4_begins_69 hlk
  · skip
    by_cases c1 : x = 1
    · subst c1
      refine lv_tableIn (off := 37) (tgt := 38) hx hb dX4_begins_1 (by decide) (by decide) (by decide) (by decide) ?_
      refine lv_aload_n hx hb dX4_begins_38 rfl (lv_at hl 0 rfl) ?_
      refine lv_iload_n hx hb dX4_begins_39 rfl (lv_at hl 2 rfl) ?_
      refine vx_newarrayZ hx hb hn dX4_begins_40 fun tx etx => ?_
      refine vx_vm (names := ["java/lang/RuntimeException", "java/lang/Exception"]) (nb := 44) (A := fun q => Hb.size ≤ q) hx hlt (by decide +kernel) (by decide +kernel) (by decide +kernel) (by decide +kernel) (w_nas hts hK) w_nas_g hU hN ⟨Nat.le_refl _, fun _ _ _ => rfl, fun _ h => by cases h⟩ (hl.1.trans hml.symm) (by rw [etx]; exact negative_text_modelled hn) (by rw [etx]; exact negative_text_bytes n) (by decide) (by show 2 + 4 < 8; omega) (by show 1 + 10240 ≤ 10400; omega) (by decide) (by show 0 + 3 ≤ 64; omega) (by show 0 + (44 + 10) ≤ 4096; omega) hlk fun H1 q9 ce hsz hkp hS1 hce hcv hcl => ?_
      refine vx_catch hown [] ⟨0, 66, 67, 13⟩ [] htab (fun z hz => by cases hz) (by decide) (by decide) (hts _ q1443) (xnest_u hK (List.mem_of_getElem? (i := 120) rfl)) hce hcv hcl ?_
      refine lv_astore_n hx hb dX4_begins_67 rfl hl (by omega) rfl fun ls1 hl1 => ?_
      refine lv_iconst (v := 0) hx hb dX4_begins_68 (by decide) ?_
      have hwF : xWd D G Hb h0 b0 β (pC h 64 4096) H1 := ⟨hw.1.kept (fun i y hy => hkp _ ((hw.1 i y hy).lt)), hw.2.1, hw.2.2⟩
      refine vx_ret (W.widen (k := 64) (n := 4096) (by omega) (by omega) ?_)
      exact W.zret (ty := .boolean) hx hb hr (by decide) (fun t9 ht9 _ => ⟨β, rfl, fun _ _ => rfl, by rw [ht9]; exact hwF, fun v hv => (by cases hv; exact trivial), by rw [ht9]; exact ⟨Nat.le_trans hS.1 hS1.1, fun y h1 h2 => (hS1.2.1 y (Nat.lt_of_lt_of_le h1 hS.1) h2).trans (hS.2.1 y h1 h2), fun _ h => by cases h⟩⟩) hS1.2.2 dX4_begins_69 hlk
    · skip
      by_cases c2 : x = 2
      · subst c2
        refine lv_tableIn (off := 47) (tgt := 48) hx hb dX4_begins_1 (by decide) (by decide) (by decide) (by decide) ?_
        refine lv_aload_n hx hb dX4_begins_48 rfl (lv_at hl 0 rfl) ?_
        refine lv_iload_n hx hb dX4_begins_49 rfl (lv_at hl 2 rfl) ?_
        refine vx_newarrayZ hx hb hn dX4_begins_50 fun tx etx => ?_
        refine vx_vm (names := ["java/lang/RuntimeException", "java/lang/Exception"]) (nb := 44) (A := fun q => Hb.size ≤ q) hx hlt (by decide +kernel) (by decide +kernel) (by decide +kernel) (by decide +kernel) (w_nas hts hK) w_nas_g hU hN ⟨Nat.le_refl _, fun _ _ _ => rfl, fun _ h => by cases h⟩ (hl.1.trans hml.symm) (by rw [etx]; exact negative_text_modelled hn) (by rw [etx]; exact negative_text_bytes n) (by decide) (by show 2 + 4 < 8; omega) (by show 1 + 10240 ≤ 10400; omega) (by decide) (by show 0 + 3 ≤ 64; omega) (by show 0 + (44 + 10) ≤ 4096; omega) hlk fun H1 q9 ce hsz hkp hS1 hce hcv hcl => ?_
        refine vx_catch hown [] ⟨0, 66, 67, 13⟩ [] htab (fun z hz => by cases hz) (by decide) (by decide) (hts _ q1443) (xnest_u hK (List.mem_of_getElem? (i := 120) rfl)) hce hcv hcl ?_
        refine lv_astore_n hx hb dX4_begins_67 rfl hl (by omega) rfl fun ls1 hl1 => ?_
        refine lv_iconst (v := 0) hx hb dX4_begins_68 (by decide) ?_
        have hwF : xWd D G Hb h0 b0 β (pC h 64 4096) H1 := ⟨hw.1.kept (fun i y hy => hkp _ ((hw.1 i y hy).lt)), hw.2.1, hw.2.2⟩
        refine vx_ret (W.widen (k := 64) (n := 4096) (by omega) (by omega) ?_)
        exact W.zret (ty := .boolean) hx hb hr (by decide) (fun t9 ht9 _ => ⟨β, rfl, fun _ _ => rfl, by rw [ht9]; exact hwF, fun v hv => (by cases hv; exact trivial), by rw [ht9]; exact ⟨Nat.le_trans hS.1 hS1.1, fun y h1 h2 => (hS1.2.1 y (Nat.lt_of_lt_of_le h1 hS.1) h2).trans (hS.2.1 y h1 h2), fun _ h => by cases h⟩⟩) hS1.2.2 dX4_begins_69 hlk
      · skip
        refine lv_tableOut (tgt := 58) hx hb dX4_begins_1 (xi_ne c0 c1 c2) (by decide) ?_
        refine lv_aload_n hx hb dX4_begins_58 rfl (lv_at hl 0 rfl) ?_
        refine lv_iload_n hx hb dX4_begins_59 rfl (lv_at hl 2 rfl) ?_
        refine vx_newarrayZ hx hb hn dX4_begins_60 fun tx etx => ?_
        refine vx_vm (names := ["java/lang/RuntimeException", "java/lang/Exception"]) (nb := 44) (A := fun q => Hb.size ≤ q) hx hlt (by decide +kernel) (by decide +kernel) (by decide +kernel) (by decide +kernel) (w_nas hts hK) w_nas_g hU hN ⟨Nat.le_refl _, fun _ _ _ => rfl, fun _ h => by cases h⟩ (hl.1.trans hml.symm) (by rw [etx]; exact negative_text_modelled hn) (by rw [etx]; exact negative_text_bytes n) (by decide) (by show 2 + 4 < 8; omega) (by show 1 + 10240 ≤ 10400; omega) (by decide) (by show 0 + 3 ≤ 64; omega) (by show 0 + (44 + 10) ≤ 4096; omega) hlk fun H1 q9 ce hsz hkp hS1 hce hcv hcl => ?_
        refine vx_catch hown [] ⟨0, 66, 67, 13⟩ [] htab (fun z hz => by cases hz) (by decide) (by decide) (hts _ q1443) (xnest_u hK (List.mem_of_getElem? (i := 120) rfl)) hce hcv hcl ?_
        refine lv_astore_n hx hb dX4_begins_67 rfl hl (by omega) rfl fun ls1 hl1 => ?_
        refine lv_iconst (v := 0) hx hb dX4_begins_68 (by decide) ?_
        have hwF : xWd D G Hb h0 b0 β (pC h 64 4096) H1 := ⟨hw.1.kept (fun i y hy => hkp _ ((hw.1 i y hy).lt)), hw.2.1, hw.2.2⟩
        refine vx_ret (W.widen (k := 64) (n := 4096) (by omega) (by omega) ?_)
        exact W.zret (ty := .boolean) hx hb hr (by decide) (fun t9 ht9 _ => ⟨β, rfl, fun _ _ => rfl, by rw [ht9]; exact hwF, fun v hv => (by cases hv; exact trivial), by rw [ht9]; exact ⟨Nat.le_trans hS.1 hS1.1, fun y h1 h2 => (hS1.2.1 y (Nat.lt_of_lt_of_le h1 hS.1) h2).trans (hS.2.1 y h1 h2), fun _ h => by cases h⟩⟩) hS1.2.2 dX4_begins_69 hlk
/-- the rest of a run behind a call that is one step -/
theorem xPV_go {a na mc ms : Nat} {st As : List Value} {q : xR} {k : Nat} (hX : oX h ≤ oX q.2) (hC : oC q.2 = oC h + mc) (hS' : oS q.2 = oS h + ms) (hsub : ∀ v ∈ st', v ∈ st) (ih : SM D G l Hb h0 b0 mm (pc + 3) ls (xpu q.1 st') q.2 d r)
    (run : ∀ {p : Program} {e : Env} {R : Room} {s : State} {m : MethodId} {args : Array Value} {below : List Frame} {meth : Method} {c : Code} {H : Heap} {locs : List Loc} {cells slots : Nat} {β : Nat → Nat} {M : Array Slot} (_ : xCt D G Hb h0 b0 mm p s m args meth c) (_ : xWd D G Hb h0 b0 β h H) (_ : va_S (fun q => Hb.size ≤ q) Hb H locs) (_ : M.size = mm.2.2.2.2.1) (_ : d + 17 ≤ R.frames ∧ 96 * (d + 1) + 11000 ≤ R.locals) (_ : cells + mc ≤ R.cells ∧ slots + ms ≤ R.slots),
      ∃ av, va_Run p l e R s m args below meth c H locs cells slots mc ms (F0 m pc M (st.map (cv β))) (st'.map (cv β)) (xQc D G Hb h0 b0 β (oX h) q av) (fun q => Hb.size ≤ q)) : SM D G l Hb h0 b0 mm pc ls st h d r := by
  obtain ⟨⟨i1, i2, i3⟩, ih⟩ := ih
  refine ⟨⟨by omega, by omega, by omega⟩, fun {p e R s m args below meth c Q H locs cells slots β M} X hw hS hL hvs hR hc hs fin => ?_⟩
  have hrest : ∀ v ∈ st', xvo (oX h) v := fun v hv => hvs.1 v (hsub v hv)
  obtain ⟨av, rn⟩ := run X hw hS hL.2.1 hR ⟨(by omega : cells + mc ≤ R.cells), (by omega : slots + ms ≤ R.slots)⟩
  refine x_callW rn hS fun β' H1 locs1 hb1 hw1 hS1 hvo => ?_
  have k := ih X (Q := Q) (cells := cells + mc) (slots := slots + ms) hw1 hS1 (hL.up hb1 hvs.2) ⟨fun v hv => by
    cases e1 : q.1 with
    | none => rw [e1] at hv; exact xvo_mono hX (hrest v hv)
    | some w =>
      rw [e1] at hv
      rcases List.mem_cons.mp hv with z | z
      · rw [z]; exact hvo w e1
      · exact xvo_mono hX (hrest v z), fun v hv => xvo_mono hX (hvs.2 v hv)⟩ hR (by omega) (by omega) fun β'' H' locs' cells' slots' M' pc' st'' a1 a2 a3 a4 a5 a6 a7 => fin β'' H' locs' cells' slots' M' pc' st'' a1 (fun b hb => by rw [a2 b (by omega), hb1 b hb]) a3 a4 a5 a6 a7
  rw [xpu_map, cv_sameL hb1 hrest] at k
  exact k
theorem xPV_beg (hlt : l.stackTraces = false) {a : Nat} {x n : Int32} {q : xR} (hq : xP 4 [.ref a, .int x, .int n] h = some q) (h8 : xcat st' ≤ 8) (hlk : Cond.methodLink (xnm mm.1) k (xpn 4) ∈ lw_all) (hd : decode mm.2.2.2.1 pc = .ok (.invokevirtual k, 3)) (ih : SM D G l Hb h0 b0 mm (pc + 3) ls (xpu q.1 st') q.2 d r) : SM D G l Hb h0 b0 mm pc ls (.int n :: .int x :: .ref a :: st') h d r := by
  have hq : (if oT h a = 6 then (if n.toInt < 0 then some (some (Value.int 0), pC h 64 4096) else if n.toInt ≤ 65536 then some (some (Value.int 1), xbeg h a (xsort x) n.toNatClampNeg) else none) else none) = some q := hq
  split at hq
  · rename_i ha
    split at hq
    · rename_i hn
      have hn : n < 0 := by rw [Int32.lt_iff_toInt_lt]; exact hn
      cases hq
      refine xPV_go (mc := 64) (ms := 4096) (a := a) (na := 2) (As := []) (k := k) (q := (some (.int 0), pC h 64 4096)) (Nat.le_refl _) rfl rfl (fun v hv => by simp [hv]) ih fun {p e R s m args below meth c H locs cells slots β M} X hw hS hM hR hcs => ⟨(Value.ref (β a) :: [.int x, .int n]).toArray, n_noX ?_⟩
      obtain ⟨hx, hb, hml, hown, hts, -, hK⟩ := X
      exact vx_runVX (C := "FootOut$Numbers") (As := [.int x, .int n]) (rest := st'.map (cv β)) ⟨hx, hb, hml, hown, hts⟩ (nm_begN (D := D) (G := G) (h0 := h0) (b0 := b0) (β := β) (h := h) (a := a) hlt hn) (vx_cwVW 2 hts (lw_VW hlk q1440 q1441 q131 q1442) rfl rfl rfl (by decide +kernel) ⟨by show 8 + 1 ≤ _; omega, by show 8 + (4 + 11) + 10400 ≤ _; omega⟩) ⟨xPc_blind, x_recv hK hw ha (by omega) (by omega) (C := "FootOut$Numbers") rfl, xPc_at hK hw hS⟩ rfl rfl hM rfl (lv_room (by rw [xcat_cv]; exact h8)) hd hcs
    · split at hq
      · rename_i hn hn2
        cases hq
        refine xPV_go (mc := 1) (ms := n.toNatClampNeg) (a := a) (na := 2) (As := []) (k := k) (q := (some (.int 1), xbeg h a (xsort x) n.toNatClampNeg)) (Nat.le_succ _) rfl rfl (fun v hv => by simp [hv]) ih fun {p e R s m args below meth c H locs cells slots β M} X hw hS hM hR hcs => ⟨(Value.ref (β a) :: [.int x, .int n]).toArray, n_noX ?_⟩
        obtain ⟨hx, hb, hml, hown, hts, -, hK⟩ := X
        exact vx_runVX (C := "FootOut$Numbers") (As := [.int x, .int n]) (rest := st'.map (cv β)) ⟨hx, hb, hml, hown, hts⟩ (nm_begP (D := D) (G := G) (h0 := h0) (b0 := b0) (β := β) (h := h) (a := a) ha (by omega) hn2 rfl) (vx_cwVW 2 hts (lw_VW hlk q1440 q1441 q131 q1442) rfl rfl rfl (by decide +kernel) ⟨by show 8 + 1 ≤ _; omega, by show 8 + (4 + 11) + 10400 ≤ _; omega⟩) ⟨xPc_blind, x_recv hK hw ha (by omega) (by omega) (C := "FootOut$Numbers") rfl, xPc_at hK hw hS⟩ rfl rfl hM rfl (lv_room (by rw [xcat_cv]; exact h8)) hd hcs
      · cases hq
  · cases hq
end
