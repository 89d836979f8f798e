/-! SOUNDNESS, calls -/
def xQc (D : va_G) (G : Nat → ClassId) (Hb : Heap) (h0 : xH) (b0 β : Nat → Nat) (n : Nat) (r : xR) : Array Value → State → Outcome → State → Prop := fun _ _ oc t => ∃ β' : Nat → Nat, oc = .returned (r.1.map (cv β')) ∧ (∀ a, a < n → β' a = β a) ∧ xWd D G Hb h0 b0 β' r.2 t.heap ∧ (∀ v, r.1 = some v → xvo (oX r.2) v) ∧ va_S (fun q => Hb.size ≤ q) Hb t.heap []
def xPc (D : va_G) (G : Nat → ClassId) (Hb : Heap) (h0 : xH) (b0 β : Nat → Nat) (h : xH) (as : List Value) : Array Value → State → Prop := va_Pc (as.map (cv β)) (fun U => xWd D G Hb h0 b0 β h U.heap ∧ va_S (fun q => Hb.size ≤ q) Hb U.heap [] ∧ xKs D G Hb h0 b0 U)
section
variable {D : va_G} {G : Nat → ClassId} {l : Launch} {Hb : Heap} {h0 : xH} {b0 : Nat → Nat} {mm m' : xM} {pc n d len : Nat} {ls : List Slot} {st : List Value} {h : xH} {r q : xR} {c' : xC}
theorem xL_len : ∀ (as : List Value) (n : Nat), xcat as ≤ n → (xL as n).length = n
  | [], n, _ => by simp [xL]
  | v :: vs, n, h => by
    have h1 : xcat (v :: vs) = v.category + xcat vs := by simp [xcat]
    rcases lv_cat v with hc | hc
    · have e : xL (v :: vs) n = .val v :: xL vs (n - 1) := by
        show (match v.category with | 2 => _ | _ => _) = _
        rw [hc]; rfl
      rw [e, List.length_cons, xL_len vs (n - 1) (by omega)]
      omega
    · have e : xL (v :: vs) n = .val v :: .unset :: xL vs (n - 2) := by
        show (match v.category with | 2 => _ | _ => _) = _
        rw [hc]; rfl
      rw [e, List.length_cons, List.length_cons, xL_len vs (n - 2) (by omega)]
      omega
theorem xL_args (β : Nat → Nat) : ∀ (as : List Value) (n i k : Nat) (v : Value), (xL as n)[k]? = some (.val v) → (i + k, cv β v) ∈ lv_args i (as.map (cv β))
  | [], n, i, k, v, h => by
    have := List.eq_of_mem_replicate (List.mem_of_getElem? (show (List.replicate n Slot.unset)[k]? = some (.val v) from h))
    cases this
  | w :: vs, n, i, k, v, h => by
    rcases lv_cat w with hc | hc
    · have e : xL (w :: vs) n = .val w :: xL vs (n - 1) := by
        show (match w.category with | 2 => _ | _ => _) = _
        rw [hc]; rfl
      rw [e] at h
      have e2 : lv_args i ((w :: vs).map (cv β)) = (i, cv β w) :: lv_args (i + 1) (vs.map (cv β)) := by
        show (i, cv β w) :: lv_args (if (cv β w).category = 2 then i + 2 else i + 1) _ = _
        rw [cv_cat, hc]; rfl
      rw [e2]
      cases k with
      | zero => cases h; exact List.mem_cons_self
      | succ k =>
        refine List.mem_cons_of_mem _ ?_
        have := xL_args β vs (n - 1) (i + 1) k v h
        rwa [show i + 1 + k = i + (k + 1) by omega] at this
    · have e : xL (w :: vs) n = .val w :: .unset :: xL vs (n - 2) := by
        show (match w.category with | 2 => _ | _ => _) = _
        rw [hc]; rfl
      rw [e] at h
      have e2 : lv_args i ((w :: vs).map (cv β)) = (i, cv β w) :: lv_args (i + 2) (vs.map (cv β)) := by
        show (i, cv β w) :: lv_args (if (cv β w).category = 2 then i + 2 else i + 1) _ = _
        rw [cv_cat, hc]; rfl
      rw [e2]
      cases k with
      | zero => cases h; exact List.mem_cons_self
      | succ k =>
        refine List.mem_cons_of_mem _ ?_
        cases k with
        | zero => cases h
        | succ k =>
          have := xL_args β vs (n - 2) (i + 2) k v h
          rwa [show i + 2 + k = i + (k + 1 + 1) by omega] at this
theorem xL_val : ∀ (as : List Value) (n : Nat) (v : Value), Slot.val v ∈ xL as n → v ∈ as
  | [], n, v, h => by
    have := List.eq_of_mem_replicate (show Slot.val v ∈ List.replicate n Slot.unset from h)
    cases this
  | w :: vs, n, v, h => by
    rcases lv_cat w with hc | hc
    · have e : xL (w :: vs) n = .val w :: xL vs (n - 1) := by
        show (match w.category with | 2 => _ | _ => _) = _
        rw [hc]; rfl
      rw [e] at h
      rcases List.mem_cons.mp h with q | q
      · cases q; exact List.mem_cons_self
      · exact List.mem_cons_of_mem _ (xL_val vs _ v q)
    · have e : xL (w :: vs) n = .val w :: .unset :: xL vs (n - 2) := by
        show (match w.category with | 2 => _ | _ => _) = _
        rw [hc]; rfl
      rw [e] at h
      rcases List.mem_cons.mp h with q | q
      · cases q; exact List.mem_cons_self
      · rcases List.mem_cons.mp q with q | q
        · cases q
        · exact List.mem_cons_of_mem _ (xL_val vs _ v q)
theorem xsl_len (β : Nat → Nat) : ∀ as : List Value, (lg_sl (as.map (cv β))).length = xcat as
  | [] => rfl
  | v :: vs => by
    have e : lg_sl ((v :: vs).map (cv β)) = (if (cv β v).category = 2 then [Slot.val (cv β v), .second] else [.val (cv β v)]) ++ lg_sl (vs.map (cv β)) := rfl
    have h1 : xcat (v :: vs) = v.category + xcat vs := by simp [xcat]
    rw [e, List.length_append, xsl_len β vs, h1, cv_cat]
    rcases lv_cat v with hc | hc <;> rw [hc] <;> rfl
theorem xcat_cv (β : Nat → Nat) (st : List Value) : ((st.map (cv β)).map fun v => v.category).sum = xcat st := by
  unfold xcat
  rw [List.map_map]
  congr 1
  exact List.map_congr_left fun v _ => cv_cat β v
/-- a method's contract out of its run -/
theorem xMet (hM : XMok mm) {as : List Value} (ih : SM D G l Hb h0 b0 mm 0 (xL as mm.2.2.2.2.1) [] h d r) {β : Nat → Nat} (has : ∀ v ∈ as, xvo (oX h) v) (hcat : xcat as ≤ mm.2.2.2.2.1) :
    Met l mm.2.2.1 (ws_ mm.2.2.1 mm.2.2.2.1 mm.2.2.2.2.1 mm.2.2.2.2.2) { frames := d + 17, cells := oC r.2 - oC h, slots := oS r.2 - oS h, locals := 96 * (d + 1) + 11000 } (xPc D G Hb h0 b0 β h as) (xQc D G Hb h0 b0 β (oX h) r) (oC r.2 - oC h) (oS r.2 - oS h) (fun q => Hb.size ≤ q) := by
  refine Met.ofW (cc := mm.2.2.2.1) (maxL := mm.2.2.2.2.1) (ret := mm.2.2.2.2.2) hM.1 rfl ?_
  intro p e s m args below meth c s₁ B hml hv
  obtain ⟨rfl, hw, hS, hK⟩ := hv
  have hts := atoms_spec (ws := ws_ mm.2.2.1 mm.2.2.2.1 mm.2.2.2.2.1 mm.2.2.2.2.2) B.pre
  have hts : ∀ w ∈ lw_all, w.before _ s = true := fun w h => hts w (List.mem_cons_of_mem _ h)
  have hown : s.vm.findClass (xnm mm.1) = some m.cls := by rw [← hM.2.2.2.2.1]; exact findClass_of_methodNamed B.named
  have X : xCt D G Hb h0 b0 mm p s m (as.map (cv β)).toArray meth c := ⟨B.exec, B.bytes, hml, hown, hts, fun q => ((name_of_methodNamed B.named B.method).1).trans (hM.2.2.2.2.2.1 q), hK⟩
  rw [lg_entry_eq]
  have hl := lv_entry (as.map (cv β)) (n := mm.2.2.2.2.1) (by rw [xsl_len]; exact hcat)
  obtain ⟨⟨i1, i2, i3⟩, ih⟩ := ih
  refine ih X (cells := 0) (slots := 0) (β := β) hw hS ⟨xL_len as _ hcat, hl.1, hl.2.1, fun k v hk => ?_⟩ ⟨fun v h => (by cases h), fun v h => has v (xL_val as _ v h)⟩ ⟨Nat.le_refl _, Nat.le_refl _⟩ (by show 0 + oC r.2 ≤ (oC r.2 - oC h) + oC h; omega) (by show 0 + oS r.2 ≤ (oS r.2 - oS h) + oS h; omega) ?_
  · have := xL_args β as _ 0 k v hk
    rw [Nat.zero_add] at this
    exact hl.2.2 _ this
  · intro β' H' locs' cells' slots' M' pc' st' hw' hb hS' hc hs hf hv
    have hlk := B.notSynchronized
    have hr := B.returns
    have hQ : ∀ t : State, t.heap = H' → xQc D G Hb h0 b0 β (oX h) r (as.map (cv β)).toArray s (.returned (r.1.map (cv β'))) t := fun t ht => ⟨β', rfl, hb, by rw [ht]; exact hw', hv, by rw [ht]; exact ⟨hS'.1, hS'.2.1, fun _ h => by cases h⟩⟩
    refine W.widen (k := oC r.2 - oC h) (n := oS r.2 - oS h) hc hs ?_
    generalize hz : r.1.map (cv β') = z at hf hQ
    match z, hf with
    | some (.int v), hf =>
      obtain ⟨f1, f2, f3⟩ := hf
      subst f2
      rcases f3 with f3 | ⟨f3, f4⟩
      · exact W.zret (ty := .int) B.exec B.bytes (hr.trans f3) rfl (fun t ht _ => hQ t ht) hS'.2.2 f1 hlk
      · exact W.zret (ty := .boolean) B.exec B.bytes (hr.trans f3) (by rcases f4 with e | e <;> rw [e] <;> decide) (fun t ht _ => hQ t ht) hS'.2.2 f1 hlk
    | some (.long v), hf =>
      obtain ⟨f1, f2, f3⟩ := hf
      subst f2
      exact W.lret B.exec B.bytes (hr.trans f3) (fun t ht _ => hQ t ht) hS'.2.2 f1 hlk
    | some (.ref v), hf =>
      obtain ⟨f1, f2, f3⟩ := hf
      subst f2
      rcases f3 with ⟨k, f3⟩ | ⟨k, f3⟩
      · exact W.aret B.exec B.bytes (hr.trans f3) (Or.inl ⟨k, rfl⟩) (Or.inr ⟨v, rfl⟩) (fun t ht _ => hQ t ht) hS'.2.2 f1 hlk
      · exact W.aret B.exec B.bytes (hr.trans f3) (Or.inr ⟨k, rfl⟩) (Or.inr ⟨v, rfl⟩) (fun t ht _ => hQ t ht) hS'.2.2 f1 hlk
    | some .null, hf =>
      obtain ⟨f1, f2, f3⟩ := hf
      subst f2
      rcases f3 with ⟨k, f3⟩ | ⟨k, f3⟩
      · exact W.aret B.exec B.bytes (hr.trans f3) (Or.inl ⟨k, rfl⟩) (Or.inl rfl) (fun t ht _ => hQ t ht) hS'.2.2 f1 hlk
      · exact W.aret B.exec B.bytes (hr.trans f3) (Or.inr ⟨k, rfl⟩) (Or.inl rfl) (fun t ht _ => hQ t ht) hS'.2.2 f1 hlk
    | none, hf =>
      obtain ⟨f1, f2, f3⟩ := hf
      subst f2
      exact W.vret B.exec B.bytes (hr.trans f3) (fun t ht _ => hQ t ht) hS'.2.2 f1 hlk
theorem xPc_blind {β : Nat → Nat} {as : List Value} : FrameBlind (xPc D G Hb h0 b0 β h as) := fun a U g mk q => by
  obtain ⟨q0, q1, q2, q3⟩ := q
  exact ⟨q0, q1, q2, xKs.same (u := U) (U := U.calling g mk a) rfl q3⟩
theorem xPc_at {β : Nat → Nat} {as : List Value} {s : State} {H : Heap} (hK : xKs D G Hb h0 b0 s) (hw : xWd D G Hb h0 b0 β h H) {locs : List Loc} (hS : va_S (fun q => Hb.size ≤ q) Hb H locs) : ∀ U : State, U.heap = H → s.WarmedH U.vm → xPc D G Hb h0 b0 β h as (as.map (cv β)).toArray U := fun U hU hW => ⟨rfl, by rw [hU]; exact hw, by rw [hU]; exact ⟨hS.1, hS.2.1, fun _ h => by cases h⟩, hK.warm hW⟩
theorem x_callW {p : Program} {e : Env} {R : Room} {s : State} {m : MethodId} {args : Array Value} {below : List Frame} {meth : Method} {c : Code} {H : Heap} {locs : List Loc} {cells slots mc ms : Nat} {Q : State → Prop} {M : Array Slot} {st0 rest : List Value} {a : Array Value} {β : Nat → Nat} {N : Nat} (hr : va_Run p l e R s m args below meth c H locs cells slots mc ms (F0 m pc M st0) rest (xQc D G Hb h0 b0 β N q a) (fun q => Hb.size ≤ q)) (hS : va_S (fun q => Hb.size ≤ q) Hb H locs)
    (kk : ∀ (β' : Nat → Nat) (H1 : Heap) (locs1 : List Loc), (∀ a, a < N → β' a = β a) → xWd D G Hb h0 b0 β' q.2 H1 → va_S (fun q => Hb.size ≤ q) Hb H1 locs1 → (∀ v, q.1 = some v → xvo (oX q.2) v) → W p l e R s m args below meth c H1 locs1 (cells + mc) (slots + ms) Q (F0 m (pc + 3) M ((q.1.map (cv β')).toList ++ rest))) : W p l e R s m args below meth c H locs cells slots Q (F0 m pc M st0) := by
  intro T hT X
  obtain ⟨v, st₀, t, T', L, h0, X', hL, e1, e2, ⟨β', hv, hb, hw, hvo, hS1⟩, st⟩ := hr T hT X
  cases hv
  obtain ⟨t2, a1, b1⟩ := kk β' T'.heap (locs ++ L) hb (by rw [e1]; exact hw) ⟨by rw [e1]; exact hS1.1, fun z h1 h2 => by rw [e1]; exact hS1.2.1 z h1 h2, fun z hz => by
    rcases List.mem_append.mp hz with h | h
    · exact hS.2.2 z h
    · exact hL z h⟩ hvo T' rfl X'
  exact ⟨t2, st t2 a1, b1⟩
theorem xpu_map {β : Nat → Nat} {v : Option Value} {rest : List Value} : (xpu v rest).map (cv β) = (v.map (cv β)).toList ++ rest.map (cv β) := by cases v <;> rfl
/-- a call: the callee's run, then the caller's -/
theorem g_call {as rest : List Value} (hM : XMok m') (h8 : xcat rest ≤ 8) (hcat : xcat as ≤ m'.2.2.2.2.1) (hin : ∀ v, v ∈ as ∨ v ∈ rest → v ∈ st) (ihc : SM D G l Hb h0 b0 m' 0 (xL as m'.2.2.2.2.1) [] h d q) (ihk : SM D G l Hb h0 b0 mm (pc + 3) ls (xpu q.1 rest) q.2 (d + 1) r)
    (run : ∀ {p : Program} {e : Env} {R : Room} {s : State} {m : MethodId} {args : Array Value} {below : List Frame} {meth : Method} {c : Code} {H : Heap} {locs : List Loc} {cells slots mc ms : Nat} {β : Nat → Nat} {M : Array Slot} {Pc : Array Value → State → Prop} {Qc : Array Value → State → Outcome → State → Prop} (_ : xCt D G Hb h0 b0 mm p s m args meth c) (_ : xWd D G Hb h0 b0 β h H) (_ : M.size = mm.2.2.2.2.1)
      (_ : Met l m'.2.2.1 (ws_ m'.2.2.1 m'.2.2.2.1 m'.2.2.2.2.1 m'.2.2.2.2.2) { frames := d + 17, cells := mc, slots := ms, locals := 96 * (d + 1) + 11000 } Pc Qc mc ms (fun q => Hb.size ≤ q)) (_ : PreS s H Pc (as.map (cv β))) (_ : d + 17 + 1 ≤ R.frames ∧ 8 + (m'.2.2.2.2.1 + 11) + (96 * (d + 1) + 11000) ≤ R.locals) (_ : ((rest.map (cv β)).map fun v => v.category).sum ≤ 8) (_ : cells + mc ≤ R.cells ∧ slots + ms ≤ R.slots),
      va_Run p l e R s m args below meth c H locs cells slots mc ms (F0 m pc M (st.map (cv β))) (rest.map (cv β)) (Qc (as.map (cv β)).toArray) (fun q => Hb.size ≤ q)) : SM D G l Hb h0 b0 mm pc ls st h (d + 1) r := by
  obtain ⟨⟨c1, c2, c3⟩, -⟩ := id ihc
  obtain ⟨⟨k1, k2, k3⟩, ihk⟩ := ihk
  refine ⟨⟨by omega, by omega, by omega⟩, fun {p e R s m args below meth c Q H locs cells slots β M} X hw hS hL hvs hR hc hs fin => ?_⟩
  have has : ∀ v ∈ as, xvo (oX h) v := fun v hv => hvs.1 v (hin v (Or.inl hv))
  have hrest : ∀ v ∈ rest, xvo (oX h) v := fun v hv => hvs.1 v (hin v (Or.inr hv))
  have hMet := xMet (β := β) hM ihc has hcat
  refine x_callW (run X hw hL.2.1 hMet ⟨xPc_blind, xPc_at X.2.2.2.2.2.2 hw hS⟩ ⟨by omega, by have := hM.2.2.2.2.2.2; omega⟩ (by rw [xcat_cv]; exact h8) ⟨by omega, by omega⟩) hS fun β' H1 locs1 hb hw1 hS1 hvo => ?_
  have k := ihk X (Q := Q) (cells := cells + (oC q.2 - oC h)) (slots := slots + (oS q.2 - oS h)) hw1 hS1 (hL.up hb hvs.2) ⟨fun v hv => by
    cases e1 : q.1 with
    | none => rw [e1] at hv; exact xvo_mono c1 (hrest v hv)
    | some w =>
      rw [e1] at hv
      rcases List.mem_cons.mp hv with z | z
      · rw [z]; exact hvo w e1
      · exact xvo_mono c1 (hrest v z), fun v hv => xvo_mono c1 (hvs.2 v hv)⟩ hR (by omega) (by omega) fun β'' H' locs' cells' slots' M' pc' st'' a1 a2 a3 a4 a5 a6 a7 => fin β'' H' locs' cells' slots' M' pc' st'' a1 (fun a ha => by rw [a2 a (by omega), hb a ha]) a3 a4 a5 a6 a7
  rw [xpu_map, cv_sameL hb hrest] at k
  exact k
theorem xcall_eq {as rest : List Value} {d1 : Nat} {cc : xC} {kk : xR → Option xC} (hi : xcall mm m' n ls as rest h d1 = some (.inr (.inl (cc, kk)))) : ∃ d, d1 = d + 1 ∧ xcat rest ≤ 8 ∧ xcat as ≤ m'.2.2.2.2.1 ∧ cc = (m', 0, xL as m'.2.2.2.2.1, [], h, d) ∧ ∀ r, kk r = some (mm, n, ls, xpu r.1 rest, r.2, d + 1) := by
  cases d1 with
  | zero => cases hi
  | succ d =>
    have hi : (if xcat rest ≤ 8 ∧ xcat as ≤ m'.2.2.2.2.1 then _ else none) = _ := hi
    split at hi
    · rename_i hc
      have e := Sum.inl.inj (Sum.inr.inj (Option.some.inj hi))
      refine ⟨d, rfl, hc.1, hc.2, (Prod.mk.inj e).1.symm, fun r => ?_⟩
      rw [← (Prod.mk.inj e).2]
    · cases hi
theorem xar_ne {y : MethodName} {c : String} (h : xmh c) (ha : xar y n) : c ≠ "java/lang/invoke/MethodHandle" ∧ c ≠ "java/lang/invoke/VarHandle" ∧ (parseMethodDescriptor y.desc).map (fun d => d.parameters.length) = some n := ⟨h.1, h.2, ha⟩
theorem take_rev {na : Nat} {a : Value} (hs : st[na]? = some a) : (st.take (na + 1)).reverse = a :: (st.take na).reverse := by
  rw [List.take_add_one, hs]
  simp
theorem st_split {na : Nat} {a : Value} (hs : st[na]? = some a) : st = st.take na ++ a :: st.drop (na + 1) := by
  conv => lhs; rw [← List.take_append_drop na st]
  congr 1
  have hl := (List.getElem?_eq_some_iff.mp hs).1
  rw [List.drop_eq_getElem_cons hl]
  rw [(List.getElem?_eq_some_iff.mp hs).2]
theorem g_stat {k na : Nat} (hO : XSok mm.1 k na (.inl m')) (hn : na ≤ st.length) (hd : decode mm.2.2.2.1 pc = .ok (.invokestatic k, 3)) {d1 : Nat} {cc : xC} {kk : xR → Option xC} (hi : xcall mm m' (pc + 3) ls (st.take na).reverse (st.drop na) h d1 = some (.inr (.inl (cc, kk)))) (ihc : SMc D G l Hb h0 b0 cc q) {c2 : xC} (hk : kk q = some c2) (ihk : SMc D G l Hb h0 b0 c2 r) : SM D G l Hb h0 b0 mm pc ls st h d1 r := by
  obtain ⟨d, rfl, h8, hcat, rfl, e2⟩ := xcall_eq hi
  have e3 := (e2 q).symm.trans hk
  cases e3
  obtain ⟨hM, har, hst, hlk⟩ := hO
  refine g_call hM h8 hcat (fun v hv => ?_) ihc ihk fun {p e R s m args below meth c H locs cells slots mc ms β M Pc Qc} X hw hMs hMet hpre hR hr8 hf => ?_
  · rcases hv with hv | hv
    · exact List.mem_of_mem_take (List.mem_reverse.mp hv)
    · exact List.mem_of_mem_drop hv
  · obtain ⟨hx, hb, hml, hown, hts, -, hK⟩ := X
    have hstk : (F0 m pc M (st.map (cv β))).stack = ((st.take na).reverse.map (cv β)).reverse ++ (st.drop na).map (cv β) := by
      show st.map (cv β) = _
      rw [← List.map_reverse, List.reverse_reverse, ← List.map_append, List.take_append_drop]
    have hlen : ((st.take na).reverse.map (cv β)).length = na := by simp only [List.length_map, List.length_reverse, List.length_take]; omega
    rcases hlk with q1 | ⟨host, q1⟩
    · exact va_runS ⟨hx, hb, hml, hown, hts⟩ hMet (va_cwS na hts (lw_S q1 hst hM.2.2.2.1 hM.2.2.1) rfl rfl rfl (xar_ne hM.2.1 har) hR) hpre rfl hlen hMs hstk (lv_room hr8) hd hf
    · exact va_runSN ⟨hx, hb, hml, hown, hts⟩ hMet ⟨va_cnB na hts (lw_meth hM.2.2.1) rfl rfl rfl (hK.2.1 _ q1) (hts _ hM.2.2.2.1) (xar_ne hM.2.1 har) hR, hts _ hst, trivial⟩ hpre rfl hlen hMs hstk (lv_room hr8) hd hf
theorem g_spec {k na a : Nat} (hO : XZok mm.1 k na (some m')) (hs : st[na]? = some (.ref a)) (hd : decode mm.2.2.2.1 pc = .ok (.invokespecial k, 3)) {d1 : Nat} {cc : xC} {kk : xR → Option xC} (hi : xcall mm m' (pc + 3) ls (st.take (na + 1)).reverse (st.drop (na + 1)) h d1 = some (.inr (.inl (cc, kk)))) (ihc : SMc D G l Hb h0 b0 cc q) {c2 : xC} (hk : kk q = some c2) (ihk : SMc D G l Hb h0 b0 c2 r) : SM D G l Hb h0 b0 mm pc ls st h d1 r := by
  obtain ⟨d, rfl, h8, hcat, rfl, e2⟩ := xcall_eq hi
  have e3 := (e2 q).symm.trans hk
  cases e3
  obtain ⟨hM, har, hini, hret, hinst, hlk⟩ := hO
  refine g_call hM h8 hcat (fun v hv => ?_) ihc ihk fun {p e R s m args below meth c H locs cells slots mc ms β M Pc Qc} X hw hMs hMet hpre hR hr8 hf => ?_
  · rcases hv with hv | hv
    · exact List.mem_of_mem_take (List.mem_reverse.mp hv)
    · exact List.mem_of_mem_drop hv
  · obtain ⟨hx, hb, hml, hown, hts, -, hK⟩ := X
    have e1 : ((st.take (na + 1)).reverse.map (cv β)) = .ref (β a) :: (st.take na).reverse.map (cv β) := by rw [take_rev hs]; rfl
    rw [e1] at hpre ⊢
    have hstk : (F0 m pc M (st.map (cv β))).stack = ((st.take na).reverse.map (cv β)).reverse ++ .ref (β a) :: (st.drop (na + 1)).map (cv β) := by
      show st.map (cv β) = _
      rw [← List.map_reverse, List.reverse_reverse]
      conv => lhs; rw [st_split hs]
      rw [List.map_append]; rfl
    have hlen : ((st.take na).reverse.map (cv β)).length = na := by
      have := (List.getElem?_eq_some_iff.mp hs).1
      simp; omega
    rw [hret] at hMet
    have hcode := hM.2.2.1
    rw [hret] at hcode
    rcases hlk with q1 | ⟨host, q1⟩
    · exact va_runI ⟨hx, hb, hml, hown, hts⟩ hMet (cwI na hts (lw_meth hcode) rfl rfl rfl (hts _ hM.2.2.2.1) (hts _ q1) (hts _ hinst) (hM.2.2.2.2.2.1 hini) (xar_ne hM.2.1 har) hR) hpre rfl hlen hMs hstk (lv_room hr8) hd hf
    · exact va_runIN ⟨hx, hb, hml, hown, hts⟩ hMet ⟨va_cnB na hts (lw_meth hcode) rfl rfl rfl (hK.2.1 _ q1) (hts _ hM.2.2.2.1) (xar_ne hM.2.1 har) hR, hM.2.2.2.2.2.1 hini, hts _ hinst⟩ hpre rfl hlen hMs hstk (lv_room hr8) hd hf
theorem g_virt {k na a t : Nat} (hO : XVok mm.1 k na t (.inl m')) (hs : st[na]? = some (.ref a)) (ht : oT h a = t) (hd : decode mm.2.2.2.1 pc = .ok (.invokevirtual k, 3)) {d1 : Nat} {cc : xC} {kk : xR → Option xC} (hi : xcall mm m' (pc + 3) ls (st.take (na + 1)).reverse (st.drop (na + 1)) h d1 = some (.inr (.inl (cc, kk)))) (ihc : SMc D G l Hb h0 b0 cc q) {c2 : xC} (hk : kk q = some c2) (ihk : SMc D G l Hb h0 b0 c2 r) : SM D G l Hb h0 b0 mm pc ls st h d1 r := by
  obtain ⟨d, rfl, h8, hcat, rfl, e2⟩ := xcall_eq hi
  have e3 := (e2 q).symm.trans hk
  cases e3
  obtain ⟨C, T, N, ty0, t1, t2, hc, hM, har, hcase⟩ := hO
  refine g_call hM h8 hcat (fun v hv => ?_) ihc ihk fun {p e R s m args below meth c H locs cells slots mc ms β M Pc Qc} X hw hMs hMet hpre hR hr8 hf => ?_
  · rcases hv with hv | hv
    · exact List.mem_of_mem_take (List.mem_reverse.mp hv)
    · exact List.mem_of_mem_drop hv
  · obtain ⟨hx, hb, hml, hown, hts, -, hK⟩ := X
    have e1 : ((st.take (na + 1)).reverse.map (cv β)) = .ref (β a) :: (st.take na).reverse.map (cv β) := by rw [take_rev hs]; rfl
    rw [e1] at hpre ⊢
    have hstk : (F0 m pc M (st.map (cv β))).stack = ((st.take na).reverse.map (cv β)).reverse ++ .ref (β a) :: (st.drop (na + 1)).map (cv β) := by
      show st.map (cv β) = _
      rw [← List.map_reverse, List.reverse_reverse]
      conv => lhs; rw [st_split hs]
      rw [List.map_append]; rfl
    have hlen : ((st.take na).reverse.map (cv β)).length = na := by
      have := (List.getElem?_eq_some_iff.mp hs).1
      simp; omega
    have hrecv := x_recv hK hw ht t1 t2 hc.1
    rcases hcase with ⟨q1, q2, q3, q4, q5⟩ | ⟨x, owner, q1, q2, q3, q4, q5, q6, q7⟩
    · exact va_runV ⟨hx, hb, hml, hown, hts⟩ hMet (cwV na hts (lw_V q1 q2 q3 q4 hM.2.2.1) rfl rfl rfl ⟨q5, xar_ne hM.2.1 har⟩ hR) ⟨hpre.1, hrecv, hpre.2⟩ rfl hlen hMs hstk (lv_room hr8) hd hf
    · refine va_runU (C := C) (owner := owner) (x := x) ⟨hx, hb, hml, hown, hts⟩ hMet (va_cwA na hts (lw_app (fun w hw => ?_) (lw_meth hM.2.2.1)) rfl rfl rfl (hK.2.1 _ q5) (xar_ne q6 q7) hR) ⟨hpre.1, hrecv, hpre.2⟩ rfl hlen hMs hstk (lv_room hr8) hd hf
      simp only [List.mem_cons, List.not_mem_nil, or_false] at hw
      rcases hw with e | e | e | e | e
      · rw [e]; exact q1
      · rw [e]; exact q2
      · rw [e]; exact q3
      · rw [e]; exact q4
      · rw [e]; exact hM.2.2.2.1
theorem g_obj {k na : Nat} (hO : XZok mm.1 k na none) (hO2 : Cond.instanceMethod Jvm.Lib.objectInit ∈ lw_all ∧ Cond.code Jvm.Lib.objectInit ⟨#[0xb1]⟩ 1 none ∈ lw_all) (hd : decode mm.2.2.2.1 pc = .ok (.invokespecial k, 3)) (hi : (match st with | .ref _ :: rest => if xcat rest ≤ 8 then xgo mm (pc + 3) ls rest h d else none | _ => none) = some (.inl c')) (ih : SMc D G l Hb h0 b0 c' r) : SM D G l Hb h0 b0 mm pc ls st h d r := by
  split at hi
  · rename_i a rest
    split at hi
    · rename_i h8
      rw [xgo_eq hi] at ih
      refine g_same ih (fun β H _ q => q.tail.1) fun {p e R s m args below meth c Q H locs cells slots β M} X hw hS hL hR k => ?_
      obtain ⟨hx, hb, hml, hown, hts, -, hK⟩ := X
      refine W.objInit hx hb hown (hts _ hO) (hts _ hO2.1) (hts _ hO2.2) rfl (by rw [hml]; exact hL.2.1) rfl hd (by omega) ?_ k
      show 2 * 0 + ((rest.map (cv β)).map fun v => v.category).sum + 12 ≤ R.locals
      rw [xcat_cv]
      omega
    · cases hi
  · cases hi
end
theorem xa_ldcSW {p : Program} {l : Launch} {e : Env} {R : Room} {s : State} {m : MethodId} {args : Array Value} {below : List Frame} {meth : Method} {c : Code} {H : Heap} {locs : List Loc} {cells slots : Nat} {Q : State → Prop} {cc : ByteArray} {ls : Array Slot} {rest : List Value} {pc : Nat} (hexec : p.tables.exec = Jvm.exec) (hb : c.code = cc) {own tx : String} {index q : Nat} (hown : s.vm.findClass own = some m.cls) (hZ : vk_R own index tx q s) (hdg : decode cc pc = .ok (.ldc_w index, 3))
    (k : W p l e R s m args below meth c H locs cells slots Q (F0 m (pc + 3) ls (.ref q :: rest))) : W p l e R s m args below meth c H locs cells slots Q (F0 m pc ls rest) := by
  intro T hT X
  obtain ⟨t, a1, b1⟩ := k T hT X
  refine ⟨t, ?_, b1⟩
  obtain ⟨k0, cf, i, a', hk, hcf, hcp, -, hr, hev'⟩ := Cond.stringRef_spec hown hZ.1
  cases hZ.2.symm.trans hev'
  obtain ⟨k', hk', he⟩ := X.warmed.alike.2.2 _ _ hk
  have hr' : k'.resolved[index]? = some (some (.string q)) := by
    rcases X.warmed.entry hk hk' index with h | ⟨h, -⟩
    · rw [h]; exact hr
    · rw [hr] at h; cases h
  have hdg' : decode c.code (F0 m pc ls rest).pc = .ok (.ldc_w index, 3) := by rw [hb]; exact hdg
  jvm_step X.here [hexec, hdg', ldc_w.wp_string (e := e) (s := T) (f := F0 m pc ls rest) X.here.top hk' (by rw [he]; exact hcf) hcp hr']
  exact a1
section
variable {D : va_G} {G : Nat → ClassId} {l : Launch} {Hb : Heap} {h0 : xH} {b0 : Nat → Nat} {mm m' : xM} {pc n d len : Nat} {ls : List Slot} {st : List Value} {h : xH} {r q : xR} {c' : xC}
theorem g_ldc (hKO : ∀ own k v, xK own k = some v → XKok own k v) {kk : Nat} (hd : decode mm.2.2.2.1 pc = .ok (.ldc kk, 2)) (hi : (match xK mm.1 kk with | some v => xgo mm (pc + 2) ls (v :: st) h d | none => none) = some (.inl c')) (ih : SMc D G l Hb h0 b0 c' r) : SM D G l Hb h0 b0 mm pc ls st h d r := by
  split at hi
  · rename_i v hx
    have ho := hKO _ _ _ hx
    rw [xgo_eq hi] at ih
    cases v with
    | int v => exact g_same ih (fun β H _ q => (q.push (by exact trivial)).1) fun X _ _ _ _ k => lv_ldc X.1 X.2.1 X.2.2.2.1 (X.2.2.2.2.1 _ ho) hd k
    | ref a =>
      obtain ⟨tx, h1, h2⟩ := ho
      refine g_same ih (fun β H hw q => (xvs.push (v := .ref a) q (show a < oX h from Nat.lt_of_lt_of_le h2 hw.2.2.1)).1) fun {p e R s m args below meth c Q H locs cells slots β M} X hw _ _ _ k => ?_
      have e1 : β a = b0 a := (hw.2.2.2.2.2.2 a h2).2.2.2.2
      have k : W p l e R s m args below meth c H locs cells slots Q (F0 m (pc + 2) M (.ref (β a) :: st.map (cv β))) := k
      rw [e1] at k
      have hR : vk_R (xnm mm.1) kk tx (b0 a) s := X.2.2.2.2.2.2.2.2.2.1 (xnm mm.1, kk, tx, a) h1
      exact va_ldcS (own := xnm mm.1) (tx := tx) (q := b0 a) X.1 X.2.1 X.2.2.2.1 hR hd k
    | _ => cases ho
  · cases hi
theorem g_ldcw (hKO : ∀ own k v, xK own k = some v → XKok own k v) {kk : Nat} (hd : decode mm.2.2.2.1 pc = .ok (.ldc_w kk, 3)) (hi : (match xK mm.1 kk with | some v => xgo mm (pc + 3) ls (v :: st) h d | none => none) = some (.inl c')) (ih : SMc D G l Hb h0 b0 c' r) : SM D G l Hb h0 b0 mm pc ls st h d r := by
  split at hi
  · rename_i v hx
    have ho := hKO _ _ _ hx
    rw [xgo_eq hi] at ih
    cases v with
    | int v => exact g_same ih (fun β H _ q => (q.push (by exact trivial)).1) fun X _ _ _ _ k => lv_ldcw X.1 X.2.1 X.2.2.2.1 (X.2.2.2.2.1 _ ho) hd k
    | ref a =>
      obtain ⟨tx, h1, h2⟩ := ho
      refine g_same ih (fun β H hw q => (xvs.push (v := .ref a) q (show a < oX h from Nat.lt_of_lt_of_le h2 hw.2.2.1)).1) fun {p e R s m args below meth c Q H locs cells slots β M} X hw _ _ _ k => ?_
      have e1 : β a = b0 a := (hw.2.2.2.2.2.2 a h2).2.2.2.2
      have k : W p l e R s m args below meth c H locs cells slots Q (F0 m (pc + 3) M (.ref (β a) :: st.map (cv β))) := k
      rw [e1] at k
      have hR : vk_R (xnm mm.1) kk tx (b0 a) s := X.2.2.2.2.2.2.2.2.2.1 (xnm mm.1, kk, tx, a) h1
      exact xa_ldcSW (own := xnm mm.1) (tx := tx) (q := b0 a) X.1 X.2.1 X.2.2.2.1 hR hd k
    | _ => cases ho
  · cases hi
theorem g_ldc2 (hJO : ∀ own k v, xJ own k = some v → XJok own k v) {k : Nat} (hd : decode mm.2.2.2.1 pc = .ok (.ldc2_w k, 3)) (hi : (match xJ mm.1 k with | some v => xgo mm (pc + 3) ls (.long v :: st) h d | none => none) = some (.inl c')) (ih : SMc D G l Hb h0 b0 c' r) : SM D G l Hb h0 b0 mm pc ls st h d r := by
  split at hi
  · rename_i v hx
    have ho := hJO _ _ _ hx
    rw [xgo_eq hi] at ih
    exact g_same ih (fun β H _ q => (q.push (by exact trivial)).1) fun X _ _ _ _ k => lv_ldc2 X.1 X.2.1 X.2.2.2.1 (X.2.2.2.2.1 _ ho) hd k
  · cases hi
end
