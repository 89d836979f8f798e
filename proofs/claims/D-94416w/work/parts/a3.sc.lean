/-! SOUNDNESS, the heap: fields, arrays, what is made -/
def xtk : Nat → FieldType → Bool
  | 0, .int => true
  | 1, .long => true
  | 2, .object _ => true
  | 2, .array _ => true
  | 3, .boolean => true
  | _, _ => false
def XC (t : Nat) (C : String) (T : u_T) (N : Nat) (ty0 : Nat → FieldType) : Prop := xcl[t - 1]? = some (C, T, N) ∧ (∀ w ∈ u_ws C T N, w ∈ lw_all) ∧ (∀ k, k < N → parseFieldDescriptor (T k).2.2.1 = some (ty0 k)) ∧ (∀ a, a < N → ∀ b, b < N → a ≠ b → (T a).2.1 ≠ (T b).2.1) ∧ (xkd t).length = N ∧ (∀ k, k < N → xtk ((xkd t).getD k 9) (ty0 k) = true) ∧ Cond.instantiable C N ∈ lw_all ∧ Cond.initialized C ∈ lw_all ∧ Cond.castable C "java/lang/Object" ∈ xnest
def XFok (own k t j kd : Nat) : Prop := ∃ (C : String) (T : u_T) (N : Nat) (ty0 : Nat → FieldType) (ref : String), 1 ≤ t ∧ t ≤ 19 ∧ XC t C T N ty0 ∧ j < N ∧ (xkd t)[j]? = some (kd % 10) ∧ (Cond.fieldLink (xnm own) k ref (T j).2.1 (T j).2.2.1 ∈ lw_all ∨ ∃ host, Cond.fieldLinkNest (xnm own) k ref (T j).2.1 (T j).2.2.1 host ∈ xnest) ∧ ((T j).1 = ref ∨ Cond.sameField ref (T j).1 (T j).2.1 (T j).2.2.1 ∈ lw_all) ∧ (T j).2.2.2 = decide (10 ≤ kd) ∧ (own = t → 10 ≤ kd → (T j).1 = xnm own ∧ Cond.fieldLink (xnm own) k ref (T j).2.1 (T j).2.2.1 ∈ lw_all)
section
variable {D : va_G} {G : Nat → ClassId} {l : Launch} {Hb : Heap} {h0 : xH} {b0 : Nat → Nat} {mm : xM} {pc n d len : Nat} {ls : List Slot} {st : List Value} {h : xH} {r : xR} {c' : xC}
theorem xw_at {β : Nat → Nat} {a : Nat} (h1 : 64 ≤ a) (h2 : a < oX h) : (xw G β h)[a - 64]? = some (β a, xce G β h a) := by
  unfold xw
  rw [List.getElem?_map, List.getElem?_range (by omega)]
  show some (β (a - 64 + 64), xce G β h (a - 64 + 64)) = _
  rw [Nat.sub_add_cancel h1]
theorem xw_len {β : Nat → Nat} : (xw G β h).length = oX h - 64 := by simp [xw]
theorem xfv_congr {h h' : xH} {β β' : Nat → Nat} {a k kd : Nat} (hI : oI h' a k = oI h a k) (hL : oL h' a k = oL h a k) (hR : (oR h' a k).map β' = (oR h a k).map β) : xfv h' β' a k kd = xfv h β a k kd := by
  unfold xfv
  split
  · rw [hL]
  · rw [hR]
  · rw [hI]
theorem xce_congr {h h' : xH} {β β' : Nat → Nat} {a : Nat} (hT : oT h' a = oT h a) (hN : oN h' a = oN h a) (hI : oI h' a = oI h a) (hL : oL h' a = oL h a) (hR : ∀ k, (oR h' a k).map β' = (oR h a k).map β) : xce G β' h' a = xce G β h a := by
  have e1 : xfs h' β' a = xfs h β a := by
    unfold xfs
    rw [hT]
    apply List.ext_getElem?
    intro i
    rw [List.getElem?_mapIdx, List.getElem?_mapIdx]
    congr 1
    funext kd
    exact xfv_congr (congrFun hI i) (congrFun hL i) (hR i)
  have e2 : xac h' β' a = xac h β a := by
    unfold xac
    rw [hT, hN, hI, hL]
    have e3 : (fun j => (oR h' a j).map β') = fun j => (oR h a j).map β := funext hR
    rw [e3]
  unfold xce
  rw [hT, e1, e2]
theorem xw_set {β : Nat → Nat} {h' : xH} {a : Nat} (ha : 64 ≤ a) (hX : oX h' = oX h) (hc : ∀ b, b ≠ a → xce G β h' b = xce G β h b) : xw G β h' = (xw G β h).set (a - 64) (β a, xce G β h' a) := by
  apply List.ext_getElem?
  intro i
  rw [List.getElem?_set, xw_len]
  by_cases hi : i < oX h - 64
  · have e1 := xw_at (G := G) (h := h') (β := β) (a := i + 64) (by omega) (by omega)
    have e2 := xw_at (G := G) (h := h) (β := β) (a := i + 64) (by omega) (by omega)
    rw [Nat.add_sub_cancel] at e1 e2
    rw [e1, e2]
    by_cases q : a - 64 = i
    · rw [if_pos q, if_pos (by omega), show i + 64 = a by omega]
    · rw [if_neg q, hc (i + 64) (by omega)]
  · rw [List.getElem?_eq_none (by rw [xw_len, hX]; omega), List.getElem?_eq_none (by rw [xw_len]; omega)]
    by_cases q : a - 64 = i
    · rw [if_pos q, if_neg (by omega)]
    · rw [if_neg q]
theorem xce_o {β : Nat → Nat} {a t : Nat} (ht : oT h a = t) (h2 : t ≤ 19) : xce G β h a = .inr (t - 1, xfs h β a) := by
  unfold xce
  rw [ht, if_pos h2]
theorem xfs_at {β : Nat → Nat} {a t j kd : Nat} (ht : oT h a = t) (hk : (xkd t)[j]? = some kd) : (xfs h β a)[j]? = some (xfv h β a j kd) := by
  unfold xfs
  rw [List.getElem?_mapIdx, ht, hk]
  rfl
theorem xfs_len {β : Nat → Nat} {a : Nat} : (xfs h β a).length = (xkd (oT h a)).length := by simp [xfs]
theorem xix_in {x : Int32} {n : Nat} (h : xix x n = true) : vp_in x n := by
  unfold xix at h
  rw [Bool.and_eq_true, decide_eq_true_eq, decide_eq_true_eq] at h
  exact vp_in_iff.mpr h
theorem xnest_u {w : Cond} {b : Nat → Nat} {args : Array Value} {s : State} (hK : xKs D G Hb h0 b s) (h : w ∈ xnest) : w.before args s = true := va_Nw.use (xnw_tab (xnest_k w h)) (hK.2.1 w h)
theorem xsame {ref : String} {C n ds : String} {args : Array Value} {s : State} (hts : ∀ w ∈ lw_all, w.before args s = true) (h : C = ref ∨ Cond.sameField ref C n ds ∈ lw_all) : ∀ x, s.fieldFound? C n ds = some x → s.fieldFound? ref n ds = some x := by
  rcases h with rfl | h
  · exact fun x hx => hx
  · exact fun x hx => u_same (hts _ h) x hx
/-- reading a field -/
theorem x_getW {k t j kd a : Nat} (hf : XFok mm.1 k t j kd) (ht : oT h a = t) {p : Program} {e : Env} {R : Room} {s : State} {m : MethodId} {args : Array Value} {below : List Frame} {meth : Method} {c : Code} (X : xCt D G Hb h0 b0 mm p s m args meth c) {Q : State → Prop} {H : Heap} {locs : List Loc} {cells slots : Nat} {β : Nat → Nat} {M : Array Slot} {rest : List Value} (hw : xWd D G Hb h0 b0 β h H) (hd : decode mm.2.2.2.1 pc = .ok (.getfield k, 3))
    (kk : W p l e R s m args below meth c H locs cells slots Q (F0 m (pc + 3) M (xfv h β a j (kd % 10) :: rest))) : W p l e R s m args below meth c H locs cells slots Q (F0 m pc M (.ref (β a) :: rest)) := by
  obtain ⟨C, T, N, ty0, ref, t1, t2, ⟨c1, c2, c3, c4, c5, c6, -⟩, hj, hkd, hlk, hsm, -, -⟩ := hf
  have hlt := hw.2.2.lt (a := a) (by rw [ht]; exact Or.inl ⟨t1, t2⟩)
  have he := xw_at (G := G) (β := β) hlt.1 hlt.2
  rw [xce_o ht t2] at he
  obtain ⟨hx, hb, hml, hown, hts, -, hK⟩ := X
  rcases hlk with q | ⟨host, q⟩
  · exact va_get hx hb hts c2 hown hK.1 hw.1 (a - 64) he c1 j hj (hts _ q) (xsame hts hsm) (xfs_at ht hkd) hd kk
  · exact va_getN hx hb hts c2 hown hK.1 hw.1 (a - 64) he c1 j hj (xnest_u hK q) (xsame hts hsm) (xfs_at ht hkd) hd kk
theorem xfv_0 {β : Nat → Nat} {a k : Nat} : xfv h β a k 0 = .int (oI h a k) := rfl
theorem g_get (hF : ∀ own k t j kd, xF own k = some (t, j, kd) → XFok own k t j kd) {k : Nat} (hd : decode mm.2.2.2.1 pc = .ok (.getfield k, 3)) (hi : xget mm (pc + 3) ls h d k st = some (.inl c')) (ih : SMc D G l Hb h0 b0 c' r) : SM D G l Hb h0 b0 mm pc ls st h d r := by
  unfold xget at hi
  split at hi
  · rename_i a st'
    split at hi
    · rename_i t j kd hxf
      have hf := hF _ _ _ _ _ hxf
      split at hi
      · rename_i ht
        split at hi
        · rw [xgo_eq hi] at ih
          exact g_same ih (fun β H _ q => (q.tail.push (by exact trivial)).1) fun X hw _ _ _ k => x_getW hf ht X hw hd k
        · rw [xgo_eq hi] at ih
          exact g_same ih (fun β H _ q => (q.tail.push (by exact trivial)).1) fun X hw _ _ _ k => x_getW hf ht X hw hd k
        · rw [xgo_eq hi] at ih
          exact g_same ih (fun β H hw q => (q.tail.push (xvo_rf fun b hb => hw.2.2.2.2.2.1 a j b hb)).1) fun X hw _ _ _ k => x_getW hf ht X hw hd (by rw [List.map_cons, cv_rf] at k; exact k)
        · rw [xgo_eq hi] at ih
          exact g_same ih (fun β H _ q => (q.tail.push (by exact trivial)).1) fun X hw _ _ _ k => x_getW hf ht X hw hd k
        · rw [xgo_eq hi] at ih
          exact g_same ih (fun β H hw q => (q.tail.push (xvo_rf fun b hb => hw.2.2.2.2.2.1 a j b hb)).1) fun X hw _ _ _ k => x_getW hf ht X hw hd (by rw [List.map_cons, cv_rf] at k; exact k)
        · rw [xgo_eq hi] at ih
          exact g_same ih (fun β H _ q => (q.tail.push (by exact trivial)).1) fun X hw _ _ _ k => x_getW hf ht X hw hd k
        · cases hi
      · cases hi
    · cases hi
  · cases hi
/-- the heap changes at one place: the rest of the run -/
theorem g_wr {pc' : Nat} {st' : List Value} {h' : xH} {a : Nat} (ih : SM D G l Hb h0 b0 mm pc' ls st' h' d r) (hX : oX h' = oX h) (hC : oC h' = oC h) (hS' : oS h' = oS h) (hst : xvs (oX h) ls st → xvs (oX h) ls st')
    (hok : ∀ β, xok h0 b0 β h → xvs (oX h) ls st → xok h0 b0 β h')
    (hle : ∀ β, xok h0 b0 β h → 64 ≤ a ∧ a < oX h) (hce : ∀ β b, b ≠ a → xce G β h' b = xce G β h b)
    (row : ∀ {p : Program} {e : Env} {R : Room} {s : State} {m : MethodId} {args : Array Value} {below : List Frame} {meth : Method} {c : Code} {Q : State → Prop} {H : Heap} {locs : List Loc} {cells slots : Nat} {β : Nat → Nat} {M : Array Slot} (_ : xCt D G Hb h0 b0 mm p s m args meth c) (_ : xWd D G Hb h0 b0 β h H) (_ : va_S (fun q => Hb.size ≤ q) Hb H locs),
      (∀ (H1 : Heap) (locs1 : List Loc), va_P D xcl ((xw G β h).set (a - 64) (β a, xce G β h' a)) H1 → va_D (fun q => Hb.size ≤ q) ((xw G β h).set (a - 64) (β a, xce G β h' a)) → va_S (fun q => Hb.size ≤ q) Hb H1 locs1 → W p l e R s m args below meth c H1 locs1 cells slots Q (F0 m pc' M (st'.map (cv β)))) → W p l e R s m args below meth c H locs cells slots Q (F0 m pc M (st.map (cv β)))) : SM D G l Hb h0 b0 mm pc ls st h d r := by
  refine ⟨by rw [← hX, ← hC, ← hS']; exact ih.1, fun {p e R s m args below meth c Q H locs cells slots β M} X hw hS hL hvs hR hc hs fin => row X hw hS fun H1 locs1 hP1 hD1 hS1 => ?_⟩
  have e := xw_set (G := G) (β := β) (hle β hw.2.2).1 hX (hce β)
  refine ih.2 X (⟨by rw [e]; exact hP1, by rw [e]; exact hD1, hok β hw.2.2 hvs⟩ : xWd D G Hb h0 b0 β h' H1) hS1 hL (by rw [hX]; exact hst hvs) hR (by rw [hC]; exact hc) (by rw [hS']; exact hs) fun β' H' locs' cells' slots' M' pc' st'' a1 a2 a3 a4 a5 a6 a7 => fin β' H' locs' cells' slots' M' pc' st'' a1 (by rw [← hX]; exact a2) a3 a4 a5 a6 a7
theorem xok_pI {β : Nat → Nat} {a : Nat} {f : Nat → Int32} (ha : 64 ≤ a) (o : xok h0 b0 β h) : xok h0 b0 β (pI h a f) := by
  obtain ⟨h1, h2, h3, h4, h5⟩ := o
  refine ⟨h1, h2, h3, h4, fun b hb => ?_⟩
  obtain ⟨q1, q2, q3, q4, q5⟩ := h5 b hb
  exact ⟨q1, q2, q3, by rw [o_II, if_neg (by omega)]; exact q4, q5⟩
theorem xok_pL {β : Nat → Nat} {a : Nat} {f : Nat → Int64} (o : xok h0 b0 β h) : xok h0 b0 β (pL h a f) := o
theorem xok_pR {β : Nat → Nat} {a : Nat} {f : Nat → Option Nat} (hf : ∀ k b, f k = some b → b < oX h) (o : xok h0 b0 β h) : xok h0 b0 β (pR h a f) := by
  obtain ⟨h1, h2, h3, h4, h5⟩ := o
  refine ⟨h1, h2, h3, fun x k b hb => ?_, h5⟩
  rw [o_RR] at hb
  split at hb
  · exact hf k b hb
  · exact h4 x k b hb
theorem xup_rf {β : Nat → Nat} {a j : Nat} {q : Option Nat} (o : xok h0 b0 β h) (hq : ∀ b, q = some b → b < oX h) : ∀ k b, va_up (oR h a) j q k = some b → b < oX h := by
  intro k b hb
  unfold va_up at hb
  split at hb
  · exact hq b hb
  · exact o.2.2.2.1 a k b hb
theorem xce_nI {β : Nat → Nat} {a b : Nat} {f : Nat → Int32} (hb : b ≠ a) : xce G β (pI h a f) b = xce G β h b := xce_congr rfl rfl (by rw [o_II, if_neg hb]) rfl fun _ => rfl
theorem xce_nL {β : Nat → Nat} {a b : Nat} {f : Nat → Int64} (hb : b ≠ a) : xce G β (pL h a f) b = xce G β h b := xce_congr rfl rfl rfl (by rw [o_LL, if_neg hb]) fun _ => rfl
theorem xce_nR {β : Nat → Nat} {a b : Nat} {f : Nat → Option Nat} (hb : b ≠ a) : xce G β (pR h a f) b = xce G β h b := xce_congr rfl rfl rfl rfl fun _ => by rw [o_RR, if_neg hb]
theorem xfs_set {h' : xH} {β : Nat → Nat} {a j kd : Nat} (hT : oT h' a = oT h a) (hk : (xkd (oT h a))[j]? = some kd) (hne : ∀ i kd', i ≠ j → xfv h' β a i kd' = xfv h β a i kd') : xfs h' β a = (xfs h β a).set j (xfv h' β a j kd) := by
  apply List.ext_getElem?
  intro i
  rw [List.getElem?_set]
  unfold xfs
  rw [hT, List.getElem?_mapIdx, List.getElem?_mapIdx]
  by_cases q : j = i
  · subst q
    rw [if_pos rfl, hk]
    simp [(List.getElem?_eq_some_iff.mp hk).1]
  · rw [if_neg q]
    cases (xkd (oT h a))[i]? with
    | none => rfl
    | some kd' => exact congrArg some (hne i kd' (Ne.symm q))
/-- writing a field -/
theorem x_putW {k t j kd a : Nat} {v : Value} {h' : xH} (hf : XFok mm.1 k t j kd) (ht : oT h a = t) (hfin : 10 ≤ kd → mm.2.1 = true ∧ mm.1 = t) (hT : oT h' a = oT h a) (hne : ∀ β i kd', i ≠ j → xfv h' β a i kd' = xfv h β a i kd')
    (hnf : ∀ ty, xtk (kd % 10) ty = true → narrow ty v = v ∧ fits ty v = true)
    {p : Program} {e : Env} {R : Room} {s : State} {m : MethodId} {args : Array Value} {below : List Frame} {meth : Method} {c : Code} (X : xCt D G Hb h0 b0 mm p s m args meth c) {Q : State → Prop} {H : Heap} {locs : List Loc} {cells slots : Nat} {β : Nat → Nat} {M : Array Slot} {rest : List Value} (hv : xfv h' β a j (kd % 10) = v) (hw : xWd D G Hb h0 b0 β h H) (hS : va_S (fun q => Hb.size ≤ q) Hb H locs) (hd : decode mm.2.2.2.1 pc = .ok (.putfield k, 3))
    (kk : ∀ (H1 : Heap) (locs1 : List Loc), va_P D xcl ((xw G β h).set (a - 64) (β a, xce G β h' a)) H1 → va_D (fun q => Hb.size ≤ q) ((xw G β h).set (a - 64) (β a, xce G β h' a)) → va_S (fun q => Hb.size ≤ q) Hb H1 locs1 → W p l e R s m args below meth c H1 locs1 cells slots Q (F0 m (pc + 3) M rest)) : W p l e R s m args below meth c H locs cells slots Q (F0 m pc M (v :: .ref (β a) :: rest)) := by
  obtain ⟨C, T, N, ty0, ref, t1, t2, ⟨c1, c2, c3, c4, c5, c6, -⟩, hj, hkd, hlk, hsm, hfn, hown2⟩ := hf
  have hlt := hw.2.2.lt (a := a) (by rw [ht]; exact Or.inl ⟨t1, t2⟩)
  have he := xw_at (G := G) (β := β) hlt.1 hlt.2
  rw [xce_o ht t2] at he
  obtain ⟨hx, hb, hml, hown, hts, hini, hK⟩ := X
  have hty : xtk (kd % 10) (ty0 j) = true := by
    have q := c6 j hj
    rw [List.getD_eq_getElem?_getD, hkd] at q
    exact q
  obtain ⟨hn, hfit⟩ := hnf _ hty
  have e1 : xce G β h' a = .inr (t - 1, (xfs h β a).set j v) := by
    rw [xce_o (hT.trans ht) t2, xfs_set hT (by rw [ht]; exact hkd) (hne β), hv]
  have hl : j < (xfs h β a).length := by rw [xfs_len, ht, c5]; exact hj
  rw [e1] at kk
  by_cases hfi : 10 ≤ kd
  · obtain ⟨q1, q2⟩ := hfin hfi
    obtain ⟨q3, q4⟩ := hown2 q2 hfi
    exact va_putF hx hb hts c2 ty0 c3 c4 hown hK.1 hw.1 hw.2.1 hS (a - 64) he c1 j hj (hts _ q4) (xsame hts hsm) (by rw [hfn]; exact decide_eq_true hfi) (hini q1) q3 (c3 j hj) hn hfit hl hd kk
  · rcases hlk with q | ⟨host, q⟩
    · exact va_put hx hb hts c2 ty0 c3 c4 hown hK.1 hw.1 hw.2.1 hS (a - 64) he c1 j hj (hts _ q) (xsame hts hsm) (by rw [hfn]; exact decide_eq_false hfi) (c3 j hj) hn hfit hl hd kk
    · exact va_putN hx hb hts c2 ty0 c3 c4 hown hK.1 hw.1 hw.2.1 hS (a - 64) he c1 j hj (xnest_u hK q) (xsame hts hsm) (by rw [hfn]; exact decide_eq_false hfi) (c3 j hj) hn hfit hl hd kk
theorem xnf_i {x : Int32} : ∀ ty, xtk 0 ty = true → narrow ty (.int x) = .int x ∧ fits ty (.int x) = true := fun ty h => by
  cases ty <;> first | exact ⟨rfl, rfl⟩ | cases h
theorem xnf_l {x : Int64} : ∀ ty, xtk 1 ty = true → narrow ty (.long x) = .long x ∧ fits ty (.long x) = true := fun ty h => by
  cases ty <;> first | exact ⟨rfl, rfl⟩ | cases h
theorem xnf_r {b : Nat} : ∀ ty, xtk 2 ty = true → narrow ty (.ref b) = .ref b ∧ fits ty (.ref b) = true := fun ty h => by
  cases ty <;> first | exact ⟨rfl, rfl⟩ | cases h
theorem xnf_n : ∀ ty, xtk 2 ty = true → narrow ty .null = .null ∧ fits ty .null = true := fun ty h => by
  cases ty <;> first | exact ⟨rfl, rfl⟩ | cases h
theorem xnf_z {x : Int32} (hx : x = 0 ∨ x = 1) : ∀ ty, xtk 3 ty = true → narrow ty (.int x) = .int x ∧ fits ty (.int x) = true := fun ty h => by
  cases ty <;> first | (rcases hx with rfl | rfl <;> exact ⟨by decide, by decide⟩) | cases h
theorem xne_I {h : xH} {a j : Nat} {x : Int32} (β : Nat → Nat) (i kd' : Nat) (hi : i ≠ j) : xfv (pI h a (va_up (oI h a) j x)) β a i kd' = xfv h β a i kd' := xfv_congr (by rw [o_II, if_pos rfl]; simp [va_up, hi]) rfl rfl
theorem xne_L {h : xH} {a j : Nat} {x : Int64} (β : Nat → Nat) (i kd' : Nat) (hi : i ≠ j) : xfv (pL h a (va_up (oL h a) j x)) β a i kd' = xfv h β a i kd' := xfv_congr rfl (by rw [o_LL, if_pos rfl]; simp [va_up, hi]) rfl
theorem xne_R {h : xH} {a j : Nat} {x : Option Nat} (β : Nat → Nat) (i kd' : Nat) (hi : i ≠ j) : xfv (pR h a (va_up (oR h a) j x)) β a i kd' = xfv h β a i kd' := xfv_congr rfl rfl (by rw [o_RR, if_pos rfl]; simp [va_up, hi])
theorem g_put (hF : ∀ own k t j kd, xF own k = some (t, j, kd) → XFok own k t j kd) {k : Nat} (hd : decode mm.2.2.2.1 pc = .ok (.putfield k, 3)) (hi : xput mm (pc + 3) ls h d k st = some (.inl c')) (ih : SMc D G l Hb h0 b0 c' r) : SM D G l Hb h0 b0 mm pc ls st h d r := by
  unfold xput at hi
  split at hi
  · rename_i v a st'
    split at hi
    · rename_i t j kd hxf
      have hf := hF _ _ _ _ _ hxf
      split at hi
      · rename_i ht
        have hlv : xlv (oT h a) := by
          obtain ⟨C, T, N, ty0, ref, t1, t2, -⟩ := hf
          rw [ht]; exact Or.inl ⟨t1, t2⟩
        have nofin : ∀ {q : Nat}, q < 10 → (10 ≤ q → mm.2.1 = true ∧ mm.1 = t) := fun h1 h2 => absurd h2 (by omega)
        have fin : (bif mm.2.1 && Nat.beq t mm.1 then (1 : Nat) else 0) = 1 → mm.2.1 = true ∧ mm.1 = t := by
          intro q
          cases e1 : mm.2.1 && Nat.beq t mm.1 with
          | false => rw [e1] at q; cases q
          | true =>
            rw [Bool.and_eq_true] at e1
            exact ⟨e1.1, (Nat.eq_of_beq_eq_true e1.2).symm⟩
        split at hi
        · rw [xgo_eq hi] at ih
          exact g_wr ih rfl rfl rfl (fun q => q.tail.tail) (fun β o _ => xok_pI (o.lt hlv).1 o) (fun β o => o.lt hlv) (fun β b hb => xce_nI hb) fun X hw hS kk => x_putW (h' := pI h a (va_up (oI h a) j _)) hf ht (nofin (by omega)) rfl xne_I xnf_i X (by show Value.int _ = _; rw [o_II, if_pos rfl, up_s]) hw hS hd kk
        · rw [xgo_eq hi] at ih
          exact g_wr ih rfl rfl rfl (fun q => q.tail.tail) (fun β o _ => xok_pL o) (fun β o => o.lt hlv) (fun β b hb => xce_nL hb) fun X hw hS kk => x_putW (h' := pL h a (va_up (oL h a) j _)) hf ht (nofin (by omega)) rfl xne_L xnf_l X (by show Value.long _ = _; rw [o_LL, if_pos rfl, up_s]) hw hS hd kk
        · rw [xgo_eq hi] at ih
          exact g_wr ih rfl rfl rfl (fun q => q.tail.tail) (fun β o q => xok_pR (xup_rf o fun b hb => by cases hb; exact q.head) o) (fun β o => o.lt hlv) (fun β b hb => xce_nR hb) fun X hw hS kk => x_putW (h' := pR h a (va_up (oR h a) j _)) hf ht (nofin (by omega)) rfl xne_R xnf_r X (by show va_rf _ = _; rw [o_RR, if_pos rfl, up_s]; rfl) hw hS hd kk
        · rw [xgo_eq hi] at ih
          exact g_wr ih rfl rfl rfl (fun q => q.tail.tail) (fun β o q => xok_pR (xup_rf o fun b hb => by cases hb) o) (fun β o => o.lt hlv) (fun β b hb => xce_nR hb) fun X hw hS kk => x_putW (h' := pR h a (va_up (oR h a) j _)) hf ht (nofin (by omega)) rfl xne_R xnf_n X (by show va_rf _ = _; rw [o_RR, if_pos rfl, up_s]; rfl) hw hS hd kk
        · cases e1 : mm.2.1 && Nat.beq t mm.1 with
          | false => rw [e1] at hi; cases hi
          | true =>
            rw [e1] at hi fin
            rw [xgo_eq hi] at ih
            exact g_wr ih rfl rfl rfl (fun q => q.tail.tail) (fun β o _ => xok_pI (o.lt hlv).1 o) (fun β o => o.lt hlv) (fun β b hb => xce_nI hb) fun X hw hS kk => x_putW (h' := pI h a (va_up (oI h a) j _)) hf ht (fun _ => fin rfl) rfl xne_I xnf_i X (by show Value.int _ = _; rw [o_II, if_pos rfl, up_s]) hw hS hd kk
        · cases e1 : mm.2.1 && Nat.beq t mm.1 with
          | false => rw [e1] at hi; cases hi
          | true =>
            rw [e1] at hi fin
            rw [xgo_eq hi] at ih
            exact g_wr ih rfl rfl rfl (fun q => q.tail.tail) (fun β o q => xok_pR (xup_rf o fun b hb => by cases hb; exact q.head) o) (fun β o => o.lt hlv) (fun β b hb => xce_nR hb) fun X hw hS kk => x_putW (h' := pR h a (va_up (oR h a) j _)) hf ht (fun _ => fin rfl) rfl xne_R xnf_r X (by show va_rf _ = _; rw [o_RR, if_pos rfl, up_s]; rfl) hw hS hd kk
        · cases e1 : mm.2.1 && Nat.beq t mm.1 with
          | false => rw [e1] at hi; cases hi
          | true =>
            rw [e1] at hi fin
            rw [xgo_eq hi] at ih
            exact g_wr ih rfl rfl rfl (fun q => q.tail.tail) (fun β o q => xok_pR (xup_rf o fun b hb => by cases hb) o) (fun β o => o.lt hlv) (fun β b hb => xce_nR hb) fun X hw hS kk => x_putW (h' := pR h a (va_up (oR h a) j _)) hf ht (fun _ => fin rfl) rfl xne_R xnf_n X (by show va_rf _ = _; rw [o_RR, if_pos rfl, up_s]; rfl) hw hS hd kk
        · cases e1 : mm.2.1 && Nat.beq t mm.1 with
          | false => rw [e1] at hi; cases hi
          | true =>
            rw [e1] at hi fin
            have hi : (if _ then _ else _) = _ := hi
            split at hi
            · rename_i hx
              rw [xgo_eq hi] at ih
              exact g_wr ih rfl rfl rfl (fun q => q.tail.tail) (fun β o _ => xok_pI (o.lt hlv).1 o) (fun β o => o.lt hlv) (fun β b hb => xce_nI hb) fun X hw hS kk => x_putW (h' := pI h a (va_up (oI h a) j _)) hf ht (fun _ => fin rfl) rfl xne_I (xnf_z hx) X (by show Value.int _ = _; rw [o_II, if_pos rfl, up_s]) hw hS hd kk
            · cases hi
        · cases hi
      · cases hi
    · cases hi
  · cases hi
end
