/-! SOUNDNESS of the pure machine over the kit's W: what the heaps have to do with one another -/
def cv (β : Nat → Nat) : Value → Value
  | .ref a => .ref (β a)
  | v => v
theorem cv_cat (β : Nat → Nat) (v : Value) : (cv β v).category = v.category := by cases v <;> rfl
theorem cv_rf (β : Nat → Nat) (q : Option Nat) : cv β (va_rf q) = va_rf (q.map β) := by cases q <;> rfl
def xvo (n : Nat) : Value → Prop
  | .ref a => a < n
  | _ => True
def xvs (n : Nat) (ls : List Slot) (st : List Value) : Prop := (∀ v ∈ st, xvo n v) ∧ ∀ v : Value, Slot.val v ∈ ls → xvo n v
theorem cv_same {β β' : Nat → Nat} {n : Nat} {v : Value} (h : ∀ a, a < n → β' a = β a) (hv : xvo n v) : cv β' v = cv β v := by
  cases v <;> first | rfl | (show Value.ref _ = Value.ref _; rw [h _ hv])
theorem cv_sameL {β β' : Nat → Nat} {n : Nat} {st : List Value} (h : ∀ a, a < n → β' a = β a) (hv : ∀ v ∈ st, xvo n v) : st.map (cv β') = st.map (cv β) := List.map_congr_left fun v hm => cv_same h (hv v hm)
theorem xvo_mono {n k : Nat} {v : Value} (h : n ≤ k) (hv : xvo n v) : xvo k v := by
  cases v <;> first | trivial | exact Nat.lt_of_lt_of_le hv h
theorem xvo_rf {n : Nat} {q : Option Nat} (h : ∀ b, q = some b → b < n) : xvo n (va_rf q) := by
  cases q with
  | none => trivial
  | some b => exact h b rfl
/-- which tags are of objects and arrays that the run makes -/
def xlv (t : Nat) : Prop := (1 ≤ t ∧ t ≤ 19) ∨ (40 ≤ t ∧ t ≤ 48)
def xkd (t : Nat) : List Nat := xkt.getD t []
def xfv (h : xH) (β : Nat → Nat) (a k : Nat) : Nat → Value
  | 1 => .long (oL h a k)
  | 2 => va_rf ((oR h a k).map β)
  | _ => .int (oI h a k)
def xfs (h : xH) (β : Nat → Nat) (a : Nat) : List Value := (xkd (oT h a)).mapIdx fun k kd => xfv h β a k kd
def xac (h : xH) (β : Nat → Nat) (a : Nat) : vp_A := match oT h a with
  | 44 => (oN h a, .inr (.inl (oL h a)))
  | 45 => (oN h a, .inr (.inr (.inr (.inr (fun j => (oR h a j).map β)))))
  | 46 => (oN h a, .inr (.inr (.inr (.inr (fun j => (oR h a j).map β)))))
  | 47 => (oN h a, .inr (.inr (.inr (.inr (fun j => (oR h a j).map β)))))
  | 48 => (oN h a, .inr (.inr (.inr (.inr (fun j => (oR h a j).map β)))))
  | _ => (oN h a, .inl (oI h a))
def xce (G : Nat → ClassId) (β : Nat → Nat) (h : xH) (a : Nat) : va_E := if oT h a ≤ 19 then .inr (oT h a - 1, xfs h β a) else .inl (G (oT h a), xac h β a)
def xw (G : Nat → ClassId) (β : Nat → Nat) (h : xH) : va_W := (List.range (oX h - 64)).map fun i => (β (i + 64), xce G β h (i + 64))
/-- the fixed part: what the start holds stays as it is -/
def xok (h0 : xH) (b0 β : Nat → Nat) (h : xH) : Prop := 64 ≤ oX h ∧ (∀ a, 64 ≤ a → a < oX h → xlv (oT h a) ∧ oN h a ≤ 65536) ∧ (∀ a, oX h ≤ a → oT h a = 0) ∧ (∀ a k b, oR h a k = some b → b < oX h) ∧ ∀ a, a < 64 → (oT h a = 0 ∨ oT h a = 38 ∨ oT h a = 39) ∧ oT h a = oT h0 a ∧ oN h a = oN h0 a ∧ oI h a = oI h0 a ∧ β a = b0 a
theorem xok.lt {h0 : xH} {b0 β : Nat → Nat} {h : xH} {a : Nat} (o : xok h0 b0 β h) (ha : xlv (oT h a)) : 64 ≤ a ∧ a < oX h := by
  obtain ⟨h1, -, h3, -, h5⟩ := o
  refine ⟨?_, ?_⟩
  · rcases Nat.lt_or_ge a 64 with q | q
    · have := (h5 a q).1
      unfold xlv at ha
      omega
    · exact q
  · rcases Nat.lt_or_ge a (oX h) with q | q
    · exact q
    · have := h3 a q
      unfold xlv at ha
      omega
def xWd (D : va_G) (G : Nat → ClassId) (Hb : Heap) (h0 : xH) (b0 β : Nat → Nat) (h : xH) (H : Heap) : Prop := va_P D xcl (xw G β h) H ∧ va_D (fun q => Hb.size ≤ q) (xw G β h) ∧ xok h0 b0 β h
/-- what strings hold, what statics say, what a throw needs -/
def xKx (Hb : Heap) (b0 : Nat → Nat) (U : State) : Prop := ∃ adV : Nat → Nat, (∀ i, 1 ≤ i → i ≤ 30 → va_O "java/lang/String" (b0 i) (fun q => Hb.size ≤ q) U Hb ∧ va_OF "java/lang/String" "coder" "B" (.int 0) (b0 i) (fun q => Hb.size ≤ q) U Hb ∧ va_OF "java/lang/String" "value" "[B" (.ref (adV i)) (b0 i) (fun q => Hb.size ≤ q) U Hb ∧ va_T .byte (adV i) (xtxt.getD i []).length (fun j => .int (nI ((xtxt.getD i []).getD j 0))) (fun q => Hb.size ≤ q) U Hb) ∧
  va_Z "java/lang/String" "COMPACT_STRINGS" "Z" (.int 1) (fun q => Hb.size ≤ q) U Hb ∧ va_Zq "jdk/internal/util/Preconditions" "SIOOBE_FORMATTER" "Ljava/util/function/BiFunction;" (fun q => Hb.size ≤ q) U Hb ∧ (∃ mi, va_Mi "[Ljava/lang/Object;" mi U) ∧ va_Dc U ∧
  vx_Zq "java/lang/Throwable" "UNASSIGNED_STACK" "[Ljava/lang/StackTraceElement;" (fun q => Hb.size ≤ q) U Hb ∧ vx_Zq "java/lang/Throwable" "SUPPRESSED_SENTINEL" "Ljava/util/List;" (fun q => Hb.size ≤ q) U Hb
theorem xKx.moved {Hb : Heap} {b0 : Nat → Nat} {u U : State} (hvm : u.vm.Alike U.vm) (h : xKx Hb b0 u) : xKx Hb b0 U := by
  obtain ⟨adV, h1, h2, h3, ⟨mi, h4⟩, h5, h6, h7⟩ := h
  exact ⟨adV, fun i a b => ⟨va_O.moved hvm (h1 i a b).1, va_OF.moved hvm (h1 i a b).2.1, va_OF.moved hvm (h1 i a b).2.2.1, va_T.moved hvm (h1 i a b).2.2.2⟩, va_Z.moved hvm h2, va_Zq.moved hvm h3, ⟨mi, va_Mi.moved hvm h4⟩, va_Dc.moved hvm h5, vx_Zq.moved hvm h6, vx_Zq.moved hvm h7⟩
/-- what the tables say -/
def xKs (D : va_G) (G : Nat → ClassId) (Hb : Heap) (h0 : xH) (b0 : Nat → Nat) (U : State) : Prop := va_K D xcl (xty G) U ∧ (∀ w ∈ xnest, va_Nw w U) ∧ (∀ C ∈ xao, va_AO C U) ∧ (∀ q ∈ xstr, vk_R q.1 q.2.1 q.2.2.1 (b0 q.2.2.2) U) ∧ (∀ q ∈ xnc, va_Nc q.1 q.2 U) ∧ (∀ a, oT h0 a = 39 → a = 31) ∧ va_X (b0 31) (oN h0 31) (oI h0 31) U Hb ∧ b0 31 < Hb.size ∧ xKx Hb b0 U
theorem xnw_warm {w : Cond} (h : xnk w = true) {s U : State} (hW : s.WarmedH U.vm) (hZ : va_Nw w s) : va_Nw w U := by
  cases w <;> first | (exact absurd h Bool.false_ne_true) | exact va_Nw.warmF hW hZ | exact va_Nw.warmM hW hZ | exact va_Nw.warmC hW hZ | exact va_Nw.warmD hW hZ
theorem xnw_tab {w : Cond} (h : xnk w = true) : w.onTables = true := by
  cases w <;> first | (exact absurd h Bool.false_ne_true) | rfl
theorem xKs.warm {D : va_G} {G : Nat → ClassId} {Hb : Heap} {h0 : xH} {b0 : Nat → Nat} {s U : State} (hW : s.WarmedH U.vm) (h : xKs D G Hb h0 b0 s) : xKs D G Hb h0 b0 U :=
  ⟨va_K.moved hW.alike h.1, fun w hw => xnw_warm (xnest_k w hw) hW (h.2.1 w hw), fun C hC => (h.2.2.1 C hC).moved hW.alike, fun q hq => (h.2.2.2.1 q hq).warm hW, fun q hq => (h.2.2.2.2.1 q hq).moved hW.alike, h.2.2.2.2.2.1, h.2.2.2.2.2.2.1.moved hW.alike, h.2.2.2.2.2.2.2.1, h.2.2.2.2.2.2.2.2.moved hW.alike⟩
theorem xKs.same {D : va_G} {G : Nat → ClassId} {Hb : Heap} {h0 : xH} {b0 : Nat → Nat} {u U : State} (hv : U.vm = u.vm) (h : xKs D G Hb h0 b0 u) : xKs D G Hb h0 b0 U :=
  ⟨va_K.moved (by rw [hv]; exact Vm.Alike.refl _) h.1, fun w hw => va_Nw.same (xnw_tab (xnest_k w hw)) hv.symm (h.2.1 w hw), fun C hC => (h.2.2.1 C hC).moved (by rw [hv]; exact Vm.Alike.refl _), fun q hq => vk_R.same hv (h.2.2.2.1 q hq), fun q hq => (h.2.2.2.2.1 q hq).moved (by rw [hv]; exact Vm.Alike.refl _), h.2.2.2.2.2.1, h.2.2.2.2.2.2.1.moved (by rw [hv]; exact Vm.Alike.refl _), h.2.2.2.2.2.2.2.1, h.2.2.2.2.2.2.2.2.moved (by rw [hv]; exact Vm.Alike.refl _)⟩
/-- a method's frame -/
def xCt (D : va_G) (G : Nat → ClassId) (Hb : Heap) (h0 : xH) (b0 : Nat → Nat) (mm : xM) (p : Program) (s : State) (m : MethodId) (args : Array Value) (meth : Method) (c : Code) : Prop :=
  p.tables.exec = Jvm.exec ∧ c.code = mm.2.2.2.1 ∧ c.maxLocals = mm.2.2.2.2.1 ∧ s.vm.findClass (xnm mm.1) = some m.cls ∧ (∀ w ∈ lw_all, w.before args s = true) ∧ (mm.2.1 = true → meth.name = "<init>") ∧ xKs D G Hb h0 b0 s
/-- the locals -/
def xlr (β : Nat → Nat) (ls : List Slot) (M : Array Slot) (n : Nat) : Prop := ls.length = n ∧ M.size = n ∧ lv_wf M ∧ ∀ (k : Nat) (v : Value), ls[k]? = some (.val v) → M[k]? = some (.val (cv β v))
def xLs (β : Nat → Nat) (ls : List Slot) : List (Nat × Value) := ls.zipIdx.filterMap fun q => match q.1 with
  | .val v => some (q.2, cv β v)
  | _ => none
theorem xLs_mem {β : Nat → Nat} {ls : List Slot} {k : Nat} {w : Value} : (k, w) ∈ xLs β ls ↔ ∃ v, ls[k]? = some (.val v) ∧ w = cv β v := by
  unfold xLs
  rw [List.mem_filterMap]
  constructor
  · rintro ⟨⟨s, i⟩, h1, h2⟩
    have h3 := List.mem_zipIdx_iff_getElem?.mp h1
    cases s with
    | val v => cases h2; exact ⟨v, h3, rfl⟩
    | unset => cases h2
    | second => cases h2
  · rintro ⟨v, h1, rfl⟩
    exact ⟨(.val v, k), List.mem_zipIdx_iff_getElem?.mpr h1, rfl⟩
theorem xlr.has {β : Nat → Nat} {ls : List Slot} {M : Array Slot} {n : Nat} (h : xlr β ls M n) : lv_has M n (xLs β ls) := ⟨h.2.1, h.2.2.1, fun q hq => by
  obtain ⟨v, h1, h2⟩ := xLs_mem.mp (show (q.1, q.2) ∈ xLs β ls from hq)
  rw [h2]
  exact h.2.2.2 _ _ h1⟩
theorem xst_len : ∀ (ls : List Slot) (i : Nat) (s : Slot), (xst ls i s).length = ls.length
  | [], _, _ => rfl
  | _ :: _, 0, _ => rfl
  | _ :: [], 1, _ => rfl
  | _ :: _ :: _, 1, _ => rfl
  | s :: t, k + 2, v => by
    show (s :: xst t (k + 1) v).length = _
    simp [xst_len t (k + 1) v]
theorem xst_get : ∀ (ls : List Slot) (i : Nat) (s : Slot) (j : Nat), (xst ls i s)[j]? = if j = i then (ls[j]?).map (fun _ => s) else if j + 1 = i then (ls[j]?).map (if i < ls.length then xk else id) else ls[j]?
  | [], i, s, j => by simp [xst]
  | a :: t, 0, s, j => by
    cases j with
    | zero => simp [xst]
    | succ j => simp [xst]
  | a :: [], 1, s, j => by
    cases j with
    | zero => simp [xst]
    | succ j =>
      cases j with
      | zero => simp [xst]
      | succ j => simp [xst]
  | a :: b :: t, 1, s, j => by
    cases j with
    | zero => simp [xst]
    | succ j =>
      cases j with
      | zero => simp [xst]
      | succ j => simp [xst]
  | a :: t, k + 2, s, j => by
    cases j with
    | zero => simp [xst]
    | succ j =>
      show (xst t (k + 1) s)[j]? = _
      rw [xst_get t (k + 1) s j]
      simp only [List.getElem?_cons_succ, List.length_cons, Nat.add_right_cancel_iff, Nat.succ.injEq]
      by_cases h1 : j = k + 1
      · simp [h1]
      · by_cases h2 : j = k
        · simp only [h2, if_neg (show ¬ k = k + 1 by omega), if_true]
          have e3 : (k + 2 < t.length + 1) ↔ (k + 1 < t.length) := by omega
          by_cases h3 : k + 1 < t.length
          · simp [h3, e3]
          · simp [h3, e3]
        · simp [h1, h2]
theorem xk_val {s : Slot} {v : Value} (h : xk s = .val v) : s = .val v ∧ v.category = 1 := by
  cases s with
  | val w => cases w <;> first | (cases h; exact ⟨rfl, rfl⟩) | cases h
  | unset => cases h
  | second => cases h
theorem xlr.store1 {β : Nat → Nat} {ls : List Slot} {M M' : Array Slot} {n i : Nat} {v : Value} (h : xlr β ls M n) (hi : i < ls.length) (h' : lv_has M' n ((i, cv β v) :: (xLs β ls).filter (fun q => !(q.1 == i) && !(q.1 + 1 == i && q.2.category == 2)))) : xlr β (xst ls i (.val v)) M' n := by
  refine ⟨(xst_len ls i _).trans h.1, h'.1, h'.2.1, fun k w hk => ?_⟩
  rw [xst_get] at hk
  by_cases h1 : k = i
  · subst h1
    rw [if_pos rfl, List.getElem?_eq_getElem hi] at hk
    cases hk
    exact h'.2.2 (k, cv β v) List.mem_cons_self
  · rw [if_neg h1] at hk
    by_cases h2 : k + 1 = i
    · rw [if_pos h2, if_pos hi] at hk
      obtain ⟨s, e1, e2⟩ := Option.map_eq_some_iff.mp hk
      obtain ⟨e3, e4⟩ := xk_val e2
      subst e3
      refine h'.2.2 (k, cv β w) (List.mem_cons_of_mem _ (List.mem_filter.mpr ⟨xLs_mem.mpr ⟨w, e1, rfl⟩, ?_⟩))
      simp [h1, cv_cat, e4]
    · rw [if_neg h2] at hk
      refine h'.2.2 (k, cv β w) (List.mem_cons_of_mem _ (List.mem_filter.mpr ⟨xLs_mem.mpr ⟨w, hk, rfl⟩, ?_⟩))
      simp [h1, h2]
theorem xlr.store2 {β : Nat → Nat} {ls : List Slot} {M M' : Array Slot} {n i : Nat} {v : Value} (h : xlr β ls M n) (hi : i + 1 < ls.length) (h' : lv_has M' n ((i, cv β v) :: (xLs β ls).filter (fun q => !(q.1 == i) && (!(q.1 == i + 1) && !(q.1 + 1 == i && q.2.category == 2))))) : xlr β ((xst ls i (.val v)).set (i + 1) .unset) M' n := by
  refine ⟨by rw [List.length_set]; exact (xst_len ls i _).trans h.1, h'.1, h'.2.1, fun k w hk => ?_⟩
  have hi0 : i < ls.length := by omega
  by_cases h0 : k = i + 1
  · subst h0
    rw [List.getElem?_set_self (by rw [xst_len]; exact hi)] at hk
    cases hk
  rw [List.getElem?_set_ne (Ne.symm h0), xst_get] at hk
  by_cases h1 : k = i
  · subst h1
    rw [if_pos rfl, List.getElem?_eq_getElem hi0] at hk
    cases hk
    exact h'.2.2 (k, cv β v) List.mem_cons_self
  · rw [if_neg h1] at hk
    by_cases h2 : k + 1 = i
    · rw [if_pos h2, if_pos hi0] at hk
      obtain ⟨s, e1, e2⟩ := Option.map_eq_some_iff.mp hk
      obtain ⟨e3, e4⟩ := xk_val e2
      subst e3
      refine h'.2.2 (k, cv β w) (List.mem_cons_of_mem _ (List.mem_filter.mpr ⟨xLs_mem.mpr ⟨w, e1, rfl⟩, ?_⟩))
      simp [h1, h0, cv_cat, e4]
    · rw [if_neg h2] at hk
      refine h'.2.2 (k, cv β w) (List.mem_cons_of_mem _ (List.mem_filter.mpr ⟨xLs_mem.mpr ⟨w, hk, rfl⟩, ?_⟩))
      simp [h1, h2, h0]
theorem xk_in {s : Slot} {v : Value} {ls : List Slot} {i : Nat} {w : Slot} (h : Slot.val v ∈ xst ls i w) : Slot.val v = w ∨ Slot.val v ∈ ls := by
  obtain ⟨j, hj⟩ := List.getElem?_of_mem h
  rw [xst_get] at hj
  split at hj
  · obtain ⟨q, -, e⟩ := Option.map_eq_some_iff.mp hj
    exact Or.inl e.symm
  · split at hj
    · obtain ⟨q, e1, e2⟩ := Option.map_eq_some_iff.mp hj
      split at e2
      · obtain ⟨e3, -⟩ := xk_val e2
        subst e3
        exact Or.inr (List.mem_of_getElem? e1)
      · have e2 : q = Slot.val v := e2
        subst e2
        exact Or.inr (List.mem_of_getElem? e1)
    · exact Or.inr (List.mem_of_getElem? hj)
theorem xlr.up {β β' : Nat → Nat} {ls : List Slot} {M : Array Slot} {n k : Nat} (h : xlr β ls M n) (hb : ∀ a, a < k → β' a = β a) (hv : ∀ v : Value, Slot.val v ∈ ls → xvo k v) : xlr β' ls M n := ⟨h.1, h.2.1, h.2.2.1, fun i v hi => by rw [cv_same hb (hv v (List.mem_of_getElem? hi))]; exact h.2.2.2 i v hi⟩
/-- the end of a method: a return instruction with its answer on the stack -/
def xfi (mm : xM) (pc : Nat) (r : Option Value) (st : List Value) : Prop := match r with
  | some (.int v) => decode mm.2.2.2.1 pc = .ok (.ireturn, 1) ∧ st = [.int v] ∧ (mm.2.2.2.2.2 = some .int ∨ (mm.2.2.2.2.2 = some .boolean ∧ (v = 0 ∨ v = 1)))
  | some (.long v) => decode mm.2.2.2.1 pc = .ok (.lreturn, 1) ∧ st = [.long v] ∧ mm.2.2.2.2.2 = some .long
  | some (.ref a) => decode mm.2.2.2.1 pc = .ok (.areturn, 1) ∧ st = [.ref a] ∧ ((∃ n, mm.2.2.2.2.2 = some (.object n)) ∨ ∃ t, mm.2.2.2.2.2 = some (.array t))
  | some .null => decode mm.2.2.2.1 pc = .ok (.areturn, 1) ∧ st = [.null] ∧ ((∃ n, mm.2.2.2.2.2 = some (.object n)) ∨ ∃ t, mm.2.2.2.2.2 = some (.array t))
  | none => decode mm.2.2.2.1 pc = .ok (.return_, 1) ∧ st = [] ∧ mm.2.2.2.2.2 = none
  | _ => False
/-- what a state of the pure machine that ends with r says of the real one -/
def SM (D : va_G) (G : Nat → ClassId) (l : Launch) (Hb : Heap) (h0 : xH) (b0 : Nat → Nat) (mm : xM) (pc : Nat) (ls : List Slot) (st : List Value) (h : xH) (d : Nat) (r : xR) : Prop :=
  (oX h ≤ oX r.2 ∧ oC h ≤ oC r.2 ∧ oS h ≤ oS r.2) ∧
  ∀ {p : Program} {e : Env} {R : Room} {s : State} {m : MethodId} {args : Array Value} {below : List Frame} {meth : Method} {c : Code} {Q : State → Prop} {H : Heap} {locs : List Loc} {cells slots : Nat} {β : Nat → Nat} {M : Array Slot} (_ : xCt D G Hb h0 b0 mm p s m args meth c) 
    (_ : xWd D G Hb h0 b0 β h H) (_ : va_S (fun q => Hb.size ≤ q) Hb H locs) (_ : xlr β ls M mm.2.2.2.2.1) (_ : xvs (oX h) ls st) (_ : d + 17 ≤ R.frames ∧ 96 * (d + 1) + 11000 ≤ R.locals) (_ : cells + oC r.2 ≤ R.cells + oC h) (_ : slots + oS r.2 ≤ R.slots + oS h)
    (_ : ∀ (β' : Nat → Nat) (H' : Heap) (locs' : List Loc) (cells' slots' : Nat) (M' : Array Slot) (pc' : Nat) (st' : List Value), xWd D G Hb h0 b0 β' r.2 H' → (∀ a, a < oX h → β' a = β a) → va_S (fun q => Hb.size ≤ q) Hb H' locs' → cells' ≤ R.cells → slots' ≤ R.slots → xfi mm pc' (r.1.map (cv β')) st' → (∀ v, r.1 = some v → xvo (oX r.2) v) → W p l e R s m args below meth c H' locs' cells' slots' Q (F0 m pc' M' st')),
    W p l e R s m args below meth c H locs cells slots Q (F0 m pc M (st.map (cv β)))
section
variable {D : va_G} {G : Nat → ClassId} {l : Launch} {Hb : Heap} {h0 : xH} {b0 : Nat → Nat} {mm : xM} {pc n d : Nat} {ls : List Slot} {st : List Value} {h : xH} {r : xR} {c' : xC}
abbrev SMc (D : va_G) (G : Nat → ClassId) (l : Launch) (Hb : Heap) (h0 : xH) (b0 : Nat → Nat) (c : xC) (r : xR) : Prop := SM D G l Hb h0 b0 c.1 c.2.1 c.2.2.1 c.2.2.2.1 c.2.2.2.2.1 c.2.2.2.2.2 r
/-- the stack alone changes -/
theorem g_same {pc' : Nat} {st' : List Value} (ih : SM D G l Hb h0 b0 mm pc' ls st' h d r)
    (hv : ∀ β (H : Heap), xWd D G Hb h0 b0 β h H → xvs (oX h) ls st → ∀ v ∈ st', xvo (oX h) v)
    (row : ∀ {p : Program} {e : Env} {R : Room} {s : State} {m : MethodId} {args : Array Value} {below : List Frame} {meth : Method} {c : Code} {Q : State → Prop} {H : Heap} {locs : List Loc} {cells slots : Nat} {β : Nat → Nat} {M : Array Slot} (_ : xCt D G Hb h0 b0 mm p s m args meth c) (_ : xWd D G Hb h0 b0 β h H) (_ : va_S (fun q => Hb.size ≤ q) Hb H locs) (_ : xlr β ls M mm.2.2.2.2.1) (_ : d + 17 ≤ R.frames ∧ 96 * (d + 1) + 11000 ≤ R.locals),
      W p l e R s m args below meth c H locs cells slots Q (F0 m pc' M (st'.map (cv β))) → W p l e R s m args below meth c H locs cells slots Q (F0 m pc M (st.map (cv β)))) : SM D G l Hb h0 b0 mm pc ls st h d r :=
  ⟨ih.1, fun {p e R s m args below meth c Q H locs cells slots β M} X hw hS hL hvs hR hc hs fin => row X hw hS hL hR (ih.2 X hw hS hL ⟨hv β H hw hvs, hvs.2⟩ hR hc hs fin)⟩
/-- the locals change -/
theorem g_loc {pc' : Nat} {ls' : List Slot} {st' : List Value} (ih : SM D G l Hb h0 b0 mm pc' ls' st' h d r)
    (hv : xvs (oX h) ls st → xvs (oX h) ls' st')
    (row : ∀ {p : Program} {e : Env} {R : Room} {s : State} {m : MethodId} {args : Array Value} {below : List Frame} {meth : Method} {c : Code} {Q : State → Prop} {H : Heap} {locs : List Loc} {cells slots : Nat} {β : Nat → Nat} {M : Array Slot} (_ : xCt D G Hb h0 b0 mm p s m args meth c) (_ : xlr β ls M mm.2.2.2.2.1),
      (∀ M', xlr β ls' M' mm.2.2.2.2.1 → W p l e R s m args below meth c H locs cells slots Q (F0 m pc' M' (st'.map (cv β)))) → W p l e R s m args below meth c H locs cells slots Q (F0 m pc M (st.map (cv β)))) : SM D G l Hb h0 b0 mm pc ls st h d r :=
  ⟨ih.1, fun {p e R s m args below meth c Q H locs cells slots β M} X hw hS hL hvs hR hc hs fin => row X hL fun M' hL' => ih.2 X hw hS hL' (hv hvs) hR hc hs fin⟩
theorem xvs.tail {k : Nat} {v : Value} (h : xvs k ls (v :: st)) : xvs k ls st := ⟨fun w hw => h.1 w (List.mem_cons_of_mem _ hw), h.2⟩
theorem xvs.head {k : Nat} {v : Value} (h : xvs k ls (v :: st)) : xvo k v := h.1 v List.mem_cons_self
theorem xvs.push {k : Nat} {v : Value} (h : xvs k ls st) (hv : xvo k v) : xvs k ls (v :: st) := ⟨fun w hw => by
  rcases List.mem_cons.mp hw with e | e
  · rw [e]; exact hv
  · exact h.1 w e, h.2⟩
theorem xvs.store {k i : Nat} {v : Value} (h : xvs k ls st) (hv : xvo k v) : xvs k (xst ls i (.val v)) st := ⟨h.1, fun w hw => by
  rcases xk_in (s := .unset) hw with e | e
  · cases e; exact hv
  · exact h.2 w e⟩
end
