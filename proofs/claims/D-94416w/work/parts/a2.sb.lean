/-! SOUNDNESS, instruction by instruction: what leaves the heap -/
section
variable {D : va_G} {G : Nat → ClassId} {l : Launch} {Hb : Heap} {h0 : xH} {b0 : Nat → Nat} {mm : xM} {pc n d len : Nat} {ls : List Slot} {st : List Value} {h : xH} {r : xR} {c' : xC}
theorem xgo_eq {m : xM} {pc : Nat} {ls : List Slot} {st : List Value} {h : xH} {d : Nat} {c' : xC} (q : xgo m pc ls st h d = some (.inl c')) : c' = (m, pc, ls, st, h, d) := (Sum.inl.inj (Option.some.inj q)).symm
theorem xld_eq {k : Nat} {v : Value} (q : xld ls k = some v) : ls[k]? = some (.val v) := by
  unfold xld at q
  split at q
  · rename_i e; rw [e, Option.some.inj q]
  · cases q
theorem xj_eq {off : Int} {f : Nat → Option xA} {a : xA} (q : xj pc off f = some a) : ∃ t : Nat, (pc : Int) + off = (t : Int) ∧ f t = some a := by
  unfold xj at q
  split at q
  · rename_i t e; exact ⟨t, e, q⟩
  · cases q
/-- a constant is pushed -/
theorem g_push {v : Value} (hv : ∀ k, xvo k v) (hc : ∀ β, cv β v = v) (hi : xgo mm n ls (v :: st) h d = some (.inl c')) (ih : SMc D G l Hb h0 b0 c' r)
    (row : ∀ {p : Program} {e : Env} {R : Room} {s : State} {m : MethodId} {args : Array Value} {below : List Frame} {meth : Method} {c : Code} {Q : State → Prop} {H : Heap} {locs : List Loc} {cells slots : Nat} {M : Array Slot} {rest : List Value} (_ : xCt D G Hb h0 b0 mm p s m args meth c) , W p l e R s m args below meth c H locs cells slots Q (F0 m n M (v :: rest)) → W p l e R s m args below meth c H locs cells slots Q (F0 m pc M rest)) : SM D G l Hb h0 b0 mm pc ls st h d r := by
  rw [xgo_eq hi] at ih
  refine g_same ih (fun β H _ q => (q.push (hv _)).1) fun X _ _ _ _ k => row X ?_
  rw [List.map_cons, hc] at k
  exact k
theorem g_bin {f : Int32 → Int32 → Int32} (hi : xb f (fun st => xgo mm n ls st h d) st = some (.inl c')) (ih : SMc D G l Hb h0 b0 c' r)
    (row : ∀ {p : Program} {e : Env} {R : Room} {s : State} {m : MethodId} {args : Array Value} {below : List Frame} {meth : Method} {c : Code} {Q : State → Prop} {H : Heap} {locs : List Loc} {cells slots : Nat} {M : Array Slot} {rest : List Value} {x y : Int32} (_ : xCt D G Hb h0 b0 mm p s m args meth c) , W p l e R s m args below meth c H locs cells slots Q (F0 m n M (.int (f x y) :: rest)) → W p l e R s m args below meth c H locs cells slots Q (F0 m pc M (.int y :: .int x :: rest))) : SM D G l Hb h0 b0 mm pc ls st h d r := by
  unfold xb at hi
  split at hi
  · rw [xgo_eq hi] at ih
    exact g_same ih (fun β H _ q => (q.tail.tail.push (by exact trivial)).1) fun X _ _ _ _ k => row X k
  · cases hi
theorem g_bind {f : Int32 → Int32 → Int32} (hi : xbd f (fun st => xgo mm n ls st h d) st = some (.inl c')) (ih : SMc D G l Hb h0 b0 c' r)
    (row : ∀ {p : Program} {e : Env} {R : Room} {s : State} {m : MethodId} {args : Array Value} {below : List Frame} {meth : Method} {c : Code} {Q : State → Prop} {H : Heap} {locs : List Loc} {cells slots : Nat} {M : Array Slot} {rest : List Value} {x y : Int32} (_ : xCt D G Hb h0 b0 mm p s m args meth c) (_ : ¬ y = 0), W p l e R s m args below meth c H locs cells slots Q (F0 m n M (.int (f x y) :: rest)) → W p l e R s m args below meth c H locs cells slots Q (F0 m pc M (.int y :: .int x :: rest))) : SM D G l Hb h0 b0 mm pc ls st h d r := by
  unfold xbd at hi
  split at hi
  · split at hi
    · cases hi
    · rename_i hy
      rw [xgo_eq hi] at ih
      exact g_same ih (fun β H _ q => (q.tail.tail.push (by exact trivial)).1) fun X _ _ _ _ k => row X hy k
  · cases hi
theorem g_binl {f : Int64 → Int64 → Int64} (hi : xbl f (fun st => xgo mm n ls st h d) st = some (.inl c')) (ih : SMc D G l Hb h0 b0 c' r)
    (row : ∀ {p : Program} {e : Env} {R : Room} {s : State} {m : MethodId} {args : Array Value} {below : List Frame} {meth : Method} {c : Code} {Q : State → Prop} {H : Heap} {locs : List Loc} {cells slots : Nat} {M : Array Slot} {rest : List Value} {x y : Int64} (_ : xCt D G Hb h0 b0 mm p s m args meth c) , W p l e R s m args below meth c H locs cells slots Q (F0 m n M (.long (f x y) :: rest)) → W p l e R s m args below meth c H locs cells slots Q (F0 m pc M (.long y :: .long x :: rest))) : SM D G l Hb h0 b0 mm pc ls st h d r := by
  unfold xbl at hi
  split at hi
  · rw [xgo_eq hi] at ih
    exact g_same ih (fun β H _ q => (q.tail.tail.push (by exact trivial)).1) fun X _ _ _ _ k => row X k
  · cases hi
theorem g_binld {f : Int64 → Int64 → Int64} (hi : xbld f (fun st => xgo mm n ls st h d) st = some (.inl c')) (ih : SMc D G l Hb h0 b0 c' r)
    (row : ∀ {p : Program} {e : Env} {R : Room} {s : State} {m : MethodId} {args : Array Value} {below : List Frame} {meth : Method} {c : Code} {Q : State → Prop} {H : Heap} {locs : List Loc} {cells slots : Nat} {M : Array Slot} {rest : List Value} {x y : Int64} (_ : xCt D G Hb h0 b0 mm p s m args meth c) (_ : ¬ y = 0), W p l e R s m args below meth c H locs cells slots Q (F0 m n M (.long (f x y) :: rest)) → W p l e R s m args below meth c H locs cells slots Q (F0 m pc M (.long y :: .long x :: rest))) : SM D G l Hb h0 b0 mm pc ls st h d r := by
  unfold xbld at hi
  split at hi
  · split at hi
    · cases hi
    · rename_i hy
      rw [xgo_eq hi] at ih
      exact g_same ih (fun β H _ q => (q.tail.tail.push (by exact trivial)).1) fun X _ _ _ _ k => row X hy k
  · cases hi
theorem g_un {f : Int32 → Value} (hv : ∀ k x, xvo k (f x)) (hc : ∀ β x, cv β (f x) = f x) (hi : xu f (fun st => xgo mm n ls st h d) st = some (.inl c')) (ih : SMc D G l Hb h0 b0 c' r)
    (row : ∀ {p : Program} {e : Env} {R : Room} {s : State} {m : MethodId} {args : Array Value} {below : List Frame} {meth : Method} {c : Code} {Q : State → Prop} {H : Heap} {locs : List Loc} {cells slots : Nat} {M : Array Slot} {rest : List Value} {x : Int32} (_ : xCt D G Hb h0 b0 mm p s m args meth c) , W p l e R s m args below meth c H locs cells slots Q (F0 m n M (f x :: rest)) → W p l e R s m args below meth c H locs cells slots Q (F0 m pc M (.int x :: rest))) : SM D G l Hb h0 b0 mm pc ls st h d r := by
  unfold xu at hi
  split at hi
  · rw [xgo_eq hi] at ih
    refine g_same ih (fun β H _ q => (q.tail.push (hv _ _)).1) fun X _ _ _ _ k => row X ?_
    rw [List.map_cons, hc] at k
    exact k
  · cases hi
theorem g_unl {f : Int64 → Value} (hv : ∀ k x, xvo k (f x)) (hc : ∀ β x, cv β (f x) = f x) (hi : xul f (fun st => xgo mm n ls st h d) st = some (.inl c')) (ih : SMc D G l Hb h0 b0 c' r)
    (row : ∀ {p : Program} {e : Env} {R : Room} {s : State} {m : MethodId} {args : Array Value} {below : List Frame} {meth : Method} {c : Code} {Q : State → Prop} {H : Heap} {locs : List Loc} {cells slots : Nat} {M : Array Slot} {rest : List Value} {x : Int64} (_ : xCt D G Hb h0 b0 mm p s m args meth c) , W p l e R s m args below meth c H locs cells slots Q (F0 m n M (f x :: rest)) → W p l e R s m args below meth c H locs cells slots Q (F0 m pc M (.long x :: rest))) : SM D G l Hb h0 b0 mm pc ls st h d r := by
  unfold xul at hi
  split at hi
  · rw [xgo_eq hi] at ih
    refine g_same ih (fun β H _ q => (q.tail.push (hv _ _)).1) fun X _ _ _ _ k => row X ?_
    rw [List.map_cons, hc] at k
    exact k
  · cases hi
theorem g_ldi {i : Nat} (hi : xi ls i (fun x => xgo mm n ls (.int x :: st) h d) = some (.inl c')) (ih : SMc D G l Hb h0 b0 c' r)
    (row : ∀ {p : Program} {e : Env} {R : Room} {s : State} {m : MethodId} {args : Array Value} {below : List Frame} {meth : Method} {c : Code} {Q : State → Prop} {H : Heap} {locs : List Loc} {cells slots : Nat} {M : Array Slot} {rest : List Value} {x : Int32} (_ : xCt D G Hb h0 b0 mm p s m args meth c) (_ : M[i]? = some (.val (.int x))), W p l e R s m args below meth c H locs cells slots Q (F0 m n M (.int x :: rest)) → W p l e R s m args below meth c H locs cells slots Q (F0 m pc M rest)) : SM D G l Hb h0 b0 mm pc ls st h d r := by
  unfold xi at hi
  split at hi
  · rename_i x e
    rw [xgo_eq hi] at ih
    exact g_same ih (fun β H _ q => (q.push (by exact trivial)).1) fun X _ _ hL _ k => row X (hL.2.2.2 _ _ (xld_eq e)) k
  · cases hi
theorem g_ldl {i : Nat} (hi : xl ls i (fun x => xgo mm n ls (.long x :: st) h d) = some (.inl c')) (ih : SMc D G l Hb h0 b0 c' r)
    (row : ∀ {p : Program} {e : Env} {R : Room} {s : State} {m : MethodId} {args : Array Value} {below : List Frame} {meth : Method} {c : Code} {Q : State → Prop} {H : Heap} {locs : List Loc} {cells slots : Nat} {M : Array Slot} {rest : List Value} {x : Int64} (_ : xCt D G Hb h0 b0 mm p s m args meth c) (_ : M[i]? = some (.val (.long x))), W p l e R s m args below meth c H locs cells slots Q (F0 m n M (.long x :: rest)) → W p l e R s m args below meth c H locs cells slots Q (F0 m pc M rest)) : SM D G l Hb h0 b0 mm pc ls st h d r := by
  unfold xl at hi
  split at hi
  · rename_i x e
    rw [xgo_eq hi] at ih
    exact g_same ih (fun β H _ q => (q.push (by exact trivial)).1) fun X _ _ hL _ k => row X (hL.2.2.2 _ _ (xld_eq e)) k
  · cases hi
theorem g_ldr {i : Nat} (hi : xr ls i (fun x => xgo mm n ls (x :: st) h d) = some (.inl c')) (ih : SMc D G l Hb h0 b0 c' r)
    (row : ∀ {p : Program} {e : Env} {R : Room} {s : State} {m : MethodId} {args : Array Value} {below : List Frame} {meth : Method} {c : Code} {Q : State → Prop} {H : Heap} {locs : List Loc} {cells slots : Nat} {M : Array Slot} {rest : List Value} {x : Nat} (_ : xCt D G Hb h0 b0 mm p s m args meth c) (_ : M[i]? = some (.val (.ref x))), W p l e R s m args below meth c H locs cells slots Q (F0 m n M (.ref x :: rest)) → W p l e R s m args below meth c H locs cells slots Q (F0 m pc M rest))
    (rowN : ∀ {p : Program} {e : Env} {R : Room} {s : State} {m : MethodId} {args : Array Value} {below : List Frame} {meth : Method} {c : Code} {Q : State → Prop} {H : Heap} {locs : List Loc} {cells slots : Nat} {M : Array Slot} {rest : List Value} (_ : xCt D G Hb h0 b0 mm p s m args meth c) (_ : M[i]? = some (.val .null)), W p l e R s m args below meth c H locs cells slots Q (F0 m n M (.null :: rest)) → W p l e R s m args below meth c H locs cells slots Q (F0 m pc M rest)) : SM D G l Hb h0 b0 mm pc ls st h d r := by
  unfold xr at hi
  split at hi
  · rename_i x e
    rw [xgo_eq hi] at ih
    exact g_same ih (fun β H _ q => (q.push (q.2 _ (List.mem_of_getElem? (xld_eq e)))).1) fun X _ _ hL _ k => row X (hL.2.2.2 _ _ (xld_eq e)) k
  · rename_i e
    rw [xgo_eq hi] at ih
    exact g_same ih (fun β H _ q => (q.push (by exact trivial)).1) fun X _ _ hL _ k => rowN X (hL.2.2.2 _ _ (xld_eq e)) k
  · cases hi
abbrev xRowS (D : va_G) (G : Nat → ClassId) (l : Launch) (Hb : Heap) (h0 : xH) (b0 : Nat → Nat) (mm : xM) (pc n i : Nat) (v : Value) : Prop := ∀ {p : Program} {e : Env} {R : Room} {s : State} {m : MethodId} {args : Array Value} {below : List Frame} {meth : Method} {c : Code} {Q : State → Prop} {H : Heap} {locs : List Loc} {cells slots : Nat} {M : Array Slot} {rest : List Value} {nL : Nat} {lv : List (Nat × Value)} (_ : xCt D G Hb h0 b0 mm p s m args meth c) (_ : lv_has M nL lv) (_ : i < nL), (∀ M', lv_has M' nL ((i, v) :: lv.filter (fun q => !(q.1 == i) && !(q.1 + 1 == i && q.2.category == 2))) → W p l e R s m args below meth c H locs cells slots Q (F0 m n M' rest)) → W p l e R s m args below meth c H locs cells slots Q (F0 m pc M (v :: rest))
theorem g_st1 {i : Nat} {v : Value} (hs : i < ls.length) (hi : xgo mm n (xst ls i (.val v)) st h d = some (.inl c')) (ih : SMc D G l Hb h0 b0 c' r) (row : ∀ β, xRowS D G l Hb h0 b0 mm pc n i (cv β v)) : SM D G l Hb h0 b0 mm pc ls (v :: st) h d r := by
  rw [xgo_eq hi] at ih
  exact g_loc ih (fun q => q.tail.store q.head) fun {p e R s m args below meth c Q H locs cells slots β M} X hL k => row β X hL.has (by rw [← hL.1]; exact hs) fun M' h' => k M' (hL.store1 hs h')
theorem g_istore {i : Nat} (hi : (match st with | .int x :: st => if i < ls.length then xgo mm n (xst ls i (.val (.int x))) st h d else none | _ => none) = some (.inl c')) (ih : SMc D G l Hb h0 b0 c' r) (row : ∀ x, xRowS D G l Hb h0 b0 mm pc n i (.int x)) : SM D G l Hb h0 b0 mm pc ls st h d r := by
  split at hi
  · split at hi
    · rename_i hs
      exact g_st1 hs hi ih fun β => row _
    · cases hi
  · cases hi
theorem g_astore {i : Nat} (hi : (match st with | .ref x :: st => if i < ls.length then xgo mm n (xst ls i (.val (.ref x))) st h d else none | .null :: st => if i < ls.length then xgo mm n (xst ls i (.val .null)) st h d else none | _ => none) = some (.inl c')) (ih : SMc D G l Hb h0 b0 c' r) (row : ∀ x, xRowS D G l Hb h0 b0 mm pc n i (.ref x)) (rowN : xRowS D G l Hb h0 b0 mm pc n i .null) : SM D G l Hb h0 b0 mm pc ls st h d r := by
  split at hi
  · split at hi
    · rename_i hs
      exact g_st1 hs hi ih fun β => row _
    · cases hi
  · split at hi
    · rename_i hs
      exact g_st1 hs hi ih fun β => rowN
    · cases hi
  · cases hi
theorem g_lstore {i : Nat} (hi : (match st with | .long x :: st => if i + 1 < ls.length then xgo mm n ((xst ls i (.val (.long x))).set (i + 1) .unset) st h d else none | _ => none) = some (.inl c')) (ih : SMc D G l Hb h0 b0 c' r)
    (row : ∀ {p : Program} {e : Env} {R : Room} {s : State} {m : MethodId} {args : Array Value} {below : List Frame} {meth : Method} {c : Code} {Q : State → Prop} {H : Heap} {locs : List Loc} {cells slots : Nat} {M : Array Slot} {rest : List Value} {nL : Nat} {lv : List (Nat × Value)} {x : Int64} (_ : xCt D G Hb h0 b0 mm p s m args meth c) (_ : lv_has M nL lv) (_ : i + 1 < nL), (∀ M', lv_has M' nL ((i, .long x) :: lv.filter (fun q => !(q.1 == i) && (!(q.1 == i + 1) && !(q.1 + 1 == i && q.2.category == 2)))) → W p l e R s m args below meth c H locs cells slots Q (F0 m n M' rest)) → W p l e R s m args below meth c H locs cells slots Q (F0 m pc M (.long x :: rest))) : SM D G l Hb h0 b0 mm pc ls st h d r := by
  split at hi
  · split at hi
    · rename_i x st' hs
      rw [xgo_eq hi] at ih
      refine g_loc ih (fun q => ⟨q.tail.1, fun w hw => ?_⟩) fun {p e R s m args below meth c Q H locs cells slots β M} X hL k => row X hL.has (by rw [← hL.1]; exact hs) fun M' h' => k M' (hL.store2 (v := .long x) hs h')
      rcases List.mem_or_eq_of_mem_set hw with e | e
      · exact (q.tail.store (v := .long x) (i := i) trivial).2 w e
      · cases e
    · cases hi
  · cases hi
theorem g_iinc {i : Nat} {k : Int} (hd : decode mm.2.2.2.1 pc = .ok (.iinc i k, 3)) (hi : (xi ls i fun x => if i < ls.length then xgo mm (pc + 3) (xst ls i (.val (.int (x + Int32.ofInt k)))) st h d else none) = some (.inl c')) (ih : SMc D G l Hb h0 b0 c' r) : SM D G l Hb h0 b0 mm pc ls st h d r := by
  unfold xi at hi
  split at hi
  · rename_i x e
    split at hi
    · rename_i hs
      rw [xgo_eq hi] at ih
      refine g_loc ih (fun q => q.store trivial) fun {p ee R s m args below meth c Q H locs cells slots β M} X hL kk => ?_
      obtain ⟨j, hj⟩ := List.getElem?_of_mem (xLs_mem.mpr ⟨_, xld_eq e, rfl⟩ : (i, cv β (.int x)) ∈ xLs β ls)
      exact lv_iinc X.1 X.2.1 hd hL.has hj rfl (by rw [← hL.1]; exact hs) rfl fun M' h' => kk M' (hL.store1 (v := .int (x + Int32.ofInt k)) hs h')
    · cases hi
  · cases hi
theorem g_goto {off : Int} (hd : decode mm.2.2.2.1 pc = .ok (.goto off, 3)) (hi : (xj pc off fun t => xgo mm t ls st h d) = some (.inl c')) (ih : SMc D G l Hb h0 b0 c' r) : SM D G l Hb h0 b0 mm pc ls st h d r := by
  obtain ⟨t, ht, hi⟩ := xj_eq hi
  rw [xgo_eq hi] at ih
  exact g_same ih (fun β H _ q => q.1) fun X _ _ _ _ k => lv_goto X.1 X.2.1 hd ht k
theorem g_if1 {c : ClassFile.Cond} {off : Int} (hd : decode mm.2.2.2.1 pc = .ok (.ifCond c off, 3)) (hi : (match st with | .int x :: st => xj pc off fun t => xgo mm (bif xcmp c x 0 then t else pc + 3) ls st h d | _ => none) = some (.inl c')) (ih : SMc D G l Hb h0 b0 c' r) : SM D G l Hb h0 b0 mm pc ls st h d r := by
  split at hi
  · rename_i x st'
    obtain ⟨t, ht, hi⟩ := xj_eq hi
    rw [xgo_eq hi] at ih
    refine g_same ih (fun β H _ q => q.tail.1) fun {p e R s m args below meth c0 Q H locs cells slots β M} X _ _ _ _ k => ?_
    cases c with
    | eq => exact lv_if_eq X.1 X.2.1 hd ht (fun q => by simpa [xcmp, q] using k) (fun q => by simpa [xcmp, q] using k)
    | ne => exact lv_if_ne X.1 X.2.1 hd ht (fun q => by simpa [xcmp, q] using k) (fun q => by simpa [xcmp, q] using k)
    | lt => exact lv_if_lt X.1 X.2.1 hd ht (fun q => by simpa [xcmp, q] using k) (fun q => by simpa [xcmp, q] using k)
    | ge => exact lv_if_ge X.1 X.2.1 hd ht (fun q => by simpa [xcmp, q] using k) (fun q => by simpa [xcmp, q] using k)
    | gt => exact lv_if_gt X.1 X.2.1 hd ht (fun q => by simpa [xcmp, q] using k) (fun q => by simpa [xcmp, q] using k)
    | le => exact lv_if_le X.1 X.2.1 hd ht (fun q => by simpa [xcmp, q] using k) (fun q => by simpa [xcmp, q] using k)
  · cases hi
theorem g_if2 {c : ClassFile.Cond} {off : Int} (hd : decode mm.2.2.2.1 pc = .ok (.if_icmp c off, 3)) (hi : (match st with | .int y :: .int x :: st => xj pc off fun t => xgo mm (bif xcmp c x y then t else pc + 3) ls st h d | _ => none) = some (.inl c')) (ih : SMc D G l Hb h0 b0 c' r) : SM D G l Hb h0 b0 mm pc ls st h d r := by
  split at hi
  · rename_i y x st'
    obtain ⟨t, ht, hi⟩ := xj_eq hi
    rw [xgo_eq hi] at ih
    refine g_same ih (fun β H _ q => q.tail.tail.1) fun {p e R s m args below meth c0 Q H locs cells slots β M} X _ _ _ _ k => ?_
    cases c with
    | eq => exact lv_icmp_eq X.1 X.2.1 hd ht (fun q => by simpa [xcmp, q] using k) (fun q => by simpa [xcmp, q] using k)
    | ne => exact lv_icmp_ne X.1 X.2.1 hd ht (fun q => by simpa [xcmp, q] using k) (fun q => by simpa [xcmp, q] using k)
    | lt => exact lv_icmp_lt X.1 X.2.1 hd ht (fun q => by simpa [xcmp, q] using k) (fun q => by simpa [xcmp, q] using k)
    | ge => exact lv_icmp_ge X.1 X.2.1 hd ht (fun q => by simpa [xcmp, q] using k) (fun q => by simpa [xcmp, q] using k)
    | gt => exact lv_icmp_gt X.1 X.2.1 hd ht (fun q => by simpa [xcmp, q] using k) (fun q => by simpa [xcmp, q] using k)
    | le => exact lv_icmp_le X.1 X.2.1 hd ht (fun q => by simpa [xcmp, q] using k) (fun q => by simpa [xcmp, q] using k)
  · cases hi
theorem g_ifnull {off : Int} (hd : decode mm.2.2.2.1 pc = .ok (.ifnull off, 3)) (hi : (match st with | .null :: st => xj pc off fun t => xgo mm t ls st h d | .ref _ :: st => xgo mm (pc + 3) ls st h d | _ => none) = some (.inl c')) (ih : SMc D G l Hb h0 b0 c' r) : SM D G l Hb h0 b0 mm pc ls st h d r := by
  split at hi
  · obtain ⟨t, ht, hi⟩ := xj_eq hi
    rw [xgo_eq hi] at ih
    exact g_same ih (fun β H _ q => q.tail.1) fun X _ _ _ _ k => lv_ifnullN X.1 X.2.1 hd ht k
  · rw [xgo_eq hi] at ih
    exact g_same ih (fun β H _ q => q.tail.1) fun X _ _ _ _ k => lv_ifnull X.1 X.2.1 hd k
  · cases hi
theorem g_ifnonnull {off : Int} (hd : decode mm.2.2.2.1 pc = .ok (.ifnonnull off, 3)) (hi : (match st with | .null :: st => xgo mm (pc + 3) ls st h d | .ref _ :: st => xj pc off fun t => xgo mm t ls st h d | _ => none) = some (.inl c')) (ih : SMc D G l Hb h0 b0 c' r) : SM D G l Hb h0 b0 mm pc ls st h d r := by
  split at hi
  · rw [xgo_eq hi] at ih
    exact g_same ih (fun β H _ q => q.tail.1) fun X _ _ _ _ k => lv_ifnonnullN X.1 X.2.1 hd k
  · obtain ⟨t, ht, hi⟩ := xj_eq hi
    rw [xgo_eq hi] at ih
    exact g_same ih (fun β H _ q => q.tail.1) fun X _ _ _ _ k => lv_ifnonnull X.1 X.2.1 hd ht k
  · cases hi
theorem g_switch {df lo hi : Int} {offs : Array Int} (hd : decode mm.2.2.2.1 pc = .ok (.tableswitch df lo hi offs, len)) (hi : (match st with | .int x :: st => xsw pc df lo hi offs x fun t => xgo mm t ls st h d | _ => none) = some (.inl c')) (ih : SMc D G l Hb h0 b0 c' r) : SM D G l Hb h0 b0 mm pc ls st h d r := by
  split at hi
  · unfold xsw at hi
    split at hi
    · rename_i hx
      obtain ⟨t, ht, hi⟩ := xj_eq hi
      rw [xgo_eq hi] at ih
      exact g_same ih (fun β H _ q => q.tail.1) fun X _ _ _ _ k => lv_tableOut X.1 X.2.1 hd hx ht k
    · rename_i hx
      split at hi
      · rename_i off ho
        obtain ⟨t, ht, hi⟩ := xj_eq hi
        rw [xgo_eq hi] at ih
        exact g_same ih (fun β H _ q => q.tail.1) fun X _ _ _ _ k => lv_tableIn X.1 X.2.1 hd (fun q => hx (Or.inl q)) (fun q => hx (Or.inr q)) ho ht k
      · cases hi
  · cases hi
theorem g_dup (hd : decode mm.2.2.2.1 pc = .ok (.dup, 1)) (hi : (match st with | v :: st => if v.category = 1 then xgo mm (pc + 1) ls (v :: v :: st) h d else none | _ => none) = some (.inl c')) (ih : SMc D G l Hb h0 b0 c' r) : SM D G l Hb h0 b0 mm pc ls st h d r := by
  split at hi
  · split at hi
    · rename_i hv
      rw [xgo_eq hi] at ih
      exact g_same ih (fun β H _ q => (q.push q.head).1) fun X _ _ _ _ k => lv_dup X.1 X.2.1 hd (by rw [cv_cat]; exact hv) k
    · cases hi
  · cases hi
theorem g_pop (hd : decode mm.2.2.2.1 pc = .ok (.pop, 1)) (hi : (match st with | v :: st => if v.category = 1 then xgo mm (pc + 1) ls st h d else none | _ => none) = some (.inl c')) (ih : SMc D G l Hb h0 b0 c' r) : SM D G l Hb h0 b0 mm pc ls st h d r := by
  split at hi
  · split at hi
    · rename_i hv
      rw [xgo_eq hi] at ih
      exact g_same ih (fun β H _ q => q.tail.1) fun X _ _ _ _ k => lv_pop X.1 X.2.1 hd (by rw [cv_cat]; exact hv) k
    · cases hi
  · cases hi
theorem g_dupx1 (hd : decode mm.2.2.2.1 pc = .ok (.dup_x1, 1)) (hi : (match st with | a :: b :: st => if a.category = 1 ∧ b.category = 1 then xgo mm (pc + 1) ls (a :: b :: a :: st) h d else none | _ => none) = some (.inl c')) (ih : SMc D G l Hb h0 b0 c' r) : SM D G l Hb h0 b0 mm pc ls st h d r := by
  split at hi
  · split at hi
    · rename_i hv
      rw [xgo_eq hi] at ih
      exact g_same ih (fun β H _ q => (((q.tail.tail.push q.head).push q.tail.head).push q.head).1) fun X _ _ _ _ k => lv_dup_x1 X.1 X.2.1 hd (by rw [cv_cat]; exact hv.1) (by rw [cv_cat]; exact hv.2) k
    · cases hi
  · cases hi
theorem g_dup2 (hd : decode mm.2.2.2.1 pc = .ok (.dup2, 1)) (hi : (match st with | a :: b :: st => if a.category = 1 ∧ b.category = 1 then xgo mm (pc + 1) ls (a :: b :: a :: b :: st) h d else none | _ => none) = some (.inl c')) (ih : SMc D G l Hb h0 b0 c' r) : SM D G l Hb h0 b0 mm pc ls st h d r := by
  split at hi
  · split at hi
    · rename_i hv
      rw [xgo_eq hi] at ih
      exact g_same ih (fun β H _ q => ((q.push q.tail.head).push q.head).1) fun X _ _ _ _ k => lv_dup2_11 X.1 X.2.1 hd (by rw [cv_cat]; exact hv.1) (by rw [cv_cat]; exact hv.2) k
    · cases hi
  · cases hi
theorem g_lcmp (hd : decode mm.2.2.2.1 pc = .ok (.lcmp, 1)) (hi : (match st with | .long y :: .long x :: st => xgo mm (pc + 1) ls (.int (lg_cmp x y) :: st) h d | _ => none) = some (.inl c')) (ih : SMc D G l Hb h0 b0 c' r) : SM D G l Hb h0 b0 mm pc ls st h d r := by
  split at hi
  · rw [xgo_eq hi] at ih
    exact g_same ih (fun β H _ q => (q.tail.tail.push (by exact trivial)).1) fun X _ _ _ _ k => W.lcmp X.1 X.2.1 hd k
  · cases hi
theorem g_lshl (hd : decode mm.2.2.2.1 pc = .ok (.lshl, 1)) (hi : xbs (fun x y => x <<< (y.toInt64 &&& 63)) (fun st => xgo mm (pc + 1) ls st h d) st = some (.inl c')) (ih : SMc D G l Hb h0 b0 c' r) : SM D G l Hb h0 b0 mm pc ls st h d r := by
  unfold xbs at hi
  split at hi
  · rw [xgo_eq hi] at ih
    exact g_same ih (fun β H _ q => (q.tail.tail.push (by exact trivial)).1) fun X _ _ _ _ k => lv_lshl X.1 X.2.1 hd rfl k
  · cases hi
end
