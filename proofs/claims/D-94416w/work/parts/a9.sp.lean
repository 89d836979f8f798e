/-! SOUNDNESS, what is taken as one step: java/lang/Math -/
theorem xP6 {as : List Value} {h : xH} {q : xR} (hq : xP 6 as h = some q) : ∃ x y : Int32, as = [.int x, .int y] ∧ q = (some (.int (if x < y then y else x)), h) := by
  rcases as with _ | ⟨a, _ | ⟨b, _ | ⟨c, t⟩⟩⟩
  · cases hq
  · cases a <;> cases hq
  · cases a <;> cases b <;> first | exact ⟨_, _, rfl, (Option.some.inj hq).symm⟩ | cases hq
  · cases a <;> cases b <;> cases hq
theorem xP7 {as : List Value} {h : xH} {q : xR} (hq : xP 7 as h = some q) : ∃ x y : Int32, as = [.int x, .int y] ∧ q = (some (.int (if y < x then y else x)), h) := by
  rcases as with _ | ⟨a, _ | ⟨b, _ | ⟨c, t⟩⟩⟩
  · cases hq
  · cases a <;> cases hq
  · cases a <;> cases b <;> first | exact ⟨_, _, rfl, (Option.some.inj hq).symm⟩ | cases hq
  · cases a <;> cases b <;> cases hq
theorem xP8 {as : List Value} {h : xH} {q : xR} (hq : xP 8 as h = some q) : ∃ x : Int32, as = [.int x] ∧ q = (some (.int (if 0 ≤ x then x else 0 - x)), h) := by
  rcases as with _ | ⟨a, _ | ⟨b, t⟩⟩
  · cases hq
  · cases a <;> first | exact ⟨_, rfl, (Option.some.inj hq).symm⟩ | cases hq
  · cases a <;> cases hq
theorem xP9 {as : List Value} {h : xH} {q : xR} (hq : xP 9 as h = some q) : ∃ x y : Int64, as = [.long x, .long y] ∧ q = (some (.long (if y < x then x else y)), h) := by
  rcases as with _ | ⟨a, _ | ⟨b, _ | ⟨c, t⟩⟩⟩
  · cases hq
  · cases a <;> cases hq
  · cases a <;> cases b <;> first | exact ⟨_, _, rfl, (Option.some.inj hq).symm⟩ | cases hq
  · cases a <;> cases b <;> cases hq
theorem xP10 {as : List Value} {h : xH} {q : xR} (hq : xP 10 as h = some q) : ∃ x y : Int64, as = [.long x, .long y] ∧ q = (some (.long (if y < x then y else x)), h) := by
  rcases as with _ | ⟨a, _ | ⟨b, _ | ⟨c, t⟩⟩⟩
  · cases hq
  · cases a <;> cases hq
  · cases a <;> cases b <;> first | exact ⟨_, _, rfl, (Option.some.inj hq).symm⟩ | cases hq
  · cases a <;> cases b <;> cases hq
section
variable {D : va_G} {G : Nat → ClassId} {l : Launch} {Hb : Heap} {h0 : xH} {b0 : Nat → Nat} {mm : xM} {pc d : Nat} {ls : List Slot} {st : List Value} {h : xH} {r : xR}
theorem take_spl {na : Nat} {as : List Value} (hst : (st.take na).reverse = as) : st = as.reverse ++ st.drop na := by
  rw [← hst, List.reverse_reverse, List.take_append_drop]
theorem g_math {na : Nat} {as : List Value} {v : Value} (hst : (st.take na).reverse = as) (h8 : xcat (st.drop na) ≤ 8) (hvo : xvo (oX h) v) (hcv : ∀ β, cv β v = v) (ih : SM D G l Hb h0 b0 mm (pc + 3) ls (v :: st.drop na) h d r)
    (row : ∀ {p : Program} {e : Env} {R : Room} {s : State} {m : MethodId} {args : Array Value} {below : List Frame} {meth : Method} {c : Code} {Q : State → Prop} {H : Heap} {locs : List Loc} {cells slots : Nat} {β : Nat → Nat} {M : Array Slot} {rest : List Value} (_ : xCt D G Hb h0 b0 mm p s m args meth c) (_ : c.maxLocals = M.size) (_ : (rest.map fun v => v.category).sum ≤ 8) (_ : d + 17 ≤ R.frames ∧ 96 * (d + 1) + 11000 ≤ R.locals) (_ : cells ≤ R.cells) (_ : slots ≤ R.slots),
      W p l e R s m args below meth c H locs cells slots Q (F0 m (pc + 3) M (v :: rest)) → W p l e R s m args below meth c H locs cells slots Q (F0 m pc M (as.reverse.map (cv β) ++ rest))) : SM D G l Hb h0 b0 mm pc ls st h d r := by
  refine ⟨ih.1, fun {p e R s m args below meth c Q H locs cells slots β M} X hw hS hL hvs hR hc hs fin => ?_⟩
  have e1 := take_spl hst
  have k := ih.2 X hw hS hL ⟨fun w hm => by
    rcases List.mem_cons.mp hm with z | z
    · rw [z]; exact hvo
    · exact hvs.1 w (List.mem_of_mem_drop z), hvs.2⟩ hR hc hs fin
  rw [List.map_cons, hcv] at k
  have e2 : st.map (cv β) = as.reverse.map (cv β) ++ (st.drop na).map (cv β) := by
    conv => lhs; rw [e1]
    rw [List.map_append]
  rw [e2]
  have c1 := ih.1
  exact row X (X.2.2.1.trans hL.2.1.symm) (by rw [xcat_cv]; exact h8) hR (by omega) (by omega) k
end
theorem xPS_math {D : va_G} {G : Nat → ClassId} {l : Launch} {Hb : Heap} {h0 : xH} {b0 : Nat → Nat} {mm : xM} {pc : Nat} {ls : List Slot} {st : List Value} {h : xH} {d k na p : Nat} {q r : xR} (hp6 : 6 ≤ p) (hO : XSok mm.1 k na (.inr p)) (h8 : xcat (st.drop na) ≤ 8) (hd : decode mm.2.2.2.1 pc = .ok (.invokestatic k, 3)) (hq : xP p (st.take na).reverse h = some q) (ih : SM D G l Hb h0 b0 mm (pc + 3) ls (xpu q.1 (st.drop na)) q.2 d r) : SM D G l Hb h0 b0 mm pc ls st h d r := by
  obtain ⟨hl, hp⟩ := hO
  unfold xps at hp
  split at hp
  · omega
  · omega
  · obtain ⟨x, y, e, rfl⟩ := xP6 hq
    exact g_math e h8 (by exact trivial) (fun _ => rfl) ih fun X hm hz hR hc hs k => va_mmax X.1 X.2.1 hm X.2.2.2.1 (X.2.2.2.2.1 _ hl) (X.2.2.2.2.1 _ q665) (X.2.2.2.2.1 _ q140) (X.2.2.2.2.1 _ q666) (by omega) (Nat.le_trans (Nat.add_le_add_right hz 13) (by omega)) hc hs hd k
  · obtain ⟨x, y, e, rfl⟩ := xP7 hq
    exact g_math e h8 (by exact trivial) (fun _ => rfl) ih fun X hm hz hR hc hs k => va_mmin X.1 X.2.1 hm X.2.2.2.1 (X.2.2.2.2.1 _ hl) (X.2.2.2.2.1 _ q706) (X.2.2.2.2.1 _ q140) (X.2.2.2.2.1 _ q707) (by omega) (Nat.le_trans (Nat.add_le_add_right hz 13) (by omega)) hc hs hd k
  · obtain ⟨x, e, rfl⟩ := xP8 hq
    exact g_math e h8 (by exact trivial) (fun _ => rfl) ih fun X hm hz hR hc hs k => va_mabs X.1 X.2.1 hm X.2.2.2.1 (X.2.2.2.2.1 _ hl) (X.2.2.2.2.1 _ q981) (X.2.2.2.2.1 _ q140) (X.2.2.2.2.1 _ q982) (by omega) (Nat.le_trans (Nat.add_le_add_right hz 13) (by omega)) hc hs hd k
  · obtain ⟨x, y, e, rfl⟩ := xP9 hq
    exact g_math e h8 (by exact trivial) (fun _ => rfl) ih fun X hm hz hR hc hs k => va_mmax_long X.1 X.2.1 hm X.2.2.2.1 (X.2.2.2.2.1 _ hl) (X.2.2.2.2.1 _ q1266) (X.2.2.2.2.1 _ q140) (X.2.2.2.2.1 _ q1267) (by omega) (Nat.le_trans (Nat.add_le_add_right hz 15) (by omega)) hc hs hd k
  · obtain ⟨x, y, e, rfl⟩ := xP10 hq
    exact g_math e h8 (by exact trivial) (fun _ => rfl) ih fun X hm hz hR hc hs k => va_mmin_long X.1 X.2.1 hm X.2.2.2.1 (X.2.2.2.2.1 _ hl) (X.2.2.2.2.1 _ q1332) (X.2.2.2.2.1 _ q140) (X.2.2.2.2.1 _ q1333) (by omega) (Nat.le_trans (Nat.add_le_add_right hz 15) (by omega)) hc hs hd k
  · cases hp
