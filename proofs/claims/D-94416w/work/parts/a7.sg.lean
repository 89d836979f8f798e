/-! which instructions call, which end a method -/
def xk7 : Instr → Bool
  | .ireturn => true
  | .lreturn => true
  | .areturn => true
  | .return_ => true
  | .invokevirtual _ => true
  | .invokestatic _ => true
  | .invokespecial _ => true
  | _ => false
theorem nr_go {m : xM} {pc d : Nat} {ls : List Slot} {st : List Value} {h : xH} {b : (xC × (xR → Option xC)) ⊕ xR} (q : xgo m pc ls st h d = some (.inr b)) : False := by
  have := Option.some.inj q
  cases this
theorem xins_inr {i : Instr} {m : xM} {pc n d : Nat} {ls : List Slot} {st : List Value} {h : xH} {b : (xC × (xR → Option xC)) ⊕ xR} (q : xins i m pc n ls st h d = some (.inr b)) : xk7 i = true := by
  unfold xins at q
  split at q
  all_goals first
    | rfl
    | exact (nr_go q).elim
    | (repeat' (first | exact (nr_go q).elim | (cases q; done) | unfold xsw at q | unfold xj at q | unfold xb at q | unfold xbd at q | unfold xbl at q | unfold xbld at q | unfold xbs at q | unfold xu at q | unfold xul at q | unfold xi at q | unfold xl at q | unfold xr at q | unfold xput at q | unfold xget at q | unfold xnewa at q | rw [Bool.cond_eq_ite] at q | split at q))
theorem xret_fin {mm : xM} {pc d : Nat} {ls : List Slot} {st : List Value} {h : xH} {r : xR} {i : Instr} (hd : decode mm.2.2.2.1 pc = .ok (i, 1)) (hx : xins i mm pc (pc + 1) ls st h d = some (.inr (.inr r))) : r.2 = h ∧ (∀ v, r.1 = some v → v ∈ st) ∧ ∀ β, xfi mm pc (r.1.map (cv β)) (st.map (cv β)) := by
  have hk := xins_inr hx
  cases i
  case ireturn =>
    have hx : (match st with | [.int v] => xret mm.2.2.2.2.2 h (some (.int v)) | _ => none) = some (.inr (.inr r)) := hx
    split at hx
    · rename_i v
      unfold xret at hx
      dsimp only at hx
      split at hx
      · rename_i ht
        cases hx
        exact ⟨rfl, fun w hw => by cases hw; exact List.mem_cons_self, fun β => ⟨hd, rfl, Or.inl ht⟩⟩
      · rename_i ht
        split at hx
        · rename_i hv
          cases hx
          exact ⟨rfl, fun w hw => by cases hw; exact List.mem_cons_self, fun β => ⟨hd, rfl, Or.inr ⟨ht, hv⟩⟩⟩
        · cases hx
      · cases hx
    · cases hx
  case lreturn =>
    have hx : (match st with | [.long v] => xret mm.2.2.2.2.2 h (some (.long v)) | _ => none) = some (.inr (.inr r)) := hx
    split at hx
    · rename_i v
      unfold xret at hx
      dsimp only at hx
      split at hx
      · rename_i ht
        cases hx
        exact ⟨rfl, fun w hw => by cases hw; exact List.mem_cons_self, fun β => ⟨hd, rfl, ht⟩⟩
      · cases hx
    · cases hx
  case areturn =>
    have hx : (match st with | [.ref v] => xret mm.2.2.2.2.2 h (some (.ref v)) | [.null] => xret mm.2.2.2.2.2 h (some .null) | _ => none) = some (.inr (.inr r)) := hx
    split at hx
    · rename_i v
      unfold xret at hx
      dsimp only at hx
      split at hx
      · rename_i ht
        cases hx
        exact ⟨rfl, fun w hw => by cases hw; exact List.mem_cons_self, fun β => ⟨hd, rfl, Or.inl ⟨_, ht⟩⟩⟩
      · rename_i ht
        cases hx
        exact ⟨rfl, fun w hw => by cases hw; exact List.mem_cons_self, fun β => ⟨hd, rfl, Or.inr ⟨_, ht⟩⟩⟩
      · cases hx
    · unfold xret at hx
      dsimp only at hx
      split at hx
      · rename_i ht
        cases hx
        exact ⟨rfl, fun w hw => by cases hw; exact List.mem_cons_self, fun β => ⟨hd, rfl, Or.inl ⟨_, ht⟩⟩⟩
      · rename_i ht
        cases hx
        exact ⟨rfl, fun w hw => by cases hw; exact List.mem_cons_self, fun β => ⟨hd, rfl, Or.inr ⟨_, ht⟩⟩⟩
      · cases hx
    · cases hx
  case return_ =>
    have hx : (match st with | [] => xret mm.2.2.2.2.2 h none | _ => none) = some (.inr (.inr r)) := hx
    split at hx
    · unfold xret at hx
      dsimp only at hx
      split at hx
      · rename_i ht
        cases hx
        exact ⟨rfl, fun w hw => (by cases hw), fun β => ⟨hd, rfl, ht⟩⟩
      · cases hx
    · cases hx
  case invokevirtual k =>
    rw [xi_virt] at hx
    exfalso
    repeat' (first | exact nr_go hx | (cases hx; done) | unfold xvirt at hx | unfold xcp at hx | unfold xcall at hx | split at hx)
  case invokestatic k =>
    rw [xi_stat] at hx
    exfalso
    repeat' (first | exact nr_go hx | (cases hx; done) | unfold xstat at hx | unfold xcp at hx | unfold xcall at hx | split at hx)
  case invokespecial k =>
    rw [xi_spec] at hx
    exfalso
    repeat' (first | exact nr_go hx | (cases hx; done) | unfold xspec at hx | unfold xcall at hx | split at hx)
  all_goals cases hk
theorem xret_nl {t : Option FieldType} {h : xH} {v : Option Value} {a : xA} (hx : xret t h v = some a) : ∃ r, a = .inr (.inr r) := by
  unfold xret at hx
  repeat' (first | exact ⟨_, (Option.some.inj hx).symm⟩ | (cases hx; done) | split at hx)
theorem xac_ok : ∀ ty, xnt ty ≠ 0 → Cond.arrayClass (newarray.typeOf ty) ∈ lw_all := fun ty h => by
  cases ty <;> first | exact q285 | exact q355 | exact q356 | exact q373 | exact q1526 | exact absurd rfl h
