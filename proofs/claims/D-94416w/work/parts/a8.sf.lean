/-! SOUNDNESS: all of it -/
section
variable {D : va_G} {G : Nat → ClassId} {l : Launch} {Hb : Heap} {h0 : xH} {b0 : Nat → Nat}
def XPV (D : va_G) (G : Nat → ClassId) (l : Launch) (Hb : Heap) (h0 : xH) (b0 : Nat → Nat) : Prop := ∀ (mm : xM) (pc : Nat) (ls : List Slot) (st : List Value) (h : xH) (d k na a t p : Nat) (q r : xR), XVok mm.1 k na t (.inr p) → st[na]? = some (.ref a) → oT h a = t → xcat (st.drop (na + 1)) ≤ 8 → decode mm.2.2.2.1 pc = .ok (.invokevirtual k, 3) → xP p (st.take (na + 1)).reverse h = some q → SM D G l Hb h0 b0 mm (pc + 3) ls (xpu q.1 (st.drop (na + 1))) q.2 d r → SM D G l Hb h0 b0 mm pc ls st h d r
def XPS (D : va_G) (G : Nat → ClassId) (l : Launch) (Hb : Heap) (h0 : xH) (b0 : Nat → Nat) : Prop := ∀ (mm : xM) (pc : Nat) (ls : List Slot) (st : List Value) (h : xH) (d k na p : Nat) (q r : xR), XSok mm.1 k na (.inr p) → na ≤ st.length → xcat (st.drop na) ≤ 8 → decode mm.2.2.2.1 pc = .ok (.invokestatic k, 3) → xP p (st.take na).reverse h = some q → SM D G l Hb h0 b0 mm (pc + 3) ls (xpu q.1 (st.drop na)) q.2 d r → SM D G l Hb h0 b0 mm pc ls st h d r
theorem xlo_1 {i : Instr} {len : Nat} (h : xlo i len = true) (k : Nat) (hk : xlen i = k + 1) : len = k + 1 := by
  unfold xlo at h
  rw [hk] at h
  exact Nat.eq_of_beq_eq_true (by simpa using h)
theorem xsound (hPV : XPV D G l Hb h0 b0) (hPS : XPS D G l Hb h0 b0) : ∀ (n : Nat) (c : xC) (r : xR), ef n c = some r → SMc D G l Hb h0 b0 c r
  | 0, _, _, h => by cases h
  | n + 1, (mm, pc, ls, st, h, d), r, hr => by
    rw [ef_s] at hr
    cases hx : xstep (mm, pc, ls, st, h, d) with
    | none => rw [hx] at hr; cases hr
    | some act =>
      rw [hx] at hr
      unfold xstep at hx
      split at hx
      · rename_i i len hd
        have hd : decode mm.2.2.2.1 pc = .ok (i, len) := hd
        cases hlo : xlo i len with
        | false => rw [hlo] at hx; cases hx
        | true =>
          rw [hlo] at hx
          have hx : xins i mm pc (pc + len) ls st h d = some act := hx
          show SM D G l Hb h0 b0 mm pc ls st h d r
          match act, hr, hx with
          | .inl c', hr, hx =>
            have ih := xsound hPV hPS n c' r hr
            cases i
            case iconst k => cases xlo_1 hlo 0 rfl; exact g_push (fun _ => by exact trivial) (fun _ => rfl) hx ih fun X k => lv_iconst X.1 X.2.1 hd rfl k
            case bipush k => cases xlo_1 hlo 1 rfl; exact g_push (fun _ => by exact trivial) (fun _ => rfl) hx ih fun X k => lv_bipush X.1 X.2.1 hd rfl k
            case sipush k => cases xlo_1 hlo 2 rfl; exact g_push (fun _ => by exact trivial) (fun _ => rfl) hx ih fun X k => lv_sipush X.1 X.2.1 hd rfl k
            case lconst k => cases xlo_1 hlo 0 rfl; exact g_push (fun _ => by exact trivial) (fun _ => rfl) hx ih fun X k => lv_lconst X.1 X.2.1 hd rfl k
            case aconst_null => cases xlo_1 hlo 0 rfl; exact g_push (fun _ => by exact trivial) (fun _ => rfl) hx ih fun X k => lv_null X.1 X.2.1 hd k
            case ldc k => cases xlo_1 hlo 1 rfl; exact g_ldc xK_ok hd hx ih
            case ldc_w k => cases xlo_1 hlo 2 rfl; exact g_ldcw xK_ok hd hx ih
            case ldc2_w k => cases xlo_1 hlo 2 rfl; exact g_ldc2 xJ_ok hd hx ih
            case iload k => cases xlo_1 hlo 1 rfl; exact g_ldi hx ih fun X hm k => lv_iload X.1 X.2.1 hd hm k
            case iload_n k => cases xlo_1 hlo 0 rfl; exact g_ldi hx ih fun X hm k => lv_iload_n X.1 X.2.1 hd rfl hm k
            case lload k => cases xlo_1 hlo 1 rfl; exact g_ldl hx ih fun X hm k => lv_lload X.1 X.2.1 hd hm k
            case lload_n k => cases xlo_1 hlo 0 rfl; exact g_ldl hx ih fun X hm k => lv_lload_n X.1 X.2.1 hd rfl hm k
            case aload k => cases xlo_1 hlo 1 rfl; exact g_ldr hx ih (fun X hm k => lv_aload X.1 X.2.1 hd hm k) (fun X hm k => lv_aloadN X.1 X.2.1 hd hm k)
            case aload_n k => cases xlo_1 hlo 0 rfl; exact g_ldr hx ih (fun X hm k => lv_aload_n X.1 X.2.1 hd rfl hm k) (fun X hm k => lv_aload_nN X.1 X.2.1 hd rfl hm k)
            case istore k => cases xlo_1 hlo 1 rfl; exact g_istore hx ih fun x => fun {p e R s m args below meth c Q H locs cells slots M rest nL lv} X h1 h2 k => lv_istore X.1 X.2.1 hd h1 h2 rfl k
            case istore_n k => cases xlo_1 hlo 0 rfl; exact g_istore hx ih fun x => fun {p e R s m args below meth c Q H locs cells slots M rest nL lv} X h1 h2 k => lv_istore_n X.1 X.2.1 hd rfl h1 h2 rfl k
            case lstore k => cases xlo_1 hlo 1 rfl; exact g_lstore hx ih fun {p e R s m args below meth c Q H locs cells slots M rest nL lv x} X h1 h2 k => lv_lstore X.1 X.2.1 hd h1 h2 rfl k
            case lstore_n k => cases xlo_1 hlo 0 rfl; exact g_lstore hx ih fun {p e R s m args below meth c Q H locs cells slots M rest nL lv x} X h1 h2 k => lv_lstore_n X.1 X.2.1 hd rfl h1 h2 rfl k
            case astore k => cases xlo_1 hlo 1 rfl; exact g_astore hx ih (fun x => fun {p e R s m args below meth c Q H locs cells slots M rest nL lv} X h1 h2 k => lv_astore X.1 X.2.1 hd h1 h2 rfl k) (fun {p e R s m args below meth c Q H locs cells slots M rest nL lv} X h1 h2 k => lv_astoreN X.1 X.2.1 hd h1 h2 rfl k)
            case astore_n k => cases xlo_1 hlo 0 rfl; exact g_astore hx ih (fun x => fun {p e R s m args below meth c Q H locs cells slots M rest nL lv} X h1 h2 k => lv_astore_n X.1 X.2.1 hd rfl h1 h2 rfl k) (fun {p e R s m args below meth c Q H locs cells slots M rest nL lv} X h1 h2 k => lv_astore_nN X.1 X.2.1 hd rfl h1 h2 rfl k)
            case iinc k c => cases xlo_1 hlo 2 rfl; exact g_iinc hd hx ih
            case iadd => cases xlo_1 hlo 0 rfl; exact g_bin hx ih fun X k => lv_iadd X.1 X.2.1 hd k
            case isub => cases xlo_1 hlo 0 rfl; exact g_bin hx ih fun X k => lv_isub X.1 X.2.1 hd k
            case imul => cases xlo_1 hlo 0 rfl; exact g_bin hx ih fun X k => lv_imul X.1 X.2.1 hd k
            case iand => cases xlo_1 hlo 0 rfl; exact g_bin hx ih fun X k => lv_iand X.1 X.2.1 hd k
            case ior => cases xlo_1 hlo 0 rfl; exact g_bin hx ih fun X k => lv_ior X.1 X.2.1 hd k
            case ixor => cases xlo_1 hlo 0 rfl; exact g_bin hx ih fun X k => lv_ixor X.1 X.2.1 hd k
            case ishl => cases xlo_1 hlo 0 rfl; exact g_bin hx ih fun X k => lv_ishl X.1 X.2.1 hd k
            case ishr => cases xlo_1 hlo 0 rfl; exact g_bin hx ih fun X k => lv_ishr X.1 X.2.1 hd k
            case iushr => cases xlo_1 hlo 0 rfl; exact g_bin hx ih fun X k => lv_iushr X.1 X.2.1 hd rfl k
            case idiv => cases xlo_1 hlo 0 rfl; exact g_bind hx ih fun X hy k => lv_idiv X.1 X.2.1 hd hy k
            case irem => cases xlo_1 hlo 0 rfl; exact g_bind hx ih fun X hy k => lv_irem X.1 X.2.1 hd hy k
            case ineg => cases xlo_1 hlo 0 rfl; exact g_un (fun _ _ => by exact trivial) (fun _ _ => rfl) hx ih fun X k => lv_ineg X.1 X.2.1 hd k
            case ladd => cases xlo_1 hlo 0 rfl; exact g_binl hx ih fun X k => lv_ladd X.1 X.2.1 hd k
            case lsub => cases xlo_1 hlo 0 rfl; exact g_binl hx ih fun X k => lv_lsub X.1 X.2.1 hd k
            case lmul => cases xlo_1 hlo 0 rfl; exact g_binl hx ih fun X k => lv_lmul X.1 X.2.1 hd k
            case land => cases xlo_1 hlo 0 rfl; exact g_binl hx ih fun X k => lv_land X.1 X.2.1 hd k
            case lor => cases xlo_1 hlo 0 rfl; exact g_binl hx ih fun X k => lv_lor X.1 X.2.1 hd k
            case ldiv => cases xlo_1 hlo 0 rfl; exact g_binld hx ih fun X hy k => lv_ldiv X.1 X.2.1 hd hy k
            case lrem => cases xlo_1 hlo 0 rfl; exact g_binld hx ih fun X hy k => lv_lrem X.1 X.2.1 hd hy k
            case lshl => cases xlo_1 hlo 0 rfl; exact g_lshl hd hx ih
            case lcmp => cases xlo_1 hlo 0 rfl; exact g_lcmp hd hx ih
            case i2l => cases xlo_1 hlo 0 rfl; exact g_un (fun _ _ => by exact trivial) (fun _ _ => rfl) hx ih fun X k => lv_i2l X.1 X.2.1 hd rfl k
            case i2b => cases xlo_1 hlo 0 rfl; exact g_un (fun _ _ => by exact trivial) (fun _ _ => rfl) hx ih fun X k => lv_i2b X.1 X.2.1 hd rfl k
            case i2s => cases xlo_1 hlo 0 rfl; exact g_un (fun _ _ => by exact trivial) (fun _ _ => rfl) hx ih fun X k => lv_i2s X.1 X.2.1 hd rfl k
            case l2i => cases xlo_1 hlo 0 rfl; exact g_unl (fun _ _ => by exact trivial) (fun _ _ => rfl) hx ih fun X k => lv_l2i X.1 X.2.1 hd rfl k
            case ifCond c off => cases xlo_1 hlo 2 rfl; exact g_if1 hd hx ih
            case if_icmp c off => cases xlo_1 hlo 2 rfl; exact g_if2 hd hx ih
            case ifnull off => cases xlo_1 hlo 2 rfl; exact g_ifnull hd hx ih
            case ifnonnull off => cases xlo_1 hlo 2 rfl; exact g_ifnonnull hd hx ih
            case goto off => cases xlo_1 hlo 2 rfl; exact g_goto hd hx ih
            case tableswitch df lo hi offs => exact g_switch hd hx ih
            case dup => cases xlo_1 hlo 0 rfl; exact g_dup hd hx ih
            case pop => cases xlo_1 hlo 0 rfl; exact g_pop hd hx ih
            case dup_x1 => cases xlo_1 hlo 0 rfl; exact g_dupx1 hd hx ih
            case dup2 => cases xlo_1 hlo 0 rfl; exact g_dup2 hd hx ih
            case getfield k => cases xlo_1 hlo 2 rfl; exact g_get xF_ok hd hx ih
            case putfield k => cases xlo_1 hlo 2 rfl; exact g_put xF_ok hd hx ih
            case arraylength => cases xlo_1 hlo 0 rfl; exact g_len hd hx ih
            case iaload => cases xlo_1 hlo 0 rfl; exact g_iald hd hx ih
            case baload => cases xlo_1 hlo 0 rfl; exact g_bald hd hx ih
            case saload => cases xlo_1 hlo 0 rfl; exact g_sald hd hx ih
            case laload => cases xlo_1 hlo 0 rfl; exact g_lald hd hx ih
            case aaload => cases xlo_1 hlo 0 rfl; exact g_aald hd hx ih
            case iastore => cases xlo_1 hlo 0 rfl; exact g_iast hd hx ih
            case bastore => cases xlo_1 hlo 0 rfl; exact g_bast hd hx ih
            case sastore => cases xlo_1 hlo 0 rfl; exact g_sast hd hx ih
            case lastore => cases xlo_1 hlo 0 rfl; exact g_last hd hx ih
            case aastore => cases xlo_1 hlo 0 rfl; exact g_aast xC_ok hd hx ih
            case newarray t => cases xlo_1 hlo 1 rfl; exact g_newa xac_ok hd hx ih
            case anewarray k => cases xlo_1 hlo 2 rfl; exact g_newq xQ_ok hd hx ih
            case new k => cases xlo_1 hlo 2 rfl; exact g_new xN_ok hd hx ih
            case checkcast k => cases xlo_1 hlo 2 rfl; exact g_cast xT_ok hd hx ih
            case instanceof k => cases xlo_1 hlo 2 rfl; exact g_inst xT_ok hd hx ih
            case invokevirtual k =>
              cases xlo_1 hlo 2 rfl
              have hx := xi_virt.symm.trans hx
              unfold xvirt at hx
              split at hx
              · rename_i na tb hv
                split at hx
                · rename_i a hs
                  split at hx
                  · rename_i g hg
                    cases g with
                    | inl m' =>
                      have hx : xcall mm m' (pc + 3) ls _ _ h d = _ := hx
                      cases d with
                      | zero => cases hx
                      | succ d =>
                        have hx : (if _ then _ else none) = _ := hx
                        split at hx <;> cases hx
                    | inr p =>
                      have hx : (if xcat (st.drop (na + 1)) ≤ 8 then (match xP p (st.take (na + 1)).reverse h with | some r => xgo mm (pc + 3) ls (xpu r.1 (st.drop (na + 1))) r.2 d | none => none) else none) = some (.inl c') := hx
                      split at hx
                      · rename_i hc8
                        cases hq : xP p (st.take (na + 1)).reverse h with
                        | none => rw [hq] at hx; cases hx
                        | some q =>
                          rw [hq] at hx
                          rw [xgo_eq hx] at ih
                          exact hPV mm pc ls st h d _ na a _ p q r (xV_ok _ _ _ _ hv _ _ hg) hs rfl hc8 hd hq ih
                      · cases hx
                  · cases hx
                · cases hx
              · cases hx
            case invokestatic k =>
              cases xlo_1 hlo 2 rfl
              have hx := xi_stat.symm.trans hx
              unfold xstat at hx
              split at hx
              · rename_i na g hv
                split at hx
                · rename_i hn
                  cases g with
                  | inl m' =>
                    have hx : xcall mm m' (pc + 3) ls _ _ h d = _ := hx
                    cases d with
                    | zero => cases hx
                    | succ d =>
                      have hx : (if _ then _ else none) = _ := hx
                      split at hx <;> cases hx
                  | inr p =>
                    have hx : (if xcat (st.drop na) ≤ 8 then (match xP p (st.take na).reverse h with | some r => xgo mm (pc + 3) ls (xpu r.1 (st.drop na)) r.2 d | none => none) else none) = some (.inl c') := hx
                    split at hx
                    · rename_i hc8
                      cases hq : xP p (st.take na).reverse h with
                      | none => rw [hq] at hx; cases hx
                      | some q =>
                        rw [hq] at hx
                        rw [xgo_eq hx] at ih
                        exact hPS mm pc ls st h d _ na p q r (xS_ok _ _ _ _ hv) hn hc8 hd hq ih
                    · cases hx
                · cases hx
              · cases hx
            case invokespecial k =>
              cases xlo_1 hlo 2 rfl
              have hx := xi_spec.symm.trans hx
              unfold xspec at hx
              split at hx
              · rename_i na m' hv
                split at hx
                · have hx : xcall mm m' (pc + 3) ls _ _ h d = _ := hx
                  cases d with
                  | zero => cases hx
                  | succ d =>
                    have hx : (if _ then _ else none) = _ := hx
                    split at hx <;> cases hx
                · cases hx
              · rename_i na hv
                exact g_obj (xZ_ok _ _ _ _ hv) ⟨q170, q171⟩ hd hx ih
              · cases hx
            case ireturn =>
              have hx : (match st with | [.int v] => xret mm.2.2.2.2.2 h (some (.int v)) | _ => none) = some (.inl c') := hx
              split at hx
              · obtain ⟨r', e⟩ := xret_nl hx; cases e
              · cases hx
            case lreturn =>
              have hx : (match st with | [.long v] => xret mm.2.2.2.2.2 h (some (.long v)) | _ => none) = some (.inl c') := hx
              split at hx
              · obtain ⟨r', e⟩ := xret_nl hx; cases e
              · cases hx
            case areturn =>
              have hx : (match st with | [.ref v] => xret mm.2.2.2.2.2 h (some (.ref v)) | [.null] => xret mm.2.2.2.2.2 h (some .null) | _ => none) = some (.inl c') := hx
              split at hx
              · obtain ⟨r', e⟩ := xret_nl hx; cases e
              · obtain ⟨r', e⟩ := xret_nl hx; cases e
              · cases hx
            case return_ =>
              have hx : (match st with | [] => xret mm.2.2.2.2.2 h none | _ => none) = some (.inl c') := hx
              split at hx
              · obtain ⟨r', e⟩ := xret_nl hx; cases e
              · cases hx
            all_goals exact absurd (show (none : Option xA) = some _ from hx) (fun q => by cases q)
          | .inr (.inl (cc, kk)), hr, hx =>
            obtain ⟨q, hr1, hr2⟩ := Option.bind_eq_some_iff.mp hr
            obtain ⟨c2, hk, hr3⟩ := Option.bind_eq_some_iff.mp hr2
            have ihc := xsound hPV hPS n cc q hr1
            have ihk := xsound hPV hPS n c2 r hr3
            have h7 := xins_inr hx
            cases i
            case invokevirtual k =>
              cases xlo_1 hlo 2 rfl
              have hx := xi_virt.symm.trans hx
              unfold xvirt at hx
              split at hx
              · rename_i na tb hv
                split at hx
                · rename_i a hs
                  split at hx
                  · rename_i g hg
                    cases g with
                    | inl m' => exact g_virt (xV_ok _ _ _ _ hv _ _ hg) hs rfl hd hx ihc hk ihk
                    | inr p =>
                      have hx : (if xcat (st.drop (na + 1)) ≤ 8 then (match xP p (st.take (na + 1)).reverse h with | some r => xgo mm (pc + 3) ls (xpu r.1 (st.drop (na + 1))) r.2 d | none => none) else none) = some (.inr (.inl (cc, kk))) := hx
                      split at hx
                      · split at hx
                        · exact (nr_go hx).elim
                        · cases hx
                      · cases hx
                  · cases hx
                · cases hx
              · cases hx
            case invokestatic k =>
              cases xlo_1 hlo 2 rfl
              have hx := xi_stat.symm.trans hx
              unfold xstat at hx
              split at hx
              · rename_i na g hv
                split at hx
                · rename_i hn
                  cases g with
                  | inl m' => exact g_stat (xS_ok _ _ _ _ hv) hn hd hx ihc hk ihk
                  | inr p =>
                    have hx : (if xcat (st.drop na) ≤ 8 then (match xP p (st.take na).reverse h with | some r => xgo mm (pc + 3) ls (xpu r.1 (st.drop na)) r.2 d | none => none) else none) = some (.inr (.inl (cc, kk))) := hx
                    split at hx
                    · split at hx
                      · exact (nr_go hx).elim
                      · cases hx
                    · cases hx
                · cases hx
              · cases hx
            case invokespecial k =>
              cases xlo_1 hlo 2 rfl
              have hx := xi_spec.symm.trans hx
              unfold xspec at hx
              split at hx
              · rename_i na m' hv
                split at hx
                · rename_i a hs
                  exact g_spec (xZ_ok _ _ _ _ hv) hs hd hx ihc hk ihk
                · cases hx
              · split at hx
                · split at hx
                  · exact (nr_go hx).elim
                  · cases hx
                · cases hx
              · cases hx
            case ireturn =>
              have hx : (match st with | [.int v] => xret mm.2.2.2.2.2 h (some (.int v)) | _ => none) = some (.inr (.inl (cc, kk))) := hx
              split at hx
              · obtain ⟨r', e⟩ := xret_nl hx; cases e
              · cases hx
            case lreturn =>
              have hx : (match st with | [.long v] => xret mm.2.2.2.2.2 h (some (.long v)) | _ => none) = some (.inr (.inl (cc, kk))) := hx
              split at hx
              · obtain ⟨r', e⟩ := xret_nl hx; cases e
              · cases hx
            case areturn =>
              have hx : (match st with | [.ref v] => xret mm.2.2.2.2.2 h (some (.ref v)) | [.null] => xret mm.2.2.2.2.2 h (some .null) | _ => none) = some (.inr (.inl (cc, kk))) := hx
              split at hx
              · obtain ⟨r', e⟩ := xret_nl hx; cases e
              · obtain ⟨r', e⟩ := xret_nl hx; cases e
              · cases hx
            case return_ =>
              have hx : (match st with | [] => xret mm.2.2.2.2.2 h none | _ => none) = some (.inr (.inl (cc, kk))) := hx
              split at hx
              · obtain ⟨r', e⟩ := xret_nl hx; cases e
              · cases hx
            all_goals cases h7
          | .inr (.inr r'), hr, hx =>
            cases hr
            have h1 : len = 1 := by
              have h7 := xins_inr hx
              cases i
              case ireturn => exact xlo_1 hlo 0 rfl
              case lreturn => exact xlo_1 hlo 0 rfl
              case areturn => exact xlo_1 hlo 0 rfl
              case return_ => exact xlo_1 hlo 0 rfl
              case invokevirtual k =>
                exfalso
                rw [xi_virt] at hx
                repeat' (first | exact nr_go hx | (cases hx; done) | unfold xvirt at hx | unfold xcp at hx | unfold xcall at hx | split at hx)
              case invokestatic k =>
                exfalso
                rw [xi_stat] at hx
                repeat' (first | exact nr_go hx | (cases hx; done) | unfold xstat at hx | unfold xcp at hx | unfold xcall at hx | split at hx)
              case invokespecial k =>
                exfalso
                rw [xi_spec] at hx
                repeat' (first | exact nr_go hx | (cases hx; done) | unfold xspec at hx | unfold xcall at hx | split at hx)
              all_goals cases h7
            subst h1
            obtain ⟨e1, e2, e3⟩ := xret_fin hd hx
            refine ⟨by rw [e1]; exact ⟨Nat.le_refl _, Nat.le_refl _, Nat.le_refl _⟩, fun {p e R s m args below meth c Q H locs cells slots β M} X hw hS hL hvs hR hc hs fin => ?_⟩
            rw [e1] at fin hc hs
            exact fin β H locs cells slots M pc _ hw (fun _ _ => rfl) hS (by omega) (by omega) (e3 β) fun v hv => hvs.1 v (e2 v hv)
      · cases hx
end
