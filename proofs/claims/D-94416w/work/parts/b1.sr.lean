/-! SINGLE STEPS: String.length, String.charAt, System.arraycopy, Arrays.copyOf -/
def XTx (h0 : xH) : Prop := ∀ a, a < 64 → oT h0 a = 38 → (1 ≤ a ∧ a ≤ 30) ∧ oN h0 a = (xtxt.getD a []).length ∧ ∀ j, j < (xtxt.getD a []).length → oI h0 a j = nI ((xtxt.getD a []).getD j 0)
section
variable {D : va_G} {G : Nat → ClassId} {l : Launch} {Hb : Heap} {h0 : xH} {b0 : Nat → Nat} {mm : xM} {pc d k : Nat} {ls : List Slot} {st' : List Value} {h : xH} {r : xR}
theorem nI_back {i : Int32} (hi : 0 ≤ i.toInt) : nI i.toNatClampNeg = i := by
  apply Int32.toInt_inj.mp
  have h1 : i.toInt ≤ 2147483647 := Int32.toInt_le i
  have h2 : i.toNatClampNeg = i.toInt.toNat := rfl
  rw [h2]
  have h3 : (Int32.ofNat i.toInt.toNat).toInt = ((i.toInt.toNat : Nat) : Int) := Int32.toInt_ofNat_of_lt (by omega)
  show (Int32.ofNat i.toInt.toNat).toInt = _
  rw [h3]
  omega
theorem x38 {β : Nat → Nat} {H : Heap} {a : Nat} (hw : xWd D G Hb h0 b0 β h H) (ha : oT h a = 38) : a < 64 := by
  rcases Nat.lt_or_ge a 64 with q | q
  · exact q
  · rcases Nat.lt_or_ge a (oX h) with q2 | q2
    · have := hw.2.2.2.1 a q q2
      unfold xlv at this
      omega
    · have := hw.2.2.2.2.1 a q2
      omega
theorem xPV_len (hT0 : XTx h0) {a : Nat} (ha : oT h a = 38) (h8 : xcat st' ≤ 8) (hlk : Cond.methodLink (xnm mm.1) k (xpn 0) ∈ lw_all) (hd : decode mm.2.2.2.1 pc = .ok (.invokevirtual k, 3)) (ih : SM D G l Hb h0 b0 mm (pc + 3) ls (.int (nI (oN h a)) :: st') h d r) : SM D G l Hb h0 b0 mm pc ls (.ref a :: st') h d r := by
  refine ⟨ih.1, fun {p e R s m args below meth c Q H locs cells slots β M} X hw hS hL hvs hR hc hs fin => ?_⟩
  have ha64 : a < 64 := x38 hw ha
  obtain ⟨-, q1, q2, q3, q4⟩ := hw.2.2.2.2.2.2 a ha64
  obtain ⟨⟨a1, a2⟩, n1, n2⟩ := hT0 a ha64 (by rw [← q1]; exact ha)
  have i1 := ih.1
  have X0 := X
  obtain ⟨hx, hb, hml, hown, hts, -, hK⟩ := X
  show W p l e R s m args below meth c H locs cells slots Q (F0 m pc M (.ref (β a) :: st'.map (cv β)))
  rw [q4]
  refine n_callW (va_runV (As := []) (rest := st'.map (cv β)) ⟨hx, hb, hml, hown, hts⟩ (nm_length (D := D) (G := G) (h0 := h0) (β := β) (h := h) a1 a2) (cwV 0 hts (lw_V hlk q532 q533 q134 q534) rfl rfl rfl (by decide +kernel) ⟨by show 2 + 1 ≤ _; omega, by show 8 + (1 + 11) + 100 ≤ _; omega⟩) ⟨n_blind, n_recv hK hS a1 a2, n_at hK hw hS⟩ rfl rfl hL.2.1 rfl (lv_room (by rw [xcat_cv]; exact h8)) hd ⟨by omega, by omega⟩) hS fun H1 locs1 hw1 hS1 => ?_
  have k := ih.2 X0 (Q := Q) (cells := cells) (slots := slots) hw1 hS1 hL ⟨fun v hv => by
    rcases List.mem_cons.mp hv with z | z
    · rw [z]; exact trivial
    · exact hvs.1 v (List.mem_cons_of_mem _ z), hvs.2⟩ hR hc hs fin
  have k : W p l e R s m args below meth c H1 locs1 cells slots Q (F0 m (pc + 3) M (.int (nI (oN h a)) :: st'.map (cv β))) := k
  rw [q2, n1] at k
  exact k
theorem xPV_chr (hT0 : XTx h0) {a : Nat} {i : Int32} (ha : oT h a = 38) (hin : xin_ i (oN h a) = true) (h8 : xcat st' ≤ 8) (hlk : Cond.methodLink (xnm mm.1) k (xpn 1) ∈ lw_all) (hd : decode mm.2.2.2.1 pc = .ok (.invokevirtual k, 3)) (ih : SM D G l Hb h0 b0 mm (pc + 3) ls (.int (oI h a i.toNatClampNeg) :: st') h d r) : SM D G l Hb h0 b0 mm pc ls (.int i :: .ref a :: st') h d r := by
  refine ⟨ih.1, fun {p e R s m args below meth c Q H locs cells slots β M} X hw hS hL hvs hR hc hs fin => ?_⟩
  have ha64 : a < 64 := x38 hw ha
  obtain ⟨-, q1, q2, q3, q4⟩ := hw.2.2.2.2.2.2 a ha64
  obtain ⟨⟨a1, a2⟩, n1, n2⟩ := hT0 a ha64 (by rw [← q1]; exact ha)
  have i1 := ih.1
  unfold xin_ at hin
  rw [Bool.and_eq_true, decide_eq_true_eq, decide_eq_true_eq] at hin
  have hi : i.toNatClampNeg < (xtxt.getD a []).length := by
    rw [← n1, ← q2]
    show i.toInt.toNat < _
    omega
  have ei := nI_back hin.1
  have X0 := X
  obtain ⟨hx, hb, hml, hown, hts, -, hK⟩ := X
  have k0 := fun (H1 : Heap) (locs1 : List Loc) (hw1 : xWd D G Hb h0 b0 β h H1) (hS1 : va_S (fun q => Hb.size ≤ q) Hb H1 locs1) => ih.2 X0 (Q := Q) (cells := cells) (slots := slots) hw1 hS1 hL ⟨fun v hv => by
    rcases List.mem_cons.mp hv with z | z
    · rw [z]; exact trivial
    · exact hvs.1 v (List.mem_cons_of_mem _ (List.mem_cons_of_mem _ z)), hvs.2⟩ hR hc hs fin
  have k : ∀ (H1 : Heap) (locs1 : List Loc), xWd D G Hb h0 b0 β h H1 → va_S (fun q => Hb.size ≤ q) Hb H1 locs1 → W p l e R s m args below meth c H1 locs1 cells slots Q (F0 m (pc + 3) M (.int (oI h a i.toNatClampNeg) :: st'.map (cv β))) := k0
  clear k0
  rw [q3, n2 _ hi] at k
  show W p l e R s m args below meth c H locs cells slots Q (F0 m pc M (.int i :: .ref (β a) :: st'.map (cv β)))
  rw [q4]
  generalize i.toNatClampNeg = j at hi ei k
  subst ei
  exact n_callW (va_runV (As := [.int (nI j)]) (rest := st'.map (cv β)) ⟨hx, hb, hml, hown, hts⟩ (nm_charAt (D := D) (G := G) (h0 := h0) (β := β) (h := h) a1 a2 hi) (cwV 1 hts (lw_V hlk q542 q543 q134 q544) rfl rfl rfl (by decide +kernel) ⟨by show 4 + 1 ≤ _; omega, by show 8 + (2 + 11) + 240 ≤ _; omega⟩) ⟨n_blind, n_recv hK hS a1 a2, n_at hK hw hS⟩ rfl rfl hL.2.1 rfl (lv_room (by rw [xcat_cv]; exact h8)) hd ⟨by omega, by omega⟩) hS fun H1 locs1 hw1 hS1 => k H1 locs1 hw1 hS1
theorem xuni_t {f : Nat → Option Nat} {n : Nat} (hu : xuni h f n = true) : ∃ t, 1 ≤ t ∧ t ≤ 19 ∧ ∀ i, i < n → ∀ y, f i = some y → oT h y = t := by
  unfold xuni at hu
  rw [List.all_eq_true] at hu
  cases e0 : f 0 with
  | none =>
    refine ⟨1, by omega, by omega, fun i hi y hy => ?_⟩
    have q := hu i (List.mem_range.mpr hi)
    simp only [hy, e0] at q
    cases q
  | some z =>
    have key : ∀ i, i < n → ∀ y, f i = some y → oT h y = oT h z ∧ 1 ≤ oT h y ∧ oT h y ≤ 19 := by
      intro i hi y hy
      have q := hu i (List.mem_range.mpr hi)
      simp only [hy, e0] at q
      rw [Bool.and_eq_true, Bool.and_eq_true] at q
      exact ⟨Nat.eq_of_beq_eq_true q.1, Nat.le_of_ble_eq_true q.2.1, Nat.le_of_ble_eq_true q.2.2⟩
    by_cases hz : 1 ≤ oT h z ∧ oT h z ≤ 19
    · exact ⟨oT h z, hz.1, hz.2, fun i hi y hy => (key i hi y hy).1⟩
    · refine ⟨1, by omega, by omega, fun i hi y hy => ?_⟩
      obtain ⟨k1, k2, k3⟩ := key i hi y hy
      omega
theorem xcpy_map {f g : Nat → Option Nat} {β : Nat → Nat} {sp dp n : Nat} : (fun j => (va_cpy f g sp dp n j).map β) = va_cpy (fun j => (f j).map β) (fun j => (g j).map β) sp dp n := by
  funext j
  unfold va_cpy
  split <;> rfl
theorem nneg {x : Int32} (hx : 0 ≤ x.toInt) : ¬ x < 0 := by
  rw [Int32.lt_iff_toInt_lt]
  have : (0 : Int32).toInt = 0 := by decide
  omega
theorem xPS_acp (hC : ∀ t, 1 ≤ t → t ≤ 19 → ∃ C T N ty0, XC t C T N ty0) {a : Nat} {sp dp n : Int32} (ha : oT h a = 45) (h1 : 0 ≤ sp.toInt) (h2 : 0 ≤ dp.toInt) (h3 : 0 ≤ n.toInt) (h4 : sp.toInt + n.toInt ≤ oN h a) (h5 : dp.toInt + n.toInt ≤ oN h a) (hu : xuni h (fun i => oR h a (sp.toNatClampNeg + i)) n.toNatClampNeg = true) (h8 : xcat st' ≤ 8) (hlk : Cond.methodLink (xnm mm.1) k (xpn 3) ∈ lw_all) (hd : decode mm.2.2.2.1 pc = .ok (.invokestatic k, 3))
    (ih : SM D G l Hb h0 b0 mm (pc + 3) ls st' (pR h a (va_cpy (oR h a) (oR h a) sp.toNatClampNeg dp.toNatClampNeg n.toNatClampNeg)) d r) : SM D G l Hb h0 b0 mm pc ls (.int n :: .int dp :: .ref a :: .int sp :: .ref a :: st') h d r := by
  obtain ⟨t, t1, t2, ht⟩ := xuni_t hu
  obtain ⟨C, T, N, ty0, c1, -, -, -, -, -, -, -, c9⟩ := hC t t1 t2
  refine ⟨ih.1, fun {p e R s m args below meth c Q H locs cells slots β M} X hw hS hL hvs hR hc hs fin => ?_⟩
  have X0 := X
  obtain ⟨hx, hb, hml, hown, hts, -, hK⟩ := X
  have hlv : xlv (oT h a) := Or.inr ⟨by omega, by omega⟩
  have hle := hw.2.2.lt hlv
  have eN : ∀ x : Int32, x.toNatClampNeg = x.toInt.toNat := fun _ => rfl
  have hAr := xaR (G := G) hw.2.2 ha (by omega) (by omega)
  have z := xcat_cv β st'
  refine va_copyq hx hb (hml.trans hL.2.1.symm) hown (hts _ hlk) (hts _ q710) (hts _ q709) (hts _ q142) hK.1 hw.1 hw.2.1 hS (a - 64) (a - 64) 5 5 (E0 := "java/lang/Object") (E1 := "java/lang/Object") (C := C) hAr hAr rfl rfl (nneg h1) (nneg h2) (nneg h3) (by rw [eN, eN]; omega) (by rw [eN, eN]; omega) (fun i hi y hy => ?_) (vb_asgC (hK.2.1 _ c9)) (by omega) (by rw [z]; have hw9 : nativeFrameWords "java/lang/System" "arraycopy" 5 ≤ 100 := (by decide); omega) hd fun H1 locs1 hP1 hD1 hS1 => ?_
  · obtain ⟨y', e1, e2⟩ := Option.map_eq_some_iff.mp hy
    subst e2
    exact x_recv hK hw (ht i hi y' e1) t1 t2 c1
  · have e := xw_set (G := G) (β := β) (h := h) (a := a) (h' := pR h a (va_cpy (oR h a) (oR h a) sp.toNatClampNeg dp.toNatClampNeg n.toNatClampNeg)) hle.1 rfl (fun b hb => xce_nR hb)
    rw [xceR ha (by omega) (by omega), xcpy_map] at e
    refine ih.2 X0 (Q := Q) (⟨by rw [e]; exact hP1, by rw [e]; exact hD1, xok_pR (fun j b hb => ?_) hw.2.2⟩ : xWd D G Hb h0 b0 β (pR h a (va_cpy (oR h a) (oR h a) sp.toNatClampNeg dp.toNatClampNeg n.toNatClampNeg)) H1) hS1 hL ⟨fun v hv => hvs.1 v (by simp [hv]), hvs.2⟩ hR hc hs fin
    unfold va_cpy at hb
    split at hb
    · exact hw.2.2.2.2.2.1 a _ b hb
    · exact hw.2.2.2.2.2.1 a _ b hb
theorem va_P_at {ws : va_W} {i a : Nat} {e e' : va_E} {H : Heap} (h : va_P D xcl (ws.set i (a, e)) H) (he : va_at D xcl (a, e) H → va_at D xcl (a, e') H) : va_P D xcl (ws.set i (a, e')) H := by
  intro k q hk
  rw [List.getElem?_set] at hk
  by_cases e1 : i = k
  · subst e1
    rw [if_pos rfl] at hk
    split at hk
    · rename_i hl
      cases hk
      exact he (h i _ (by rw [List.getElem?_set, if_pos rfl, if_pos hl]))
    · cases hk
  · rw [if_neg e1] at hk
    exact h k q (by rw [List.getElem?_set, if_neg e1]; exact hk)
theorem arrV_fn {cI : ClassId} {N : Nat} {f g : Nat → Value} (hfg : ∀ j, j < N → f j = g j) : arrV cI N f = arrV cI N g := by
  have e : (Array.ofFn (n := N) fun j => f j.val) = Array.ofFn (n := N) fun j => g j.val := congrArg Array.ofFn (funext fun j => hfg j.val j.isLt)
  unfold arrV
  rw [e]
/-- what copyOf answers -/
def xcpo (h : xH) (a k : Nat) : xH := pR (pO h 45 k) (oX h) (fun j => if j < oN h a then oR h a j else none)
theorem nm_copy2 (hC : ∀ t, 1 ≤ t → t ≤ 19 → ∃ C T N ty0, XC t C T N ty0) {β : Nat → Nat} {a n mi : Nat} (ha : oT h a = 45) (hn : n ≤ 65536) (hN : oN h a ≤ 65536) (hu : xuni h (oR h a) (min (oN h a) n) = true) : Met l yJ9_copyOf_2 (ws_ yJ9_copyOf_2 cJ9_copyOf_2 4 (some (.array (.object "java/lang/Object")))) { frames := 2, cells := 1, slots := n, locals := 200 } (nPe D G Hb h0 b0 β h [.ref (β a), .int (nI n), .ref mi] (va_Mi "[Ljava/lang/Object;" mi)) (xQc D G Hb h0 b0 β (oX h) (some (.ref (oX h)), xcpo h a n)) 1 n (fun q => Hb.size ≤ q) := by
  obtain ⟨t, t1, t2, ht⟩ := xuni_t hu
  obtain ⟨C, T, N, ty0, c1, -, -, -, -, -, -, -, c9⟩ := hC t t1 t2
  refine Met.ofW (cc := cJ9_copyOf_2) (maxL := 4) (ret := some (.array (.object "java/lang/Object"))) (by decide) rfl ?_
  intro p e s m args below meth c s₁ B hml hv
  obtain ⟨rfl, ⟨hw, hS, hK⟩, hM⟩ := hv
  have hx := B.exec
  have hb := B.bytes
  have hr := B.returns
  have hlk := B.notSynchronized
  have hts := atoms_spec (ws := ws_ yJ9_copyOf_2 cJ9_copyOf_2 4 (some (.array (.object "java/lang/Object")))) B.pre
  have hts : ∀ w ∈ lw_all, w.before _ s = true := fun w h => hts w (List.mem_cons_of_mem _ h)
  have hown : s.vm.findClass "java/util/Arrays" = some m.cls := findClass_of_methodNamed B.named
  have hl := lv_entry ([.ref (β a), .int (nI n), .ref mi]) (n := 4) (Nat.le_of_ble_eq_true rfl)
  rw [lg_entry_eq]
  generalize (lg_sl ([.ref (β a), .int (nI n), .ref mi]) ++ List.replicate (4 - (lg_sl ([.ref (β a), .int (nI n), .ref mi])).length) Slot.unset).toArray = ls at hl ⊢
  have hl : lv_has ls 4 [(0, .ref (β a)), (1, .int (nI n)), (2, .ref mi)] := hl
  refine lv_aload_n hx hb dJ9_copyOf_2_0 rfl (lv_at hl 2 rfl) ?_
  refine va_ldcM hx hb hown (hts _ q703) hM dJ9_copyOf_2_1 ?_
  refine lv_acmp_ne (rx := some mi) (ry := some mi) (tgt := 13) hx hb dJ9_copyOf_2_3 (by decide) (fun c => absurd rfl c) (fun _ => ?_)
  refine lv_iload_n hx hb dJ9_copyOf_2_6 rfl (lv_at hl 1 rfl) ?_
  refine va_newq (N' := n) hx hb hown (hts _ q704) (hK.2.2.1 _ (by decide +kernel)) hK.1 hw.1 hw.2.1 hS (fun q hq => hq) (nI_pos (by omega)) (nI_clamp (by omega)) (by omega) (Nat.le_refl _) (by show 0 + n ≤ n; omega) dJ9_copyOf_2_7 fun q cA H1 hK1 hP1 hD1 hS1 => ?_
  have hcA : cA = G 45 := by
    obtain ⟨-, kA, comp, -, -, -, e4⟩ := hK1.2 (xty G).length _ (by rw [List.getElem?_append_right (Nat.le_refl _), Nat.sub_self]; rfl)
    obtain ⟨-, kB, compB, -, -, -, e5⟩ := hK.1.2 5 (G 45, .object "java/lang/Object") rfl
    exact Option.some.inj (e4.symm.trans e5)
  rw [hcA] at hP1 hD1
  have hT : oT (pO h 45 n) (oX h) = 45 := by show va_up h.1 (oX h) 45 (oX h) = 45; exact up_s
  have hNN : oN (pO h 45 n) (oX h) = n := by show va_up h.2.1 (oX h) n (oX h) = n; exact up_s
  have hRR : oR (pO h 45 n) (oX h) = fun _ => none := by show va_up h.2.2.2.2.1 (oX h) (fun _ => none) (oX h) = _; exact up_s
  have hle := hw.2.2.lt (a := a) (Or.inr ⟨by omega, by omega⟩)
  have hne : a ≠ oX h := by omega
  have hba : va_up β (oX h) q a = β a := by simp [va_up, hne]
  have ex : xce G (va_up β (oX h) q) (pO h 45 n) (oX h) = .inl (G 45, n, .inr (.inr (.inr (.inr (fun _ => none))))) := by
    rw [xce_a hT (by omega), xac_r hT (by omega) (by omega), hNN, hRR]; rfl
  have hw1 : xWd D G Hb h0 b0 (va_up β (oX h) q) (pO h 45 n) H1 := ⟨by rw [xw_new hw.2.2, ex]; exact hP1, by rw [xw_new hw.2.2, ex]; exact hD1, xok_pO hw.2.2 (Or.inr ⟨by omega, by omega⟩) (by first | omega | (show n.toInt.toNat ≤ 65536; omega))⟩
  have hTa : oT (pO h 45 n) a = 45 := by show va_up h.1 (oX h) 45 a = 45; simp [va_up, hne]; exact ha
  have hNa : oN (pO h 45 n) a = oN h a := by show va_up h.2.1 (oX h) n a = _; simp [va_up, hne]; rfl
  have hRa : oR (pO h 45 n) a = oR h a := by show va_up h.2.2.2.2.1 (oX h) (fun _ => none) a = _; simp [va_up, hne]; rfl
  have hXX : oX (pO h 45 n) = oX h + 1 := rfl
  refine lv_goto (tgt := 24) hx hb dJ9_copyOf_2_10 (by decide) ?_
  refine lv_astore_n hx hb dJ9_copyOf_2_24 rfl hl (by omega) rfl fun ls1 hl1 => ?_
  have hl1 : lv_has ls1 4 [(3, .ref q), (0, .ref (β a)), (1, .int (nI n)), (2, .ref mi)] := hl1
  refine lv_aload_n hx hb dJ9_copyOf_2_25 rfl (lv_at hl1 1 rfl) ?_
  refine lv_iconst (v := 0) hx hb dJ9_copyOf_2_26 (by decide) ?_
  refine lv_aload_n hx hb dJ9_copyOf_2_27 rfl (lv_at hl1 0 rfl) ?_
  refine lv_iconst (v := 0) hx hb dJ9_copyOf_2_28 (by decide) ?_
  refine lv_aload_n hx hb dJ9_copyOf_2_29 rfl (lv_at hl1 1 rfl) ?_
  have hAr0 := xaR (G := G) hw1.2.2 hTa (by omega) (by omega)
  rw [hNa, hRa, hba] at hAr0
  have hAr1 := xaR (G := G) hw1.2.2 hT (by omega) (by omega)
  have hbq : va_up β (oX h) q (oX h) = q := up_s
  rw [hNN, hRR, hbq] at hAr1
  refine va_alen hx hb hK.1 hw1.1 (a - 64) 5 (v := nI (oN h a)) hAr0 (ty := .object "java/lang/Object") rfl rfl dJ9_copyOf_2_30 ?_
  refine lv_iload_n hx hb dJ9_copyOf_2_31 rfl (lv_at hl1 2 rfl) ?_
  refine va_mmin hx hb (hml.trans hl1.1.symm) hown (hts _ q705) (hts _ q706) (hts _ q140) (hts _ q707) (by show 1 ≤ 2; omega) (by show _ + 13 ≤ 200; exact Nat.le_of_ble_eq_true rfl) (by show 0 + 1 ≤ 1; omega) (by show 0 + n ≤ n; omega) dJ9_copyOf_2_32 ?_
  have em : (if nI n < nI (oN h a) then nI n else nI (oN h a)) = nI (min (oN h a) n) := by
    simp only [nI_ltP (a := n) (b := oN h a) (by omega) (by omega)]
    split
    · rw [Nat.min_eq_right (by omega)]
    · rw [Nat.min_eq_left (by omega)]
  rw [em]
  have z0 : (0 : Int32).toNatClampNeg = 0 := by decide
  have zk : (nI (min (oN h a) n)).toNatClampNeg = min (oN h a) n := nI_clamp (by omega)
  refine va_copyq hx hb (hml.trans hl1.1.symm) hown (hts _ q708) (hts _ q710) (hts _ q709) (hts _ q142) hK.1 hw1.1 hw1.2.1 hS1 (a - 64) (oX h - 64) 5 5 (E0 := "java/lang/Object") (E1 := "java/lang/Object") (C := C) hAr0 hAr1 rfl rfl (by decide) (by decide) (nI_pos (by omega)) (by rw [z0, zk]; omega) (by rw [z0, zk]; omega) (fun i hi y hy => ?_) (vb_asgC (hK.2.1 _ c9)) (by show 1 ≤ 2; omega) (by show _ + _ ≤ 200; exact Nat.le_of_ble_eq_true (by decide)) dJ9_copyOf_2_35 fun H2 locs2 hP2 hD2 hS2 => ?_
  · rw [zk] at hi
    rw [z0, Nat.zero_add] at hy
    obtain ⟨y', e1, e2⟩ := Option.map_eq_some_iff.mp hy
    have h9 := hw.2.2.2.2.2.1 a _ _ e1
    have hy' : va_up β (oX h) q y' = y := e2
    have ht' : oT (pO h 45 n) y' = t := by
      show va_up h.1 (oX h) 45 y' = t
      simp [va_up, show y' ≠ oX h by omega]
      exact ht i hi y' e1
    rw [← hy']
    exact x_recv hK hw1 ht' t1 t2 c1
  · rw [z0, zk] at hP2 hD2
    have e := xw_set (G := G) (β := va_up β (oX h) q) (h := pO h 45 n) (h' := xcpo h a n) (a := oX h) hw.2.2.1 rfl (fun b hb => xce_nR hb)
    have e3 : xce G (va_up β (oX h) q) (xcpo h a n) (oX h) = .inl (G 45, n, .inr (.inr (.inr (.inr (fun j => ((fun j => if j < oN h a then oR h a j else none) j).map (va_up β (oX h) q)))))) := by
      unfold xcpo
      rw [xceR hT (by omega) (by omega), hNN]
    rw [e3, hbq] at e
    refine lv_aload_n hx hb dJ9_copyOf_2_38 rfl (lv_at hl1 0 rfl) ?_
    refine W.widen (k := 1) (n := n) (by omega) (by omega) ?_
    refine W.aret hx hb hr (Or.inr ⟨_, rfl⟩) (Or.inr ⟨q, rfl⟩) (fun t ht _ => ⟨va_up β (oX h) q, ?_, fun b hb => by simp [va_up, show b ≠ oX h by omega], ?_, fun v hv => ?_, by rw [ht]; exact ⟨hS2.1, hS2.2.1, fun _ h => by cases h⟩⟩) hS2.2.2 dJ9_copyOf_2_39 hlk
    · show Outcome.returned _ = Outcome.returned (some (.ref (va_up β (oX h) q (oX h))))
      rw [hbq]
    · rw [ht]
      refine ⟨?_, ?_, xok_pR (fun j b hb => ?_) hw1.2.2⟩
      · show va_P D xcl (xw G (va_up β (oX h) q) (xcpo h a n)) H2
        rw [e]
        refine va_P_at hP2 fun hc => ?_
        have hc : H2[q]? = some (vp_cell (G 45) (n, .inr (.inr (.inr (.inr (va_cpy (fun j => (oR h a j).map (va_up β (oX h) q)) (fun j => (none : Option Nat).map (va_up β (oX h) q)) 0 0 (min (oN h a) n))))))) := hc
        show H2[q]? = some (vp_cell (G 45) (n, _))
        rw [hc]
        congr 1
        show arrV (G 45) n (fun j => va_rf (va_cpy (fun j => (oR h a j).map (va_up β (oX h) q)) (fun j => (none : Option Nat).map (va_up β (oX h) q)) 0 0 (min (oN h a) n) j)) = arrV (G 45) n (fun j => va_rf ((if j < oN h a then oR h a j else none).map (va_up β (oX h) q)))
        refine arrV_fn (fun j hj => congrArg va_rf ?_)
        unfold va_cpy
        by_cases hjN : j < oN h a
        · rw [if_pos ⟨Nat.zero_le _, by omega⟩, Nat.zero_add, Nat.sub_zero, if_pos hjN]
        · rw [if_neg (by omega), if_neg hjN]
      · show va_D _ (xw G (va_up β (oX h) q) (xcpo h a n))
        rw [e]
        exact hw1.2.1.set hAr1
      · have hb : (if j < oN h a then oR h a j else none) = some b := hb
        split at hb
        · have := hw.2.2.2.2.2.1 a _ b hb
          rw [hXX]; omega
        · cases hb
    · cases hv
      show oX h < oX h + 1
      omega
theorem n_blindM {β : Nat → Nat} {as : List Value} {mi : Nat} : FrameBlind (nPe D G Hb h0 b0 β h as (va_Mi "[Ljava/lang/Object;" mi)) := fun a U g mk q => by
  obtain ⟨q0, ⟨q1, q2, q3⟩, q4⟩ := q
  exact ⟨q0, ⟨q1, q2, xKs.same (u := U) (U := U.calling g mk a) rfl q3⟩, va_Mi.moved (u := U) (U := U.calling g mk a) (Vm.Alike.refl U.vm) q4⟩
theorem n_atM {β : Nat → Nat} {as : List Value} {mi : Nat} {s : State} {H : Heap} {locs : List Loc} (hM : va_Mi "[Ljava/lang/Object;" mi s) (hK : xKs D G Hb h0 b0 s) (hw : xWd D G Hb h0 b0 β h H) (hS : va_S (fun q => Hb.size ≤ q) Hb H locs) : ∀ U : State, U.heap = H → s.WarmedH U.vm → nPe D G Hb h0 b0 β h as (va_Mi "[Ljava/lang/Object;" mi) as.toArray U := fun U hU hW => ⟨rfl, ⟨by rw [hU]; exact hw, by rw [hU]; exact ⟨hS.1, hS.2.1, fun _ h => by cases h⟩, hK.warm hW⟩, va_Mi.moved hW.alike hM⟩
theorem nm_copyOf (hC : ∀ t, 1 ≤ t → t ≤ 19 → ∃ C T N ty0, XC t C T N ty0) {β : Nat → Nat} {a n : Nat} (ha : oT h a = 45) (hn : n ≤ 65536) (hN : oN h a ≤ 65536) (hu : xuni h (oR h a) (min (oN h a) n) = true) : Met l yJ9_copyOf (ws_ yJ9_copyOf cJ9_copyOf 2 (some (.array (.object "java/lang/Object")))) { frames := 3, cells := 1, slots := n, locals := 300 } (xPc D G Hb h0 b0 β h [.ref a, .int (nI n)]) (xQc D G Hb h0 b0 β (oX h) (some (.ref (oX h)), xcpo h a n)) 1 n (fun q => Hb.size ≤ q) := by
  refine Met.ofW (cc := cJ9_copyOf) (maxL := 2) (ret := some (.array (.object "java/lang/Object"))) (by decide) rfl ?_
  intro p e s m args below meth c s₁ B hml hv
  obtain ⟨rfl, hw, hS, hK⟩ := hv
  have hx := B.exec
  have hb := B.bytes
  have hr := B.returns
  have hlk := B.notSynchronized
  have hts := atoms_spec (ws := ws_ yJ9_copyOf cJ9_copyOf 2 (some (.array (.object "java/lang/Object")))) B.pre
  have hts : ∀ w ∈ lw_all, w.before _ s = true := fun w h => hts w (List.mem_cons_of_mem _ h)
  have hown : s.vm.findClass "java/util/Arrays" = some m.cls := findClass_of_methodNamed B.named
  have hl := lv_entry ([.ref (β a), .int (nI n)]) (n := 2) (Nat.le_of_ble_eq_true rfl)
  rw [lg_entry_eq]
  show W _ _ _ _ _ _ _ _ _ _ _ _ _ _ _ (F0 m 0 ((lg_sl ([.ref (β a), .int (nI n)]) ++ List.replicate (2 - (lg_sl ([.ref (β a), .int (nI n)])).length) Slot.unset).toArray) [])
  generalize (lg_sl ([.ref (β a), .int (nI n)]) ++ List.replicate (2 - (lg_sl ([.ref (β a), .int (nI n)])).length) Slot.unset).toArray = ls at hl ⊢
  have hl : lv_has ls 2 [(0, .ref (β a)), (1, .int (nI n))] := hl
  obtain ⟨adV, -, -, -, ⟨mi, hM⟩, hDc, -⟩ := hK.2.2.2.2.2.2.2.2
  have hAr := xaR (G := G) hw.2.2 ha (by omega) (by omega)
  refine lv_aload_n hx hb dJ9_copyOf_0 rfl (lv_at hl 0 rfl) ?_
  refine lv_iload_n hx hb dJ9_copyOf_1 rfl (lv_at hl 1 rfl) ?_
  refine lv_aload_n hx hb dJ9_copyOf_2 rfl (lv_at hl 0 rfl) ?_
  refine va_getC hx hb (hml.trans hl.1.symm) hown (hts _ q674) hDc.use (hts _ q2231) (hts _ q675) (hts _ q699) hM ⟨_, hw.1 _ _ hAr, rfl, ?_⟩ (by show 1 ≤ 3; omega) (by show _ + 14 ≤ 300; exact Nat.le_of_ble_eq_true rfl) dJ9_copyOf_3 ?_
  · obtain ⟨-, kB, compB, -, -, -, e5⟩ := hK.1.2 5 (G 45, .object "java/lang/Object") rfl
    exact e5
  refine x_callW (va_runS (As := [.ref (β a), .int (nI n), .ref mi]) (rest := []) ⟨hx, hb, hml, hown, hts⟩ (nm_copy2 (D := D) (G := G) (h0 := h0) (β := β) (h := h) hC ha hn hN hu) (va_cwS 3 hts (lw_S q700 q701 q141 q702) rfl rfl rfl (by decide +kernel) ⟨by show 2 + 1 ≤ 3; omega, by show 8 + (4 + 11) + 200 ≤ 300; omega⟩) ⟨n_blindM, n_atM hM hK hw hS⟩ rfl rfl hl.1 rfl (lv_room (Nat.le_of_ble_eq_true rfl)) dJ9_copyOf_6 ⟨by show 0 + 1 ≤ 1; omega, by show 0 + n ≤ n; omega⟩) hS fun β' H1 locs1 hb' hw1 hS1 hvo => ?_
  refine W.widen (k := 1) (n := n) (by omega) (by omega) ?_
  exact W.aret hx hb hr (Or.inr ⟨_, rfl⟩) (Or.inr ⟨_, rfl⟩) (fun t ht _ => ⟨β', rfl, hb', by rw [ht]; exact hw1, hvo, by rw [ht]; exact ⟨hS1.1, hS1.2.1, fun _ h => by cases h⟩⟩) hS1.2.2 dJ9_copyOf_9 hlk
theorem xPS_cpo (hC : ∀ t, 1 ≤ t → t ≤ 19 → ∃ C T N ty0, XC t C T N ty0) {a : Nat} {n : Int32} (ha : oT h a = 45) (hn0 : 0 ≤ n.toInt) (hn : n.toInt ≤ 65536) (hN : oN h a ≤ 65536) (hu : xuni h (oR h a) (min (oN h a) n.toNatClampNeg) = true) (h8 : xcat st' ≤ 8) (hlk : Cond.methodLink (xnm mm.1) k (xpn 2) ∈ lw_all) (hd : decode mm.2.2.2.1 pc = .ok (.invokestatic k, 3))
    (ih : SM D G l Hb h0 b0 mm (pc + 3) ls (.ref (oX h) :: st') (xcpo h a n.toNatClampNeg) d r) : SM D G l Hb h0 b0 mm pc ls (.int n :: .ref a :: st') h d r := by
  have ei := nI_back hn0
  have hn2 : n.toNatClampNeg ≤ 65536 := by show n.toInt.toNat ≤ 65536; omega
  generalize n.toNatClampNeg = k0 at ei ih hu hn2
  subst ei
  obtain ⟨⟨i1, i2, i3⟩, ih⟩ := ih
  have j1 : oX (xcpo h a k0) = oX h + 1 := rfl
  have j2 : oC (xcpo h a k0) = oC h + 1 := rfl
  have j3 : oS (xcpo h a k0) = oS h + k0 := rfl
  refine ⟨⟨by omega, by omega, by omega⟩, fun {p e R s m args below meth c Q H locs cells slots β M} X hw hS hL hvs hR hc hs fin => ?_⟩
  have X0 := X
  obtain ⟨hx, hb, hml, hown, hts, -, hK⟩ := X
  have hrest : ∀ v ∈ st', xvo (oX h) v := fun v hv => hvs.1 v (by simp [hv])
  refine x_callW (va_runS (As := [.ref (β a), .int (nI k0)]) (rest := st'.map (cv β)) ⟨hx, hb, hml, hown, hts⟩ (nm_copyOf (D := D) (G := G) (h0 := h0) (β := β) (h := h) hC ha hn2 hN hu) (va_cwS 2 hts (lw_S hlk q672 q141 q673) rfl rfl rfl (by decide +kernel) ⟨by show 3 + 1 ≤ _; omega, by show 8 + (2 + 11) + 300 ≤ _; omega⟩) ⟨xPc_blind, xPc_at hK hw hS⟩ rfl rfl hL.2.1 rfl (lv_room (by rw [xcat_cv]; exact h8)) hd ⟨by omega, by omega⟩) hS fun β' H1 locs1 hb1 hw1 hS1 hvo => ?_
  have k := ih X0 (Q := Q) (cells := cells + 1) (slots := slots + k0) hw1 hS1 (hL.up hb1 hvs.2) ⟨fun v hv => by
    rcases List.mem_cons.mp hv with z | z
    · rw [z]; exact hvo _ rfl
    · exact xvo_mono (by omega) (hrest v z), fun v hv => xvo_mono (by omega) (hvs.2 v hv)⟩ hR (by omega) (by omega) fun β'' H' locs' cells' slots' M' pc' st'' a1 a2 a3 a4 a5 a6 a7 => fin β'' H' locs' cells' slots' M' pc' st'' a1 (fun b hb => by rw [a2 b (by omega), hb1 b hb]) a3 a4 a5 a6 a7
  rw [List.map_cons, cv_sameL hb1 hrest] at k
  exact k
end
