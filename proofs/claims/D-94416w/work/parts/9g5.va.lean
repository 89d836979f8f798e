/-! THE LAW: what its rounds need -/
section
variable {d n i : Nat} {h h1 h2 : xH} {P : sS} {f : rI} {q : sV} {x y z a b c e g t u : Int32} {v : Int64} {w : rI} {k : Nat}
theorem WFc {b : Bool} {p q : sV} (h1 : WF p.2) (h2 : WF q.2) : WF (bif b then p else q).2 := by cases b <;> assumption
theorem WFi {b : Prop} [Decidable b] {p q : sV} (h1 : WF p.2) (h2 : WF q.2) : WF (if b then p else q).2 := by split <;> assumption
/-- answers are ints, or longs -/
def AI (q : sV) : Prop := ∃ x : Int32, q.1 = .int x
def AL (q : sV) : Prop := ∃ x : Int64, q.1 = .long x
theorem AIc {b : Bool} {p q : sV} (h1 : AI p) (h2 : AI q) : AI (bif b then p else q) := by cases b <;> assumption
theorem AIi {b : Prop} [Decidable b] {p q : sV} (h1 : AI p) (h2 : AI q) : AI (if b then p else q) := by split <;> assumption
theorem ALc {b : Bool} {p q : sV} (h1 : AL p) (h2 : AL q) : AL (bif b then p else q) := by cases b <;> assumption
theorem ALi {b : Prop} [Decidable b] {p q : sV} (h1 : AL p) (h2 : AL q) : AL (if b then p else q) := by split <;> assumption
/-- how a run stands at the loop's head -/
def LI (h : xH) (P : sS) (f : rI) (n : Nat) : Prop := XR h P ∧ MR h P ∧ WF P ∧ oT h 31 = 39 ∧ oN h 31 = n ∧ oI h 31 = f
/-- one call on each side -/
theorem LI_go {m m' : xM} {as as' : List Value} {d' : Nat} (I : LI h P f n) (hx : XG d h m as q) (hm : ∀ h1, MR h1 P → oI h1 156 = oI h 156 → ST3 h1 → MG d' h1 m' as' q) (hw : WF q.2) : ∃ h1 h2, C_ d m as h = some (some q.1, h1) ∧ C_ d' m' as' h1 = some (some q.1, h2) ∧ LI h2 q.2 f n ∧ oC h2 ≤ oC h + 15000 ∧ oS h2 ≤ oS h + 60000 ∧ oT h 64 = 1 ∧ oT h1 150 = 7 ∧ oT h1 31 = 39 ∧ oN h1 31 = n ∧ oI h1 31 = f := by
  obtain ⟨i1, i2, i3, i4, i5, i6⟩ := I
  obtain ⟨h1, e1, x1, km, c1, c2⟩ := hx
  have M1 := MR_KM km i2
  have st := STR_3 (show STR h1 from (XR_T x1).2.2.2.2.2.2.2.2.2.2.2.2.2.2.2.2.2.2.2.2.2.2.2)
  obtain ⟨h2, e2, M2, kx⟩ := hm h1 M1 (km 156 (by omega)).2.2.1 st
  have s1 := km 31 (by omega)
  have s2 := sm_KX kx (a := 31) (by omega)
  have cc : oC h2 = oC h1 ∧ oS h2 = oS h1 := ⟨congrArg (fun z => z.2.1) kx.1, congrArg (fun z => z.2.2) kx.1⟩
  have T := XR_T i1
  exact ⟨h1, h2, e1, e2, ⟨XR_KX kx x1, M2, hw, by rw [s2.1, s1.1]; exact i4, by rw [s2.2.1, s1.2.1]; exact i5, by rw [s2.2.2.1, s1.2.2.1]; exact i6⟩, by omega, by omega, T.1.1, mok_t M1.1 rfl, by rw [s1.1]; exact i4, by rw [s1.2.1]; exact i5, by rw [s1.2.2.1]; exact i6⟩
theorem A_feed {a : Int32} {b : Int32} {c : Int32} {e : Int32} {g : Int32} : AI (q_feed P a b c e g) := by
  unfold q_feed
  repeat' (first | exact ⟨_, rfl⟩ | refine AIc ?_ ?_ | refine AIi ?_ ?_)
theorem A_fault {x : Int32} : AI (q_fault P x) := by
  unfold q_fault
  repeat' (first | exact ⟨_, rfl⟩ | refine AIc ?_ ?_ | refine AIi ?_ ?_)
theorem W_fault {x : Int32} (W : WF P) : WF (q_fault P x).2 := by
  unfold q_fault
  repeat' (first | exact W | refine WFc ?_ ?_ | refine WFi ?_ ?_)
theorem A_car {c : Int32} {x : Int32} : AI (q_car P c x) := by
  unfold q_car
  repeat' (first | exact ⟨_, rfl⟩ | refine AIc ?_ ?_ | refine AIi ?_ ?_)
theorem W_car {c : Int32} {x : Int32} (W : WF P) : WF (q_car P c x).2 := by
  unfold q_car
  repeat' (first | exact W | refine WFc ?_ ?_ | refine WFi ?_ ?_)
theorem A_trait {x : Int32} {b : Int32} : AI (q_trait P x b) := by
  unfold q_trait
  repeat' (first | exact ⟨_, rfl⟩ | refine AIc ?_ ?_ | refine AIi ?_ ?_)
theorem A_set {x : Int32} {y : Int32} : AI (q_set P x y) := by
  unfold q_set
  repeat' (first | exact ⟨_, rfl⟩ | refine AIc ?_ ?_ | refine AIi ?_ ?_)
theorem A_chance {c : Int32} : AI (q_chance P w c) := by
  unfold q_chance
  repeat' (first | exact ⟨_, rfl⟩ | refine AIc ?_ ?_ | refine AIi ?_ ?_)
theorem W_chance {c : Int32} (W : WF P) : WF (q_chance P w c).2 := by
  unfold q_chance
  repeat' (first | exact W | refine WFc ?_ ?_ | refine WFi ?_ ?_)
theorem A_can {c : Int32} : AI (q_can P w c) := by
  unfold q_can
  repeat' (first | exact ⟨_, rfl⟩ | refine AIc ?_ ?_ | refine AIi ?_ ?_)
theorem W_can {c : Int32} (W : WF P) : WF (q_can P w c).2 := by
  unfold q_can
  repeat' (first | exact W | refine WFc ?_ ?_ | refine WFi ?_ ?_)
theorem A_run {x : Int32} {y : Int32} : AI (q_run P w x y) := by
  unfold q_run
  repeat' (first | exact ⟨_, rfl⟩ | refine AIc ?_ ?_ | refine AIi ?_ ?_)
theorem W_run {x : Int32} {y : Int32} (W : WF P) : WF (q_run P w x y).2 := by
  unfold q_run
  repeat' (first | exact W | refine WFc ?_ ?_ | refine WFi ?_ ?_)
theorem A_watch {x : Int32} {t : Int32} {c : Int32} {y : Int32} : AI (q_watch P w x t c y) := by
  unfold q_watch
  repeat' (first | exact ⟨_, rfl⟩ | refine AIc ?_ ?_ | refine AIi ?_ ?_)
theorem W_watch {x : Int32} {t : Int32} {c : Int32} {y : Int32} (W : WF P) : WF (q_watch P w x t c y).2 := by
  unfold q_watch
  repeat' (first | exact W | refine WFc ?_ ?_ | refine WFi ?_ ?_)
theorem A_stands {x : Int32} {t : Int32} : AI (q_stands P w x t) := by
  unfold q_stands
  repeat' (first | exact ⟨_, rfl⟩ | refine AIc ?_ ?_ | refine AIi ?_ ?_)
theorem W_stands {x : Int32} {t : Int32} (W : WF P) : WF (q_stands P w x t).2 := by
  unfold q_stands
  repeat' (first | exact W | refine WFc ?_ ?_ | refine WFi ?_ ?_)
theorem A_tries {x : Int32} {y : Int32} {z : Int32} : AI (q_tries P w x y z) := by
  unfold q_tries
  repeat' (first | exact ⟨_, rfl⟩ | refine AIc ?_ ?_ | refine AIi ?_ ?_)
theorem W_tries {x : Int32} {y : Int32} {z : Int32} (W : WF P) : WF (q_tries P w x y z).2 := by
  unfold q_tries
  repeat' (first | exact W | refine WFc ?_ ?_ | refine WFi ?_ ?_)
theorem A_odds {x : Int32} : AL (q_odds P w x) := by
  unfold q_odds
  repeat' (first | exact ⟨_, rfl⟩ | refine ALc ?_ ?_ | refine ALi ?_ ?_)
theorem W_odds {x : Int32} (W : WF P) : WF (q_odds P w x).2 := by
  unfold q_odds
  repeat' (first | exact W | refine WFc ?_ ?_ | refine WFi ?_ ?_)
theorem A_helps {x : Int32} : AL (q_helps P x) := by
  unfold q_helps
  repeat' (first | exact ⟨_, rfl⟩ | refine ALc ?_ ?_ | refine ALi ?_ ?_)
theorem W_helps {x : Int32} (W : WF P) : WF (q_helps P x).2 := by
  unfold q_helps
  repeat' (first | exact W | refine WFc ?_ ?_ | refine WFi ?_ ?_)
theorem A_best {x : Int32} : AI (q_best P x) := by
  unfold q_best
  repeat' (first | exact ⟨_, rfl⟩ | refine AIc ?_ ?_ | refine AIi ?_ ?_)
theorem W_best {x : Int32} (W : WF P) : WF (q_best P x).2 := by
  unfold q_best
  repeat' (first | exact W | refine WFc ?_ ?_ | refine WFi ?_ ?_)
theorem A_back {x : Int32} : AI (q_back P x) := by
  unfold q_back
  repeat' (first | exact ⟨_, rfl⟩ | refine AIc ?_ ?_ | refine AIi ?_ ?_)
theorem W_back {x : Int32} (W : WF P) : WF (q_back P x).2 := by
  unfold q_back
  repeat' (first | exact W | refine WFc ?_ ?_ | refine WFi ?_ ?_)
theorem A_wise {x : Int32} : AI (q_wise P x) := by
  unfold q_wise
  repeat' (first | exact ⟨_, rfl⟩ | refine AIc ?_ ?_ | refine AIi ?_ ?_)
theorem W_wise {x : Int32} (W : WF P) : WF (q_wise P x).2 := by
  unfold q_wise
  repeat' (first | exact W | refine WFc ?_ ?_ | refine WFi ?_ ?_)
theorem A_blame {c : Int32} {x : Int32} : AL (q_blame P w c x) := by
  unfold q_blame
  repeat' (first | exact ⟨_, rfl⟩ | refine ALc ?_ ?_ | refine ALi ?_ ?_)
theorem W_blame {c : Int32} {x : Int32} (W : WF P) : WF (q_blame P w c x).2 := by
  unfold q_blame
  repeat' (first | exact W | refine WFc ?_ ?_ | refine WFi ?_ ?_)
theorem A_mean {x : Int32} : AL (q_mean P x) := by
  unfold q_mean
  repeat' (first | exact ⟨_, rfl⟩ | refine ALc ?_ ?_ | refine ALi ?_ ?_)
theorem W_mean {x : Int32} (W : WF P) : WF (q_mean P x).2 := by
  unfold q_mean
  repeat' (first | exact W | refine WFc ?_ ?_ | refine WFi ?_ ?_)
theorem A_repeals {x : Int32} : AL (q_repeals P x) := by
  unfold q_repeals
  repeat' (first | exact ⟨_, rfl⟩ | refine ALc ?_ ?_ | refine ALi ?_ ?_)
theorem W_repeals {x : Int32} (W : WF P) : WF (q_repeals P x).2 := by
  unfold q_repeals
  repeat' (first | exact W | refine WFc ?_ ?_ | refine WFi ?_ ?_)
theorem A_absent {x : Int32} : AL (q_absent P x) := by
  unfold q_absent
  repeat' (first | exact ⟨_, rfl⟩ | refine ALc ?_ ?_ | refine ALi ?_ ?_)
theorem W_absent {x : Int32} (W : WF P) : WF (q_absent P x).2 := by
  unfold q_absent
  repeat' (first | exact W | refine WFc ?_ ?_ | refine WFi ?_ ?_)
theorem A_margin {x : Int32} : AI (q_margin P w x) := by
  unfold q_margin
  repeat' (first | exact ⟨_, rfl⟩ | refine AIc ?_ ?_ | refine AIi ?_ ?_)
theorem W_margin {x : Int32} (W : WF P) : WF (q_margin P w x).2 := by
  unfold q_margin
  repeat' (first | exact W | refine WFc ?_ ?_ | refine WFi ?_ ?_)
theorem A_place {k : Nat} {a : Int32} {b : Int32} {c : Int32} {e : Int32} : AI (q_place P k a b c e) := by
  unfold q_place
  repeat' (first | exact ⟨_, rfl⟩ | refine AIc ?_ ?_ | refine AIi ?_ ?_)
theorem A_behind {x : Int32} {y : Int32} : AI (q_behind P x y) := by
  unfold q_behind
  repeat' (first | exact ⟨_, rfl⟩ | refine AIc ?_ ?_ | refine AIi ?_ ?_)
theorem A_at {x : Int32} {y : Int32} : AI (q_at P x y) := by
  unfold q_at
  repeat' (first | exact ⟨_, rfl⟩ | refine AIc ?_ ?_ | refine AIi ?_ ?_)
theorem W_at {x : Int32} {y : Int32} (W : WF P) : WF (q_at P x y).2 := by
  unfold q_at
  repeat' (first | exact W | refine WFc ?_ ?_ | refine WFi ?_ ?_)
theorem A_rate {k : Nat} {x : Int32} : AI (q_rate P k x) := by
  unfold q_rate
  repeat' (first | exact ⟨_, rfl⟩ | refine AIc ?_ ?_ | refine AIi ?_ ?_)
theorem W_rate {k : Nat} {x : Int32} (W : WF P) : WF (q_rate P k x).2 := by
  unfold q_rate
  repeat' (first | exact W | refine WFc ?_ ?_ | refine WFi ?_ ?_)
theorem A_parted : AI (q_parted P) := by
  unfold q_parted
  repeat' (first | exact ⟨_, rfl⟩ | refine AIc ?_ ?_ | refine AIi ?_ ?_)
theorem W_parted (W : WF P) : WF (q_parted P).2 := by
  unfold q_parted
  repeat' (first | exact W | refine WFc ?_ ?_ | refine WFi ?_ ?_)
theorem A_worst {x : Int32} {y : Int32} : AI (q_worst P x y) := by
  unfold q_worst
  repeat' (first | exact ⟨_, rfl⟩ | refine AIc ?_ ?_ | refine AIi ?_ ?_)
theorem W_worst {x : Int32} {y : Int32} (W : WF P) : WF (q_worst P x y).2 := by
  unfold q_worst
  repeat' (first | exact W | refine WFc ?_ ?_ | refine WFi ?_ ?_)
theorem A_ranked {x : Int32} : AI (q_ranked P x) := by
  unfold q_ranked
  repeat' (first | exact ⟨_, rfl⟩ | refine AIc ?_ ?_ | refine AIi ?_ ?_)
theorem W_ranked {x : Int32} (W : WF P) : WF (q_ranked P x).2 := by
  unfold q_ranked
  repeat' (first | exact W | refine WFc ?_ ?_ | refine WFi ?_ ?_)
theorem A_measure {a : Int32} {b : Int32} {c : Int32} : AI (q_measure P a b c) := by
  unfold q_measure
  repeat' (first | exact ⟨_, rfl⟩ | refine AIc ?_ ?_ | refine AIi ?_ ?_)
theorem A_spent {x : Int32} {y : Int32} : AI (q_spent P x y) := by
  unfold q_spent
  repeat' (first | exact ⟨_, rfl⟩ | refine AIc ?_ ?_ | refine AIi ?_ ?_)
theorem W_spent {x : Int32} {y : Int32} (W : WF P) : WF (q_spent P x y).2 := by
  unfold q_spent
  repeat' (first | exact W | refine WFc ?_ ?_ | refine WFi ?_ ?_)
theorem A_fine {a : Int32} {b : Int32} {c : Int32} {e : Int32} : AI (q_fine P a b c e) := by
  unfold q_fine
  repeat' (first | exact ⟨_, rfl⟩ | refine AIc ?_ ?_ | refine AIi ?_ ?_)
theorem W_fine {a : Int32} {b : Int32} {c : Int32} {e : Int32} (W : WF P) : WF (q_fine P a b c e).2 := by
  unfold q_fine
  repeat' (first | exact W | refine WFc ?_ ?_ | refine WFi ?_ ?_)
theorem A_until {a : Int32} {b : Int32} {c : Int32} {e : Int32} : AI (q_until P a b c e) := by
  unfold q_until
  repeat' (first | exact ⟨_, rfl⟩ | refine AIc ?_ ?_ | refine AIi ?_ ?_)
theorem W_until {a : Int32} {b : Int32} {c : Int32} {e : Int32} (W : WF P) : WF (q_until P a b c e).2 := by
  unfold q_until
  repeat' (first | exact W | refine WFc ?_ ?_ | refine WFi ?_ ?_)
theorem A_lot {a : Int32} {b : Int32} : AI (q_lot P a b) := by
  unfold q_lot
  repeat' (first | exact ⟨_, rfl⟩ | refine AIc ?_ ?_ | refine AIi ?_ ?_)
theorem W_lot {a : Int32} {b : Int32} (W : WF P) : WF (q_lot P a b).2 := by
  unfold q_lot
  repeat' (first | exact W | refine WFc ?_ ?_ | refine WFi ?_ ?_)
theorem A_shown {x : Int32} {y : Int32} {z : Int32} {u : Int32} : AI (q_shown P x y z u) := by
  unfold q_shown
  repeat' (first | exact ⟨_, rfl⟩ | refine AIc ?_ ?_ | refine AIi ?_ ?_)
theorem W_shown {x : Int32} {y : Int32} {z : Int32} {u : Int32} (W : WF P) : WF (q_shown P x y z u).2 := by
  unfold q_shown
  repeat' (first | exact W | refine WFc ?_ ?_ | refine WFi ?_ ?_)
theorem A_clumps {x : Int32} {y : Int32} {z : Int32} {w : Int32} : AI (q_clumps P x y z w) := by
  unfold q_clumps
  repeat' (first | exact ⟨_, rfl⟩ | refine AIc ?_ ?_ | refine AIi ?_ ?_)
theorem W_clumps {x : Int32} {y : Int32} {z : Int32} {w : Int32} (W : WF P) : WF (q_clumps P x y z w).2 := by
  unfold q_clumps
  repeat' (first | exact W | refine WFc ?_ ?_ | refine WFi ?_ ?_)
theorem A_lamp {x : Int32} {y : Int32} {z : Int32} : AI (q_lamp P x y z) := by
  unfold q_lamp
  repeat' (first | exact ⟨_, rfl⟩ | refine AIc ?_ ?_ | refine AIi ?_ ?_)
theorem W_lamp {x : Int32} {y : Int32} {z : Int32} (W : WF P) : WF (q_lamp P x y z).2 := by
  unfold q_lamp
  repeat' (first | exact W | refine WFc ?_ ?_ | refine WFi ?_ ?_)
theorem A_pay {a : Int32} {b : Int32} {c : Int32} {x : Int32} : AI (q_pay P a b c x) := by
  unfold q_pay
  repeat' (first | exact ⟨_, rfl⟩ | refine AIc ?_ ?_ | refine AIi ?_ ?_)
theorem A_rests {x : Int32} {y : Int32} {z : Int32} : AI (q_rests P x y z) := by
  unfold q_rests
  repeat' (first | exact ⟨_, rfl⟩ | refine AIc ?_ ?_ | refine AIi ?_ ?_)
theorem W_rests {x : Int32} {y : Int32} {z : Int32} (W : WF P) : WF (q_rests P x y z).2 := by
  unfold q_rests
  repeat' (first | exact W | refine WFc ?_ ?_ | refine WFi ?_ ?_)
theorem A_thanks {x : Int32} {a : Int32} {b : Int32} {c : Int32} {e : Int32} : AI (q_thanks P x a b c e) := by
  unfold q_thanks
  repeat' (first | exact ⟨_, rfl⟩ | refine AIc ?_ ?_ | refine AIi ?_ ?_)
theorem W_thanks {x : Int32} {a : Int32} {b : Int32} {c : Int32} {e : Int32} (W : WF P) : WF (q_thanks P x a b c e).2 := by
  unfold q_thanks
  repeat' (first | exact W | refine WFc ?_ ?_ | refine WFi ?_ ?_)
theorem A_filled {x : Int32} {y : Int32} : AI (q_filled P x y) := by
  unfold q_filled
  repeat' (first | exact ⟨_, rfl⟩ | refine AIc ?_ ?_ | refine AIi ?_ ?_)
theorem W_filled {x : Int32} {y : Int32} (W : WF P) : WF (q_filled P x y).2 := by
  unfold q_filled
  repeat' (first | exact W | refine WFc ?_ ?_ | refine WFi ?_ ?_)
theorem A_slip {x : Int32} {y : Int32} : AI (q_slip P x y) := by
  unfold q_slip
  repeat' (first | exact ⟨_, rfl⟩ | refine AIc ?_ ?_ | refine AIi ?_ ?_)
theorem W_slip {x : Int32} {y : Int32} (W : WF P) : WF (q_slip P x y).2 := by
  unfold q_slip
  repeat' (first | exact W | refine WFc ?_ ?_ | refine WFi ?_ ?_)
theorem A_numbers {x : Int32} {y : Int32} {z : Int32} : AI (q_numbers P x y z) := by
  unfold q_numbers
  repeat' (first | exact ⟨_, rfl⟩ | refine AIc ?_ ?_ | refine AIi ?_ ?_)
theorem A_write {x : Int32} {y : Int32} {u : Int64} : AL (q_write P x y u) := by
  unfold q_write
  repeat' (first | exact ⟨_, rfl⟩ | refine ALc ?_ ?_ | refine ALi ?_ ?_)
theorem A_image {x : Int32} : AI (q_image P x) := by
  unfold q_image
  repeat' (first | exact ⟨_, rfl⟩ | refine AIc ?_ ?_ | refine AIi ?_ ?_)
theorem A_restore {x : Int32} : AI (q_restore P x) := by
  unfold q_restore
  repeat' (first | exact ⟨_, rfl⟩ | refine AIc ?_ ?_ | refine AIi ?_ ?_)
theorem A_status {x : Int32} : AI (q_status P x) := by
  unfold q_status
  repeat' (first | exact ⟨_, rfl⟩ | refine AIc ?_ ?_ | refine AIi ?_ ?_)
theorem W_status {x : Int32} (W : WF P) : WF (q_status P x).2 := by
  unfold q_status
  repeat' (first | exact W | refine WFc ?_ ?_ | refine WFi ?_ ?_)
theorem A_count {x : Int32} : AI (q_count P x) := by
  unfold q_count
  repeat' (first | exact ⟨_, rfl⟩ | refine AIc ?_ ?_ | refine AIi ?_ ?_)
theorem W_count {x : Int32} (W : WF P) : WF (q_count P x).2 := by
  unfold q_count
  repeat' (first | exact W | refine WFc ?_ ?_ | refine WFi ?_ ?_)
end
