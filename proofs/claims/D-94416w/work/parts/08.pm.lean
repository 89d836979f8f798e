/-! THE PURE MACHINE: a partial evaluator of the bytecode over a heap of typed rows; its tables stand ahead of it -/
def xlk {α : Type} : List (Nat × α) → Nat → Option α
  | [], _ => none
  | (k, v) :: t, i => bif Nat.beq i k then some v else xlk t i
abbrev xM : Type := Nat × Bool × MethodName × ByteArray × Nat × Option FieldType
abbrev xH : Type := (Nat → Nat) × (Nat → Nat) × (Nat → Nat → Int32) × (Nat → Nat → Int64) × (Nat → Nat → Option Nat) × Nat × Nat × Nat
abbrev xR : Type := Option Value × xH
abbrev xC : Type := xM × Nat × List Slot × List Value × xH × Nat
abbrev xA : Type := xC ⊕ ((xC × (xR → Option xC)) ⊕ xR)
def oT (h : xH) : Nat → Nat := h.1
def oN (h : xH) : Nat → Nat := h.2.1
def oI (h : xH) : Nat → Nat → Int32 := h.2.2.1
def oL (h : xH) : Nat → Nat → Int64 := h.2.2.2.1
def oR (h : xH) : Nat → Nat → Option Nat := h.2.2.2.2.1
def oX (h : xH) : Nat := h.2.2.2.2.2.1
def oC (h : xH) : Nat := h.2.2.2.2.2.2.1
def oS (h : xH) : Nat := h.2.2.2.2.2.2.2
def pI (h : xH) (a : Nat) (f : Nat → Int32) : xH := (h.1, h.2.1, va_up h.2.2.1 a f, h.2.2.2)
def pL (h : xH) (a : Nat) (f : Nat → Int64) : xH := (h.1, h.2.1, h.2.2.1, va_up h.2.2.2.1 a f, h.2.2.2.2)
def pR (h : xH) (a : Nat) (f : Nat → Option Nat) : xH := (h.1, h.2.1, h.2.2.1, h.2.2.2.1, va_up h.2.2.2.2.1 a f, h.2.2.2.2.2)
def pO (h : xH) (t n : Nat) : xH := (va_up h.1 (oX h) t, va_up h.2.1 (oX h) n, va_up h.2.2.1 (oX h) (fun _ => 0), va_up h.2.2.2.1 (oX h) (fun _ => 0), va_up h.2.2.2.2.1 (oX h) (fun _ => none), oX h + 1, oC h + 1, oS h + n)
/-! the methods that the pure machine runs: (class, is it <init>, name, code, locals, answer) -/
def mJ0_init : xM := (22, true, yJ0_init, cJ0_init, 1, (Option.none : Option Jvm.ClassFile.FieldType))
def mJ1_init : xM := (23, true, yJ1_init, cJ1_init, 1, (Option.none : Option Jvm.ClassFile.FieldType))
def mJ10_checkIndex : xM := (25, false, yJ10_checkIndex, cJ10_checkIndex, 2, (Option.some Jvm.ClassFile.FieldType.int))
def mJ11_bitCount : xM := (29, false, yJ11_bitCount, cJ11_bitCount, 1, (Option.some Jvm.ClassFile.FieldType.int))
def mJ2_init : xM := (4, true, yJ2_init, cJ2_init, 2, (Option.none : Option Jvm.ClassFile.FieldType))
def mJ2_size : xM := (4, false, yJ2_size, cJ2_size, 1, (Option.some Jvm.ClassFile.FieldType.int))
def mJ2_add : xM := (4, false, yJ2_add, cJ2_add, 2, (Option.some Jvm.ClassFile.FieldType.boolean))
def mJ2_add_2 : xM := (4, false, yJ2_add_2, cJ2_add_2, 4, (Option.none : Option Jvm.ClassFile.FieldType))
def mJ2_grow : xM := (4, false, yJ2_grow, cJ2_grow, 1, (Option.some (Jvm.ClassFile.FieldType.array (Jvm.ClassFile.FieldType.object "java/lang/Object"))))
def mJ2_grow_2 : xM := (4, false, yJ2_grow_2, cJ2_grow_2, 4, (Option.some (Jvm.ClassFile.FieldType.array (Jvm.ClassFile.FieldType.object "java/lang/Object"))))
def mJ2_get : xM := (4, false, yJ2_get, cJ2_get, 2, (Option.some (Jvm.ClassFile.FieldType.object "java/lang/Object")))
def mJ2_elementData : xM := (4, false, yJ2_elementData, cJ2_elementData, 2, (Option.some (Jvm.ClassFile.FieldType.object "java/lang/Object")))
def mJ2_remove : xM := (4, false, yJ2_remove, cJ2_remove, 4, (Option.some (Jvm.ClassFile.FieldType.object "java/lang/Object")))
def mJ2_fastRemove : xM := (4, false, yJ2_fastRemove, cJ2_fastRemove, 4, (Option.none : Option Jvm.ClassFile.FieldType))
def mJ5_checkIndex : xM := (26, false, yJ5_checkIndex, cJ5_checkIndex, 3, (Option.some Jvm.ClassFile.FieldType.int))
def mJ7_newLength : xM := (27, false, yJ7_newLength, cJ7_newLength, 4, (Option.some Jvm.ClassFile.FieldType.int))
def mL_law : xM := (0, false, x, cL_law, 4, (some .boolean))
def mX0_init : xM := (1, true, yX0_init, cX0_init, 1, (Option.none : Option Jvm.ClassFile.FieldType))
def mX0_walks : xM := (1, false, yX0_walks, cX0_walks, 2, (Option.some (Jvm.ClassFile.FieldType.array (Jvm.ClassFile.FieldType.object "FootOut$Walk"))))
def mX0_feed : xM := (1, false, yX0_feed, cX0_feed, 6, (Option.some Jvm.ClassFile.FieldType.int))
def mX0_no : xM := (1, false, yX0_no, cX0_no, 2, (Option.some Jvm.ClassFile.FieldType.int))
def mX0_bytes : xM := (1, false, yX0_bytes, cX0_bytes, 3, (Option.none : Option Jvm.ClassFile.FieldType))
def mX0_text : xM := (1, false, yX0_text, cX0_text, 4, (Option.some Jvm.ClassFile.FieldType.int))
def mX0_in : xM := (1, false, yX0_in, cX0_in, 6, (Option.some Jvm.ClassFile.FieldType.boolean))
def mX0_fault : xM := (1, false, yX0_fault, cX0_fault, 2, (Option.some Jvm.ClassFile.FieldType.int))
def mX0_car : xM := (1, false, yX0_car, cX0_car, 4, (Option.some Jvm.ClassFile.FieldType.int))
def mX0_isCar : xM := (1, false, yX0_isCar, cX0_isCar, 2, (Option.some Jvm.ClassFile.FieldType.boolean))
def mX0_trait : xM := (1, false, yX0_trait, cX0_trait, 4, (Option.some Jvm.ClassFile.FieldType.int))
def mX0_isTrait : xM := (1, false, yX0_isTrait, cX0_isTrait, 1, (Option.some Jvm.ClassFile.FieldType.boolean))
def mX0_set : xM := (1, false, yX0_set, cX0_set, 4, (Option.some Jvm.ClassFile.FieldType.int))
def mX0_chance : xM := (1, false, yX0_chance, cX0_chance, 2, (Option.some Jvm.ClassFile.FieldType.int))
def mX0_has : xM := (1, false, yX0_has, cX0_has, 2, (Option.some Jvm.ClassFile.FieldType.boolean))
def mX0_chanceOf : xM := (1, false, yX0_chanceOf, cX0_chanceOf, 4, (Option.some Jvm.ClassFile.FieldType.int))
def mX0_can : xM := (1, false, yX0_can, cX0_can, 2, (Option.some Jvm.ClassFile.FieldType.int))
def mX0_run : xM := (1, false, yX0_run, cX0_run, 4, (Option.some Jvm.ClassFile.FieldType.int))
def mX0_runs : xM := (1, false, yX0_runs, cX0_runs, 3, (Option.some (Jvm.ClassFile.FieldType.object "FootOut$Walk")))
def mX0_tick : xM := (1, false, yX0_tick, cX0_tick, 4, (Option.none : Option Jvm.ClassFile.FieldType))
def mX0_draw : xM := (1, false, yX0_draw, cX0_draw, 2, (Option.some Jvm.ClassFile.FieldType.int))
def mX0_stopped : xM := (1, false, yX0_stopped, cX0_stopped, 4, (Option.some Jvm.ClassFile.FieldType.int))
def mX0_watch : xM := (1, false, yX0_watch, cX0_watch, 6, (Option.some Jvm.ClassFile.FieldType.int))
def mX0_stands : xM := (1, false, yX0_stands, cX0_stands, 4, (Option.some Jvm.ClassFile.FieldType.int))
def mX0_tries : xM := (1, false, yX0_tries, cX0_tries, 7, (Option.some Jvm.ClassFile.FieldType.int))
def mX0_odds : xM := (1, false, yX0_odds, cX0_odds, 2, (Option.some Jvm.ClassFile.FieldType.long))
def mX0_gathers : xM := (1, false, yX0_gathers, cX0_gathers, 3, (Option.none : Option Jvm.ClassFile.FieldType))
def mX0_forks : xM := (1, false, yX0_forks, cX0_forks, 11, (Option.none : Option Jvm.ClassFile.FieldType))
def mX0_counts : xM := (1, false, yX0_counts, cX0_counts, 7, (Option.none : Option Jvm.ClassFile.FieldType))
def mX0_helps : xM := (1, false, yX0_helps, cX0_helps, 2, (Option.some Jvm.ClassFile.FieldType.long))
def mX0_overBy : xM := (1, false, yX0_overBy, cX0_overBy, 3, (Option.some Jvm.ClassFile.FieldType.long))
def mX0_best : xM := (1, false, yX0_best, cX0_best, 8, (Option.some Jvm.ClassFile.FieldType.int))
def mX0_back : xM := (1, false, yX0_back, cX0_back, 5, (Option.some Jvm.ClassFile.FieldType.int))
def mX0_isAtMost : xM := (1, false, yX0_isAtMost, cX0_isAtMost, 5, (Option.some Jvm.ClassFile.FieldType.boolean))
def mX0_wise : xM := (1, false, yX0_wise, cX0_wise, 8, (Option.some Jvm.ClassFile.FieldType.int))
def mX0_blame : xM := (1, false, yX0_blame, cX0_blame, 3, (Option.some Jvm.ClassFile.FieldType.long))
def mX0_mean : xM := (1, false, yX0_mean, cX0_mean, 2, (Option.some Jvm.ClassFile.FieldType.long))
def mX0_commonOf : xM := (1, false, yX0_commonOf, cX0_commonOf, 4, (Option.some Jvm.ClassFile.FieldType.long))
def mX0_repeals : xM := (1, false, yX0_repeals, cX0_repeals, 8, (Option.some Jvm.ClassFile.FieldType.long))
def mX0_absent : xM := (1, false, yX0_absent, cX0_absent, 5, (Option.some Jvm.ClassFile.FieldType.long))
def mX0_margin : xM := (1, false, yX0_margin, cX0_margin, 4, (Option.some Jvm.ClassFile.FieldType.int))
def mX0_off : xM := (1, false, yX0_off, cX0_off, 4, (Option.some Jvm.ClassFile.FieldType.int))
def mX0_place : xM := (1, false, yX0_place, cX0_place, 6, (Option.some Jvm.ClassFile.FieldType.int))
def mX0_behind : xM := (1, false, yX0_behind, cX0_behind, 4, (Option.some Jvm.ClassFile.FieldType.int))
def mX0_isPlace : xM := (1, false, yX0_isPlace, cX0_isPlace, 2, (Option.some Jvm.ClassFile.FieldType.boolean))
def mX0_at : xM := (1, false, yX0_at, cX0_at, 4, (Option.some Jvm.ClassFile.FieldType.int))
def mX0_rate : xM := (1, false, yX0_rate, cX0_rate, 6, (Option.some Jvm.ClassFile.FieldType.int))
def mX0_common : xM := (1, false, yX0_common, cX0_common, 2, (Option.some Jvm.ClassFile.FieldType.int))
def mX0_parted : xM := (1, false, yX0_parted, cX0_parted, 5, (Option.some Jvm.ClassFile.FieldType.int))
def mX0_above : xM := (1, false, yX0_above, cX0_above, 2, (Option.some Jvm.ClassFile.FieldType.long))
def mX0_sumOf : xM := (1, false, yX0_sumOf, cX0_sumOf, 8, (Option.some Jvm.ClassFile.FieldType.long))
def mX0_below : xM := (1, false, yX0_below, cX0_below, 3, (Option.some Jvm.ClassFile.FieldType.long))
def mX0_worst : xM := (1, false, yX0_worst, cX0_worst, 5, (Option.some Jvm.ClassFile.FieldType.int))
def mX0_worstOf : xM := (1, false, yX0_worstOf, cX0_worstOf, 6, (Option.some Jvm.ClassFile.FieldType.int))
def mX0_fallOf : xM := (1, false, yX0_fallOf, cX0_fallOf, 4, (Option.some Jvm.ClassFile.FieldType.int))
def mX0_matches : xM := (1, false, yX0_matches, cX0_matches, 6, (Option.some Jvm.ClassFile.FieldType.int))
def mX0_apart : xM := (1, false, yX0_apart, cX0_apart, 3, (Option.some Jvm.ClassFile.FieldType.int))
def mX0_ranked : xM := (1, false, yX0_ranked, cX0_ranked, 5, (Option.some Jvm.ClassFile.FieldType.int))
def mX0_isWorse : xM := (1, false, yX0_isWorse, cX0_isWorse, 7, (Option.some Jvm.ClassFile.FieldType.boolean))
def mX0_measure : xM := (1, false, yX0_measure, cX0_measure, 4, (Option.some Jvm.ClassFile.FieldType.int))
def mX0_spent : xM := (1, false, yX0_spent, cX0_spent, 8, (Option.some Jvm.ClassFile.FieldType.int))
def mX0_laysSpent : xM := (1, false, yX0_laysSpent, cX0_laysSpent, 8, (Option.none : Option Jvm.ClassFile.FieldType))
def mX0_spends : xM := (1, false, yX0_spends, cX0_spends, 4, (Option.some Jvm.ClassFile.FieldType.long))
def mX0_leftAt : xM := (1, false, yX0_leftAt, cX0_leftAt, 5, (Option.some Jvm.ClassFile.FieldType.int))
def mX0_costOf : xM := (1, false, yX0_costOf, cX0_costOf, 4, (Option.some Jvm.ClassFile.FieldType.int))
def mX0_fine : xM := (1, false, yX0_fine, cX0_fine, 7, (Option.some Jvm.ClassFile.FieldType.int))
def mX0_until : xM := (1, false, yX0_until, cX0_until, 7, (Option.some Jvm.ClassFile.FieldType.int))
def mX0_lot : xM := (1, false, yX0_lot, cX0_lot, 4, (Option.some Jvm.ClassFile.FieldType.int))
def mX0_spread : xM := (1, false, yX0_spread, cX0_spread, 1, (Option.some Jvm.ClassFile.FieldType.long))
def mX0_shown : xM := (1, false, yX0_shown, cX0_shown, 9, (Option.some Jvm.ClassFile.FieldType.int))
def mX0_cube : xM := (1, false, yX0_cube, cX0_cube, 2, (Option.some Jvm.ClassFile.FieldType.long))
def mX0_clumps : xM := (1, false, yX0_clumps, cX0_clumps, 12, (Option.some Jvm.ClassFile.FieldType.int))
def mX0_isRow : xM := (1, false, yX0_isRow, cX0_isRow, 1, (Option.some Jvm.ClassFile.FieldType.boolean))
def mX0_lamp : xM := (1, false, yX0_lamp, cX0_lamp, 8, (Option.some Jvm.ClassFile.FieldType.int))
def mX0_waste : xM := (1, false, yX0_waste, cX0_waste, 4, (Option.some Jvm.ClassFile.FieldType.long))
def mX0_pay : xM := (1, false, yX0_pay, cX0_pay, 6, (Option.some Jvm.ClassFile.FieldType.int))
def mX0_payAt : xM := (1, false, yX0_payAt, cX0_payAt, 3, (Option.some Jvm.ClassFile.FieldType.int))
def mX0_rests : xM := (1, false, yX0_rests, cX0_rests, 8, (Option.some Jvm.ClassFile.FieldType.int))
def mX0_isContent : xM := (1, false, yX0_isContent, cX0_isContent, 7, (Option.some Jvm.ClassFile.FieldType.boolean))
def mX0_thanks : xM := (1, false, yX0_thanks, cX0_thanks, 9, (Option.some Jvm.ClassFile.FieldType.int))
def mX0_filled : xM := (1, false, yX0_filled, cX0_filled, 4, (Option.some Jvm.ClassFile.FieldType.int))
def mX0_countsFault : xM := (1, false, yX0_countsFault, cX0_countsFault, 3, (Option.some Jvm.ClassFile.FieldType.int))
def mX0_filledAt : xM := (1, false, yX0_filledAt, cX0_filledAt, 5, (Option.some Jvm.ClassFile.FieldType.int))
def mX0_nearest : xM := (1, false, yX0_nearest, cX0_nearest, 5, (Option.some Jvm.ClassFile.FieldType.int))
def mX0_slip : xM := (1, false, yX0_slip, cX0_slip, 9, (Option.some Jvm.ClassFile.FieldType.int))
def mX0_isCounted : xM := (1, false, yX0_isCounted, cX0_isCounted, 2, (Option.some Jvm.ClassFile.FieldType.boolean))
def mX0_slips : xM := (1, false, yX0_slips, cX0_slips, 5, (Option.none : Option Jvm.ClassFile.FieldType))
def mX0_numbers : xM := (1, false, yX0_numbers, cX0_numbers, 4, (Option.some Jvm.ClassFile.FieldType.int))
def mX0_image : xM := (1, false, yX0_image, cX0_image, 2, (Option.some Jvm.ClassFile.FieldType.int))
def mX0_restore : xM := (1, false, yX0_restore, cX0_restore, 2, (Option.some Jvm.ClassFile.FieldType.int))
def mX0_status : xM := (1, false, yX0_status, cX0_status, 2, (Option.some Jvm.ClassFile.FieldType.int))
def mX0_count : xM := (1, false, yX0_count, cX0_count, 2, (Option.some Jvm.ClassFile.FieldType.int))
def mX1_init : xM := (2, true, yX1_init, cX1_init, 1, (Option.none : Option Jvm.ClassFile.FieldType))
def mX1_copy : xM := (2, false, yX1_copy, cX1_copy, 3, (Option.some (Jvm.ClassFile.FieldType.object "FootOut$State")))
def mX10_init : xM := (11, true, yX10_init, cX10_init, 2, (Option.none : Option Jvm.ClassFile.FieldType))
def mX10_is : xM := (11, false, yX10_is, cX10_is, 3, (Option.some Jvm.ClassFile.FieldType.boolean))
def mX11_init : xM := (21, true, yX11_init, cX11_init, 1, (Option.none : Option Jvm.ClassFile.FieldType))
def mX11_is : xM := (21, false, yX11_is, cX11_is, 4, (Option.some Jvm.ClassFile.FieldType.boolean))
def mX12_init : xM := (12, true, yX12_init, cX12_init, 1, (Option.none : Option Jvm.ClassFile.FieldType))
def mX12_isSo : xM := (12, false, yX12_isSo, cX12_isSo, 4, (Option.some Jvm.ClassFile.FieldType.boolean))
def mX13_init : xM := (13, true, yX13_init, cX13_init, 1, (Option.none : Option Jvm.ClassFile.FieldType))
def mX13_isSo : xM := (13, false, yX13_isSo, cX13_isSo, 4, (Option.some Jvm.ClassFile.FieldType.boolean))
def mX14_init : xM := (14, true, yX14_init, cX14_init, 1, (Option.none : Option Jvm.ClassFile.FieldType))
def mX14_isSo : xM := (14, false, yX14_isSo, cX14_isSo, 4, (Option.some Jvm.ClassFile.FieldType.boolean))
def mX15_init : xM := (15, true, yX15_init, cX15_init, 1, (Option.none : Option Jvm.ClassFile.FieldType))
def mX15_is : xM := (15, false, yX15_is, cX15_is, 3, (Option.some Jvm.ClassFile.FieldType.boolean))
def mX16_init : xM := (16, true, yX16_init, cX16_init, 3, (Option.none : Option Jvm.ClassFile.FieldType))
def mX16_is : xM := (16, false, yX16_is, cX16_is, 3, (Option.some Jvm.ClassFile.FieldType.boolean))
def mX17_init : xM := (17, true, yX17_init, cX17_init, 4, (Option.none : Option Jvm.ClassFile.FieldType))
def mX17_is : xM := (17, false, yX17_is, cX17_is, 3, (Option.some Jvm.ClassFile.FieldType.boolean))
def mX18_init : xM := (18, true, yX18_init, cX18_init, 3, (Option.none : Option Jvm.ClassFile.FieldType))
def mX19_init : xM := (19, true, yX19_init, cX19_init, 6, (Option.none : Option Jvm.ClassFile.FieldType))
def mX19_hurt : xM := (19, false, yX19_hurt, cX19_hurt, 1, (Option.some Jvm.ClassFile.FieldType.int))
def mX19_crossing : xM := (19, false, yX19_crossing, cX19_crossing, 1, (Option.some Jvm.ClassFile.FieldType.int))
def mX19_fall : xM := (19, false, yX19_fall, cX19_fall, 1, (Option.some Jvm.ClassFile.FieldType.int))
def mX19_copy : xM := (19, false, yX19_copy, cX19_copy, 2, (Option.some (Jvm.ClassFile.FieldType.object "FootOut$Place")))
def mX2_init : xM := (3, true, yX2_init, cX2_init, 1, (Option.none : Option Jvm.ClassFile.FieldType))
def mX2_get : xM := (3, false, yX2_get, cX2_get, 2, (Option.some Jvm.ClassFile.FieldType.int))
def mX2_put : xM := (3, false, yX2_put, cX2_put, 3, (Option.none : Option Jvm.ClassFile.FieldType))
def mX2_pace : xM := (3, false, yX2_pace, cX2_pace, 2, (Option.some Jvm.ClassFile.FieldType.int))
def mX2_copy : xM := (3, false, yX2_copy, cX2_copy, 3, (Option.some (Jvm.ClassFile.FieldType.object "FootOut$Scene")))
def mX3_init : xM := (5, true, yX3_init, cX3_init, 1, (Option.none : Option Jvm.ClassFile.FieldType))
def mX3_begins : xM := (5, false, yX3_begins, cX3_begins, 3, (Option.some (Jvm.ClassFile.FieldType.object "FootOut$Walk")))
def mX3_many : xM := (5, false, yX3_many, cX3_many, 1, (Option.some Jvm.ClassFile.FieldType.int))
def mX3_car : xM := (5, false, yX3_car, cX3_car, 2, (Option.some (Jvm.ClassFile.FieldType.object "FootOut$Car")))
def mX3_can : xM := (5, false, yX3_can, cX3_can, 2, (Option.some Jvm.ClassFile.FieldType.boolean))
def mX3_isAsked : xM := (5, false, yX3_isAsked, cX3_isAsked, 2, (Option.some Jvm.ClassFile.FieldType.boolean))
def mX3_goesOn : xM := (5, false, yX3_goesOn, cX3_goesOn, 5, (Option.none : Option Jvm.ClassFile.FieldType))
def mX3_isFree : xM := (5, false, yX3_isFree, cX3_isFree, 2, (Option.some Jvm.ClassFile.FieldType.boolean))
def mX3_isHidden : xM := (5, false, yX3_isHidden, cX3_isHidden, 3, (Option.some Jvm.ClassFile.FieldType.boolean))
def mX3_isAtKerb : xM := (5, false, yX3_isAtKerb, cX3_isAtKerb, 1, (Option.some Jvm.ClassFile.FieldType.boolean))
def mX3_moves : xM := (5, false, yX3_moves, cX3_moves, 5, (Option.some Jvm.ClassFile.FieldType.int))
def mX3_nearest : xM := (5, false, yX3_nearest, cX3_nearest, 4, (Option.some Jvm.ClassFile.FieldType.int))
def mX3_goes : xM := (5, false, yX3_goes, cX3_goes, 5, (Option.none : Option Jvm.ClassFile.FieldType))
def mX3_crosses : xM := (5, false, yX3_crosses, cX3_crosses, 2, (Option.none : Option Jvm.ClassFile.FieldType))
def mX3_be : xM := (5, false, yX3_be, cX3_be, 3, (Option.none : Option Jvm.ClassFile.FieldType))
def mX4_init : xM := (6, true, yX4_init, cX4_init, 1, (Option.none : Option Jvm.ClassFile.FieldType))
def mX4_many : xM := (6, false, yX4_many, cX4_many, 1, (Option.some Jvm.ClassFile.FieldType.int))
def mX4_number : xM := (6, false, yX4_number, cX4_number, 2, (Option.some Jvm.ClassFile.FieldType.long))
def mX5_init : xM := (7, true, yX5_init, cX5_init, 2, (Option.none : Option Jvm.ClassFile.FieldType))
def mX5_plain : xM := (7, false, yX5_plain, cX5_plain, 2, (Option.none : Option Jvm.ClassFile.FieldType))
def mX5_feed : xM := (7, false, yX5_feed, cX5_feed, 8, (Option.some Jvm.ClassFile.FieldType.int))
def mX5_no : xM := (7, false, yX5_no, cX5_no, 2, (Option.some Jvm.ClassFile.FieldType.int))
def mX5_text : xM := (7, false, yX5_text, cX5_text, 6, (Option.some Jvm.ClassFile.FieldType.int))
def mX5_within : xM := (7, false, yX5_within, cX5_within, 6, (Option.some Jvm.ClassFile.FieldType.boolean))
def mX5_next : xM := (7, false, yX5_next, cX5_next, 1, (Option.none : Option Jvm.ClassFile.FieldType))
def mX5_see : xM := (7, false, yX5_see, cX5_see, 2, (Option.some Jvm.ClassFile.FieldType.int))
def mX5_isSmall : xM := (7, false, yX5_isSmall, cX5_isSmall, 1, (Option.some Jvm.ClassFile.FieldType.boolean))
def mX5_keyAt : xM := (7, false, yX5_keyAt, cX5_keyAt, 4, (Option.some Jvm.ClassFile.FieldType.int))
def mX5_isDigit : xM := (7, false, yX5_isDigit, cX5_isDigit, 1, (Option.some Jvm.ClassFile.FieldType.boolean))
def mX5_readLine : xM := (7, false, yX5_readLine, cX5_readLine, 1, (Option.none : Option Jvm.ClassFile.FieldType))
def mX5_eats : xM := (7, false, yX5_eats, cX5_eats, 2, (Option.some Jvm.ClassFile.FieldType.boolean))
def mX5_is : xM := (7, false, yX5_is, cX5_is, 2, (Option.some Jvm.ClassFile.FieldType.boolean))
def mX5_lanesNeeded : xM := (7, false, yX5_lanesNeeded, cX5_lanesNeeded, 3, (Option.some Jvm.ClassFile.FieldType.int))
def mX5_takes : xM := (7, false, yX5_takes, cX5_takes, 4, (Option.some Jvm.ClassFile.FieldType.int))
def mX5_fails : xM := (7, false, yX5_fails, cX5_fails, 2, (Option.none : Option Jvm.ClassFile.FieldType))
def mX5_readCar : xM := (7, false, yX5_readCar, cX5_readCar, 2, (Option.none : Option Jvm.ClassFile.FieldType))
def mX5_needs : xM := (7, false, yX5_needs, cX5_needs, 2, (Option.none : Option Jvm.ClassFile.FieldType))
def mX5_readTrait : xM := (7, false, yX5_readTrait, cX5_readTrait, 1, (Option.none : Option Jvm.ClassFile.FieldType))
def mX5_readLaw : xM := (7, false, yX5_readLaw, cX5_readLaw, 2, (Option.none : Option Jvm.ClassFile.FieldType))
def mX5_readTest : xM := (7, false, yX5_readTest, cX5_readTest, 1, (Option.none : Option Jvm.ClassFile.FieldType))
def mX5_readPart : xM := (7, false, yX5_readPart, cX5_readPart, 1, (Option.none : Option Jvm.ClassFile.FieldType))
def mX5_readFact : xM := (7, false, yX5_readFact, cX5_readFact, 3, (Option.none : Option Jvm.ClassFile.FieldType))
def mX5_emit : xM := (7, false, yX5_emit, cX5_emit, 3, (Option.none : Option Jvm.ClassFile.FieldType))
def mX5_fault : xM := (7, false, yX5_fault, cX5_fault, 2, (Option.some Jvm.ClassFile.FieldType.int))
def mX5_car : xM := (7, false, yX5_car, cX5_car, 3, (Option.some Jvm.ClassFile.FieldType.int))
def mX5_isCar : xM := (7, false, yX5_isCar, cX5_isCar, 2, (Option.some Jvm.ClassFile.FieldType.boolean))
def mX5_trait : xM := (7, false, yX5_trait, cX5_trait, 4, (Option.some Jvm.ClassFile.FieldType.int))
def mX5_set : xM := (7, false, yX5_set, cX5_set, 4, (Option.some Jvm.ClassFile.FieldType.int))
def mX5_chance : xM := (7, false, yX5_chance, cX5_chance, 2, (Option.some Jvm.ClassFile.FieldType.int))
def mX5_begins : xM := (7, false, yX5_begins, cX5_begins, 3, (Option.none : Option Jvm.ClassFile.FieldType))
def mX5_hasTrait : xM := (7, false, yX5_hasTrait, cX5_hasTrait, 2, (Option.some Jvm.ClassFile.FieldType.boolean))
def mX5_stopsBy : xM := (7, false, yX5_stopsBy, cX5_stopsBy, 3, (Option.some Jvm.ClassFile.FieldType.int))
def mX5_isSo : xM := (7, false, yX5_isSo, cX5_isSo, 6, (Option.some Jvm.ClassFile.FieldType.boolean))
def mX5_fact : xM := (7, false, yX5_fact, cX5_fact, 5, (Option.some Jvm.ClassFile.FieldType.boolean))
def mX5_isSome : xM := (7, false, yX5_isSome, cX5_isSome, 8, (Option.some Jvm.ClassFile.FieldType.boolean))
def mX5_can : xM := (7, false, yX5_can, cX5_can, 2, (Option.some Jvm.ClassFile.FieldType.int))
def mX5_canStop : xM := (7, false, yX5_canStop, cX5_canStop, 2, (Option.some Jvm.ClassFile.FieldType.boolean))
def mX5_run : xM := (7, false, yX5_run, cX5_run, 3, (Option.some Jvm.ClassFile.FieldType.int))
def mX5_runs : xM := (7, false, yX5_runs, cX5_runs, 3, (Option.none : Option Jvm.ClassFile.FieldType))
def mX5_decides : xM := (7, false, yX5_decides, cX5_decides, 4, (Option.some Jvm.ClassFile.FieldType.int))
def mX5_ticks : xM := (7, false, yX5_ticks, cX5_ticks, 1, (Option.none : Option Jvm.ClassFile.FieldType))
def mX5_isFree : xM := (7, false, yX5_isFree, cX5_isFree, 3, (Option.some Jvm.ClassFile.FieldType.boolean))
def mX5_isHidden : xM := (7, false, yX5_isHidden, cX5_isHidden, 3, (Option.some Jvm.ClassFile.FieldType.boolean))
def mX5_carsGo : xM := (7, false, yX5_carsGo, cX5_carsGo, 5, (Option.none : Option Jvm.ClassFile.FieldType))
def mX5_goesOn : xM := (7, false, yX5_goesOn, cX5_goesOn, 6, (Option.none : Option Jvm.ClassFile.FieldType))
def mX5_stopped : xM := (7, false, yX5_stopped, cX5_stopped, 3, (Option.some Jvm.ClassFile.FieldType.int))
def mX5_watch : xM := (7, false, yX5_watch, cX5_watch, 5, (Option.some Jvm.ClassFile.FieldType.int))
def mX5_none : xM := (7, false, yX5_none, cX5_none, 2, (Option.some Jvm.ClassFile.FieldType.int))
def mX5_stands : xM := (7, false, yX5_stands, cX5_stands, 3, (Option.some Jvm.ClassFile.FieldType.int))
def mX5_tries : xM := (7, false, yX5_tries, cX5_tries, 6, (Option.some Jvm.ClassFile.FieldType.int))
def mX5_odds : xM := (7, false, yX5_odds, cX5_odds, 2, (Option.some Jvm.ClassFile.FieldType.long))
def mX5_worksOdds : xM := (7, false, yX5_worksOdds, cX5_worksOdds, 2, (Option.none : Option Jvm.ClassFile.FieldType))
def mX5_allParts : xM := (7, false, yX5_allParts, cX5_allParts, 4, (Option.some Jvm.ClassFile.FieldType.long))
def mX5_branches : xM := (7, false, yX5_branches, cX5_branches, 7, (Option.none : Option Jvm.ClassFile.FieldType))
def mX5_helps : xM := (7, false, yX5_helps, cX5_helps, 4, (Option.some Jvm.ClassFile.FieldType.long))
def mX5_overIf : xM := (7, false, yX5_overIf, cX5_overIf, 3, (Option.some Jvm.ClassFile.FieldType.long))
def mX5_best : xM := (7, false, yX5_best, cX5_best, 8, (Option.some Jvm.ClassFile.FieldType.int))
def mX5_bitsOf : xM := (7, false, yX5_bitsOf, cX5_bitsOf, 3, (Option.some Jvm.ClassFile.FieldType.int))
def mX5_back : xM := (7, false, yX5_back, cX5_back, 8, (Option.some Jvm.ClassFile.FieldType.int))
def mX5_wise : xM := (7, false, yX5_wise, cX5_wise, 8, (Option.some Jvm.ClassFile.FieldType.int))
def mX5_blame : xM := (7, false, yX5_blame, cX5_blame, 3, (Option.some Jvm.ClassFile.FieldType.long))
def mX5_mean : xM := (7, false, yX5_mean, cX5_mean, 4, (Option.some Jvm.ClassFile.FieldType.long))
def mX5_common : xM := (7, false, yX5_common, cX5_common, 10, (Option.some Jvm.ClassFile.FieldType.long))
def mX5_repeals : xM := (7, false, yX5_repeals, cX5_repeals, 4, (Option.some Jvm.ClassFile.FieldType.long))
def mX5_absent : xM := (7, false, yX5_absent, cX5_absent, 4, (Option.some Jvm.ClassFile.FieldType.long))
def mX5_margin : xM := (7, false, yX5_margin, cX5_margin, 4, (Option.some Jvm.ClassFile.FieldType.int))
def mX5_place : xM := (7, false, yX5_place, cX5_place, 7, (Option.some Jvm.ClassFile.FieldType.int))
def mX5_behind : xM := (7, false, yX5_behind, cX5_behind, 4, (Option.some Jvm.ClassFile.FieldType.int))
def mX5_isPlace : xM := (7, false, yX5_isPlace, cX5_isPlace, 2, (Option.some Jvm.ClassFile.FieldType.boolean))
def mX5_at : xM := (7, false, yX5_at, cX5_at, 3, (Option.some Jvm.ClassFile.FieldType.int))
def mX5_rate : xM := (7, false, yX5_rate, cX5_rate, 10, (Option.some Jvm.ClassFile.FieldType.int))
def mX5_sumOf : xM := (7, false, yX5_sumOf, cX5_sumOf, 6, (Option.some Jvm.ClassFile.FieldType.long))
def mX5_parted : xM := (7, false, yX5_parted, cX5_parted, 5, (Option.some Jvm.ClassFile.FieldType.int))
def mX5_partedAbove : xM := (7, false, yX5_partedAbove, cX5_partedAbove, 10, (Option.some Jvm.ClassFile.FieldType.long))
def mX5_partedBelow : xM := (7, false, yX5_partedBelow, cX5_partedBelow, 6, (Option.some Jvm.ClassFile.FieldType.long))
def mX5_worst : xM := (7, false, yX5_worst, cX5_worst, 4, (Option.some Jvm.ClassFile.FieldType.int))
def mX5_worstOf : xM := (7, false, yX5_worstOf, cX5_worstOf, 6, (Option.some Jvm.ClassFile.FieldType.int))
def mX5_hurtAt : xM := (7, false, yX5_hurtAt, cX5_hurtAt, 2, (Option.some Jvm.ClassFile.FieldType.int))
def mX5_fallOf : xM := (7, false, yX5_fallOf, cX5_fallOf, 4, (Option.some Jvm.ClassFile.FieldType.int))
def mX5_matchesOf : xM := (7, false, yX5_matchesOf, cX5_matchesOf, 8, (Option.some Jvm.ClassFile.FieldType.int))
def mX5_ranked : xM := (7, false, yX5_ranked, cX5_ranked, 5, (Option.some Jvm.ClassFile.FieldType.int))
def mX5_isWorse : xM := (7, false, yX5_isWorse, cX5_isWorse, 11, (Option.some Jvm.ClassFile.FieldType.boolean))
def mX5_measure : xM := (7, false, yX5_measure, cX5_measure, 4, (Option.some Jvm.ClassFile.FieldType.int))
def mX5_spent : xM := (7, false, yX5_spent, cX5_spent, 6, (Option.some Jvm.ClassFile.FieldType.int))
def mX5_laysSpent : xM := (7, false, yX5_laysSpent, cX5_laysSpent, 9, (Option.none : Option Jvm.ClassFile.FieldType))
def mX5_costOf : xM := (7, false, yX5_costOf, cX5_costOf, 4, (Option.some Jvm.ClassFile.FieldType.int))
def mX5_leftOf : xM := (7, false, yX5_leftOf, cX5_leftOf, 5, (Option.some Jvm.ClassFile.FieldType.int))
def mX5_isBest : xM := (7, false, yX5_isBest, cX5_isBest, 5, (Option.some Jvm.ClassFile.FieldType.boolean))
def mX5_fine : xM := (7, false, yX5_fine, cX5_fine, 7, (Option.some Jvm.ClassFile.FieldType.int))
def mX5_until : xM := (7, false, yX5_until, cX5_until, 7, (Option.some Jvm.ClassFile.FieldType.int))
def mX5_lot : xM := (7, false, yX5_lot, cX5_lot, 8, (Option.some Jvm.ClassFile.FieldType.int))
def mX5_shown : xM := (7, false, yX5_shown, cX5_shown, 9, (Option.some Jvm.ClassFile.FieldType.int))
def mX5_clumps : xM := (7, false, yX5_clumps, cX5_clumps, 12, (Option.some Jvm.ClassFile.FieldType.int))
def mX5_lamp : xM := (7, false, yX5_lamp, cX5_lamp, 12, (Option.some Jvm.ClassFile.FieldType.int))
def mX5_pay : xM := (7, false, yX5_pay, cX5_pay, 6, (Option.some Jvm.ClassFile.FieldType.int))
def mX5_payAt : xM := (7, false, yX5_payAt, cX5_payAt, 4, (Option.some Jvm.ClassFile.FieldType.int))
def mX5_rests : xM := (7, false, yX5_rests, cX5_rests, 8, (Option.some Jvm.ClassFile.FieldType.int))
def mX5_isRest : xM := (7, false, yX5_isRest, cX5_isRest, 7, (Option.some Jvm.ClassFile.FieldType.boolean))
def mX5_thanks : xM := (7, false, yX5_thanks, cX5_thanks, 9, (Option.some Jvm.ClassFile.FieldType.int))
def mX5_filled : xM := (7, false, yX5_filled, cX5_filled, 3, (Option.some Jvm.ClassFile.FieldType.int))
def mX5_isTooMuch : xM := (7, false, yX5_isTooMuch, cX5_isTooMuch, 3, (Option.some Jvm.ClassFile.FieldType.boolean))
def mX5_hereIn : xM := (7, false, yX5_hereIn, cX5_hereIn, 4, (Option.some Jvm.ClassFile.FieldType.int))
def mX5_filledAt : xM := (7, false, yX5_filledAt, cX5_filledAt, 9, (Option.some Jvm.ClassFile.FieldType.int))
def mX5_slip : xM := (7, false, yX5_slip, cX5_slip, 14, (Option.some Jvm.ClassFile.FieldType.int))
def mX5_isRow : xM := (7, false, yX5_isRow, cX5_isRow, 2, (Option.some Jvm.ClassFile.FieldType.boolean))
def mX5_numbers : xM := (7, false, yX5_numbers, cX5_numbers, 5, (Option.some Jvm.ClassFile.FieldType.int))
def mX5_write : xM := (7, false, yX5_write, cX5_write, 5, (Option.some Jvm.ClassFile.FieldType.long))
def mX5_cut : xM := (7, false, yX5_cut, cX5_cut, 3, (Option.some Jvm.ClassFile.FieldType.long))
def mX5_image : xM := (7, false, yX5_image, cX5_image, 3, (Option.some Jvm.ClassFile.FieldType.int))
def mX5_restore : xM := (7, false, yX5_restore, cX5_restore, 3, (Option.some Jvm.ClassFile.FieldType.int))
def mX5_status : xM := (7, false, yX5_status, cX5_status, 2, (Option.some Jvm.ClassFile.FieldType.int))
def mX5_count : xM := (7, false, yX5_count, cX5_count, 2, (Option.some Jvm.ClassFile.FieldType.int))
def mX6_init : xM := (8, true, yX6_init, cX6_init, 3, (Option.none : Option Jvm.ClassFile.FieldType))
def mX6_scene : xM := (8, false, yX6_scene, cX6_scene, 1, (Option.none : Option Jvm.ClassFile.FieldType))
def mX6_next : xM := (8, false, yX6_next, cX6_next, 2, (Option.none : Option Jvm.ClassFile.FieldType))
def mX6_see : xM := (8, false, yX6_see, cX6_see, 2, (Option.some Jvm.ClassFile.FieldType.int))
def mX6_isSmall : xM := (8, false, yX6_isSmall, cX6_isSmall, 2, (Option.some Jvm.ClassFile.FieldType.boolean))
def mX6_isDigit : xM := (8, false, yX6_isDigit, cX6_isDigit, 2, (Option.some Jvm.ClassFile.FieldType.boolean))
def mX6_line : xM := (8, false, yX6_line, cX6_line, 1, (Option.none : Option Jvm.ClassFile.FieldType))
def mX6_is : xM := (8, false, yX6_is, cX6_is, 3, (Option.some Jvm.ClassFile.FieldType.boolean))
def mX6_car : xM := (8, false, yX6_car, cX6_car, 5, (Option.none : Option Jvm.ClassFile.FieldType))
def mX6_space : xM := (8, false, yX6_space, cX6_space, 2, (Option.none : Option Jvm.ClassFile.FieldType))
def mX6_wrong : xM := (8, false, yX6_wrong, cX6_wrong, 2, (Option.none : Option Jvm.ClassFile.FieldType))
def mX6_number : xM := (8, false, yX6_number, cX6_number, 4, (Option.some Jvm.ClassFile.FieldType.int))
def mX6_told : xM := (8, false, yX6_told, cX6_told, 4, (Option.some Jvm.ClassFile.FieldType.int))
def mX6_takes : xM := (8, false, yX6_takes, cX6_takes, 2, (Option.some Jvm.ClassFile.FieldType.boolean))
def mX6_leastLanes : xM := (8, false, yX6_leastLanes, cX6_leastLanes, 3, (Option.some Jvm.ClassFile.FieldType.int))
def mX6_traitLine : xM := (8, false, yX6_traitLine, cX6_traitLine, 2, (Option.none : Option Jvm.ClassFile.FieldType))
def mX6_trait : xM := (8, false, yX6_trait, cX6_trait, 1, (Option.some Jvm.ClassFile.FieldType.int))
def mX6_over : xM := (8, false, yX6_over, cX6_over, 1, (Option.none : Option Jvm.ClassFile.FieldType))
def mX6_law : xM := (8, false, yX6_law, cX6_law, 3, (Option.none : Option Jvm.ClassFile.FieldType))
def mX6_some : xM := (8, false, yX6_some, cX6_some, 2, (Option.some (Jvm.ClassFile.FieldType.object "FootOut$Fact")))
def mX6_all : xM := (8, false, yX6_all, cX6_all, 2, (Option.some (Jvm.ClassFile.FieldType.object "FootOut$Fact")))
def mX6_fact : xM := (8, false, yX6_fact, cX6_fact, 2, (Option.some (Jvm.ClassFile.FieldType.object "FootOut$Fact")))
def mX6_opens : xM := (8, false, yX6_opens, cX6_opens, 1, (Option.none : Option Jvm.ClassFile.FieldType))
def mX6_own : xM := (8, false, yX6_own, cX6_own, 2, (Option.some (Jvm.ClassFile.FieldType.object "FootOut$Fact")))
def mX7_init : xM := (9, true, yX7_init, cX7_init, 5, (Option.none : Option Jvm.ClassFile.FieldType))
def mX8_init : xM := (20, true, yX8_init, cX8_init, 1, (Option.none : Option Jvm.ClassFile.FieldType))
def mX9_init : xM := (10, true, yX9_init, cX9_init, 2, (Option.none : Option Jvm.ClassFile.FieldType))
def mX9_is : xM := (10, false, yX9_is, cX9_is, 3, (Option.some Jvm.ClassFile.FieldType.boolean))
/-! what the constant pools' entries mean to the pure machine -/
def xF_1 : List (Nat × Nat × Nat × Nat) := [(10, (1, 0, 2)), (16, (1, 1, 12)), (20, (1, 2, 12)), (24, (1, 3, 12)), (28, (1, 6, 0)), (35, (1, 7, 12)), (43, (1, 9, 12)), (47, (1, 10, 12)), (51, (1, 11, 12)), (54, (1, 12, 12)), (57, (1, 13, 12)), (60, (1, 14, 12)), (66, (1, 17, 12)), (70, (1, 4, 0)), (96, (8, 8, 0)), (99, (1, 5, 0)), (102, (8, 9, 0)), (105, (8, 2, 12)), (108, (2, 1, 2)), (115, (8, 1, 12)), (118, (2, 0, 2)), (119, (3, 7, 0)), (124, (3, 0, 12)), (139, (9, 0, 10)), (142, (9, 1, 10)), (145, (9, 2, 10)), (148, (9, 3, 10)), (156, (3, 2, 0)), (175, (18, 1, 12)), (185, (18, 0, 10)), (200, (1, 8, 0)), (209, (5, 2, 12)), (218, (5, 10, 0)), (221, (5, 9, 0)), (234, (5, 12, 0)), (237, (5, 11, 0)), (244, (5, 8, 0)), (249, (5, 0, 12)), (251, (5, 1, 12)), (253, (5, 3, 12)), (257, (5, 6, 0)), (260, (5, 7, 0)), (291, (3, 3, 0)), (328, (2, 2, 12)), (343, (19, 3, 0)), (346, (19, 0, 13)), (350, (19, 1, 12)), (353, (19, 2, 12)), (406, (2, 3, 12)), (409, (2, 4, 12)), (445, (6, 0, 2)), (461, (2, 5, 12)), (485, (1, 15, 1)), (489, (1, 16, 0)), (512, (3, 1, 0))]
def xF_2 : List (Nat × Nat × Nat × Nat) := [(12, (2, 0, 2)), (23, (2, 1, 2)), (27, (2, 2, 12)), (30, (2, 3, 12)), (34, (2, 4, 12)), (37, (2, 5, 12))]
def xF_3 : List (Nat × Nat × Nat × Nat) := [(14, (3, 0, 12)), (20, (3, 1, 0)), (24, (3, 4, 0)), (27, (3, 5, 0)), (30, (3, 6, 0)), (48, (3, 2, 0)), (51, (3, 3, 0)), (54, (3, 7, 0)), (61, (9, 2, 10))]
def xF_4 : List (Nat × Nat × Nat × Nat) := [(9, (4, 1, 2)), (48, (4, 2, 0)), (63, (4, 0, 0))]
def xF_5 : List (Nat × Nat × Nat × Nat) := [(9, (5, 0, 12)), (15, (5, 1, 12)), (18, (5, 2, 12)), (21, (5, 3, 12)), (25, (5, 4, 12)), (28, (5, 5, 2)), (32, (5, 6, 0)), (36, (5, 7, 0)), (39, (5, 8, 0)), (42, (5, 9, 0)), (45, (5, 10, 0)), (48, (5, 11, 0)), (51, (5, 12, 0)), (62, (9, 1, 10)), (71, (3, 0, 12)), (84, (3, 6, 0)), (91, (3, 3, 0)), (94, (9, 0, 10)), (97, (9, 3, 10)), (106, (3, 4, 0)), (116, (3, 5, 0)), (119, (3, 2, 0)), (126, (3, 1, 0))]
def xF_6 : List (Nat × Nat × Nat × Nat) := [(7, (6, 0, 2))]
def xF_7 : List (Nat × Nat × Nat × Nat) := [(1, (7, 0, 0)), (7, (7, 1, 12)), (17, (7, 2, 12)), (20, (7, 3, 12)), (24, (7, 4, 12)), (27, (7, 5, 12)), (30, (7, 17, 0)), (33, (7, 18, 12)), (36, (7, 19, 12)), (39, (7, 20, 12)), (42, (7, 21, 0)), (45, (7, 22, 0)), (48, (7, 24, 12)), (51, (7, 25, 12)), (54, (7, 27, 12)), (58, (7, 28, 12)), (61, (7, 29, 12)), (64, (7, 30, 12)), (67, (7, 31, 12)), (70, (7, 32, 12)), (73, (7, 33, 12)), (76, (7, 34, 12)), (79, (7, 35, 12)), (86, (7, 6, 0)), (93, (7, 9, 0)), (108, (7, 7, 0)), (111, (7, 8, 0)), (117, (7, 10, 0)), (130, (7, 11, 0)), (133, (7, 12, 0)), (136, (7, 13, 0)), (176, (7, 15, 0)), (189, (7, 14, 0)), (207, (7, 16, 0)), (249, (7, 23, 0)), (256, (7, 26, 0))]
def xF_8 : List (Nat × Nat × Nat × Nat) := [(3, (8, 10, 12)), (18, (8, 1, 12)), (27, (8, 2, 12)), (31, (8, 9, 0)), (35, (8, 0, 10)), (38, (1, 3, 12)), (58, (8, 3, 0)), (61, (8, 4, 0)), (64, (8, 5, 0)), (74, (8, 6, 0)), (77, (8, 8, 0)), (129, (3, 7, 0)), (132, (3, 0, 12)), (143, (9, 0, 10)), (160, (3, 1, 0)), (163, (3, 3, 0)), (167, (3, 4, 0)), (171, (3, 5, 0)), (175, (3, 6, 0)), (183, (3, 2, 0)), (234, (8, 7, 0))]
def xF_9 : List (Nat × Nat × Nat × Nat) := [(7, (9, 0, 10)), (13, (9, 1, 10)), (16, (9, 2, 10)), (19, (9, 3, 10))]
def xF_10 : List (Nat × Nat × Nat × Nat) := [(7, (10, 0, 12))]
def xF_11 : List (Nat × Nat × Nat × Nat) := [(7, (11, 0, 10)), (13, (5, 5, 2)), (19, (3, 2, 0))]
def xF_12 : List (Nat × Nat × Nat × Nat) := [(15, (9, 0, 10)), (21, (5, 0, 12)), (25, (5, 2, 12))]
def xF_13 : List (Nat × Nat × Nat × Nat) := [(15, (9, 0, 10)), (27, (5, 2, 12))]
def xF_14 : List (Nat × Nat × Nat × Nat) := [(15, (9, 0, 10)), (21, (5, 0, 12)), (25, (5, 2, 12))]
def xF_15 : List (Nat × Nat × Nat × Nat) := [(7, (5, 6, 0)), (13, (5, 7, 0))]
def xF_16 : List (Nat × Nat × Nat × Nat) := [(7, (16, 0, 10)), (13, (16, 1, 10)), (16, (5, 0, 12)), (22, (5, 1, 12)), (29, (9, 0, 10)), (34, (9, 3, 10))]
def xF_17 : List (Nat × Nat × Nat × Nat) := [(7, (17, 0, 13)), (13, (17, 1, 12)), (17, (17, 2, 12))]
def xF_18 : List (Nat × Nat × Nat × Nat) := [(7, (18, 0, 10)), (13, (18, 1, 12))]
def xF_19 : List (Nat × Nat × Nat × Nat) := [(7, (19, 0, 13)), (13, (19, 1, 12)), (17, (19, 2, 12)), (23, (19, 3, 0))]
def xF_21 : List (Nat × Nat × Nat × Nat) := [(13, (5, 0, 12))]
def xF_23 : List (Nat × Nat × Nat × Nat) := [(7, (4, 0, 0))]
def xF (a k : Nat) : Option (Nat × Nat × Nat) := match a with
  | 1 => xlk xF_1 k
  | 2 => xlk xF_2 k
  | 3 => xlk xF_3 k
  | 4 => xlk xF_4 k
  | 5 => xlk xF_5 k
  | 6 => xlk xF_6 k
  | 7 => xlk xF_7 k
  | 8 => xlk xF_8 k
  | 9 => xlk xF_9 k
  | 10 => xlk xF_10 k
  | 11 => xlk xF_11 k
  | 12 => xlk xF_12 k
  | 13 => xlk xF_13 k
  | 14 => xlk xF_14 k
  | 15 => xlk xF_15 k
  | 16 => xlk xF_16 k
  | 17 => xlk xF_17 k
  | 18 => xlk xF_18 k
  | 19 => xlk xF_19 k
  | 21 => xlk xF_21 k
  | 23 => xlk xF_23 k
  | _ => none
def xV_0 : List (Nat × Nat × List (Nat × (xM ⊕ Nat))) := [(13, (5, [(1, .inl mX0_feed)])), (17, (5, [(7, .inl mX5_feed)])), (18, (2, [(1, .inl mX0_text)])), (22, (2, [(7, .inl mX5_text)])), (23, (1, [(1, .inl mX0_fault)])), (27, (1, [(7, .inl mX5_fault)])), (28, (2, [(1, .inl mX0_car)])), (31, (2, [(7, .inl mX5_car)])), (32, (2, [(1, .inl mX0_trait)])), (36, (2, [(7, .inl mX5_trait)])), (37, (2, [(1, .inl mX0_set)])), (40, (2, [(7, .inl mX5_set)])), (41, (1, [(1, .inl mX0_chance)])), (44, (1, [(7, .inl mX5_chance)])), (45, (1, [(1, .inl mX0_can)])), (48, (1, [(7, .inl mX5_can)])), (49, (2, [(1, .inl mX0_run)])), (52, (2, [(7, .inl mX5_run)])), (53, (4, [(1, .inl mX0_watch)])), (57, (4, [(7, .inl mX5_watch)])), (58, (2, [(1, .inl mX0_stands)])), (61, (2, [(7, .inl mX5_stands)])), (62, (3, [(1, .inl mX0_tries)])), (66, (3, [(7, .inl mX5_tries)])), (67, (1, [(1, .inl mX0_odds)])), (71, (1, [(7, .inl mX5_odds)])), (72, (1, [(1, .inl mX0_helps)])), (75, (1, [(7, .inl mX5_helps)])), (76, (1, [(1, .inl mX0_best)])), (79, (1, [(7, .inl mX5_best)])), (80, (1, [(1, .inl mX0_back)])), (83, (1, [(7, .inl mX5_back)])), (84, (1, [(1, .inl mX0_wise)])), (87, (1, [(7, .inl mX5_wise)])), (88, (2, [(1, .inl mX0_blame)])), (92, (2, [(7, .inl mX5_blame)])), (93, (1, [(1, .inl mX0_mean)])), (96, (1, [(7, .inl mX5_mean)])), (97, (1, [(1, .inl mX0_repeals)])), (100, (1, [(7, .inl mX5_repeals)])), (101, (1, [(1, .inl mX0_absent)])), (104, (1, [(7, .inl mX5_absent)])), (105, (1, [(1, .inl mX0_margin)])), (108, (1, [(7, .inl mX5_margin)])), (109, (5, [(1, .inl mX0_place)])), (113, (5, [(7, .inl mX5_place)])), (114, (2, [(1, .inl mX0_behind)])), (117, (2, [(7, .inl mX5_behind)])), (118, (2, [(1, .inl mX0_at)])), (121, (2, [(7, .inl mX5_at)])), (122, (2, [(1, .inl mX0_rate)])), (126, (2, [(7, .inl mX5_rate)])), (127, (0, [(1, .inl mX0_parted)])), (131, (0, [(7, .inl mX5_parted)])), (132, (2, [(1, .inl mX0_worst)])), (135, (2, [(7, .inl mX5_worst)])), (136, (1, [(1, .inl mX0_ranked)])), (139, (1, [(7, .inl mX5_ranked)])), (140, (3, [(1, .inl mX0_measure)])), (143, (3, [(7, .inl mX5_measure)])), (144, (2, [(1, .inl mX0_spent)])), (147, (2, [(7, .inl mX5_spent)])), (148, (4, [(1, .inl mX0_fine)])), (151, (4, [(7, .inl mX5_fine)])), (152, (4, [(1, .inl mX0_until)])), (155, (4, [(7, .inl mX5_until)])), (156, (2, [(1, .inl mX0_lot)])), (159, (2, [(7, .inl mX5_lot)])), (160, (4, [(1, .inl mX0_shown)])), (163, (4, [(7, .inl mX5_shown)])), (164, (4, [(1, .inl mX0_clumps)])), (167, (4, [(7, .inl mX5_clumps)])), (168, (3, [(1, .inl mX0_lamp)])), (171, (3, [(7, .inl mX5_lamp)])), (172, (4, [(1, .inl mX0_pay)])), (175, (4, [(7, .inl mX5_pay)])), (176, (3, [(1, .inl mX0_rests)])), (179, (3, [(7, .inl mX5_rests)])), (180, (5, [(1, .inl mX0_thanks)])), (183, (5, [(7, .inl mX5_thanks)])), (184, (2, [(1, .inl mX0_filled)])), (187, (2, [(7, .inl mX5_filled)])), (188, (2, [(1, .inl mX0_slip)])), (191, (2, [(7, .inl mX5_slip)])), (192, (3, [(1, .inl mX0_numbers)])), (195, (3, [(7, .inl mX5_numbers)])), (198, (3, [(1, .inr 5)])), (202, (3, [(7, .inl mX5_write)])), (203, (1, [(1, .inl mX0_image)])), (206, (1, [(7, .inl mX5_image)])), (207, (1, [(1, .inl mX0_restore)])), (210, (1, [(7, .inl mX5_restore)])), (211, (1, [(1, .inl mX0_status)])), (214, (1, [(7, .inl mX5_status)])), (215, (1, [(1, .inl mX0_count)])), (218, (1, [(7, .inl mX5_count)]))]
def xV_1 : List (Nat × Nat × List (Nat × (xM ⊕ Nat))) := [(73, (1, [(1, .inl mX0_no)])), (77, (1, [(1, .inl mX0_bytes)])), (90, (0, [(8, .inl mX6_scene)])), (93, (0, [(8, .inl mX6_law)])), (109, (0, [(4, .inl mJ2_size)])), (127, (1, [(1, .inl mX0_isCar)])), (133, (1, [(4, .inl mJ2_get)])), (167, (1, [(3, .inl mX2_get)])), (169, (2, [(3, .inl mX2_put)])), (179, (2, [(10, .inl mX9_is), (11, .inl mX10_is), (12, .inl mX11_is), (13, .inl mX11_is), (14, .inl mX11_is), (15, .inl mX15_is), (16, .inl mX16_is), (17, .inl mX17_is)])), (188, (1, [(5, .inl mX3_begins)])), (192, (2, [(1, .inl mX0_chanceOf)])), (196, (1, [(5, .inl mX3_can)])), (203, (0, [(5, .inl mX3_many)])), (206, (1, [(5, .inl mX3_isAsked)])), (212, (1, [(1, .inl mX0_draw)])), (215, (0, [(5, .inl mX3_goesOn)])), (224, (1, [(1, .inl mX0_tick)])), (230, (2, [(1, .inl mX0_runs)])), (240, (1, [(1, .inl mX0_stopped)])), (265, (1, [(5, .inl mX3_be)])), (268, (3, [(1, .inl mX0_forks)])), (272, (2, [(1, .inl mX0_counts)])), (276, (1, [(1, .inl mX0_gathers)])), (280, (1, [(1, .inl mX0_overBy)])), (304, (1, [(4, .inl mJ2_add)])), (308, (0, [(3, .inl mX2_copy)])), (312, (1, [(4, .inl mJ2_remove)])), (315, (1, [(5, .inl mX3_car)])), (319, (1, [(1, .inl mX0_off)])), (338, (1, [(1, .inl mX0_isPlace)])), (359, (0, [(19, .inl mX19_hurt)])), (361, (0, [(19, .inl mX19_crossing)])), (363, (4, [(1, .inl mX0_sumOf)])), (370, (2, [(1, .inl mX0_below)])), (374, (1, [(1, .inl mX0_above)])), (382, (0, [(19, .inl mX19_fall)])), (388, (2, [(1, .inl mX0_apart)])), (392, (1, [(1, .inl mX0_worstOf)])), (395, (1, [(1, .inl mX0_fallOf)])), (398, (1, [(1, .inl mX0_matches)])), (403, (2, [(1, .inl mX0_isWorse)])), (414, (2, [(1, .inl mX0_leftAt)])), (417, (1, [(1, .inl mX0_costOf)])), (420, (3, [(1, .inl mX0_spends)])), (428, (1, [(1, .inl mX0_laysSpent)])), (449, (0, [(6, .inl mX4_many)])), (450, (1, [(6, .inl mX4_number)])), (468, (4, [(1, .inl mX0_isContent)])), (476, (3, [(1, .inl mX0_nearest)])), (479, (1, [(1, .inl mX0_countsFault)])), (482, (2, [(1, .inl mX0_filledAt)])), (492, (1, [(1, .inl mX0_isCounted)])), (495, (3, [(1, .inl mX0_slips)])), (499, (2, [(6, .inr 4)])), (509, (0, [(2, .inl mX1_copy)]))]
def xV_2 : List (Nat × Nat × List (Nat × (xM ⊕ Nat))) := [(41, (0, [(3, .inl mX2_copy)])), (45, (0, [(4, .inl mJ2_size)])), (49, (1, [(4, .inl mJ2_get)])), (55, (0, [(19, .inl mX19_copy)])), (58, (1, [(4, .inl mJ2_add)]))]
def xV_3 : List (Nat × Nat × List (Nat × (xM ⊕ Nat))) := [(34, (0, [(4, .inl mJ2_size)])), (38, (1, [(4, .inl mJ2_get)])), (44, (1, [(4, .inl mJ2_add)]))]
def xV_4 : List (Nat × Nat × List (Nat × (xM ⊕ Nat))) := [(69, (1, [(4, .inl mJ2_grow_2)])), (123, (1, [(4, .inl mJ2_elementData)])), (129, (0, [(4, .inl mJ2_grow)])), (131, (3, [(4, .inl mJ2_add_2)])), (144, (2, [(4, .inl mJ2_fastRemove)]))]
def xV_5 : List (Nat × Nat × List (Nat × (xM ⊕ Nat))) := [(54, (0, [(5, .inl mX3_many)])), (58, (1, [(5, .inl mX3_car)])), (66, (1, [(3, .inl mX2_pace)])), (75, (0, [(4, .inl mJ2_size)])), (80, (1, [(4, .inl mJ2_get)])), (102, (1, [(5, .inl mX3_isHidden)])), (109, (0, [(5, .inl mX3_isFree)])), (113, (0, [(5, .inl mX3_isAtKerb)])), (129, (1, [(5, .inl mX3_moves)])), (132, (1, [(5, .inl mX3_crosses)])), (136, (1, [(5, .inl mX3_nearest)])), (139, (2, [(5, .inl mX3_goes)]))]
def xV_7 : List (Nat × Nat × List (Nat × (xM ⊕ Nat))) := [(89, (1, [(7, .inl mX5_no)])), (98, (0, [(38, .inr 0)])), (104, (1, [(38, .inr 1)])), (114, (1, [(7, .inl mX5_see)])), (124, (0, [(7, .inl mX5_keyAt)])), (139, (1, [(7, .inl mX5_is)])), (142, (0, [(7, .inl mX5_next)])), (145, (1, [(7, .inl mX5_eats)])), (148, (1, [(7, .inl mX5_fails)])), (156, (2, [(7, .inl mX5_takes)])), (160, (1, [(7, .inl mX5_needs)])), (163, (0, [(7, .inl mX5_lanesNeeded)])), (166, (0, [(7, .inl mX5_readCar)])), (169, (0, [(7, .inl mX5_readTrait)])), (179, (0, [(7, .inl mX5_readPart)])), (182, (2, [(7, .inl mX5_emit)])), (186, (0, [(7, .inl mX5_readFact)])), (192, (0, [(7, .inl mX5_readTest)])), (201, (0, [(7, .inl mX5_readLine)])), (204, (0, [(7, .inl mX5_readLaw)])), (210, (1, [(7, .inl mX5_isCar)])), (225, (1, [(7, .inl mX5_hasTrait)])), (228, (5, [(7, .inl mX5_isSome)])), (232, (3, [(7, .inl mX5_fact)])), (236, (2, [(7, .inl mX5_isSo)])), (240, (1, [(7, .inl mX5_begins)])), (243, (1, [(7, .inl mX5_stopsBy)])), (246, (1, [(7, .inl mX5_canStop)])), (253, (1, [(7, .inl mX5_isHidden)])), (259, (1, [(7, .inl mX5_goesOn)])), (262, (1, [(7, .inl mX5_isFree)])), (265, (0, [(7, .inl mX5_carsGo)])), (268, (1, [(7, .inl mX5_decides)])), (272, (0, [(7, .inl mX5_ticks)])), (275, (2, [(7, .inl mX5_runs)])), (278, (0, [(7, .inl mX5_stopped)])), (283, (1, [(7, .inl mX5_none)])), (288, (2, [(7, .inl mX5_branches)])), (292, (0, [(7, .inl mX5_allParts)])), (296, (0, [(7, .inl mX5_worksOdds)])), (299, (1, [(7, .inl mX5_overIf)])), (316, (1, [(7, .inl mX5_isPlace)])), (321, (2, [(7, .inl mX5_sumOf)])), (325, (1, [(7, .inl mX5_partedAbove)])), (328, (1, [(7, .inl mX5_partedBelow)])), (331, (1, [(7, .inl mX5_hurtAt)])), (335, (1, [(7, .inl mX5_worstOf)])), (338, (1, [(7, .inl mX5_fallOf)])), (341, (1, [(7, .inl mX5_matchesOf)])), (344, (2, [(7, .inl mX5_isWorse)])), (347, (1, [(7, .inl mX5_costOf)])), (350, (2, [(7, .inl mX5_leftOf)])), (355, (1, [(7, .inl mX5_laysSpent)])), (358, (3, [(7, .inl mX5_isBest)])), (369, (3, [(7, .inl mX5_payAt)])), (373, (4, [(7, .inl mX5_isRest)])), (383, (1, [(7, .inl mX5_isTooMuch)])), (386, (1, [(7, .inl mX5_hereIn)])), (389, (2, [(7, .inl mX5_filledAt)])), (392, (1, [(7, .inl mX5_isRow)]))]
def xV_8 : List (Nat × Nat × List (Nat × (xM ⊕ Nat))) := [(42, (1, [(8, .inl mX6_see)])), (67, (1, [(8, .inl mX6_isSmall)])), (71, (1, [(8, .inl mX6_isDigit)])), (80, (0, [(38, .inr 0)])), (86, (1, [(38, .inr 1)])), (90, (1, [(8, .inl mX6_is)])), (94, (0, [(8, .inl mX6_next)])), (97, (1, [(8, .inl mX6_wrong)])), (100, (1, [(8, .inl mX6_takes)])), (103, (2, [(8, .inl mX6_number)])), (123, (0, [(8, .inl mX6_line)])), (126, (0, [(8, .inl mX6_over)])), (135, (0, [(4, .inl mJ2_size)])), (137, (1, [(4, .inl mJ2_get)])), (153, (0, [(8, .inl mX6_car)])), (157, (0, [(8, .inl mX6_leastLanes)])), (177, (0, [(8, .inl mX6_traitLine)])), (180, (0, [(8, .inl mX6_trait)])), (186, (1, [(8, .inl mX6_space)])), (191, (3, [(8, .inl mX6_told)])), (202, (1, [(4, .inl mJ2_add)])), (210, (0, [(8, .inl mX6_some)])), (219, (0, [(8, .inl mX6_all)])), (229, (0, [(8, .inl mX6_fact)])), (239, (0, [(8, .inl mX6_opens)])), (269, (0, [(8, .inl mX6_own)]))]
def xV_10 : List (Nat × Nat × List (Nat × (xM ⊕ Nat))) := [(13, (2, [(10, .inl mX9_is), (11, .inl mX10_is), (12, .inl mX11_is), (13, .inl mX11_is), (14, .inl mX11_is), (15, .inl mX15_is), (16, .inl mX16_is), (17, .inl mX17_is)]))]
def xV_12 : List (Nat × Nat × List (Nat × (xM ⊕ Nat))) := [(9, (1, [(5, .inl mX3_car)]))]
def xV_13 : List (Nat × Nat × List (Nat × (xM ⊕ Nat))) := [(9, (1, [(5, .inl mX3_car)]))]
def xV_14 : List (Nat × Nat × List (Nat × (xM ⊕ Nat))) := [(9, (1, [(5, .inl mX3_car)]))]
def xV_16 : List (Nat × Nat × List (Nat × (xM ⊕ Nat))) := [(25, (1, [(5, .inl mX3_car)]))]
def xV_17 : List (Nat × Nat × List (Nat × (xM ⊕ Nat))) := [(20, (2, [(10, .inl mX9_is), (11, .inl mX10_is), (12, .inl mX11_is), (13, .inl mX11_is), (14, .inl mX11_is), (15, .inl mX15_is), (16, .inl mX16_is), (17, .inl mX17_is)]))]
def xV_19 : List (Nat × Nat × List (Nat × (xM ⊕ Nat))) := [(20, (0, [(19, .inl mX19_hurt)]))]
def xV_21 : List (Nat × Nat × List (Nat × (xM ⊕ Nat))) := [(7, (0, [(5, .inl mX3_many)])), (17, (3, [(12, .inl mX12_isSo), (13, .inl mX13_isSo), (14, .inl mX14_isSo)]))]
def xV (a k : Nat) : Option (Nat × List (Nat × (xM ⊕ Nat))) := match a with
  | 0 => xlk xV_0 k
  | 1 => xlk xV_1 k
  | 2 => xlk xV_2 k
  | 3 => xlk xV_3 k
  | 4 => xlk xV_4 k
  | 5 => xlk xV_5 k
  | 7 => xlk xV_7 k
  | 8 => xlk xV_8 k
  | 10 => xlk xV_10 k
  | 12 => xlk xV_12 k
  | 13 => xlk xV_13 k
  | 14 => xlk xV_14 k
  | 16 => xlk xV_16 k
  | 17 => xlk xV_17 k
  | 19 => xlk xV_19 k
  | 21 => xlk xV_21 k
  | _ => none
def xS_1 : List (Nat × Nat × (xM ⊕ Nat)) := [(39, (0, .inl mX0_walks)), (81, (3, .inl mX0_in)), (153, (1, .inl mX0_isTrait)), (284, (1, .inl mJ11_bitCount)), (294, (3, .inl mX0_isAtMost)), (298, (2, .inl mX0_commonOf)), (322, (2, .inr 7)), (356, (2, .inl mX0_common)), (367, (2, .inr 9)), (378, (2, .inl mX0_has)), (385, (1, .inr 8)), (401, (2, .inr 6)), (424, (2, .inr 10)), (433, (1, .inl mX0_spread)), (436, (1, .inl mX0_cube)), (440, (1, .inl mX0_isRow)), (455, (4, .inl mX0_waste)), (464, (3, .inl mX0_payAt))]
def xS_3 : List (Nat × Nat × (xM ⊕ Nat)) := [(57, (2, .inl mX0_has)), (64, (2, .inr 7))]
def xS_4 : List (Nat × Nat × (xM ⊕ Nat)) := [(66, (2, .inr 2)), (73, (3, .inl mJ7_newLength)), (79, (2, .inr 6)), (112, (5, .inr 3)), (118, (2, .inl mJ10_checkIndex))]
def xS_5 : List (Nat × Nat × (xM ⊕ Nat)) := [(87, (3, .inl mX0_in)), (122, (2, .inl mX0_has)), (143, (2, .inr 7)), (149, (2, .inr 6))]
def xS_7 : List (Nat × Nat × (xM ⊕ Nat)) := [(82, (1, .inl mX5_plain)), (120, (1, .inl mX5_isSmall)), (127, (1, .inl mX5_isDigit)), (152, (3, .inl mX5_within)), (303, (1, .inl mX5_bitsOf)), (310, (2, .inl mX5_common)), (397, (2, .inl mX5_cut))]
def xS_8 : List (Nat × Nat × (xM ⊕ Nat)) := [(50, (3, .inl mX0_in)), (146, (2, .inr 6))]
def xS_11 : List (Nat × Nat × (xM ⊕ Nat)) := [(24, (2, .inl mX0_has))]
def xS_13 : List (Nat × Nat × (xM ⊕ Nat)) := [(21, (1, .inr 8))]
def xS_25 : List (Nat × Nat × (xM ⊕ Nat)) := [(105, (3, .inl mJ5_checkIndex))]
def xS_27 : List (Nat × Nat × (xM ⊕ Nat)) := [(194, (2, .inr 6))]
def xS (a k : Nat) : Option (Nat × (xM ⊕ Nat)) := match a with
  | 1 => xlk xS_1 k
  | 3 => xlk xS_3 k
  | 4 => xlk xS_4 k
  | 5 => xlk xS_5 k
  | 7 => xlk xS_7 k
  | 8 => xlk xS_8 k
  | 11 => xlk xS_11 k
  | 13 => xlk xS_13 k
  | 25 => xlk xS_25 k
  | 27 => xlk xS_27 k
  | _ => none
def xZ_0 : List (Nat × Nat × Option xM) := [(9, (0, some mX0_init)), (12, (0, some mX5_init))]
def xZ_1 : List (Nat × Nat × Option xM) := [(1, (0, none)), (9, (0, some mX1_init)), (34, (0, some mX3_init)), (65, (0, some mX4_init)), (87, (2, some mX6_init)), (302, (1, some mJ2_init)), (335, (5, some mX19_init))]
def xZ_2 : List (Nat × Nat × Option xM) := [(3, (0, none)), (11, (0, some mX2_init)), (20, (1, some mJ2_init)), (40, (0, some mX1_init))]
def xZ_3 : List (Nat × Nat × Option xM) := [(3, (0, none)), (11, (1, some mJ2_init)), (33, (0, some mX2_init))]
def xZ_4 : List (Nat × Nat × Option xM) := [(1, (0, some mJ1_init))]
def xZ_5 : List (Nat × Nat × Option xM) := [(3, (0, none))]
def xZ_6 : List (Nat × Nat × Option xM) := [(1, (0, none))]
def xZ_7 : List (Nat × Nat × Option xM) := [(11, (0, none))]
def xZ_8 : List (Nat × Nat × Option xM) := [(9, (0, none)), (17, (0, some mX2_init)), (24, (1, some mJ2_init)), (199, (4, some mX7_init)), (216, (2, some mX18_init)), (226, (3, some mX17_init)), (244, (1, some mX9_init)), (249, (1, some mX10_init)), (254, (0, some mX12_init)), (259, (0, some mX13_init)), (264, (0, some mX14_init)), (268, (0, some mX15_init)), (279, (2, some mX16_init))]
def xZ_9 : List (Nat × Nat × Option xM) := [(1, (0, none))]
def xZ_10 : List (Nat × Nat × Option xM) := [(1, (0, some mX8_init))]
def xZ_11 : List (Nat × Nat × Option xM) := [(1, (0, some mX8_init))]
def xZ_12 : List (Nat × Nat × Option xM) := [(3, (0, some mX11_init))]
def xZ_13 : List (Nat × Nat × Option xM) := [(3, (0, some mX11_init))]
def xZ_14 : List (Nat × Nat × Option xM) := [(3, (0, some mX11_init))]
def xZ_15 : List (Nat × Nat × Option xM) := [(1, (0, some mX8_init))]
def xZ_16 : List (Nat × Nat × Option xM) := [(1, (0, some mX8_init))]
def xZ_17 : List (Nat × Nat × Option xM) := [(1, (0, some mX8_init))]
def xZ_18 : List (Nat × Nat × Option xM) := [(1, (0, none))]
def xZ_19 : List (Nat × Nat × Option xM) := [(1, (0, none)), (27, (5, some mX19_init))]
def xZ_20 : List (Nat × Nat × Option xM) := [(1, (0, none))]
def xZ_21 : List (Nat × Nat × Option xM) := [(1, (0, some mX8_init))]
def xZ_22 : List (Nat × Nat × Option xM) := [(1, (0, none))]
def xZ_23 : List (Nat × Nat × Option xM) := [(1, (0, some mJ0_init))]
def xZ (a k : Nat) : Option (Nat × Option xM) := match a with
  | 0 => xlk xZ_0 k
  | 1 => xlk xZ_1 k
  | 2 => xlk xZ_2 k
  | 3 => xlk xZ_3 k
  | 4 => xlk xZ_4 k
  | 5 => xlk xZ_5 k
  | 6 => xlk xZ_6 k
  | 7 => xlk xZ_7 k
  | 8 => xlk xZ_8 k
  | 9 => xlk xZ_9 k
  | 10 => xlk xZ_10 k
  | 11 => xlk xZ_11 k
  | 12 => xlk xZ_12 k
  | 13 => xlk xZ_13 k
  | 14 => xlk xZ_14 k
  | 15 => xlk xZ_15 k
  | 16 => xlk xZ_16 k
  | 17 => xlk xZ_17 k
  | 18 => xlk xZ_18 k
  | 19 => xlk xZ_19 k
  | 20 => xlk xZ_20 k
  | 21 => xlk xZ_21 k
  | 22 => xlk xZ_22 k
  | 23 => xlk xZ_23 k
  | _ => none
def xN_0 : List (Nat × Nat × Nat) := [(7, (1, 18)), (10, (7, 36))]
def xN_1 : List (Nat × Nat × Nat) := [(7, (2, 6)), (32, (5, 13)), (63, (6, 1)), (85, (8, 11)), (110, (4, 3)), (333, (19, 4))]
def xN_2 : List (Nat × Nat × Nat) := [(9, (3, 8)), (13, (2, 6)), (18, (4, 3))]
def xN_3 : List (Nat × Nat × Nat) := [(9, (4, 3)), (15, (3, 8))]
def xN_8 : List (Nat × Nat × Nat) := [(15, (3, 8)), (22, (4, 3)), (141, (9, 4)), (214, (18, 2)), (224, (17, 3)), (242, (10, 1)), (247, (11, 1)), (252, (12, 0)), (257, (13, 0)), (262, (14, 0)), (266, (15, 0)), (277, (16, 2))]
def xN_19 : List (Nat × Nat × Nat) := [(8, (19, 4))]
def xN (a k : Nat) : Option (Nat × Nat) := match a with
  | 0 => xlk xN_0 k
  | 1 => xlk xN_1 k
  | 2 => xlk xN_2 k
  | 3 => xlk xN_3 k
  | 8 => xlk xN_8 k
  | 19 => xlk xN_19 k
  | _ => none
def xQ_1 : List (Nat × Nat) := [(7, 48), (32, 46), (63, 47)]
def xQ_4 : List (Nat × Nat) := [(7, 45)]
def xQ (a k : Nat) : Option (Nat) := match a with
  | 1 => xlk xQ_1 k
  | 4 => xlk xQ_4 k
  | _ => none
def xT_1 : List (Nat × Nat) := [(137, 9), (173, 18), (333, 19)]
def xT_2 : List (Nat × Nat) := [(53, 19)]
def xT_3 : List (Nat × Nat) := [(42, 9)]
def xT_5 : List (Nat × Nat) := [(63, 9)]
def xT_6 : List (Nat × Nat) := [(15, 41), (17, 43), (19, 40), (21, 44)]
def xT_8 : List (Nat × Nat) := [(141, 9)]
def xT (a k : Nat) : Option (Nat) := match a with
  | 1 => xlk xT_1 k
  | 2 => xlk xT_2 k
  | 3 => xlk xT_3 k
  | 5 => xlk xT_5 k
  | 6 => xlk xT_6 k
  | 8 => xlk xT_8 k
  | _ => none
def xK_1 : List (Nat × Value) := [(199, .int (nI 1103515245)), (391, .int ((-1000000)))]
def xK_7 : List (Nat × Value) := [(96, .ref 30), (252, .int (nI 1103515245)), (334, .int ((-1000000)))]
def xK_8 : List (Nat × Value) := [(107, .ref 10), (109, .ref 11), (111, .ref 12), (113, .ref 13), (115, .ref 14), (117, .ref 15), (119, .ref 16), (121, .ref 17), (151, .ref 1), (155, .ref 5), (162, .ref 6), (165, .ref 7), (169, .ref 8), (173, .ref 9), (190, .ref 2), (195, .ref 3), (197, .ref 4), (206, .ref 18), (208, .ref 19), (222, .ref 29), (232, .ref 28), (237, .ref 20), (250, .ref 21), (255, .ref 22), (260, .ref 23), (265, .ref 24), (272, .ref 25), (274, .ref 26), (276, .ref 27)]
def xK_27 : List (Nat × Value) := [(200, .int (nI 2147483639))]
def xK_29 : List (Nat × Value) := [(265, .int (nI 1431655765)), (266, .int (nI 858993459)), (267, .int (nI 252645135))]
def xK (a k : Nat) : Option (Value) := match a with
  | 1 => xlk xK_1 k
  | 7 => xlk xK_7 k
  | 8 => xlk xK_8 k
  | 27 => xlk xK_27 k
  | 29 => xlk xK_29 k
  | _ => none
def xJ_0 : List (Nat × Int64) := [(196, (4294967295 : Int64))]
def xJ_1 : List (Nat × Int64) := [(131, (3 : Int64)), (151, (7 : Int64)), (159, (30 : Int64)), (161, (20 : Int64)), (163, (60 : Int64)), (165, (200 : Int64)), (228, (5 : Int64)), (247, (99 : Int64)), (263, (100 : Int64)), (289, (1000 : Int64)), (331, (300 : Int64)), (341, (600 : Int64)), (412, (10000 : Int64)), (426, (999 : Int64)), (431, (4 : Int64)), (443, (2 : Int64)), (453, (9999 : Int64)), (459, (-99 : Int64)), (472, (1000000 : Int64)), (474, (100000000 : Int64))]
def xJ_5 : List (Nat × Int64) := [(100, (3 : Int64))]
def xJ_7 : List (Nat × Int64) := [(172, (5 : Int64)), (174, (12 : Int64)), (195, (22 : Int64)), (197, (28 : Int64)), (199, (24 : Int64)), (213, (3 : Int64)), (215, (7 : Int64)), (217, (30 : Int64)), (219, (20 : Int64)), (221, (60 : Int64)), (223, (200 : Int64)), (281, (99 : Int64)), (286, (100 : Int64)), (306, (1000 : Int64)), (308, (-1 : Int64)), (314, (300 : Int64)), (319, (600 : Int64)), (353, (999 : Int64)), (361, (4 : Int64)), (363, (2 : Int64)), (365, (9999 : Int64)), (367, (-99 : Int64)), (377, (1000000 : Int64)), (379, (100000000 : Int64)), (381, (10000 : Int64)), (395, (40 : Int64))]
def xJ_8 : List (Nat × Int64) := [(46, (97 : Int64)), (48, (122 : Int64)), (54, (48 : Int64)), (56, (57 : Int64))]
def xJ (a k : Nat) : Option (Int64) := match a with
  | 0 => xlk xJ_0 k
  | 1 => xlk xJ_1 k
  | 5 => xlk xJ_5 k
  | 7 => xlk xJ_7 k
  | 8 => xlk xJ_8 k
  | _ => none
/-- counts cells and slots alone -/
def pC (h : xH) (k s : Nat) : xH := (h.1, h.2.1, h.2.2.1, h.2.2.2.1, h.2.2.2.2.1, h.2.2.2.2.2.1, oC h + k, oS h + s)
def xin_ (i : Int32) (n : Nat) : Bool := decide (0 ≤ i.toInt) && decide (i.toInt < (n : Int))
/-- what a store of a long leaves in a narrower array -/
def xcut (t : Nat) (v : Int64) : Int32 := match t with
  | 41 => vp_nar .byte v.toInt32.toInt8.toInt32
  | 43 => vp_nar .short v.toInt32.toInt16.toInt32
  | _ => v.toInt32
def xsort (x : Int32) : Nat := if x = 0 then 41 else if x = 1 then 43 else if x = 2 then 40 else 44
/-- FootOut.no: one more refused -/
def xno (h : xH) (rf j k s : Nat) : xH := pC (pI h rf (va_up (oI h rf) j (oI h rf j + 1))) k s
/-- all that is there is of one class (what the kit's row of an array's copy asks) -/
def xuni (h : xH) (f : Nat → Option Nat) (k : Nat) : Bool := (List.range k).all fun i => match f i with
  | none => true
  | some y => match f 0 with
    | some z => Nat.beq (oT h y) (oT h z) && (Nat.ble 1 (oT h y) && Nat.ble (oT h y) 19)
    | none => false
/-- what is taken as one step: 0 String.length, 1 String.charAt, 2 Arrays.copyOf, 3 System.arraycopy, 4 Numbers.begins, 5 FootOut.write, 6 .. 10 Math.max, min, abs, and of longs max, min -/
def xP (p : Nat) (as : List Value) (h : xH) : Option xR := match p, as with
  | 0, [.ref s] => if oT h s = 38 then some (some (.int (nI (oN h s))), h) else none
  | 1, [.ref s, .int i] => if oT h s = 38 ∧ xin_ i (oN h s) = true then some (some (.int (oI h s i.toNatClampNeg)), h) else none
  | 2, [.ref a, .int n] => if oT h a = 45 ∧ 0 ≤ n.toInt ∧ n.toInt ≤ 65536 ∧ oN h a ≤ 65536 ∧ xuni h (oR h a) (min (oN h a) n.toNatClampNeg) = true then some (some (.ref (oX h)), pR (pO h 45 n.toNatClampNeg) (oX h) (fun j => if j < oN h a then oR h a j else none)) else none
  | 3, [.ref a, .int sp, .ref b, .int dp, .int n] => if a = b ∧ oT h a = 45 ∧ 0 ≤ sp.toInt ∧ 0 ≤ dp.toInt ∧ 0 ≤ n.toInt ∧ sp.toInt + n.toInt ≤ oN h a ∧ dp.toInt + n.toInt ≤ oN h a ∧ xuni h (fun i => oR h a (sp.toNatClampNeg + i)) n.toNatClampNeg = true then some (none, pR h a (va_cpy (oR h a) (oR h a) sp.toNatClampNeg dp.toNatClampNeg n.toNatClampNeg)) else none
  | 4, [.ref a, .int sort, .int n] => if oT h a = 6 then (if n.toInt < 0 then some (some (.int 0), pC h 64 4096) else if n.toInt ≤ 65536 then some (some (.int 1), pR (pO h (xsort sort) n.toNatClampNeg) a (va_up (oR h a) 0 (some (oX h)))) else none) else none
  | 5, [.ref x, .int r, .int i, .long v] => match oR h x 2, oR h x 17 with
    | some rf, some rw => if oT h x = 1 ∧ oT h rf = 40 ∧ oN h rf = 6 ∧ oT h rw = 47 ∧ oN h rw = 4 then
        (if 0 ≤ r.toInt ∧ r.toInt ≤ 3 then match oR h rw r.toNatClampNeg with
          | some q => if oT h q = 6 then (match oR h q 0 with
            | none => some (some (.long (-6)), xno h rf 3 64 4096)
            | some a => if 40 ≤ oT h a ∧ oT h a ≤ 44 ∧ ¬ oT h a = 42 then (if xin_ i (oN h a) = true then (if oT h a = 44 then some (some (.long v), pL h a (va_up (oL h a) i.toNatClampNeg v)) else some (some (.long (xcut (oT h a) v).toInt64), pI h a (va_up (oI h a) i.toNatClampNeg (xcut (oT h a) v)))) else some (some (.long (-7)), xno h rf 4 64 4096)) else none) else none
          | none => none
        else some (some (.long (-2)), xno h rf 0 0 0)) else none
    | _, _ => none
  | 6, [.int x, .int y] => some (some (.int (if x < y then y else x)), h)
  | 7, [.int x, .int y] => some (some (.int (if y < x then y else x)), h)
  | 8, [.int x] => some (some (.int (if 0 ≤ x then x else 0 - x)), h)
  | 9, [.long x, .long y] => some (some (.long (if y < x then x else y)), h)
  | 10, [.long x, .long y] => some (some (.long (if y < x then y else x)), h)
  | _, _ => none
/-! locals -/
def xk : Slot → Slot
  | .val (.long _) => .unset
  | .val (.double _) => .unset
  | s => s
def xst : List Slot → Nat → Slot → List Slot
  | [], _, _ => []
  | _ :: t, 0, v => v :: t
  | s :: [], 1, _ => s :: []
  | s :: _ :: t, 1, v => xk s :: v :: t
  | s :: t, k + 2, v => s :: xst t (k + 1) v
def xld (ls : List Slot) (k : Nat) : Option Value := match ls[k]? with
  | some (.val v) => some v
  | _ => none
def xL : List Value → Nat → List Slot
  | [], n => List.replicate n .unset
  | v :: vs, n => match v.category with
    | 2 => .val v :: .unset :: xL vs (n - 2)
    | _ => .val v :: xL vs (n - 1)
/-! small steps -/
def xgo (m : xM) (pc : Nat) (ls : List Slot) (st : List Value) (h : xH) (d : Nat) : Option xA := some (.inl (m, pc, ls, st, h, d))
def xb (f : Int32 → Int32 → Int32) (k : List Value → Option xA) : List Value → Option xA
  | .int y :: .int x :: st => k (.int (f x y) :: st)
  | _ => none
def xbd (f : Int32 → Int32 → Int32) (k : List Value → Option xA) : List Value → Option xA
  | .int y :: .int x :: st => if y = 0 then none else k (.int (f x y) :: st)
  | _ => none
def xbl (f : Int64 → Int64 → Int64) (k : List Value → Option xA) : List Value → Option xA
  | .long y :: .long x :: st => k (.long (f x y) :: st)
  | _ => none
def xbld (f : Int64 → Int64 → Int64) (k : List Value → Option xA) : List Value → Option xA
  | .long y :: .long x :: st => if y = 0 then none else k (.long (f x y) :: st)
  | _ => none
def xbs (f : Int64 → Int32 → Int64) (k : List Value → Option xA) : List Value → Option xA
  | .int y :: .long x :: st => k (.long (f x y) :: st)
  | _ => none
def xu (f : Int32 → Value) (k : List Value → Option xA) : List Value → Option xA
  | .int x :: st => k (f x :: st)
  | _ => none
def xul (f : Int64 → Value) (k : List Value → Option xA) : List Value → Option xA
  | .long x :: st => k (f x :: st)
  | _ => none
def xi (ls : List Slot) (i : Nat) (k : Int32 → Option xA) : Option xA := match xld ls i with
  | some (.int x) => k x
  | _ => none
def xl (ls : List Slot) (i : Nat) (k : Int64 → Option xA) : Option xA := match xld ls i with
  | some (.long x) => k x
  | _ => none
def xr (ls : List Slot) (i : Nat) (k : Value → Option xA) : Option xA := match xld ls i with
  | some (.ref a) => k (.ref a)
  | some .null => k .null
  | _ => none
def xcmp (c : ClassFile.Cond) (x y : Int32) : Bool := match c with
  | .eq => decide (x = y)
  | .ne => decide (¬ x = y)
  | .lt => decide (x < y)
  | .ge => decide (y ≤ x)
  | .gt => decide (y < x)
  | .le => decide (x ≤ y)
def xj (pc : Nat) (off : Int) (k : Nat → Option xA) : Option xA := match (pc : Int) + off with
  | .ofNat n => k n
  | .negSucc _ => none
def xix (i : Int32) (n : Nat) : Bool := decide (0 ≤ i.toInt) && decide (i.toInt < (n : Int))
def xcat (st : List Value) : Nat := (st.map fun v => v.category).sum
def xpu : Option Value → List Value → List Value
  | none, s => s
  | some v, s => v :: s
def xcall (m m' : xM) (n : Nat) (ls : List Slot) (as rest : List Value) (h : xH) : Nat → Option xA
  | 0 => none
  | d + 1 => if xcat rest ≤ 8 ∧ xcat as ≤ m'.2.2.2.2.1 then some (.inr (.inl ((m', 0, xL as m'.2.2.2.2.1, [], h, d), fun r => some (m, n, ls, xpu r.1 rest, r.2, d + 1)))) else none
/-- calls: to code, or to what is taken as one step -/
def xcp (m : xM) (t : xM ⊕ Nat) (n : Nat) (ls : List Slot) (as rest : List Value) (h : xH) (d : Nat) : Option xA := match t with
  | .inl m' => xcall m m' n ls as rest h d
  | .inr p => if xcat rest ≤ 8 then (match xP p as h with
    | some r => xgo m n ls (xpu r.1 rest) r.2 d
    | none => none) else none
/-- may an object of tag u stand in an array of tag t -/
def xel (t u : Nat) : Bool := match t with
  | 45 => decide (1 ≤ u ∧ u ≤ 19)
  | 46 => decide (u = 5)
  | 47 => decide (u = 6)
  | 48 => decide (u = 2)
  | _ => false
def xnt : ArrayType → Nat
  | .int => 40
  | .byte => 41
  | .boolean => 42
  | .short => 43
  | .long => 44
  | _ => 0
def xput (m : xM) (n : Nat) (ls : List Slot) (h : xH) (d : Nat) (k : Nat) : List Value → Option xA
  | v :: .ref a :: st => match xF m.1 k with
    | some (t, j, kd) => if oT h a = t then match kd, v with
      | 0, .int x => xgo m n ls st (pI h a (va_up (oI h a) j x)) d
      | 1, .long x => xgo m n ls st (pL h a (va_up (oL h a) j x)) d
      | 2, .ref b => xgo m n ls st (pR h a (va_up (oR h a) j (some b))) d
      | 2, .null => xgo m n ls st (pR h a (va_up (oR h a) j none)) d
      | 10, .int x => bif m.2.1 && Nat.beq t m.1 then xgo m n ls st (pI h a (va_up (oI h a) j x)) d else none
      | 12, .ref b => bif m.2.1 && Nat.beq t m.1 then xgo m n ls st (pR h a (va_up (oR h a) j (some b))) d else none
      | 12, .null => bif m.2.1 && Nat.beq t m.1 then xgo m n ls st (pR h a (va_up (oR h a) j none)) d else none
      | 13, .int x => bif m.2.1 && Nat.beq t m.1 then (if x = 0 ∨ x = 1 then xgo m n ls st (pI h a (va_up (oI h a) j x)) d else none) else none
      | _, _ => none
      else none
    | none => none
  | _ => none
def xget (m : xM) (n : Nat) (ls : List Slot) (h : xH) (d : Nat) (k : Nat) : List Value → Option xA
  | .ref a :: st => match xF m.1 k with
    | some (t, j, kd) => if oT h a = t then match kd with
      | 0 => xgo m n ls (.int (oI h a j) :: st) h d
      | 1 => xgo m n ls (.long (oL h a j) :: st) h d
      | 2 => xgo m n ls (va_rf (oR h a j) :: st) h d
      | 10 => xgo m n ls (.int (oI h a j) :: st) h d
      | 12 => xgo m n ls (va_rf (oR h a j) :: st) h d
      | 13 => xgo m n ls (.int (oI h a j) :: st) h d
      | _ => none
      else none
    | none => none
  | _ => none
def xvirt (m : xM) (n : Nat) (ls : List Slot) (st : List Value) (h : xH) (d : Nat) (k : Nat) : Option xA := match xV m.1 k with
  | some (na, tb) => match st[na]? with
    | some (.ref a) => match xlk tb (oT h a) with
      | some t => xcp m t n ls (st.take (na + 1)).reverse (st.drop (na + 1)) h d
      | none => none
    | _ => none
  | none => none
def xstat (m : xM) (n : Nat) (ls : List Slot) (st : List Value) (h : xH) (d : Nat) (k : Nat) : Option xA := match xS m.1 k with
  | some (na, t) => if na ≤ st.length then xcp m t n ls (st.take na).reverse (st.drop na) h d else none
  | none => none
def xspec (m : xM) (n : Nat) (ls : List Slot) (st : List Value) (h : xH) (d : Nat) (k : Nat) : Option xA := match xZ m.1 k with
  | some (na, some m') => match st[na]? with
    | some (.ref _) => xcall m m' n ls (st.take (na + 1)).reverse (st.drop (na + 1)) h d
    | _ => none
  | some (_, none) => match st with
    | .ref _ :: rest => if xcat rest ≤ 8 then xgo m n ls rest h d else none
    | _ => none
  | none => none
def xnewa (m : xM) (n : Nat) (ls : List Slot) (h : xH) (d : Nat) (t : Nat) : List Value → Option xA
  | .int x :: st => if 0 ≤ x.toInt ∧ x.toInt ≤ 65536 then xgo m n ls (.ref (oX h) :: st) (pO h t x.toNatClampNeg) d else none
  | _ => none
def xsw (pc : Nat) (dflt lo hi : Int) (offs : Array Int) (x : Int32) (k : Nat → Option xA) : Option xA :=
  if x.toInt < lo ∨ hi < x.toInt then xj pc dflt k else match offs[(x.toInt - lo).toNat]? with
    | some off => xj pc off k
    | none => none
def xret (r : Option FieldType) (h : xH) : Option Value → Option xA
  | some (.int v) => match r with
    | some .int => some (.inr (.inr (some (.int v), h)))
    | some .boolean => if v = 0 ∨ v = 1 then some (.inr (.inr (some (.int v), h))) else none
    | _ => none
  | some (.long v) => match r with
    | some .long => some (.inr (.inr (some (.long v), h)))
    | _ => none
  | some (.ref a) => match r with
    | some (.object _) => some (.inr (.inr (some (.ref a), h)))
    | some (.array _) => some (.inr (.inr (some (.ref a), h)))
    | _ => none
  | some .null => match r with
    | some (.object _) => some (.inr (.inr (some .null, h)))
    | some (.array _) => some (.inr (.inr (some .null, h)))
    | _ => none
  | none => match r with
    | none => some (.inr (.inr (none, h)))
    | some _ => none
  | _ => none
def xins (i : Instr) (m : xM) (pc n : Nat) (ls : List Slot) (st : List Value) (h : xH) (d : Nat) : Option xA := match i with
  | .iconst k => xgo m n ls (.int (Int32.ofInt k) :: st) h d
  | .bipush k => xgo m n ls (.int (Int8.ofInt k).toInt32 :: st) h d
  | .sipush k => xgo m n ls (.int (Int16.ofInt k).toInt32 :: st) h d
  | .lconst k => xgo m n ls (.long (Int64.ofNat k) :: st) h d
  | .aconst_null => xgo m n ls (.null :: st) h d
  | .ldc k => match xK m.1 k with
    | some v => xgo m n ls (v :: st) h d
    | none => none
  | .ldc_w k => match xK m.1 k with
    | some v => xgo m n ls (v :: st) h d
    | none => none
  | .ldc2_w k => match xJ m.1 k with
    | some v => xgo m n ls (.long v :: st) h d
    | none => none
  | .iload k => xi ls k fun x => xgo m n ls (.int x :: st) h d
  | .iload_n k => xi ls k.val fun x => xgo m n ls (.int x :: st) h d
  | .lload k => xl ls k fun x => xgo m n ls (.long x :: st) h d
  | .lload_n k => xl ls k.val fun x => xgo m n ls (.long x :: st) h d
  | .aload k => xr ls k fun x => xgo m n ls (x :: st) h d
  | .aload_n k => xr ls k.val fun x => xgo m n ls (x :: st) h d
  | .istore k => match st with
    | .int x :: st => if k < ls.length then xgo m n (xst ls k (.val (.int x))) st h d else none
    | _ => none
  | .istore_n k => match st with
    | .int x :: st => if k.val < ls.length then xgo m n (xst ls k.val (.val (.int x))) st h d else none
    | _ => none
  | .lstore k => match st with
    | .long x :: st => if k + 1 < ls.length then xgo m n ((xst ls k (.val (.long x))).set (k + 1) .unset) st h d else none
    | _ => none
  | .lstore_n k => match st with
    | .long x :: st => if k.val + 1 < ls.length then xgo m n ((xst ls k.val (.val (.long x))).set (k.val + 1) .unset) st h d else none
    | _ => none
  | .astore k => match st with
    | .ref x :: st => if k < ls.length then xgo m n (xst ls k (.val (.ref x))) st h d else none
    | .null :: st => if k < ls.length then xgo m n (xst ls k (.val .null)) st h d else none
    | _ => none
  | .astore_n k => match st with
    | .ref x :: st => if k.val < ls.length then xgo m n (xst ls k.val (.val (.ref x))) st h d else none
    | .null :: st => if k.val < ls.length then xgo m n (xst ls k.val (.val .null)) st h d else none
    | _ => none
  | .iinc k c => xi ls k fun x => if k < ls.length then xgo m n (xst ls k (.val (.int (x + Int32.ofInt c)))) st h d else none
  | .iadd => xb (fun x y => x + y) (fun st => xgo m n ls st h d) st
  | .isub => xb (fun x y => x - y) (fun st => xgo m n ls st h d) st
  | .imul => xb (fun x y => x * y) (fun st => xgo m n ls st h d) st
  | .iand => xb (fun x y => x &&& y) (fun st => xgo m n ls st h d) st
  | .ior => xb (fun x y => x ||| y) (fun st => xgo m n ls st h d) st
  | .ixor => xb (fun x y => x ^^^ y) (fun st => xgo m n ls st h d) st
  | .ishl => xb (fun x y => x <<< (y &&& 31)) (fun st => xgo m n ls st h d) st
  | .ishr => xb (fun x y => x >>> (y &&& 31)) (fun st => xgo m n ls st h d) st
  | .iushr => xb (fun x y => (x.toUInt32 >>> (y.toUInt32 &&& Int32.toUInt32 31)).toInt32) (fun st => xgo m n ls st h d) st
  | .idiv => xbd (fun x y => x / y) (fun st => xgo m n ls st h d) st
  | .irem => xbd (fun x y => x - x / y * y) (fun st => xgo m n ls st h d) st
  | .ineg => xu (fun x => .int (-x)) (fun st => xgo m n ls st h d) st
  | .ladd => xbl (fun x y => x + y) (fun st => xgo m n ls st h d) st
  | .lsub => xbl (fun x y => x - y) (fun st => xgo m n ls st h d) st
  | .lmul => xbl (fun x y => x * y) (fun st => xgo m n ls st h d) st
  | .land => xbl (fun x y => x &&& y) (fun st => xgo m n ls st h d) st
  | .lor => xbl (fun x y => x ||| y) (fun st => xgo m n ls st h d) st
  | .ldiv => xbld (fun x y => x / y) (fun st => xgo m n ls st h d) st
  | .lrem => xbld (fun x y => x - x / y * y) (fun st => xgo m n ls st h d) st
  | .lshl => xbs (fun x y => x <<< (y.toInt64 &&& 63)) (fun st => xgo m n ls st h d) st
  | .lcmp => match st with
    | .long y :: .long x :: st => xgo m n ls (.int (lg_cmp x y) :: st) h d
    | _ => none
  | .i2l => xu (fun x => .long x.toInt64) (fun st => xgo m n ls st h d) st
  | .i2b => xu (fun x => .int x.toInt8.toInt32) (fun st => xgo m n ls st h d) st
  | .i2s => xu (fun x => .int x.toInt16.toInt32) (fun st => xgo m n ls st h d) st
  | .l2i => xul (fun x => .int x.toInt32) (fun st => xgo m n ls st h d) st
  | .ifCond c off => match st with
    | .int x :: st => xj pc off fun t => xgo m (bif xcmp c x 0 then t else n) ls st h d
    | _ => none
  | .if_icmp c off => match st with
    | .int y :: .int x :: st => xj pc off fun t => xgo m (bif xcmp c x y then t else n) ls st h d
    | _ => none
  | .ifnull off => match st with
    | .null :: st => xj pc off fun t => xgo m t ls st h d
    | .ref _ :: st => xgo m n ls st h d
    | _ => none
  | .ifnonnull off => match st with
    | .null :: st => xgo m n ls st h d
    | .ref _ :: st => xj pc off fun t => xgo m t ls st h d
    | _ => none
  | .goto off => xj pc off fun t => xgo m t ls st h d
  | .tableswitch df lo hi offs => match st with
    | .int x :: st => xsw pc df lo hi offs x fun t => xgo m t ls st h d
    | _ => none
  | .dup => match st with
    | v :: st => if v.category = 1 then xgo m n ls (v :: v :: st) h d else none
    | _ => none
  | .pop => match st with
    | v :: st => if v.category = 1 then xgo m n ls st h d else none
    | _ => none
  | .dup_x1 => match st with
    | a :: b :: st => if a.category = 1 ∧ b.category = 1 then xgo m n ls (a :: b :: a :: st) h d else none
    | _ => none
  | .dup2 => match st with
    | a :: b :: st => if a.category = 1 ∧ b.category = 1 then xgo m n ls (a :: b :: a :: b :: st) h d else none
    | _ => none
  | .getfield k => xget m n ls h d k st
  | .putfield k => xput m n ls h d k st
  | .arraylength => match st with
    | .ref a :: st => if 39 ≤ oT h a ∧ oT h a ≤ 48 then xgo m n ls (.int (nI (oN h a)) :: st) h d else none
    | _ => none
  | .iaload => match st with
    | .int i :: .ref a :: st => if (oT h a = 40 ∨ oT h a = 39) ∧ xix i (oN h a) = true then xgo m n ls (.int (oI h a i.toNatClampNeg) :: st) h d else none
    | _ => none
  | .baload => match st with
    | .int i :: .ref a :: st => if (oT h a = 41 ∨ oT h a = 42) ∧ xix i (oN h a) = true then xgo m n ls (.int (oI h a i.toNatClampNeg) :: st) h d else none
    | _ => none
  | .saload => match st with
    | .int i :: .ref a :: st => if oT h a = 43 ∧ xix i (oN h a) = true then xgo m n ls (.int (oI h a i.toNatClampNeg) :: st) h d else none
    | _ => none
  | .laload => match st with
    | .int i :: .ref a :: st => if oT h a = 44 ∧ xix i (oN h a) = true then xgo m n ls (.long (oL h a i.toNatClampNeg) :: st) h d else none
    | _ => none
  | .aaload => match st with
    | .int i :: .ref a :: st => if (45 ≤ oT h a ∧ oT h a ≤ 48) ∧ xix i (oN h a) = true then xgo m n ls (va_rf (oR h a i.toNatClampNeg) :: st) h d else none
    | _ => none
  | .iastore => match st with
    | .int x :: .int i :: .ref a :: st => if oT h a = 40 ∧ xix i (oN h a) = true then xgo m n ls st (pI h a (va_up (oI h a) i.toNatClampNeg x)) d else none
    | _ => none
  | .bastore => match st with
    | .int x :: .int i :: .ref a :: st => if (oT h a = 41 ∨ oT h a = 42) ∧ xix i (oN h a) = true then xgo m n ls st (pI h a (va_up (oI h a) i.toNatClampNeg (vp_nar (if oT h a = 41 then .byte else .boolean) x))) d else none
    | _ => none
  | .sastore => match st with
    | .int x :: .int i :: .ref a :: st => if oT h a = 43 ∧ xix i (oN h a) = true then xgo m n ls st (pI h a (va_up (oI h a) i.toNatClampNeg (vp_nar .short x))) d else none
    | _ => none
  | .lastore => match st with
    | .long x :: .int i :: .ref a :: st => if oT h a = 44 ∧ xix i (oN h a) = true then xgo m n ls st (pL h a (va_up (oL h a) i.toNatClampNeg x)) d else none
    | _ => none
  | .aastore => match st with
    | .ref v :: .int i :: .ref a :: st => if xel (oT h a) (oT h v) = true ∧ xix i (oN h a) = true then xgo m n ls st (pR h a (va_up (oR h a) i.toNatClampNeg (some v))) d else none
    | .null :: .int i :: .ref a :: st => if (45 ≤ oT h a ∧ oT h a ≤ 48) ∧ xix i (oN h a) = true then xgo m n ls st (pR h a (va_up (oR h a) i.toNatClampNeg none)) d else none
    | _ => none
  | .newarray t => match xnt t with
    | 0 => none
    | t + 1 => xnewa m n ls h d (t + 1) st
  | .anewarray k => match xQ m.1 k with
    | some t => xnewa m n ls h d t st
    | none => none
  | .new k => match xN m.1 k with
    | some (t, N) => xgo m n ls (.ref (oX h) :: st) (pO h t N) d
    | none => none
  | .checkcast k => match st with
    | .null :: st => xgo m n ls (.null :: st) h d
    | .ref a :: st => match xT m.1 k with
      | some t => if oT h a = t then xgo m n ls (.ref a :: st) h d else none
      | none => none
    | _ => none
  | .instanceof k => match st with
    | .null :: st => xgo m n ls (.int 0 :: st) h d
    | .ref a :: st => match xT m.1 k with
      | some t => if 40 ≤ oT h a ∧ oT h a ≤ 44 ∧ 40 ≤ t ∧ t ≤ 43 then xgo m n ls (.int (if oT h a = t then 1 else 0) :: st) h d else none
      | none => none
    | _ => none
  | .invokevirtual k => xvirt m n ls st h d k
  | .invokestatic k => xstat m n ls st h d k
  | .invokespecial k => xspec m n ls st h d k
  | .ireturn => match st with
    | [.int v] => xret m.2.2.2.2.2 h (some (.int v))
    | _ => none
  | .lreturn => match st with
    | [.long v] => xret m.2.2.2.2.2 h (some (.long v))
    | _ => none
  | .areturn => match st with
    | [.ref a] => xret m.2.2.2.2.2 h (some (.ref a))
    | [.null] => xret m.2.2.2.2.2 h (some .null)
    | _ => none
  | .return_ => match st with
    | [] => xret m.2.2.2.2.2 h none
    | _ => none
  | _ => none
/-- how many bytes an instruction takes (0: any) -/
def xlen : Instr → Nat
  | .bipush _ => 2
  | .ldc _ => 2
  | .iload _ => 2
  | .lload _ => 2
  | .aload _ => 2
  | .istore _ => 2
  | .lstore _ => 2
  | .astore _ => 2
  | .newarray _ => 2
  | .sipush _ => 3
  | .ldc_w _ => 3
  | .ldc2_w _ => 3
  | .iinc _ _ => 3
  | .ifCond _ _ => 3
  | .if_icmp _ _ => 3
  | .ifnull _ => 3
  | .ifnonnull _ => 3
  | .goto _ => 3
  | .getfield _ => 3
  | .putfield _ => 3
  | .invokevirtual _ => 3
  | .invokestatic _ => 3
  | .invokespecial _ => 3
  | .new _ => 3
  | .anewarray _ => 3
  | .checkcast _ => 3
  | .instanceof _ => 3
  | .tableswitch .. => 0
  | _ => 1
def xlo (i : Instr) (len : Nat) : Bool := Nat.beq (xlen i) 0 || Nat.beq len (xlen i)
def xstep (c : xC) : Option xA := match decode c.1.2.2.2.1 c.2.1 with
  | .ok (i, len) => bif xlo i len then xins i c.1 c.2.1 (c.2.1 + len) c.2.2.1 c.2.2.2.1 c.2.2.2.2.1 c.2.2.2.2.2 else none
  | .error _ => none
/-! many steps -/
def ef : Nat → xC → Option xR
  | 0, _ => none
  | n + 1, c => match xstep c with
    | none => none
    | some (.inl c') => ef n c'
    | some (.inr (.inl (cc, k))) => (ef n cc).bind fun r => (k r).bind (ef n)
    | some (.inr (.inr r)) => some r
theorem ef_s {c : xC} {n : Nat} : ef (n + 1) c = match xstep c with
    | none => none
    | some (.inl c') => ef n c'
    | some (.inr (.inl (cc, k))) => (ef n cc).bind fun r => (k r).bind (ef n)
    | some (.inr (.inr r)) => some r := rfl
theorem ef_mono1 : ∀ (n : Nat) (c : xC) (r : xR), ef n c = some r → ef (n + 1) c = some r
  | 0, _, _, h => by cases h
  | n + 1, c, r, h => by
    rw [ef_s] at h ⊢
    split at h
    · cases h
    · exact ef_mono1 n _ _ h
    · rename_i cc k _
      obtain ⟨q, h1, h2⟩ := Option.bind_eq_some_iff.mp h
      obtain ⟨c2, h3, h4⟩ := Option.bind_eq_some_iff.mp h2
      exact Option.bind_eq_some_iff.mpr ⟨q, ef_mono1 n _ _ h1, Option.bind_eq_some_iff.mpr ⟨c2, h3, ef_mono1 n _ _ h4⟩⟩
    · exact h
theorem ef_mono {n : Nat} {c : xC} {r : xR} (h : ef n c = some r) : ∀ k : Nat, ef (n + k) c = some r
  | 0 => h
  | k + 1 => ef_mono1 _ _ _ (ef_mono h k)
theorem ef_le {n m : Nat} {c : xC} {r : xR} (h : ef n c = some r) (hm : n ≤ m) : ef m c = some r := by
  have := ef_mono h (m - n)
  rwa [Nat.add_sub_cancel' hm] at this
theorem ef_fun {n m : Nat} {c : xC} {r q : xR} (h : ef n c = some r) (h2 : ef m c = some q) : r = q := by
  have a := ef_le h (Nat.le_max_left n m)
  have b := ef_le h2 (Nat.le_max_right n m)
  exact Option.some.inj (a.symm.trans b)
noncomputable def ev (c : xC) : Option xR := @dite _ (∃ r, ∃ n, ef n c = some r) (Classical.propDecidable _) (fun h => some (Classical.choose h)) (fun _ => none)
theorem ev_iff {c : xC} {r : xR} : ev c = some r ↔ ∃ n, ef n c = some r := by
  unfold ev
  constructor
  · intro h
    split at h
    · rename_i hx
      have := Classical.choose_spec hx
      rw [Option.some.inj h] at this
      exact this
    · cases h
  · rintro ⟨n, h⟩
    have hx : ∃ r, ∃ n, ef n c = some r := ⟨r, n, h⟩
    rw [dif_pos hx]
    obtain ⟨n2, h2⟩ := Classical.choose_spec hx
    rw [ef_fun h2 h]
theorem ev_ext {c c' : xC} (h : ∀ r, (∃ n, ef n c = some r) ↔ ∃ n, ef n c' = some r) : ev c = ev c' := by
  cases e : ev c with
  | none =>
    cases e' : ev c' with
    | none => rfl
    | some r =>
      have := ev_iff.mpr ((h r).mpr (ev_iff.mp e'))
      rw [e] at this; cases this
  | some r => exact (ev_iff.mpr ((h r).mp (ev_iff.mp e))).symm
theorem ev_go {c c' : xC} (h : xstep c = some (.inl c')) : ev c = ev c' := by
  refine ev_ext fun r => ⟨fun ⟨n, hn⟩ => ?_, fun ⟨n, hn⟩ => ⟨n + 1, by rw [ef_s, h]; exact hn⟩⟩
  cases n with
  | zero => cases hn
  | succ n => rw [ef_s, h] at hn; exact ⟨n, hn⟩
theorem ev_ret {c : xC} {r : xR} (h : xstep c = some (.inr (.inr r))) : ev c = some r := ev_iff.mpr ⟨1, by rw [ef_s, h]⟩
theorem ev_stuck {c : xC} (h : xstep c = none) : ev c = none := by
  cases e : ev c with
  | none => rfl
  | some r =>
    obtain ⟨n, hn⟩ := ev_iff.mp e
    cases n with
    | zero => cases hn
    | succ n => rw [ef_s, h] at hn; cases hn
theorem ev_call {c cc : xC} {k : xR → Option xC} (h : xstep c = some (.inr (.inl (cc, k)))) : ev c = (ev cc).bind fun r => (k r).bind ev := by
  cases e : ev cc with
  | none =>
    cases e2 : ev c with
    | none => rfl
    | some r =>
      obtain ⟨n, hn⟩ := ev_iff.mp e2
      cases n with
      | zero => cases hn
      | succ n =>
        rw [ef_s, h] at hn
        obtain ⟨q, h1, -⟩ := Option.bind_eq_some_iff.mp hn
        rw [ev_iff.mpr ⟨n, h1⟩] at e; cases e
  | some q =>
    obtain ⟨n, hn⟩ := ev_iff.mp e
    show ev c = (k q).bind ev
    cases e2 : (k q).bind ev with
    | some r =>
      obtain ⟨c2, h1, h2⟩ := Option.bind_eq_some_iff.mp e2
      obtain ⟨n2, hn2⟩ := ev_iff.mp h2
      refine ev_iff.mpr ⟨max n n2 + 1, ?_⟩
      rw [ef_s, h]
      exact Option.bind_eq_some_iff.mpr ⟨q, ef_le hn (Nat.le_max_left _ _), Option.bind_eq_some_iff.mpr ⟨c2, h1, ef_le hn2 (Nat.le_max_right _ _)⟩⟩
    | none =>
      cases e3 : ev c with
      | none => rfl
      | some r =>
        obtain ⟨n2, hn2⟩ := ev_iff.mp e3
        cases n2 with
        | zero => cases hn2
        | succ n2 =>
          rw [ef_s, h] at hn2
          obtain ⟨q2, h1, h2⟩ := Option.bind_eq_some_iff.mp hn2
          obtain ⟨c2, h3, h4⟩ := Option.bind_eq_some_iff.mp h2
          rw [ef_fun hn h1] at e2
          rw [Option.bind_eq_some_iff.mpr ⟨c2, h3, ev_iff.mpr ⟨n2, h4⟩⟩] at e2
          cases e2
noncomputable def E_ (d : Nat) (m : xM) (pc : Nat) (ls : List Slot) (st : List Value) (h : xH) : Option xR := ev (m, pc, ls, st, h, d)
/-- a call -/
noncomputable def C_ (d : Nat) (m : xM) (as : List Value) (h : xH) : Option xR := E_ d m 0 (xL as m.2.2.2.2.1) [] h
