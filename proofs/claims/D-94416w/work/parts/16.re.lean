variable {d a b e f : Nat} {ls : List Slot} {st : List Value} {h : xH} {x y z x1 x2 x3 x4 x5 x6 x7 x8 : Int32} {u v u1 u2 u3 u4 u5 u6 : Int64} {r1 r2 r3 r4 r5 r6 : Nat} {s0 s1 s2 s3 s4 s5 s6 s7 s8 s9 s10 s11 s12 s13 : Slot} {q : Option Nat}
/-! where a call begins -/
theorem wJ0_init_e : C_ d mJ0_init [.ref a] h = E_ d mJ0_init 0 [.val (.ref a)] [] h := rfl
theorem wJ1_init_e : C_ d mJ1_init [.ref a] h = E_ d mJ1_init 0 [.val (.ref a)] [] h := rfl
theorem wJ10_checkIndex_e : C_ d mJ10_checkIndex [.int x1, .int x2] h = E_ d mJ10_checkIndex 0 [.val (.int x1), .val (.int x2)] [] h := rfl
theorem wJ11_bitCount_e : C_ d mJ11_bitCount [.int x1] h = E_ d mJ11_bitCount 0 [.val (.int x1)] [] h := rfl
theorem wJ2_init_e : C_ d mJ2_init [.ref a, .int x1] h = E_ d mJ2_init 0 [.val (.ref a), .val (.int x1)] [] h := rfl
theorem wJ2_size_e : C_ d mJ2_size [.ref a] h = E_ d mJ2_size 0 [.val (.ref a)] [] h := rfl
theorem wJ2_add_e : C_ d mJ2_add [.ref a, .ref r1] h = E_ d mJ2_add 0 [.val (.ref a), .val (.ref r1)] [] h := rfl
theorem wJ2_add_2_e : C_ d mJ2_add_2 [.ref a, .ref r1, .ref r2, .int x1] h = E_ d mJ2_add_2 0 [.val (.ref a), .val (.ref r1), .val (.ref r2), .val (.int x1)] [] h := rfl
theorem wJ2_grow_e : C_ d mJ2_grow [.ref a] h = E_ d mJ2_grow 0 [.val (.ref a)] [] h := rfl
theorem wJ2_grow_2_e : C_ d mJ2_grow_2 [.ref a, .int x1] h = E_ d mJ2_grow_2 0 [.val (.ref a), .val (.int x1), .unset, .unset] [] h := rfl
theorem wJ2_get_e : C_ d mJ2_get [.ref a, .int x1] h = E_ d mJ2_get 0 [.val (.ref a), .val (.int x1)] [] h := rfl
theorem wJ2_elementData_e : C_ d mJ2_elementData [.ref a, .int x1] h = E_ d mJ2_elementData 0 [.val (.ref a), .val (.int x1)] [] h := rfl
theorem wJ2_remove_e : C_ d mJ2_remove [.ref a, .int x1] h = E_ d mJ2_remove 0 [.val (.ref a), .val (.int x1), .unset, .unset] [] h := rfl
theorem wJ2_fastRemove_e : C_ d mJ2_fastRemove [.ref a, .ref r1, .int x1] h = E_ d mJ2_fastRemove 0 [.val (.ref a), .val (.ref r1), .val (.int x1), .unset] [] h := rfl
theorem wJ5_checkIndex_e : C_ d mJ5_checkIndex [.int x1, .int x2, .ref r1] h = E_ d mJ5_checkIndex 0 [.val (.int x1), .val (.int x2), .val (.ref r1)] [] h := rfl
theorem wJ5_checkIndex_en : C_ d mJ5_checkIndex [.int x1, .int x2, .null] h = E_ d mJ5_checkIndex 0 [.val (.int x1), .val (.int x2), .val (.null)] [] h := rfl
theorem wJ7_newLength_e : C_ d mJ7_newLength [.int x1, .int x2, .int x3] h = E_ d mJ7_newLength 0 [.val (.int x1), .val (.int x2), .val (.int x3), .unset] [] h := rfl
theorem wL_law_e : C_ d mL_law [.ref r1] h = E_ d mL_law 0 [.val (.ref r1), .unset, .unset, .unset] [] h := rfl
theorem wX0_init_e : C_ d mX0_init [.ref a] h = E_ d mX0_init 0 [.val (.ref a)] [] h := rfl
theorem wX0_walks_e : C_ d mX0_walks [] h = E_ d mX0_walks 0 [.unset, .unset] [] h := rfl
theorem wX0_feed_e : C_ d mX0_feed [.ref a, .int x1, .int x2, .int x3, .int x4, .int x5] h = E_ d mX0_feed 0 [.val (.ref a), .val (.int x1), .val (.int x2), .val (.int x3), .val (.int x4), .val (.int x5)] [] h := rfl
theorem wX0_no_e : C_ d mX0_no [.ref a, .int x1] h = E_ d mX0_no 0 [.val (.ref a), .val (.int x1)] [] h := rfl
theorem wX0_bytes_e : C_ d mX0_bytes [.ref a, .int x1] h = E_ d mX0_bytes 0 [.val (.ref a), .val (.int x1), .unset] [] h := rfl
theorem wX0_text_e : C_ d mX0_text [.ref a, .int x1, .int x2] h = E_ d mX0_text 0 [.val (.ref a), .val (.int x1), .val (.int x2), .unset] [] h := rfl
theorem wX0_in_e : C_ d mX0_in [.long u1, .long u2, .long u3] h = E_ d mX0_in 0 [.val (.long u1), .unset, .val (.long u2), .unset, .val (.long u3), .unset] [] h := rfl
theorem wX0_fault_e : C_ d mX0_fault [.ref a, .int x1] h = E_ d mX0_fault 0 [.val (.ref a), .val (.int x1)] [] h := rfl
theorem wX0_car_e : C_ d mX0_car [.ref a, .int x1, .int x2] h = E_ d mX0_car 0 [.val (.ref a), .val (.int x1), .val (.int x2), .unset] [] h := rfl
theorem wX0_isCar_e : C_ d mX0_isCar [.ref a, .int x1] h = E_ d mX0_isCar 0 [.val (.ref a), .val (.int x1)] [] h := rfl
theorem wX0_trait_e : C_ d mX0_trait [.ref a, .int x1, .int x2] h = E_ d mX0_trait 0 [.val (.ref a), .val (.int x1), .val (.int x2), .unset] [] h := rfl
theorem wX0_isTrait_e : C_ d mX0_isTrait [.int x1] h = E_ d mX0_isTrait 0 [.val (.int x1)] [] h := rfl
theorem wX0_set_e : C_ d mX0_set [.ref a, .int x1, .int x2] h = E_ d mX0_set 0 [.val (.ref a), .val (.int x1), .val (.int x2), .unset] [] h := rfl
theorem wX0_chance_e : C_ d mX0_chance [.ref a, .int x1] h = E_ d mX0_chance 0 [.val (.ref a), .val (.int x1)] [] h := rfl
theorem wX0_has_e : C_ d mX0_has [.int x1, .int x2] h = E_ d mX0_has 0 [.val (.int x1), .val (.int x2)] [] h := rfl
theorem wX0_chanceOf_e : C_ d mX0_chanceOf [.ref a, .ref r1, .int x1] h = E_ d mX0_chanceOf 0 [.val (.ref a), .val (.ref r1), .val (.int x1), .unset] [] h := rfl
theorem wX0_can_e : C_ d mX0_can [.ref a, .int x1] h = E_ d mX0_can 0 [.val (.ref a), .val (.int x1)] [] h := rfl
theorem wX0_run_e : C_ d mX0_run [.ref a, .int x1, .int x2] h = E_ d mX0_run 0 [.val (.ref a), .val (.int x1), .val (.int x2), .unset] [] h := rfl
theorem wX0_runs_e : C_ d mX0_runs [.ref a, .int x1, .int x2] h = E_ d mX0_runs 0 [.val (.ref a), .val (.int x1), .val (.int x2)] [] h := rfl
theorem wX0_tick_e : C_ d mX0_tick [.ref a, .ref r1] h = E_ d mX0_tick 0 [.val (.ref a), .val (.ref r1), .unset, .unset] [] h := rfl
theorem wX0_draw_e : C_ d mX0_draw [.ref a, .int x1] h = E_ d mX0_draw 0 [.val (.ref a), .val (.int x1)] [] h := rfl
theorem wX0_stopped_e : C_ d mX0_stopped [.ref a, .ref r1] h = E_ d mX0_stopped 0 [.val (.ref a), .val (.ref r1), .unset, .unset] [] h := rfl
theorem wX0_watch_e : C_ d mX0_watch [.ref a, .int x1, .int x2, .int x3, .int x4] h = E_ d mX0_watch 0 [.val (.ref a), .val (.int x1), .val (.int x2), .val (.int x3), .val (.int x4), .unset] [] h := rfl
theorem wX0_stands_e : C_ d mX0_stands [.ref a, .int x1, .int x2] h = E_ d mX0_stands 0 [.val (.ref a), .val (.int x1), .val (.int x2), .unset] [] h := rfl
theorem wX0_tries_e : C_ d mX0_tries [.ref a, .int x1, .int x2, .int x3] h = E_ d mX0_tries 0 [.val (.ref a), .val (.int x1), .val (.int x2), .val (.int x3), .unset, .unset, .unset] [] h := rfl
theorem wX0_odds_e : C_ d mX0_odds [.ref a, .int x1] h = E_ d mX0_odds 0 [.val (.ref a), .val (.int x1)] [] h := rfl
theorem wX0_gathers_e : C_ d mX0_gathers [.ref a, .ref r1] h = E_ d mX0_gathers 0 [.val (.ref a), .val (.ref r1), .unset] [] h := rfl
theorem wX0_forks_e : C_ d mX0_forks [.ref a, .int x1, .int x2, .long u1] h = E_ d mX0_forks 0 [.val (.ref a), .val (.int x1), .val (.int x2), .val (.long u1), .unset, .unset, .unset, .unset, .unset, .unset, .unset] [] h := rfl
theorem wX0_counts_e : C_ d mX0_counts [.ref a, .ref r1, .long u1] h = E_ d mX0_counts 0 [.val (.ref a), .val (.ref r1), .val (.long u1), .unset, .unset, .unset, .unset] [] h := rfl
theorem wX0_helps_e : C_ d mX0_helps [.ref a, .int x1] h = E_ d mX0_helps 0 [.val (.ref a), .val (.int x1)] [] h := rfl
theorem wX0_overBy_e : C_ d mX0_overBy [.ref a, .int x1] h = E_ d mX0_overBy 0 [.val (.ref a), .val (.int x1), .unset] [] h := rfl
theorem wX0_best_e : C_ d mX0_best [.ref a, .int x1] h = E_ d mX0_best 0 [.val (.ref a), .val (.int x1), .unset, .unset, .unset, .unset, .unset, .unset] [] h := rfl
theorem wX0_back_e : C_ d mX0_back [.ref a, .int x1] h = E_ d mX0_back 0 [.val (.ref a), .val (.int x1), .unset, .unset, .unset] [] h := rfl
theorem wX0_isAtMost_e : C_ d mX0_isAtMost [.long u1, .int x1, .long u2] h = E_ d mX0_isAtMost 0 [.val (.long u1), .unset, .val (.int x1), .val (.long u2), .unset] [] h := rfl
theorem wX0_wise_e : C_ d mX0_wise [.ref a, .int x1] h = E_ d mX0_wise 0 [.val (.ref a), .val (.int x1), .unset, .unset, .unset, .unset, .unset, .unset] [] h := rfl
theorem wX0_blame_e : C_ d mX0_blame [.ref a, .int x1, .int x2] h = E_ d mX0_blame 0 [.val (.ref a), .val (.int x1), .val (.int x2)] [] h := rfl
theorem wX0_mean_e : C_ d mX0_mean [.ref a, .int x1] h = E_ d mX0_mean 0 [.val (.ref a), .val (.int x1)] [] h := rfl
theorem wX0_commonOf_e : C_ d mX0_commonOf [.long u1, .long u2] h = E_ d mX0_commonOf 0 [.val (.long u1), .unset, .val (.long u2), .unset] [] h := rfl
theorem wX0_repeals_e : C_ d mX0_repeals [.ref a, .int x1] h = E_ d mX0_repeals 0 [.val (.ref a), .val (.int x1), .unset, .unset, .unset, .unset, .unset, .unset] [] h := rfl
theorem wX0_absent_e : C_ d mX0_absent [.ref a, .int x1] h = E_ d mX0_absent 0 [.val (.ref a), .val (.int x1), .unset, .unset, .unset] [] h := rfl
theorem wX0_margin_e : C_ d mX0_margin [.ref a, .int x1] h = E_ d mX0_margin 0 [.val (.ref a), .val (.int x1), .unset, .unset] [] h := rfl
theorem wX0_off_e : C_ d mX0_off [.ref a, .ref r1] h = E_ d mX0_off 0 [.val (.ref a), .val (.ref r1), .unset, .unset] [] h := rfl
theorem wX0_place_e : C_ d mX0_place [.ref a, .int x1, .int x2, .int x3, .int x4, .int x5] h = E_ d mX0_place 0 [.val (.ref a), .val (.int x1), .val (.int x2), .val (.int x3), .val (.int x4), .val (.int x5)] [] h := rfl
theorem wX0_behind_e : C_ d mX0_behind [.ref a, .int x1, .int x2] h = E_ d mX0_behind 0 [.val (.ref a), .val (.int x1), .val (.int x2), .unset] [] h := rfl
theorem wX0_isPlace_e : C_ d mX0_isPlace [.ref a, .int x1] h = E_ d mX0_isPlace 0 [.val (.ref a), .val (.int x1)] [] h := rfl
theorem wX0_at_e : C_ d mX0_at [.ref a, .int x1, .int x2] h = E_ d mX0_at 0 [.val (.ref a), .val (.int x1), .val (.int x2), .unset] [] h := rfl
theorem wX0_rate_e : C_ d mX0_rate [.ref a, .int x1, .int x2] h = E_ d mX0_rate 0 [.val (.ref a), .val (.int x1), .val (.int x2), .unset, .unset, .unset] [] h := rfl
theorem wX0_common_e : C_ d mX0_common [.int x1, .int x2] h = E_ d mX0_common 0 [.val (.int x1), .val (.int x2)] [] h := rfl
theorem wX0_parted_e : C_ d mX0_parted [.ref a] h = E_ d mX0_parted 0 [.val (.ref a), .unset, .unset, .unset, .unset] [] h := rfl
theorem wX0_above_e : C_ d mX0_above [.ref a, .int x1] h = E_ d mX0_above 0 [.val (.ref a), .val (.int x1)] [] h := rfl
theorem wX0_sumOf_e : C_ d mX0_sumOf [.ref a, .int x1, .int x2, .int x3, .int x4] h = E_ d mX0_sumOf 0 [.val (.ref a), .val (.int x1), .val (.int x2), .val (.int x3), .val (.int x4), .unset, .unset, .unset] [] h := rfl
theorem wX0_below_e : C_ d mX0_below [.ref a, .int x1, .int x2] h = E_ d mX0_below 0 [.val (.ref a), .val (.int x1), .val (.int x2)] [] h := rfl
theorem wX0_worst_e : C_ d mX0_worst [.ref a, .int x1, .int x2] h = E_ d mX0_worst 0 [.val (.ref a), .val (.int x1), .val (.int x2), .unset, .unset] [] h := rfl
theorem wX0_worstOf_e : C_ d mX0_worstOf [.ref a, .int x1] h = E_ d mX0_worstOf 0 [.val (.ref a), .val (.int x1), .unset, .unset, .unset, .unset] [] h := rfl
theorem wX0_fallOf_e : C_ d mX0_fallOf [.ref a, .int x1] h = E_ d mX0_fallOf 0 [.val (.ref a), .val (.int x1), .unset, .unset] [] h := rfl
theorem wX0_matches_e : C_ d mX0_matches [.ref a, .int x1] h = E_ d mX0_matches 0 [.val (.ref a), .val (.int x1), .unset, .unset, .unset, .unset] [] h := rfl
theorem wX0_apart_e : C_ d mX0_apart [.ref a, .int x1, .int x2] h = E_ d mX0_apart 0 [.val (.ref a), .val (.int x1), .val (.int x2)] [] h := rfl
theorem wX0_ranked_e : C_ d mX0_ranked [.ref a, .int x1] h = E_ d mX0_ranked 0 [.val (.ref a), .val (.int x1), .unset, .unset, .unset] [] h := rfl
theorem wX0_isWorse_e : C_ d mX0_isWorse [.ref a, .int x1, .int x2] h = E_ d mX0_isWorse 0 [.val (.ref a), .val (.int x1), .val (.int x2), .unset, .unset, .unset, .unset] [] h := rfl
theorem wX0_measure_e : C_ d mX0_measure [.ref a, .int x1, .int x2, .int x3] h = E_ d mX0_measure 0 [.val (.ref a), .val (.int x1), .val (.int x2), .val (.int x3)] [] h := rfl
theorem wX0_spent_e : C_ d mX0_spent [.ref a, .int x1, .int x2] h = E_ d mX0_spent 0 [.val (.ref a), .val (.int x1), .val (.int x2), .unset, .unset, .unset, .unset, .unset] [] h := rfl
theorem wX0_laysSpent_e : C_ d mX0_laysSpent [.ref a, .int x1] h = E_ d mX0_laysSpent 0 [.val (.ref a), .val (.int x1), .unset, .unset, .unset, .unset, .unset, .unset] [] h := rfl
theorem wX0_spends_e : C_ d mX0_spends [.ref a, .int x1, .int x2, .int x3] h = E_ d mX0_spends 0 [.val (.ref a), .val (.int x1), .val (.int x2), .val (.int x3)] [] h := rfl
theorem wX0_leftAt_e : C_ d mX0_leftAt [.ref a, .int x1, .int x2] h = E_ d mX0_leftAt 0 [.val (.ref a), .val (.int x1), .val (.int x2), .unset, .unset] [] h := rfl
theorem wX0_costOf_e : C_ d mX0_costOf [.ref a, .int x1] h = E_ d mX0_costOf 0 [.val (.ref a), .val (.int x1), .unset, .unset] [] h := rfl
theorem wX0_fine_e : C_ d mX0_fine [.ref a, .int x1, .int x2, .int x3, .int x4] h = E_ d mX0_fine 0 [.val (.ref a), .val (.int x1), .val (.int x2), .val (.int x3), .val (.int x4), .unset, .unset] [] h := rfl
theorem wX0_until_e : C_ d mX0_until [.ref a, .int x1, .int x2, .int x3, .int x4] h = E_ d mX0_until 0 [.val (.ref a), .val (.int x1), .val (.int x2), .val (.int x3), .val (.int x4), .unset, .unset] [] h := rfl
theorem wX0_lot_e : C_ d mX0_lot [.ref a, .int x1, .int x2] h = E_ d mX0_lot 0 [.val (.ref a), .val (.int x1), .val (.int x2), .unset] [] h := rfl
theorem wX0_spread_e : C_ d mX0_spread [.int x1] h = E_ d mX0_spread 0 [.val (.int x1)] [] h := rfl
theorem wX0_shown_e : C_ d mX0_shown [.ref a, .int x1, .int x2, .int x3, .int x4] h = E_ d mX0_shown 0 [.val (.ref a), .val (.int x1), .val (.int x2), .val (.int x3), .val (.int x4), .unset, .unset, .unset, .unset] [] h := rfl
theorem wX0_cube_e : C_ d mX0_cube [.long u1] h = E_ d mX0_cube 0 [.val (.long u1), .unset] [] h := rfl
theorem wX0_clumps_e : C_ d mX0_clumps [.ref a, .int x1, .int x2, .int x3, .int x4] h = E_ d mX0_clumps 0 [.val (.ref a), .val (.int x1), .val (.int x2), .val (.int x3), .val (.int x4), .unset, .unset, .unset, .unset, .unset, .unset, .unset] [] h := rfl
theorem wX0_isRow_e : C_ d mX0_isRow [.int x1] h = E_ d mX0_isRow 0 [.val (.int x1)] [] h := rfl
theorem wX0_lamp_e : C_ d mX0_lamp [.ref a, .int x1, .int x2, .int x3] h = E_ d mX0_lamp 0 [.val (.ref a), .val (.int x1), .val (.int x2), .val (.int x3), .unset, .unset, .unset, .unset] [] h := rfl
theorem wX0_waste_e : C_ d mX0_waste [.int x1, .int x2, .int x3, .int x4] h = E_ d mX0_waste 0 [.val (.int x1), .val (.int x2), .val (.int x3), .val (.int x4)] [] h := rfl
theorem wX0_pay_e : C_ d mX0_pay [.ref a, .int x1, .int x2, .int x3, .int x4] h = E_ d mX0_pay 0 [.val (.ref a), .val (.int x1), .val (.int x2), .val (.int x3), .val (.int x4), .unset] [] h := rfl
theorem wX0_payAt_e : C_ d mX0_payAt [.int x1, .int x2, .int x3] h = E_ d mX0_payAt 0 [.val (.int x1), .val (.int x2), .val (.int x3)] [] h := rfl
theorem wX0_rests_e : C_ d mX0_rests [.ref a, .int x1, .int x2, .int x3] h = E_ d mX0_rests 0 [.val (.ref a), .val (.int x1), .val (.int x2), .val (.int x3), .unset, .unset, .unset, .unset] [] h := rfl
theorem wX0_isContent_e : C_ d mX0_isContent [.ref a, .int x1, .int x2, .int x3, .int x4] h = E_ d mX0_isContent 0 [.val (.ref a), .val (.int x1), .val (.int x2), .val (.int x3), .val (.int x4), .unset, .unset] [] h := rfl
theorem wX0_thanks_e : C_ d mX0_thanks [.ref a, .int x1, .int x2, .int x3, .int x4, .int x5] h = E_ d mX0_thanks 0 [.val (.ref a), .val (.int x1), .val (.int x2), .val (.int x3), .val (.int x4), .val (.int x5), .unset, .unset, .unset] [] h := rfl
theorem wX0_filled_e : C_ d mX0_filled [.ref a, .int x1, .int x2] h = E_ d mX0_filled 0 [.val (.ref a), .val (.int x1), .val (.int x2), .unset] [] h := rfl
theorem wX0_countsFault_e : C_ d mX0_countsFault [.ref a, .int x1] h = E_ d mX0_countsFault 0 [.val (.ref a), .val (.int x1), .unset] [] h := rfl
theorem wX0_filledAt_e : C_ d mX0_filledAt [.ref a, .int x1, .int x2] h = E_ d mX0_filledAt 0 [.val (.ref a), .val (.int x1), .val (.int x2), .unset, .unset] [] h := rfl
theorem wX0_nearest_e : C_ d mX0_nearest [.ref a, .int x1, .int x2, .int x3] h = E_ d mX0_nearest 0 [.val (.ref a), .val (.int x1), .val (.int x2), .val (.int x3), .unset] [] h := rfl
theorem wX0_slip_e : C_ d mX0_slip [.ref a, .int x1, .int x2] h = E_ d mX0_slip 0 [.val (.ref a), .val (.int x1), .val (.int x2), .unset, .unset, .unset, .unset, .unset, .unset] [] h := rfl
theorem wX0_isCounted_e : C_ d mX0_isCounted [.ref a, .int x1] h = E_ d mX0_isCounted 0 [.val (.ref a), .val (.int x1)] [] h := rfl
theorem wX0_slips_e : C_ d mX0_slips [.ref a, .int x1, .int x2, .int x3] h = E_ d mX0_slips 0 [.val (.ref a), .val (.int x1), .val (.int x2), .val (.int x3), .unset] [] h := rfl
theorem wX0_numbers_e : C_ d mX0_numbers [.ref a, .int x1, .int x2, .int x3] h = E_ d mX0_numbers 0 [.val (.ref a), .val (.int x1), .val (.int x2), .val (.int x3)] [] h := rfl
theorem wX0_image_e : C_ d mX0_image [.ref a, .int x1] h = E_ d mX0_image 0 [.val (.ref a), .val (.int x1)] [] h := rfl
theorem wX0_restore_e : C_ d mX0_restore [.ref a, .int x1] h = E_ d mX0_restore 0 [.val (.ref a), .val (.int x1)] [] h := rfl
theorem wX0_status_e : C_ d mX0_status [.ref a, .int x1] h = E_ d mX0_status 0 [.val (.ref a), .val (.int x1)] [] h := rfl
theorem wX0_count_e : C_ d mX0_count [.ref a, .int x1] h = E_ d mX0_count 0 [.val (.ref a), .val (.int x1)] [] h := rfl
theorem wX1_init_e : C_ d mX1_init [.ref a] h = E_ d mX1_init 0 [.val (.ref a)] [] h := rfl
theorem wX1_copy_e : C_ d mX1_copy [.ref a] h = E_ d mX1_copy 0 [.val (.ref a), .unset, .unset] [] h := rfl
theorem wX10_init_e : C_ d mX10_init [.ref a, .int x1] h = E_ d mX10_init 0 [.val (.ref a), .val (.int x1)] [] h := rfl
theorem wX10_is_e : C_ d mX10_is [.ref a, .ref r1, .int x1] h = E_ d mX10_is 0 [.val (.ref a), .val (.ref r1), .val (.int x1)] [] h := rfl
theorem wX11_init_e : C_ d mX11_init [.ref a] h = E_ d mX11_init 0 [.val (.ref a)] [] h := rfl
theorem wX11_is_e : C_ d mX11_is [.ref a, .ref r1, .int x1] h = E_ d mX11_is 0 [.val (.ref a), .val (.ref r1), .val (.int x1), .unset] [] h := rfl
theorem wX12_init_e : C_ d mX12_init [.ref a] h = E_ d mX12_init 0 [.val (.ref a)] [] h := rfl
theorem wX12_isSo_e : C_ d mX12_isSo [.ref a, .ref r1, .int x1, .int x2] h = E_ d mX12_isSo 0 [.val (.ref a), .val (.ref r1), .val (.int x1), .val (.int x2)] [] h := rfl
theorem wX13_init_e : C_ d mX13_init [.ref a] h = E_ d mX13_init 0 [.val (.ref a)] [] h := rfl
theorem wX13_isSo_e : C_ d mX13_isSo [.ref a, .ref r1, .int x1, .int x2] h = E_ d mX13_isSo 0 [.val (.ref a), .val (.ref r1), .val (.int x1), .val (.int x2)] [] h := rfl
theorem wX14_init_e : C_ d mX14_init [.ref a] h = E_ d mX14_init 0 [.val (.ref a)] [] h := rfl
theorem wX14_isSo_e : C_ d mX14_isSo [.ref a, .ref r1, .int x1, .int x2] h = E_ d mX14_isSo 0 [.val (.ref a), .val (.ref r1), .val (.int x1), .val (.int x2)] [] h := rfl
theorem wX15_init_e : C_ d mX15_init [.ref a] h = E_ d mX15_init 0 [.val (.ref a)] [] h := rfl
theorem wX15_is_e : C_ d mX15_is [.ref a, .ref r1, .int x1] h = E_ d mX15_is 0 [.val (.ref a), .val (.ref r1), .val (.int x1)] [] h := rfl
theorem wX16_init_e : C_ d mX16_init [.ref a, .int x1, .int x2] h = E_ d mX16_init 0 [.val (.ref a), .val (.int x1), .val (.int x2)] [] h := rfl
theorem wX16_is_e : C_ d mX16_is [.ref a, .ref r1, .int x1] h = E_ d mX16_is 0 [.val (.ref a), .val (.ref r1), .val (.int x1)] [] h := rfl
theorem wX17_init_e : C_ d mX17_init [.ref a, .int x1, .ref r1, .ref r2] h = E_ d mX17_init 0 [.val (.ref a), .val (.int x1), .val (.ref r1), .val (.ref r2)] [] h := rfl
theorem wX17_is_e : C_ d mX17_is [.ref a, .ref r1, .int x1] h = E_ d mX17_is 0 [.val (.ref a), .val (.ref r1), .val (.int x1)] [] h := rfl
theorem wX18_init_e : C_ d mX18_init [.ref a, .int x1, .ref r1] h = E_ d mX18_init 0 [.val (.ref a), .val (.int x1), .val (.ref r1)] [] h := rfl
theorem wX19_init_e : C_ d mX19_init [.ref a, .int x1, .int x2, .int x3, .int x4, .int x5] h = E_ d mX19_init 0 [.val (.ref a), .val (.int x1), .val (.int x2), .val (.int x3), .val (.int x4), .val (.int x5)] [] h := rfl
theorem wX19_hurt_e : C_ d mX19_hurt [.ref a] h = E_ d mX19_hurt 0 [.val (.ref a)] [] h := rfl
theorem wX19_crossing_e : C_ d mX19_crossing [.ref a] h = E_ d mX19_crossing 0 [.val (.ref a)] [] h := rfl
theorem wX19_fall_e : C_ d mX19_fall [.ref a] h = E_ d mX19_fall 0 [.val (.ref a)] [] h := rfl
theorem wX19_copy_e : C_ d mX19_copy [.ref a] h = E_ d mX19_copy 0 [.val (.ref a), .unset] [] h := rfl
theorem wX2_init_e : C_ d mX2_init [.ref a] h = E_ d mX2_init 0 [.val (.ref a)] [] h := rfl
theorem wX2_get_e : C_ d mX2_get [.ref a, .int x1] h = E_ d mX2_get 0 [.val (.ref a), .val (.int x1)] [] h := rfl
theorem wX2_put_e : C_ d mX2_put [.ref a, .int x1, .int x2] h = E_ d mX2_put 0 [.val (.ref a), .val (.int x1), .val (.int x2)] [] h := rfl
theorem wX2_pace_e : C_ d mX2_pace [.ref a, .int x1] h = E_ d mX2_pace 0 [.val (.ref a), .val (.int x1)] [] h := rfl
theorem wX2_copy_e : C_ d mX2_copy [.ref a] h = E_ d mX2_copy 0 [.val (.ref a), .unset, .unset] [] h := rfl
theorem wX3_init_e : C_ d mX3_init [.ref a] h = E_ d mX3_init 0 [.val (.ref a)] [] h := rfl
theorem wX3_begins_e : C_ d mX3_begins [.ref a, .ref r1] h = E_ d mX3_begins 0 [.val (.ref a), .val (.ref r1), .unset] [] h := rfl
theorem wX3_many_e : C_ d mX3_many [.ref a] h = E_ d mX3_many 0 [.val (.ref a)] [] h := rfl
theorem wX3_car_e : C_ d mX3_car [.ref a, .int x1] h = E_ d mX3_car 0 [.val (.ref a), .val (.int x1)] [] h := rfl
theorem wX3_can_e : C_ d mX3_can [.ref a, .int x1] h = E_ d mX3_can 0 [.val (.ref a), .val (.int x1)] [] h := rfl
theorem wX3_isAsked_e : C_ d mX3_isAsked [.ref a, .int x1] h = E_ d mX3_isAsked 0 [.val (.ref a), .val (.int x1)] [] h := rfl
theorem wX3_goesOn_e : C_ d mX3_goesOn [.ref a] h = E_ d mX3_goesOn 0 [.val (.ref a), .unset, .unset, .unset, .unset] [] h := rfl
theorem wX3_isFree_e : C_ d mX3_isFree [.ref a] h = E_ d mX3_isFree 0 [.val (.ref a), .unset] [] h := rfl
theorem wX3_isHidden_e : C_ d mX3_isHidden [.ref a, .int x1] h = E_ d mX3_isHidden 0 [.val (.ref a), .val (.int x1), .unset] [] h := rfl
theorem wX3_isAtKerb_e : C_ d mX3_isAtKerb [.ref a] h = E_ d mX3_isAtKerb 0 [.val (.ref a)] [] h := rfl
theorem wX3_moves_e : C_ d mX3_moves [.ref a, .int x1] h = E_ d mX3_moves 0 [.val (.ref a), .val (.int x1), .unset, .unset, .unset] [] h := rfl
theorem wX3_nearest_e : C_ d mX3_nearest [.ref a, .int x1] h = E_ d mX3_nearest 0 [.val (.ref a), .val (.int x1), .unset, .unset] [] h := rfl
theorem wX3_goes_e : C_ d mX3_goes [.ref a, .int x1, .int x2] h = E_ d mX3_goes 0 [.val (.ref a), .val (.int x1), .val (.int x2), .unset, .unset] [] h := rfl
theorem wX3_crosses_e : C_ d mX3_crosses [.ref a, .int x1] h = E_ d mX3_crosses 0 [.val (.ref a), .val (.int x1)] [] h := rfl
theorem wX3_be_e : C_ d mX3_be [.ref a, .ref r1] h = E_ d mX3_be 0 [.val (.ref a), .val (.ref r1), .unset] [] h := rfl
theorem wX4_init_e : C_ d mX4_init [.ref a] h = E_ d mX4_init 0 [.val (.ref a)] [] h := rfl
theorem wX4_many_e : C_ d mX4_many [.ref a] h = E_ d mX4_many 0 [.val (.ref a)] [] h := rfl
theorem wX4_number_e : C_ d mX4_number [.ref a, .int x1] h = E_ d mX4_number 0 [.val (.ref a), .val (.int x1)] [] h := rfl
theorem wX5_init_e : C_ d mX5_init [.ref a] h = E_ d mX5_init 0 [.val (.ref a), .unset] [] h := rfl
theorem wX5_plain_e : C_ d mX5_plain [.ref r1] h = E_ d mX5_plain 0 [.val (.ref r1), .unset] [] h := rfl
theorem wX5_feed_e : C_ d mX5_feed [.ref a, .int x1, .int x2, .int x3, .int x4, .int x5] h = E_ d mX5_feed 0 [.val (.ref a), .val (.int x1), .val (.int x2), .val (.int x3), .val (.int x4), .val (.int x5), .unset, .unset] [] h := rfl
theorem wX5_no_e : C_ d mX5_no [.ref a, .int x1] h = E_ d mX5_no 0 [.val (.ref a), .val (.int x1)] [] h := rfl
theorem wX5_text_e : C_ d mX5_text [.ref a, .int x1, .int x2] h = E_ d mX5_text 0 [.val (.ref a), .val (.int x1), .val (.int x2), .unset, .unset, .unset] [] h := rfl
theorem wX5_within_e : C_ d mX5_within [.long u1, .long u2, .long u3] h = E_ d mX5_within 0 [.val (.long u1), .unset, .val (.long u2), .unset, .val (.long u3), .unset] [] h := rfl
theorem wX5_next_e : C_ d mX5_next [.ref a] h = E_ d mX5_next 0 [.val (.ref a)] [] h := rfl
theorem wX5_see_e : C_ d mX5_see [.ref a, .int x1] h = E_ d mX5_see 0 [.val (.ref a), .val (.int x1)] [] h := rfl
theorem wX5_isSmall_e : C_ d mX5_isSmall [.int x1] h = E_ d mX5_isSmall 0 [.val (.int x1)] [] h := rfl
theorem wX5_keyAt_e : C_ d mX5_keyAt [.ref a] h = E_ d mX5_keyAt 0 [.val (.ref a), .unset, .unset, .unset] [] h := rfl
theorem wX5_isDigit_e : C_ d mX5_isDigit [.int x1] h = E_ d mX5_isDigit 0 [.val (.int x1)] [] h := rfl
theorem wX5_readLine_e : C_ d mX5_readLine [.ref a] h = E_ d mX5_readLine 0 [.val (.ref a)] [] h := rfl
theorem wX5_eats_e : C_ d mX5_eats [.ref a, .int x1] h = E_ d mX5_eats 0 [.val (.ref a), .val (.int x1)] [] h := rfl
theorem wX5_is_e : C_ d mX5_is [.ref a, .int x1] h = E_ d mX5_is 0 [.val (.ref a), .val (.int x1)] [] h := rfl
theorem wX5_lanesNeeded_e : C_ d mX5_lanesNeeded [.ref a] h = E_ d mX5_lanesNeeded 0 [.val (.ref a), .unset, .unset] [] h := rfl
theorem wX5_takes_e : C_ d mX5_takes [.ref a, .int x1, .int x2] h = E_ d mX5_takes 0 [.val (.ref a), .val (.int x1), .val (.int x2), .unset] [] h := rfl
theorem wX5_fails_e : C_ d mX5_fails [.ref a, .int x1] h = E_ d mX5_fails 0 [.val (.ref a), .val (.int x1)] [] h := rfl
theorem wX5_readCar_e : C_ d mX5_readCar [.ref a] h = E_ d mX5_readCar 0 [.val (.ref a), .unset] [] h := rfl
theorem wX5_needs_e : C_ d mX5_needs [.ref a, .int x1] h = E_ d mX5_needs 0 [.val (.ref a), .val (.int x1)] [] h := rfl
theorem wX5_readTrait_e : C_ d mX5_readTrait [.ref a] h = E_ d mX5_readTrait 0 [.val (.ref a)] [] h := rfl
theorem wX5_readLaw_e : C_ d mX5_readLaw [.ref a] h = E_ d mX5_readLaw 0 [.val (.ref a), .unset] [] h := rfl
theorem wX5_readTest_e : C_ d mX5_readTest [.ref a] h = E_ d mX5_readTest 0 [.val (.ref a)] [] h := rfl
theorem wX5_readPart_e : C_ d mX5_readPart [.ref a] h = E_ d mX5_readPart 0 [.val (.ref a)] [] h := rfl
theorem wX5_readFact_e : C_ d mX5_readFact [.ref a] h = E_ d mX5_readFact 0 [.val (.ref a), .unset, .unset] [] h := rfl
theorem wX5_emit_e : C_ d mX5_emit [.ref a, .int x1, .int x2] h = E_ d mX5_emit 0 [.val (.ref a), .val (.int x1), .val (.int x2)] [] h := rfl
theorem wX5_fault_e : C_ d mX5_fault [.ref a, .int x1] h = E_ d mX5_fault 0 [.val (.ref a), .val (.int x1)] [] h := rfl
theorem wX5_car_e : C_ d mX5_car [.ref a, .int x1, .int x2] h = E_ d mX5_car 0 [.val (.ref a), .val (.int x1), .val (.int x2)] [] h := rfl
theorem wX5_isCar_e : C_ d mX5_isCar [.ref a, .int x1] h = E_ d mX5_isCar 0 [.val (.ref a), .val (.int x1)] [] h := rfl
theorem wX5_trait_e : C_ d mX5_trait [.ref a, .int x1, .int x2] h = E_ d mX5_trait 0 [.val (.ref a), .val (.int x1), .val (.int x2), .unset] [] h := rfl
theorem wX5_set_e : C_ d mX5_set [.ref a, .int x1, .int x2] h = E_ d mX5_set 0 [.val (.ref a), .val (.int x1), .val (.int x2), .unset] [] h := rfl
theorem wX5_chance_e : C_ d mX5_chance [.ref a, .int x1] h = E_ d mX5_chance 0 [.val (.ref a), .val (.int x1)] [] h := rfl
theorem wX5_begins_e : C_ d mX5_begins [.ref a, .int x1] h = E_ d mX5_begins 0 [.val (.ref a), .val (.int x1), .unset] [] h := rfl
theorem wX5_hasTrait_e : C_ d mX5_hasTrait [.ref a, .int x1] h = E_ d mX5_hasTrait 0 [.val (.ref a), .val (.int x1)] [] h := rfl
theorem wX5_stopsBy_e : C_ d mX5_stopsBy [.ref a, .int x1] h = E_ d mX5_stopsBy 0 [.val (.ref a), .val (.int x1), .unset] [] h := rfl
theorem wX5_isSo_e : C_ d mX5_isSo [.ref a, .int x1, .int x2] h = E_ d mX5_isSo 0 [.val (.ref a), .val (.int x1), .val (.int x2), .unset, .unset, .unset] [] h := rfl
theorem wX5_fact_e : C_ d mX5_fact [.ref a, .int x1, .int x2, .int x3] h = E_ d mX5_fact 0 [.val (.ref a), .val (.int x1), .val (.int x2), .val (.int x3), .unset] [] h := rfl
theorem wX5_isSome_e : C_ d mX5_isSome [.ref a, .int x1, .int x2, .int x3, .int x4, .int x5] h = E_ d mX5_isSome 0 [.val (.ref a), .val (.int x1), .val (.int x2), .val (.int x3), .val (.int x4), .val (.int x5), .unset, .unset] [] h := rfl
theorem wX5_can_e : C_ d mX5_can [.ref a, .int x1] h = E_ d mX5_can 0 [.val (.ref a), .val (.int x1)] [] h := rfl
theorem wX5_canStop_e : C_ d mX5_canStop [.ref a, .int x1] h = E_ d mX5_canStop 0 [.val (.ref a), .val (.int x1)] [] h := rfl
theorem wX5_run_e : C_ d mX5_run [.ref a, .int x1, .int x2] h = E_ d mX5_run 0 [.val (.ref a), .val (.int x1), .val (.int x2)] [] h := rfl
theorem wX5_runs_e : C_ d mX5_runs [.ref a, .int x1, .int x2] h = E_ d mX5_runs 0 [.val (.ref a), .val (.int x1), .val (.int x2)] [] h := rfl
theorem wX5_decides_e : C_ d mX5_decides [.ref a, .int x1] h = E_ d mX5_decides 0 [.val (.ref a), .val (.int x1), .unset, .unset] [] h := rfl
theorem wX5_ticks_e : C_ d mX5_ticks [.ref a] h = E_ d mX5_ticks 0 [.val (.ref a)] [] h := rfl
theorem wX5_isFree_e : C_ d mX5_isFree [.ref a, .int x1] h = E_ d mX5_isFree 0 [.val (.ref a), .val (.int x1), .unset] [] h := rfl
theorem wX5_isHidden_e : C_ d mX5_isHidden [.ref a, .int x1] h = E_ d mX5_isHidden 0 [.val (.ref a), .val (.int x1), .unset] [] h := rfl
theorem wX5_carsGo_e : C_ d mX5_carsGo [.ref a] h = E_ d mX5_carsGo 0 [.val (.ref a), .unset, .unset, .unset, .unset] [] h := rfl
theorem wX5_goesOn_e : C_ d mX5_goesOn [.ref a, .int x1] h = E_ d mX5_goesOn 0 [.val (.ref a), .val (.int x1), .unset, .unset, .unset, .unset] [] h := rfl
theorem wX5_stopped_e : C_ d mX5_stopped [.ref a] h = E_ d mX5_stopped 0 [.val (.ref a), .unset, .unset] [] h := rfl
theorem wX5_watch_e : C_ d mX5_watch [.ref a, .int x1, .int x2, .int x3, .int x4] h = E_ d mX5_watch 0 [.val (.ref a), .val (.int x1), .val (.int x2), .val (.int x3), .val (.int x4)] [] h := rfl
theorem wX5_none_e : C_ d mX5_none [.ref a, .int x1] h = E_ d mX5_none 0 [.val (.ref a), .val (.int x1)] [] h := rfl
theorem wX5_stands_e : C_ d mX5_stands [.ref a, .int x1, .int x2] h = E_ d mX5_stands 0 [.val (.ref a), .val (.int x1), .val (.int x2)] [] h := rfl
theorem wX5_tries_e : C_ d mX5_tries [.ref a, .int x1, .int x2, .int x3] h = E_ d mX5_tries 0 [.val (.ref a), .val (.int x1), .val (.int x2), .val (.int x3), .unset, .unset] [] h := rfl
theorem wX5_odds_e : C_ d mX5_odds [.ref a, .int x1] h = E_ d mX5_odds 0 [.val (.ref a), .val (.int x1)] [] h := rfl
theorem wX5_worksOdds_e : C_ d mX5_worksOdds [.ref a] h = E_ d mX5_worksOdds 0 [.val (.ref a), .unset] [] h := rfl
theorem wX5_allParts_e : C_ d mX5_allParts [.ref a] h = E_ d mX5_allParts 0 [.val (.ref a), .unset, .unset, .unset] [] h := rfl
theorem wX5_branches_e : C_ d mX5_branches [.ref a, .int x1, .long u1] h = E_ d mX5_branches 0 [.val (.ref a), .val (.int x1), .val (.long u1), .unset, .unset, .unset, .unset] [] h := rfl
theorem wX5_helps_e : C_ d mX5_helps [.ref a, .int x1] h = E_ d mX5_helps 0 [.val (.ref a), .val (.int x1), .unset, .unset] [] h := rfl
theorem wX5_overIf_e : C_ d mX5_overIf [.ref a, .int x1] h = E_ d mX5_overIf 0 [.val (.ref a), .val (.int x1), .unset] [] h := rfl
theorem wX5_best_e : C_ d mX5_best [.ref a, .int x1] h = E_ d mX5_best 0 [.val (.ref a), .val (.int x1), .unset, .unset, .unset, .unset, .unset, .unset] [] h := rfl
theorem wX5_bitsOf_e : C_ d mX5_bitsOf [.int x1] h = E_ d mX5_bitsOf 0 [.val (.int x1), .unset, .unset] [] h := rfl
theorem wX5_back_e : C_ d mX5_back [.ref a, .int x1] h = E_ d mX5_back 0 [.val (.ref a), .val (.int x1), .unset, .unset, .unset, .unset, .unset, .unset] [] h := rfl
theorem wX5_wise_e : C_ d mX5_wise [.ref a, .int x1] h = E_ d mX5_wise 0 [.val (.ref a), .val (.int x1), .unset, .unset, .unset, .unset, .unset, .unset] [] h := rfl
theorem wX5_blame_e : C_ d mX5_blame [.ref a, .int x1, .int x2] h = E_ d mX5_blame 0 [.val (.ref a), .val (.int x1), .val (.int x2)] [] h := rfl
theorem wX5_mean_e : C_ d mX5_mean [.ref a, .int x1] h = E_ d mX5_mean 0 [.val (.ref a), .val (.int x1), .unset, .unset] [] h := rfl
theorem wX5_common_e : C_ d mX5_common [.long u1, .long u2] h = E_ d mX5_common 0 [.val (.long u1), .unset, .val (.long u2), .unset, .unset, .unset, .unset, .unset, .unset, .unset] [] h := rfl
theorem wX5_repeals_e : C_ d mX5_repeals [.ref a, .int x1] h = E_ d mX5_repeals 0 [.val (.ref a), .val (.int x1), .unset, .unset] [] h := rfl
theorem wX5_absent_e : C_ d mX5_absent [.ref a, .int x1] h = E_ d mX5_absent 0 [.val (.ref a), .val (.int x1), .unset, .unset] [] h := rfl
theorem wX5_margin_e : C_ d mX5_margin [.ref a, .int x1] h = E_ d mX5_margin 0 [.val (.ref a), .val (.int x1), .unset, .unset] [] h := rfl
theorem wX5_place_e : C_ d mX5_place [.ref a, .int x1, .int x2, .int x3, .int x4, .int x5] h = E_ d mX5_place 0 [.val (.ref a), .val (.int x1), .val (.int x2), .val (.int x3), .val (.int x4), .val (.int x5), .unset] [] h := rfl
theorem wX5_behind_e : C_ d mX5_behind [.ref a, .int x1, .int x2] h = E_ d mX5_behind 0 [.val (.ref a), .val (.int x1), .val (.int x2), .unset] [] h := rfl
theorem wX5_isPlace_e : C_ d mX5_isPlace [.ref a, .int x1] h = E_ d mX5_isPlace 0 [.val (.ref a), .val (.int x1)] [] h := rfl
theorem wX5_at_e : C_ d mX5_at [.ref a, .int x1, .int x2] h = E_ d mX5_at 0 [.val (.ref a), .val (.int x1), .val (.int x2)] [] h := rfl
theorem wX5_rate_e : C_ d mX5_rate [.ref a, .int x1, .int x2] h = E_ d mX5_rate 0 [.val (.ref a), .val (.int x1), .val (.int x2), .unset, .unset, .unset, .unset, .unset, .unset, .unset] [] h := rfl
theorem wX5_sumOf_e : C_ d mX5_sumOf [.ref a, .int x1, .int x2] h = E_ d mX5_sumOf 0 [.val (.ref a), .val (.int x1), .val (.int x2), .unset, .unset, .unset] [] h := rfl
theorem wX5_parted_e : C_ d mX5_parted [.ref a] h = E_ d mX5_parted 0 [.val (.ref a), .unset, .unset, .unset, .unset] [] h := rfl
theorem wX5_partedAbove_e : C_ d mX5_partedAbove [.ref a, .int x1] h = E_ d mX5_partedAbove 0 [.val (.ref a), .val (.int x1), .unset, .unset, .unset, .unset, .unset, .unset, .unset, .unset] [] h := rfl
theorem wX5_partedBelow_e : C_ d mX5_partedBelow [.ref a, .int x1] h = E_ d mX5_partedBelow 0 [.val (.ref a), .val (.int x1), .unset, .unset, .unset, .unset] [] h := rfl
theorem wX5_worst_e : C_ d mX5_worst [.ref a, .int x1, .int x2] h = E_ d mX5_worst 0 [.val (.ref a), .val (.int x1), .val (.int x2), .unset] [] h := rfl
theorem wX5_worstOf_e : C_ d mX5_worstOf [.ref a, .int x1] h = E_ d mX5_worstOf 0 [.val (.ref a), .val (.int x1), .unset, .unset, .unset, .unset] [] h := rfl
theorem wX5_hurtAt_e : C_ d mX5_hurtAt [.ref a, .int x1] h = E_ d mX5_hurtAt 0 [.val (.ref a), .val (.int x1)] [] h := rfl
theorem wX5_fallOf_e : C_ d mX5_fallOf [.ref a, .int x1] h = E_ d mX5_fallOf 0 [.val (.ref a), .val (.int x1), .unset, .unset] [] h := rfl
theorem wX5_matchesOf_e : C_ d mX5_matchesOf [.ref a, .int x1] h = E_ d mX5_matchesOf 0 [.val (.ref a), .val (.int x1), .unset, .unset, .unset, .unset, .unset, .unset] [] h := rfl
theorem wX5_ranked_e : C_ d mX5_ranked [.ref a, .int x1] h = E_ d mX5_ranked 0 [.val (.ref a), .val (.int x1), .unset, .unset, .unset] [] h := rfl
theorem wX5_isWorse_e : C_ d mX5_isWorse [.ref a, .int x1, .int x2] h = E_ d mX5_isWorse 0 [.val (.ref a), .val (.int x1), .val (.int x2), .unset, .unset, .unset, .unset, .unset, .unset, .unset, .unset] [] h := rfl
theorem wX5_measure_e : C_ d mX5_measure [.ref a, .int x1, .int x2, .int x3] h = E_ d mX5_measure 0 [.val (.ref a), .val (.int x1), .val (.int x2), .val (.int x3)] [] h := rfl
theorem wX5_spent_e : C_ d mX5_spent [.ref a, .int x1, .int x2] h = E_ d mX5_spent 0 [.val (.ref a), .val (.int x1), .val (.int x2), .unset, .unset, .unset] [] h := rfl
theorem wX5_laysSpent_e : C_ d mX5_laysSpent [.ref a, .int x1] h = E_ d mX5_laysSpent 0 [.val (.ref a), .val (.int x1), .unset, .unset, .unset, .unset, .unset, .unset, .unset] [] h := rfl
theorem wX5_costOf_e : C_ d mX5_costOf [.ref a, .int x1] h = E_ d mX5_costOf 0 [.val (.ref a), .val (.int x1), .unset, .unset] [] h := rfl
theorem wX5_leftOf_e : C_ d mX5_leftOf [.ref a, .int x1, .int x2] h = E_ d mX5_leftOf 0 [.val (.ref a), .val (.int x1), .val (.int x2), .unset, .unset] [] h := rfl
theorem wX5_isBest_e : C_ d mX5_isBest [.ref a, .int x1, .int x2, .int x3] h = E_ d mX5_isBest 0 [.val (.ref a), .val (.int x1), .val (.int x2), .val (.int x3), .unset] [] h := rfl
theorem wX5_fine_e : C_ d mX5_fine [.ref a, .int x1, .int x2, .int x3, .int x4] h = E_ d mX5_fine 0 [.val (.ref a), .val (.int x1), .val (.int x2), .val (.int x3), .val (.int x4), .unset, .unset] [] h := rfl
theorem wX5_until_e : C_ d mX5_until [.ref a, .int x1, .int x2, .int x3, .int x4] h = E_ d mX5_until 0 [.val (.ref a), .val (.int x1), .val (.int x2), .val (.int x3), .val (.int x4), .unset, .unset] [] h := rfl
theorem wX5_lot_e : C_ d mX5_lot [.ref a, .int x1, .int x2] h = E_ d mX5_lot 0 [.val (.ref a), .val (.int x1), .val (.int x2), .unset, .unset, .unset, .unset, .unset] [] h := rfl
theorem wX5_shown_e : C_ d mX5_shown [.ref a, .int x1, .int x2, .int x3, .int x4] h = E_ d mX5_shown 0 [.val (.ref a), .val (.int x1), .val (.int x2), .val (.int x3), .val (.int x4), .unset, .unset, .unset, .unset] [] h := rfl
theorem wX5_clumps_e : C_ d mX5_clumps [.ref a, .int x1, .int x2, .int x3, .int x4] h = E_ d mX5_clumps 0 [.val (.ref a), .val (.int x1), .val (.int x2), .val (.int x3), .val (.int x4), .unset, .unset, .unset, .unset, .unset, .unset, .unset] [] h := rfl
theorem wX5_lamp_e : C_ d mX5_lamp [.ref a, .int x1, .int x2, .int x3] h = E_ d mX5_lamp 0 [.val (.ref a), .val (.int x1), .val (.int x2), .val (.int x3), .unset, .unset, .unset, .unset, .unset, .unset, .unset, .unset] [] h := rfl
theorem wX5_pay_e : C_ d mX5_pay [.ref a, .int x1, .int x2, .int x3, .int x4] h = E_ d mX5_pay 0 [.val (.ref a), .val (.int x1), .val (.int x2), .val (.int x3), .val (.int x4), .unset] [] h := rfl
theorem wX5_payAt_e : C_ d mX5_payAt [.ref a, .int x1, .int x2, .int x3] h = E_ d mX5_payAt 0 [.val (.ref a), .val (.int x1), .val (.int x2), .val (.int x3)] [] h := rfl
theorem wX5_rests_e : C_ d mX5_rests [.ref a, .int x1, .int x2, .int x3] h = E_ d mX5_rests 0 [.val (.ref a), .val (.int x1), .val (.int x2), .val (.int x3), .unset, .unset, .unset, .unset] [] h := rfl
theorem wX5_isRest_e : C_ d mX5_isRest [.ref a, .int x1, .int x2, .int x3, .int x4] h = E_ d mX5_isRest 0 [.val (.ref a), .val (.int x1), .val (.int x2), .val (.int x3), .val (.int x4), .unset, .unset] [] h := rfl
theorem wX5_thanks_e : C_ d mX5_thanks [.ref a, .int x1, .int x2, .int x3, .int x4, .int x5] h = E_ d mX5_thanks 0 [.val (.ref a), .val (.int x1), .val (.int x2), .val (.int x3), .val (.int x4), .val (.int x5), .unset, .unset, .unset] [] h := rfl
theorem wX5_filled_e : C_ d mX5_filled [.ref a, .int x1, .int x2] h = E_ d mX5_filled 0 [.val (.ref a), .val (.int x1), .val (.int x2)] [] h := rfl
theorem wX5_isTooMuch_e : C_ d mX5_isTooMuch [.ref a, .int x1] h = E_ d mX5_isTooMuch 0 [.val (.ref a), .val (.int x1), .unset] [] h := rfl
theorem wX5_hereIn_e : C_ d mX5_hereIn [.ref a, .int x1] h = E_ d mX5_hereIn 0 [.val (.ref a), .val (.int x1), .unset, .unset] [] h := rfl
theorem wX5_filledAt_e : C_ d mX5_filledAt [.ref a, .int x1, .int x2] h = E_ d mX5_filledAt 0 [.val (.ref a), .val (.int x1), .val (.int x2), .unset, .unset, .unset, .unset, .unset, .unset] [] h := rfl
theorem wX5_slip_e : C_ d mX5_slip [.ref a, .int x1, .int x2] h = E_ d mX5_slip 0 [.val (.ref a), .val (.int x1), .val (.int x2), .unset, .unset, .unset, .unset, .unset, .unset, .unset, .unset, .unset, .unset, .unset] [] h := rfl
theorem wX5_isRow_e : C_ d mX5_isRow [.ref a, .int x1] h = E_ d mX5_isRow 0 [.val (.ref a), .val (.int x1)] [] h := rfl
theorem wX5_numbers_e : C_ d mX5_numbers [.ref a, .int x1, .int x2, .int x3] h = E_ d mX5_numbers 0 [.val (.ref a), .val (.int x1), .val (.int x2), .val (.int x3), .unset] [] h := rfl
theorem wX5_write_e : C_ d mX5_write [.ref a, .int x1, .int x2, .long u1] h = E_ d mX5_write 0 [.val (.ref a), .val (.int x1), .val (.int x2), .val (.long u1), .unset] [] h := rfl
theorem wX5_cut_e : C_ d mX5_cut [.long u1, .int x1] h = E_ d mX5_cut 0 [.val (.long u1), .unset, .val (.int x1)] [] h := rfl
theorem wX5_image_e : C_ d mX5_image [.ref a, .int x1] h = E_ d mX5_image 0 [.val (.ref a), .val (.int x1), .unset] [] h := rfl
theorem wX5_restore_e : C_ d mX5_restore [.ref a, .int x1] h = E_ d mX5_restore 0 [.val (.ref a), .val (.int x1), .unset] [] h := rfl
theorem wX5_status_e : C_ d mX5_status [.ref a, .int x1] h = E_ d mX5_status 0 [.val (.ref a), .val (.int x1)] [] h := rfl
theorem wX5_count_e : C_ d mX5_count [.ref a, .int x1] h = E_ d mX5_count 0 [.val (.ref a), .val (.int x1)] [] h := rfl
theorem wX6_init_e : C_ d mX6_init [.ref a, .ref r1, .int x1] h = E_ d mX6_init 0 [.val (.ref a), .val (.ref r1), .val (.int x1)] [] h := rfl
theorem wX6_scene_e : C_ d mX6_scene [.ref a] h = E_ d mX6_scene 0 [.val (.ref a)] [] h := rfl
theorem wX6_next_e : C_ d mX6_next [.ref a] h = E_ d mX6_next 0 [.val (.ref a), .unset] [] h := rfl
theorem wX6_see_e : C_ d mX6_see [.ref a, .int x1] h = E_ d mX6_see 0 [.val (.ref a), .val (.int x1)] [] h := rfl
theorem wX6_isSmall_e : C_ d mX6_isSmall [.ref a, .int x1] h = E_ d mX6_isSmall 0 [.val (.ref a), .val (.int x1)] [] h := rfl
theorem wX6_isDigit_e : C_ d mX6_isDigit [.ref a, .int x1] h = E_ d mX6_isDigit 0 [.val (.ref a), .val (.int x1)] [] h := rfl
theorem wX6_line_e : C_ d mX6_line [.ref a] h = E_ d mX6_line 0 [.val (.ref a)] [] h := rfl
theorem wX6_is_e : C_ d mX6_is [.ref a, .ref r1] h = E_ d mX6_is 0 [.val (.ref a), .val (.ref r1), .unset] [] h := rfl
theorem wX6_car_e : C_ d mX6_car [.ref a] h = E_ d mX6_car 0 [.val (.ref a), .unset, .unset, .unset, .unset] [] h := rfl
theorem wX6_space_e : C_ d mX6_space [.ref a, .int x1] h = E_ d mX6_space 0 [.val (.ref a), .val (.int x1)] [] h := rfl
theorem wX6_wrong_e : C_ d mX6_wrong [.ref a, .int x1] h = E_ d mX6_wrong 0 [.val (.ref a), .val (.int x1)] [] h := rfl
theorem wX6_number_e : C_ d mX6_number [.ref a, .int x1, .int x2] h = E_ d mX6_number 0 [.val (.ref a), .val (.int x1), .val (.int x2), .unset] [] h := rfl
theorem wX6_told_e : C_ d mX6_told [.ref a, .ref r1, .int x1, .int x2] h = E_ d mX6_told 0 [.val (.ref a), .val (.ref r1), .val (.int x1), .val (.int x2)] [] h := rfl
theorem wX6_takes_e : C_ d mX6_takes [.ref a, .ref r1] h = E_ d mX6_takes 0 [.val (.ref a), .val (.ref r1)] [] h := rfl
theorem wX6_leastLanes_e : C_ d mX6_leastLanes [.ref a] h = E_ d mX6_leastLanes 0 [.val (.ref a), .unset, .unset] [] h := rfl
theorem wX6_traitLine_e : C_ d mX6_traitLine [.ref a] h = E_ d mX6_traitLine 0 [.val (.ref a), .unset] [] h := rfl
theorem wX6_trait_e : C_ d mX6_trait [.ref a] h = E_ d mX6_trait 0 [.val (.ref a)] [] h := rfl
theorem wX6_over_e : C_ d mX6_over [.ref a] h = E_ d mX6_over 0 [.val (.ref a)] [] h := rfl
theorem wX6_law_e : C_ d mX6_law [.ref a] h = E_ d mX6_law 0 [.val (.ref a), .unset, .unset] [] h := rfl
theorem wX6_some_e : C_ d mX6_some [.ref a] h = E_ d mX6_some 0 [.val (.ref a), .unset] [] h := rfl
theorem wX6_all_e : C_ d mX6_all [.ref a] h = E_ d mX6_all 0 [.val (.ref a), .unset] [] h := rfl
theorem wX6_fact_e : C_ d mX6_fact [.ref a] h = E_ d mX6_fact 0 [.val (.ref a), .unset] [] h := rfl
theorem wX6_opens_e : C_ d mX6_opens [.ref a] h = E_ d mX6_opens 0 [.val (.ref a)] [] h := rfl
theorem wX6_own_e : C_ d mX6_own [.ref a] h = E_ d mX6_own 0 [.val (.ref a), .unset] [] h := rfl
theorem wX7_init_e : C_ d mX7_init [.ref a, .int x1, .int x2, .int x3, .int x4] h = E_ d mX7_init 0 [.val (.ref a), .val (.int x1), .val (.int x2), .val (.int x3), .val (.int x4)] [] h := rfl
theorem wX8_init_e : C_ d mX8_init [.ref a] h = E_ d mX8_init 0 [.val (.ref a)] [] h := rfl
theorem wX9_init_e : C_ d mX9_init [.ref a, .ref r1] h = E_ d mX9_init 0 [.val (.ref a), .val (.ref r1)] [] h := rfl
theorem wX9_is_e : C_ d mX9_is [.ref a, .ref r1, .int x1] h = E_ d mX9_is 0 [.val (.ref a), .val (.ref r1), .val (.int x1)] [] h := rfl
/-! the heap of the second object: its arrays are its own, at places that never change -/
def mT (a : Nat) : Nat := match a with
  | 150 => 7
  | 151 => 40
  | 152 => 40
  | 153 => 42
  | 154 => 40
  | 155 => 40
  | 156 => 40
  | 157 => 40
  | 158 => 42
  | 159 => 42
  | 160 => 42
  | 161 => 44
  | 162 => 44
  | 163 => 44
  | 164 => 40
  | 165 => 40
  | 166 => 40
  | 167 => 40
  | 168 => 40
  | 169 => 44
  | _ => 0
def mN (a : Nat) : Nat := match a with
  | 150 => 36
  | 151 => 6
  | 152 => 1734
  | 153 => 2
  | 154 => 400
  | 155 => 477
  | 156 => 42
  | 157 => 504
  | 158 => 220
  | 159 => 8
  | 160 => 8
  | 161 => 5
  | 162 => 8
  | 163 => 8
  | 164 => 13000
  | 165 => 13000
  | 166 => 40
  | 167 => 4
  | 168 => 4
  | 169 => 160
  | _ => 0
def mR (j : Nat) : Nat := match j with
  | 1 => 151
  | 2 => 152
  | 3 => 153
  | 4 => 154
  | 5 => 155
  | 18 => 156
  | 19 => 157
  | 20 => 158
  | 24 => 159
  | 25 => 160
  | 27 => 161
  | 28 => 162
  | 29 => 163
  | 30 => 164
  | 31 => 165
  | 32 => 166
  | 33 => 167
  | 34 => 168
  | 35 => 169
  | _ => 0
def MOK (h : xH) : Prop := (∀ a t, mT a = t + 1 → oT h a = t + 1 ∧ oN h a = mN a) ∧ ∀ j b, mR j = b + 1 → oR h 150 j = some (b + 1)
theorem mok_t {h : xH} (H : MOK h) {a t : Nat} (e : mT a = t + 1) : oT h a = t + 1 := (H.1 a t e).1
theorem mok_n {h : xH} (H : MOK h) {a t : Nat} (e : mT a = t + 1) {n : Nat} (en : mN a = n) : oN h a = n := (H.1 a t e).2.trans en
theorem mok_r {h : xH} (H : MOK h) {j b : Nat} (e : mR j = b + 1) : oR h 150 j = some (b + 1) := H.2 j b e
theorem xix_nk {k n : Nat} (hk : k < n) (hn : n < 2147483648) : xix (nI k) n = true := by
  rw [xix_n (Nat.lt_trans hk hn)]; exact decide_eq_true hk
theorem mok_x {h : xH} (H : MOK h) {a t : Nat} (e : mT a = t + 1) {n : Nat} (en : mN a = n) {k : Nat} (hk : k < n) (hn : n < 2147483648) : xix (nI k) (oN h a) = true := by
  rw [mok_n H e en]; exact xix_nk hk hn
theorem mok_I {h : xH} {a : Nat} {f : Nat → Int32} : MOK (pI h a f) = MOK h := rfl
theorem mok_L {h : xH} {a : Nat} {f : Nat → Int64} : MOK (pL h a f) = MOK h := rfl
theorem nI_c {n : Nat} (h : n < 2147483648) : (nI n).toNatClampNeg = n := nI_clamp h
theorem m_r1 {h : xH} (H : MOK h) : oR h 150 1 = some 151 := mok_r H rfl
theorem m_r2 {h : xH} (H : MOK h) : oR h 150 2 = some 152 := mok_r H rfl
theorem m_r3 {h : xH} (H : MOK h) : oR h 150 3 = some 153 := mok_r H rfl
theorem m_r4 {h : xH} (H : MOK h) : oR h 150 4 = some 154 := mok_r H rfl
theorem m_r5 {h : xH} (H : MOK h) : oR h 150 5 = some 155 := mok_r H rfl
theorem m_r18 {h : xH} (H : MOK h) : oR h 150 18 = some 156 := mok_r H rfl
theorem m_r19 {h : xH} (H : MOK h) : oR h 150 19 = some 157 := mok_r H rfl
theorem m_r20 {h : xH} (H : MOK h) : oR h 150 20 = some 158 := mok_r H rfl
theorem m_r24 {h : xH} (H : MOK h) : oR h 150 24 = some 159 := mok_r H rfl
theorem m_r25 {h : xH} (H : MOK h) : oR h 150 25 = some 160 := mok_r H rfl
theorem m_r27 {h : xH} (H : MOK h) : oR h 150 27 = some 161 := mok_r H rfl
theorem m_r28 {h : xH} (H : MOK h) : oR h 150 28 = some 162 := mok_r H rfl
theorem m_r29 {h : xH} (H : MOK h) : oR h 150 29 = some 163 := mok_r H rfl
theorem m_r30 {h : xH} (H : MOK h) : oR h 150 30 = some 164 := mok_r H rfl
theorem m_r31 {h : xH} (H : MOK h) : oR h 150 31 = some 165 := mok_r H rfl
theorem m_r32 {h : xH} (H : MOK h) : oR h 150 32 = some 166 := mok_r H rfl
theorem m_r33 {h : xH} (H : MOK h) : oR h 150 33 = some 167 := mok_r H rfl
theorem m_r34 {h : xH} (H : MOK h) : oR h 150 34 = some 168 := mok_r H rfl
theorem m_r35 {h : xH} (H : MOK h) : oR h 150 35 = some 169 := mok_r H rfl
theorem m_n150 {h : xH} (H : MOK h) : oN h 150 = 36 := mok_n (t := 6) H rfl rfl
theorem m_n151 {h : xH} (H : MOK h) : oN h 151 = 6 := mok_n (t := 39) H rfl rfl
theorem m_n152 {h : xH} (H : MOK h) : oN h 152 = 1734 := mok_n (t := 39) H rfl rfl
theorem m_n153 {h : xH} (H : MOK h) : oN h 153 = 2 := mok_n (t := 41) H rfl rfl
theorem m_n154 {h : xH} (H : MOK h) : oN h 154 = 400 := mok_n (t := 39) H rfl rfl
theorem m_n155 {h : xH} (H : MOK h) : oN h 155 = 477 := mok_n (t := 39) H rfl rfl
theorem m_n156 {h : xH} (H : MOK h) : oN h 156 = 42 := mok_n (t := 39) H rfl rfl
theorem m_n157 {h : xH} (H : MOK h) : oN h 157 = 504 := mok_n (t := 39) H rfl rfl
theorem m_n158 {h : xH} (H : MOK h) : oN h 158 = 220 := mok_n (t := 41) H rfl rfl
theorem m_n159 {h : xH} (H : MOK h) : oN h 159 = 8 := mok_n (t := 41) H rfl rfl
theorem m_n160 {h : xH} (H : MOK h) : oN h 160 = 8 := mok_n (t := 41) H rfl rfl
theorem m_n161 {h : xH} (H : MOK h) : oN h 161 = 5 := mok_n (t := 43) H rfl rfl
theorem m_n162 {h : xH} (H : MOK h) : oN h 162 = 8 := mok_n (t := 43) H rfl rfl
theorem m_n163 {h : xH} (H : MOK h) : oN h 163 = 8 := mok_n (t := 43) H rfl rfl
theorem m_n164 {h : xH} (H : MOK h) : oN h 164 = 13000 := mok_n (t := 39) H rfl rfl
theorem m_n165 {h : xH} (H : MOK h) : oN h 165 = 13000 := mok_n (t := 39) H rfl rfl
theorem m_n166 {h : xH} (H : MOK h) : oN h 166 = 40 := mok_n (t := 39) H rfl rfl
theorem m_n167 {h : xH} (H : MOK h) : oN h 167 = 4 := mok_n (t := 39) H rfl rfl
theorem m_n168 {h : xH} (H : MOK h) : oN h 168 = 4 := mok_n (t := 39) H rfl rfl
theorem m_n169 {h : xH} (H : MOK h) : oN h 169 = 160 := mok_n (t := 43) H rfl rfl
theorem m_x151 {h : xH} (H : MOK h) {k : Nat} (hk : k < 6) : xix (nI k) (oN h 151) = true := mok_x (t := 39) (n := 6) H rfl rfl hk (by decide)
theorem m_x152 {h : xH} (H : MOK h) {k : Nat} (hk : k < 1734) : xix (nI k) (oN h 152) = true := mok_x (t := 39) (n := 1734) H rfl rfl hk (by decide)
theorem m_x153 {h : xH} (H : MOK h) {k : Nat} (hk : k < 2) : xix (nI k) (oN h 153) = true := mok_x (t := 41) (n := 2) H rfl rfl hk (by decide)
theorem m_x154 {h : xH} (H : MOK h) {k : Nat} (hk : k < 400) : xix (nI k) (oN h 154) = true := mok_x (t := 39) (n := 400) H rfl rfl hk (by decide)
theorem m_x155 {h : xH} (H : MOK h) {k : Nat} (hk : k < 477) : xix (nI k) (oN h 155) = true := mok_x (t := 39) (n := 477) H rfl rfl hk (by decide)
theorem m_x156 {h : xH} (H : MOK h) {k : Nat} (hk : k < 42) : xix (nI k) (oN h 156) = true := mok_x (t := 39) (n := 42) H rfl rfl hk (by decide)
theorem m_x157 {h : xH} (H : MOK h) {k : Nat} (hk : k < 504) : xix (nI k) (oN h 157) = true := mok_x (t := 39) (n := 504) H rfl rfl hk (by decide)
theorem m_x158 {h : xH} (H : MOK h) {k : Nat} (hk : k < 220) : xix (nI k) (oN h 158) = true := mok_x (t := 41) (n := 220) H rfl rfl hk (by decide)
theorem m_x159 {h : xH} (H : MOK h) {k : Nat} (hk : k < 8) : xix (nI k) (oN h 159) = true := mok_x (t := 41) (n := 8) H rfl rfl hk (by decide)
theorem m_x160 {h : xH} (H : MOK h) {k : Nat} (hk : k < 8) : xix (nI k) (oN h 160) = true := mok_x (t := 41) (n := 8) H rfl rfl hk (by decide)
theorem m_x161 {h : xH} (H : MOK h) {k : Nat} (hk : k < 5) : xix (nI k) (oN h 161) = true := mok_x (t := 43) (n := 5) H rfl rfl hk (by decide)
theorem m_x162 {h : xH} (H : MOK h) {k : Nat} (hk : k < 8) : xix (nI k) (oN h 162) = true := mok_x (t := 43) (n := 8) H rfl rfl hk (by decide)
theorem m_x163 {h : xH} (H : MOK h) {k : Nat} (hk : k < 8) : xix (nI k) (oN h 163) = true := mok_x (t := 43) (n := 8) H rfl rfl hk (by decide)
theorem m_x164 {h : xH} (H : MOK h) {k : Nat} (hk : k < 13000) : xix (nI k) (oN h 164) = true := mok_x (t := 39) (n := 13000) H rfl rfl hk (by decide)
theorem m_x165 {h : xH} (H : MOK h) {k : Nat} (hk : k < 13000) : xix (nI k) (oN h 165) = true := mok_x (t := 39) (n := 13000) H rfl rfl hk (by decide)
theorem m_x166 {h : xH} (H : MOK h) {k : Nat} (hk : k < 40) : xix (nI k) (oN h 166) = true := mok_x (t := 39) (n := 40) H rfl rfl hk (by decide)
theorem m_x167 {h : xH} (H : MOK h) {k : Nat} (hk : k < 4) : xix (nI k) (oN h 167) = true := mok_x (t := 39) (n := 4) H rfl rfl hk (by decide)
theorem m_x168 {h : xH} (H : MOK h) {k : Nat} (hk : k < 4) : xix (nI k) (oN h 168) = true := mok_x (t := 39) (n := 4) H rfl rfl hk (by decide)
theorem m_x169 {h : xH} (H : MOK h) {k : Nat} (hk : k < 160) : xix (nI k) (oN h 169) = true := mok_x (t := 43) (n := 160) H rfl rfl hk (by decide)
