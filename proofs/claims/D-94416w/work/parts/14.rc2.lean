variable {d a b e f : Nat} {ls : List Slot} {st : List Value} {h : xH} {x y z x1 x2 x3 x4 x5 x6 x7 x8 : Int32} {u v u1 u2 u3 u4 u5 u6 : Int64} {r1 r2 r3 r4 r5 r6 : Nat} {s0 s1 s2 s3 s4 s5 s6 s7 s8 s9 s10 s11 s12 s13 : Slot} {q : Option Nat}
/-! FootOutModel.helps -/
theorem wX5_helps_0 : E_ d mX5_helps 0 [.val (.ref a), s1, s2, s3] st h = E_ d mX5_helps 1 [.val (.ref a), s1, s2, s3] (.ref a :: st) h := e_go dX5_helps_0 rfl rfl
theorem wX5_helps_1 : E_ d mX5_helps 1 ls st h = E_ d mX5_helps 2 ls (.int (nI 0) :: st) h := e_iconst dX5_helps_1 kiconst_0 rfl
theorem wX5_helps_2 (ht : oT h a = 7) : E_ d mX5_helps 2 ls (.int x :: .ref a :: st) h = E_ d mX5_helps 5 ls st (pI h a (va_up (oI h a) 0 x)) := e_putI dX5_helps_2 rfl rfl ht
theorem wX5_helps_5 : E_ d mX5_helps 5 [s0, .val (.int x), s2, s3] st h = E_ d mX5_helps 6 [s0, .val (.int x), s2, s3] (.int x :: st) h := e_go dX5_helps_5 rfl rfl
theorem wX5_helps_6 : E_ d mX5_helps 6 ls (.int x :: st) h = E_ d mX5_helps 7 ls (.long x.toInt64 :: st) h := e_go dX5_helps_6 rfl rfl
theorem wX5_helps_7 : E_ d mX5_helps 7 ls st h = E_ d mX5_helps 8 ls (.long 0 :: st) h := e_go dX5_helps_7 rfl rfl
theorem wX5_helps_8 : E_ d mX5_helps 8 ls st h = E_ d mX5_helps 11 ls (.long (7) :: st) h := e_go dX5_helps_8 rfl rfl
theorem wX5_helps_11 : E_ (d + 1) mX5_helps 11 ls [.long u3, .long u2, .long u1] h = (C_ d mX5_within [.long u1, .long u2, .long u3] h).bind fun r => E_ (d + 1) mX5_helps 14 ls (xpu r.1 []) r.2 := e_call dX5_helps_11 rfl rfl
theorem wX5_helps_14 : E_ d mX5_helps 14 ls (.int x :: st) h = if x = 0 then E_ d mX5_helps 17 ls st h else E_ d mX5_helps 25 ls st h := e_zne dX5_helps_14 rfl rfl
theorem wX5_helps_17 : E_ d mX5_helps 17 [.val (.ref a), s1, s2, s3] st h = E_ d mX5_helps 18 [.val (.ref a), s1, s2, s3] (.ref a :: st) h := e_go dX5_helps_17 rfl rfl
theorem wX5_helps_18 : E_ d mX5_helps 18 ls st h = E_ d mX5_helps 20 ls (.int ((-2)) :: st) h := e_bipush dX5_helps_18 kbipush_m2 rfl
theorem wX5_helps_20 (ht : oT h a = 7) : E_ (d + 1) mX5_helps 20 ls [.int x1, .ref a] h = (C_ d mX5_no [.ref a, .int x1] h).bind fun r => E_ (d + 1) mX5_helps 23 ls (xpu r.1 []) r.2 := e_vir dX5_helps_20 rfl rfl rfl rfl rfl rfl (Nat.le_of_ble_eq_true rfl) (Nat.le_of_ble_eq_true rfl) ht
theorem wX5_helps_23 : E_ d mX5_helps 23 ls (.int x :: st) h = E_ d mX5_helps 24 ls (.long x.toInt64 :: st) h := e_go dX5_helps_23 rfl rfl
theorem wX5_helps_24 : E_ d mX5_helps 24 ls [.long u] h = some (some (.long u), h) := e_rt dX5_helps_24 rfl rfl
theorem wX5_helps_25 : E_ d mX5_helps 25 [.val (.ref a), s1, s2, s3] st h = E_ d mX5_helps 26 [.val (.ref a), s1, s2, s3] (.ref a :: st) h := e_go dX5_helps_25 rfl rfl
theorem wX5_helps_26 : E_ d mX5_helps 26 ls st h = E_ d mX5_helps 27 ls (.int (nI 1) :: st) h := e_iconst dX5_helps_26 kiconst_1 rfl
theorem wX5_helps_27 : E_ d mX5_helps 27 [s0, .val (.int x), s2, s3] st h = E_ d mX5_helps 28 [s0, .val (.int x), s2, s3] (.int x :: st) h := e_go dX5_helps_27 rfl rfl
theorem wX5_helps_28 : E_ d mX5_helps 28 ls (.int y :: .int x :: st) h = E_ d mX5_helps 29 ls (.int (x <<< (y &&& 31)) :: st) h := e_go dX5_helps_28 rfl rfl
theorem wX5_helps_29 (ht : oT h a = 7) : E_ (d + 1) mX5_helps 29 ls [.int x1, .ref a] h = (C_ d mX5_overIf [.ref a, .int x1] h).bind fun r => E_ (d + 1) mX5_helps 32 ls (xpu r.1 []) r.2 := e_vir dX5_helps_29 rfl rfl rfl rfl rfl rfl (Nat.le_of_ble_eq_true rfl) (Nat.le_of_ble_eq_true rfl) ht
theorem wX5_helps_32 : E_ d mX5_helps 32 [s0, s1, s2, s3] (.long u :: st) h = E_ d mX5_helps 33 [s0, xk s1, .val (.long u), .unset] st h := e_go dX5_helps_32 rfl rfl
theorem wX5_helps_33 : E_ d mX5_helps 33 [s0, s1, .val (.long u), s3] st h = E_ d mX5_helps 34 [s0, s1, .val (.long u), s3] (.long u :: st) h := e_go dX5_helps_33 rfl rfl
theorem wX5_helps_34 : E_ d mX5_helps 34 [.val (.ref a), s1, s2, s3] st h = E_ d mX5_helps 35 [.val (.ref a), s1, s2, s3] (.ref a :: st) h := e_go dX5_helps_34 rfl rfl
theorem wX5_helps_35 : E_ d mX5_helps 35 ls st h = E_ d mX5_helps 36 ls (.int (nI 0) :: st) h := e_iconst dX5_helps_35 kiconst_0 rfl
theorem wX5_helps_36 (ht : oT h a = 7) : E_ (d + 1) mX5_helps 36 ls [.int x1, .ref a, .long u1] h = (C_ d mX5_overIf [.ref a, .int x1] h).bind fun r => E_ (d + 1) mX5_helps 39 ls (xpu r.1 [.long u1]) r.2 := e_vir dX5_helps_36 rfl rfl rfl rfl rfl rfl (Nat.le_of_ble_eq_true rfl) (Nat.le_of_ble_eq_true rfl) ht
theorem wX5_helps_39 : E_ d mX5_helps 39 ls (.long v :: .long u :: st) h = E_ d mX5_helps 40 ls (.long (u - v) :: st) h := e_go dX5_helps_39 rfl rfl
theorem wX5_helps_40 : E_ d mX5_helps 40 ls [.long u] h = some (some (.long u), h) := e_rt dX5_helps_40 rfl rfl
/-! FootOutModel.overIf -/
theorem wX5_overIf_0 : E_ d mX5_overIf 0 [.val (.ref a), s1, s2] st h = E_ d mX5_overIf 1 [.val (.ref a), s1, s2] (.ref a :: st) h := e_go dX5_overIf_0 rfl rfl
theorem wX5_overIf_1 (ht : oT h a = 7) : E_ d mX5_overIf 1 ls (.ref a :: st) h = E_ d mX5_overIf 4 ls (va_rf (oR h a 2) :: st) h := e_getR0 dX5_overIf_1 rfl rfl ht
theorem wX5_overIf_4 : E_ d mX5_overIf 4 ls st h = E_ d mX5_overIf 6 ls (.int (nI 34) :: st) h := e_bipush dX5_overIf_4 kbipush_34 rfl
theorem wX5_overIf_6 (ht : oT h a = 40) (hi : xix x (oN h a) = true) : E_ d mX5_overIf 6 ls (.int x :: .ref a :: st) h = E_ d mX5_overIf 7 ls (.int (oI h a x.toNatClampNeg) :: st) h := e_iald dX5_overIf_6 rfl ht hi
theorem wX5_overIf_7 : E_ d mX5_overIf 7 [s0, s1, s2] (.int x :: st) h = E_ d mX5_overIf 8 [s0, xk s1, .val (.int x)] st h := e_go dX5_overIf_7 rfl rfl
theorem wX5_overIf_8 : E_ d mX5_overIf 8 [.val (.ref a), s1, s2] st h = E_ d mX5_overIf 9 [.val (.ref a), s1, s2] (.ref a :: st) h := e_go dX5_overIf_8 rfl rfl
theorem wX5_overIf_9 (ht : oT h a = 7) : E_ d mX5_overIf 9 ls (.ref a :: st) h = E_ d mX5_overIf 12 ls (va_rf (oR h a 2) :: st) h := e_getR0 dX5_overIf_9 rfl rfl ht
theorem wX5_overIf_12 : E_ d mX5_overIf 12 ls st h = E_ d mX5_overIf 14 ls (.int (nI 34) :: st) h := e_bipush dX5_overIf_12 kbipush_34 rfl
theorem wX5_overIf_14 : E_ d mX5_overIf 14 ls (.int x :: .ref b :: st) h = E_ d mX5_overIf 15 ls (.int x :: .ref b :: .int x :: .ref b :: st) h := e_go dX5_overIf_14 rfl rfl
theorem wX5_overIf_15 (ht : oT h a = 40) (hi : xix x (oN h a) = true) : E_ d mX5_overIf 15 ls (.int x :: .ref a :: st) h = E_ d mX5_overIf 16 ls (.int (oI h a x.toNatClampNeg) :: st) h := e_iald dX5_overIf_15 rfl ht hi
theorem wX5_overIf_16 : E_ d mX5_overIf 16 [s0, .val (.int x), s2] st h = E_ d mX5_overIf 17 [s0, .val (.int x), s2] (.int x :: st) h := e_go dX5_overIf_16 rfl rfl
theorem wX5_overIf_17 : E_ d mX5_overIf 17 ls (.int y :: .int x :: st) h = E_ d mX5_overIf 18 ls (.int (x ^^^ y) :: st) h := e_go dX5_overIf_17 rfl rfl
theorem wX5_overIf_18 (ht : oT h a = 40) (hi : xix x (oN h a) = true) : E_ d mX5_overIf 18 ls (.int y :: .int x :: .ref a :: st) h = E_ d mX5_overIf 19 ls st (pI h a (va_up (oI h a) x.toNatClampNeg y)) := e_iast dX5_overIf_18 rfl ht hi
theorem wX5_overIf_19 : E_ d mX5_overIf 19 [.val (.ref a), s1, s2] st h = E_ d mX5_overIf 20 [.val (.ref a), s1, s2] (.ref a :: st) h := e_go dX5_overIf_19 rfl rfl
theorem wX5_overIf_20 (ht : oT h a = 7) : E_ (d + 1) mX5_overIf 20 ls [.ref a] h = (C_ d mX5_worksOdds [.ref a] h).bind fun r => E_ (d + 1) mX5_overIf 23 ls (xpu r.1 []) r.2 := e_vir dX5_overIf_20 rfl rfl rfl rfl rfl rfl (Nat.le_of_ble_eq_true rfl) (Nat.le_of_ble_eq_true rfl) ht
theorem wX5_overIf_23 : E_ d mX5_overIf 23 [.val (.ref a), s1, s2] st h = E_ d mX5_overIf 24 [.val (.ref a), s1, s2] (.ref a :: st) h := e_go dX5_overIf_23 rfl rfl
theorem wX5_overIf_24 (ht : oT h a = 7) : E_ d mX5_overIf 24 ls (.ref a :: st) h = E_ d mX5_overIf 27 ls (va_rf (oR h a 2) :: st) h := e_getR0 dX5_overIf_24 rfl rfl ht
theorem wX5_overIf_27 : E_ d mX5_overIf 27 ls st h = E_ d mX5_overIf 29 ls (.int (nI 34) :: st) h := e_bipush dX5_overIf_27 kbipush_34 rfl
theorem wX5_overIf_29 : E_ d mX5_overIf 29 [s0, s1, .val (.int x)] st h = E_ d mX5_overIf 30 [s0, s1, .val (.int x)] (.int x :: st) h := e_go dX5_overIf_29 rfl rfl
theorem wX5_overIf_30 (ht : oT h a = 40) (hi : xix x (oN h a) = true) : E_ d mX5_overIf 30 ls (.int y :: .int x :: .ref a :: st) h = E_ d mX5_overIf 31 ls st (pI h a (va_up (oI h a) x.toNatClampNeg y)) := e_iast dX5_overIf_30 rfl ht hi
theorem wX5_overIf_31 : E_ d mX5_overIf 31 [.val (.ref a), s1, s2] st h = E_ d mX5_overIf 32 [.val (.ref a), s1, s2] (.ref a :: st) h := e_go dX5_overIf_31 rfl rfl
theorem wX5_overIf_32 (ht : oT h a = 7) : E_ d mX5_overIf 32 ls (.ref a :: st) h = E_ d mX5_overIf 35 ls (va_rf (oR h a 27) :: st) h := e_getR0 dX5_overIf_32 rfl rfl ht
theorem wX5_overIf_35 : E_ d mX5_overIf 35 ls st h = E_ d mX5_overIf 36 ls (.int (nI 0) :: st) h := e_iconst dX5_overIf_35 kiconst_0 rfl
theorem wX5_overIf_36 (ht : oT h a = 44) (hi : xix x (oN h a) = true) : E_ d mX5_overIf 36 ls (.int x :: .ref a :: st) h = E_ d mX5_overIf 37 ls (.long (oL h a x.toNatClampNeg) :: st) h := e_lald dX5_overIf_36 rfl ht hi
theorem wX5_overIf_37 : E_ d mX5_overIf 37 ls [.long u] h = some (some (.long u), h) := e_rt dX5_overIf_37 rfl rfl
/-! FootOutModel.best -/
theorem wX5_best_0 : E_ d mX5_best 0 [.val (.ref a), s1, s2, s3, s4, s5, s6, s7] st h = E_ d mX5_best 1 [.val (.ref a), s1, s2, s3, s4, s5, s6, s7] (.ref a :: st) h := e_go dX5_best_0 rfl rfl
theorem wX5_best_1 : E_ d mX5_best 1 ls st h = E_ d mX5_best 2 ls (.int (nI 0) :: st) h := e_iconst dX5_best_1 kiconst_0 rfl
theorem wX5_best_2 (ht : oT h a = 7) : E_ d mX5_best 2 ls (.int x :: .ref a :: st) h = E_ d mX5_best 5 ls st (pI h a (va_up (oI h a) 0 x)) := e_putI dX5_best_2 rfl rfl ht
theorem wX5_best_5 : E_ d mX5_best 5 [s0, .val (.int x), s2, s3, s4, s5, s6, s7] st h = E_ d mX5_best 6 [s0, .val (.int x), s2, s3, s4, s5, s6, s7] (.int x :: st) h := e_go dX5_best_5 rfl rfl
theorem wX5_best_6 : E_ d mX5_best 6 ls (.int x :: st) h = E_ d mX5_best 7 ls (.long x.toInt64 :: st) h := e_go dX5_best_6 rfl rfl
theorem wX5_best_7 : E_ d mX5_best 7 ls st h = E_ d mX5_best 8 ls (.long 0 :: st) h := e_go dX5_best_7 rfl rfl
theorem wX5_best_8 : E_ d mX5_best 8 ls st h = E_ d mX5_best 11 ls (.long (3) :: st) h := e_go dX5_best_8 rfl rfl
theorem wX5_best_11 : E_ (d + 1) mX5_best 11 ls [.long u3, .long u2, .long u1] h = (C_ d mX5_within [.long u1, .long u2, .long u3] h).bind fun r => E_ (d + 1) mX5_best 14 ls (xpu r.1 []) r.2 := e_call dX5_best_11 rfl rfl
theorem wX5_best_14 : E_ d mX5_best 14 ls (.int x :: st) h = if x = 0 then E_ d mX5_best 17 ls st h else E_ d mX5_best 24 ls st h := e_zne dX5_best_14 rfl rfl
theorem wX5_best_17 : E_ d mX5_best 17 [.val (.ref a), s1, s2, s3, s4, s5, s6, s7] st h = E_ d mX5_best 18 [.val (.ref a), s1, s2, s3, s4, s5, s6, s7] (.ref a :: st) h := e_go dX5_best_17 rfl rfl
theorem wX5_best_18 : E_ d mX5_best 18 ls st h = E_ d mX5_best 20 ls (.int ((-3)) :: st) h := e_bipush dX5_best_18 kbipush_m3 rfl
theorem wX5_best_20 (ht : oT h a = 7) : E_ (d + 1) mX5_best 20 ls [.int x1, .ref a] h = (C_ d mX5_no [.ref a, .int x1] h).bind fun r => E_ (d + 1) mX5_best 23 ls (xpu r.1 []) r.2 := e_vir dX5_best_20 rfl rfl rfl rfl rfl rfl (Nat.le_of_ble_eq_true rfl) (Nat.le_of_ble_eq_true rfl) ht
theorem wX5_best_23 : E_ d mX5_best 23 ls [.int x] h = some (some (.int x), h) := e_rt dX5_best_23 rfl rfl
theorem wX5_best_24 : E_ d mX5_best 24 ls st h = E_ d mX5_best 25 ls (.int ((-1)) :: st) h := e_iconst dX5_best_24 kiconst_m1 rfl
theorem wX5_best_25 : E_ d mX5_best 25 [s0, s1, s2, s3, s4, s5, s6, s7] (.int x :: st) h = E_ d mX5_best 26 [s0, xk s1, .val (.int x), s3, s4, s5, s6, s7] st h := e_go dX5_best_25 rfl rfl
theorem wX5_best_26 : E_ d mX5_best 26 ls st h = E_ d mX5_best 27 ls (.long 0 :: st) h := e_go dX5_best_26 rfl rfl
theorem wX5_best_27 : E_ d mX5_best 27 [s0, s1, s2, s3, s4, s5, s6, s7] (.long u :: st) h = E_ d mX5_best 28 [s0, s1, xk s2, .val (.long u), .unset, s5, s6, s7] st h := e_go dX5_best_27 rfl rfl
theorem wX5_best_28 : E_ d mX5_best 28 ls st h = E_ d mX5_best 29 ls (.int (nI 0) :: st) h := e_iconst dX5_best_28 kiconst_0 rfl
theorem wX5_best_29 : E_ d mX5_best 29 [s0, s1, s2, s3, s4, s5, s6, s7] (.int x :: st) h = E_ d mX5_best 31 [s0, s1, s2, s3, xk s4, .val (.int x), s6, s7] st h := e_go dX5_best_29 rfl rfl
theorem wX5_best_31 : E_ d mX5_best 31 [s0, s1, s2, s3, s4, .val (.int x), s6, s7] st h = E_ d mX5_best 33 [s0, s1, s2, s3, s4, .val (.int x), s6, s7] (.int x :: st) h := e_go dX5_best_31 rfl rfl
theorem wX5_best_33 : E_ d mX5_best 33 ls st h = E_ d mX5_best 36 ls (.int (nI 256) :: st) h := e_sipush dX5_best_33 ksipush_256 rfl
theorem wX5_best_36 : E_ d mX5_best 36 ls (.int y :: .int x :: st) h = if x < y then E_ d mX5_best 39 ls st h else E_ d mX5_best 86 ls st h := e_ige dX5_best_36 rfl rfl
theorem wX5_best_39 : E_ d mX5_best 39 [s0, s1, s2, s3, s4, .val (.int x), s6, s7] st h = E_ d mX5_best 41 [s0, s1, s2, s3, s4, .val (.int x), s6, s7] (.int x :: st) h := e_go dX5_best_39 rfl rfl
theorem wX5_best_41 : E_ (d + 1) mX5_best 41 ls [.int x1] h = (C_ d mX5_bitsOf [.int x1] h).bind fun r => E_ (d + 1) mX5_best 44 ls (xpu r.1 []) r.2 := e_call dX5_best_41 rfl rfl
theorem wX5_best_44 : E_ d mX5_best 44 [s0, .val (.int x), s2, s3, s4, s5, s6, s7] st h = E_ d mX5_best 45 [s0, .val (.int x), s2, s3, s4, s5, s6, s7] (.int x :: st) h := e_go dX5_best_44 rfl rfl
theorem wX5_best_45 : E_ d mX5_best 45 ls (.int y :: .int x :: st) h = if x = y then E_ d mX5_best 51 ls st h else E_ d mX5_best 48 ls st h := e_ieq dX5_best_45 rfl rfl
theorem wX5_best_48 : E_ d mX5_best 48 ls st h = E_ d mX5_best 80 ls st h := e_gt dX5_best_48 rfl
theorem wX5_best_51 : E_ d mX5_best 51 [.val (.ref a), s1, s2, s3, s4, s5, s6, s7] st h = E_ d mX5_best 52 [.val (.ref a), s1, s2, s3, s4, s5, s6, s7] (.ref a :: st) h := e_go dX5_best_51 rfl rfl
theorem wX5_best_52 : E_ d mX5_best 52 [s0, s1, s2, s3, s4, .val (.int x), s6, s7] st h = E_ d mX5_best 54 [s0, s1, s2, s3, s4, .val (.int x), s6, s7] (.int x :: st) h := e_go dX5_best_52 rfl rfl
theorem wX5_best_54 (ht : oT h a = 7) : E_ (d + 1) mX5_best 54 ls [.int x1, .ref a] h = (C_ d mX5_overIf [.ref a, .int x1] h).bind fun r => E_ (d + 1) mX5_best 57 ls (xpu r.1 []) r.2 := e_vir dX5_best_54 rfl rfl rfl rfl rfl rfl (Nat.le_of_ble_eq_true rfl) (Nat.le_of_ble_eq_true rfl) ht
theorem wX5_best_57 : E_ d mX5_best 57 [s0, s1, s2, s3, s4, s5, s6, s7] (.long u :: st) h = E_ d mX5_best 59 [s0, s1, s2, s3, s4, xk s5, .val (.long u), .unset] st h := e_go dX5_best_57 rfl rfl
theorem wX5_best_59 : E_ d mX5_best 59 [s0, s1, .val (.int x), s3, s4, s5, s6, s7] st h = E_ d mX5_best 60 [s0, s1, .val (.int x), s3, s4, s5, s6, s7] (.int x :: st) h := e_go dX5_best_59 rfl rfl
theorem wX5_best_60 : E_ d mX5_best 60 ls st h = E_ d mX5_best 61 ls (.int ((-1)) :: st) h := e_iconst dX5_best_60 kiconst_m1 rfl
theorem wX5_best_61 : E_ d mX5_best 61 ls (.int y :: .int x :: st) h = if x = y then E_ d mX5_best 74 ls st h else E_ d mX5_best 64 ls st h := e_ieq dX5_best_61 rfl rfl
theorem wX5_best_64 : E_ d mX5_best 64 [s0, s1, s2, s3, s4, s5, .val (.long u), s7] st h = E_ d mX5_best 66 [s0, s1, s2, s3, s4, s5, .val (.long u), s7] (.long u :: st) h := e_go dX5_best_64 rfl rfl
theorem wX5_best_66 : E_ d mX5_best 66 [s0, s1, s2, .val (.long u), s4, s5, s6, s7] st h = E_ d mX5_best 67 [s0, s1, s2, .val (.long u), s4, s5, s6, s7] (.long u :: st) h := e_go dX5_best_66 rfl rfl
theorem wX5_best_67 : E_ d mX5_best 67 ls (.long v :: .long u :: st) h = E_ d mX5_best 68 ls (.int (lg_cmp u v) :: st) h := e_go dX5_best_67 rfl rfl
theorem wX5_best_68 : E_ d mX5_best 68 ls (.int x :: st) h = if 0 < x then E_ d mX5_best 74 ls st h else E_ d mX5_best 71 ls st h := e_zgt dX5_best_68 rfl rfl
theorem wX5_best_71 : E_ d mX5_best 71 ls st h = E_ d mX5_best 80 ls st h := e_gt dX5_best_71 rfl
theorem wX5_best_74 : E_ d mX5_best 74 [s0, s1, s2, s3, s4, .val (.int x), s6, s7] st h = E_ d mX5_best 76 [s0, s1, s2, s3, s4, .val (.int x), s6, s7] (.int x :: st) h := e_go dX5_best_74 rfl rfl
theorem wX5_best_76 : E_ d mX5_best 76 [s0, s1, s2, s3, s4, s5, s6, s7] (.int x :: st) h = E_ d mX5_best 77 [s0, xk s1, .val (.int x), s3, s4, s5, s6, s7] st h := e_go dX5_best_76 rfl rfl
theorem wX5_best_77 : E_ d mX5_best 77 [s0, s1, s2, s3, s4, s5, .val (.long u), s7] st h = E_ d mX5_best 79 [s0, s1, s2, s3, s4, s5, .val (.long u), s7] (.long u :: st) h := e_go dX5_best_77 rfl rfl
theorem wX5_best_79 : E_ d mX5_best 79 [s0, s1, s2, s3, s4, s5, s6, s7] (.long u :: st) h = E_ d mX5_best 80 [s0, s1, xk s2, .val (.long u), .unset, s5, s6, s7] st h := e_go dX5_best_79 rfl rfl
theorem wX5_best_80 : E_ d mX5_best 80 [s0, s1, s2, s3, s4, .val (.int x), s6, s7] st h = E_ d mX5_best 83 [s0, s1, s2, s3, xk s4, .val (.int (x + nI 1)), s6, s7] st h := by rw [← kiinc_1]; exact e_go dX5_best_80 rfl rfl
theorem wX5_best_83 : E_ d mX5_best 83 ls st h = E_ d mX5_best 31 ls st h := e_gt dX5_best_83 rfl
theorem wX5_best_86 : E_ d mX5_best 86 [s0, s1, .val (.int x), s3, s4, s5, s6, s7] st h = E_ d mX5_best 87 [s0, s1, .val (.int x), s3, s4, s5, s6, s7] (.int x :: st) h := e_go dX5_best_86 rfl rfl
theorem wX5_best_87 : E_ d mX5_best 87 ls [.int x] h = some (some (.int x), h) := e_rt dX5_best_87 rfl rfl
/-! FootOutModel.bitsOf -/
theorem wX5_bitsOf_0 : E_ d mX5_bitsOf 0 ls st h = E_ d mX5_bitsOf 1 ls (.int (nI 0) :: st) h := e_iconst dX5_bitsOf_0 kiconst_0 rfl
theorem wX5_bitsOf_1 : E_ d mX5_bitsOf 1 [s0, s1, s2] (.int x :: st) h = E_ d mX5_bitsOf 2 [xk s0, .val (.int x), s2] st h := e_go dX5_bitsOf_1 rfl rfl
theorem wX5_bitsOf_2 : E_ d mX5_bitsOf 2 ls st h = E_ d mX5_bitsOf 3 ls (.int (nI 0) :: st) h := e_iconst dX5_bitsOf_2 kiconst_0 rfl
theorem wX5_bitsOf_3 : E_ d mX5_bitsOf 3 [s0, s1, s2] (.int x :: st) h = E_ d mX5_bitsOf 4 [s0, xk s1, .val (.int x)] st h := e_go dX5_bitsOf_3 rfl rfl
theorem wX5_bitsOf_4 : E_ d mX5_bitsOf 4 [s0, s1, .val (.int x)] st h = E_ d mX5_bitsOf 5 [s0, s1, .val (.int x)] (.int x :: st) h := e_go dX5_bitsOf_4 rfl rfl
theorem wX5_bitsOf_5 : E_ d mX5_bitsOf 5 ls st h = E_ d mX5_bitsOf 7 ls (.int (nI 8) :: st) h := e_bipush dX5_bitsOf_5 kbipush_8 rfl
theorem wX5_bitsOf_7 : E_ d mX5_bitsOf 7 ls (.int y :: .int x :: st) h = if x < y then E_ d mX5_bitsOf 10 ls st h else E_ d mX5_bitsOf 24 ls st h := e_ige dX5_bitsOf_7 rfl rfl
theorem wX5_bitsOf_10 : E_ d mX5_bitsOf 10 [s0, .val (.int x), s2] st h = E_ d mX5_bitsOf 11 [s0, .val (.int x), s2] (.int x :: st) h := e_go dX5_bitsOf_10 rfl rfl
theorem wX5_bitsOf_11 : E_ d mX5_bitsOf 11 [.val (.int x), s1, s2] st h = E_ d mX5_bitsOf 12 [.val (.int x), s1, s2] (.int x :: st) h := e_go dX5_bitsOf_11 rfl rfl
theorem wX5_bitsOf_12 : E_ d mX5_bitsOf 12 [s0, s1, .val (.int x)] st h = E_ d mX5_bitsOf 13 [s0, s1, .val (.int x)] (.int x :: st) h := e_go dX5_bitsOf_12 rfl rfl
theorem wX5_bitsOf_13 : E_ d mX5_bitsOf 13 ls (.int y :: .int x :: st) h = E_ d mX5_bitsOf 14 ls (.int (x >>> (y &&& 31)) :: st) h := e_go dX5_bitsOf_13 rfl rfl
theorem wX5_bitsOf_14 : E_ d mX5_bitsOf 14 ls st h = E_ d mX5_bitsOf 15 ls (.int (nI 1) :: st) h := e_iconst dX5_bitsOf_14 kiconst_1 rfl
theorem wX5_bitsOf_15 : E_ d mX5_bitsOf 15 ls (.int y :: .int x :: st) h = E_ d mX5_bitsOf 16 ls (.int (x &&& y) :: st) h := e_go dX5_bitsOf_15 rfl rfl
theorem wX5_bitsOf_16 : E_ d mX5_bitsOf 16 ls (.int y :: .int x :: st) h = E_ d mX5_bitsOf 17 ls (.int (x + y) :: st) h := e_go dX5_bitsOf_16 rfl rfl
theorem wX5_bitsOf_17 : E_ d mX5_bitsOf 17 [s0, s1, s2] (.int x :: st) h = E_ d mX5_bitsOf 18 [xk s0, .val (.int x), s2] st h := e_go dX5_bitsOf_17 rfl rfl
theorem wX5_bitsOf_18 : E_ d mX5_bitsOf 18 [s0, s1, .val (.int x)] st h = E_ d mX5_bitsOf 21 [s0, xk s1, .val (.int (x + nI 1))] st h := by rw [← kiinc_1]; exact e_go dX5_bitsOf_18 rfl rfl
theorem wX5_bitsOf_21 : E_ d mX5_bitsOf 21 ls st h = E_ d mX5_bitsOf 4 ls st h := e_gt dX5_bitsOf_21 rfl
theorem wX5_bitsOf_24 : E_ d mX5_bitsOf 24 [s0, .val (.int x), s2] st h = E_ d mX5_bitsOf 25 [s0, .val (.int x), s2] (.int x :: st) h := e_go dX5_bitsOf_24 rfl rfl
theorem wX5_bitsOf_25 : E_ d mX5_bitsOf 25 ls [.int x] h = some (some (.int x), h) := e_rt dX5_bitsOf_25 rfl rfl
/-! FootOutModel.back -/
theorem wX5_back_0 : E_ d mX5_back 0 [.val (.ref a), s1, s2, s3, s4, s5, s6, s7] st h = E_ d mX5_back 1 [.val (.ref a), s1, s2, s3, s4, s5, s6, s7] (.ref a :: st) h := e_go dX5_back_0 rfl rfl
theorem wX5_back_1 : E_ d mX5_back 1 ls st h = E_ d mX5_back 2 ls (.int (nI 0) :: st) h := e_iconst dX5_back_1 kiconst_0 rfl
theorem wX5_back_2 (ht : oT h a = 7) : E_ d mX5_back 2 ls (.int x :: .ref a :: st) h = E_ d mX5_back 5 ls st (pI h a (va_up (oI h a) 0 x)) := e_putI dX5_back_2 rfl rfl ht
theorem wX5_back_5 : E_ d mX5_back 5 [s0, .val (.int x), s2, s3, s4, s5, s6, s7] st h = E_ d mX5_back 6 [s0, .val (.int x), s2, s3, s4, s5, s6, s7] (.int x :: st) h := e_go dX5_back_5 rfl rfl
theorem wX5_back_6 : E_ d mX5_back 6 ls (.int x :: st) h = E_ d mX5_back 7 ls (.long x.toInt64 :: st) h := e_go dX5_back_6 rfl rfl
theorem wX5_back_7 : E_ d mX5_back 7 ls st h = E_ d mX5_back 8 ls (.long 0 :: st) h := e_go dX5_back_7 rfl rfl
theorem wX5_back_8 : E_ d mX5_back 8 ls st h = E_ d mX5_back 11 ls (.long (1000) :: st) h := e_go dX5_back_8 rfl rfl
theorem wX5_back_11 : E_ (d + 1) mX5_back 11 ls [.long u3, .long u2, .long u1] h = (C_ d mX5_within [.long u1, .long u2, .long u3] h).bind fun r => E_ (d + 1) mX5_back 14 ls (xpu r.1 []) r.2 := e_call dX5_back_11 rfl rfl
theorem wX5_back_14 : E_ d mX5_back 14 ls (.int x :: st) h = if x = 0 then E_ d mX5_back 17 ls st h else E_ d mX5_back 24 ls st h := e_zne dX5_back_14 rfl rfl
theorem wX5_back_17 : E_ d mX5_back 17 [.val (.ref a), s1, s2, s3, s4, s5, s6, s7] st h = E_ d mX5_back 18 [.val (.ref a), s1, s2, s3, s4, s5, s6, s7] (.ref a :: st) h := e_go dX5_back_17 rfl rfl
theorem wX5_back_18 : E_ d mX5_back 18 ls st h = E_ d mX5_back 20 ls (.int ((-3)) :: st) h := e_bipush dX5_back_18 kbipush_m3 rfl
theorem wX5_back_20 (ht : oT h a = 7) : E_ (d + 1) mX5_back 20 ls [.int x1, .ref a] h = (C_ d mX5_no [.ref a, .int x1] h).bind fun r => E_ (d + 1) mX5_back 23 ls (xpu r.1 []) r.2 := e_vir dX5_back_20 rfl rfl rfl rfl rfl rfl (Nat.le_of_ble_eq_true rfl) (Nat.le_of_ble_eq_true rfl) ht
theorem wX5_back_23 : E_ d mX5_back 23 ls [.int x] h = some (some (.int x), h) := e_rt dX5_back_23 rfl rfl
theorem wX5_back_24 : E_ d mX5_back 24 [.val (.ref a), s1, s2, s3, s4, s5, s6, s7] st h = E_ d mX5_back 25 [.val (.ref a), s1, s2, s3, s4, s5, s6, s7] (.ref a :: st) h := e_go dX5_back_24 rfl rfl
theorem wX5_back_25 (ht : oT h a = 7) : E_ d mX5_back 25 ls (.ref a :: st) h = E_ d mX5_back 28 ls (va_rf (oR h a 2) :: st) h := e_getR0 dX5_back_25 rfl rfl ht
theorem wX5_back_28 : E_ d mX5_back 28 ls st h = E_ d mX5_back 30 ls (.int (nI 35) :: st) h := e_bipush dX5_back_28 kbipush_35 rfl
theorem wX5_back_30 (ht : oT h a = 40) (hi : xix x (oN h a) = true) : E_ d mX5_back 30 ls (.int x :: .ref a :: st) h = E_ d mX5_back 31 ls (.int (oI h a x.toNatClampNeg) :: st) h := e_iald dX5_back_30 rfl ht hi
theorem wX5_back_31 : E_ d mX5_back 31 [s0, s1, s2, s3, s4, s5, s6, s7] (.int x :: st) h = E_ d mX5_back 32 [s0, xk s1, .val (.int x), s3, s4, s5, s6, s7] st h := e_go dX5_back_31 rfl rfl
theorem wX5_back_32 : E_ d mX5_back 32 ls st h = E_ d mX5_back 33 ls (.int ((-1)) :: st) h := e_iconst dX5_back_32 kiconst_m1 rfl
theorem wX5_back_33 : E_ d mX5_back 33 [s0, s1, s2, s3, s4, s5, s6, s7] (.int x :: st) h = E_ d mX5_back 34 [s0, s1, xk s2, .val (.int x), s4, s5, s6, s7] st h := e_go dX5_back_33 rfl rfl
theorem wX5_back_34 : E_ d mX5_back 34 ls st h = E_ d mX5_back 35 ls (.int (nI 0) :: st) h := e_iconst dX5_back_34 kiconst_0 rfl
theorem wX5_back_35 : E_ d mX5_back 35 [s0, s1, s2, s3, s4, s5, s6, s7] (.int x :: st) h = E_ d mX5_back 37 [s0, s1, s2, xk s3, .val (.int x), s5, s6, s7] st h := e_go dX5_back_35 rfl rfl
theorem wX5_back_37 : E_ d mX5_back 37 [s0, s1, s2, s3, .val (.int x), s5, s6, s7] st h = E_ d mX5_back 39 [s0, s1, s2, s3, .val (.int x), s5, s6, s7] (.int x :: st) h := e_go dX5_back_37 rfl rfl
theorem wX5_back_39 : E_ d mX5_back 39 ls st h = E_ d mX5_back 41 ls (.int (nI 30) :: st) h := e_bipush dX5_back_39 kbipush_30 rfl
theorem wX5_back_41 : E_ d mX5_back 41 ls (.int y :: .int x :: st) h = if y < x then E_ d mX5_back 148 ls st h else E_ d mX5_back 44 ls st h := e_igt dX5_back_41 rfl rfl
theorem wX5_back_44 : E_ d mX5_back 44 [s0, s1, s2, .val (.int x), s4, s5, s6, s7] st h = E_ d mX5_back 45 [s0, s1, s2, .val (.int x), s4, s5, s6, s7] (.int x :: st) h := e_go dX5_back_44 rfl rfl
theorem wX5_back_45 : E_ d mX5_back 45 ls st h = E_ d mX5_back 46 ls (.int ((-1)) :: st) h := e_iconst dX5_back_45 kiconst_m1 rfl
theorem wX5_back_46 : E_ d mX5_back 46 ls (.int y :: .int x :: st) h = if x = y then E_ d mX5_back 49 ls st h else E_ d mX5_back 148 ls st h := e_ine dX5_back_46 rfl rfl
theorem wX5_back_49 : E_ d mX5_back 49 [.val (.ref a), s1, s2, s3, s4, s5, s6, s7] st h = E_ d mX5_back 50 [.val (.ref a), s1, s2, s3, s4, s5, s6, s7] (.ref a :: st) h := e_go dX5_back_49 rfl rfl
theorem wX5_back_50 (ht : oT h a = 7) : E_ d mX5_back 50 ls (.ref a :: st) h = E_ d mX5_back 53 ls (va_rf (oR h a 2) :: st) h := e_getR0 dX5_back_50 rfl rfl ht
theorem wX5_back_53 : E_ d mX5_back 53 ls st h = E_ d mX5_back 55 ls (.int (nI 35) :: st) h := e_bipush dX5_back_53 kbipush_35 rfl
theorem wX5_back_55 : E_ d mX5_back 55 [s0, s1, s2, s3, .val (.int x), s5, s6, s7] st h = E_ d mX5_back 57 [s0, s1, s2, s3, .val (.int x), s5, s6, s7] (.int x :: st) h := e_go dX5_back_55 rfl rfl
theorem wX5_back_57 (ht : oT h a = 40) (hi : xix x (oN h a) = true) : E_ d mX5_back 57 ls (.int y :: .int x :: .ref a :: st) h = E_ d mX5_back 58 ls st (pI h a (va_up (oI h a) x.toNatClampNeg y)) := e_iast dX5_back_57 rfl ht hi
theorem wX5_back_58 : E_ d mX5_back 58 [.val (.ref a), s1, s2, s3, s4, s5, s6, s7] st h = E_ d mX5_back 59 [.val (.ref a), s1, s2, s3, s4, s5, s6, s7] (.ref a :: st) h := e_go dX5_back_58 rfl rfl
theorem wX5_back_59 (ht : oT h a = 7) : E_ (d + 1) mX5_back 59 ls [.ref a] h = (C_ d mX5_worksOdds [.ref a] h).bind fun r => E_ (d + 1) mX5_back 62 ls (xpu r.1 []) r.2 := e_vir dX5_back_59 rfl rfl rfl rfl rfl rfl (Nat.le_of_ble_eq_true rfl) (Nat.le_of_ble_eq_true rfl) ht
theorem wX5_back_62 : E_ d mX5_back 62 [.val (.ref a), s1, s2, s3, s4, s5, s6, s7] st h = E_ d mX5_back 63 [.val (.ref a), s1, s2, s3, s4, s5, s6, s7] (.ref a :: st) h := e_go dX5_back_62 rfl rfl
theorem wX5_back_63 (ht : oT h a = 7) : E_ (d + 1) mX5_back 63 ls [.ref a] h = (C_ d mX5_allParts [.ref a] h).bind fun r => E_ (d + 1) mX5_back 66 ls (xpu r.1 []) r.2 := e_vir dX5_back_63 rfl rfl rfl rfl rfl rfl (Nat.le_of_ble_eq_true rfl) (Nat.le_of_ble_eq_true rfl) ht
theorem wX5_back_66 : E_ d mX5_back 66 [s0, s1, s2, s3, s4, s5, s6, s7] (.long u :: st) h = E_ d mX5_back 68 [s0, s1, s2, s3, xk s4, .val (.long u), .unset, s7] st h := e_go dX5_back_66 rfl rfl
theorem wX5_back_68 : E_ d mX5_back 68 [s0, s1, s2, s3, s4, .val (.long u), s6, s7] st h = E_ d mX5_back 70 [s0, s1, s2, s3, s4, .val (.long u), s6, s7] (.long u :: st) h := e_go dX5_back_68 rfl rfl
theorem wX5_back_70 : E_ d mX5_back 70 ls st h = E_ d mX5_back 73 ls (.long (1000) :: st) h := e_go dX5_back_70 rfl rfl
theorem wX5_back_73 : E_ d mX5_back 73 ls (.long v :: .long u :: st) h = E_ d mX5_back 74 ls (.int (lg_cmp u v) :: st) h := e_go dX5_back_73 rfl rfl
theorem wX5_back_74 : E_ d mX5_back 74 ls (.int x :: st) h = if x < 0 then E_ d mX5_back 77 ls st h else E_ d mX5_back 104 ls st h := e_zge dX5_back_74 rfl rfl
theorem wX5_back_77 : E_ d mX5_back 77 [.val (.ref a), s1, s2, s3, s4, s5, s6, s7] st h = E_ d mX5_back 78 [.val (.ref a), s1, s2, s3, s4, s5, s6, s7] (.ref a :: st) h := e_go dX5_back_77 rfl rfl
theorem wX5_back_78 (ht : oT h a = 7) : E_ d mX5_back 78 ls (.ref a :: st) h = E_ d mX5_back 81 ls (va_rf (oR h a 27) :: st) h := e_getR0 dX5_back_78 rfl rfl ht
theorem wX5_back_81 : E_ d mX5_back 81 ls st h = E_ d mX5_back 82 ls (.int (nI 1) :: st) h := e_iconst dX5_back_81 kiconst_1 rfl
theorem wX5_back_82 (ht : oT h a = 44) (hi : xix x (oN h a) = true) : E_ d mX5_back 82 ls (.int x :: .ref a :: st) h = E_ d mX5_back 83 ls (.long (oL h a x.toNatClampNeg) :: st) h := e_lald dX5_back_82 rfl ht hi
theorem wX5_back_83 : E_ d mX5_back 83 ls st h = E_ d mX5_back 86 ls (.long (1000) :: st) h := e_go dX5_back_83 rfl rfl
theorem wX5_back_86 : E_ d mX5_back 86 ls (.long v :: .long u :: st) h = E_ d mX5_back 87 ls (.long (u * v) :: st) h := e_go dX5_back_86 rfl rfl
theorem wX5_back_87 : E_ d mX5_back 87 [s0, .val (.int x), s2, s3, s4, s5, s6, s7] st h = E_ d mX5_back 88 [s0, .val (.int x), s2, s3, s4, s5, s6, s7] (.int x :: st) h := e_go dX5_back_87 rfl rfl
theorem wX5_back_88 : E_ d mX5_back 88 ls (.int x :: st) h = E_ d mX5_back 89 ls (.long x.toInt64 :: st) h := e_go dX5_back_88 rfl rfl
theorem wX5_back_89 : E_ d mX5_back 89 [s0, s1, s2, s3, s4, .val (.long u), s6, s7] st h = E_ d mX5_back 91 [s0, s1, s2, s3, s4, .val (.long u), s6, s7] (.long u :: st) h := e_go dX5_back_89 rfl rfl
theorem wX5_back_91 : E_ d mX5_back 91 ls (.long v :: .long u :: st) h = E_ d mX5_back 92 ls (.long (u * v) :: st) h := e_go dX5_back_91 rfl rfl
theorem wX5_back_92 : E_ d mX5_back 92 ls (.long v :: .long u :: st) h = E_ d mX5_back 93 ls (.int (lg_cmp u v) :: st) h := e_go dX5_back_92 rfl rfl
theorem wX5_back_93 : E_ d mX5_back 93 ls (.int x :: st) h = if 0 < x then E_ d mX5_back 100 ls st h else E_ d mX5_back 96 ls st h := e_zgt dX5_back_93 rfl rfl
theorem wX5_back_96 : E_ d mX5_back 96 ls st h = E_ d mX5_back 97 ls (.int (nI 1) :: st) h := e_iconst dX5_back_96 kiconst_1 rfl
theorem wX5_back_97 : E_ d mX5_back 97 ls st h = E_ d mX5_back 128 ls st h := e_gt dX5_back_97 rfl
theorem wX5_back_100 : E_ d mX5_back 100 ls st h = E_ d mX5_back 101 ls (.int (nI 0) :: st) h := e_iconst dX5_back_100 kiconst_0 rfl
theorem wX5_back_101 : E_ d mX5_back 101 ls st h = E_ d mX5_back 128 ls st h := e_gt dX5_back_101 rfl
theorem wX5_back_104 : E_ d mX5_back 104 [.val (.ref a), s1, s2, s3, s4, s5, s6, s7] st h = E_ d mX5_back 105 [.val (.ref a), s1, s2, s3, s4, s5, s6, s7] (.ref a :: st) h := e_go dX5_back_104 rfl rfl
theorem wX5_back_105 (ht : oT h a = 7) : E_ d mX5_back 105 ls (.ref a :: st) h = E_ d mX5_back 108 ls (va_rf (oR h a 27) :: st) h := e_getR0 dX5_back_105 rfl rfl ht
theorem wX5_back_108 : E_ d mX5_back 108 ls st h = E_ d mX5_back 109 ls (.int (nI 1) :: st) h := e_iconst dX5_back_108 kiconst_1 rfl
theorem wX5_back_109 (ht : oT h a = 44) (hi : xix x (oN h a) = true) : E_ d mX5_back 109 ls (.int x :: .ref a :: st) h = E_ d mX5_back 110 ls (.long (oL h a x.toNatClampNeg) :: st) h := e_lald dX5_back_109 rfl ht hi
theorem wX5_back_110 : E_ d mX5_back 110 [s0, .val (.int x), s2, s3, s4, s5, s6, s7] st h = E_ d mX5_back 111 [s0, .val (.int x), s2, s3, s4, s5, s6, s7] (.int x :: st) h := e_go dX5_back_110 rfl rfl
theorem wX5_back_111 : E_ d mX5_back 111 ls (.int x :: st) h = E_ d mX5_back 112 ls (.long x.toInt64 :: st) h := e_go dX5_back_111 rfl rfl
theorem wX5_back_112 : E_ d mX5_back 112 [s0, s1, s2, s3, s4, .val (.long u), s6, s7] st h = E_ d mX5_back 114 [s0, s1, s2, s3, s4, .val (.long u), s6, s7] (.long u :: st) h := e_go dX5_back_112 rfl rfl
theorem wX5_back_114 : E_ d mX5_back 114 ls st h = E_ d mX5_back 117 ls (.long (1000) :: st) h := e_go dX5_back_114 rfl rfl
theorem wX5_back_117 (hy : ¬ v = 0) : E_ d mX5_back 117 ls (.long v :: .long u :: st) h = E_ d mX5_back 118 ls (.long (u / v) :: st) h := e_ldiv dX5_back_117 rfl hy
theorem wX5_back_118 : E_ d mX5_back 118 ls (.long v :: .long u :: st) h = E_ d mX5_back 119 ls (.long (u * v) :: st) h := e_go dX5_back_118 rfl rfl
theorem wX5_back_119 : E_ d mX5_back 119 ls (.long v :: .long u :: st) h = E_ d mX5_back 120 ls (.int (lg_cmp u v) :: st) h := e_go dX5_back_119 rfl rfl
theorem wX5_back_120 : E_ d mX5_back 120 ls (.int x :: st) h = if 0 < x then E_ d mX5_back 127 ls st h else E_ d mX5_back 123 ls st h := e_zgt dX5_back_120 rfl rfl
theorem wX5_back_123 : E_ d mX5_back 123 ls st h = E_ d mX5_back 124 ls (.int (nI 1) :: st) h := e_iconst dX5_back_123 kiconst_1 rfl
theorem wX5_back_124 : E_ d mX5_back 124 ls st h = E_ d mX5_back 128 ls st h := e_gt dX5_back_124 rfl
theorem wX5_back_127 : E_ d mX5_back 127 ls st h = E_ d mX5_back 128 ls (.int (nI 0) :: st) h := e_iconst dX5_back_127 kiconst_0 rfl
theorem wX5_back_128 : E_ d mX5_back 128 [s0, s1, s2, s3, s4, s5, s6, s7] (.int x :: st) h = E_ d mX5_back 130 [s0, s1, s2, s3, s4, s5, xk s6, .val (.int x)] st h := e_go dX5_back_128 rfl rfl
theorem wX5_back_130 : E_ d mX5_back 130 [s0, s1, s2, s3, s4, s5, s6, .val (.int x)] st h = E_ d mX5_back 132 [s0, s1, s2, s3, s4, s5, s6, .val (.int x)] (.int x :: st) h := e_go dX5_back_130 rfl rfl
theorem wX5_back_132 : E_ d mX5_back 132 ls (.int x :: st) h = if x = 0 then E_ d mX5_back 140 ls st h else E_ d mX5_back 135 ls st h := e_zeq dX5_back_132 rfl rfl
theorem wX5_back_135 : E_ d mX5_back 135 [s0, s1, s2, s3, .val (.int x), s5, s6, s7] st h = E_ d mX5_back 137 [s0, s1, s2, s3, .val (.int x), s5, s6, s7] (.int x :: st) h := e_go dX5_back_135 rfl rfl
theorem wX5_back_137 : E_ d mX5_back 137 ls st h = E_ d mX5_back 141 ls st h := e_gt dX5_back_137 rfl
theorem wX5_back_140 : E_ d mX5_back 140 ls st h = E_ d mX5_back 141 ls (.int ((-1)) :: st) h := e_iconst dX5_back_140 kiconst_m1 rfl
theorem wX5_back_141 : E_ d mX5_back 141 [s0, s1, s2, s3, s4, s5, s6, s7] (.int x :: st) h = E_ d mX5_back 142 [s0, s1, xk s2, .val (.int x), s4, s5, s6, s7] st h := e_go dX5_back_141 rfl rfl
theorem wX5_back_142 : E_ d mX5_back 142 [s0, s1, s2, s3, .val (.int x), s5, s6, s7] st h = E_ d mX5_back 145 [s0, s1, s2, xk s3, .val (.int (x + nI 1)), s5, s6, s7] st h := by rw [← kiinc_1]; exact e_go dX5_back_142 rfl rfl
theorem wX5_back_145 : E_ d mX5_back 145 ls st h = E_ d mX5_back 37 ls st h := e_gt dX5_back_145 rfl
theorem wX5_back_148 : E_ d mX5_back 148 [.val (.ref a), s1, s2, s3, s4, s5, s6, s7] st h = E_ d mX5_back 149 [.val (.ref a), s1, s2, s3, s4, s5, s6, s7] (.ref a :: st) h := e_go dX5_back_148 rfl rfl
theorem wX5_back_149 (ht : oT h a = 7) : E_ d mX5_back 149 ls (.ref a :: st) h = E_ d mX5_back 152 ls (va_rf (oR h a 2) :: st) h := e_getR0 dX5_back_149 rfl rfl ht
theorem wX5_back_152 : E_ d mX5_back 152 ls st h = E_ d mX5_back 154 ls (.int (nI 35) :: st) h := e_bipush dX5_back_152 kbipush_35 rfl
theorem wX5_back_154 : E_ d mX5_back 154 [s0, s1, .val (.int x), s3, s4, s5, s6, s7] st h = E_ d mX5_back 155 [s0, s1, .val (.int x), s3, s4, s5, s6, s7] (.int x :: st) h := e_go dX5_back_154 rfl rfl
theorem wX5_back_155 (ht : oT h a = 40) (hi : xix x (oN h a) = true) : E_ d mX5_back 155 ls (.int y :: .int x :: .ref a :: st) h = E_ d mX5_back 156 ls st (pI h a (va_up (oI h a) x.toNatClampNeg y)) := e_iast dX5_back_155 rfl ht hi
theorem wX5_back_156 : E_ d mX5_back 156 [s0, s1, s2, .val (.int x), s4, s5, s6, s7] st h = E_ d mX5_back 157 [s0, s1, s2, .val (.int x), s4, s5, s6, s7] (.int x :: st) h := e_go dX5_back_156 rfl rfl
theorem wX5_back_157 : E_ d mX5_back 157 ls [.int x] h = some (some (.int x), h) := e_rt dX5_back_157 rfl rfl
/-! FootOutModel.wise -/
theorem wX5_wise_0 : E_ d mX5_wise 0 [.val (.ref a), s1, s2, s3, s4, s5, s6, s7] st h = E_ d mX5_wise 1 [.val (.ref a), s1, s2, s3, s4, s5, s6, s7] (.ref a :: st) h := e_go dX5_wise_0 rfl rfl
theorem wX5_wise_1 : E_ d mX5_wise 1 ls st h = E_ d mX5_wise 2 ls (.int (nI 0) :: st) h := e_iconst dX5_wise_1 kiconst_0 rfl
theorem wX5_wise_2 (ht : oT h a = 7) : E_ d mX5_wise 2 ls (.int x :: .ref a :: st) h = E_ d mX5_wise 5 ls st (pI h a (va_up (oI h a) 0 x)) := e_putI dX5_wise_2 rfl rfl ht
theorem wX5_wise_5 : E_ d mX5_wise 5 [s0, .val (.int x), s2, s3, s4, s5, s6, s7] st h = E_ d mX5_wise 6 [s0, .val (.int x), s2, s3, s4, s5, s6, s7] (.int x :: st) h := e_go dX5_wise_5 rfl rfl
theorem wX5_wise_6 : E_ d mX5_wise 6 ls (.int x :: st) h = E_ d mX5_wise 7 ls (.long x.toInt64 :: st) h := e_go dX5_wise_6 rfl rfl
theorem wX5_wise_7 : E_ d mX5_wise 7 ls st h = E_ d mX5_wise 8 ls (.long 0 :: st) h := e_go dX5_wise_7 rfl rfl
theorem wX5_wise_8 : E_ d mX5_wise 8 ls st h = E_ d mX5_wise 9 ls (.long 1 :: st) h := e_go dX5_wise_8 rfl rfl
theorem wX5_wise_9 : E_ (d + 1) mX5_wise 9 ls [.long u3, .long u2, .long u1] h = (C_ d mX5_within [.long u1, .long u2, .long u3] h).bind fun r => E_ (d + 1) mX5_wise 12 ls (xpu r.1 []) r.2 := e_call dX5_wise_9 rfl rfl
theorem wX5_wise_12 : E_ d mX5_wise 12 ls (.int x :: st) h = if x = 0 then E_ d mX5_wise 15 ls st h else E_ d mX5_wise 22 ls st h := e_zne dX5_wise_12 rfl rfl
theorem wX5_wise_15 : E_ d mX5_wise 15 [.val (.ref a), s1, s2, s3, s4, s5, s6, s7] st h = E_ d mX5_wise 16 [.val (.ref a), s1, s2, s3, s4, s5, s6, s7] (.ref a :: st) h := e_go dX5_wise_15 rfl rfl
theorem wX5_wise_16 : E_ d mX5_wise 16 ls st h = E_ d mX5_wise 18 ls (.int ((-2)) :: st) h := e_bipush dX5_wise_16 kbipush_m2 rfl
theorem wX5_wise_18 (ht : oT h a = 7) : E_ (d + 1) mX5_wise 18 ls [.int x1, .ref a] h = (C_ d mX5_no [.ref a, .int x1] h).bind fun r => E_ (d + 1) mX5_wise 21 ls (xpu r.1 []) r.2 := e_vir dX5_wise_18 rfl rfl rfl rfl rfl rfl (Nat.le_of_ble_eq_true rfl) (Nat.le_of_ble_eq_true rfl) ht
theorem wX5_wise_21 : E_ d mX5_wise 21 ls [.int x] h = some (some (.int x), h) := e_rt dX5_wise_21 rfl rfl
theorem wX5_wise_22 : E_ d mX5_wise 22 [s0, .val (.int x), s2, s3, s4, s5, s6, s7] st h = E_ d mX5_wise 23 [s0, .val (.int x), s2, s3, s4, s5, s6, s7] (.int x :: st) h := e_go dX5_wise_22 rfl rfl
theorem wX5_wise_23 : E_ d mX5_wise 23 ls (.int x :: st) h = if x = 0 then E_ d mX5_wise 26 ls st h else E_ d mX5_wise 31 ls st h := e_zne dX5_wise_23 rfl rfl
theorem wX5_wise_26 : E_ d mX5_wise 26 ls st h = E_ d mX5_wise 28 ls (.int (nI 37) :: st) h := e_bipush dX5_wise_26 kbipush_37 rfl
theorem wX5_wise_28 : E_ d mX5_wise 28 ls st h = E_ d mX5_wise 33 ls st h := e_gt dX5_wise_28 rfl
theorem wX5_wise_31 : E_ d mX5_wise 31 ls st h = E_ d mX5_wise 33 ls (.int (nI 36) :: st) h := e_bipush dX5_wise_31 kbipush_36 rfl
theorem wX5_wise_33 : E_ d mX5_wise 33 [s0, s1, s2, s3, s4, s5, s6, s7] (.int x :: st) h = E_ d mX5_wise 34 [s0, xk s1, .val (.int x), s3, s4, s5, s6, s7] st h := e_go dX5_wise_33 rfl rfl
theorem wX5_wise_34 : E_ d mX5_wise 34 [.val (.ref a), s1, s2, s3, s4, s5, s6, s7] st h = E_ d mX5_wise 35 [.val (.ref a), s1, s2, s3, s4, s5, s6, s7] (.ref a :: st) h := e_go dX5_wise_34 rfl rfl
theorem wX5_wise_35 (ht : oT h a = 7) : E_ d mX5_wise 35 ls (.ref a :: st) h = E_ d mX5_wise 38 ls (va_rf (oR h a 2) :: st) h := e_getR0 dX5_wise_35 rfl rfl ht
theorem wX5_wise_38 : E_ d mX5_wise 38 [s0, s1, .val (.int x), s3, s4, s5, s6, s7] st h = E_ d mX5_wise 39 [s0, s1, .val (.int x), s3, s4, s5, s6, s7] (.int x :: st) h := e_go dX5_wise_38 rfl rfl
theorem wX5_wise_39 (ht : oT h a = 40) (hi : xix x (oN h a) = true) : E_ d mX5_wise 39 ls (.int x :: .ref a :: st) h = E_ d mX5_wise 40 ls (.int (oI h a x.toNatClampNeg) :: st) h := e_iald dX5_wise_39 rfl ht hi
theorem wX5_wise_40 : E_ d mX5_wise 40 [s0, s1, s2, s3, s4, s5, s6, s7] (.int x :: st) h = E_ d mX5_wise 41 [s0, s1, xk s2, .val (.int x), s4, s5, s6, s7] st h := e_go dX5_wise_40 rfl rfl
theorem wX5_wise_41 : E_ d mX5_wise 41 ls st h = E_ d mX5_wise 42 ls (.int (nI 0) :: st) h := e_iconst dX5_wise_41 kiconst_0 rfl
theorem wX5_wise_42 : E_ d mX5_wise 42 [s0, s1, s2, s3, s4, s5, s6, s7] (.int x :: st) h = E_ d mX5_wise 44 [s0, s1, s2, xk s3, .val (.int x), s5, s6, s7] st h := e_go dX5_wise_42 rfl rfl
theorem wX5_wise_44 : E_ d mX5_wise 44 ls st h = E_ d mX5_wise 47 ls (.long (-1) :: st) h := e_go dX5_wise_44 rfl rfl
theorem wX5_wise_47 : E_ d mX5_wise 47 [s0, s1, s2, s3, s4, s5, s6, s7] (.long u :: st) h = E_ d mX5_wise 49 [s0, s1, s2, s3, xk s4, .val (.long u), .unset, s7] st h := e_go dX5_wise_47 rfl rfl
theorem wX5_wise_49 : E_ d mX5_wise 49 ls st h = E_ d mX5_wise 50 ls (.int (nI 0) :: st) h := e_iconst dX5_wise_49 kiconst_0 rfl
theorem wX5_wise_50 : E_ d mX5_wise 50 [s0, s1, s2, s3, s4, s5, s6, s7] (.int x :: st) h = E_ d mX5_wise 52 [s0, s1, s2, s3, s4, s5, xk s6, .val (.int x)] st h := e_go dX5_wise_50 rfl rfl
theorem wX5_wise_52 : E_ d mX5_wise 52 [s0, s1, s2, s3, s4, s5, s6, .val (.int x)] st h = E_ d mX5_wise 54 [s0, s1, s2, s3, s4, s5, s6, .val (.int x)] (.int x :: st) h := e_go dX5_wise_52 rfl rfl
theorem wX5_wise_54 : E_ d mX5_wise 54 [s0, .val (.int x), s2, s3, s4, s5, s6, s7] st h = E_ d mX5_wise 55 [s0, .val (.int x), s2, s3, s4, s5, s6, s7] (.int x :: st) h := e_go dX5_wise_54 rfl rfl
theorem wX5_wise_55 : E_ d mX5_wise 55 ls (.int x :: st) h = if x = 0 then E_ d mX5_wise 58 ls st h else E_ d mX5_wise 63 ls st h := e_zne dX5_wise_55 rfl rfl
theorem wX5_wise_58 : E_ d mX5_wise 58 ls st h = E_ d mX5_wise 60 ls (.int (nI 60) :: st) h := e_bipush dX5_wise_58 kbipush_60 rfl
theorem wX5_wise_60 : E_ d mX5_wise 60 ls st h = E_ d mX5_wise 65 ls st h := e_gt dX5_wise_60 rfl
theorem wX5_wise_63 : E_ d mX5_wise 63 ls st h = E_ d mX5_wise 65 ls (.int (nI 20) :: st) h := e_bipush dX5_wise_63 kbipush_20 rfl
theorem wX5_wise_65 : E_ d mX5_wise 65 ls (.int y :: .int x :: st) h = if y < x then E_ d mX5_wise 113 ls st h else E_ d mX5_wise 68 ls st h := e_igt dX5_wise_65 rfl rfl
theorem wX5_wise_68 : E_ d mX5_wise 68 [.val (.ref a), s1, s2, s3, s4, s5, s6, s7] st h = E_ d mX5_wise 69 [.val (.ref a), s1, s2, s3, s4, s5, s6, s7] (.ref a :: st) h := e_go dX5_wise_68 rfl rfl
theorem wX5_wise_69 (ht : oT h a = 7) : E_ d mX5_wise 69 ls (.ref a :: st) h = E_ d mX5_wise 72 ls (va_rf (oR h a 2) :: st) h := e_getR0 dX5_wise_69 rfl rfl ht
theorem wX5_wise_72 : E_ d mX5_wise 72 [s0, s1, .val (.int x), s3, s4, s5, s6, s7] st h = E_ d mX5_wise 73 [s0, s1, .val (.int x), s3, s4, s5, s6, s7] (.int x :: st) h := e_go dX5_wise_72 rfl rfl
theorem wX5_wise_73 : E_ d mX5_wise 73 [s0, s1, s2, s3, s4, s5, s6, .val (.int x)] st h = E_ d mX5_wise 75 [s0, s1, s2, s3, s4, s5, s6, .val (.int x)] (.int x :: st) h := e_go dX5_wise_73 rfl rfl
theorem wX5_wise_75 (ht : oT h a = 40) (hi : xix x (oN h a) = true) : E_ d mX5_wise 75 ls (.int y :: .int x :: .ref a :: st) h = E_ d mX5_wise 76 ls st (pI h a (va_up (oI h a) x.toNatClampNeg y)) := e_iast dX5_wise_75 rfl ht hi
theorem wX5_wise_76 : E_ d mX5_wise 76 [.val (.ref a), s1, s2, s3, s4, s5, s6, s7] st h = E_ d mX5_wise 77 [.val (.ref a), s1, s2, s3, s4, s5, s6, s7] (.ref a :: st) h := e_go dX5_wise_76 rfl rfl
theorem wX5_wise_77 (ht : oT h a = 7) : E_ (d + 1) mX5_wise 77 ls [.ref a] h = (C_ d mX5_worksOdds [.ref a] h).bind fun r => E_ (d + 1) mX5_wise 80 ls (xpu r.1 []) r.2 := e_vir dX5_wise_77 rfl rfl rfl rfl rfl rfl (Nat.le_of_ble_eq_true rfl) (Nat.le_of_ble_eq_true rfl) ht
theorem wX5_wise_80 : E_ d mX5_wise 80 [.val (.ref a), s1, s2, s3, s4, s5, s6, s7] st h = E_ d mX5_wise 81 [.val (.ref a), s1, s2, s3, s4, s5, s6, s7] (.ref a :: st) h := e_go dX5_wise_80 rfl rfl
theorem wX5_wise_81 (ht : oT h a = 7) : E_ d mX5_wise 81 ls (.ref a :: st) h = E_ d mX5_wise 84 ls (va_rf (oR h a 27) :: st) h := e_getR0 dX5_wise_81 rfl rfl ht
theorem wX5_wise_84 : E_ d mX5_wise 84 ls st h = E_ d mX5_wise 85 ls (.int (nI 0) :: st) h := e_iconst dX5_wise_84 kiconst_0 rfl
theorem wX5_wise_85 (ht : oT h a = 44) (hi : xix x (oN h a) = true) : E_ d mX5_wise 85 ls (.int x :: .ref a :: st) h = E_ d mX5_wise 86 ls (.long (oL h a x.toNatClampNeg) :: st) h := e_lald dX5_wise_85 rfl ht hi
theorem wX5_wise_86 : E_ d mX5_wise 86 [s0, s1, s2, s3, s4, .val (.long u), s6, s7] st h = E_ d mX5_wise 88 [s0, s1, s2, s3, s4, .val (.long u), s6, s7] (.long u :: st) h := e_go dX5_wise_86 rfl rfl
theorem wX5_wise_88 : E_ d mX5_wise 88 ls (.long v :: .long u :: st) h = E_ d mX5_wise 89 ls (.int (lg_cmp u v) :: st) h := e_go dX5_wise_88 rfl rfl
theorem wX5_wise_89 : E_ d mX5_wise 89 ls (.int x :: st) h = if 0 < x then E_ d mX5_wise 95 ls st h else E_ d mX5_wise 92 ls st h := e_zgt dX5_wise_89 rfl rfl
theorem wX5_wise_92 : E_ d mX5_wise 92 ls st h = E_ d mX5_wise 107 ls st h := e_gt dX5_wise_92 rfl
theorem wX5_wise_95 : E_ d mX5_wise 95 [.val (.ref a), s1, s2, s3, s4, s5, s6, s7] st h = E_ d mX5_wise 96 [.val (.ref a), s1, s2, s3, s4, s5, s6, s7] (.ref a :: st) h := e_go dX5_wise_95 rfl rfl
theorem wX5_wise_96 (ht : oT h a = 7) : E_ d mX5_wise 96 ls (.ref a :: st) h = E_ d mX5_wise 99 ls (va_rf (oR h a 27) :: st) h := e_getR0 dX5_wise_96 rfl rfl ht
theorem wX5_wise_99 : E_ d mX5_wise 99 ls st h = E_ d mX5_wise 100 ls (.int (nI 0) :: st) h := e_iconst dX5_wise_99 kiconst_0 rfl
theorem wX5_wise_100 (ht : oT h a = 44) (hi : xix x (oN h a) = true) : E_ d mX5_wise 100 ls (.int x :: .ref a :: st) h = E_ d mX5_wise 101 ls (.long (oL h a x.toNatClampNeg) :: st) h := e_lald dX5_wise_100 rfl ht hi
theorem wX5_wise_101 : E_ d mX5_wise 101 [s0, s1, s2, s3, s4, s5, s6, s7] (.long u :: st) h = E_ d mX5_wise 103 [s0, s1, s2, s3, xk s4, .val (.long u), .unset, s7] st h := e_go dX5_wise_101 rfl rfl
theorem wX5_wise_103 : E_ d mX5_wise 103 [s0, s1, s2, s3, s4, s5, s6, .val (.int x)] st h = E_ d mX5_wise 105 [s0, s1, s2, s3, s4, s5, s6, .val (.int x)] (.int x :: st) h := e_go dX5_wise_103 rfl rfl
theorem wX5_wise_105 : E_ d mX5_wise 105 [s0, s1, s2, s3, s4, s5, s6, s7] (.int x :: st) h = E_ d mX5_wise 107 [s0, s1, s2, xk s3, .val (.int x), s5, s6, s7] st h := e_go dX5_wise_105 rfl rfl
theorem wX5_wise_107 : E_ d mX5_wise 107 [s0, s1, s2, s3, s4, s5, s6, .val (.int x)] st h = E_ d mX5_wise 110 [s0, s1, s2, s3, s4, s5, xk s6, .val (.int (x + nI 1))] st h := by rw [← kiinc_1]; exact e_go dX5_wise_107 rfl rfl
theorem wX5_wise_110 : E_ d mX5_wise 110 ls st h = E_ d mX5_wise 52 ls st h := e_gt dX5_wise_110 rfl
theorem wX5_wise_113 : E_ d mX5_wise 113 [.val (.ref a), s1, s2, s3, s4, s5, s6, s7] st h = E_ d mX5_wise 114 [.val (.ref a), s1, s2, s3, s4, s5, s6, s7] (.ref a :: st) h := e_go dX5_wise_113 rfl rfl
theorem wX5_wise_114 (ht : oT h a = 7) : E_ d mX5_wise 114 ls (.ref a :: st) h = E_ d mX5_wise 117 ls (va_rf (oR h a 2) :: st) h := e_getR0 dX5_wise_114 rfl rfl ht
theorem wX5_wise_117 : E_ d mX5_wise 117 [s0, s1, .val (.int x), s3, s4, s5, s6, s7] st h = E_ d mX5_wise 118 [s0, s1, .val (.int x), s3, s4, s5, s6, s7] (.int x :: st) h := e_go dX5_wise_117 rfl rfl
theorem wX5_wise_118 : E_ d mX5_wise 118 [s0, s1, s2, .val (.int x), s4, s5, s6, s7] st h = E_ d mX5_wise 119 [s0, s1, s2, .val (.int x), s4, s5, s6, s7] (.int x :: st) h := e_go dX5_wise_118 rfl rfl
theorem wX5_wise_119 (ht : oT h a = 40) (hi : xix x (oN h a) = true) : E_ d mX5_wise 119 ls (.int y :: .int x :: .ref a :: st) h = E_ d mX5_wise 120 ls st (pI h a (va_up (oI h a) x.toNatClampNeg y)) := e_iast dX5_wise_119 rfl ht hi
theorem wX5_wise_120 : E_ d mX5_wise 120 [s0, s1, s2, s3, .val (.int x), s5, s6, s7] st h = E_ d mX5_wise 122 [s0, s1, s2, s3, .val (.int x), s5, s6, s7] (.int x :: st) h := e_go dX5_wise_120 rfl rfl
theorem wX5_wise_122 : E_ d mX5_wise 122 ls [.int x] h = some (some (.int x), h) := e_rt dX5_wise_122 rfl rfl
/-! FootOutModel.blame -/
theorem wX5_blame_0 : E_ d mX5_blame 0 [.val (.ref a), s1, s2] st h = E_ d mX5_blame 1 [.val (.ref a), s1, s2] (.ref a :: st) h := e_go dX5_blame_0 rfl rfl
theorem wX5_blame_1 : E_ d mX5_blame 1 ls st h = E_ d mX5_blame 2 ls (.int (nI 0) :: st) h := e_iconst dX5_blame_1 kiconst_0 rfl
theorem wX5_blame_2 (ht : oT h a = 7) : E_ d mX5_blame 2 ls (.int x :: .ref a :: st) h = E_ d mX5_blame 5 ls st (pI h a (va_up (oI h a) 0 x)) := e_putI dX5_blame_2 rfl rfl ht
theorem wX5_blame_5 : E_ d mX5_blame 5 [.val (.ref a), s1, s2] st h = E_ d mX5_blame 6 [.val (.ref a), s1, s2] (.ref a :: st) h := e_go dX5_blame_5 rfl rfl
theorem wX5_blame_6 : E_ d mX5_blame 6 [s0, .val (.int x), s2] st h = E_ d mX5_blame 7 [s0, .val (.int x), s2] (.int x :: st) h := e_go dX5_blame_6 rfl rfl
theorem wX5_blame_7 (ht : oT h a = 7) : E_ (d + 1) mX5_blame 7 ls [.int x1, .ref a] h = (C_ d mX5_isCar [.ref a, .int x1] h).bind fun r => E_ (d + 1) mX5_blame 10 ls (xpu r.1 []) r.2 := e_vir dX5_blame_7 rfl rfl rfl rfl rfl rfl (Nat.le_of_ble_eq_true rfl) (Nat.le_of_ble_eq_true rfl) ht
theorem wX5_blame_10 : E_ d mX5_blame 10 ls (.int x :: st) h = if x = 0 then E_ d mX5_blame 23 ls st h else E_ d mX5_blame 13 ls st h := e_zeq dX5_blame_10 rfl rfl
theorem wX5_blame_13 : E_ d mX5_blame 13 [s0, s1, .val (.int x)] st h = E_ d mX5_blame 14 [s0, s1, .val (.int x)] (.int x :: st) h := e_go dX5_blame_13 rfl rfl
theorem wX5_blame_14 : E_ d mX5_blame 14 ls (.int x :: st) h = E_ d mX5_blame 15 ls (.long x.toInt64 :: st) h := e_go dX5_blame_14 rfl rfl
theorem wX5_blame_15 : E_ d mX5_blame 15 ls st h = E_ d mX5_blame 16 ls (.long 0 :: st) h := e_go dX5_blame_15 rfl rfl
theorem wX5_blame_16 : E_ d mX5_blame 16 ls st h = E_ d mX5_blame 17 ls (.long 1 :: st) h := e_go dX5_blame_16 rfl rfl
theorem wX5_blame_17 : E_ (d + 1) mX5_blame 17 ls [.long u3, .long u2, .long u1] h = (C_ d mX5_within [.long u1, .long u2, .long u3] h).bind fun r => E_ (d + 1) mX5_blame 20 ls (xpu r.1 []) r.2 := e_call dX5_blame_17 rfl rfl
theorem wX5_blame_20 : E_ d mX5_blame 20 ls (.int x :: st) h = if x = 0 then E_ d mX5_blame 23 ls st h else E_ d mX5_blame 31 ls st h := e_zne dX5_blame_20 rfl rfl
theorem wX5_blame_23 : E_ d mX5_blame 23 [.val (.ref a), s1, s2] st h = E_ d mX5_blame 24 [.val (.ref a), s1, s2] (.ref a :: st) h := e_go dX5_blame_23 rfl rfl
theorem wX5_blame_24 : E_ d mX5_blame 24 ls st h = E_ d mX5_blame 26 ls (.int ((-2)) :: st) h := e_bipush dX5_blame_24 kbipush_m2 rfl
theorem wX5_blame_26 (ht : oT h a = 7) : E_ (d + 1) mX5_blame 26 ls [.int x1, .ref a] h = (C_ d mX5_no [.ref a, .int x1] h).bind fun r => E_ (d + 1) mX5_blame 29 ls (xpu r.1 []) r.2 := e_vir dX5_blame_26 rfl rfl rfl rfl rfl rfl (Nat.le_of_ble_eq_true rfl) (Nat.le_of_ble_eq_true rfl) ht
theorem wX5_blame_29 : E_ d mX5_blame 29 ls (.int x :: st) h = E_ d mX5_blame 30 ls (.long x.toInt64 :: st) h := e_go dX5_blame_29 rfl rfl
theorem wX5_blame_30 : E_ d mX5_blame 30 ls [.long u] h = some (some (.long u), h) := e_rt dX5_blame_30 rfl rfl
theorem wX5_blame_31 : E_ d mX5_blame 31 [.val (.ref a), s1, s2] st h = E_ d mX5_blame 32 [.val (.ref a), s1, s2] (.ref a :: st) h := e_go dX5_blame_31 rfl rfl
theorem wX5_blame_32 (ht : oT h a = 7) : E_ (d + 1) mX5_blame 32 ls [.ref a] h = (C_ d mX5_worksOdds [.ref a] h).bind fun r => E_ (d + 1) mX5_blame 35 ls (xpu r.1 []) r.2 := e_vir dX5_blame_32 rfl rfl rfl rfl rfl rfl (Nat.le_of_ble_eq_true rfl) (Nat.le_of_ble_eq_true rfl) ht
theorem wX5_blame_35 : E_ d mX5_blame 35 [s0, s1, .val (.int x)] st h = E_ d mX5_blame 36 [s0, s1, .val (.int x)] (.int x :: st) h := e_go dX5_blame_35 rfl rfl
theorem wX5_blame_36 : E_ d mX5_blame 36 ls (.int x :: st) h = if x = 0 then E_ d mX5_blame 39 ls st h else E_ d mX5_blame 48 ls st h := e_zne dX5_blame_36 rfl rfl
theorem wX5_blame_39 : E_ d mX5_blame 39 [.val (.ref a), s1, s2] st h = E_ d mX5_blame 40 [.val (.ref a), s1, s2] (.ref a :: st) h := e_go dX5_blame_39 rfl rfl
theorem wX5_blame_40 (ht : oT h a = 7) : E_ d mX5_blame 40 ls (.ref a :: st) h = E_ d mX5_blame 43 ls (va_rf (oR h a 28) :: st) h := e_getR0 dX5_blame_40 rfl rfl ht
theorem wX5_blame_43 : E_ d mX5_blame 43 [s0, .val (.int x), s2] st h = E_ d mX5_blame 44 [s0, .val (.int x), s2] (.int x :: st) h := e_go dX5_blame_43 rfl rfl
theorem wX5_blame_44 (ht : oT h a = 44) (hi : xix x (oN h a) = true) : E_ d mX5_blame 44 ls (.int x :: .ref a :: st) h = E_ d mX5_blame 45 ls (.long (oL h a x.toNatClampNeg) :: st) h := e_lald dX5_blame_44 rfl ht hi
theorem wX5_blame_45 : E_ d mX5_blame 45 ls st h = E_ d mX5_blame 54 ls st h := e_gt dX5_blame_45 rfl
theorem wX5_blame_48 : E_ d mX5_blame 48 [.val (.ref a), s1, s2] st h = E_ d mX5_blame 49 [.val (.ref a), s1, s2] (.ref a :: st) h := e_go dX5_blame_48 rfl rfl
theorem wX5_blame_49 (ht : oT h a = 7) : E_ d mX5_blame 49 ls (.ref a :: st) h = E_ d mX5_blame 52 ls (va_rf (oR h a 29) :: st) h := e_getR0 dX5_blame_49 rfl rfl ht
theorem wX5_blame_52 : E_ d mX5_blame 52 [s0, .val (.int x), s2] st h = E_ d mX5_blame 53 [s0, .val (.int x), s2] (.int x :: st) h := e_go dX5_blame_52 rfl rfl
theorem wX5_blame_53 (ht : oT h a = 44) (hi : xix x (oN h a) = true) : E_ d mX5_blame 53 ls (.int x :: .ref a :: st) h = E_ d mX5_blame 54 ls (.long (oL h a x.toNatClampNeg) :: st) h := e_lald dX5_blame_53 rfl ht hi
theorem wX5_blame_54 : E_ d mX5_blame 54 ls [.long u] h = some (some (.long u), h) := e_rt dX5_blame_54 rfl rfl
/-! FootOutModel.mean -/
theorem wX5_mean_0 : E_ d mX5_mean 0 [.val (.ref a), s1, s2, s3] st h = E_ d mX5_mean 1 [.val (.ref a), s1, s2, s3] (.ref a :: st) h := e_go dX5_mean_0 rfl rfl
theorem wX5_mean_1 : E_ d mX5_mean 1 ls st h = E_ d mX5_mean 2 ls (.int (nI 0) :: st) h := e_iconst dX5_mean_1 kiconst_0 rfl
theorem wX5_mean_2 (ht : oT h a = 7) : E_ d mX5_mean 2 ls (.int x :: .ref a :: st) h = E_ d mX5_mean 5 ls st (pI h a (va_up (oI h a) 0 x)) := e_putI dX5_mean_2 rfl rfl ht
theorem wX5_mean_5 : E_ d mX5_mean 5 [s0, .val (.int x), s2, s3] st h = E_ d mX5_mean 6 [s0, .val (.int x), s2, s3] (.int x :: st) h := e_go dX5_mean_5 rfl rfl
theorem wX5_mean_6 : E_ d mX5_mean 6 ls (.int x :: st) h = E_ d mX5_mean 7 ls (.long x.toInt64 :: st) h := e_go dX5_mean_6 rfl rfl
theorem wX5_mean_7 : E_ d mX5_mean 7 ls st h = E_ d mX5_mean 8 ls (.long 0 :: st) h := e_go dX5_mean_7 rfl rfl
theorem wX5_mean_8 : E_ d mX5_mean 8 ls st h = E_ d mX5_mean 9 ls (.long 1 :: st) h := e_go dX5_mean_8 rfl rfl
theorem wX5_mean_9 : E_ (d + 1) mX5_mean 9 ls [.long u3, .long u2, .long u1] h = (C_ d mX5_within [.long u1, .long u2, .long u3] h).bind fun r => E_ (d + 1) mX5_mean 12 ls (xpu r.1 []) r.2 := e_call dX5_mean_9 rfl rfl
theorem wX5_mean_12 : E_ d mX5_mean 12 ls (.int x :: st) h = if x = 0 then E_ d mX5_mean 15 ls st h else E_ d mX5_mean 23 ls st h := e_zne dX5_mean_12 rfl rfl
theorem wX5_mean_15 : E_ d mX5_mean 15 [.val (.ref a), s1, s2, s3] st h = E_ d mX5_mean 16 [.val (.ref a), s1, s2, s3] (.ref a :: st) h := e_go dX5_mean_15 rfl rfl
theorem wX5_mean_16 : E_ d mX5_mean 16 ls st h = E_ d mX5_mean 18 ls (.int ((-2)) :: st) h := e_bipush dX5_mean_16 kbipush_m2 rfl
theorem wX5_mean_18 (ht : oT h a = 7) : E_ (d + 1) mX5_mean 18 ls [.int x1, .ref a] h = (C_ d mX5_no [.ref a, .int x1] h).bind fun r => E_ (d + 1) mX5_mean 21 ls (xpu r.1 []) r.2 := e_vir dX5_mean_18 rfl rfl rfl rfl rfl rfl (Nat.le_of_ble_eq_true rfl) (Nat.le_of_ble_eq_true rfl) ht
theorem wX5_mean_21 : E_ d mX5_mean 21 ls (.int x :: st) h = E_ d mX5_mean 22 ls (.long x.toInt64 :: st) h := e_go dX5_mean_21 rfl rfl
theorem wX5_mean_22 : E_ d mX5_mean 22 ls [.long u] h = some (some (.long u), h) := e_rt dX5_mean_22 rfl rfl
theorem wX5_mean_23 : E_ d mX5_mean 23 [.val (.ref a), s1, s2, s3] st h = E_ d mX5_mean 24 [.val (.ref a), s1, s2, s3] (.ref a :: st) h := e_go dX5_mean_23 rfl rfl
theorem wX5_mean_24 (ht : oT h a = 7) : E_ (d + 1) mX5_mean 24 ls [.ref a] h = (C_ d mX5_worksOdds [.ref a] h).bind fun r => E_ (d + 1) mX5_mean 27 ls (xpu r.1 []) r.2 := e_vir dX5_mean_24 rfl rfl rfl rfl rfl rfl (Nat.le_of_ble_eq_true rfl) (Nat.le_of_ble_eq_true rfl) ht
theorem wX5_mean_27 : E_ d mX5_mean 27 [.val (.ref a), s1, s2, s3] st h = E_ d mX5_mean 28 [.val (.ref a), s1, s2, s3] (.ref a :: st) h := e_go dX5_mean_27 rfl rfl
theorem wX5_mean_28 (ht : oT h a = 7) : E_ d mX5_mean 28 ls (.ref a :: st) h = E_ d mX5_mean 31 ls (va_rf (oR h a 27) :: st) h := e_getR0 dX5_mean_28 rfl rfl ht
theorem wX5_mean_31 : E_ d mX5_mean 31 ls st h = E_ d mX5_mean 32 ls (.int (nI 3) :: st) h := e_iconst dX5_mean_31 kiconst_3 rfl
theorem wX5_mean_32 (ht : oT h a = 44) (hi : xix x (oN h a) = true) : E_ d mX5_mean 32 ls (.int x :: .ref a :: st) h = E_ d mX5_mean 33 ls (.long (oL h a x.toNatClampNeg) :: st) h := e_lald dX5_mean_32 rfl ht hi
theorem wX5_mean_33 : E_ d mX5_mean 33 [.val (.ref a), s1, s2, s3] st h = E_ d mX5_mean 34 [.val (.ref a), s1, s2, s3] (.ref a :: st) h := e_go dX5_mean_33 rfl rfl
theorem wX5_mean_34 (ht : oT h a = 7) : E_ (d + 1) mX5_mean 34 ls [.ref a, .long u1] h = (C_ d mX5_allParts [.ref a] h).bind fun r => E_ (d + 1) mX5_mean 37 ls (xpu r.1 [.long u1]) r.2 := e_vir dX5_mean_34 rfl rfl rfl rfl rfl rfl (Nat.le_of_ble_eq_true rfl) (Nat.le_of_ble_eq_true rfl) ht
theorem wX5_mean_37 : E_ (d + 1) mX5_mean 37 ls [.long u2, .long u1] h = (C_ d mX5_common [.long u1, .long u2] h).bind fun r => E_ (d + 1) mX5_mean 40 ls (xpu r.1 []) r.2 := e_call dX5_mean_37 rfl rfl
theorem wX5_mean_40 : E_ d mX5_mean 40 [s0, s1, s2, s3] (.long u :: st) h = E_ d mX5_mean 41 [s0, xk s1, .val (.long u), .unset] st h := e_go dX5_mean_40 rfl rfl
theorem wX5_mean_41 : E_ d mX5_mean 41 [s0, .val (.int x), s2, s3] st h = E_ d mX5_mean 42 [s0, .val (.int x), s2, s3] (.int x :: st) h := e_go dX5_mean_41 rfl rfl
theorem wX5_mean_42 : E_ d mX5_mean 42 ls (.int x :: st) h = if x = 0 then E_ d mX5_mean 45 ls st h else E_ d mX5_mean 54 ls st h := e_zne dX5_mean_42 rfl rfl
theorem wX5_mean_45 : E_ d mX5_mean 45 [.val (.ref a), s1, s2, s3] st h = E_ d mX5_mean 46 [.val (.ref a), s1, s2, s3] (.ref a :: st) h := e_go dX5_mean_45 rfl rfl
theorem wX5_mean_46 (ht : oT h a = 7) : E_ d mX5_mean 46 ls (.ref a :: st) h = E_ d mX5_mean 49 ls (va_rf (oR h a 27) :: st) h := e_getR0 dX5_mean_46 rfl rfl ht
theorem wX5_mean_49 : E_ d mX5_mean 49 ls st h = E_ d mX5_mean 50 ls (.int (nI 3) :: st) h := e_iconst dX5_mean_49 kiconst_3 rfl
theorem wX5_mean_50 (ht : oT h a = 44) (hi : xix x (oN h a) = true) : E_ d mX5_mean 50 ls (.int x :: .ref a :: st) h = E_ d mX5_mean 51 ls (.long (oL h a x.toNatClampNeg) :: st) h := e_lald dX5_mean_50 rfl ht hi
theorem wX5_mean_51 : E_ d mX5_mean 51 ls st h = E_ d mX5_mean 58 ls st h := e_gt dX5_mean_51 rfl
theorem wX5_mean_54 : E_ d mX5_mean 54 [.val (.ref a), s1, s2, s3] st h = E_ d mX5_mean 55 [.val (.ref a), s1, s2, s3] (.ref a :: st) h := e_go dX5_mean_54 rfl rfl
theorem wX5_mean_55 (ht : oT h a = 7) : E_ (d + 1) mX5_mean 55 ls [.ref a] h = (C_ d mX5_allParts [.ref a] h).bind fun r => E_ (d + 1) mX5_mean 58 ls (xpu r.1 []) r.2 := e_vir dX5_mean_55 rfl rfl rfl rfl rfl rfl (Nat.le_of_ble_eq_true rfl) (Nat.le_of_ble_eq_true rfl) ht
theorem wX5_mean_58 : E_ d mX5_mean 58 [s0, s1, .val (.long u), s3] st h = E_ d mX5_mean 59 [s0, s1, .val (.long u), s3] (.long u :: st) h := e_go dX5_mean_58 rfl rfl
theorem wX5_mean_59 (hy : ¬ v = 0) : E_ d mX5_mean 59 ls (.long v :: .long u :: st) h = E_ d mX5_mean 60 ls (.long (u / v) :: st) h := e_ldiv dX5_mean_59 rfl hy
theorem wX5_mean_60 : E_ d mX5_mean 60 ls [.long u] h = some (some (.long u), h) := e_rt dX5_mean_60 rfl rfl
/-! FootOutModel.common -/
theorem wX5_common_0 : E_ d mX5_common 0 [.val (.long u), s1, s2, s3, s4, s5, s6, s7, s8, s9] st h = E_ d mX5_common 1 [.val (.long u), s1, s2, s3, s4, s5, s6, s7, s8, s9] (.long u :: st) h := e_go dX5_common_0 rfl rfl
theorem wX5_common_1 : E_ d mX5_common 1 [s0, s1, s2, s3, s4, s5, s6, s7, s8, s9] (.long u :: st) h = E_ d mX5_common 3 [s0, s1, s2, xk s3, .val (.long u), .unset, s6, s7, s8, s9] st h := e_go dX5_common_1 rfl rfl
theorem wX5_common_3 : E_ d mX5_common 3 [s0, s1, .val (.long u), s3, s4, s5, s6, s7, s8, s9] st h = E_ d mX5_common 4 [s0, s1, .val (.long u), s3, s4, s5, s6, s7, s8, s9] (.long u :: st) h := e_go dX5_common_3 rfl rfl
theorem wX5_common_4 : E_ d mX5_common 4 [s0, s1, s2, s3, s4, s5, s6, s7, s8, s9] (.long u :: st) h = E_ d mX5_common 6 [s0, s1, s2, s3, s4, xk s5, .val (.long u), .unset, s8, s9] st h := e_go dX5_common_4 rfl rfl
theorem wX5_common_6 : E_ d mX5_common 6 [s0, s1, s2, s3, s4, s5, .val (.long u), s7, s8, s9] st h = E_ d mX5_common 8 [s0, s1, s2, s3, s4, s5, .val (.long u), s7, s8, s9] (.long u :: st) h := e_go dX5_common_6 rfl rfl
theorem wX5_common_8 : E_ d mX5_common 8 ls st h = E_ d mX5_common 9 ls (.long 0 :: st) h := e_go dX5_common_8 rfl rfl
theorem wX5_common_9 : E_ d mX5_common 9 ls (.long v :: .long u :: st) h = E_ d mX5_common 10 ls (.int (lg_cmp u v) :: st) h := e_go dX5_common_9 rfl rfl
theorem wX5_common_10 : E_ d mX5_common 10 ls (.int x :: st) h = if x = 0 then E_ d mX5_common 31 ls st h else E_ d mX5_common 13 ls st h := e_zeq dX5_common_10 rfl rfl
theorem wX5_common_13 : E_ d mX5_common 13 [s0, s1, s2, s3, .val (.long u), s5, s6, s7, s8, s9] st h = E_ d mX5_common 15 [s0, s1, s2, s3, .val (.long u), s5, s6, s7, s8, s9] (.long u :: st) h := e_go dX5_common_13 rfl rfl
theorem wX5_common_15 : E_ d mX5_common 15 [s0, s1, s2, s3, s4, s5, .val (.long u), s7, s8, s9] st h = E_ d mX5_common 17 [s0, s1, s2, s3, s4, s5, .val (.long u), s7, s8, s9] (.long u :: st) h := e_go dX5_common_15 rfl rfl
theorem wX5_common_17 (hy : ¬ v = 0) : E_ d mX5_common 17 ls (.long v :: .long u :: st) h = E_ d mX5_common 18 ls (.long (u - u / v * v) :: st) h := e_lrem dX5_common_17 rfl hy
theorem wX5_common_18 : E_ d mX5_common 18 [s0, s1, s2, s3, s4, s5, s6, s7, s8, s9] (.long u :: st) h = E_ d mX5_common 20 [s0, s1, s2, s3, s4, s5, s6, xk s7, .val (.long u), .unset] st h := e_go dX5_common_18 rfl rfl
theorem wX5_common_20 : E_ d mX5_common 20 [s0, s1, s2, s3, s4, s5, .val (.long u), s7, s8, s9] st h = E_ d mX5_common 22 [s0, s1, s2, s3, s4, s5, .val (.long u), s7, s8, s9] (.long u :: st) h := e_go dX5_common_20 rfl rfl
theorem wX5_common_22 : E_ d mX5_common 22 [s0, s1, s2, s3, s4, s5, s6, s7, s8, s9] (.long u :: st) h = E_ d mX5_common 24 [s0, s1, s2, xk s3, .val (.long u), .unset, s6, s7, s8, s9] st h := e_go dX5_common_22 rfl rfl
theorem wX5_common_24 : E_ d mX5_common 24 [s0, s1, s2, s3, s4, s5, s6, s7, .val (.long u), s9] st h = E_ d mX5_common 26 [s0, s1, s2, s3, s4, s5, s6, s7, .val (.long u), s9] (.long u :: st) h := e_go dX5_common_24 rfl rfl
theorem wX5_common_26 : E_ d mX5_common 26 [s0, s1, s2, s3, s4, s5, s6, s7, s8, s9] (.long u :: st) h = E_ d mX5_common 28 [s0, s1, s2, s3, s4, xk s5, .val (.long u), .unset, s8, s9] st h := e_go dX5_common_26 rfl rfl
theorem wX5_common_28 : E_ d mX5_common 28 ls st h = E_ d mX5_common 6 ls st h := e_gt dX5_common_28 rfl
theorem wX5_common_31 : E_ d mX5_common 31 [s0, s1, s2, s3, .val (.long u), s5, s6, s7, s8, s9] st h = E_ d mX5_common 33 [s0, s1, s2, s3, .val (.long u), s5, s6, s7, s8, s9] (.long u :: st) h := e_go dX5_common_31 rfl rfl
theorem wX5_common_33 : E_ d mX5_common 33 ls [.long u] h = some (some (.long u), h) := e_rt dX5_common_33 rfl rfl
/-! FootOutModel.repeals -/
theorem wX5_repeals_0 : E_ d mX5_repeals 0 [.val (.ref a), s1, s2, s3] st h = E_ d mX5_repeals 1 [.val (.ref a), s1, s2, s3] (.ref a :: st) h := e_go dX5_repeals_0 rfl rfl
theorem wX5_repeals_1 : E_ d mX5_repeals 1 ls st h = E_ d mX5_repeals 2 ls (.int (nI 0) :: st) h := e_iconst dX5_repeals_1 kiconst_0 rfl
theorem wX5_repeals_2 (ht : oT h a = 7) : E_ d mX5_repeals 2 ls (.int x :: .ref a :: st) h = E_ d mX5_repeals 5 ls st (pI h a (va_up (oI h a) 0 x)) := e_putI dX5_repeals_2 rfl rfl ht
theorem wX5_repeals_5 : E_ d mX5_repeals 5 [s0, .val (.int x), s2, s3] st h = E_ d mX5_repeals 6 [s0, .val (.int x), s2, s3] (.int x :: st) h := e_go dX5_repeals_5 rfl rfl
theorem wX5_repeals_6 : E_ d mX5_repeals 6 ls (.int x :: st) h = E_ d mX5_repeals 7 ls (.long x.toInt64 :: st) h := e_go dX5_repeals_6 rfl rfl
theorem wX5_repeals_7 : E_ d mX5_repeals 7 ls st h = E_ d mX5_repeals 8 ls (.long 0 :: st) h := e_go dX5_repeals_7 rfl rfl
theorem wX5_repeals_8 : E_ d mX5_repeals 8 [.val (.ref a), s1, s2, s3] st h = E_ d mX5_repeals 9 [.val (.ref a), s1, s2, s3] (.ref a :: st) h := e_go dX5_repeals_8 rfl rfl
theorem wX5_repeals_9 (ht : oT h a = 7) : E_ d mX5_repeals 9 ls (.ref a :: st) h = E_ d mX5_repeals 12 ls (va_rf (oR h a 2) :: st) h := e_getR0 dX5_repeals_9 rfl rfl ht
theorem wX5_repeals_12 : E_ d mX5_repeals 12 ls st h = E_ d mX5_repeals 14 ls (.int (nI 40) :: st) h := e_bipush dX5_repeals_12 kbipush_40 rfl
theorem wX5_repeals_14 (ht : oT h a = 40) (hi : xix x (oN h a) = true) : E_ d mX5_repeals 14 ls (.int x :: .ref a :: st) h = E_ d mX5_repeals 15 ls (.int (oI h a x.toNatClampNeg) :: st) h := e_iald dX5_repeals_14 rfl ht hi
theorem wX5_repeals_15 : E_ d mX5_repeals 15 ls st h = E_ d mX5_repeals 16 ls (.int (nI 1) :: st) h := e_iconst dX5_repeals_15 kiconst_1 rfl
theorem wX5_repeals_16 : E_ d mX5_repeals 16 ls (.int y :: .int x :: st) h = E_ d mX5_repeals 17 ls (.int (x - y) :: st) h := e_go dX5_repeals_16 rfl rfl
theorem wX5_repeals_17 : E_ d mX5_repeals 17 ls (.int x :: st) h = E_ d mX5_repeals 18 ls (.long x.toInt64 :: st) h := e_go dX5_repeals_17 rfl rfl
theorem wX5_repeals_18 : E_ (d + 1) mX5_repeals 18 ls [.long u3, .long u2, .long u1] h = (C_ d mX5_within [.long u1, .long u2, .long u3] h).bind fun r => E_ (d + 1) mX5_repeals 21 ls (xpu r.1 []) r.2 := e_call dX5_repeals_18 rfl rfl
theorem wX5_repeals_21 : E_ d mX5_repeals 21 ls (.int x :: st) h = if x = 0 then E_ d mX5_repeals 24 ls st h else E_ d mX5_repeals 32 ls st h := e_zne dX5_repeals_21 rfl rfl
theorem wX5_repeals_24 : E_ d mX5_repeals 24 [.val (.ref a), s1, s2, s3] st h = E_ d mX5_repeals 25 [.val (.ref a), s1, s2, s3] (.ref a :: st) h := e_go dX5_repeals_24 rfl rfl
theorem wX5_repeals_25 : E_ d mX5_repeals 25 ls st h = E_ d mX5_repeals 27 ls (.int ((-2)) :: st) h := e_bipush dX5_repeals_25 kbipush_m2 rfl
theorem wX5_repeals_27 (ht : oT h a = 7) : E_ (d + 1) mX5_repeals 27 ls [.int x1, .ref a] h = (C_ d mX5_no [.ref a, .int x1] h).bind fun r => E_ (d + 1) mX5_repeals 30 ls (xpu r.1 []) r.2 := e_vir dX5_repeals_27 rfl rfl rfl rfl rfl rfl (Nat.le_of_ble_eq_true rfl) (Nat.le_of_ble_eq_true rfl) ht
theorem wX5_repeals_30 : E_ d mX5_repeals 30 ls (.int x :: st) h = E_ d mX5_repeals 31 ls (.long x.toInt64 :: st) h := e_go dX5_repeals_30 rfl rfl
theorem wX5_repeals_31 : E_ d mX5_repeals 31 ls [.long u] h = some (some (.long u), h) := e_rt dX5_repeals_31 rfl rfl
theorem wX5_repeals_32 : E_ d mX5_repeals 32 [.val (.ref a), s1, s2, s3] st h = E_ d mX5_repeals 33 [.val (.ref a), s1, s2, s3] (.ref a :: st) h := e_go dX5_repeals_32 rfl rfl
theorem wX5_repeals_33 : E_ d mX5_repeals 33 [s0, .val (.int x), s2, s3] st h = E_ d mX5_repeals 34 [s0, .val (.int x), s2, s3] (.int x :: st) h := e_go dX5_repeals_33 rfl rfl
theorem wX5_repeals_34 (ht : oT h a = 7) : E_ d mX5_repeals 34 ls (.int x :: .ref a :: st) h = E_ d mX5_repeals 37 ls st (pI h a (va_up (oI h a) 21 x)) := e_putI dX5_repeals_34 rfl rfl ht
theorem wX5_repeals_37 : E_ d mX5_repeals 37 [.val (.ref a), s1, s2, s3] st h = E_ d mX5_repeals 38 [.val (.ref a), s1, s2, s3] (.ref a :: st) h := e_go dX5_repeals_37 rfl rfl
theorem wX5_repeals_38 : E_ d mX5_repeals 38 ls st h = E_ d mX5_repeals 39 ls (.int (nI 0) :: st) h := e_iconst dX5_repeals_38 kiconst_0 rfl
theorem wX5_repeals_39 (ht : oT h a = 7) : E_ (d + 1) mX5_repeals 39 ls [.int x1, .ref a] h = (C_ d mX5_overIf [.ref a, .int x1] h).bind fun r => E_ (d + 1) mX5_repeals 42 ls (xpu r.1 []) r.2 := e_vir dX5_repeals_39 rfl rfl rfl rfl rfl rfl (Nat.le_of_ble_eq_true rfl) (Nat.le_of_ble_eq_true rfl) ht
theorem wX5_repeals_42 : E_ d mX5_repeals 42 [s0, s1, s2, s3] (.long u :: st) h = E_ d mX5_repeals 43 [s0, xk s1, .val (.long u), .unset] st h := e_go dX5_repeals_42 rfl rfl
theorem wX5_repeals_43 : E_ d mX5_repeals 43 [.val (.ref a), s1, s2, s3] st h = E_ d mX5_repeals 44 [.val (.ref a), s1, s2, s3] (.ref a :: st) h := e_go dX5_repeals_43 rfl rfl
theorem wX5_repeals_44 : E_ d mX5_repeals 44 ls st h = E_ d mX5_repeals 45 ls (.int ((-1)) :: st) h := e_iconst dX5_repeals_44 kiconst_m1 rfl
theorem wX5_repeals_45 (ht : oT h a = 7) : E_ d mX5_repeals 45 ls (.int x :: .ref a :: st) h = E_ d mX5_repeals 48 ls st (pI h a (va_up (oI h a) 21 x)) := e_putI dX5_repeals_45 rfl rfl ht
theorem wX5_repeals_48 : E_ d mX5_repeals 48 [s0, s1, .val (.long u), s3] st h = E_ d mX5_repeals 49 [s0, s1, .val (.long u), s3] (.long u :: st) h := e_go dX5_repeals_48 rfl rfl
theorem wX5_repeals_49 : E_ d mX5_repeals 49 [.val (.ref a), s1, s2, s3] st h = E_ d mX5_repeals 50 [.val (.ref a), s1, s2, s3] (.ref a :: st) h := e_go dX5_repeals_49 rfl rfl
theorem wX5_repeals_50 : E_ d mX5_repeals 50 ls st h = E_ d mX5_repeals 51 ls (.int (nI 0) :: st) h := e_iconst dX5_repeals_50 kiconst_0 rfl
theorem wX5_repeals_51 (ht : oT h a = 7) : E_ (d + 1) mX5_repeals 51 ls [.int x1, .ref a, .long u1] h = (C_ d mX5_overIf [.ref a, .int x1] h).bind fun r => E_ (d + 1) mX5_repeals 54 ls (xpu r.1 [.long u1]) r.2 := e_vir dX5_repeals_51 rfl rfl rfl rfl rfl rfl (Nat.le_of_ble_eq_true rfl) (Nat.le_of_ble_eq_true rfl) ht
theorem wX5_repeals_54 : E_ d mX5_repeals 54 ls (.long v :: .long u :: st) h = E_ d mX5_repeals 55 ls (.long (u - v) :: st) h := e_go dX5_repeals_54 rfl rfl
theorem wX5_repeals_55 : E_ d mX5_repeals 55 ls [.long u] h = some (some (.long u), h) := e_rt dX5_repeals_55 rfl rfl
/-! FootOutModel.absent -/
theorem wX5_absent_0 : E_ d mX5_absent 0 [.val (.ref a), s1, s2, s3] st h = E_ d mX5_absent 1 [.val (.ref a), s1, s2, s3] (.ref a :: st) h := e_go dX5_absent_0 rfl rfl
theorem wX5_absent_1 : E_ d mX5_absent 1 ls st h = E_ d mX5_absent 2 ls (.int (nI 0) :: st) h := e_iconst dX5_absent_1 kiconst_0 rfl
theorem wX5_absent_2 (ht : oT h a = 7) : E_ d mX5_absent 2 ls (.int x :: .ref a :: st) h = E_ d mX5_absent 5 ls st (pI h a (va_up (oI h a) 0 x)) := e_putI dX5_absent_2 rfl rfl ht
theorem wX5_absent_5 : E_ d mX5_absent 5 [.val (.ref a), s1, s2, s3] st h = E_ d mX5_absent 6 [.val (.ref a), s1, s2, s3] (.ref a :: st) h := e_go dX5_absent_5 rfl rfl
theorem wX5_absent_6 : E_ d mX5_absent 6 [s0, .val (.int x), s2, s3] st h = E_ d mX5_absent 7 [s0, .val (.int x), s2, s3] (.int x :: st) h := e_go dX5_absent_6 rfl rfl
theorem wX5_absent_7 (ht : oT h a = 7) : E_ (d + 1) mX5_absent 7 ls [.int x1, .ref a] h = (C_ d mX5_isCar [.ref a, .int x1] h).bind fun r => E_ (d + 1) mX5_absent 10 ls (xpu r.1 []) r.2 := e_vir dX5_absent_7 rfl rfl rfl rfl rfl rfl (Nat.le_of_ble_eq_true rfl) (Nat.le_of_ble_eq_true rfl) ht
theorem wX5_absent_10 : E_ d mX5_absent 10 ls (.int x :: st) h = if x = 0 then E_ d mX5_absent 13 ls st h else E_ d mX5_absent 21 ls st h := e_zne dX5_absent_10 rfl rfl
theorem wX5_absent_13 : E_ d mX5_absent 13 [.val (.ref a), s1, s2, s3] st h = E_ d mX5_absent 14 [.val (.ref a), s1, s2, s3] (.ref a :: st) h := e_go dX5_absent_13 rfl rfl
theorem wX5_absent_14 : E_ d mX5_absent 14 ls st h = E_ d mX5_absent 16 ls (.int ((-2)) :: st) h := e_bipush dX5_absent_14 kbipush_m2 rfl
theorem wX5_absent_16 (ht : oT h a = 7) : E_ (d + 1) mX5_absent 16 ls [.int x1, .ref a] h = (C_ d mX5_no [.ref a, .int x1] h).bind fun r => E_ (d + 1) mX5_absent 19 ls (xpu r.1 []) r.2 := e_vir dX5_absent_16 rfl rfl rfl rfl rfl rfl (Nat.le_of_ble_eq_true rfl) (Nat.le_of_ble_eq_true rfl) ht
theorem wX5_absent_19 : E_ d mX5_absent 19 ls (.int x :: st) h = E_ d mX5_absent 20 ls (.long x.toInt64 :: st) h := e_go dX5_absent_19 rfl rfl
theorem wX5_absent_20 : E_ d mX5_absent 20 ls [.long u] h = some (some (.long u), h) := e_rt dX5_absent_20 rfl rfl
theorem wX5_absent_21 : E_ d mX5_absent 21 [.val (.ref a), s1, s2, s3] st h = E_ d mX5_absent 22 [.val (.ref a), s1, s2, s3] (.ref a :: st) h := e_go dX5_absent_21 rfl rfl
theorem wX5_absent_22 : E_ d mX5_absent 22 [s0, .val (.int x), s2, s3] st h = E_ d mX5_absent 23 [s0, .val (.int x), s2, s3] (.int x :: st) h := e_go dX5_absent_22 rfl rfl
theorem wX5_absent_23 (ht : oT h a = 7) : E_ d mX5_absent 23 ls (.int x :: .ref a :: st) h = E_ d mX5_absent 26 ls st (pI h a (va_up (oI h a) 22 x)) := e_putI dX5_absent_23 rfl rfl ht
theorem wX5_absent_26 : E_ d mX5_absent 26 [.val (.ref a), s1, s2, s3] st h = E_ d mX5_absent 27 [.val (.ref a), s1, s2, s3] (.ref a :: st) h := e_go dX5_absent_26 rfl rfl
theorem wX5_absent_27 (ht : oT h a = 7) : E_ (d + 1) mX5_absent 27 ls [.ref a] h = (C_ d mX5_worksOdds [.ref a] h).bind fun r => E_ (d + 1) mX5_absent 30 ls (xpu r.1 []) r.2 := e_vir dX5_absent_27 rfl rfl rfl rfl rfl rfl (Nat.le_of_ble_eq_true rfl) (Nat.le_of_ble_eq_true rfl) ht
theorem wX5_absent_30 : E_ d mX5_absent 30 [.val (.ref a), s1, s2, s3] st h = E_ d mX5_absent 31 [.val (.ref a), s1, s2, s3] (.ref a :: st) h := e_go dX5_absent_30 rfl rfl
theorem wX5_absent_31 (ht : oT h a = 7) : E_ d mX5_absent 31 ls (.ref a :: st) h = E_ d mX5_absent 34 ls (va_rf (oR h a 27) :: st) h := e_getR0 dX5_absent_31 rfl rfl ht
theorem wX5_absent_34 : E_ d mX5_absent 34 ls st h = E_ d mX5_absent 35 ls (.int (nI 1) :: st) h := e_iconst dX5_absent_34 kiconst_1 rfl
theorem wX5_absent_35 (ht : oT h a = 44) (hi : xix x (oN h a) = true) : E_ d mX5_absent 35 ls (.int x :: .ref a :: st) h = E_ d mX5_absent 36 ls (.long (oL h a x.toNatClampNeg) :: st) h := e_lald dX5_absent_35 rfl ht hi
theorem wX5_absent_36 : E_ d mX5_absent 36 [s0, s1, s2, s3] (.long u :: st) h = E_ d mX5_absent 37 [s0, xk s1, .val (.long u), .unset] st h := e_go dX5_absent_36 rfl rfl
theorem wX5_absent_37 : E_ d mX5_absent 37 [.val (.ref a), s1, s2, s3] st h = E_ d mX5_absent 38 [.val (.ref a), s1, s2, s3] (.ref a :: st) h := e_go dX5_absent_37 rfl rfl
theorem wX5_absent_38 : E_ d mX5_absent 38 ls st h = E_ d mX5_absent 39 ls (.int ((-1)) :: st) h := e_iconst dX5_absent_38 kiconst_m1 rfl
theorem wX5_absent_39 (ht : oT h a = 7) : E_ d mX5_absent 39 ls (.int x :: .ref a :: st) h = E_ d mX5_absent 42 ls st (pI h a (va_up (oI h a) 22 x)) := e_putI dX5_absent_39 rfl rfl ht
theorem wX5_absent_42 : E_ d mX5_absent 42 [.val (.ref a), s1, s2, s3] st h = E_ d mX5_absent 43 [.val (.ref a), s1, s2, s3] (.ref a :: st) h := e_go dX5_absent_42 rfl rfl
theorem wX5_absent_43 (ht : oT h a = 7) : E_ (d + 1) mX5_absent 43 ls [.ref a] h = (C_ d mX5_worksOdds [.ref a] h).bind fun r => E_ (d + 1) mX5_absent 46 ls (xpu r.1 []) r.2 := e_vir dX5_absent_43 rfl rfl rfl rfl rfl rfl (Nat.le_of_ble_eq_true rfl) (Nat.le_of_ble_eq_true rfl) ht
theorem wX5_absent_46 : E_ d mX5_absent 46 [s0, s1, .val (.long u), s3] st h = E_ d mX5_absent 47 [s0, s1, .val (.long u), s3] (.long u :: st) h := e_go dX5_absent_46 rfl rfl
theorem wX5_absent_47 : E_ d mX5_absent 47 [.val (.ref a), s1, s2, s3] st h = E_ d mX5_absent 48 [.val (.ref a), s1, s2, s3] (.ref a :: st) h := e_go dX5_absent_47 rfl rfl
theorem wX5_absent_48 (ht : oT h a = 7) : E_ d mX5_absent 48 ls (.ref a :: st) h = E_ d mX5_absent 51 ls (va_rf (oR h a 27) :: st) h := e_getR0 dX5_absent_48 rfl rfl ht
theorem wX5_absent_51 : E_ d mX5_absent 51 ls st h = E_ d mX5_absent 52 ls (.int (nI 1) :: st) h := e_iconst dX5_absent_51 kiconst_1 rfl
theorem wX5_absent_52 (ht : oT h a = 44) (hi : xix x (oN h a) = true) : E_ d mX5_absent 52 ls (.int x :: .ref a :: st) h = E_ d mX5_absent 53 ls (.long (oL h a x.toNatClampNeg) :: st) h := e_lald dX5_absent_52 rfl ht hi
theorem wX5_absent_53 : E_ d mX5_absent 53 ls (.long v :: .long u :: st) h = E_ d mX5_absent 54 ls (.long (u - v) :: st) h := e_go dX5_absent_53 rfl rfl
theorem wX5_absent_54 : E_ d mX5_absent 54 ls [.long u] h = some (some (.long u), h) := e_rt dX5_absent_54 rfl rfl
/-! FootOutModel.margin -/
theorem wX5_margin_0 : E_ d mX5_margin 0 [.val (.ref a), s1, s2, s3] st h = E_ d mX5_margin 1 [.val (.ref a), s1, s2, s3] (.ref a :: st) h := e_go dX5_margin_0 rfl rfl
theorem wX5_margin_1 : E_ d mX5_margin 1 ls st h = E_ d mX5_margin 2 ls (.int (nI 0) :: st) h := e_iconst dX5_margin_1 kiconst_0 rfl
theorem wX5_margin_2 (ht : oT h a = 7) : E_ d mX5_margin 2 ls (.int x :: .ref a :: st) h = E_ d mX5_margin 5 ls st (pI h a (va_up (oI h a) 0 x)) := e_putI dX5_margin_2 rfl rfl ht
theorem wX5_margin_5 : E_ d mX5_margin 5 [.val (.ref a), s1, s2, s3] st h = E_ d mX5_margin 6 [.val (.ref a), s1, s2, s3] (.ref a :: st) h := e_go dX5_margin_5 rfl rfl
theorem wX5_margin_6 : E_ d mX5_margin 6 [s0, .val (.int x), s2, s3] st h = E_ d mX5_margin 7 [s0, .val (.int x), s2, s3] (.int x :: st) h := e_go dX5_margin_6 rfl rfl
theorem wX5_margin_7 (ht : oT h a = 7) : E_ (d + 1) mX5_margin 7 ls [.int x1, .ref a] h = (C_ d mX5_begins [.ref a, .int x1] h).bind fun r => E_ (d + 1) mX5_margin 10 ls (xpu r.1 []) r.2 := e_vir dX5_margin_7 rfl rfl rfl rfl rfl rfl (Nat.le_of_ble_eq_true rfl) (Nat.le_of_ble_eq_true rfl) ht
theorem wX5_margin_10 : E_ d mX5_margin 10 ls st h = E_ d mX5_margin 11 ls (.int ((-1)) :: st) h := e_iconst dX5_margin_10 kiconst_m1 rfl
theorem wX5_margin_11 : E_ d mX5_margin 11 [s0, s1, s2, s3] (.int x :: st) h = E_ d mX5_margin 12 [s0, xk s1, .val (.int x), s3] st h := e_go dX5_margin_11 rfl rfl
theorem wX5_margin_12 : E_ d mX5_margin 12 [.val (.ref a), s1, s2, s3] st h = E_ d mX5_margin 13 [.val (.ref a), s1, s2, s3] (.ref a :: st) h := e_go dX5_margin_12 rfl rfl
theorem wX5_margin_13 (ht : oT h a = 7) : E_ d mX5_margin 13 ls (.ref a :: st) h = E_ d mX5_margin 16 ls (va_rf (oR h a 18) :: st) h := e_getR0 dX5_margin_13 rfl rfl ht
theorem wX5_margin_16 : E_ d mX5_margin 16 ls st h = E_ d mX5_margin 18 ls (.int (nI 37) :: st) h := e_bipush dX5_margin_16 kbipush_37 rfl
theorem wX5_margin_18 (ht : oT h a = 40) (hi : xix x (oN h a) = true) : E_ d mX5_margin 18 ls (.int x :: .ref a :: st) h = E_ d mX5_margin 19 ls (.int (oI h a x.toNatClampNeg) :: st) h := e_iald dX5_margin_18 rfl ht hi
theorem wX5_margin_19 : E_ d mX5_margin 19 ls (.int x :: st) h = if x = 0 then E_ d mX5_margin 22 ls st h else E_ d mX5_margin 119 ls st h := e_zne dX5_margin_19 rfl rfl
theorem wX5_margin_22 : E_ d mX5_margin 22 [.val (.ref a), s1, s2, s3] st h = E_ d mX5_margin 23 [.val (.ref a), s1, s2, s3] (.ref a :: st) h := e_go dX5_margin_22 rfl rfl
theorem wX5_margin_23 : E_ d mX5_margin 23 ls st h = E_ d mX5_margin 24 ls (.int (nI 1) :: st) h := e_iconst dX5_margin_23 kiconst_1 rfl
theorem wX5_margin_24 (ht : oT h a = 7) : E_ (d + 1) mX5_margin 24 ls [.int x1, .ref a] h = (C_ d mX5_decides [.ref a, .int x1] h).bind fun r => E_ (d + 1) mX5_margin 27 ls (xpu r.1 []) r.2 := e_vir dX5_margin_24 rfl rfl rfl rfl rfl rfl (Nat.le_of_ble_eq_true rfl) (Nat.le_of_ble_eq_true rfl) ht
theorem wX5_margin_27 : E_ d mX5_margin 27 ls (.int x :: st) h = E_ d mX5_margin 28 ls st h := e_go dX5_margin_27 rfl rfl
theorem wX5_margin_28 : E_ d mX5_margin 28 [.val (.ref a), s1, s2, s3] st h = E_ d mX5_margin 29 [.val (.ref a), s1, s2, s3] (.ref a :: st) h := e_go dX5_margin_28 rfl rfl
theorem wX5_margin_29 (ht : oT h a = 7) : E_ (d + 1) mX5_margin 29 ls [.ref a] h = (C_ d mX5_ticks [.ref a] h).bind fun r => E_ (d + 1) mX5_margin 32 ls (xpu r.1 []) r.2 := e_vir dX5_margin_29 rfl rfl rfl rfl rfl rfl (Nat.le_of_ble_eq_true rfl) (Nat.le_of_ble_eq_true rfl) ht
theorem wX5_margin_32 : E_ d mX5_margin 32 ls st h = E_ d mX5_margin 33 ls (.int (nI 0) :: st) h := e_iconst dX5_margin_32 kiconst_0 rfl
theorem wX5_margin_33 : E_ d mX5_margin 33 [s0, s1, s2, s3] (.int x :: st) h = E_ d mX5_margin 34 [s0, s1, xk s2, .val (.int x)] st h := e_go dX5_margin_33 rfl rfl
theorem wX5_margin_34 : E_ d mX5_margin 34 [s0, s1, s2, .val (.int x)] st h = E_ d mX5_margin 35 [s0, s1, s2, .val (.int x)] (.int x :: st) h := e_go dX5_margin_34 rfl rfl
theorem wX5_margin_35 : E_ d mX5_margin 35 [.val (.ref a), s1, s2, s3] st h = E_ d mX5_margin 36 [.val (.ref a), s1, s2, s3] (.ref a :: st) h := e_go dX5_margin_35 rfl rfl
theorem wX5_margin_36 (ht : oT h a = 7) : E_ d mX5_margin 36 ls (.ref a :: st) h = E_ d mX5_margin 39 ls (va_rf (oR h a 2) :: st) h := e_getR0 dX5_margin_36 rfl rfl ht
theorem wX5_margin_39 : E_ d mX5_margin 39 ls st h = E_ d mX5_margin 40 ls (.int (nI 1) :: st) h := e_iconst dX5_margin_39 kiconst_1 rfl
theorem wX5_margin_40 (ht : oT h a = 40) (hi : xix x (oN h a) = true) : E_ d mX5_margin 40 ls (.int x :: .ref a :: st) h = E_ d mX5_margin 41 ls (.int (oI h a x.toNatClampNeg) :: st) h := e_iald dX5_margin_40 rfl ht hi
theorem wX5_margin_41 : E_ d mX5_margin 41 ls (.int y :: .int x :: st) h = if x < y then E_ d mX5_margin 44 ls st h else E_ d mX5_margin 116 ls st h := e_ige dX5_margin_41 rfl rfl
theorem wX5_margin_44 : E_ d mX5_margin 44 [.val (.ref a), s1, s2, s3] st h = E_ d mX5_margin 45 [.val (.ref a), s1, s2, s3] (.ref a :: st) h := e_go dX5_margin_44 rfl rfl
theorem wX5_margin_45 (ht : oT h a = 7) : E_ d mX5_margin 45 ls (.ref a :: st) h = E_ d mX5_margin 48 ls (va_rf (oR h a 18) :: st) h := e_getR0 dX5_margin_45 rfl rfl ht
theorem wX5_margin_48 : E_ d mX5_margin 48 ls st h = E_ d mX5_margin 50 ls (.int (nI 33) :: st) h := e_bipush dX5_margin_48 kbipush_33 rfl
theorem wX5_margin_50 (ht : oT h a = 40) (hi : xix x (oN h a) = true) : E_ d mX5_margin 50 ls (.int x :: .ref a :: st) h = E_ d mX5_margin 51 ls (.int (oI h a x.toNatClampNeg) :: st) h := e_iald dX5_margin_50 rfl ht hi
theorem wX5_margin_51 : E_ d mX5_margin 51 ls st h = E_ d mX5_margin 52 ls (.int (nI 1) :: st) h := e_iconst dX5_margin_51 kiconst_1 rfl
theorem wX5_margin_52 : E_ d mX5_margin 52 ls (.int y :: .int x :: st) h = if x = y then E_ d mX5_margin 55 ls st h else E_ d mX5_margin 116 ls st h := e_ine dX5_margin_52 rfl rfl
theorem wX5_margin_55 : E_ d mX5_margin 55 [.val (.ref a), s1, s2, s3] st h = E_ d mX5_margin 56 [.val (.ref a), s1, s2, s3] (.ref a :: st) h := e_go dX5_margin_55 rfl rfl
theorem wX5_margin_56 (ht : oT h a = 7) : E_ d mX5_margin 56 ls (.ref a :: st) h = E_ d mX5_margin 59 ls (va_rf (oR h a 2) :: st) h := e_getR0 dX5_margin_56 rfl rfl ht
theorem wX5_margin_59 : E_ d mX5_margin 59 ls st h = E_ d mX5_margin 60 ls (.int (nI 2) :: st) h := e_iconst dX5_margin_59 kiconst_2 rfl
theorem wX5_margin_60 : E_ d mX5_margin 60 [s0, s1, s2, .val (.int x)] st h = E_ d mX5_margin 61 [s0, s1, s2, .val (.int x)] (.int x :: st) h := e_go dX5_margin_60 rfl rfl
theorem wX5_margin_61 : E_ d mX5_margin 61 ls (.int y :: .int x :: st) h = E_ d mX5_margin 62 ls (.int (x + y) :: st) h := e_go dX5_margin_61 rfl rfl
theorem wX5_margin_62 (ht : oT h a = 40) (hi : xix x (oN h a) = true) : E_ d mX5_margin 62 ls (.int x :: .ref a :: st) h = E_ d mX5_margin 63 ls (.int (oI h a x.toNatClampNeg) :: st) h := e_iald dX5_margin_62 rfl ht hi
theorem wX5_margin_63 : E_ d mX5_margin 63 [.val (.ref a), s1, s2, s3] st h = E_ d mX5_margin 64 [.val (.ref a), s1, s2, s3] (.ref a :: st) h := e_go dX5_margin_63 rfl rfl
theorem wX5_margin_64 (ht : oT h a = 7) : E_ d mX5_margin 64 ls (.ref a :: st) h = E_ d mX5_margin 67 ls (va_rf (oR h a 18) :: st) h := e_getR0 dX5_margin_64 rfl rfl ht
theorem wX5_margin_67 : E_ d mX5_margin 67 ls st h = E_ d mX5_margin 69 ls (.int (nI 32) :: st) h := e_bipush dX5_margin_67 kbipush_32 rfl
theorem wX5_margin_69 (ht : oT h a = 40) (hi : xix x (oN h a) = true) : E_ d mX5_margin 69 ls (.int x :: .ref a :: st) h = E_ d mX5_margin 70 ls (.int (oI h a x.toNatClampNeg) :: st) h := e_iald dX5_margin_69 rfl ht hi
theorem wX5_margin_70 : E_ d mX5_margin 70 ls (.int y :: .int x :: st) h = if x = y then E_ d mX5_margin 73 ls st h else E_ d mX5_margin 110 ls st h := e_ine dX5_margin_70 rfl rfl
theorem wX5_margin_73 : E_ d mX5_margin 73 [.val (.ref a), s1, s2, s3] st h = E_ d mX5_margin 74 [.val (.ref a), s1, s2, s3] (.ref a :: st) h := e_go dX5_margin_73 rfl rfl
theorem wX5_margin_74 (ht : oT h a = 7) : E_ d mX5_margin 74 ls (.ref a :: st) h = E_ d mX5_margin 77 ls (va_rf (oR h a 18) :: st) h := e_getR0 dX5_margin_74 rfl rfl ht
theorem wX5_margin_77 : E_ d mX5_margin 77 ls st h = E_ d mX5_margin 78 ls (.int (nI 0) :: st) h := e_iconst dX5_margin_77 kiconst_0 rfl
theorem wX5_margin_78 : E_ d mX5_margin 78 [s0, s1, s2, .val (.int x)] st h = E_ d mX5_margin 79 [s0, s1, s2, .val (.int x)] (.int x :: st) h := e_go dX5_margin_78 rfl rfl
theorem wX5_margin_79 : E_ d mX5_margin 79 ls (.int y :: .int x :: st) h = E_ d mX5_margin 80 ls (.int (x + y) :: st) h := e_go dX5_margin_79 rfl rfl
theorem wX5_margin_80 (ht : oT h a = 40) (hi : xix x (oN h a) = true) : E_ d mX5_margin 80 ls (.int x :: .ref a :: st) h = E_ d mX5_margin 81 ls (.int (oI h a x.toNatClampNeg) :: st) h := e_iald dX5_margin_80 rfl ht hi
theorem wX5_margin_81 : E_ d mX5_margin 81 ls (.int x :: st) h = if 0 < x then E_ d mX5_margin 84 ls st h else E_ d mX5_margin 110 ls st h := e_zle dX5_margin_81 rfl rfl
theorem wX5_margin_84 : E_ d mX5_margin 84 [s0, s1, .val (.int x), s3] st h = E_ d mX5_margin 85 [s0, s1, .val (.int x), s3] (.int x :: st) h := e_go dX5_margin_84 rfl rfl
theorem wX5_margin_85 : E_ d mX5_margin 85 ls st h = E_ d mX5_margin 86 ls (.int ((-1)) :: st) h := e_iconst dX5_margin_85 kiconst_m1 rfl
theorem wX5_margin_86 : E_ d mX5_margin 86 ls (.int y :: .int x :: st) h = if x = y then E_ d mX5_margin 101 ls st h else E_ d mX5_margin 89 ls st h := e_ieq dX5_margin_86 rfl rfl
theorem wX5_margin_89 : E_ d mX5_margin 89 [.val (.ref a), s1, s2, s3] st h = E_ d mX5_margin 90 [.val (.ref a), s1, s2, s3] (.ref a :: st) h := e_go dX5_margin_89 rfl rfl
theorem wX5_margin_90 (ht : oT h a = 7) : E_ d mX5_margin 90 ls (.ref a :: st) h = E_ d mX5_margin 93 ls (va_rf (oR h a 18) :: st) h := e_getR0 dX5_margin_90 rfl rfl ht
theorem wX5_margin_93 : E_ d mX5_margin 93 ls st h = E_ d mX5_margin 94 ls (.int (nI 0) :: st) h := e_iconst dX5_margin_93 kiconst_0 rfl
theorem wX5_margin_94 : E_ d mX5_margin 94 [s0, s1, s2, .val (.int x)] st h = E_ d mX5_margin 95 [s0, s1, s2, .val (.int x)] (.int x :: st) h := e_go dX5_margin_94 rfl rfl
theorem wX5_margin_95 : E_ d mX5_margin 95 ls (.int y :: .int x :: st) h = E_ d mX5_margin 96 ls (.int (x + y) :: st) h := e_go dX5_margin_95 rfl rfl
theorem wX5_margin_96 (ht : oT h a = 40) (hi : xix x (oN h a) = true) : E_ d mX5_margin 96 ls (.int x :: .ref a :: st) h = E_ d mX5_margin 97 ls (.int (oI h a x.toNatClampNeg) :: st) h := e_iald dX5_margin_96 rfl ht hi
theorem wX5_margin_97 : E_ d mX5_margin 97 [s0, s1, .val (.int x), s3] st h = E_ d mX5_margin 98 [s0, s1, .val (.int x), s3] (.int x :: st) h := e_go dX5_margin_97 rfl rfl
theorem wX5_margin_98 : E_ d mX5_margin 98 ls (.int y :: .int x :: st) h = if x < y then E_ d mX5_margin 101 ls st h else E_ d mX5_margin 110 ls st h := e_ige dX5_margin_98 rfl rfl
theorem wX5_margin_101 : E_ d mX5_margin 101 [.val (.ref a), s1, s2, s3] st h = E_ d mX5_margin 102 [.val (.ref a), s1, s2, s3] (.ref a :: st) h := e_go dX5_margin_101 rfl rfl
theorem wX5_margin_102 (ht : oT h a = 7) : E_ d mX5_margin 102 ls (.ref a :: st) h = E_ d mX5_margin 105 ls (va_rf (oR h a 18) :: st) h := e_getR0 dX5_margin_102 rfl rfl ht
theorem wX5_margin_105 : E_ d mX5_margin 105 ls st h = E_ d mX5_margin 106 ls (.int (nI 0) :: st) h := e_iconst dX5_margin_105 kiconst_0 rfl
theorem wX5_margin_106 : E_ d mX5_margin 106 [s0, s1, s2, .val (.int x)] st h = E_ d mX5_margin 107 [s0, s1, s2, .val (.int x)] (.int x :: st) h := e_go dX5_margin_106 rfl rfl
theorem wX5_margin_107 : E_ d mX5_margin 107 ls (.int y :: .int x :: st) h = E_ d mX5_margin 108 ls (.int (x + y) :: st) h := e_go dX5_margin_107 rfl rfl
theorem wX5_margin_108 (ht : oT h a = 40) (hi : xix x (oN h a) = true) : E_ d mX5_margin 108 ls (.int x :: .ref a :: st) h = E_ d mX5_margin 109 ls (.int (oI h a x.toNatClampNeg) :: st) h := e_iald dX5_margin_108 rfl ht hi
theorem wX5_margin_109 : E_ d mX5_margin 109 [s0, s1, s2, s3] (.int x :: st) h = E_ d mX5_margin 110 [s0, xk s1, .val (.int x), s3] st h := e_go dX5_margin_109 rfl rfl
theorem wX5_margin_110 : E_ d mX5_margin 110 [s0, s1, s2, .val (.int x)] st h = E_ d mX5_margin 113 [s0, s1, xk s2, .val (.int (x + nI 1))] st h := by rw [← kiinc_1]; exact e_go dX5_margin_110 rfl rfl
theorem wX5_margin_113 : E_ d mX5_margin 113 ls st h = E_ d mX5_margin 34 ls st h := e_gt dX5_margin_113 rfl
theorem wX5_margin_116 : E_ d mX5_margin 116 ls st h = E_ d mX5_margin 12 ls st h := e_gt dX5_margin_116 rfl
theorem wX5_margin_119 : E_ d mX5_margin 119 [s0, s1, .val (.int x), s3] st h = E_ d mX5_margin 120 [s0, s1, .val (.int x), s3] (.int x :: st) h := e_go dX5_margin_119 rfl rfl
theorem wX5_margin_120 : E_ d mX5_margin 120 ls [.int x] h = some (some (.int x), h) := e_rt dX5_margin_120 rfl rfl
/-! FootOutModel.place -/
theorem wX5_place_0 : E_ d mX5_place 0 [.val (.ref a), s1, s2, s3, s4, s5, s6] st h = E_ d mX5_place 1 [.val (.ref a), s1, s2, s3, s4, s5, s6] (.ref a :: st) h := e_go dX5_place_0 rfl rfl
theorem wX5_place_1 : E_ d mX5_place 1 ls st h = E_ d mX5_place 2 ls (.int (nI 0) :: st) h := e_iconst dX5_place_1 kiconst_0 rfl
theorem wX5_place_2 (ht : oT h a = 7) : E_ d mX5_place 2 ls (.int x :: .ref a :: st) h = E_ d mX5_place 5 ls st (pI h a (va_up (oI h a) 0 x)) := e_putI dX5_place_2 rfl rfl ht
theorem wX5_place_5 : E_ d mX5_place 5 [.val (.ref a), s1, s2, s3, s4, s5, s6] st h = E_ d mX5_place 6 [.val (.ref a), s1, s2, s3, s4, s5, s6] (.ref a :: st) h := e_go dX5_place_5 rfl rfl
theorem wX5_place_6 (ht : oT h a = 7) : E_ d mX5_place 6 ls (.ref a :: st) h = E_ d mX5_place 9 ls (va_rf (oR h a 2) :: st) h := e_getR0 dX5_place_6 rfl rfl ht
theorem wX5_place_9 : E_ d mX5_place 9 ls st h = E_ d mX5_place 12 ls (.int (nI 477) :: st) h := e_sipush dX5_place_9 ksipush_477 rfl
theorem wX5_place_12 (ht : oT h a = 40) (hi : xix x (oN h a) = true) : E_ d mX5_place 12 ls (.int x :: .ref a :: st) h = E_ d mX5_place 13 ls (.int (oI h a x.toNatClampNeg) :: st) h := e_iald dX5_place_12 rfl ht hi
theorem wX5_place_13 : E_ d mX5_place 13 ls st h = E_ d mX5_place 15 ls (.int (nI 12) :: st) h := e_bipush dX5_place_13 kbipush_12 rfl
theorem wX5_place_15 : E_ d mX5_place 15 ls (.int y :: .int x :: st) h = if x = y then E_ d mX5_place 18 ls st h else E_ d mX5_place 25 ls st h := e_ine dX5_place_15 rfl rfl
theorem wX5_place_18 : E_ d mX5_place 18 [.val (.ref a), s1, s2, s3, s4, s5, s6] st h = E_ d mX5_place 19 [.val (.ref a), s1, s2, s3, s4, s5, s6] (.ref a :: st) h := e_go dX5_place_18 rfl rfl
theorem wX5_place_19 : E_ d mX5_place 19 ls st h = E_ d mX5_place 21 ls (.int ((-5)) :: st) h := e_bipush dX5_place_19 kbipush_m5 rfl
theorem wX5_place_21 (ht : oT h a = 7) : E_ (d + 1) mX5_place 21 ls [.int x1, .ref a] h = (C_ d mX5_no [.ref a, .int x1] h).bind fun r => E_ (d + 1) mX5_place 24 ls (xpu r.1 []) r.2 := e_vir dX5_place_21 rfl rfl rfl rfl rfl rfl (Nat.le_of_ble_eq_true rfl) (Nat.le_of_ble_eq_true rfl) ht
theorem wX5_place_24 : E_ d mX5_place 24 ls [.int x] h = some (some (.int x), h) := e_rt dX5_place_24 rfl rfl
theorem wX5_place_25 : E_ d mX5_place 25 [s0, s1, .val (.int x), s3, s4, s5, s6] st h = E_ d mX5_place 26 [s0, s1, .val (.int x), s3, s4, s5, s6] (.int x :: st) h := e_go dX5_place_25 rfl rfl
theorem wX5_place_26 : E_ d mX5_place 26 ls (.int x :: st) h = E_ d mX5_place 27 ls (.long x.toInt64 :: st) h := e_go dX5_place_26 rfl rfl
theorem wX5_place_27 : E_ d mX5_place 27 ls st h = E_ d mX5_place 28 ls (.long 0 :: st) h := e_go dX5_place_27 rfl rfl
theorem wX5_place_28 : E_ d mX5_place 28 ls st h = E_ d mX5_place 31 ls (.long (300) :: st) h := e_go dX5_place_28 rfl rfl
theorem wX5_place_31 : E_ (d + 1) mX5_place 31 ls [.long u3, .long u2, .long u1] h = (C_ d mX5_within [.long u1, .long u2, .long u3] h).bind fun r => E_ (d + 1) mX5_place 34 ls (xpu r.1 []) r.2 := e_call dX5_place_31 rfl rfl
theorem wX5_place_34 : E_ d mX5_place 34 ls (.int x :: st) h = if x = 0 then E_ d mX5_place 73 ls st h else E_ d mX5_place 37 ls st h := e_zeq dX5_place_34 rfl rfl
theorem wX5_place_37 : E_ d mX5_place 37 [s0, s1, s2, .val (.int x), s4, s5, s6] st h = E_ d mX5_place 38 [s0, s1, s2, .val (.int x), s4, s5, s6] (.int x :: st) h := e_go dX5_place_37 rfl rfl
theorem wX5_place_38 : E_ d mX5_place 38 ls (.int x :: st) h = E_ d mX5_place 39 ls (.long x.toInt64 :: st) h := e_go dX5_place_38 rfl rfl
theorem wX5_place_39 : E_ d mX5_place 39 ls st h = E_ d mX5_place 40 ls (.long 0 :: st) h := e_go dX5_place_39 rfl rfl
theorem wX5_place_40 : E_ d mX5_place 40 ls st h = E_ d mX5_place 43 ls (.long (300) :: st) h := e_go dX5_place_40 rfl rfl
theorem wX5_place_43 : E_ (d + 1) mX5_place 43 ls [.long u3, .long u2, .long u1] h = (C_ d mX5_within [.long u1, .long u2, .long u3] h).bind fun r => E_ (d + 1) mX5_place 46 ls (xpu r.1 []) r.2 := e_call dX5_place_43 rfl rfl
theorem wX5_place_46 : E_ d mX5_place 46 ls (.int x :: st) h = if x = 0 then E_ d mX5_place 73 ls st h else E_ d mX5_place 49 ls st h := e_zeq dX5_place_46 rfl rfl
theorem wX5_place_49 : E_ d mX5_place 49 [s0, s1, s2, s3, .val (.int x), s5, s6] st h = E_ d mX5_place 51 [s0, s1, s2, s3, .val (.int x), s5, s6] (.int x :: st) h := e_go dX5_place_49 rfl rfl
theorem wX5_place_51 : E_ d mX5_place 51 ls (.int x :: st) h = E_ d mX5_place 52 ls (.long x.toInt64 :: st) h := e_go dX5_place_51 rfl rfl
theorem wX5_place_52 : E_ d mX5_place 52 ls st h = E_ d mX5_place 53 ls (.long 0 :: st) h := e_go dX5_place_52 rfl rfl
theorem wX5_place_53 : E_ d mX5_place 53 [s0, s1, .val (.int x), s3, s4, s5, s6] st h = E_ d mX5_place 54 [s0, s1, .val (.int x), s3, s4, s5, s6] (.int x :: st) h := e_go dX5_place_53 rfl rfl
theorem wX5_place_54 : E_ d mX5_place 54 ls (.int x :: st) h = E_ d mX5_place 55 ls (.long x.toInt64 :: st) h := e_go dX5_place_54 rfl rfl
theorem wX5_place_55 : E_ (d + 1) mX5_place 55 ls [.long u3, .long u2, .long u1] h = (C_ d mX5_within [.long u1, .long u2, .long u3] h).bind fun r => E_ (d + 1) mX5_place 58 ls (xpu r.1 []) r.2 := e_call dX5_place_55 rfl rfl
theorem wX5_place_58 : E_ d mX5_place 58 ls (.int x :: st) h = if x = 0 then E_ d mX5_place 73 ls st h else E_ d mX5_place 61 ls st h := e_zeq dX5_place_58 rfl rfl
theorem wX5_place_61 : E_ d mX5_place 61 [s0, s1, s2, s3, s4, .val (.int x), s6] st h = E_ d mX5_place 63 [s0, s1, s2, s3, s4, .val (.int x), s6] (.int x :: st) h := e_go dX5_place_61 rfl rfl
theorem wX5_place_63 : E_ d mX5_place 63 ls (.int x :: st) h = E_ d mX5_place 64 ls (.long x.toInt64 :: st) h := e_go dX5_place_63 rfl rfl
theorem wX5_place_64 : E_ d mX5_place 64 ls st h = E_ d mX5_place 65 ls (.long 0 :: st) h := e_go dX5_place_64 rfl rfl
theorem wX5_place_65 : E_ d mX5_place 65 [s0, s1, s2, .val (.int x), s4, s5, s6] st h = E_ d mX5_place 66 [s0, s1, s2, .val (.int x), s4, s5, s6] (.int x :: st) h := e_go dX5_place_65 rfl rfl
theorem wX5_place_66 : E_ d mX5_place 66 ls (.int x :: st) h = E_ d mX5_place 67 ls (.long x.toInt64 :: st) h := e_go dX5_place_66 rfl rfl
theorem wX5_place_67 : E_ (d + 1) mX5_place 67 ls [.long u3, .long u2, .long u1] h = (C_ d mX5_within [.long u1, .long u2, .long u3] h).bind fun r => E_ (d + 1) mX5_place 70 ls (xpu r.1 []) r.2 := e_call dX5_place_67 rfl rfl
theorem wX5_place_70 : E_ d mX5_place 70 ls (.int x :: st) h = if x = 0 then E_ d mX5_place 73 ls st h else E_ d mX5_place 80 ls st h := e_zne dX5_place_70 rfl rfl
theorem wX5_place_73 : E_ d mX5_place 73 [.val (.ref a), s1, s2, s3, s4, s5, s6] st h = E_ d mX5_place 74 [.val (.ref a), s1, s2, s3, s4, s5, s6] (.ref a :: st) h := e_go dX5_place_73 rfl rfl
theorem wX5_place_74 : E_ d mX5_place 74 ls st h = E_ d mX5_place 76 ls (.int ((-3)) :: st) h := e_bipush dX5_place_74 kbipush_m3 rfl
theorem wX5_place_76 (ht : oT h a = 7) : E_ (d + 1) mX5_place 76 ls [.int x1, .ref a] h = (C_ d mX5_no [.ref a, .int x1] h).bind fun r => E_ (d + 1) mX5_place 79 ls (xpu r.1 []) r.2 := e_vir dX5_place_76 rfl rfl rfl rfl rfl rfl (Nat.le_of_ble_eq_true rfl) (Nat.le_of_ble_eq_true rfl) ht
theorem wX5_place_79 : E_ d mX5_place 79 ls [.int x] h = some (some (.int x), h) := e_rt dX5_place_79 rfl rfl
theorem wX5_place_80 : E_ d mX5_place 80 [.val (.ref a), s1, s2, s3, s4, s5, s6] st h = E_ d mX5_place 81 [.val (.ref a), s1, s2, s3, s4, s5, s6] (.ref a :: st) h := e_go dX5_place_80 rfl rfl
theorem wX5_place_81 (ht : oT h a = 7) : E_ d mX5_place 81 ls (.ref a :: st) h = E_ d mX5_place 84 ls (va_rf (oR h a 2) :: st) h := e_getR0 dX5_place_81 rfl rfl ht
theorem wX5_place_84 : E_ d mX5_place 84 ls st h = E_ d mX5_place 87 ls (.int (nI 477) :: st) h := e_sipush dX5_place_84 ksipush_477 rfl
theorem wX5_place_87 (ht : oT h a = 40) (hi : xix x (oN h a) = true) : E_ d mX5_place 87 ls (.int x :: .ref a :: st) h = E_ d mX5_place 88 ls (.int (oI h a x.toNatClampNeg) :: st) h := e_iald dX5_place_87 rfl ht hi
theorem wX5_place_88 : E_ d mX5_place 88 [s0, s1, s2, s3, s4, s5, s6] (.int x :: st) h = E_ d mX5_place 90 [s0, s1, s2, s3, s4, xk s5, .val (.int x)] st h := e_go dX5_place_88 rfl rfl
theorem wX5_place_90 : E_ d mX5_place 90 [.val (.ref a), s1, s2, s3, s4, s5, s6] st h = E_ d mX5_place 91 [.val (.ref a), s1, s2, s3, s4, s5, s6] (.ref a :: st) h := e_go dX5_place_90 rfl rfl
theorem wX5_place_91 (ht : oT h a = 7) : E_ d mX5_place 91 ls (.ref a :: st) h = E_ d mX5_place 94 ls (va_rf (oR h a 2) :: st) h := e_getR0 dX5_place_91 rfl rfl ht
theorem wX5_place_94 : E_ d mX5_place 94 ls st h = E_ d mX5_place 97 ls (.int (nI 478) :: st) h := e_sipush dX5_place_94 ksipush_478 rfl
theorem wX5_place_97 : E_ d mX5_place 97 [s0, s1, s2, s3, s4, s5, .val (.int x)] st h = E_ d mX5_place 99 [s0, s1, s2, s3, s4, s5, .val (.int x)] (.int x :: st) h := e_go dX5_place_97 rfl rfl
theorem wX5_place_99 : E_ d mX5_place 99 ls (.int y :: .int x :: st) h = E_ d mX5_place 100 ls (.int (x + y) :: st) h := e_go dX5_place_99 rfl rfl
theorem wX5_place_100 : E_ d mX5_place 100 [s0, .val (.int x), s2, s3, s4, s5, s6] st h = E_ d mX5_place 101 [s0, .val (.int x), s2, s3, s4, s5, s6] (.int x :: st) h := e_go dX5_place_100 rfl rfl
theorem wX5_place_101 : E_ d mX5_place 101 ls (.int x :: st) h = if x = 0 then E_ d mX5_place 108 ls st h else E_ d mX5_place 104 ls st h := e_zeq dX5_place_101 rfl rfl
theorem wX5_place_104 : E_ d mX5_place 104 ls st h = E_ d mX5_place 105 ls (.int (nI 1) :: st) h := e_iconst dX5_place_104 kiconst_1 rfl
theorem wX5_place_105 : E_ d mX5_place 105 ls st h = E_ d mX5_place 109 ls st h := e_gt dX5_place_105 rfl
theorem wX5_place_108 : E_ d mX5_place 108 ls st h = E_ d mX5_place 109 ls (.int (nI 0) :: st) h := e_iconst dX5_place_108 kiconst_0 rfl
theorem wX5_place_109 (ht : oT h a = 40) (hi : xix x (oN h a) = true) : E_ d mX5_place 109 ls (.int y :: .int x :: .ref a :: st) h = E_ d mX5_place 110 ls st (pI h a (va_up (oI h a) x.toNatClampNeg y)) := e_iast dX5_place_109 rfl ht hi
theorem wX5_place_110 : E_ d mX5_place 110 [.val (.ref a), s1, s2, s3, s4, s5, s6] st h = E_ d mX5_place 111 [.val (.ref a), s1, s2, s3, s4, s5, s6] (.ref a :: st) h := e_go dX5_place_110 rfl rfl
theorem wX5_place_111 (ht : oT h a = 7) : E_ d mX5_place 111 ls (.ref a :: st) h = E_ d mX5_place 114 ls (va_rf (oR h a 2) :: st) h := e_getR0 dX5_place_111 rfl rfl ht
theorem wX5_place_114 : E_ d mX5_place 114 ls st h = E_ d mX5_place 117 ls (.int (nI 490) :: st) h := e_sipush dX5_place_114 ksipush_490 rfl
theorem wX5_place_117 : E_ d mX5_place 117 [s0, s1, s2, s3, s4, s5, .val (.int x)] st h = E_ d mX5_place 119 [s0, s1, s2, s3, s4, s5, .val (.int x)] (.int x :: st) h := e_go dX5_place_117 rfl rfl
theorem wX5_place_119 : E_ d mX5_place 119 ls (.int y :: .int x :: st) h = E_ d mX5_place 120 ls (.int (x + y) :: st) h := e_go dX5_place_119 rfl rfl
theorem wX5_place_120 : E_ d mX5_place 120 [s0, s1, .val (.int x), s3, s4, s5, s6] st h = E_ d mX5_place 121 [s0, s1, .val (.int x), s3, s4, s5, s6] (.int x :: st) h := e_go dX5_place_120 rfl rfl
theorem wX5_place_121 (ht : oT h a = 40) (hi : xix x (oN h a) = true) : E_ d mX5_place 121 ls (.int y :: .int x :: .ref a :: st) h = E_ d mX5_place 122 ls st (pI h a (va_up (oI h a) x.toNatClampNeg y)) := e_iast dX5_place_121 rfl ht hi
theorem wX5_place_122 : E_ d mX5_place 122 [.val (.ref a), s1, s2, s3, s4, s5, s6] st h = E_ d mX5_place 123 [.val (.ref a), s1, s2, s3, s4, s5, s6] (.ref a :: st) h := e_go dX5_place_122 rfl rfl
theorem wX5_place_123 (ht : oT h a = 7) : E_ d mX5_place 123 ls (.ref a :: st) h = E_ d mX5_place 126 ls (va_rf (oR h a 2) :: st) h := e_getR0 dX5_place_123 rfl rfl ht
theorem wX5_place_126 : E_ d mX5_place 126 ls st h = E_ d mX5_place 129 ls (.int (nI 502) :: st) h := e_sipush dX5_place_126 ksipush_502 rfl
theorem wX5_place_129 : E_ d mX5_place 129 [s0, s1, s2, s3, s4, s5, .val (.int x)] st h = E_ d mX5_place 131 [s0, s1, s2, s3, s4, s5, .val (.int x)] (.int x :: st) h := e_go dX5_place_129 rfl rfl
theorem wX5_place_131 : E_ d mX5_place 131 ls (.int y :: .int x :: st) h = E_ d mX5_place 132 ls (.int (x + y) :: st) h := e_go dX5_place_131 rfl rfl
theorem wX5_place_132 : E_ d mX5_place 132 [s0, s1, s2, .val (.int x), s4, s5, s6] st h = E_ d mX5_place 133 [s0, s1, s2, .val (.int x), s4, s5, s6] (.int x :: st) h := e_go dX5_place_132 rfl rfl
theorem wX5_place_133 (ht : oT h a = 40) (hi : xix x (oN h a) = true) : E_ d mX5_place 133 ls (.int y :: .int x :: .ref a :: st) h = E_ d mX5_place 134 ls st (pI h a (va_up (oI h a) x.toNatClampNeg y)) := e_iast dX5_place_133 rfl ht hi
theorem wX5_place_134 : E_ d mX5_place 134 [.val (.ref a), s1, s2, s3, s4, s5, s6] st h = E_ d mX5_place 135 [.val (.ref a), s1, s2, s3, s4, s5, s6] (.ref a :: st) h := e_go dX5_place_134 rfl rfl
theorem wX5_place_135 (ht : oT h a = 7) : E_ d mX5_place 135 ls (.ref a :: st) h = E_ d mX5_place 138 ls (va_rf (oR h a 2) :: st) h := e_getR0 dX5_place_135 rfl rfl ht
theorem wX5_place_138 : E_ d mX5_place 138 ls st h = E_ d mX5_place 141 ls (.int (nI 514) :: st) h := e_sipush dX5_place_138 ksipush_514 rfl
theorem wX5_place_141 : E_ d mX5_place 141 [s0, s1, s2, s3, s4, s5, .val (.int x)] st h = E_ d mX5_place 143 [s0, s1, s2, s3, s4, s5, .val (.int x)] (.int x :: st) h := e_go dX5_place_141 rfl rfl
theorem wX5_place_143 : E_ d mX5_place 143 ls (.int y :: .int x :: st) h = E_ d mX5_place 144 ls (.int (x + y) :: st) h := e_go dX5_place_143 rfl rfl
theorem wX5_place_144 : E_ d mX5_place 144 [s0, s1, s2, s3, .val (.int x), s5, s6] st h = E_ d mX5_place 146 [s0, s1, s2, s3, .val (.int x), s5, s6] (.int x :: st) h := e_go dX5_place_144 rfl rfl
theorem wX5_place_146 (ht : oT h a = 40) (hi : xix x (oN h a) = true) : E_ d mX5_place 146 ls (.int y :: .int x :: .ref a :: st) h = E_ d mX5_place 147 ls st (pI h a (va_up (oI h a) x.toNatClampNeg y)) := e_iast dX5_place_146 rfl ht hi
theorem wX5_place_147 : E_ d mX5_place 147 [.val (.ref a), s1, s2, s3, s4, s5, s6] st h = E_ d mX5_place 148 [.val (.ref a), s1, s2, s3, s4, s5, s6] (.ref a :: st) h := e_go dX5_place_147 rfl rfl
theorem wX5_place_148 (ht : oT h a = 7) : E_ d mX5_place 148 ls (.ref a :: st) h = E_ d mX5_place 151 ls (va_rf (oR h a 2) :: st) h := e_getR0 dX5_place_148 rfl rfl ht
theorem wX5_place_151 : E_ d mX5_place 151 ls st h = E_ d mX5_place 154 ls (.int (nI 526) :: st) h := e_sipush dX5_place_151 ksipush_526 rfl
theorem wX5_place_154 : E_ d mX5_place 154 [s0, s1, s2, s3, s4, s5, .val (.int x)] st h = E_ d mX5_place 156 [s0, s1, s2, s3, s4, s5, .val (.int x)] (.int x :: st) h := e_go dX5_place_154 rfl rfl
theorem wX5_place_156 : E_ d mX5_place 156 ls (.int y :: .int x :: st) h = E_ d mX5_place 157 ls (.int (x + y) :: st) h := e_go dX5_place_156 rfl rfl
theorem wX5_place_157 : E_ d mX5_place 157 [s0, s1, s2, s3, s4, .val (.int x), s6] st h = E_ d mX5_place 159 [s0, s1, s2, s3, s4, .val (.int x), s6] (.int x :: st) h := e_go dX5_place_157 rfl rfl
theorem wX5_place_159 (ht : oT h a = 40) (hi : xix x (oN h a) = true) : E_ d mX5_place 159 ls (.int y :: .int x :: .ref a :: st) h = E_ d mX5_place 160 ls st (pI h a (va_up (oI h a) x.toNatClampNeg y)) := e_iast dX5_place_159 rfl ht hi
theorem wX5_place_160 : E_ d mX5_place 160 [.val (.ref a), s1, s2, s3, s4, s5, s6] st h = E_ d mX5_place 161 [.val (.ref a), s1, s2, s3, s4, s5, s6] (.ref a :: st) h := e_go dX5_place_160 rfl rfl
theorem wX5_place_161 (ht : oT h a = 7) : E_ d mX5_place 161 ls (.ref a :: st) h = E_ d mX5_place 164 ls (va_rf (oR h a 2) :: st) h := e_getR0 dX5_place_161 rfl rfl ht
theorem wX5_place_164 : E_ d mX5_place 164 ls st h = E_ d mX5_place 167 ls (.int (nI 538) :: st) h := e_sipush dX5_place_164 ksipush_538 rfl
theorem wX5_place_167 : E_ d mX5_place 167 [s0, s1, s2, s3, s4, s5, .val (.int x)] st h = E_ d mX5_place 169 [s0, s1, s2, s3, s4, s5, .val (.int x)] (.int x :: st) h := e_go dX5_place_167 rfl rfl
theorem wX5_place_169 : E_ d mX5_place 169 ls (.int y :: .int x :: st) h = E_ d mX5_place 170 ls (.int (x + y) :: st) h := e_go dX5_place_169 rfl rfl
theorem wX5_place_170 : E_ d mX5_place 170 ls st h = E_ d mX5_place 171 ls (.int (nI 0) :: st) h := e_iconst dX5_place_170 kiconst_0 rfl
theorem wX5_place_171 (ht : oT h a = 40) (hi : xix x (oN h a) = true) : E_ d mX5_place 171 ls (.int y :: .int x :: .ref a :: st) h = E_ d mX5_place 172 ls st (pI h a (va_up (oI h a) x.toNatClampNeg y)) := e_iast dX5_place_171 rfl ht hi
theorem wX5_place_172 : E_ d mX5_place 172 [.val (.ref a), s1, s2, s3, s4, s5, s6] st h = E_ d mX5_place 173 [.val (.ref a), s1, s2, s3, s4, s5, s6] (.ref a :: st) h := e_go dX5_place_172 rfl rfl
theorem wX5_place_173 (ht : oT h a = 7) : E_ d mX5_place 173 ls (.ref a :: st) h = E_ d mX5_place 176 ls (va_rf (oR h a 2) :: st) h := e_getR0 dX5_place_173 rfl rfl ht
theorem wX5_place_176 : E_ d mX5_place 176 ls st h = E_ d mX5_place 179 ls (.int (nI 477) :: st) h := e_sipush dX5_place_176 ksipush_477 rfl
theorem wX5_place_179 : E_ d mX5_place 179 ls (.int x :: .ref b :: st) h = E_ d mX5_place 180 ls (.int x :: .ref b :: .int x :: .ref b :: st) h := e_go dX5_place_179 rfl rfl
theorem wX5_place_180 (ht : oT h a = 40) (hi : xix x (oN h a) = true) : E_ d mX5_place 180 ls (.int x :: .ref a :: st) h = E_ d mX5_place 181 ls (.int (oI h a x.toNatClampNeg) :: st) h := e_iald dX5_place_180 rfl ht hi
theorem wX5_place_181 : E_ d mX5_place 181 ls st h = E_ d mX5_place 182 ls (.int (nI 1) :: st) h := e_iconst dX5_place_181 kiconst_1 rfl
theorem wX5_place_182 : E_ d mX5_place 182 ls (.int y :: .int x :: st) h = E_ d mX5_place 183 ls (.int (x + y) :: st) h := e_go dX5_place_182 rfl rfl
theorem wX5_place_183 (ht : oT h a = 40) (hi : xix x (oN h a) = true) : E_ d mX5_place 183 ls (.int y :: .int x :: .ref a :: st) h = E_ d mX5_place 184 ls st (pI h a (va_up (oI h a) x.toNatClampNeg y)) := e_iast dX5_place_183 rfl ht hi
theorem wX5_place_184 : E_ d mX5_place 184 [s0, s1, s2, s3, s4, s5, .val (.int x)] st h = E_ d mX5_place 186 [s0, s1, s2, s3, s4, s5, .val (.int x)] (.int x :: st) h := e_go dX5_place_184 rfl rfl
theorem wX5_place_186 : E_ d mX5_place 186 ls [.int x] h = some (some (.int x), h) := e_rt dX5_place_186 rfl rfl
/-! FootOutModel.behind -/
theorem wX5_behind_0 : E_ d mX5_behind 0 [.val (.ref a), s1, s2, s3] st h = E_ d mX5_behind 1 [.val (.ref a), s1, s2, s3] (.ref a :: st) h := e_go dX5_behind_0 rfl rfl
theorem wX5_behind_1 : E_ d mX5_behind 1 ls st h = E_ d mX5_behind 2 ls (.int (nI 0) :: st) h := e_iconst dX5_behind_1 kiconst_0 rfl
theorem wX5_behind_2 (ht : oT h a = 7) : E_ d mX5_behind 2 ls (.int x :: .ref a :: st) h = E_ d mX5_behind 5 ls st (pI h a (va_up (oI h a) 0 x)) := e_putI dX5_behind_2 rfl rfl ht
theorem wX5_behind_5 : E_ d mX5_behind 5 [.val (.ref a), s1, s2, s3] st h = E_ d mX5_behind 6 [.val (.ref a), s1, s2, s3] (.ref a :: st) h := e_go dX5_behind_5 rfl rfl
theorem wX5_behind_6 : E_ d mX5_behind 6 [s0, .val (.int x), s2, s3] st h = E_ d mX5_behind 7 [s0, .val (.int x), s2, s3] (.int x :: st) h := e_go dX5_behind_6 rfl rfl
theorem wX5_behind_7 (ht : oT h a = 7) : E_ (d + 1) mX5_behind 7 ls [.int x1, .ref a] h = (C_ d mX5_isPlace [.ref a, .int x1] h).bind fun r => E_ (d + 1) mX5_behind 10 ls (xpu r.1 []) r.2 := e_vir dX5_behind_7 rfl rfl rfl rfl rfl rfl (Nat.le_of_ble_eq_true rfl) (Nat.le_of_ble_eq_true rfl) ht
theorem wX5_behind_10 : E_ d mX5_behind 10 ls (.int x :: st) h = if x = 0 then E_ d mX5_behind 13 ls st h else E_ d mX5_behind 20 ls st h := e_zne dX5_behind_10 rfl rfl
theorem wX5_behind_13 : E_ d mX5_behind 13 [.val (.ref a), s1, s2, s3] st h = E_ d mX5_behind 14 [.val (.ref a), s1, s2, s3] (.ref a :: st) h := e_go dX5_behind_13 rfl rfl
theorem wX5_behind_14 : E_ d mX5_behind 14 ls st h = E_ d mX5_behind 16 ls (.int ((-2)) :: st) h := e_bipush dX5_behind_14 kbipush_m2 rfl
theorem wX5_behind_16 (ht : oT h a = 7) : E_ (d + 1) mX5_behind 16 ls [.int x1, .ref a] h = (C_ d mX5_no [.ref a, .int x1] h).bind fun r => E_ (d + 1) mX5_behind 19 ls (xpu r.1 []) r.2 := e_vir dX5_behind_16 rfl rfl rfl rfl rfl rfl (Nat.le_of_ble_eq_true rfl) (Nat.le_of_ble_eq_true rfl) ht
theorem wX5_behind_19 : E_ d mX5_behind 19 ls [.int x] h = some (some (.int x), h) := e_rt dX5_behind_19 rfl rfl
theorem wX5_behind_20 : E_ d mX5_behind 20 [s0, s1, .val (.int x), s3] st h = E_ d mX5_behind 21 [s0, s1, .val (.int x), s3] (.int x :: st) h := e_go dX5_behind_20 rfl rfl
theorem wX5_behind_21 : E_ d mX5_behind 21 ls (.int x :: st) h = E_ d mX5_behind 22 ls (.long x.toInt64 :: st) h := e_go dX5_behind_21 rfl rfl
theorem wX5_behind_22 : E_ d mX5_behind 22 ls st h = E_ d mX5_behind 23 ls (.long 0 :: st) h := e_go dX5_behind_22 rfl rfl
theorem wX5_behind_23 : E_ d mX5_behind 23 ls st h = E_ d mX5_behind 26 ls (.long (600) :: st) h := e_go dX5_behind_23 rfl rfl
theorem wX5_behind_26 : E_ (d + 1) mX5_behind 26 ls [.long u3, .long u2, .long u1] h = (C_ d mX5_within [.long u1, .long u2, .long u3] h).bind fun r => E_ (d + 1) mX5_behind 29 ls (xpu r.1 []) r.2 := e_call dX5_behind_26 rfl rfl
theorem wX5_behind_29 : E_ d mX5_behind 29 ls (.int x :: st) h = if x = 0 then E_ d mX5_behind 32 ls st h else E_ d mX5_behind 39 ls st h := e_zne dX5_behind_29 rfl rfl
theorem wX5_behind_32 : E_ d mX5_behind 32 [.val (.ref a), s1, s2, s3] st h = E_ d mX5_behind 33 [.val (.ref a), s1, s2, s3] (.ref a :: st) h := e_go dX5_behind_32 rfl rfl
theorem wX5_behind_33 : E_ d mX5_behind 33 ls st h = E_ d mX5_behind 35 ls (.int ((-3)) :: st) h := e_bipush dX5_behind_33 kbipush_m3 rfl
theorem wX5_behind_35 (ht : oT h a = 7) : E_ (d + 1) mX5_behind 35 ls [.int x1, .ref a] h = (C_ d mX5_no [.ref a, .int x1] h).bind fun r => E_ (d + 1) mX5_behind 38 ls (xpu r.1 []) r.2 := e_vir dX5_behind_35 rfl rfl rfl rfl rfl rfl (Nat.le_of_ble_eq_true rfl) (Nat.le_of_ble_eq_true rfl) ht
theorem wX5_behind_38 : E_ d mX5_behind 38 ls [.int x] h = some (some (.int x), h) := e_rt dX5_behind_38 rfl rfl
theorem wX5_behind_39 : E_ d mX5_behind 39 [.val (.ref a), s1, s2, s3] st h = E_ d mX5_behind 40 [.val (.ref a), s1, s2, s3] (.ref a :: st) h := e_go dX5_behind_39 rfl rfl
theorem wX5_behind_40 (ht : oT h a = 7) : E_ d mX5_behind 40 ls (.ref a :: st) h = E_ d mX5_behind 43 ls (va_rf (oR h a 2) :: st) h := e_getR0 dX5_behind_40 rfl rfl ht
theorem wX5_behind_43 : E_ d mX5_behind 43 ls st h = E_ d mX5_behind 46 ls (.int (nI 538) :: st) h := e_sipush dX5_behind_43 ksipush_538 rfl
theorem wX5_behind_46 : E_ d mX5_behind 46 [s0, .val (.int x), s2, s3] st h = E_ d mX5_behind 47 [s0, .val (.int x), s2, s3] (.int x :: st) h := e_go dX5_behind_46 rfl rfl
theorem wX5_behind_47 : E_ d mX5_behind 47 ls (.int y :: .int x :: st) h = E_ d mX5_behind 48 ls (.int (x + y) :: st) h := e_go dX5_behind_47 rfl rfl
theorem wX5_behind_48 (ht : oT h a = 40) (hi : xix x (oN h a) = true) : E_ d mX5_behind 48 ls (.int x :: .ref a :: st) h = E_ d mX5_behind 49 ls (.int (oI h a x.toNatClampNeg) :: st) h := e_iald dX5_behind_48 rfl ht hi
theorem wX5_behind_49 : E_ d mX5_behind 49 [s0, s1, s2, s3] (.int x :: st) h = E_ d mX5_behind 50 [s0, s1, xk s2, .val (.int x)] st h := e_go dX5_behind_49 rfl rfl
theorem wX5_behind_50 : E_ d mX5_behind 50 [.val (.ref a), s1, s2, s3] st h = E_ d mX5_behind 51 [.val (.ref a), s1, s2, s3] (.ref a :: st) h := e_go dX5_behind_50 rfl rfl
theorem wX5_behind_51 (ht : oT h a = 7) : E_ d mX5_behind 51 ls (.ref a :: st) h = E_ d mX5_behind 54 ls (va_rf (oR h a 2) :: st) h := e_getR0 dX5_behind_51 rfl rfl ht
theorem wX5_behind_54 : E_ d mX5_behind 54 ls st h = E_ d mX5_behind 57 ls (.int (nI 538) :: st) h := e_sipush dX5_behind_54 ksipush_538 rfl
theorem wX5_behind_57 : E_ d mX5_behind 57 [s0, .val (.int x), s2, s3] st h = E_ d mX5_behind 58 [s0, .val (.int x), s2, s3] (.int x :: st) h := e_go dX5_behind_57 rfl rfl
theorem wX5_behind_58 : E_ d mX5_behind 58 ls (.int y :: .int x :: st) h = E_ d mX5_behind 59 ls (.int (x + y) :: st) h := e_go dX5_behind_58 rfl rfl
theorem wX5_behind_59 : E_ d mX5_behind 59 [s0, s1, .val (.int x), s3] st h = E_ d mX5_behind 60 [s0, s1, .val (.int x), s3] (.int x :: st) h := e_go dX5_behind_59 rfl rfl
theorem wX5_behind_60 (ht : oT h a = 40) (hi : xix x (oN h a) = true) : E_ d mX5_behind 60 ls (.int y :: .int x :: .ref a :: st) h = E_ d mX5_behind 61 ls st (pI h a (va_up (oI h a) x.toNatClampNeg y)) := e_iast dX5_behind_60 rfl ht hi
theorem wX5_behind_61 : E_ d mX5_behind 61 [s0, s1, s2, .val (.int x)] st h = E_ d mX5_behind 62 [s0, s1, s2, .val (.int x)] (.int x :: st) h := e_go dX5_behind_61 rfl rfl
theorem wX5_behind_62 : E_ d mX5_behind 62 ls [.int x] h = some (some (.int x), h) := e_rt dX5_behind_62 rfl rfl
/-! FootOutModel.isPlace -/
theorem wX5_isPlace_0 : E_ d mX5_isPlace 0 [s0, .val (.int x)] st h = E_ d mX5_isPlace 1 [s0, .val (.int x)] (.int x :: st) h := e_go dX5_isPlace_0 rfl rfl
theorem wX5_isPlace_1 : E_ d mX5_isPlace 1 ls (.int x :: st) h = E_ d mX5_isPlace 2 ls (.long x.toInt64 :: st) h := e_go dX5_isPlace_1 rfl rfl
theorem wX5_isPlace_2 : E_ d mX5_isPlace 2 ls st h = E_ d mX5_isPlace 3 ls (.long 0 :: st) h := e_go dX5_isPlace_2 rfl rfl
theorem wX5_isPlace_3 : E_ d mX5_isPlace 3 [.val (.ref a), s1] st h = E_ d mX5_isPlace 4 [.val (.ref a), s1] (.ref a :: st) h := e_go dX5_isPlace_3 rfl rfl
theorem wX5_isPlace_4 (ht : oT h a = 7) : E_ d mX5_isPlace 4 ls (.ref a :: st) h = E_ d mX5_isPlace 7 ls (va_rf (oR h a 2) :: st) h := e_getR0 dX5_isPlace_4 rfl rfl ht
theorem wX5_isPlace_7 : E_ d mX5_isPlace 7 ls st h = E_ d mX5_isPlace 10 ls (.int (nI 477) :: st) h := e_sipush dX5_isPlace_7 ksipush_477 rfl
theorem wX5_isPlace_10 (ht : oT h a = 40) (hi : xix x (oN h a) = true) : E_ d mX5_isPlace 10 ls (.int x :: .ref a :: st) h = E_ d mX5_isPlace 11 ls (.int (oI h a x.toNatClampNeg) :: st) h := e_iald dX5_isPlace_10 rfl ht hi
theorem wX5_isPlace_11 : E_ d mX5_isPlace 11 ls st h = E_ d mX5_isPlace 12 ls (.int (nI 1) :: st) h := e_iconst dX5_isPlace_11 kiconst_1 rfl
theorem wX5_isPlace_12 : E_ d mX5_isPlace 12 ls (.int y :: .int x :: st) h = E_ d mX5_isPlace 13 ls (.int (x - y) :: st) h := e_go dX5_isPlace_12 rfl rfl
theorem wX5_isPlace_13 : E_ d mX5_isPlace 13 ls (.int x :: st) h = E_ d mX5_isPlace 14 ls (.long x.toInt64 :: st) h := e_go dX5_isPlace_13 rfl rfl
theorem wX5_isPlace_14 : E_ (d + 1) mX5_isPlace 14 ls [.long u3, .long u2, .long u1] h = (C_ d mX5_within [.long u1, .long u2, .long u3] h).bind fun r => E_ (d + 1) mX5_isPlace 17 ls (xpu r.1 []) r.2 := e_call dX5_isPlace_14 rfl rfl
theorem wX5_isPlace_17 (hx : x = 0 ∨ x = 1) : E_ d mX5_isPlace 17 ls [.int x] h = some (some (.int x), h) := e_rtZ dX5_isPlace_17 rfl hx
/-! FootOutModel.at -/
theorem wX5_at_0 : E_ d mX5_at 0 [.val (.ref a), s1, s2] st h = E_ d mX5_at 1 [.val (.ref a), s1, s2] (.ref a :: st) h := e_go dX5_at_0 rfl rfl
theorem wX5_at_1 : E_ d mX5_at 1 ls st h = E_ d mX5_at 2 ls (.int (nI 0) :: st) h := e_iconst dX5_at_1 kiconst_0 rfl
theorem wX5_at_2 (ht : oT h a = 7) : E_ d mX5_at 2 ls (.int x :: .ref a :: st) h = E_ d mX5_at 5 ls st (pI h a (va_up (oI h a) 0 x)) := e_putI dX5_at_2 rfl rfl ht
theorem wX5_at_5 : E_ d mX5_at 5 [.val (.ref a), s1, s2] st h = E_ d mX5_at 6 [.val (.ref a), s1, s2] (.ref a :: st) h := e_go dX5_at_5 rfl rfl
theorem wX5_at_6 : E_ d mX5_at 6 [s0, .val (.int x), s2] st h = E_ d mX5_at 7 [s0, .val (.int x), s2] (.int x :: st) h := e_go dX5_at_6 rfl rfl
theorem wX5_at_7 (ht : oT h a = 7) : E_ (d + 1) mX5_at 7 ls [.int x1, .ref a] h = (C_ d mX5_isPlace [.ref a, .int x1] h).bind fun r => E_ (d + 1) mX5_at 10 ls (xpu r.1 []) r.2 := e_vir dX5_at_7 rfl rfl rfl rfl rfl rfl (Nat.le_of_ble_eq_true rfl) (Nat.le_of_ble_eq_true rfl) ht
theorem wX5_at_10 : E_ d mX5_at 10 ls (.int x :: st) h = if x = 0 then E_ d mX5_at 25 ls st h else E_ d mX5_at 13 ls st h := e_zeq dX5_at_10 rfl rfl
theorem wX5_at_13 : E_ d mX5_at 13 [s0, s1, .val (.int x)] st h = E_ d mX5_at 14 [s0, s1, .val (.int x)] (.int x :: st) h := e_go dX5_at_13 rfl rfl
theorem wX5_at_14 : E_ d mX5_at 14 ls (.int x :: st) h = E_ d mX5_at 15 ls (.long x.toInt64 :: st) h := e_go dX5_at_14 rfl rfl
theorem wX5_at_15 : E_ d mX5_at 15 ls st h = E_ d mX5_at 16 ls (.long 0 :: st) h := e_go dX5_at_15 rfl rfl
theorem wX5_at_16 : E_ d mX5_at 16 ls st h = E_ d mX5_at 19 ls (.long (5) :: st) h := e_go dX5_at_16 rfl rfl
theorem wX5_at_19 : E_ (d + 1) mX5_at 19 ls [.long u3, .long u2, .long u1] h = (C_ d mX5_within [.long u1, .long u2, .long u3] h).bind fun r => E_ (d + 1) mX5_at 22 ls (xpu r.1 []) r.2 := e_call dX5_at_19 rfl rfl
theorem wX5_at_22 : E_ d mX5_at 22 ls (.int x :: st) h = if x = 0 then E_ d mX5_at 25 ls st h else E_ d mX5_at 32 ls st h := e_zne dX5_at_22 rfl rfl
theorem wX5_at_25 : E_ d mX5_at 25 [.val (.ref a), s1, s2] st h = E_ d mX5_at 26 [.val (.ref a), s1, s2] (.ref a :: st) h := e_go dX5_at_25 rfl rfl
theorem wX5_at_26 : E_ d mX5_at 26 ls st h = E_ d mX5_at 28 ls (.int ((-2)) :: st) h := e_bipush dX5_at_26 kbipush_m2 rfl
theorem wX5_at_28 (ht : oT h a = 7) : E_ (d + 1) mX5_at 28 ls [.int x1, .ref a] h = (C_ d mX5_no [.ref a, .int x1] h).bind fun r => E_ (d + 1) mX5_at 31 ls (xpu r.1 []) r.2 := e_vir dX5_at_28 rfl rfl rfl rfl rfl rfl (Nat.le_of_ble_eq_true rfl) (Nat.le_of_ble_eq_true rfl) ht
theorem wX5_at_31 : E_ d mX5_at 31 ls [.int x] h = some (some (.int x), h) := e_rt dX5_at_31 rfl rfl
theorem wX5_at_32 : E_ d mX5_at 32 [.val (.ref a), s1, s2] st h = E_ d mX5_at 33 [.val (.ref a), s1, s2] (.ref a :: st) h := e_go dX5_at_32 rfl rfl
theorem wX5_at_33 (ht : oT h a = 7) : E_ d mX5_at 33 ls (.ref a :: st) h = E_ d mX5_at 36 ls (va_rf (oR h a 2) :: st) h := e_getR0 dX5_at_33 rfl rfl ht
theorem wX5_at_36 : E_ d mX5_at 36 ls st h = E_ d mX5_at 39 ls (.int (nI 478) :: st) h := e_sipush dX5_at_36 ksipush_478 rfl
theorem wX5_at_39 : E_ d mX5_at 39 ls st h = E_ d mX5_at 41 ls (.int (nI 12) :: st) h := e_bipush dX5_at_39 kbipush_12 rfl
theorem wX5_at_41 : E_ d mX5_at 41 [s0, s1, .val (.int x)] st h = E_ d mX5_at 42 [s0, s1, .val (.int x)] (.int x :: st) h := e_go dX5_at_41 rfl rfl
theorem wX5_at_42 : E_ d mX5_at 42 ls (.int y :: .int x :: st) h = E_ d mX5_at 43 ls (.int (x * y) :: st) h := e_go dX5_at_42 rfl rfl
theorem wX5_at_43 : E_ d mX5_at 43 ls (.int y :: .int x :: st) h = E_ d mX5_at 44 ls (.int (x + y) :: st) h := e_go dX5_at_43 rfl rfl
theorem wX5_at_44 : E_ d mX5_at 44 [s0, .val (.int x), s2] st h = E_ d mX5_at 45 [s0, .val (.int x), s2] (.int x :: st) h := e_go dX5_at_44 rfl rfl
theorem wX5_at_45 : E_ d mX5_at 45 ls (.int y :: .int x :: st) h = E_ d mX5_at 46 ls (.int (x + y) :: st) h := e_go dX5_at_45 rfl rfl
theorem wX5_at_46 (ht : oT h a = 40) (hi : xix x (oN h a) = true) : E_ d mX5_at 46 ls (.int x :: .ref a :: st) h = E_ d mX5_at 47 ls (.int (oI h a x.toNatClampNeg) :: st) h := e_iald dX5_at_46 rfl ht hi
theorem wX5_at_47 : E_ d mX5_at 47 ls [.int x] h = some (some (.int x), h) := e_rt dX5_at_47 rfl rfl
/-! FootOutModel.rate -/
theorem wX5_rate_0 : E_ d mX5_rate 0 [.val (.ref a), s1, s2, s3, s4, s5, s6, s7, s8, s9] st h = E_ d mX5_rate 1 [.val (.ref a), s1, s2, s3, s4, s5, s6, s7, s8, s9] (.ref a :: st) h := e_go dX5_rate_0 rfl rfl
theorem wX5_rate_1 : E_ d mX5_rate 1 ls st h = E_ d mX5_rate 2 ls (.int (nI 0) :: st) h := e_iconst dX5_rate_1 kiconst_0 rfl
theorem wX5_rate_2 (ht : oT h a = 7) : E_ d mX5_rate 2 ls (.int x :: .ref a :: st) h = E_ d mX5_rate 5 ls st (pI h a (va_up (oI h a) 0 x)) := e_putI dX5_rate_2 rfl rfl ht
theorem wX5_rate_5 : E_ d mX5_rate 5 [s0, s1, .val (.int x), s3, s4, s5, s6, s7, s8, s9] st h = E_ d mX5_rate 6 [s0, s1, .val (.int x), s3, s4, s5, s6, s7, s8, s9] (.int x :: st) h := e_go dX5_rate_5 rfl rfl
theorem wX5_rate_6 : E_ d mX5_rate 6 ls (.int x :: st) h = E_ d mX5_rate 7 ls (.long x.toInt64 :: st) h := e_go dX5_rate_6 rfl rfl
theorem wX5_rate_7 : E_ d mX5_rate 7 ls st h = E_ d mX5_rate 8 ls (.long 0 :: st) h := e_go dX5_rate_7 rfl rfl
theorem wX5_rate_8 : E_ d mX5_rate 8 ls st h = E_ d mX5_rate 9 ls (.long 1 :: st) h := e_go dX5_rate_8 rfl rfl
theorem wX5_rate_9 : E_ (d + 1) mX5_rate 9 ls [.long u3, .long u2, .long u1] h = (C_ d mX5_within [.long u1, .long u2, .long u3] h).bind fun r => E_ (d + 1) mX5_rate 12 ls (xpu r.1 []) r.2 := e_call dX5_rate_9 rfl rfl
theorem wX5_rate_12 : E_ d mX5_rate 12 ls (.int x :: st) h = if x = 0 then E_ d mX5_rate 15 ls st h else E_ d mX5_rate 22 ls st h := e_zne dX5_rate_12 rfl rfl
theorem wX5_rate_15 : E_ d mX5_rate 15 [.val (.ref a), s1, s2, s3, s4, s5, s6, s7, s8, s9] st h = E_ d mX5_rate 16 [.val (.ref a), s1, s2, s3, s4, s5, s6, s7, s8, s9] (.ref a :: st) h := e_go dX5_rate_15 rfl rfl
theorem wX5_rate_16 : E_ d mX5_rate 16 ls st h = E_ d mX5_rate 18 ls (.int ((-2)) :: st) h := e_bipush dX5_rate_16 kbipush_m2 rfl
theorem wX5_rate_18 (ht : oT h a = 7) : E_ (d + 1) mX5_rate 18 ls [.int x1, .ref a] h = (C_ d mX5_no [.ref a, .int x1] h).bind fun r => E_ (d + 1) mX5_rate 21 ls (xpu r.1 []) r.2 := e_vir dX5_rate_18 rfl rfl rfl rfl rfl rfl (Nat.le_of_ble_eq_true rfl) (Nat.le_of_ble_eq_true rfl) ht
theorem wX5_rate_21 : E_ d mX5_rate 21 ls [.int x] h = some (some (.int x), h) := e_rt dX5_rate_21 rfl rfl
theorem wX5_rate_22 : E_ d mX5_rate 22 [s0, .val (.int x), s2, s3, s4, s5, s6, s7, s8, s9] st h = E_ d mX5_rate 23 [s0, .val (.int x), s2, s3, s4, s5, s6, s7, s8, s9] (.int x :: st) h := e_go dX5_rate_22 rfl rfl
theorem wX5_rate_23 : E_ d mX5_rate 23 ls (.int x :: st) h = if x = 0 then E_ d mX5_rate 30 ls st h else E_ d mX5_rate 26 ls st h := e_zeq dX5_rate_23 rfl rfl
theorem wX5_rate_26 : E_ d mX5_rate 26 ls st h = E_ d mX5_rate 27 ls (.int (nI 1) :: st) h := e_iconst dX5_rate_26 kiconst_1 rfl
theorem wX5_rate_27 : E_ d mX5_rate 27 ls st h = E_ d mX5_rate 31 ls st h := e_gt dX5_rate_27 rfl
theorem wX5_rate_30 : E_ d mX5_rate 30 ls st h = E_ d mX5_rate 31 ls (.int (nI 0) :: st) h := e_iconst dX5_rate_30 kiconst_0 rfl
theorem wX5_rate_31 : E_ d mX5_rate 31 [s0, s1, s2, s3, s4, s5, s6, s7, s8, s9] (.int x :: st) h = E_ d mX5_rate 32 [s0, s1, xk s2, .val (.int x), s4, s5, s6, s7, s8, s9] st h := e_go dX5_rate_31 rfl rfl
theorem wX5_rate_32 : E_ d mX5_rate 32 [.val (.ref a), s1, s2, s3, s4, s5, s6, s7, s8, s9] st h = E_ d mX5_rate 33 [.val (.ref a), s1, s2, s3, s4, s5, s6, s7, s8, s9] (.ref a :: st) h := e_go dX5_rate_32 rfl rfl
theorem wX5_rate_33 : E_ d mX5_rate 33 ls st h = E_ d mX5_rate 36 ls (.int (nI 514) :: st) h := e_sipush dX5_rate_33 ksipush_514 rfl
theorem wX5_rate_36 : E_ d mX5_rate 36 [s0, s1, s2, .val (.int x), s4, s5, s6, s7, s8, s9] st h = E_ d mX5_rate 37 [s0, s1, s2, .val (.int x), s4, s5, s6, s7, s8, s9] (.int x :: st) h := e_go dX5_rate_36 rfl rfl
theorem wX5_rate_37 (ht : oT h a = 7) : E_ (d + 1) mX5_rate 37 ls [.int x2, .int x1, .ref a] h = (C_ d mX5_sumOf [.ref a, .int x1, .int x2] h).bind fun r => E_ (d + 1) mX5_rate 40 ls (xpu r.1 []) r.2 := e_vir dX5_rate_37 rfl rfl rfl rfl rfl rfl (Nat.le_of_ble_eq_true rfl) (Nat.le_of_ble_eq_true rfl) ht
theorem wX5_rate_40 : E_ d mX5_rate 40 [.val (.ref a), s1, s2, s3, s4, s5, s6, s7, s8, s9] st h = E_ d mX5_rate 41 [.val (.ref a), s1, s2, s3, s4, s5, s6, s7, s8, s9] (.ref a :: st) h := e_go dX5_rate_40 rfl rfl
theorem wX5_rate_41 : E_ d mX5_rate 41 ls st h = E_ d mX5_rate 44 ls (.int (nI 526) :: st) h := e_sipush dX5_rate_41 ksipush_526 rfl
theorem wX5_rate_44 : E_ d mX5_rate 44 [s0, s1, s2, .val (.int x), s4, s5, s6, s7, s8, s9] st h = E_ d mX5_rate 45 [s0, s1, s2, .val (.int x), s4, s5, s6, s7, s8, s9] (.int x :: st) h := e_go dX5_rate_44 rfl rfl
theorem wX5_rate_45 (ht : oT h a = 7) : E_ (d + 1) mX5_rate 45 ls [.int x2, .int x1, .ref a, .long u1] h = (C_ d mX5_sumOf [.ref a, .int x1, .int x2] h).bind fun r => E_ (d + 1) mX5_rate 48 ls (xpu r.1 [.long u1]) r.2 := e_vir dX5_rate_45 rfl rfl rfl rfl rfl rfl (Nat.le_of_ble_eq_true rfl) (Nat.le_of_ble_eq_true rfl) ht
theorem wX5_rate_48 : E_ d mX5_rate 48 ls (.long v :: .long u :: st) h = E_ d mX5_rate 49 ls (.long (u + v) :: st) h := e_go dX5_rate_48 rfl rfl
theorem wX5_rate_49 : E_ d mX5_rate 49 [s0, s1, s2, s3, s4, s5, s6, s7, s8, s9] (.long u :: st) h = E_ d mX5_rate 51 [s0, s1, s2, xk s3, .val (.long u), .unset, s6, s7, s8, s9] st h := e_go dX5_rate_49 rfl rfl
theorem wX5_rate_51 : E_ d mX5_rate 51 [.val (.ref a), s1, s2, s3, s4, s5, s6, s7, s8, s9] st h = E_ d mX5_rate 52 [.val (.ref a), s1, s2, s3, s4, s5, s6, s7, s8, s9] (.ref a :: st) h := e_go dX5_rate_51 rfl rfl
theorem wX5_rate_52 : E_ d mX5_rate 52 ls st h = E_ d mX5_rate 55 ls (.int (nI 490) :: st) h := e_sipush dX5_rate_52 ksipush_490 rfl
theorem wX5_rate_55 : E_ d mX5_rate 55 [s0, s1, s2, .val (.int x), s4, s5, s6, s7, s8, s9] st h = E_ d mX5_rate 56 [s0, s1, s2, .val (.int x), s4, s5, s6, s7, s8, s9] (.int x :: st) h := e_go dX5_rate_55 rfl rfl
theorem wX5_rate_56 (ht : oT h a = 7) : E_ (d + 1) mX5_rate 56 ls [.int x2, .int x1, .ref a] h = (C_ d mX5_sumOf [.ref a, .int x1, .int x2] h).bind fun r => E_ (d + 1) mX5_rate 59 ls (xpu r.1 []) r.2 := e_vir dX5_rate_56 rfl rfl rfl rfl rfl rfl (Nat.le_of_ble_eq_true rfl) (Nat.le_of_ble_eq_true rfl) ht
theorem wX5_rate_59 : E_ d mX5_rate 59 [.val (.ref a), s1, s2, s3, s4, s5, s6, s7, s8, s9] st h = E_ d mX5_rate 60 [.val (.ref a), s1, s2, s3, s4, s5, s6, s7, s8, s9] (.ref a :: st) h := e_go dX5_rate_59 rfl rfl
theorem wX5_rate_60 : E_ d mX5_rate 60 ls st h = E_ d mX5_rate 63 ls (.int (nI 502) :: st) h := e_sipush dX5_rate_60 ksipush_502 rfl
theorem wX5_rate_63 : E_ d mX5_rate 63 [s0, s1, s2, .val (.int x), s4, s5, s6, s7, s8, s9] st h = E_ d mX5_rate 64 [s0, s1, s2, .val (.int x), s4, s5, s6, s7, s8, s9] (.int x :: st) h := e_go dX5_rate_63 rfl rfl
theorem wX5_rate_64 (ht : oT h a = 7) : E_ (d + 1) mX5_rate 64 ls [.int x2, .int x1, .ref a, .long u1] h = (C_ d mX5_sumOf [.ref a, .int x1, .int x2] h).bind fun r => E_ (d + 1) mX5_rate 67 ls (xpu r.1 [.long u1]) r.2 := e_vir dX5_rate_64 rfl rfl rfl rfl rfl rfl (Nat.le_of_ble_eq_true rfl) (Nat.le_of_ble_eq_true rfl) ht
theorem wX5_rate_67 : E_ d mX5_rate 67 ls (.long v :: .long u :: st) h = E_ d mX5_rate 68 ls (.long (u + v) :: st) h := e_go dX5_rate_67 rfl rfl
theorem wX5_rate_68 : E_ d mX5_rate 68 [s0, s1, s2, s3, s4, s5, s6, s7, s8, s9] (.long u :: st) h = E_ d mX5_rate 70 [s0, s1, s2, s3, s4, xk s5, .val (.long u), .unset, s8, s9] st h := e_go dX5_rate_68 rfl rfl
theorem wX5_rate_70 : E_ d mX5_rate 70 [s0, s1, s2, s3, s4, s5, .val (.long u), s7, s8, s9] st h = E_ d mX5_rate 72 [s0, s1, s2, s3, s4, s5, .val (.long u), s7, s8, s9] (.long u :: st) h := e_go dX5_rate_70 rfl rfl
theorem wX5_rate_72 : E_ d mX5_rate 72 ls st h = E_ d mX5_rate 73 ls (.long 0 :: st) h := e_go dX5_rate_72 rfl rfl
theorem wX5_rate_73 : E_ d mX5_rate 73 ls (.long v :: .long u :: st) h = E_ d mX5_rate 74 ls (.int (lg_cmp u v) :: st) h := e_go dX5_rate_73 rfl rfl
theorem wX5_rate_74 : E_ d mX5_rate 74 ls (.int x :: st) h = if x = 0 then E_ d mX5_rate 77 ls st h else E_ d mX5_rate 79 ls st h := e_zne dX5_rate_74 rfl rfl
theorem wX5_rate_77 : E_ d mX5_rate 77 [s0, s1, .val (.int x), s3, s4, s5, s6, s7, s8, s9] st h = E_ d mX5_rate 78 [s0, s1, .val (.int x), s3, s4, s5, s6, s7, s8, s9] (.int x :: st) h := e_go dX5_rate_77 rfl rfl
theorem wX5_rate_78 : E_ d mX5_rate 78 ls [.int x] h = some (some (.int x), h) := e_rt dX5_rate_78 rfl rfl
theorem wX5_rate_79 : E_ d mX5_rate 79 [s0, s1, s2, s3, .val (.long u), s5, s6, s7, s8, s9] st h = E_ d mX5_rate 81 [s0, s1, s2, s3, .val (.long u), s5, s6, s7, s8, s9] (.long u :: st) h := e_go dX5_rate_79 rfl rfl
theorem wX5_rate_81 : E_ d mX5_rate 81 [s0, s1, s2, s3, s4, s5, .val (.long u), s7, s8, s9] st h = E_ d mX5_rate 83 [s0, s1, s2, s3, s4, s5, .val (.long u), s7, s8, s9] (.long u :: st) h := e_go dX5_rate_81 rfl rfl
theorem wX5_rate_83 : E_ (d + 1) mX5_rate 83 ls [.long u2, .long u1] h = (C_ d mX5_common [.long u1, .long u2] h).bind fun r => E_ (d + 1) mX5_rate 86 ls (xpu r.1 []) r.2 := e_call dX5_rate_83 rfl rfl
theorem wX5_rate_86 : E_ d mX5_rate 86 [s0, s1, s2, s3, s4, s5, s6, s7, s8, s9] (.long u :: st) h = E_ d mX5_rate 88 [s0, s1, s2, s3, s4, s5, s6, xk s7, .val (.long u), .unset] st h := e_go dX5_rate_86 rfl rfl
theorem wX5_rate_88 : E_ d mX5_rate 88 [s0, s1, .val (.int x), s3, s4, s5, s6, s7, s8, s9] st h = E_ d mX5_rate 89 [s0, s1, .val (.int x), s3, s4, s5, s6, s7, s8, s9] (.int x :: st) h := e_go dX5_rate_88 rfl rfl
theorem wX5_rate_89 : E_ d mX5_rate 89 ls (.int x :: st) h = if x = 0 then E_ d mX5_rate 92 ls st h else E_ d mX5_rate 97 ls st h := e_zne dX5_rate_89 rfl rfl
theorem wX5_rate_92 : E_ d mX5_rate 92 [s0, s1, s2, s3, .val (.long u), s5, s6, s7, s8, s9] st h = E_ d mX5_rate 94 [s0, s1, s2, s3, .val (.long u), s5, s6, s7, s8, s9] (.long u :: st) h := e_go dX5_rate_92 rfl rfl
theorem wX5_rate_94 : E_ d mX5_rate 94 ls st h = E_ d mX5_rate 99 ls st h := e_gt dX5_rate_94 rfl
theorem wX5_rate_97 : E_ d mX5_rate 97 [s0, s1, s2, s3, s4, s5, .val (.long u), s7, s8, s9] st h = E_ d mX5_rate 99 [s0, s1, s2, s3, s4, s5, .val (.long u), s7, s8, s9] (.long u :: st) h := e_go dX5_rate_97 rfl rfl
theorem wX5_rate_99 : E_ d mX5_rate 99 [s0, s1, s2, s3, s4, s5, s6, s7, .val (.long u), s9] st h = E_ d mX5_rate 101 [s0, s1, s2, s3, s4, s5, s6, s7, .val (.long u), s9] (.long u :: st) h := e_go dX5_rate_99 rfl rfl
theorem wX5_rate_101 (hy : ¬ v = 0) : E_ d mX5_rate 101 ls (.long v :: .long u :: st) h = E_ d mX5_rate 102 ls (.long (u / v) :: st) h := e_ldiv dX5_rate_101 rfl hy
theorem wX5_rate_102 : E_ d mX5_rate 102 ls (.long u :: st) h = E_ d mX5_rate 103 ls (.int u.toInt32 :: st) h := e_go dX5_rate_102 rfl rfl
theorem wX5_rate_103 : E_ d mX5_rate 103 ls [.int x] h = some (some (.int x), h) := e_rt dX5_rate_103 rfl rfl
/-! FootOutModel.sumOf -/
theorem wX5_sumOf_0 : E_ d mX5_sumOf 0 ls st h = E_ d mX5_sumOf 1 ls (.long 0 :: st) h := e_go dX5_sumOf_0 rfl rfl
theorem wX5_sumOf_1 : E_ d mX5_sumOf 1 [s0, s1, s2, s3, s4, s5] (.long u :: st) h = E_ d mX5_sumOf 2 [s0, s1, xk s2, .val (.long u), .unset, s5] st h := e_go dX5_sumOf_1 rfl rfl
theorem wX5_sumOf_2 : E_ d mX5_sumOf 2 ls st h = E_ d mX5_sumOf 3 ls (.int (nI 0) :: st) h := e_iconst dX5_sumOf_2 kiconst_0 rfl
theorem wX5_sumOf_3 : E_ d mX5_sumOf 3 [s0, s1, s2, s3, s4, s5] (.int x :: st) h = E_ d mX5_sumOf 5 [s0, s1, s2, s3, xk s4, .val (.int x)] st h := e_go dX5_sumOf_3 rfl rfl
theorem wX5_sumOf_5 : E_ d mX5_sumOf 5 [s0, s1, s2, s3, s4, .val (.int x)] st h = E_ d mX5_sumOf 7 [s0, s1, s2, s3, s4, .val (.int x)] (.int x :: st) h := e_go dX5_sumOf_5 rfl rfl
theorem wX5_sumOf_7 : E_ d mX5_sumOf 7 [.val (.ref a), s1, s2, s3, s4, s5] st h = E_ d mX5_sumOf 8 [.val (.ref a), s1, s2, s3, s4, s5] (.ref a :: st) h := e_go dX5_sumOf_7 rfl rfl
theorem wX5_sumOf_8 (ht : oT h a = 7) : E_ d mX5_sumOf 8 ls (.ref a :: st) h = E_ d mX5_sumOf 11 ls (va_rf (oR h a 2) :: st) h := e_getR0 dX5_sumOf_8 rfl rfl ht
theorem wX5_sumOf_11 : E_ d mX5_sumOf 11 ls st h = E_ d mX5_sumOf 14 ls (.int (nI 477) :: st) h := e_sipush dX5_sumOf_11 ksipush_477 rfl
theorem wX5_sumOf_14 (ht : oT h a = 40) (hi : xix x (oN h a) = true) : E_ d mX5_sumOf 14 ls (.int x :: .ref a :: st) h = E_ d mX5_sumOf 15 ls (.int (oI h a x.toNatClampNeg) :: st) h := e_iald dX5_sumOf_14 rfl ht hi
theorem wX5_sumOf_15 : E_ d mX5_sumOf 15 ls (.int y :: .int x :: st) h = if x < y then E_ d mX5_sumOf 18 ls st h else E_ d mX5_sumOf 61 ls st h := e_ige dX5_sumOf_15 rfl rfl
theorem wX5_sumOf_18 : E_ d mX5_sumOf 18 [s0, s1, s2, .val (.long u), s4, s5] st h = E_ d mX5_sumOf 19 [s0, s1, s2, .val (.long u), s4, s5] (.long u :: st) h := e_go dX5_sumOf_18 rfl rfl
theorem wX5_sumOf_19 : E_ d mX5_sumOf 19 [s0, s1, .val (.int x), s3, s4, s5] st h = E_ d mX5_sumOf 20 [s0, s1, .val (.int x), s3, s4, s5] (.int x :: st) h := e_go dX5_sumOf_19 rfl rfl
theorem wX5_sumOf_20 : E_ d mX5_sumOf 20 ls st h = E_ d mX5_sumOf 21 ls (.int (nI 2) :: st) h := e_iconst dX5_sumOf_20 kiconst_2 rfl
theorem wX5_sumOf_21 : E_ d mX5_sumOf 21 ls (.int y :: .int x :: st) h = if x = y then E_ d mX5_sumOf 39 ls st h else E_ d mX5_sumOf 24 ls st h := e_ieq dX5_sumOf_21 rfl rfl
theorem wX5_sumOf_24 : E_ d mX5_sumOf 24 [.val (.ref a), s1, s2, s3, s4, s5] st h = E_ d mX5_sumOf 25 [.val (.ref a), s1, s2, s3, s4, s5] (.ref a :: st) h := e_go dX5_sumOf_24 rfl rfl
theorem wX5_sumOf_25 (ht : oT h a = 7) : E_ d mX5_sumOf 25 ls (.ref a :: st) h = E_ d mX5_sumOf 28 ls (va_rf (oR h a 2) :: st) h := e_getR0 dX5_sumOf_25 rfl rfl ht
theorem wX5_sumOf_28 : E_ d mX5_sumOf 28 ls st h = E_ d mX5_sumOf 31 ls (.int (nI 478) :: st) h := e_sipush dX5_sumOf_28 ksipush_478 rfl
theorem wX5_sumOf_31 : E_ d mX5_sumOf 31 [s0, s1, s2, s3, s4, .val (.int x)] st h = E_ d mX5_sumOf 33 [s0, s1, s2, s3, s4, .val (.int x)] (.int x :: st) h := e_go dX5_sumOf_31 rfl rfl
theorem wX5_sumOf_33 : E_ d mX5_sumOf 33 ls (.int y :: .int x :: st) h = E_ d mX5_sumOf 34 ls (.int (x + y) :: st) h := e_go dX5_sumOf_33 rfl rfl
theorem wX5_sumOf_34 (ht : oT h a = 40) (hi : xix x (oN h a) = true) : E_ d mX5_sumOf 34 ls (.int x :: .ref a :: st) h = E_ d mX5_sumOf 35 ls (.int (oI h a x.toNatClampNeg) :: st) h := e_iald dX5_sumOf_34 rfl ht hi
theorem wX5_sumOf_35 : E_ d mX5_sumOf 35 [s0, s1, .val (.int x), s3, s4, s5] st h = E_ d mX5_sumOf 36 [s0, s1, .val (.int x), s3, s4, s5] (.int x :: st) h := e_go dX5_sumOf_35 rfl rfl
theorem wX5_sumOf_36 : E_ d mX5_sumOf 36 ls (.int y :: .int x :: st) h = if x = y then E_ d mX5_sumOf 39 ls st h else E_ d mX5_sumOf 52 ls st h := e_ine dX5_sumOf_36 rfl rfl
theorem wX5_sumOf_39 : E_ d mX5_sumOf 39 [.val (.ref a), s1, s2, s3, s4, s5] st h = E_ d mX5_sumOf 40 [.val (.ref a), s1, s2, s3, s4, s5] (.ref a :: st) h := e_go dX5_sumOf_39 rfl rfl
theorem wX5_sumOf_40 (ht : oT h a = 7) : E_ d mX5_sumOf 40 ls (.ref a :: st) h = E_ d mX5_sumOf 43 ls (va_rf (oR h a 2) :: st) h := e_getR0 dX5_sumOf_40 rfl rfl ht
theorem wX5_sumOf_43 : E_ d mX5_sumOf 43 [s0, .val (.int x), s2, s3, s4, s5] st h = E_ d mX5_sumOf 44 [s0, .val (.int x), s2, s3, s4, s5] (.int x :: st) h := e_go dX5_sumOf_43 rfl rfl
theorem wX5_sumOf_44 : E_ d mX5_sumOf 44 [s0, s1, s2, s3, s4, .val (.int x)] st h = E_ d mX5_sumOf 46 [s0, s1, s2, s3, s4, .val (.int x)] (.int x :: st) h := e_go dX5_sumOf_44 rfl rfl
theorem wX5_sumOf_46 : E_ d mX5_sumOf 46 ls (.int y :: .int x :: st) h = E_ d mX5_sumOf 47 ls (.int (x + y) :: st) h := e_go dX5_sumOf_46 rfl rfl
theorem wX5_sumOf_47 (ht : oT h a = 40) (hi : xix x (oN h a) = true) : E_ d mX5_sumOf 47 ls (.int x :: .ref a :: st) h = E_ d mX5_sumOf 48 ls (.int (oI h a x.toNatClampNeg) :: st) h := e_iald dX5_sumOf_47 rfl ht hi
theorem wX5_sumOf_48 : E_ d mX5_sumOf 48 ls (.int x :: st) h = E_ d mX5_sumOf 49 ls (.long x.toInt64 :: st) h := e_go dX5_sumOf_48 rfl rfl
theorem wX5_sumOf_49 : E_ d mX5_sumOf 49 ls st h = E_ d mX5_sumOf 53 ls st h := e_gt dX5_sumOf_49 rfl
theorem wX5_sumOf_52 : E_ d mX5_sumOf 52 ls st h = E_ d mX5_sumOf 53 ls (.long 0 :: st) h := e_go dX5_sumOf_52 rfl rfl
theorem wX5_sumOf_53 : E_ d mX5_sumOf 53 ls (.long v :: .long u :: st) h = E_ d mX5_sumOf 54 ls (.long (u + v) :: st) h := e_go dX5_sumOf_53 rfl rfl
theorem wX5_sumOf_54 : E_ d mX5_sumOf 54 [s0, s1, s2, s3, s4, s5] (.long u :: st) h = E_ d mX5_sumOf 55 [s0, s1, xk s2, .val (.long u), .unset, s5] st h := e_go dX5_sumOf_54 rfl rfl
theorem wX5_sumOf_55 : E_ d mX5_sumOf 55 [s0, s1, s2, s3, s4, .val (.int x)] st h = E_ d mX5_sumOf 58 [s0, s1, s2, s3, xk s4, .val (.int (x + nI 1))] st h := by rw [← kiinc_1]; exact e_go dX5_sumOf_55 rfl rfl
theorem wX5_sumOf_58 : E_ d mX5_sumOf 58 ls st h = E_ d mX5_sumOf 5 ls st h := e_gt dX5_sumOf_58 rfl
theorem wX5_sumOf_61 : E_ d mX5_sumOf 61 [s0, s1, s2, .val (.long u), s4, s5] st h = E_ d mX5_sumOf 62 [s0, s1, s2, .val (.long u), s4, s5] (.long u :: st) h := e_go dX5_sumOf_61 rfl rfl
theorem wX5_sumOf_62 : E_ d mX5_sumOf 62 ls [.long u] h = some (some (.long u), h) := e_rt dX5_sumOf_62 rfl rfl
/-! FootOutModel.parted -/
theorem wX5_parted_0 : E_ d mX5_parted 0 [.val (.ref a), s1, s2, s3, s4] st h = E_ d mX5_parted 1 [.val (.ref a), s1, s2, s3, s4] (.ref a :: st) h := e_go dX5_parted_0 rfl rfl
theorem wX5_parted_1 : E_ d mX5_parted 1 ls st h = E_ d mX5_parted 2 ls (.int (nI 0) :: st) h := e_iconst dX5_parted_1 kiconst_0 rfl
theorem wX5_parted_2 (ht : oT h a = 7) : E_ d mX5_parted 2 ls (.int x :: .ref a :: st) h = E_ d mX5_parted 5 ls st (pI h a (va_up (oI h a) 0 x)) := e_putI dX5_parted_2 rfl rfl ht
theorem wX5_parted_5 : E_ d mX5_parted 5 [.val (.ref a), s1, s2, s3, s4] st h = E_ d mX5_parted 6 [.val (.ref a), s1, s2, s3, s4] (.ref a :: st) h := e_go dX5_parted_5 rfl rfl
theorem wX5_parted_6 : E_ d mX5_parted 6 ls st h = E_ d mX5_parted 7 ls (.int (nI 1) :: st) h := e_iconst dX5_parted_6 kiconst_1 rfl
theorem wX5_parted_7 (ht : oT h a = 7) : E_ (d + 1) mX5_parted 7 ls [.int x1, .ref a] h = (C_ d mX5_partedAbove [.ref a, .int x1] h).bind fun r => E_ (d + 1) mX5_parted 10 ls (xpu r.1 []) r.2 := e_vir dX5_parted_7 rfl rfl rfl rfl rfl rfl (Nat.le_of_ble_eq_true rfl) (Nat.le_of_ble_eq_true rfl) ht
theorem wX5_parted_10 : E_ d mX5_parted 10 [.val (.ref a), s1, s2, s3, s4] st h = E_ d mX5_parted 11 [.val (.ref a), s1, s2, s3, s4] (.ref a :: st) h := e_go dX5_parted_10 rfl rfl
theorem wX5_parted_11 : E_ d mX5_parted 11 ls st h = E_ d mX5_parted 12 ls (.int (nI 0) :: st) h := e_iconst dX5_parted_11 kiconst_0 rfl
theorem wX5_parted_12 (ht : oT h a = 7) : E_ (d + 1) mX5_parted 12 ls [.int x1, .ref a, .long u1] h = (C_ d mX5_partedBelow [.ref a, .int x1] h).bind fun r => E_ (d + 1) mX5_parted 15 ls (xpu r.1 [.long u1]) r.2 := e_vir dX5_parted_12 rfl rfl rfl rfl rfl rfl (Nat.le_of_ble_eq_true rfl) (Nat.le_of_ble_eq_true rfl) ht
theorem wX5_parted_15 : E_ d mX5_parted 15 ls (.long v :: .long u :: st) h = E_ d mX5_parted 16 ls (.long (u * v) :: st) h := e_go dX5_parted_15 rfl rfl
theorem wX5_parted_16 : E_ d mX5_parted 16 [s0, s1, s2, s3, s4] (.long u :: st) h = E_ d mX5_parted 17 [xk s0, .val (.long u), .unset, s3, s4] st h := e_go dX5_parted_16 rfl rfl
theorem wX5_parted_17 : E_ d mX5_parted 17 [.val (.ref a), s1, s2, s3, s4] st h = E_ d mX5_parted 18 [.val (.ref a), s1, s2, s3, s4] (.ref a :: st) h := e_go dX5_parted_17 rfl rfl
theorem wX5_parted_18 : E_ d mX5_parted 18 ls st h = E_ d mX5_parted 19 ls (.int (nI 0) :: st) h := e_iconst dX5_parted_18 kiconst_0 rfl
theorem wX5_parted_19 (ht : oT h a = 7) : E_ (d + 1) mX5_parted 19 ls [.int x1, .ref a] h = (C_ d mX5_partedAbove [.ref a, .int x1] h).bind fun r => E_ (d + 1) mX5_parted 22 ls (xpu r.1 []) r.2 := e_vir dX5_parted_19 rfl rfl rfl rfl rfl rfl (Nat.le_of_ble_eq_true rfl) (Nat.le_of_ble_eq_true rfl) ht
theorem wX5_parted_22 : E_ d mX5_parted 22 [.val (.ref a), s1, s2, s3, s4] st h = E_ d mX5_parted 23 [.val (.ref a), s1, s2, s3, s4] (.ref a :: st) h := e_go dX5_parted_22 rfl rfl
theorem wX5_parted_23 : E_ d mX5_parted 23 ls st h = E_ d mX5_parted 24 ls (.int (nI 1) :: st) h := e_iconst dX5_parted_23 kiconst_1 rfl
theorem wX5_parted_24 (ht : oT h a = 7) : E_ (d + 1) mX5_parted 24 ls [.int x1, .ref a, .long u1] h = (C_ d mX5_partedBelow [.ref a, .int x1] h).bind fun r => E_ (d + 1) mX5_parted 27 ls (xpu r.1 [.long u1]) r.2 := e_vir dX5_parted_24 rfl rfl rfl rfl rfl rfl (Nat.le_of_ble_eq_true rfl) (Nat.le_of_ble_eq_true rfl) ht
theorem wX5_parted_27 : E_ d mX5_parted 27 ls (.long v :: .long u :: st) h = E_ d mX5_parted 28 ls (.long (u * v) :: st) h := e_go dX5_parted_27 rfl rfl
theorem wX5_parted_28 : E_ d mX5_parted 28 [s0, s1, s2, s3, s4] (.long u :: st) h = E_ d mX5_parted 29 [s0, s1, xk s2, .val (.long u), .unset] st h := e_go dX5_parted_28 rfl rfl
theorem wX5_parted_29 : E_ d mX5_parted 29 [s0, .val (.long u), s2, s3, s4] st h = E_ d mX5_parted 30 [s0, .val (.long u), s2, s3, s4] (.long u :: st) h := e_go dX5_parted_29 rfl rfl
theorem wX5_parted_30 : E_ d mX5_parted 30 [s0, s1, s2, .val (.long u), s4] st h = E_ d mX5_parted 31 [s0, s1, s2, .val (.long u), s4] (.long u :: st) h := e_go dX5_parted_30 rfl rfl
theorem wX5_parted_31 : E_ d mX5_parted 31 ls (.long v :: .long u :: st) h = E_ d mX5_parted 32 ls (.int (lg_cmp u v) :: st) h := e_go dX5_parted_31 rfl rfl
theorem wX5_parted_32 : E_ d mX5_parted 32 ls (.int x :: st) h = if 0 < x then E_ d mX5_parted 35 ls st h else E_ d mX5_parted 39 ls st h := e_zle dX5_parted_32 rfl rfl
theorem wX5_parted_35 : E_ d mX5_parted 35 ls st h = E_ d mX5_parted 36 ls (.int (nI 1) :: st) h := e_iconst dX5_parted_35 kiconst_1 rfl
theorem wX5_parted_36 : E_ d mX5_parted 36 ls st h = E_ d mX5_parted 50 ls st h := e_gt dX5_parted_36 rfl
theorem wX5_parted_39 : E_ d mX5_parted 39 [s0, .val (.long u), s2, s3, s4] st h = E_ d mX5_parted 40 [s0, .val (.long u), s2, s3, s4] (.long u :: st) h := e_go dX5_parted_39 rfl rfl
theorem wX5_parted_40 : E_ d mX5_parted 40 [s0, s1, s2, .val (.long u), s4] st h = E_ d mX5_parted 41 [s0, s1, s2, .val (.long u), s4] (.long u :: st) h := e_go dX5_parted_40 rfl rfl
theorem wX5_parted_41 : E_ d mX5_parted 41 ls (.long v :: .long u :: st) h = E_ d mX5_parted 42 ls (.int (lg_cmp u v) :: st) h := e_go dX5_parted_41 rfl rfl
theorem wX5_parted_42 : E_ d mX5_parted 42 ls (.int x :: st) h = if x = 0 then E_ d mX5_parted 45 ls st h else E_ d mX5_parted 49 ls st h := e_zne dX5_parted_42 rfl rfl
theorem wX5_parted_45 : E_ d mX5_parted 45 ls st h = E_ d mX5_parted 46 ls (.int (nI 0) :: st) h := e_iconst dX5_parted_45 kiconst_0 rfl
theorem wX5_parted_46 : E_ d mX5_parted 46 ls st h = E_ d mX5_parted 50 ls st h := e_gt dX5_parted_46 rfl
theorem wX5_parted_49 : E_ d mX5_parted 49 ls st h = E_ d mX5_parted 50 ls (.int (nI 2) :: st) h := e_iconst dX5_parted_49 kiconst_2 rfl
theorem wX5_parted_50 : E_ d mX5_parted 50 ls [.int x] h = some (some (.int x), h) := e_rt dX5_parted_50 rfl rfl
/-! FootOutModel.partedAbove -/
theorem wX5_partedAbove_0 : E_ d mX5_partedAbove 0 [.val (.ref a), s1, s2, s3, s4, s5, s6, s7, s8, s9] st h = E_ d mX5_partedAbove 1 [.val (.ref a), s1, s2, s3, s4, s5, s6, s7, s8, s9] (.ref a :: st) h := e_go dX5_partedAbove_0 rfl rfl
theorem wX5_partedAbove_1 : E_ d mX5_partedAbove 1 ls st h = E_ d mX5_partedAbove 4 ls (.int (nI 490) :: st) h := e_sipush dX5_partedAbove_1 ksipush_490 rfl
theorem wX5_partedAbove_4 : E_ d mX5_partedAbove 4 [s0, .val (.int x), s2, s3, s4, s5, s6, s7, s8, s9] st h = E_ d mX5_partedAbove 5 [s0, .val (.int x), s2, s3, s4, s5, s6, s7, s8, s9] (.int x :: st) h := e_go dX5_partedAbove_4 rfl rfl
theorem wX5_partedAbove_5 (ht : oT h a = 7) : E_ (d + 1) mX5_partedAbove 5 ls [.int x2, .int x1, .ref a] h = (C_ d mX5_sumOf [.ref a, .int x1, .int x2] h).bind fun r => E_ (d + 1) mX5_partedAbove 8 ls (xpu r.1 []) r.2 := e_vir dX5_partedAbove_5 rfl rfl rfl rfl rfl rfl (Nat.le_of_ble_eq_true rfl) (Nat.le_of_ble_eq_true rfl) ht
theorem wX5_partedAbove_8 : E_ d mX5_partedAbove 8 [s0, s1, s2, s3, s4, s5, s6, s7, s8, s9] (.long u :: st) h = E_ d mX5_partedAbove 9 [s0, xk s1, .val (.long u), .unset, s4, s5, s6, s7, s8, s9] st h := e_go dX5_partedAbove_8 rfl rfl
theorem wX5_partedAbove_9 : E_ d mX5_partedAbove 9 [.val (.ref a), s1, s2, s3, s4, s5, s6, s7, s8, s9] st h = E_ d mX5_partedAbove 10 [.val (.ref a), s1, s2, s3, s4, s5, s6, s7, s8, s9] (.ref a :: st) h := e_go dX5_partedAbove_9 rfl rfl
theorem wX5_partedAbove_10 : E_ d mX5_partedAbove 10 ls st h = E_ d mX5_partedAbove 13 ls (.int (nI 502) :: st) h := e_sipush dX5_partedAbove_10 ksipush_502 rfl
theorem wX5_partedAbove_13 : E_ d mX5_partedAbove 13 [s0, .val (.int x), s2, s3, s4, s5, s6, s7, s8, s9] st h = E_ d mX5_partedAbove 14 [s0, .val (.int x), s2, s3, s4, s5, s6, s7, s8, s9] (.int x :: st) h := e_go dX5_partedAbove_13 rfl rfl
theorem wX5_partedAbove_14 (ht : oT h a = 7) : E_ (d + 1) mX5_partedAbove 14 ls [.int x2, .int x1, .ref a] h = (C_ d mX5_sumOf [.ref a, .int x1, .int x2] h).bind fun r => E_ (d + 1) mX5_partedAbove 17 ls (xpu r.1 []) r.2 := e_vir dX5_partedAbove_14 rfl rfl rfl rfl rfl rfl (Nat.le_of_ble_eq_true rfl) (Nat.le_of_ble_eq_true rfl) ht
theorem wX5_partedAbove_17 : E_ d mX5_partedAbove 17 [s0, s1, s2, s3, s4, s5, s6, s7, s8, s9] (.long u :: st) h = E_ d mX5_partedAbove 19 [s0, s1, s2, xk s3, .val (.long u), .unset, s6, s7, s8, s9] st h := e_go dX5_partedAbove_17 rfl rfl
theorem wX5_partedAbove_19 : E_ d mX5_partedAbove 19 [s0, s1, .val (.long u), s3, s4, s5, s6, s7, s8, s9] st h = E_ d mX5_partedAbove 20 [s0, s1, .val (.long u), s3, s4, s5, s6, s7, s8, s9] (.long u :: st) h := e_go dX5_partedAbove_19 rfl rfl
theorem wX5_partedAbove_20 : E_ d mX5_partedAbove 20 ls st h = E_ d mX5_partedAbove 21 ls (.long 0 :: st) h := e_go dX5_partedAbove_20 rfl rfl
theorem wX5_partedAbove_21 : E_ d mX5_partedAbove 21 ls (.long v :: .long u :: st) h = E_ d mX5_partedAbove 22 ls (.int (lg_cmp u v) :: st) h := e_go dX5_partedAbove_21 rfl rfl
theorem wX5_partedAbove_22 : E_ d mX5_partedAbove 22 ls (.int x :: st) h = if x = 0 then E_ d mX5_partedAbove 25 ls st h else E_ d mX5_partedAbove 29 ls st h := e_zne dX5_partedAbove_22 rfl rfl
theorem wX5_partedAbove_25 : E_ d mX5_partedAbove 25 ls st h = E_ d mX5_partedAbove 26 ls (.long 0 :: st) h := e_go dX5_partedAbove_25 rfl rfl
theorem wX5_partedAbove_26 : E_ d mX5_partedAbove 26 ls st h = E_ d mX5_partedAbove 60 ls st h := e_gt dX5_partedAbove_26 rfl
theorem wX5_partedAbove_29 : E_ d mX5_partedAbove 29 [.val (.ref a), s1, s2, s3, s4, s5, s6, s7, s8, s9] st h = E_ d mX5_partedAbove 30 [.val (.ref a), s1, s2, s3, s4, s5, s6, s7, s8, s9] (.ref a :: st) h := e_go dX5_partedAbove_29 rfl rfl
theorem wX5_partedAbove_30 : E_ d mX5_partedAbove 30 ls st h = E_ d mX5_partedAbove 33 ls (.int (nI 514) :: st) h := e_sipush dX5_partedAbove_30 ksipush_514 rfl
theorem wX5_partedAbove_33 : E_ d mX5_partedAbove 33 [s0, .val (.int x), s2, s3, s4, s5, s6, s7, s8, s9] st h = E_ d mX5_partedAbove 34 [s0, .val (.int x), s2, s3, s4, s5, s6, s7, s8, s9] (.int x :: st) h := e_go dX5_partedAbove_33 rfl rfl
theorem wX5_partedAbove_34 (ht : oT h a = 7) : E_ (d + 1) mX5_partedAbove 34 ls [.int x2, .int x1, .ref a] h = (C_ d mX5_sumOf [.ref a, .int x1, .int x2] h).bind fun r => E_ (d + 1) mX5_partedAbove 37 ls (xpu r.1 []) r.2 := e_vir dX5_partedAbove_34 rfl rfl rfl rfl rfl rfl (Nat.le_of_ble_eq_true rfl) (Nat.le_of_ble_eq_true rfl) ht
theorem wX5_partedAbove_37 : E_ d mX5_partedAbove 37 [.val (.ref a), s1, s2, s3, s4, s5, s6, s7, s8, s9] st h = E_ d mX5_partedAbove 38 [.val (.ref a), s1, s2, s3, s4, s5, s6, s7, s8, s9] (.ref a :: st) h := e_go dX5_partedAbove_37 rfl rfl
theorem wX5_partedAbove_38 : E_ d mX5_partedAbove 38 ls st h = E_ d mX5_partedAbove 41 ls (.int (nI 490) :: st) h := e_sipush dX5_partedAbove_38 ksipush_490 rfl
theorem wX5_partedAbove_41 : E_ d mX5_partedAbove 41 ls st h = E_ d mX5_partedAbove 42 ls (.int (nI 2) :: st) h := e_iconst dX5_partedAbove_41 kiconst_2 rfl
theorem wX5_partedAbove_42 (ht : oT h a = 7) : E_ (d + 1) mX5_partedAbove 42 ls [.int x2, .int x1, .ref a, .long u1] h = (C_ d mX5_sumOf [.ref a, .int x1, .int x2] h).bind fun r => E_ (d + 1) mX5_partedAbove 45 ls (xpu r.1 [.long u1]) r.2 := e_vir dX5_partedAbove_42 rfl rfl rfl rfl rfl rfl (Nat.le_of_ble_eq_true rfl) (Nat.le_of_ble_eq_true rfl) ht
theorem wX5_partedAbove_45 : E_ d mX5_partedAbove 45 ls (.long v :: .long u :: st) h = E_ d mX5_partedAbove 46 ls (.long (u * v) :: st) h := e_go dX5_partedAbove_45 rfl rfl
theorem wX5_partedAbove_46 : E_ d mX5_partedAbove 46 [s0, s1, s2, s3, .val (.long u), s5, s6, s7, s8, s9] st h = E_ d mX5_partedAbove 48 [s0, s1, s2, s3, .val (.long u), s5, s6, s7, s8, s9] (.long u :: st) h := e_go dX5_partedAbove_46 rfl rfl
theorem wX5_partedAbove_48 : E_ d mX5_partedAbove 48 ls st h = E_ d mX5_partedAbove 49 ls (.long 0 :: st) h := e_go dX5_partedAbove_48 rfl rfl
theorem wX5_partedAbove_49 : E_ d mX5_partedAbove 49 ls (.long v :: .long u :: st) h = E_ d mX5_partedAbove 50 ls (.int (lg_cmp u v) :: st) h := e_go dX5_partedAbove_49 rfl rfl
theorem wX5_partedAbove_50 : E_ d mX5_partedAbove 50 ls (.int x :: st) h = if x = 0 then E_ d mX5_partedAbove 53 ls st h else E_ d mX5_partedAbove 57 ls st h := e_zne dX5_partedAbove_50 rfl rfl
theorem wX5_partedAbove_53 : E_ d mX5_partedAbove 53 ls st h = E_ d mX5_partedAbove 54 ls (.long 1 :: st) h := e_go dX5_partedAbove_53 rfl rfl
theorem wX5_partedAbove_54 : E_ d mX5_partedAbove 54 ls st h = E_ d mX5_partedAbove 59 ls st h := e_gt dX5_partedAbove_54 rfl
theorem wX5_partedAbove_57 : E_ d mX5_partedAbove 57 [s0, s1, s2, s3, .val (.long u), s5, s6, s7, s8, s9] st h = E_ d mX5_partedAbove 59 [s0, s1, s2, s3, .val (.long u), s5, s6, s7, s8, s9] (.long u :: st) h := e_go dX5_partedAbove_57 rfl rfl
theorem wX5_partedAbove_59 : E_ d mX5_partedAbove 59 ls (.long v :: .long u :: st) h = E_ d mX5_partedAbove 60 ls (.long (u * v) :: st) h := e_go dX5_partedAbove_59 rfl rfl
theorem wX5_partedAbove_60 : E_ d mX5_partedAbove 60 [s0, s1, s2, s3, s4, s5, s6, s7, s8, s9] (.long u :: st) h = E_ d mX5_partedAbove 62 [s0, s1, s2, s3, s4, xk s5, .val (.long u), .unset, s8, s9] st h := e_go dX5_partedAbove_60 rfl rfl
theorem wX5_partedAbove_62 : E_ d mX5_partedAbove 62 [s0, s1, s2, s3, .val (.long u), s5, s6, s7, s8, s9] st h = E_ d mX5_partedAbove 64 [s0, s1, s2, s3, .val (.long u), s5, s6, s7, s8, s9] (.long u :: st) h := e_go dX5_partedAbove_62 rfl rfl
theorem wX5_partedAbove_64 : E_ d mX5_partedAbove 64 ls st h = E_ d mX5_partedAbove 65 ls (.long 0 :: st) h := e_go dX5_partedAbove_64 rfl rfl
theorem wX5_partedAbove_65 : E_ d mX5_partedAbove 65 ls (.long v :: .long u :: st) h = E_ d mX5_partedAbove 66 ls (.int (lg_cmp u v) :: st) h := e_go dX5_partedAbove_65 rfl rfl
theorem wX5_partedAbove_66 : E_ d mX5_partedAbove 66 ls (.int x :: st) h = if x = 0 then E_ d mX5_partedAbove 69 ls st h else E_ d mX5_partedAbove 73 ls st h := e_zne dX5_partedAbove_66 rfl rfl
theorem wX5_partedAbove_69 : E_ d mX5_partedAbove 69 ls st h = E_ d mX5_partedAbove 70 ls (.long 0 :: st) h := e_go dX5_partedAbove_69 rfl rfl
theorem wX5_partedAbove_70 : E_ d mX5_partedAbove 70 ls st h = E_ d mX5_partedAbove 102 ls st h := e_gt dX5_partedAbove_70 rfl
theorem wX5_partedAbove_73 : E_ d mX5_partedAbove 73 [.val (.ref a), s1, s2, s3, s4, s5, s6, s7, s8, s9] st h = E_ d mX5_partedAbove 74 [.val (.ref a), s1, s2, s3, s4, s5, s6, s7, s8, s9] (.ref a :: st) h := e_go dX5_partedAbove_73 rfl rfl
theorem wX5_partedAbove_74 : E_ d mX5_partedAbove 74 ls st h = E_ d mX5_partedAbove 77 ls (.int (nI 526) :: st) h := e_sipush dX5_partedAbove_74 ksipush_526 rfl
theorem wX5_partedAbove_77 : E_ d mX5_partedAbove 77 [s0, .val (.int x), s2, s3, s4, s5, s6, s7, s8, s9] st h = E_ d mX5_partedAbove 78 [s0, .val (.int x), s2, s3, s4, s5, s6, s7, s8, s9] (.int x :: st) h := e_go dX5_partedAbove_77 rfl rfl
theorem wX5_partedAbove_78 (ht : oT h a = 7) : E_ (d + 1) mX5_partedAbove 78 ls [.int x2, .int x1, .ref a] h = (C_ d mX5_sumOf [.ref a, .int x1, .int x2] h).bind fun r => E_ (d + 1) mX5_partedAbove 81 ls (xpu r.1 []) r.2 := e_vir dX5_partedAbove_78 rfl rfl rfl rfl rfl rfl (Nat.le_of_ble_eq_true rfl) (Nat.le_of_ble_eq_true rfl) ht
theorem wX5_partedAbove_81 : E_ d mX5_partedAbove 81 [.val (.ref a), s1, s2, s3, s4, s5, s6, s7, s8, s9] st h = E_ d mX5_partedAbove 82 [.val (.ref a), s1, s2, s3, s4, s5, s6, s7, s8, s9] (.ref a :: st) h := e_go dX5_partedAbove_81 rfl rfl
theorem wX5_partedAbove_82 : E_ d mX5_partedAbove 82 ls st h = E_ d mX5_partedAbove 85 ls (.int (nI 502) :: st) h := e_sipush dX5_partedAbove_82 ksipush_502 rfl
theorem wX5_partedAbove_85 : E_ d mX5_partedAbove 85 ls st h = E_ d mX5_partedAbove 86 ls (.int (nI 2) :: st) h := e_iconst dX5_partedAbove_85 kiconst_2 rfl
theorem wX5_partedAbove_86 (ht : oT h a = 7) : E_ (d + 1) mX5_partedAbove 86 ls [.int x2, .int x1, .ref a, .long u1] h = (C_ d mX5_sumOf [.ref a, .int x1, .int x2] h).bind fun r => E_ (d + 1) mX5_partedAbove 89 ls (xpu r.1 [.long u1]) r.2 := e_vir dX5_partedAbove_86 rfl rfl rfl rfl rfl rfl (Nat.le_of_ble_eq_true rfl) (Nat.le_of_ble_eq_true rfl) ht
theorem wX5_partedAbove_89 : E_ d mX5_partedAbove 89 ls (.long v :: .long u :: st) h = E_ d mX5_partedAbove 90 ls (.long (u * v) :: st) h := e_go dX5_partedAbove_89 rfl rfl
theorem wX5_partedAbove_90 : E_ d mX5_partedAbove 90 [s0, s1, .val (.long u), s3, s4, s5, s6, s7, s8, s9] st h = E_ d mX5_partedAbove 91 [s0, s1, .val (.long u), s3, s4, s5, s6, s7, s8, s9] (.long u :: st) h := e_go dX5_partedAbove_90 rfl rfl
theorem wX5_partedAbove_91 : E_ d mX5_partedAbove 91 ls st h = E_ d mX5_partedAbove 92 ls (.long 0 :: st) h := e_go dX5_partedAbove_91 rfl rfl
theorem wX5_partedAbove_92 : E_ d mX5_partedAbove 92 ls (.long v :: .long u :: st) h = E_ d mX5_partedAbove 93 ls (.int (lg_cmp u v) :: st) h := e_go dX5_partedAbove_92 rfl rfl
theorem wX5_partedAbove_93 : E_ d mX5_partedAbove 93 ls (.int x :: st) h = if x = 0 then E_ d mX5_partedAbove 96 ls st h else E_ d mX5_partedAbove 100 ls st h := e_zne dX5_partedAbove_93 rfl rfl
theorem wX5_partedAbove_96 : E_ d mX5_partedAbove 96 ls st h = E_ d mX5_partedAbove 97 ls (.long 1 :: st) h := e_go dX5_partedAbove_96 rfl rfl
theorem wX5_partedAbove_97 : E_ d mX5_partedAbove 97 ls st h = E_ d mX5_partedAbove 101 ls st h := e_gt dX5_partedAbove_97 rfl
theorem wX5_partedAbove_100 : E_ d mX5_partedAbove 100 [s0, s1, .val (.long u), s3, s4, s5, s6, s7, s8, s9] st h = E_ d mX5_partedAbove 101 [s0, s1, .val (.long u), s3, s4, s5, s6, s7, s8, s9] (.long u :: st) h := e_go dX5_partedAbove_100 rfl rfl
theorem wX5_partedAbove_101 : E_ d mX5_partedAbove 101 ls (.long v :: .long u :: st) h = E_ d mX5_partedAbove 102 ls (.long (u * v) :: st) h := e_go dX5_partedAbove_101 rfl rfl
theorem wX5_partedAbove_102 : E_ d mX5_partedAbove 102 [s0, s1, s2, s3, s4, s5, s6, s7, s8, s9] (.long u :: st) h = E_ d mX5_partedAbove 104 [s0, s1, s2, s3, s4, s5, s6, xk s7, .val (.long u), .unset] st h := e_go dX5_partedAbove_102 rfl rfl
theorem wX5_partedAbove_104 : E_ d mX5_partedAbove 104 [s0, s1, s2, s3, s4, s5, .val (.long u), s7, s8, s9] st h = E_ d mX5_partedAbove 106 [s0, s1, s2, s3, s4, s5, .val (.long u), s7, s8, s9] (.long u :: st) h := e_go dX5_partedAbove_104 rfl rfl
theorem wX5_partedAbove_106 : E_ d mX5_partedAbove 106 [s0, s1, s2, s3, s4, s5, s6, s7, .val (.long u), s9] st h = E_ d mX5_partedAbove 108 [s0, s1, s2, s3, s4, s5, s6, s7, .val (.long u), s9] (.long u :: st) h := e_go dX5_partedAbove_106 rfl rfl
theorem wX5_partedAbove_108 : E_ d mX5_partedAbove 108 ls (.long v :: .long u :: st) h = E_ d mX5_partedAbove 109 ls (.long (u + v) :: st) h := e_go dX5_partedAbove_108 rfl rfl
theorem wX5_partedAbove_109 : E_ d mX5_partedAbove 109 ls [.long u] h = some (some (.long u), h) := e_rt dX5_partedAbove_109 rfl rfl
/-! FootOutModel.partedBelow -/
theorem wX5_partedBelow_0 : E_ d mX5_partedBelow 0 [.val (.ref a), s1, s2, s3, s4, s5] st h = E_ d mX5_partedBelow 1 [.val (.ref a), s1, s2, s3, s4, s5] (.ref a :: st) h := e_go dX5_partedBelow_0 rfl rfl
theorem wX5_partedBelow_1 : E_ d mX5_partedBelow 1 ls st h = E_ d mX5_partedBelow 4 ls (.int (nI 490) :: st) h := e_sipush dX5_partedBelow_1 ksipush_490 rfl
theorem wX5_partedBelow_4 : E_ d mX5_partedBelow 4 [s0, .val (.int x), s2, s3, s4, s5] st h = E_ d mX5_partedBelow 5 [s0, .val (.int x), s2, s3, s4, s5] (.int x :: st) h := e_go dX5_partedBelow_4 rfl rfl
theorem wX5_partedBelow_5 (ht : oT h a = 7) : E_ (d + 1) mX5_partedBelow 5 ls [.int x2, .int x1, .ref a] h = (C_ d mX5_sumOf [.ref a, .int x1, .int x2] h).bind fun r => E_ (d + 1) mX5_partedBelow 8 ls (xpu r.1 []) r.2 := e_vir dX5_partedBelow_5 rfl rfl rfl rfl rfl rfl (Nat.le_of_ble_eq_true rfl) (Nat.le_of_ble_eq_true rfl) ht
theorem wX5_partedBelow_8 : E_ d mX5_partedBelow 8 [s0, s1, s2, s3, s4, s5] (.long u :: st) h = E_ d mX5_partedBelow 9 [s0, xk s1, .val (.long u), .unset, s4, s5] st h := e_go dX5_partedBelow_8 rfl rfl
theorem wX5_partedBelow_9 : E_ d mX5_partedBelow 9 [.val (.ref a), s1, s2, s3, s4, s5] st h = E_ d mX5_partedBelow 10 [.val (.ref a), s1, s2, s3, s4, s5] (.ref a :: st) h := e_go dX5_partedBelow_9 rfl rfl
theorem wX5_partedBelow_10 : E_ d mX5_partedBelow 10 ls st h = E_ d mX5_partedBelow 13 ls (.int (nI 502) :: st) h := e_sipush dX5_partedBelow_10 ksipush_502 rfl
theorem wX5_partedBelow_13 : E_ d mX5_partedBelow 13 [s0, .val (.int x), s2, s3, s4, s5] st h = E_ d mX5_partedBelow 14 [s0, .val (.int x), s2, s3, s4, s5] (.int x :: st) h := e_go dX5_partedBelow_13 rfl rfl
theorem wX5_partedBelow_14 (ht : oT h a = 7) : E_ (d + 1) mX5_partedBelow 14 ls [.int x2, .int x1, .ref a] h = (C_ d mX5_sumOf [.ref a, .int x1, .int x2] h).bind fun r => E_ (d + 1) mX5_partedBelow 17 ls (xpu r.1 []) r.2 := e_vir dX5_partedBelow_14 rfl rfl rfl rfl rfl rfl (Nat.le_of_ble_eq_true rfl) (Nat.le_of_ble_eq_true rfl) ht
theorem wX5_partedBelow_17 : E_ d mX5_partedBelow 17 [s0, s1, s2, s3, s4, s5] (.long u :: st) h = E_ d mX5_partedBelow 19 [s0, s1, s2, xk s3, .val (.long u), .unset] st h := e_go dX5_partedBelow_17 rfl rfl
theorem wX5_partedBelow_19 : E_ d mX5_partedBelow 19 [s0, s1, .val (.long u), s3, s4, s5] st h = E_ d mX5_partedBelow 20 [s0, s1, .val (.long u), s3, s4, s5] (.long u :: st) h := e_go dX5_partedBelow_19 rfl rfl
theorem wX5_partedBelow_20 : E_ d mX5_partedBelow 20 ls st h = E_ d mX5_partedBelow 21 ls (.long 0 :: st) h := e_go dX5_partedBelow_20 rfl rfl
theorem wX5_partedBelow_21 : E_ d mX5_partedBelow 21 ls (.long v :: .long u :: st) h = E_ d mX5_partedBelow 22 ls (.int (lg_cmp u v) :: st) h := e_go dX5_partedBelow_21 rfl rfl
theorem wX5_partedBelow_22 : E_ d mX5_partedBelow 22 ls (.int x :: st) h = if x = 0 then E_ d mX5_partedBelow 25 ls st h else E_ d mX5_partedBelow 29 ls st h := e_zne dX5_partedBelow_22 rfl rfl
theorem wX5_partedBelow_25 : E_ d mX5_partedBelow 25 ls st h = E_ d mX5_partedBelow 26 ls (.long 1 :: st) h := e_go dX5_partedBelow_25 rfl rfl
theorem wX5_partedBelow_26 : E_ d mX5_partedBelow 26 ls st h = E_ d mX5_partedBelow 30 ls st h := e_gt dX5_partedBelow_26 rfl
theorem wX5_partedBelow_29 : E_ d mX5_partedBelow 29 [s0, s1, .val (.long u), s3, s4, s5] st h = E_ d mX5_partedBelow 30 [s0, s1, .val (.long u), s3, s4, s5] (.long u :: st) h := e_go dX5_partedBelow_29 rfl rfl
theorem wX5_partedBelow_30 : E_ d mX5_partedBelow 30 [s0, s1, s2, s3, .val (.long u), s5] st h = E_ d mX5_partedBelow 32 [s0, s1, s2, s3, .val (.long u), s5] (.long u :: st) h := e_go dX5_partedBelow_30 rfl rfl
theorem wX5_partedBelow_32 : E_ d mX5_partedBelow 32 ls st h = E_ d mX5_partedBelow 33 ls (.long 0 :: st) h := e_go dX5_partedBelow_32 rfl rfl
theorem wX5_partedBelow_33 : E_ d mX5_partedBelow 33 ls (.long v :: .long u :: st) h = E_ d mX5_partedBelow 34 ls (.int (lg_cmp u v) :: st) h := e_go dX5_partedBelow_33 rfl rfl
theorem wX5_partedBelow_34 : E_ d mX5_partedBelow 34 ls (.int x :: st) h = if x = 0 then E_ d mX5_partedBelow 37 ls st h else E_ d mX5_partedBelow 41 ls st h := e_zne dX5_partedBelow_34 rfl rfl
theorem wX5_partedBelow_37 : E_ d mX5_partedBelow 37 ls st h = E_ d mX5_partedBelow 38 ls (.long 1 :: st) h := e_go dX5_partedBelow_37 rfl rfl
theorem wX5_partedBelow_38 : E_ d mX5_partedBelow 38 ls st h = E_ d mX5_partedBelow 43 ls st h := e_gt dX5_partedBelow_38 rfl
theorem wX5_partedBelow_41 : E_ d mX5_partedBelow 41 [s0, s1, s2, s3, .val (.long u), s5] st h = E_ d mX5_partedBelow 43 [s0, s1, s2, s3, .val (.long u), s5] (.long u :: st) h := e_go dX5_partedBelow_41 rfl rfl
theorem wX5_partedBelow_43 : E_ d mX5_partedBelow 43 ls (.long v :: .long u :: st) h = E_ d mX5_partedBelow 44 ls (.long (u * v) :: st) h := e_go dX5_partedBelow_43 rfl rfl
theorem wX5_partedBelow_44 : E_ d mX5_partedBelow 44 ls [.long u] h = some (some (.long u), h) := e_rt dX5_partedBelow_44 rfl rfl
/-! FootOutModel.worst -/
theorem wX5_worst_0 : E_ d mX5_worst 0 [.val (.ref a), s1, s2, s3] st h = E_ d mX5_worst 1 [.val (.ref a), s1, s2, s3] (.ref a :: st) h := e_go dX5_worst_0 rfl rfl
theorem wX5_worst_1 : E_ d mX5_worst 1 ls st h = E_ d mX5_worst 2 ls (.int (nI 0) :: st) h := e_iconst dX5_worst_1 kiconst_0 rfl
theorem wX5_worst_2 (ht : oT h a = 7) : E_ d mX5_worst 2 ls (.int x :: .ref a :: st) h = E_ d mX5_worst 5 ls st (pI h a (va_up (oI h a) 0 x)) := e_putI dX5_worst_2 rfl rfl ht
theorem wX5_worst_5 : E_ d mX5_worst 5 [s0, .val (.int x), s2, s3] st h = E_ d mX5_worst 6 [s0, .val (.int x), s2, s3] (.int x :: st) h := e_go dX5_worst_5 rfl rfl
theorem wX5_worst_6 : E_ d mX5_worst 6 ls (.int x :: st) h = E_ d mX5_worst 7 ls (.long x.toInt64 :: st) h := e_go dX5_worst_6 rfl rfl
theorem wX5_worst_7 : E_ d mX5_worst 7 ls st h = E_ d mX5_worst 8 ls (.long 0 :: st) h := e_go dX5_worst_7 rfl rfl
theorem wX5_worst_8 : E_ d mX5_worst 8 [.val (.ref a), s1, s2, s3] st h = E_ d mX5_worst 9 [.val (.ref a), s1, s2, s3] (.ref a :: st) h := e_go dX5_worst_8 rfl rfl
theorem wX5_worst_9 (ht : oT h a = 7) : E_ d mX5_worst 9 ls (.ref a :: st) h = E_ d mX5_worst 12 ls (va_rf (oR h a 2) :: st) h := e_getR0 dX5_worst_9 rfl rfl ht
theorem wX5_worst_12 : E_ d mX5_worst 12 ls st h = E_ d mX5_worst 15 ls (.int (nI 477) :: st) h := e_sipush dX5_worst_12 ksipush_477 rfl
theorem wX5_worst_15 (ht : oT h a = 40) (hi : xix x (oN h a) = true) : E_ d mX5_worst 15 ls (.int x :: .ref a :: st) h = E_ d mX5_worst 16 ls (.int (oI h a x.toNatClampNeg) :: st) h := e_iald dX5_worst_15 rfl ht hi
theorem wX5_worst_16 : E_ d mX5_worst 16 ls (.int x :: st) h = E_ d mX5_worst 17 ls (.long x.toInt64 :: st) h := e_go dX5_worst_16 rfl rfl
theorem wX5_worst_17 : E_ (d + 1) mX5_worst 17 ls [.long u3, .long u2, .long u1] h = (C_ d mX5_within [.long u1, .long u2, .long u3] h).bind fun r => E_ (d + 1) mX5_worst 20 ls (xpu r.1 []) r.2 := e_call dX5_worst_17 rfl rfl
theorem wX5_worst_20 : E_ d mX5_worst 20 ls (.int x :: st) h = if x = 0 then E_ d mX5_worst 54 ls st h else E_ d mX5_worst 23 ls st h := e_zeq dX5_worst_20 rfl rfl
theorem wX5_worst_23 : E_ d mX5_worst 23 [s0, s1, .val (.int x), s3] st h = E_ d mX5_worst 24 [s0, s1, .val (.int x), s3] (.int x :: st) h := e_go dX5_worst_23 rfl rfl
theorem wX5_worst_24 : E_ d mX5_worst 24 ls (.int x :: st) h = E_ d mX5_worst 25 ls (.long x.toInt64 :: st) h := e_go dX5_worst_24 rfl rfl
theorem wX5_worst_25 : E_ d mX5_worst 25 ls st h = E_ d mX5_worst 26 ls (.long 0 :: st) h := e_go dX5_worst_25 rfl rfl
theorem wX5_worst_26 : E_ d mX5_worst 26 ls st h = E_ d mX5_worst 29 ls (.long (3) :: st) h := e_go dX5_worst_26 rfl rfl
theorem wX5_worst_29 : E_ (d + 1) mX5_worst 29 ls [.long u3, .long u2, .long u1] h = (C_ d mX5_within [.long u1, .long u2, .long u3] h).bind fun r => E_ (d + 1) mX5_worst 32 ls (xpu r.1 []) r.2 := e_call dX5_worst_29 rfl rfl
theorem wX5_worst_32 : E_ d mX5_worst 32 ls (.int x :: st) h = if x = 0 then E_ d mX5_worst 54 ls st h else E_ d mX5_worst 35 ls st h := e_zeq dX5_worst_32 rfl rfl
theorem wX5_worst_35 : E_ d mX5_worst 35 [s0, s1, .val (.int x), s3] st h = E_ d mX5_worst 36 [s0, s1, .val (.int x), s3] (.int x :: st) h := e_go dX5_worst_35 rfl rfl
theorem wX5_worst_36 : E_ d mX5_worst 36 ls st h = E_ d mX5_worst 37 ls (.int (nI 1) :: st) h := e_iconst dX5_worst_36 kiconst_1 rfl
theorem wX5_worst_37 : E_ d mX5_worst 37 ls (.int y :: .int x :: st) h = if y < x then E_ d mX5_worst 40 ls st h else E_ d mX5_worst 62 ls st h := e_ile dX5_worst_37 rfl rfl
theorem wX5_worst_40 : E_ d mX5_worst 40 ls st h = E_ d mX5_worst 41 ls (.int (nI 2) :: st) h := e_iconst dX5_worst_40 kiconst_2 rfl
theorem wX5_worst_41 : E_ d mX5_worst 41 [s0, .val (.int x), s2, s3] st h = E_ d mX5_worst 42 [s0, .val (.int x), s2, s3] (.int x :: st) h := e_go dX5_worst_41 rfl rfl
theorem wX5_worst_42 : E_ d mX5_worst 42 ls (.int y :: .int x :: st) h = E_ d mX5_worst 43 ls (.int (x * y) :: st) h := e_go dX5_worst_42 rfl rfl
theorem wX5_worst_43 : E_ d mX5_worst 43 [.val (.ref a), s1, s2, s3] st h = E_ d mX5_worst 44 [.val (.ref a), s1, s2, s3] (.ref a :: st) h := e_go dX5_worst_43 rfl rfl
theorem wX5_worst_44 (ht : oT h a = 7) : E_ d mX5_worst 44 ls (.ref a :: st) h = E_ d mX5_worst 47 ls (va_rf (oR h a 2) :: st) h := e_getR0 dX5_worst_44 rfl rfl ht
theorem wX5_worst_47 : E_ d mX5_worst 47 ls st h = E_ d mX5_worst 50 ls (.int (nI 477) :: st) h := e_sipush dX5_worst_47 ksipush_477 rfl
theorem wX5_worst_50 (ht : oT h a = 40) (hi : xix x (oN h a) = true) : E_ d mX5_worst 50 ls (.int x :: .ref a :: st) h = E_ d mX5_worst 51 ls (.int (oI h a x.toNatClampNeg) :: st) h := e_iald dX5_worst_50 rfl ht hi
theorem wX5_worst_51 : E_ d mX5_worst 51 ls (.int y :: .int x :: st) h = if y < x then E_ d mX5_worst 54 ls st h else E_ d mX5_worst 62 ls st h := e_ile dX5_worst_51 rfl rfl
theorem wX5_worst_54 : E_ d mX5_worst 54 [.val (.ref a), s1, s2, s3] st h = E_ d mX5_worst 55 [.val (.ref a), s1, s2, s3] (.ref a :: st) h := e_go dX5_worst_54 rfl rfl
theorem wX5_worst_55 : E_ d mX5_worst 55 ls st h = E_ d mX5_worst 58 ls (.int ((-1000000)) :: st) h := e_go dX5_worst_55 rfl rfl
theorem wX5_worst_58 (ht : oT h a = 7) : E_ (d + 1) mX5_worst 58 ls [.int x1, .ref a] h = (C_ d mX5_none [.ref a, .int x1] h).bind fun r => E_ (d + 1) mX5_worst 61 ls (xpu r.1 []) r.2 := e_vir dX5_worst_58 rfl rfl rfl rfl rfl rfl (Nat.le_of_ble_eq_true rfl) (Nat.le_of_ble_eq_true rfl) ht
theorem wX5_worst_61 : E_ d mX5_worst 61 ls [.int x] h = some (some (.int x), h) := e_rt dX5_worst_61 rfl rfl
theorem wX5_worst_62 : E_ d mX5_worst 62 [.val (.ref a), s1, s2, s3] st h = E_ d mX5_worst 63 [.val (.ref a), s1, s2, s3] (.ref a :: st) h := e_go dX5_worst_62 rfl rfl
theorem wX5_worst_63 : E_ d mX5_worst 63 [s0, .val (.int x), s2, s3] st h = E_ d mX5_worst 64 [s0, .val (.int x), s2, s3] (.int x :: st) h := e_go dX5_worst_63 rfl rfl
theorem wX5_worst_64 (ht : oT h a = 7) : E_ (d + 1) mX5_worst 64 ls [.int x1, .ref a] h = (C_ d mX5_worstOf [.ref a, .int x1] h).bind fun r => E_ (d + 1) mX5_worst 67 ls (xpu r.1 []) r.2 := e_vir dX5_worst_64 rfl rfl rfl rfl rfl rfl (Nat.le_of_ble_eq_true rfl) (Nat.le_of_ble_eq_true rfl) ht
theorem wX5_worst_67 : E_ d mX5_worst 67 [s0, s1, s2, s3] (.int x :: st) h = E_ d mX5_worst 68 [s0, s1, xk s2, .val (.int x)] st h := e_go dX5_worst_67 rfl rfl
theorem wX5_worst_68 : E_ d mX5_worst 68 [s0, s1, .val (.int x), s3] st h = E_ d mX5_worst 69 [s0, s1, .val (.int x), s3] (.int x :: st) h := e_go dX5_worst_68 rfl rfl
theorem wX5_worst_69 : E_ d mX5_worst 69 ls st h = E_ d mX5_worst 70 ls (.int (nI 2) :: st) h := e_iconst dX5_worst_69 kiconst_2 rfl
theorem wX5_worst_70 : E_ d mX5_worst 70 ls (.int y :: .int x :: st) h = if x < y then E_ d mX5_worst 73 ls st h else E_ d mX5_worst 87 ls st h := e_ige dX5_worst_70 rfl rfl
theorem wX5_worst_73 : E_ d mX5_worst 73 [s0, s1, .val (.int x), s3] st h = E_ d mX5_worst 74 [s0, s1, .val (.int x), s3] (.int x :: st) h := e_go dX5_worst_73 rfl rfl
theorem wX5_worst_74 : E_ d mX5_worst 74 ls (.int x :: st) h = if x = 0 then E_ d mX5_worst 77 ls st h else E_ d mX5_worst 81 ls st h := e_zne dX5_worst_74 rfl rfl
theorem wX5_worst_77 : E_ d mX5_worst 77 [s0, s1, s2, .val (.int x)] st h = E_ d mX5_worst 78 [s0, s1, s2, .val (.int x)] (.int x :: st) h := e_go dX5_worst_77 rfl rfl
theorem wX5_worst_78 : E_ d mX5_worst 78 ls st h = E_ d mX5_worst 86 ls st h := e_gt dX5_worst_78 rfl
theorem wX5_worst_81 : E_ d mX5_worst 81 [.val (.ref a), s1, s2, s3] st h = E_ d mX5_worst 82 [.val (.ref a), s1, s2, s3] (.ref a :: st) h := e_go dX5_worst_81 rfl rfl
theorem wX5_worst_82 : E_ d mX5_worst 82 [s0, s1, s2, .val (.int x)] st h = E_ d mX5_worst 83 [s0, s1, s2, .val (.int x)] (.int x :: st) h := e_go dX5_worst_82 rfl rfl
theorem wX5_worst_83 (ht : oT h a = 7) : E_ (d + 1) mX5_worst 83 ls [.int x1, .ref a] h = (C_ d mX5_fallOf [.ref a, .int x1] h).bind fun r => E_ (d + 1) mX5_worst 86 ls (xpu r.1 []) r.2 := e_vir dX5_worst_83 rfl rfl rfl rfl rfl rfl (Nat.le_of_ble_eq_true rfl) (Nat.le_of_ble_eq_true rfl) ht
theorem wX5_worst_86 : E_ d mX5_worst 86 ls [.int x] h = some (some (.int x), h) := e_rt dX5_worst_86 rfl rfl
theorem wX5_worst_87 : E_ d mX5_worst 87 [s0, s1, .val (.int x), s3] st h = E_ d mX5_worst 88 [s0, s1, .val (.int x), s3] (.int x :: st) h := e_go dX5_worst_87 rfl rfl
theorem wX5_worst_88 : E_ d mX5_worst 88 ls st h = E_ d mX5_worst 89 ls (.int (nI 2) :: st) h := e_iconst dX5_worst_88 kiconst_2 rfl
theorem wX5_worst_89 : E_ d mX5_worst 89 ls (.int y :: .int x :: st) h = if x = y then E_ d mX5_worst 92 ls st h else E_ d mX5_worst 104 ls st h := e_ine dX5_worst_89 rfl rfl
theorem wX5_worst_92 : E_ d mX5_worst 92 [.val (.ref a), s1, s2, s3] st h = E_ d mX5_worst 93 [.val (.ref a), s1, s2, s3] (.ref a :: st) h := e_go dX5_worst_92 rfl rfl
theorem wX5_worst_93 : E_ d mX5_worst 93 [.val (.ref a), s1, s2, s3] st h = E_ d mX5_worst 94 [.val (.ref a), s1, s2, s3] (.ref a :: st) h := e_go dX5_worst_93 rfl rfl
theorem wX5_worst_94 : E_ d mX5_worst 94 [s0, s1, s2, .val (.int x)] st h = E_ d mX5_worst 95 [s0, s1, s2, .val (.int x)] (.int x :: st) h := e_go dX5_worst_94 rfl rfl
theorem wX5_worst_95 (ht : oT h a = 7) : E_ (d + 1) mX5_worst 95 ls [.int x1, .ref a, .ref r1] h = (C_ d mX5_matchesOf [.ref a, .int x1] h).bind fun r => E_ (d + 1) mX5_worst 98 ls (xpu r.1 [.ref r1]) r.2 := e_vir dX5_worst_95 rfl rfl rfl rfl rfl rfl (Nat.le_of_ble_eq_true rfl) (Nat.le_of_ble_eq_true rfl) ht
theorem wX5_worst_98 (ht : oT h a = 7) : E_ (d + 1) mX5_worst 98 ls [.int x1, .ref a] h = (C_ d mX5_fallOf [.ref a, .int x1] h).bind fun r => E_ (d + 1) mX5_worst 101 ls (xpu r.1 []) r.2 := e_vir dX5_worst_98 rfl rfl rfl rfl rfl rfl (Nat.le_of_ble_eq_true rfl) (Nat.le_of_ble_eq_true rfl) ht
theorem wX5_worst_101 : E_ d mX5_worst 101 ls st h = E_ d mX5_worst 109 ls st h := e_gt dX5_worst_101 rfl
theorem wX5_worst_104 : E_ d mX5_worst 104 [.val (.ref a), s1, s2, s3] st h = E_ d mX5_worst 105 [.val (.ref a), s1, s2, s3] (.ref a :: st) h := e_go dX5_worst_104 rfl rfl
theorem wX5_worst_105 : E_ d mX5_worst 105 [s0, s1, s2, .val (.int x)] st h = E_ d mX5_worst 106 [s0, s1, s2, .val (.int x)] (.int x :: st) h := e_go dX5_worst_105 rfl rfl
theorem wX5_worst_106 (ht : oT h a = 7) : E_ (d + 1) mX5_worst 106 ls [.int x1, .ref a] h = (C_ d mX5_matchesOf [.ref a, .int x1] h).bind fun r => E_ (d + 1) mX5_worst 109 ls (xpu r.1 []) r.2 := e_vir dX5_worst_106 rfl rfl rfl rfl rfl rfl (Nat.le_of_ble_eq_true rfl) (Nat.le_of_ble_eq_true rfl) ht
theorem wX5_worst_109 : E_ d mX5_worst 109 ls [.int x] h = some (some (.int x), h) := e_rt dX5_worst_109 rfl rfl
/-! FootOutModel.worstOf -/
theorem wX5_worstOf_0 : E_ d mX5_worstOf 0 ls st h = E_ d mX5_worstOf 1 ls (.int (nI 0) :: st) h := e_iconst dX5_worstOf_0 kiconst_0 rfl
theorem wX5_worstOf_1 : E_ d mX5_worstOf 1 [s0, s1, s2, s3, s4, s5] (.int x :: st) h = E_ d mX5_worstOf 2 [s0, xk s1, .val (.int x), s3, s4, s5] st h := e_go dX5_worstOf_1 rfl rfl
theorem wX5_worstOf_2 : E_ d mX5_worstOf 2 ls st h = E_ d mX5_worstOf 3 ls (.int (nI 0) :: st) h := e_iconst dX5_worstOf_2 kiconst_0 rfl
theorem wX5_worstOf_3 : E_ d mX5_worstOf 3 [s0, s1, s2, s3, s4, s5] (.int x :: st) h = E_ d mX5_worstOf 4 [s0, s1, xk s2, .val (.int x), s4, s5] st h := e_go dX5_worstOf_3 rfl rfl
theorem wX5_worstOf_4 : E_ d mX5_worstOf 4 [s0, s1, s2, .val (.int x), s4, s5] st h = E_ d mX5_worstOf 5 [s0, s1, s2, .val (.int x), s4, s5] (.int x :: st) h := e_go dX5_worstOf_4 rfl rfl
theorem wX5_worstOf_5 : E_ d mX5_worstOf 5 [s0, .val (.int x), s2, s3, s4, s5] st h = E_ d mX5_worstOf 6 [s0, .val (.int x), s2, s3, s4, s5] (.int x :: st) h := e_go dX5_worstOf_5 rfl rfl
theorem wX5_worstOf_6 : E_ d mX5_worstOf 6 ls (.int y :: .int x :: st) h = if x < y then E_ d mX5_worstOf 9 ls st h else E_ d mX5_worstOf 81 ls st h := e_ige dX5_worstOf_6 rfl rfl
theorem wX5_worstOf_9 : E_ d mX5_worstOf 9 ls st h = E_ d mX5_worstOf 10 ls (.int ((-1)) :: st) h := e_iconst dX5_worstOf_9 kiconst_m1 rfl
theorem wX5_worstOf_10 : E_ d mX5_worstOf 10 [s0, s1, s2, s3, s4, s5] (.int x :: st) h = E_ d mX5_worstOf 12 [s0, s1, s2, xk s3, .val (.int x), s5] st h := e_go dX5_worstOf_10 rfl rfl
theorem wX5_worstOf_12 : E_ d mX5_worstOf 12 ls st h = E_ d mX5_worstOf 13 ls (.int (nI 0) :: st) h := e_iconst dX5_worstOf_12 kiconst_0 rfl
theorem wX5_worstOf_13 : E_ d mX5_worstOf 13 [s0, s1, s2, s3, s4, s5] (.int x :: st) h = E_ d mX5_worstOf 15 [s0, s1, s2, s3, xk s4, .val (.int x)] st h := e_go dX5_worstOf_13 rfl rfl
theorem wX5_worstOf_15 : E_ d mX5_worstOf 15 [s0, s1, s2, s3, s4, .val (.int x)] st h = E_ d mX5_worstOf 17 [s0, s1, s2, s3, s4, .val (.int x)] (.int x :: st) h := e_go dX5_worstOf_15 rfl rfl
theorem wX5_worstOf_17 : E_ d mX5_worstOf 17 [.val (.ref a), s1, s2, s3, s4, s5] st h = E_ d mX5_worstOf 18 [.val (.ref a), s1, s2, s3, s4, s5] (.ref a :: st) h := e_go dX5_worstOf_17 rfl rfl
theorem wX5_worstOf_18 (ht : oT h a = 7) : E_ d mX5_worstOf 18 ls (.ref a :: st) h = E_ d mX5_worstOf 21 ls (va_rf (oR h a 2) :: st) h := e_getR0 dX5_worstOf_18 rfl rfl ht
theorem wX5_worstOf_21 : E_ d mX5_worstOf 21 ls st h = E_ d mX5_worstOf 24 ls (.int (nI 477) :: st) h := e_sipush dX5_worstOf_21 ksipush_477 rfl
theorem wX5_worstOf_24 (ht : oT h a = 40) (hi : xix x (oN h a) = true) : E_ d mX5_worstOf 24 ls (.int x :: .ref a :: st) h = E_ d mX5_worstOf 25 ls (.int (oI h a x.toNatClampNeg) :: st) h := e_iald dX5_worstOf_24 rfl ht hi
theorem wX5_worstOf_25 : E_ d mX5_worstOf 25 ls (.int y :: .int x :: st) h = if x < y then E_ d mX5_worstOf 28 ls st h else E_ d mX5_worstOf 68 ls st h := e_ige dX5_worstOf_25 rfl rfl
theorem wX5_worstOf_28 : E_ d mX5_worstOf 28 [s0, s1, .val (.int x), s3, s4, s5] st h = E_ d mX5_worstOf 29 [s0, s1, .val (.int x), s3, s4, s5] (.int x :: st) h := e_go dX5_worstOf_28 rfl rfl
theorem wX5_worstOf_29 : E_ d mX5_worstOf 29 [s0, s1, s2, s3, s4, .val (.int x)] st h = E_ d mX5_worstOf 31 [s0, s1, s2, s3, s4, .val (.int x)] (.int x :: st) h := e_go dX5_worstOf_29 rfl rfl
theorem wX5_worstOf_31 : E_ d mX5_worstOf 31 ls (.int y :: .int x :: st) h = E_ d mX5_worstOf 32 ls (.int (x >>> (y &&& 31)) :: st) h := e_go dX5_worstOf_31 rfl rfl
theorem wX5_worstOf_32 : E_ d mX5_worstOf 32 ls st h = E_ d mX5_worstOf 33 ls (.int (nI 1) :: st) h := e_iconst dX5_worstOf_32 kiconst_1 rfl
theorem wX5_worstOf_33 : E_ d mX5_worstOf 33 ls (.int y :: .int x :: st) h = E_ d mX5_worstOf 34 ls (.int (x &&& y) :: st) h := e_go dX5_worstOf_33 rfl rfl
theorem wX5_worstOf_34 : E_ d mX5_worstOf 34 ls (.int x :: st) h = if x = 0 then E_ d mX5_worstOf 37 ls st h else E_ d mX5_worstOf 62 ls st h := e_zne dX5_worstOf_34 rfl rfl
theorem wX5_worstOf_37 : E_ d mX5_worstOf 37 [s0, s1, s2, s3, .val (.int x), s5] st h = E_ d mX5_worstOf 39 [s0, s1, s2, s3, .val (.int x), s5] (.int x :: st) h := e_go dX5_worstOf_37 rfl rfl
theorem wX5_worstOf_39 : E_ d mX5_worstOf 39 ls st h = E_ d mX5_worstOf 40 ls (.int ((-1)) :: st) h := e_iconst dX5_worstOf_39 kiconst_m1 rfl
theorem wX5_worstOf_40 : E_ d mX5_worstOf 40 ls (.int y :: .int x :: st) h = if x = y then E_ d mX5_worstOf 58 ls st h else E_ d mX5_worstOf 43 ls st h := e_ieq dX5_worstOf_40 rfl rfl
theorem wX5_worstOf_43 : E_ d mX5_worstOf 43 [.val (.ref a), s1, s2, s3, s4, s5] st h = E_ d mX5_worstOf 44 [.val (.ref a), s1, s2, s3, s4, s5] (.ref a :: st) h := e_go dX5_worstOf_43 rfl rfl
theorem wX5_worstOf_44 : E_ d mX5_worstOf 44 [s0, s1, s2, s3, s4, .val (.int x)] st h = E_ d mX5_worstOf 46 [s0, s1, s2, s3, s4, .val (.int x)] (.int x :: st) h := e_go dX5_worstOf_44 rfl rfl
theorem wX5_worstOf_46 (ht : oT h a = 7) : E_ (d + 1) mX5_worstOf 46 ls [.int x1, .ref a] h = (C_ d mX5_hurtAt [.ref a, .int x1] h).bind fun r => E_ (d + 1) mX5_worstOf 49 ls (xpu r.1 []) r.2 := e_vir dX5_worstOf_46 rfl rfl rfl rfl rfl rfl (Nat.le_of_ble_eq_true rfl) (Nat.le_of_ble_eq_true rfl) ht
theorem wX5_worstOf_49 : E_ d mX5_worstOf 49 [.val (.ref a), s1, s2, s3, s4, s5] st h = E_ d mX5_worstOf 50 [.val (.ref a), s1, s2, s3, s4, s5] (.ref a :: st) h := e_go dX5_worstOf_49 rfl rfl
theorem wX5_worstOf_50 : E_ d mX5_worstOf 50 [s0, s1, s2, s3, .val (.int x), s5] st h = E_ d mX5_worstOf 52 [s0, s1, s2, s3, .val (.int x), s5] (.int x :: st) h := e_go dX5_worstOf_50 rfl rfl
theorem wX5_worstOf_52 (ht : oT h a = 7) : E_ (d + 1) mX5_worstOf 52 ls [.int x1, .ref a, .int x2] h = (C_ d mX5_hurtAt [.ref a, .int x1] h).bind fun r => E_ (d + 1) mX5_worstOf 55 ls (xpu r.1 [.int x2]) r.2 := e_vir dX5_worstOf_52 rfl rfl rfl rfl rfl rfl (Nat.le_of_ble_eq_true rfl) (Nat.le_of_ble_eq_true rfl) ht
theorem wX5_worstOf_55 : E_ d mX5_worstOf 55 ls (.int y :: .int x :: st) h = if y < x then E_ d mX5_worstOf 58 ls st h else E_ d mX5_worstOf 62 ls st h := e_ile dX5_worstOf_55 rfl rfl
theorem wX5_worstOf_58 : E_ d mX5_worstOf 58 [s0, s1, s2, s3, s4, .val (.int x)] st h = E_ d mX5_worstOf 60 [s0, s1, s2, s3, s4, .val (.int x)] (.int x :: st) h := e_go dX5_worstOf_58 rfl rfl
theorem wX5_worstOf_60 : E_ d mX5_worstOf 60 [s0, s1, s2, s3, s4, s5] (.int x :: st) h = E_ d mX5_worstOf 62 [s0, s1, s2, xk s3, .val (.int x), s5] st h := e_go dX5_worstOf_60 rfl rfl
theorem wX5_worstOf_62 : E_ d mX5_worstOf 62 [s0, s1, s2, s3, s4, .val (.int x)] st h = E_ d mX5_worstOf 65 [s0, s1, s2, s3, xk s4, .val (.int (x + nI 1))] st h := by rw [← kiinc_1]; exact e_go dX5_worstOf_62 rfl rfl
theorem wX5_worstOf_65 : E_ d mX5_worstOf 65 ls st h = E_ d mX5_worstOf 15 ls st h := e_gt dX5_worstOf_65 rfl
theorem wX5_worstOf_68 : E_ d mX5_worstOf 68 [s0, s1, .val (.int x), s3, s4, s5] st h = E_ d mX5_worstOf 69 [s0, s1, .val (.int x), s3, s4, s5] (.int x :: st) h := e_go dX5_worstOf_68 rfl rfl
theorem wX5_worstOf_69 : E_ d mX5_worstOf 69 ls st h = E_ d mX5_worstOf 70 ls (.int (nI 1) :: st) h := e_iconst dX5_worstOf_69 kiconst_1 rfl
theorem wX5_worstOf_70 : E_ d mX5_worstOf 70 [s0, s1, s2, s3, .val (.int x), s5] st h = E_ d mX5_worstOf 72 [s0, s1, s2, s3, .val (.int x), s5] (.int x :: st) h := e_go dX5_worstOf_70 rfl rfl
theorem wX5_worstOf_72 : E_ d mX5_worstOf 72 ls (.int y :: .int x :: st) h = E_ d mX5_worstOf 73 ls (.int (x <<< (y &&& 31)) :: st) h := e_go dX5_worstOf_72 rfl rfl
theorem wX5_worstOf_73 : E_ d mX5_worstOf 73 ls (.int y :: .int x :: st) h = E_ d mX5_worstOf 74 ls (.int (x ||| y) :: st) h := e_go dX5_worstOf_73 rfl rfl
theorem wX5_worstOf_74 : E_ d mX5_worstOf 74 [s0, s1, s2, s3, s4, s5] (.int x :: st) h = E_ d mX5_worstOf 75 [s0, xk s1, .val (.int x), s3, s4, s5] st h := e_go dX5_worstOf_74 rfl rfl
theorem wX5_worstOf_75 : E_ d mX5_worstOf 75 [s0, s1, s2, .val (.int x), s4, s5] st h = E_ d mX5_worstOf 78 [s0, s1, xk s2, .val (.int (x + nI 1)), s4, s5] st h := by rw [← kiinc_1]; exact e_go dX5_worstOf_75 rfl rfl
theorem wX5_worstOf_78 : E_ d mX5_worstOf 78 ls st h = E_ d mX5_worstOf 4 ls st h := e_gt dX5_worstOf_78 rfl
theorem wX5_worstOf_81 : E_ d mX5_worstOf 81 [s0, s1, .val (.int x), s3, s4, s5] st h = E_ d mX5_worstOf 82 [s0, s1, .val (.int x), s3, s4, s5] (.int x :: st) h := e_go dX5_worstOf_81 rfl rfl
theorem wX5_worstOf_82 : E_ d mX5_worstOf 82 ls [.int x] h = some (some (.int x), h) := e_rt dX5_worstOf_82 rfl rfl
/-! FootOutModel.hurtAt -/
theorem wX5_hurtAt_0 : E_ d mX5_hurtAt 0 [.val (.ref a), s1] st h = E_ d mX5_hurtAt 1 [.val (.ref a), s1] (.ref a :: st) h := e_go dX5_hurtAt_0 rfl rfl
theorem wX5_hurtAt_1 (ht : oT h a = 7) : E_ d mX5_hurtAt 1 ls (.ref a :: st) h = E_ d mX5_hurtAt 4 ls (va_rf (oR h a 2) :: st) h := e_getR0 dX5_hurtAt_1 rfl rfl ht
theorem wX5_hurtAt_4 : E_ d mX5_hurtAt 4 ls st h = E_ d mX5_hurtAt 7 ls (.int (nI 514) :: st) h := e_sipush dX5_hurtAt_4 ksipush_514 rfl
theorem wX5_hurtAt_7 : E_ d mX5_hurtAt 7 [s0, .val (.int x)] st h = E_ d mX5_hurtAt 8 [s0, .val (.int x)] (.int x :: st) h := e_go dX5_hurtAt_7 rfl rfl
theorem wX5_hurtAt_8 : E_ d mX5_hurtAt 8 ls (.int y :: .int x :: st) h = E_ d mX5_hurtAt 9 ls (.int (x + y) :: st) h := e_go dX5_hurtAt_8 rfl rfl
theorem wX5_hurtAt_9 (ht : oT h a = 40) (hi : xix x (oN h a) = true) : E_ d mX5_hurtAt 9 ls (.int x :: .ref a :: st) h = E_ d mX5_hurtAt 10 ls (.int (oI h a x.toNatClampNeg) :: st) h := e_iald dX5_hurtAt_9 rfl ht hi
theorem wX5_hurtAt_10 : E_ d mX5_hurtAt 10 [.val (.ref a), s1] st h = E_ d mX5_hurtAt 11 [.val (.ref a), s1] (.ref a :: st) h := e_go dX5_hurtAt_10 rfl rfl
theorem wX5_hurtAt_11 (ht : oT h a = 7) : E_ d mX5_hurtAt 11 ls (.ref a :: st) h = E_ d mX5_hurtAt 14 ls (va_rf (oR h a 2) :: st) h := e_getR0 dX5_hurtAt_11 rfl rfl ht
theorem wX5_hurtAt_14 : E_ d mX5_hurtAt 14 ls st h = E_ d mX5_hurtAt 17 ls (.int (nI 526) :: st) h := e_sipush dX5_hurtAt_14 ksipush_526 rfl
theorem wX5_hurtAt_17 : E_ d mX5_hurtAt 17 [s0, .val (.int x)] st h = E_ d mX5_hurtAt 18 [s0, .val (.int x)] (.int x :: st) h := e_go dX5_hurtAt_17 rfl rfl
theorem wX5_hurtAt_18 : E_ d mX5_hurtAt 18 ls (.int y :: .int x :: st) h = E_ d mX5_hurtAt 19 ls (.int (x + y) :: st) h := e_go dX5_hurtAt_18 rfl rfl
theorem wX5_hurtAt_19 (ht : oT h a = 40) (hi : xix x (oN h a) = true) : E_ d mX5_hurtAt 19 ls (.int x :: .ref a :: st) h = E_ d mX5_hurtAt 20 ls (.int (oI h a x.toNatClampNeg) :: st) h := e_iald dX5_hurtAt_19 rfl ht hi
theorem wX5_hurtAt_20 : E_ d mX5_hurtAt 20 ls (.int y :: .int x :: st) h = E_ d mX5_hurtAt 21 ls (.int (x + y) :: st) h := e_go dX5_hurtAt_20 rfl rfl
theorem wX5_hurtAt_21 : E_ d mX5_hurtAt 21 ls [.int x] h = some (some (.int x), h) := e_rt dX5_hurtAt_21 rfl rfl
/-! FootOutModel.fallOf -/
theorem wX5_fallOf_0 : E_ d mX5_fallOf 0 ls st h = E_ d mX5_fallOf 1 ls (.int (nI 0) :: st) h := e_iconst dX5_fallOf_0 kiconst_0 rfl
theorem wX5_fallOf_1 : E_ d mX5_fallOf 1 [s0, s1, s2, s3] (.int x :: st) h = E_ d mX5_fallOf 2 [s0, xk s1, .val (.int x), s3] st h := e_go dX5_fallOf_1 rfl rfl
theorem wX5_fallOf_2 : E_ d mX5_fallOf 2 ls st h = E_ d mX5_fallOf 3 ls (.int (nI 0) :: st) h := e_iconst dX5_fallOf_2 kiconst_0 rfl
theorem wX5_fallOf_3 : E_ d mX5_fallOf 3 [s0, s1, s2, s3] (.int x :: st) h = E_ d mX5_fallOf 4 [s0, s1, xk s2, .val (.int x)] st h := e_go dX5_fallOf_3 rfl rfl
theorem wX5_fallOf_4 : E_ d mX5_fallOf 4 [s0, s1, s2, .val (.int x)] st h = E_ d mX5_fallOf 5 [s0, s1, s2, .val (.int x)] (.int x :: st) h := e_go dX5_fallOf_4 rfl rfl
theorem wX5_fallOf_5 : E_ d mX5_fallOf 5 [.val (.ref a), s1, s2, s3] st h = E_ d mX5_fallOf 6 [.val (.ref a), s1, s2, s3] (.ref a :: st) h := e_go dX5_fallOf_5 rfl rfl
theorem wX5_fallOf_6 (ht : oT h a = 7) : E_ d mX5_fallOf 6 ls (.ref a :: st) h = E_ d mX5_fallOf 9 ls (va_rf (oR h a 2) :: st) h := e_getR0 dX5_fallOf_6 rfl rfl ht
theorem wX5_fallOf_9 : E_ d mX5_fallOf 9 ls st h = E_ d mX5_fallOf 12 ls (.int (nI 477) :: st) h := e_sipush dX5_fallOf_9 ksipush_477 rfl
theorem wX5_fallOf_12 (ht : oT h a = 40) (hi : xix x (oN h a) = true) : E_ d mX5_fallOf 12 ls (.int x :: .ref a :: st) h = E_ d mX5_fallOf 13 ls (.int (oI h a x.toNatClampNeg) :: st) h := e_iald dX5_fallOf_12 rfl ht hi
theorem wX5_fallOf_13 : E_ d mX5_fallOf 13 ls (.int y :: .int x :: st) h = if x < y then E_ d mX5_fallOf 16 ls st h else E_ d mX5_fallOf 54 ls st h := e_ige dX5_fallOf_13 rfl rfl
theorem wX5_fallOf_16 : E_ d mX5_fallOf 16 [s0, s1, .val (.int x), s3] st h = E_ d mX5_fallOf 17 [s0, s1, .val (.int x), s3] (.int x :: st) h := e_go dX5_fallOf_16 rfl rfl
theorem wX5_fallOf_17 : E_ d mX5_fallOf 17 [s0, .val (.int x), s2, s3] st h = E_ d mX5_fallOf 18 [s0, .val (.int x), s2, s3] (.int x :: st) h := e_go dX5_fallOf_17 rfl rfl
theorem wX5_fallOf_18 : E_ d mX5_fallOf 18 [s0, s1, s2, .val (.int x)] st h = E_ d mX5_fallOf 19 [s0, s1, s2, .val (.int x)] (.int x :: st) h := e_go dX5_fallOf_18 rfl rfl
theorem wX5_fallOf_19 : E_ d mX5_fallOf 19 ls (.int y :: .int x :: st) h = E_ d mX5_fallOf 20 ls (.int (x >>> (y &&& 31)) :: st) h := e_go dX5_fallOf_19 rfl rfl
theorem wX5_fallOf_20 : E_ d mX5_fallOf 20 ls st h = E_ d mX5_fallOf 21 ls (.int (nI 1) :: st) h := e_iconst dX5_fallOf_20 kiconst_1 rfl
theorem wX5_fallOf_21 : E_ d mX5_fallOf 21 ls (.int y :: .int x :: st) h = E_ d mX5_fallOf 22 ls (.int (x &&& y) :: st) h := e_go dX5_fallOf_21 rfl rfl
theorem wX5_fallOf_22 : E_ d mX5_fallOf 22 ls st h = E_ d mX5_fallOf 23 ls (.int (nI 1) :: st) h := e_iconst dX5_fallOf_22 kiconst_1 rfl
theorem wX5_fallOf_23 : E_ d mX5_fallOf 23 ls (.int y :: .int x :: st) h = if x = y then E_ d mX5_fallOf 26 ls st h else E_ d mX5_fallOf 45 ls st h := e_ine dX5_fallOf_23 rfl rfl
theorem wX5_fallOf_26 : E_ d mX5_fallOf 26 [.val (.ref a), s1, s2, s3] st h = E_ d mX5_fallOf 27 [.val (.ref a), s1, s2, s3] (.ref a :: st) h := e_go dX5_fallOf_26 rfl rfl
theorem wX5_fallOf_27 : E_ d mX5_fallOf 27 [s0, s1, s2, .val (.int x)] st h = E_ d mX5_fallOf 28 [s0, s1, s2, .val (.int x)] (.int x :: st) h := e_go dX5_fallOf_27 rfl rfl
theorem wX5_fallOf_28 (ht : oT h a = 7) : E_ (d + 1) mX5_fallOf 28 ls [.int x1, .ref a, .int x2] h = (C_ d mX5_hurtAt [.ref a, .int x1] h).bind fun r => E_ (d + 1) mX5_fallOf 31 ls (xpu r.1 [.int x2]) r.2 := e_vir dX5_fallOf_28 rfl rfl rfl rfl rfl rfl (Nat.le_of_ble_eq_true rfl) (Nat.le_of_ble_eq_true rfl) ht
theorem wX5_fallOf_31 : E_ d mX5_fallOf 31 [.val (.ref a), s1, s2, s3] st h = E_ d mX5_fallOf 32 [.val (.ref a), s1, s2, s3] (.ref a :: st) h := e_go dX5_fallOf_31 rfl rfl
theorem wX5_fallOf_32 (ht : oT h a = 7) : E_ d mX5_fallOf 32 ls (.ref a :: st) h = E_ d mX5_fallOf 35 ls (va_rf (oR h a 2) :: st) h := e_getR0 dX5_fallOf_32 rfl rfl ht
theorem wX5_fallOf_35 : E_ d mX5_fallOf 35 ls st h = E_ d mX5_fallOf 38 ls (.int (nI 538) :: st) h := e_sipush dX5_fallOf_35 ksipush_538 rfl
theorem wX5_fallOf_38 : E_ d mX5_fallOf 38 [s0, s1, s2, .val (.int x)] st h = E_ d mX5_fallOf 39 [s0, s1, s2, .val (.int x)] (.int x :: st) h := e_go dX5_fallOf_38 rfl rfl
theorem wX5_fallOf_39 : E_ d mX5_fallOf 39 ls (.int y :: .int x :: st) h = E_ d mX5_fallOf 40 ls (.int (x + y) :: st) h := e_go dX5_fallOf_39 rfl rfl
theorem wX5_fallOf_40 (ht : oT h a = 40) (hi : xix x (oN h a) = true) : E_ d mX5_fallOf 40 ls (.int x :: .ref a :: st) h = E_ d mX5_fallOf 41 ls (.int (oI h a x.toNatClampNeg) :: st) h := e_iald dX5_fallOf_40 rfl ht hi
theorem wX5_fallOf_41 : E_ d mX5_fallOf 41 ls (.int y :: .int x :: st) h = E_ d mX5_fallOf 42 ls (.int (x - y) :: st) h := e_go dX5_fallOf_41 rfl rfl
theorem wX5_fallOf_42 : E_ d mX5_fallOf 42 ls st h = E_ d mX5_fallOf 46 ls st h := e_gt dX5_fallOf_42 rfl
theorem wX5_fallOf_45 : E_ d mX5_fallOf 45 ls st h = E_ d mX5_fallOf 46 ls (.int (nI 0) :: st) h := e_iconst dX5_fallOf_45 kiconst_0 rfl
theorem wX5_fallOf_46 : E_ d mX5_fallOf 46 ls (.int y :: .int x :: st) h = E_ d mX5_fallOf 47 ls (.int (x + y) :: st) h := e_go dX5_fallOf_46 rfl rfl
theorem wX5_fallOf_47 : E_ d mX5_fallOf 47 [s0, s1, s2, s3] (.int x :: st) h = E_ d mX5_fallOf 48 [s0, xk s1, .val (.int x), s3] st h := e_go dX5_fallOf_47 rfl rfl
theorem wX5_fallOf_48 : E_ d mX5_fallOf 48 [s0, s1, s2, .val (.int x)] st h = E_ d mX5_fallOf 51 [s0, s1, xk s2, .val (.int (x + nI 1))] st h := by rw [← kiinc_1]; exact e_go dX5_fallOf_48 rfl rfl
theorem wX5_fallOf_51 : E_ d mX5_fallOf 51 ls st h = E_ d mX5_fallOf 4 ls st h := e_gt dX5_fallOf_51 rfl
theorem wX5_fallOf_54 : E_ d mX5_fallOf 54 [s0, s1, .val (.int x), s3] st h = E_ d mX5_fallOf 55 [s0, s1, .val (.int x), s3] (.int x :: st) h := e_go dX5_fallOf_54 rfl rfl
theorem wX5_fallOf_55 : E_ d mX5_fallOf 55 ls [.int x] h = some (some (.int x), h) := e_rt dX5_fallOf_55 rfl rfl
/-! FootOutModel.matchesOf -/
theorem wX5_matchesOf_0 : E_ d mX5_matchesOf 0 ls st h = E_ d mX5_matchesOf 1 ls (.int (nI 0) :: st) h := e_iconst dX5_matchesOf_0 kiconst_0 rfl
theorem wX5_matchesOf_1 : E_ d mX5_matchesOf 1 [s0, s1, s2, s3, s4, s5, s6, s7] (.int x :: st) h = E_ d mX5_matchesOf 2 [s0, xk s1, .val (.int x), s3, s4, s5, s6, s7] st h := e_go dX5_matchesOf_1 rfl rfl
theorem wX5_matchesOf_2 : E_ d mX5_matchesOf 2 ls st h = E_ d mX5_matchesOf 3 ls (.int (nI 0) :: st) h := e_iconst dX5_matchesOf_2 kiconst_0 rfl
theorem wX5_matchesOf_3 : E_ d mX5_matchesOf 3 [s0, s1, s2, s3, s4, s5, s6, s7] (.int x :: st) h = E_ d mX5_matchesOf 4 [s0, s1, xk s2, .val (.int x), s4, s5, s6, s7] st h := e_go dX5_matchesOf_3 rfl rfl
theorem wX5_matchesOf_4 : E_ d mX5_matchesOf 4 [s0, s1, s2, .val (.int x), s4, s5, s6, s7] st h = E_ d mX5_matchesOf 5 [s0, s1, s2, .val (.int x), s4, s5, s6, s7] (.int x :: st) h := e_go dX5_matchesOf_4 rfl rfl
theorem wX5_matchesOf_5 : E_ d mX5_matchesOf 5 [.val (.ref a), s1, s2, s3, s4, s5, s6, s7] st h = E_ d mX5_matchesOf 6 [.val (.ref a), s1, s2, s3, s4, s5, s6, s7] (.ref a :: st) h := e_go dX5_matchesOf_5 rfl rfl
theorem wX5_matchesOf_6 (ht : oT h a = 7) : E_ d mX5_matchesOf 6 ls (.ref a :: st) h = E_ d mX5_matchesOf 9 ls (va_rf (oR h a 2) :: st) h := e_getR0 dX5_matchesOf_6 rfl rfl ht
theorem wX5_matchesOf_9 : E_ d mX5_matchesOf 9 ls st h = E_ d mX5_matchesOf 12 ls (.int (nI 477) :: st) h := e_sipush dX5_matchesOf_9 ksipush_477 rfl
theorem wX5_matchesOf_12 (ht : oT h a = 40) (hi : xix x (oN h a) = true) : E_ d mX5_matchesOf 12 ls (.int x :: .ref a :: st) h = E_ d mX5_matchesOf 13 ls (.int (oI h a x.toNatClampNeg) :: st) h := e_iald dX5_matchesOf_12 rfl ht hi
theorem wX5_matchesOf_13 : E_ d mX5_matchesOf 13 ls (.int y :: .int x :: st) h = if x < y then E_ d mX5_matchesOf 16 ls st h else E_ d mX5_matchesOf 136 ls st h := e_ige dX5_matchesOf_13 rfl rfl
theorem wX5_matchesOf_16 : E_ d mX5_matchesOf 16 [s0, .val (.int x), s2, s3, s4, s5, s6, s7] st h = E_ d mX5_matchesOf 17 [s0, .val (.int x), s2, s3, s4, s5, s6, s7] (.int x :: st) h := e_go dX5_matchesOf_16 rfl rfl
theorem wX5_matchesOf_17 : E_ d mX5_matchesOf 17 [s0, s1, s2, .val (.int x), s4, s5, s6, s7] st h = E_ d mX5_matchesOf 18 [s0, s1, s2, .val (.int x), s4, s5, s6, s7] (.int x :: st) h := e_go dX5_matchesOf_17 rfl rfl
theorem wX5_matchesOf_18 : E_ d mX5_matchesOf 18 ls (.int y :: .int x :: st) h = E_ d mX5_matchesOf 19 ls (.int (x >>> (y &&& 31)) :: st) h := e_go dX5_matchesOf_18 rfl rfl
theorem wX5_matchesOf_19 : E_ d mX5_matchesOf 19 ls st h = E_ d mX5_matchesOf 20 ls (.int (nI 1) :: st) h := e_iconst dX5_matchesOf_19 kiconst_1 rfl
theorem wX5_matchesOf_20 : E_ d mX5_matchesOf 20 ls (.int y :: .int x :: st) h = E_ d mX5_matchesOf 21 ls (.int (x &&& y) :: st) h := e_go dX5_matchesOf_20 rfl rfl
theorem wX5_matchesOf_21 : E_ d mX5_matchesOf 21 ls (.int x :: st) h = if x = 0 then E_ d mX5_matchesOf 24 ls st h else E_ d mX5_matchesOf 27 ls st h := e_zne dX5_matchesOf_21 rfl rfl
theorem wX5_matchesOf_24 : E_ d mX5_matchesOf 24 ls st h = E_ d mX5_matchesOf 130 ls st h := e_gt dX5_matchesOf_24 rfl
theorem wX5_matchesOf_27 : E_ d mX5_matchesOf 27 ls st h = E_ d mX5_matchesOf 28 ls (.int ((-1)) :: st) h := e_iconst dX5_matchesOf_27 kiconst_m1 rfl
theorem wX5_matchesOf_28 : E_ d mX5_matchesOf 28 [s0, s1, s2, s3, s4, s5, s6, s7] (.int x :: st) h = E_ d mX5_matchesOf 30 [s0, s1, s2, xk s3, .val (.int x), s5, s6, s7] st h := e_go dX5_matchesOf_28 rfl rfl
theorem wX5_matchesOf_30 : E_ d mX5_matchesOf 30 ls st h = E_ d mX5_matchesOf 31 ls (.int (nI 0) :: st) h := e_iconst dX5_matchesOf_30 kiconst_0 rfl
theorem wX5_matchesOf_31 : E_ d mX5_matchesOf 31 [s0, s1, s2, s3, s4, s5, s6, s7] (.int x :: st) h = E_ d mX5_matchesOf 33 [s0, s1, s2, s3, xk s4, .val (.int x), s6, s7] st h := e_go dX5_matchesOf_31 rfl rfl
theorem wX5_matchesOf_33 : E_ d mX5_matchesOf 33 ls st h = E_ d mX5_matchesOf 34 ls (.int (nI 0) :: st) h := e_iconst dX5_matchesOf_33 kiconst_0 rfl
theorem wX5_matchesOf_34 : E_ d mX5_matchesOf 34 [s0, s1, s2, s3, s4, s5, s6, s7] (.int x :: st) h = E_ d mX5_matchesOf 36 [s0, s1, s2, s3, s4, xk s5, .val (.int x), s7] st h := e_go dX5_matchesOf_34 rfl rfl
theorem wX5_matchesOf_36 : E_ d mX5_matchesOf 36 [s0, s1, s2, s3, s4, s5, .val (.int x), s7] st h = E_ d mX5_matchesOf 38 [s0, s1, s2, s3, s4, s5, .val (.int x), s7] (.int x :: st) h := e_go dX5_matchesOf_36 rfl rfl
theorem wX5_matchesOf_38 : E_ d mX5_matchesOf 38 [.val (.ref a), s1, s2, s3, s4, s5, s6, s7] st h = E_ d mX5_matchesOf 39 [.val (.ref a), s1, s2, s3, s4, s5, s6, s7] (.ref a :: st) h := e_go dX5_matchesOf_38 rfl rfl
theorem wX5_matchesOf_39 (ht : oT h a = 7) : E_ d mX5_matchesOf 39 ls (.ref a :: st) h = E_ d mX5_matchesOf 42 ls (va_rf (oR h a 2) :: st) h := e_getR0 dX5_matchesOf_39 rfl rfl ht
theorem wX5_matchesOf_42 : E_ d mX5_matchesOf 42 ls st h = E_ d mX5_matchesOf 45 ls (.int (nI 477) :: st) h := e_sipush dX5_matchesOf_42 ksipush_477 rfl
theorem wX5_matchesOf_45 (ht : oT h a = 40) (hi : xix x (oN h a) = true) : E_ d mX5_matchesOf 45 ls (.int x :: .ref a :: st) h = E_ d mX5_matchesOf 46 ls (.int (oI h a x.toNatClampNeg) :: st) h := e_iald dX5_matchesOf_45 rfl ht hi
theorem wX5_matchesOf_46 : E_ d mX5_matchesOf 46 ls (.int y :: .int x :: st) h = if x < y then E_ d mX5_matchesOf 49 ls st h else E_ d mX5_matchesOf 123 ls st h := e_ige dX5_matchesOf_46 rfl rfl
theorem wX5_matchesOf_49 : E_ d mX5_matchesOf 49 [s0, .val (.int x), s2, s3, s4, s5, s6, s7] st h = E_ d mX5_matchesOf 50 [s0, .val (.int x), s2, s3, s4, s5, s6, s7] (.int x :: st) h := e_go dX5_matchesOf_49 rfl rfl
theorem wX5_matchesOf_50 : E_ d mX5_matchesOf 50 [s0, s1, .val (.int x), s3, s4, s5, s6, s7] st h = E_ d mX5_matchesOf 51 [s0, s1, .val (.int x), s3, s4, s5, s6, s7] (.int x :: st) h := e_go dX5_matchesOf_50 rfl rfl
theorem wX5_matchesOf_51 : E_ d mX5_matchesOf 51 ls (.int y :: .int x :: st) h = E_ d mX5_matchesOf 52 ls (.int (x ||| y) :: st) h := e_go dX5_matchesOf_51 rfl rfl
theorem wX5_matchesOf_52 : E_ d mX5_matchesOf 52 [s0, s1, s2, s3, s4, s5, .val (.int x), s7] st h = E_ d mX5_matchesOf 54 [s0, s1, s2, s3, s4, s5, .val (.int x), s7] (.int x :: st) h := e_go dX5_matchesOf_52 rfl rfl
theorem wX5_matchesOf_54 : E_ d mX5_matchesOf 54 ls (.int y :: .int x :: st) h = E_ d mX5_matchesOf 55 ls (.int (x >>> (y &&& 31)) :: st) h := e_go dX5_matchesOf_54 rfl rfl
theorem wX5_matchesOf_55 : E_ d mX5_matchesOf 55 ls st h = E_ d mX5_matchesOf 56 ls (.int (nI 1) :: st) h := e_iconst dX5_matchesOf_55 kiconst_1 rfl
theorem wX5_matchesOf_56 : E_ d mX5_matchesOf 56 ls (.int y :: .int x :: st) h = E_ d mX5_matchesOf 57 ls (.int (x &&& y) :: st) h := e_go dX5_matchesOf_56 rfl rfl
theorem wX5_matchesOf_57 : E_ d mX5_matchesOf 57 ls st h = E_ d mX5_matchesOf 58 ls (.int (nI 1) :: st) h := e_iconst dX5_matchesOf_57 kiconst_1 rfl
theorem wX5_matchesOf_58 : E_ d mX5_matchesOf 58 ls (.int y :: .int x :: st) h = if x = y then E_ d mX5_matchesOf 61 ls st h else E_ d mX5_matchesOf 64 ls st h := e_ine dX5_matchesOf_58 rfl rfl
theorem wX5_matchesOf_61 : E_ d mX5_matchesOf 61 ls st h = E_ d mX5_matchesOf 117 ls st h := e_gt dX5_matchesOf_61 rfl
theorem wX5_matchesOf_64 : E_ d mX5_matchesOf 64 [.val (.ref a), s1, s2, s3, s4, s5, s6, s7] st h = E_ d mX5_matchesOf 65 [.val (.ref a), s1, s2, s3, s4, s5, s6, s7] (.ref a :: st) h := e_go dX5_matchesOf_64 rfl rfl
theorem wX5_matchesOf_65 : E_ d mX5_matchesOf 65 [s0, s1, s2, .val (.int x), s4, s5, s6, s7] st h = E_ d mX5_matchesOf 66 [s0, s1, s2, .val (.int x), s4, s5, s6, s7] (.int x :: st) h := e_go dX5_matchesOf_65 rfl rfl
theorem wX5_matchesOf_66 (ht : oT h a = 7) : E_ (d + 1) mX5_matchesOf 66 ls [.int x1, .ref a] h = (C_ d mX5_hurtAt [.ref a, .int x1] h).bind fun r => E_ (d + 1) mX5_matchesOf 69 ls (xpu r.1 []) r.2 := e_vir dX5_matchesOf_66 rfl rfl rfl rfl rfl rfl (Nat.le_of_ble_eq_true rfl) (Nat.le_of_ble_eq_true rfl) ht
theorem wX5_matchesOf_69 : E_ d mX5_matchesOf 69 [.val (.ref a), s1, s2, s3, s4, s5, s6, s7] st h = E_ d mX5_matchesOf 70 [.val (.ref a), s1, s2, s3, s4, s5, s6, s7] (.ref a :: st) h := e_go dX5_matchesOf_69 rfl rfl
theorem wX5_matchesOf_70 : E_ d mX5_matchesOf 70 [s0, s1, s2, s3, s4, s5, .val (.int x), s7] st h = E_ d mX5_matchesOf 72 [s0, s1, s2, s3, s4, s5, .val (.int x), s7] (.int x :: st) h := e_go dX5_matchesOf_70 rfl rfl
theorem wX5_matchesOf_72 (ht : oT h a = 7) : E_ (d + 1) mX5_matchesOf 72 ls [.int x1, .ref a, .int x2] h = (C_ d mX5_hurtAt [.ref a, .int x1] h).bind fun r => E_ (d + 1) mX5_matchesOf 75 ls (xpu r.1 [.int x2]) r.2 := e_vir dX5_matchesOf_72 rfl rfl rfl rfl rfl rfl (Nat.le_of_ble_eq_true rfl) (Nat.le_of_ble_eq_true rfl) ht
theorem wX5_matchesOf_75 : E_ d mX5_matchesOf 75 ls (.int y :: .int x :: st) h = E_ d mX5_matchesOf 76 ls (.int (x - y) :: st) h := e_go dX5_matchesOf_75 rfl rfl
theorem wX5_matchesOf_76 : E_ d mX5_matchesOf 76 [s0, s1, s2, s3, s4, s5, s6, s7] (.int x :: st) h = E_ d mX5_matchesOf 78 [s0, s1, s2, s3, s4, s5, xk s6, .val (.int x)] st h := e_go dX5_matchesOf_76 rfl rfl
theorem wX5_matchesOf_78 : E_ d mX5_matchesOf 78 [s0, s1, s2, s3, s4, s5, s6, .val (.int x)] st h = E_ d mX5_matchesOf 80 [s0, s1, s2, s3, s4, s5, s6, .val (.int x)] (.int x :: st) h := e_go dX5_matchesOf_78 rfl rfl
theorem wX5_matchesOf_80 : E_ d mX5_matchesOf 80 ls (.int x :: st) h = if x < 0 then E_ d mX5_matchesOf 83 ls st h else E_ d mX5_matchesOf 89 ls st h := e_zge dX5_matchesOf_80 rfl rfl
theorem wX5_matchesOf_83 : E_ d mX5_matchesOf 83 [s0, s1, s2, s3, s4, s5, s6, .val (.int x)] st h = E_ d mX5_matchesOf 85 [s0, s1, s2, s3, s4, s5, s6, .val (.int x)] (.int x :: st) h := e_go dX5_matchesOf_83 rfl rfl
theorem wX5_matchesOf_85 : E_ d mX5_matchesOf 85 ls (.int x :: st) h = E_ d mX5_matchesOf 86 ls (.int (-x) :: st) h := e_go dX5_matchesOf_85 rfl rfl
theorem wX5_matchesOf_86 : E_ d mX5_matchesOf 86 ls st h = E_ d mX5_matchesOf 91 ls st h := e_gt dX5_matchesOf_86 rfl
theorem wX5_matchesOf_89 : E_ d mX5_matchesOf 89 [s0, s1, s2, s3, s4, s5, s6, .val (.int x)] st h = E_ d mX5_matchesOf 91 [s0, s1, s2, s3, s4, s5, s6, .val (.int x)] (.int x :: st) h := e_go dX5_matchesOf_89 rfl rfl
theorem wX5_matchesOf_91 : E_ d mX5_matchesOf 91 [s0, s1, s2, s3, s4, s5, s6, s7] (.int x :: st) h = E_ d mX5_matchesOf 93 [s0, s1, s2, s3, s4, s5, xk s6, .val (.int x)] st h := e_go dX5_matchesOf_91 rfl rfl
theorem wX5_matchesOf_93 : E_ d mX5_matchesOf 93 [s0, s1, s2, s3, .val (.int x), s5, s6, s7] st h = E_ d mX5_matchesOf 95 [s0, s1, s2, s3, .val (.int x), s5, s6, s7] (.int x :: st) h := e_go dX5_matchesOf_93 rfl rfl
theorem wX5_matchesOf_95 : E_ d mX5_matchesOf 95 ls st h = E_ d mX5_matchesOf 96 ls (.int ((-1)) :: st) h := e_iconst dX5_matchesOf_95 kiconst_m1 rfl
theorem wX5_matchesOf_96 : E_ d mX5_matchesOf 96 ls (.int y :: .int x :: st) h = if x = y then E_ d mX5_matchesOf 109 ls st h else E_ d mX5_matchesOf 99 ls st h := e_ieq dX5_matchesOf_96 rfl rfl
theorem wX5_matchesOf_99 : E_ d mX5_matchesOf 99 [s0, s1, s2, s3, s4, s5, s6, .val (.int x)] st h = E_ d mX5_matchesOf 101 [s0, s1, s2, s3, s4, s5, s6, .val (.int x)] (.int x :: st) h := e_go dX5_matchesOf_99 rfl rfl
theorem wX5_matchesOf_101 : E_ d mX5_matchesOf 101 [s0, s1, s2, s3, s4, .val (.int x), s6, s7] st h = E_ d mX5_matchesOf 103 [s0, s1, s2, s3, s4, .val (.int x), s6, s7] (.int x :: st) h := e_go dX5_matchesOf_101 rfl rfl
theorem wX5_matchesOf_103 : E_ d mX5_matchesOf 103 ls (.int y :: .int x :: st) h = if x < y then E_ d mX5_matchesOf 109 ls st h else E_ d mX5_matchesOf 106 ls st h := e_ilt dX5_matchesOf_103 rfl rfl
theorem wX5_matchesOf_106 : E_ d mX5_matchesOf 106 ls st h = E_ d mX5_matchesOf 117 ls st h := e_gt dX5_matchesOf_106 rfl
theorem wX5_matchesOf_109 : E_ d mX5_matchesOf 109 [s0, s1, s2, s3, s4, s5, .val (.int x), s7] st h = E_ d mX5_matchesOf 111 [s0, s1, s2, s3, s4, s5, .val (.int x), s7] (.int x :: st) h := e_go dX5_matchesOf_109 rfl rfl
theorem wX5_matchesOf_111 : E_ d mX5_matchesOf 111 [s0, s1, s2, s3, s4, s5, s6, s7] (.int x :: st) h = E_ d mX5_matchesOf 113 [s0, s1, s2, xk s3, .val (.int x), s5, s6, s7] st h := e_go dX5_matchesOf_111 rfl rfl
theorem wX5_matchesOf_113 : E_ d mX5_matchesOf 113 [s0, s1, s2, s3, s4, s5, s6, .val (.int x)] st h = E_ d mX5_matchesOf 115 [s0, s1, s2, s3, s4, s5, s6, .val (.int x)] (.int x :: st) h := e_go dX5_matchesOf_113 rfl rfl
theorem wX5_matchesOf_115 : E_ d mX5_matchesOf 115 [s0, s1, s2, s3, s4, s5, s6, s7] (.int x :: st) h = E_ d mX5_matchesOf 117 [s0, s1, s2, s3, xk s4, .val (.int x), s6, s7] st h := e_go dX5_matchesOf_115 rfl rfl
theorem wX5_matchesOf_117 : E_ d mX5_matchesOf 117 [s0, s1, s2, s3, s4, s5, .val (.int x), s7] st h = E_ d mX5_matchesOf 120 [s0, s1, s2, s3, s4, xk s5, .val (.int (x + nI 1)), s7] st h := by rw [← kiinc_1]; exact e_go dX5_matchesOf_117 rfl rfl
theorem wX5_matchesOf_120 : E_ d mX5_matchesOf 120 ls st h = E_ d mX5_matchesOf 36 ls st h := e_gt dX5_matchesOf_120 rfl
theorem wX5_matchesOf_123 : E_ d mX5_matchesOf 123 [s0, s1, .val (.int x), s3, s4, s5, s6, s7] st h = E_ d mX5_matchesOf 124 [s0, s1, .val (.int x), s3, s4, s5, s6, s7] (.int x :: st) h := e_go dX5_matchesOf_123 rfl rfl
theorem wX5_matchesOf_124 : E_ d mX5_matchesOf 124 ls st h = E_ d mX5_matchesOf 125 ls (.int (nI 1) :: st) h := e_iconst dX5_matchesOf_124 kiconst_1 rfl
theorem wX5_matchesOf_125 : E_ d mX5_matchesOf 125 [s0, s1, s2, s3, .val (.int x), s5, s6, s7] st h = E_ d mX5_matchesOf 127 [s0, s1, s2, s3, .val (.int x), s5, s6, s7] (.int x :: st) h := e_go dX5_matchesOf_125 rfl rfl
theorem wX5_matchesOf_127 : E_ d mX5_matchesOf 127 ls (.int y :: .int x :: st) h = E_ d mX5_matchesOf 128 ls (.int (x <<< (y &&& 31)) :: st) h := e_go dX5_matchesOf_127 rfl rfl
theorem wX5_matchesOf_128 : E_ d mX5_matchesOf 128 ls (.int y :: .int x :: st) h = E_ d mX5_matchesOf 129 ls (.int (x ||| y) :: st) h := e_go dX5_matchesOf_128 rfl rfl
theorem wX5_matchesOf_129 : E_ d mX5_matchesOf 129 [s0, s1, s2, s3, s4, s5, s6, s7] (.int x :: st) h = E_ d mX5_matchesOf 130 [s0, xk s1, .val (.int x), s3, s4, s5, s6, s7] st h := e_go dX5_matchesOf_129 rfl rfl
theorem wX5_matchesOf_130 : E_ d mX5_matchesOf 130 [s0, s1, s2, .val (.int x), s4, s5, s6, s7] st h = E_ d mX5_matchesOf 133 [s0, s1, xk s2, .val (.int (x + nI 1)), s4, s5, s6, s7] st h := by rw [← kiinc_1]; exact e_go dX5_matchesOf_130 rfl rfl
theorem wX5_matchesOf_133 : E_ d mX5_matchesOf 133 ls st h = E_ d mX5_matchesOf 4 ls st h := e_gt dX5_matchesOf_133 rfl
theorem wX5_matchesOf_136 : E_ d mX5_matchesOf 136 [s0, s1, .val (.int x), s3, s4, s5, s6, s7] st h = E_ d mX5_matchesOf 137 [s0, s1, .val (.int x), s3, s4, s5, s6, s7] (.int x :: st) h := e_go dX5_matchesOf_136 rfl rfl
theorem wX5_matchesOf_137 : E_ d mX5_matchesOf 137 ls [.int x] h = some (some (.int x), h) := e_rt dX5_matchesOf_137 rfl rfl
/-! FootOutModel.ranked -/
theorem wX5_ranked_0 : E_ d mX5_ranked 0 [.val (.ref a), s1, s2, s3, s4] st h = E_ d mX5_ranked 1 [.val (.ref a), s1, s2, s3, s4] (.ref a :: st) h := e_go dX5_ranked_0 rfl rfl
theorem wX5_ranked_1 : E_ d mX5_ranked 1 ls st h = E_ d mX5_ranked 2 ls (.int (nI 0) :: st) h := e_iconst dX5_ranked_1 kiconst_0 rfl
theorem wX5_ranked_2 (ht : oT h a = 7) : E_ d mX5_ranked 2 ls (.int x :: .ref a :: st) h = E_ d mX5_ranked 5 ls st (pI h a (va_up (oI h a) 0 x)) := e_putI dX5_ranked_2 rfl rfl ht
theorem wX5_ranked_5 : E_ d mX5_ranked 5 [.val (.ref a), s1, s2, s3, s4] st h = E_ d mX5_ranked 6 [.val (.ref a), s1, s2, s3, s4] (.ref a :: st) h := e_go dX5_ranked_5 rfl rfl
theorem wX5_ranked_6 : E_ d mX5_ranked 6 [s0, .val (.int x), s2, s3, s4] st h = E_ d mX5_ranked 7 [s0, .val (.int x), s2, s3, s4] (.int x :: st) h := e_go dX5_ranked_6 rfl rfl
theorem wX5_ranked_7 (ht : oT h a = 7) : E_ (d + 1) mX5_ranked 7 ls [.int x1, .ref a] h = (C_ d mX5_isPlace [.ref a, .int x1] h).bind fun r => E_ (d + 1) mX5_ranked 10 ls (xpu r.1 []) r.2 := e_vir dX5_ranked_7 rfl rfl rfl rfl rfl rfl (Nat.le_of_ble_eq_true rfl) (Nat.le_of_ble_eq_true rfl) ht
theorem wX5_ranked_10 : E_ d mX5_ranked 10 ls (.int x :: st) h = if x = 0 then E_ d mX5_ranked 13 ls st h else E_ d mX5_ranked 15 ls st h := e_zne dX5_ranked_10 rfl rfl
theorem wX5_ranked_13 : E_ d mX5_ranked 13 ls st h = E_ d mX5_ranked 14 ls (.int ((-1)) :: st) h := e_iconst dX5_ranked_13 kiconst_m1 rfl
theorem wX5_ranked_14 : E_ d mX5_ranked 14 ls [.int x] h = some (some (.int x), h) := e_rt dX5_ranked_14 rfl rfl
theorem wX5_ranked_15 : E_ d mX5_ranked 15 ls st h = E_ d mX5_ranked 16 ls (.int (nI 0) :: st) h := e_iconst dX5_ranked_15 kiconst_0 rfl
theorem wX5_ranked_16 : E_ d mX5_ranked 16 [s0, s1, s2, s3, s4] (.int x :: st) h = E_ d mX5_ranked 17 [s0, xk s1, .val (.int x), s3, s4] st h := e_go dX5_ranked_16 rfl rfl
theorem wX5_ranked_17 : E_ d mX5_ranked 17 [s0, s1, .val (.int x), s3, s4] st h = E_ d mX5_ranked 18 [s0, s1, .val (.int x), s3, s4] (.int x :: st) h := e_go dX5_ranked_17 rfl rfl
theorem wX5_ranked_18 : E_ d mX5_ranked 18 [.val (.ref a), s1, s2, s3, s4] st h = E_ d mX5_ranked 19 [.val (.ref a), s1, s2, s3, s4] (.ref a :: st) h := e_go dX5_ranked_18 rfl rfl
theorem wX5_ranked_19 (ht : oT h a = 7) : E_ d mX5_ranked 19 ls (.ref a :: st) h = E_ d mX5_ranked 22 ls (va_rf (oR h a 2) :: st) h := e_getR0 dX5_ranked_19 rfl rfl ht
theorem wX5_ranked_22 : E_ d mX5_ranked 22 ls st h = E_ d mX5_ranked 25 ls (.int (nI 477) :: st) h := e_sipush dX5_ranked_22 ksipush_477 rfl
theorem wX5_ranked_25 (ht : oT h a = 40) (hi : xix x (oN h a) = true) : E_ d mX5_ranked 25 ls (.int x :: .ref a :: st) h = E_ d mX5_ranked 26 ls (.int (oI h a x.toNatClampNeg) :: st) h := e_iald dX5_ranked_25 rfl ht hi
theorem wX5_ranked_26 : E_ d mX5_ranked 26 ls (.int y :: .int x :: st) h = if x < y then E_ d mX5_ranked 29 ls st h else E_ d mX5_ranked 100 ls st h := e_ige dX5_ranked_26 rfl rfl
theorem wX5_ranked_29 : E_ d mX5_ranked 29 ls st h = E_ d mX5_ranked 30 ls (.int (nI 0) :: st) h := e_iconst dX5_ranked_29 kiconst_0 rfl
theorem wX5_ranked_30 : E_ d mX5_ranked 30 [s0, s1, s2, s3, s4] (.int x :: st) h = E_ d mX5_ranked 31 [s0, s1, xk s2, .val (.int x), s4] st h := e_go dX5_ranked_30 rfl rfl
theorem wX5_ranked_31 : E_ d mX5_ranked 31 ls st h = E_ d mX5_ranked 32 ls (.int (nI 0) :: st) h := e_iconst dX5_ranked_31 kiconst_0 rfl
theorem wX5_ranked_32 : E_ d mX5_ranked 32 [s0, s1, s2, s3, s4] (.int x :: st) h = E_ d mX5_ranked 34 [s0, s1, s2, xk s3, .val (.int x)] st h := e_go dX5_ranked_32 rfl rfl
theorem wX5_ranked_34 : E_ d mX5_ranked 34 [s0, s1, s2, s3, .val (.int x)] st h = E_ d mX5_ranked 36 [s0, s1, s2, s3, .val (.int x)] (.int x :: st) h := e_go dX5_ranked_34 rfl rfl
theorem wX5_ranked_36 : E_ d mX5_ranked 36 [.val (.ref a), s1, s2, s3, s4] st h = E_ d mX5_ranked 37 [.val (.ref a), s1, s2, s3, s4] (.ref a :: st) h := e_go dX5_ranked_36 rfl rfl
theorem wX5_ranked_37 (ht : oT h a = 7) : E_ d mX5_ranked 37 ls (.ref a :: st) h = E_ d mX5_ranked 40 ls (va_rf (oR h a 2) :: st) h := e_getR0 dX5_ranked_37 rfl rfl ht
theorem wX5_ranked_40 : E_ d mX5_ranked 40 ls st h = E_ d mX5_ranked 43 ls (.int (nI 477) :: st) h := e_sipush dX5_ranked_40 ksipush_477 rfl
theorem wX5_ranked_43 (ht : oT h a = 40) (hi : xix x (oN h a) = true) : E_ d mX5_ranked 43 ls (.int x :: .ref a :: st) h = E_ d mX5_ranked 44 ls (.int (oI h a x.toNatClampNeg) :: st) h := e_iald dX5_ranked_43 rfl ht hi
theorem wX5_ranked_44 : E_ d mX5_ranked 44 ls (.int y :: .int x :: st) h = if x < y then E_ d mX5_ranked 47 ls st h else E_ d mX5_ranked 87 ls st h := e_ige dX5_ranked_44 rfl rfl
theorem wX5_ranked_47 : E_ d mX5_ranked 47 [s0, s1, s2, .val (.int x), s4] st h = E_ d mX5_ranked 48 [s0, s1, s2, .val (.int x), s4] (.int x :: st) h := e_go dX5_ranked_47 rfl rfl
theorem wX5_ranked_48 : E_ d mX5_ranked 48 [.val (.ref a), s1, s2, s3, s4] st h = E_ d mX5_ranked 49 [.val (.ref a), s1, s2, s3, s4] (.ref a :: st) h := e_go dX5_ranked_48 rfl rfl
theorem wX5_ranked_49 : E_ d mX5_ranked 49 [s0, s1, s2, s3, .val (.int x)] st h = E_ d mX5_ranked 51 [s0, s1, s2, s3, .val (.int x)] (.int x :: st) h := e_go dX5_ranked_49 rfl rfl
theorem wX5_ranked_51 : E_ d mX5_ranked 51 [s0, s1, .val (.int x), s3, s4] st h = E_ d mX5_ranked 52 [s0, s1, .val (.int x), s3, s4] (.int x :: st) h := e_go dX5_ranked_51 rfl rfl
theorem wX5_ranked_52 (ht : oT h a = 7) : E_ (d + 1) mX5_ranked 52 ls [.int x2, .int x1, .ref a, .int x3] h = (C_ d mX5_isWorse [.ref a, .int x1, .int x2] h).bind fun r => E_ (d + 1) mX5_ranked 55 ls (xpu r.1 [.int x3]) r.2 := e_vir dX5_ranked_52 rfl rfl rfl rfl rfl rfl (Nat.le_of_ble_eq_true rfl) (Nat.le_of_ble_eq_true rfl) ht
theorem wX5_ranked_55 : E_ d mX5_ranked 55 ls (.int x :: st) h = if x = 0 then E_ d mX5_ranked 58 ls st h else E_ d mX5_ranked 74 ls st h := e_zne dX5_ranked_55 rfl rfl
theorem wX5_ranked_58 : E_ d mX5_ranked 58 [s0, s1, s2, s3, .val (.int x)] st h = E_ d mX5_ranked 60 [s0, s1, s2, s3, .val (.int x)] (.int x :: st) h := e_go dX5_ranked_58 rfl rfl
theorem wX5_ranked_60 : E_ d mX5_ranked 60 [s0, s1, .val (.int x), s3, s4] st h = E_ d mX5_ranked 61 [s0, s1, .val (.int x), s3, s4] (.int x :: st) h := e_go dX5_ranked_60 rfl rfl
theorem wX5_ranked_61 : E_ d mX5_ranked 61 ls (.int y :: .int x :: st) h = if x < y then E_ d mX5_ranked 64 ls st h else E_ d mX5_ranked 78 ls st h := e_ige dX5_ranked_61 rfl rfl
theorem wX5_ranked_64 : E_ d mX5_ranked 64 [.val (.ref a), s1, s2, s3, s4] st h = E_ d mX5_ranked 65 [.val (.ref a), s1, s2, s3, s4] (.ref a :: st) h := e_go dX5_ranked_64 rfl rfl
theorem wX5_ranked_65 : E_ d mX5_ranked 65 [s0, s1, .val (.int x), s3, s4] st h = E_ d mX5_ranked 66 [s0, s1, .val (.int x), s3, s4] (.int x :: st) h := e_go dX5_ranked_65 rfl rfl
theorem wX5_ranked_66 : E_ d mX5_ranked 66 [s0, s1, s2, s3, .val (.int x)] st h = E_ d mX5_ranked 68 [s0, s1, s2, s3, .val (.int x)] (.int x :: st) h := e_go dX5_ranked_66 rfl rfl
theorem wX5_ranked_68 (ht : oT h a = 7) : E_ (d + 1) mX5_ranked 68 ls [.int x2, .int x1, .ref a, .int x3] h = (C_ d mX5_isWorse [.ref a, .int x1, .int x2] h).bind fun r => E_ (d + 1) mX5_ranked 71 ls (xpu r.1 [.int x3]) r.2 := e_vir dX5_ranked_68 rfl rfl rfl rfl rfl rfl (Nat.le_of_ble_eq_true rfl) (Nat.le_of_ble_eq_true rfl) ht
theorem wX5_ranked_71 : E_ d mX5_ranked 71 ls (.int x :: st) h = if x = 0 then E_ d mX5_ranked 74 ls st h else E_ d mX5_ranked 78 ls st h := e_zne dX5_ranked_71 rfl rfl
theorem wX5_ranked_74 : E_ d mX5_ranked 74 ls st h = E_ d mX5_ranked 75 ls (.int (nI 1) :: st) h := e_iconst dX5_ranked_74 kiconst_1 rfl
theorem wX5_ranked_75 : E_ d mX5_ranked 75 ls st h = E_ d mX5_ranked 79 ls st h := e_gt dX5_ranked_75 rfl
theorem wX5_ranked_78 : E_ d mX5_ranked 78 ls st h = E_ d mX5_ranked 79 ls (.int (nI 0) :: st) h := e_iconst dX5_ranked_78 kiconst_0 rfl
theorem wX5_ranked_79 : E_ d mX5_ranked 79 ls (.int y :: .int x :: st) h = E_ d mX5_ranked 80 ls (.int (x + y) :: st) h := e_go dX5_ranked_79 rfl rfl
theorem wX5_ranked_80 : E_ d mX5_ranked 80 [s0, s1, s2, s3, s4] (.int x :: st) h = E_ d mX5_ranked 81 [s0, s1, xk s2, .val (.int x), s4] st h := e_go dX5_ranked_80 rfl rfl
theorem wX5_ranked_81 : E_ d mX5_ranked 81 [s0, s1, s2, s3, .val (.int x)] st h = E_ d mX5_ranked 84 [s0, s1, s2, xk s3, .val (.int (x + nI 1))] st h := by rw [← kiinc_1]; exact e_go dX5_ranked_81 rfl rfl
theorem wX5_ranked_84 : E_ d mX5_ranked 84 ls st h = E_ d mX5_ranked 34 ls st h := e_gt dX5_ranked_84 rfl
theorem wX5_ranked_87 : E_ d mX5_ranked 87 [s0, s1, s2, .val (.int x), s4] st h = E_ d mX5_ranked 88 [s0, s1, s2, .val (.int x), s4] (.int x :: st) h := e_go dX5_ranked_87 rfl rfl
theorem wX5_ranked_88 : E_ d mX5_ranked 88 [s0, .val (.int x), s2, s3, s4] st h = E_ d mX5_ranked 89 [s0, .val (.int x), s2, s3, s4] (.int x :: st) h := e_go dX5_ranked_88 rfl rfl
theorem wX5_ranked_89 : E_ d mX5_ranked 89 ls (.int y :: .int x :: st) h = if x = y then E_ d mX5_ranked 92 ls st h else E_ d mX5_ranked 94 ls st h := e_ine dX5_ranked_89 rfl rfl
theorem wX5_ranked_92 : E_ d mX5_ranked 92 [s0, s1, .val (.int x), s3, s4] st h = E_ d mX5_ranked 93 [s0, s1, .val (.int x), s3, s4] (.int x :: st) h := e_go dX5_ranked_92 rfl rfl
theorem wX5_ranked_93 : E_ d mX5_ranked 93 ls [.int x] h = some (some (.int x), h) := e_rt dX5_ranked_93 rfl rfl
theorem wX5_ranked_94 : E_ d mX5_ranked 94 [s0, s1, .val (.int x), s3, s4] st h = E_ d mX5_ranked 97 [s0, xk s1, .val (.int (x + nI 1)), s3, s4] st h := by rw [← kiinc_1]; exact e_go dX5_ranked_94 rfl rfl
theorem wX5_ranked_97 : E_ d mX5_ranked 97 ls st h = E_ d mX5_ranked 17 ls st h := e_gt dX5_ranked_97 rfl
theorem wX5_ranked_100 : E_ d mX5_ranked 100 ls st h = E_ d mX5_ranked 101 ls (.int ((-1)) :: st) h := e_iconst dX5_ranked_100 kiconst_m1 rfl
theorem wX5_ranked_101 : E_ d mX5_ranked 101 ls [.int x] h = some (some (.int x), h) := e_rt dX5_ranked_101 rfl rfl
/-! FootOutModel.isWorse -/
theorem wX5_isWorse_0 : E_ d mX5_isWorse 0 [.val (.ref a), s1, s2, s3, s4, s5, s6, s7, s8, s9, s10] st h = E_ d mX5_isWorse 1 [.val (.ref a), s1, s2, s3, s4, s5, s6, s7, s8, s9, s10] (.ref a :: st) h := e_go dX5_isWorse_0 rfl rfl
theorem wX5_isWorse_1 (ht : oT h a = 7) : E_ d mX5_isWorse 1 ls (.ref a :: st) h = E_ d mX5_isWorse 4 ls (va_rf (oR h a 2) :: st) h := e_getR0 dX5_isWorse_1 rfl rfl ht
theorem wX5_isWorse_4 : E_ d mX5_isWorse 4 ls st h = E_ d mX5_isWorse 7 ls (.int (nI 490) :: st) h := e_sipush dX5_isWorse_4 ksipush_490 rfl
theorem wX5_isWorse_7 : E_ d mX5_isWorse 7 [s0, .val (.int x), s2, s3, s4, s5, s6, s7, s8, s9, s10] st h = E_ d mX5_isWorse 8 [s0, .val (.int x), s2, s3, s4, s5, s6, s7, s8, s9, s10] (.int x :: st) h := e_go dX5_isWorse_7 rfl rfl
theorem wX5_isWorse_8 : E_ d mX5_isWorse 8 ls (.int y :: .int x :: st) h = E_ d mX5_isWorse 9 ls (.int (x + y) :: st) h := e_go dX5_isWorse_8 rfl rfl
theorem wX5_isWorse_9 (ht : oT h a = 40) (hi : xix x (oN h a) = true) : E_ d mX5_isWorse 9 ls (.int x :: .ref a :: st) h = E_ d mX5_isWorse 10 ls (.int (oI h a x.toNatClampNeg) :: st) h := e_iald dX5_isWorse_9 rfl ht hi
theorem wX5_isWorse_10 : E_ d mX5_isWorse 10 [.val (.ref a), s1, s2, s3, s4, s5, s6, s7, s8, s9, s10] st h = E_ d mX5_isWorse 11 [.val (.ref a), s1, s2, s3, s4, s5, s6, s7, s8, s9, s10] (.ref a :: st) h := e_go dX5_isWorse_10 rfl rfl
theorem wX5_isWorse_11 (ht : oT h a = 7) : E_ d mX5_isWorse 11 ls (.ref a :: st) h = E_ d mX5_isWorse 14 ls (va_rf (oR h a 2) :: st) h := e_getR0 dX5_isWorse_11 rfl rfl ht
theorem wX5_isWorse_14 : E_ d mX5_isWorse 14 ls st h = E_ d mX5_isWorse 17 ls (.int (nI 502) :: st) h := e_sipush dX5_isWorse_14 ksipush_502 rfl
theorem wX5_isWorse_17 : E_ d mX5_isWorse 17 [s0, .val (.int x), s2, s3, s4, s5, s6, s7, s8, s9, s10] st h = E_ d mX5_isWorse 18 [s0, .val (.int x), s2, s3, s4, s5, s6, s7, s8, s9, s10] (.int x :: st) h := e_go dX5_isWorse_17 rfl rfl
theorem wX5_isWorse_18 : E_ d mX5_isWorse 18 ls (.int y :: .int x :: st) h = E_ d mX5_isWorse 19 ls (.int (x + y) :: st) h := e_go dX5_isWorse_18 rfl rfl
theorem wX5_isWorse_19 (ht : oT h a = 40) (hi : xix x (oN h a) = true) : E_ d mX5_isWorse 19 ls (.int x :: .ref a :: st) h = E_ d mX5_isWorse 20 ls (.int (oI h a x.toNatClampNeg) :: st) h := e_iald dX5_isWorse_19 rfl ht hi
theorem wX5_isWorse_20 : E_ d mX5_isWorse 20 ls (.int y :: .int x :: st) h = E_ d mX5_isWorse 21 ls (.int (x + y) :: st) h := e_go dX5_isWorse_20 rfl rfl
theorem wX5_isWorse_21 : E_ d mX5_isWorse 21 ls (.int x :: st) h = E_ d mX5_isWorse 22 ls (.long x.toInt64 :: st) h := e_go dX5_isWorse_21 rfl rfl
theorem wX5_isWorse_22 : E_ d mX5_isWorse 22 [s0, s1, s2, s3, s4, s5, s6, s7, s8, s9, s10] (.long u :: st) h = E_ d mX5_isWorse 23 [s0, s1, xk s2, .val (.long u), .unset, s5, s6, s7, s8, s9, s10] st h := e_go dX5_isWorse_22 rfl rfl
theorem wX5_isWorse_23 : E_ d mX5_isWorse 23 [.val (.ref a), s1, s2, s3, s4, s5, s6, s7, s8, s9, s10] st h = E_ d mX5_isWorse 24 [.val (.ref a), s1, s2, s3, s4, s5, s6, s7, s8, s9, s10] (.ref a :: st) h := e_go dX5_isWorse_23 rfl rfl
theorem wX5_isWorse_24 (ht : oT h a = 7) : E_ d mX5_isWorse 24 ls (.ref a :: st) h = E_ d mX5_isWorse 27 ls (va_rf (oR h a 2) :: st) h := e_getR0 dX5_isWorse_24 rfl rfl ht
theorem wX5_isWorse_27 : E_ d mX5_isWorse 27 ls st h = E_ d mX5_isWorse 30 ls (.int (nI 490) :: st) h := e_sipush dX5_isWorse_27 ksipush_490 rfl
theorem wX5_isWorse_30 : E_ d mX5_isWorse 30 [s0, s1, .val (.int x), s3, s4, s5, s6, s7, s8, s9, s10] st h = E_ d mX5_isWorse 31 [s0, s1, .val (.int x), s3, s4, s5, s6, s7, s8, s9, s10] (.int x :: st) h := e_go dX5_isWorse_30 rfl rfl
theorem wX5_isWorse_31 : E_ d mX5_isWorse 31 ls (.int y :: .int x :: st) h = E_ d mX5_isWorse 32 ls (.int (x + y) :: st) h := e_go dX5_isWorse_31 rfl rfl
theorem wX5_isWorse_32 (ht : oT h a = 40) (hi : xix x (oN h a) = true) : E_ d mX5_isWorse 32 ls (.int x :: .ref a :: st) h = E_ d mX5_isWorse 33 ls (.int (oI h a x.toNatClampNeg) :: st) h := e_iald dX5_isWorse_32 rfl ht hi
theorem wX5_isWorse_33 : E_ d mX5_isWorse 33 [.val (.ref a), s1, s2, s3, s4, s5, s6, s7, s8, s9, s10] st h = E_ d mX5_isWorse 34 [.val (.ref a), s1, s2, s3, s4, s5, s6, s7, s8, s9, s10] (.ref a :: st) h := e_go dX5_isWorse_33 rfl rfl
theorem wX5_isWorse_34 (ht : oT h a = 7) : E_ d mX5_isWorse 34 ls (.ref a :: st) h = E_ d mX5_isWorse 37 ls (va_rf (oR h a 2) :: st) h := e_getR0 dX5_isWorse_34 rfl rfl ht
theorem wX5_isWorse_37 : E_ d mX5_isWorse 37 ls st h = E_ d mX5_isWorse 40 ls (.int (nI 502) :: st) h := e_sipush dX5_isWorse_37 ksipush_502 rfl
theorem wX5_isWorse_40 : E_ d mX5_isWorse 40 [s0, s1, .val (.int x), s3, s4, s5, s6, s7, s8, s9, s10] st h = E_ d mX5_isWorse 41 [s0, s1, .val (.int x), s3, s4, s5, s6, s7, s8, s9, s10] (.int x :: st) h := e_go dX5_isWorse_40 rfl rfl
theorem wX5_isWorse_41 : E_ d mX5_isWorse 41 ls (.int y :: .int x :: st) h = E_ d mX5_isWorse 42 ls (.int (x + y) :: st) h := e_go dX5_isWorse_41 rfl rfl
theorem wX5_isWorse_42 (ht : oT h a = 40) (hi : xix x (oN h a) = true) : E_ d mX5_isWorse 42 ls (.int x :: .ref a :: st) h = E_ d mX5_isWorse 43 ls (.int (oI h a x.toNatClampNeg) :: st) h := e_iald dX5_isWorse_42 rfl ht hi
theorem wX5_isWorse_43 : E_ d mX5_isWorse 43 ls (.int y :: .int x :: st) h = E_ d mX5_isWorse 44 ls (.int (x + y) :: st) h := e_go dX5_isWorse_43 rfl rfl
theorem wX5_isWorse_44 : E_ d mX5_isWorse 44 ls (.int x :: st) h = E_ d mX5_isWorse 45 ls (.long x.toInt64 :: st) h := e_go dX5_isWorse_44 rfl rfl
theorem wX5_isWorse_45 : E_ d mX5_isWorse 45 [s0, s1, s2, s3, s4, s5, s6, s7, s8, s9, s10] (.long u :: st) h = E_ d mX5_isWorse 47 [s0, s1, s2, s3, xk s4, .val (.long u), .unset, s7, s8, s9, s10] st h := e_go dX5_isWorse_45 rfl rfl
theorem wX5_isWorse_47 : E_ d mX5_isWorse 47 [s0, s1, s2, .val (.long u), s4, s5, s6, s7, s8, s9, s10] st h = E_ d mX5_isWorse 48 [s0, s1, s2, .val (.long u), s4, s5, s6, s7, s8, s9, s10] (.long u :: st) h := e_go dX5_isWorse_47 rfl rfl
theorem wX5_isWorse_48 : E_ d mX5_isWorse 48 ls st h = E_ d mX5_isWorse 49 ls (.long 0 :: st) h := e_go dX5_isWorse_48 rfl rfl
theorem wX5_isWorse_49 : E_ d mX5_isWorse 49 ls (.long v :: .long u :: st) h = E_ d mX5_isWorse 50 ls (.int (lg_cmp u v) :: st) h := e_go dX5_isWorse_49 rfl rfl
theorem wX5_isWorse_50 : E_ d mX5_isWorse 50 ls (.int x :: st) h = if x = 0 then E_ d mX5_isWorse 53 ls st h else E_ d mX5_isWorse 57 ls st h := e_zne dX5_isWorse_50 rfl rfl
theorem wX5_isWorse_53 : E_ d mX5_isWorse 53 ls st h = E_ d mX5_isWorse 54 ls (.long 0 :: st) h := e_go dX5_isWorse_53 rfl rfl
theorem wX5_isWorse_54 : E_ d mX5_isWorse 54 ls st h = E_ d mX5_isWorse 77 ls st h := e_gt dX5_isWorse_54 rfl
theorem wX5_isWorse_57 : E_ d mX5_isWorse 57 [.val (.ref a), s1, s2, s3, s4, s5, s6, s7, s8, s9, s10] st h = E_ d mX5_isWorse 58 [.val (.ref a), s1, s2, s3, s4, s5, s6, s7, s8, s9, s10] (.ref a :: st) h := e_go dX5_isWorse_57 rfl rfl
theorem wX5_isWorse_58 : E_ d mX5_isWorse 58 [s0, .val (.int x), s2, s3, s4, s5, s6, s7, s8, s9, s10] st h = E_ d mX5_isWorse 59 [s0, .val (.int x), s2, s3, s4, s5, s6, s7, s8, s9, s10] (.int x :: st) h := e_go dX5_isWorse_58 rfl rfl
theorem wX5_isWorse_59 (ht : oT h a = 7) : E_ (d + 1) mX5_isWorse 59 ls [.int x1, .ref a] h = (C_ d mX5_hurtAt [.ref a, .int x1] h).bind fun r => E_ (d + 1) mX5_isWorse 62 ls (xpu r.1 []) r.2 := e_vir dX5_isWorse_59 rfl rfl rfl rfl rfl rfl (Nat.le_of_ble_eq_true rfl) (Nat.le_of_ble_eq_true rfl) ht
theorem wX5_isWorse_62 : E_ d mX5_isWorse 62 ls (.int x :: st) h = E_ d mX5_isWorse 63 ls (.long x.toInt64 :: st) h := e_go dX5_isWorse_62 rfl rfl
theorem wX5_isWorse_63 : E_ d mX5_isWorse 63 [s0, s1, s2, s3, s4, .val (.long u), s6, s7, s8, s9, s10] st h = E_ d mX5_isWorse 65 [s0, s1, s2, s3, s4, .val (.long u), s6, s7, s8, s9, s10] (.long u :: st) h := e_go dX5_isWorse_63 rfl rfl
theorem wX5_isWorse_65 : E_ d mX5_isWorse 65 ls st h = E_ d mX5_isWorse 66 ls (.long 0 :: st) h := e_go dX5_isWorse_65 rfl rfl
theorem wX5_isWorse_66 : E_ d mX5_isWorse 66 ls (.long v :: .long u :: st) h = E_ d mX5_isWorse 67 ls (.int (lg_cmp u v) :: st) h := e_go dX5_isWorse_66 rfl rfl
theorem wX5_isWorse_67 : E_ d mX5_isWorse 67 ls (.int x :: st) h = if x = 0 then E_ d mX5_isWorse 70 ls st h else E_ d mX5_isWorse 74 ls st h := e_zne dX5_isWorse_67 rfl rfl
theorem wX5_isWorse_70 : E_ d mX5_isWorse 70 ls st h = E_ d mX5_isWorse 71 ls (.long 1 :: st) h := e_go dX5_isWorse_70 rfl rfl
theorem wX5_isWorse_71 : E_ d mX5_isWorse 71 ls st h = E_ d mX5_isWorse 76 ls st h := e_gt dX5_isWorse_71 rfl
theorem wX5_isWorse_74 : E_ d mX5_isWorse 74 [s0, s1, s2, s3, s4, .val (.long u), s6, s7, s8, s9, s10] st h = E_ d mX5_isWorse 76 [s0, s1, s2, s3, s4, .val (.long u), s6, s7, s8, s9, s10] (.long u :: st) h := e_go dX5_isWorse_74 rfl rfl
theorem wX5_isWorse_76 : E_ d mX5_isWorse 76 ls (.long v :: .long u :: st) h = E_ d mX5_isWorse 77 ls (.long (u * v) :: st) h := e_go dX5_isWorse_76 rfl rfl
theorem wX5_isWorse_77 : E_ d mX5_isWorse 77 [s0, s1, s2, s3, s4, s5, s6, s7, s8, s9, s10] (.long u :: st) h = E_ d mX5_isWorse 79 [s0, s1, s2, s3, s4, s5, xk s6, .val (.long u), .unset, s9, s10] st h := e_go dX5_isWorse_77 rfl rfl
theorem wX5_isWorse_79 : E_ d mX5_isWorse 79 [s0, s1, s2, s3, s4, .val (.long u), s6, s7, s8, s9, s10] st h = E_ d mX5_isWorse 81 [s0, s1, s2, s3, s4, .val (.long u), s6, s7, s8, s9, s10] (.long u :: st) h := e_go dX5_isWorse_79 rfl rfl
theorem wX5_isWorse_81 : E_ d mX5_isWorse 81 ls st h = E_ d mX5_isWorse 82 ls (.long 0 :: st) h := e_go dX5_isWorse_81 rfl rfl
theorem wX5_isWorse_82 : E_ d mX5_isWorse 82 ls (.long v :: .long u :: st) h = E_ d mX5_isWorse 83 ls (.int (lg_cmp u v) :: st) h := e_go dX5_isWorse_82 rfl rfl
theorem wX5_isWorse_83 : E_ d mX5_isWorse 83 ls (.int x :: st) h = if x = 0 then E_ d mX5_isWorse 86 ls st h else E_ d mX5_isWorse 90 ls st h := e_zne dX5_isWorse_83 rfl rfl
theorem wX5_isWorse_86 : E_ d mX5_isWorse 86 ls st h = E_ d mX5_isWorse 87 ls (.long 0 :: st) h := e_go dX5_isWorse_86 rfl rfl
theorem wX5_isWorse_87 : E_ d mX5_isWorse 87 ls st h = E_ d mX5_isWorse 108 ls st h := e_gt dX5_isWorse_87 rfl
theorem wX5_isWorse_90 : E_ d mX5_isWorse 90 [.val (.ref a), s1, s2, s3, s4, s5, s6, s7, s8, s9, s10] st h = E_ d mX5_isWorse 91 [.val (.ref a), s1, s2, s3, s4, s5, s6, s7, s8, s9, s10] (.ref a :: st) h := e_go dX5_isWorse_90 rfl rfl
theorem wX5_isWorse_91 : E_ d mX5_isWorse 91 [s0, s1, .val (.int x), s3, s4, s5, s6, s7, s8, s9, s10] st h = E_ d mX5_isWorse 92 [s0, s1, .val (.int x), s3, s4, s5, s6, s7, s8, s9, s10] (.int x :: st) h := e_go dX5_isWorse_91 rfl rfl
theorem wX5_isWorse_92 (ht : oT h a = 7) : E_ (d + 1) mX5_isWorse 92 ls [.int x1, .ref a] h = (C_ d mX5_hurtAt [.ref a, .int x1] h).bind fun r => E_ (d + 1) mX5_isWorse 95 ls (xpu r.1 []) r.2 := e_vir dX5_isWorse_92 rfl rfl rfl rfl rfl rfl (Nat.le_of_ble_eq_true rfl) (Nat.le_of_ble_eq_true rfl) ht
theorem wX5_isWorse_95 : E_ d mX5_isWorse 95 ls (.int x :: st) h = E_ d mX5_isWorse 96 ls (.long x.toInt64 :: st) h := e_go dX5_isWorse_95 rfl rfl
theorem wX5_isWorse_96 : E_ d mX5_isWorse 96 [s0, s1, s2, .val (.long u), s4, s5, s6, s7, s8, s9, s10] st h = E_ d mX5_isWorse 97 [s0, s1, s2, .val (.long u), s4, s5, s6, s7, s8, s9, s10] (.long u :: st) h := e_go dX5_isWorse_96 rfl rfl
theorem wX5_isWorse_97 : E_ d mX5_isWorse 97 ls st h = E_ d mX5_isWorse 98 ls (.long 0 :: st) h := e_go dX5_isWorse_97 rfl rfl
theorem wX5_isWorse_98 : E_ d mX5_isWorse 98 ls (.long v :: .long u :: st) h = E_ d mX5_isWorse 99 ls (.int (lg_cmp u v) :: st) h := e_go dX5_isWorse_98 rfl rfl
theorem wX5_isWorse_99 : E_ d mX5_isWorse 99 ls (.int x :: st) h = if x = 0 then E_ d mX5_isWorse 102 ls st h else E_ d mX5_isWorse 106 ls st h := e_zne dX5_isWorse_99 rfl rfl
theorem wX5_isWorse_102 : E_ d mX5_isWorse 102 ls st h = E_ d mX5_isWorse 103 ls (.long 1 :: st) h := e_go dX5_isWorse_102 rfl rfl
theorem wX5_isWorse_103 : E_ d mX5_isWorse 103 ls st h = E_ d mX5_isWorse 107 ls st h := e_gt dX5_isWorse_103 rfl
theorem wX5_isWorse_106 : E_ d mX5_isWorse 106 [s0, s1, s2, .val (.long u), s4, s5, s6, s7, s8, s9, s10] st h = E_ d mX5_isWorse 107 [s0, s1, s2, .val (.long u), s4, s5, s6, s7, s8, s9, s10] (.long u :: st) h := e_go dX5_isWorse_106 rfl rfl
theorem wX5_isWorse_107 : E_ d mX5_isWorse 107 ls (.long v :: .long u :: st) h = E_ d mX5_isWorse 108 ls (.long (u * v) :: st) h := e_go dX5_isWorse_107 rfl rfl
theorem wX5_isWorse_108 : E_ d mX5_isWorse 108 [s0, s1, s2, s3, s4, s5, s6, s7, s8, s9, s10] (.long u :: st) h = E_ d mX5_isWorse 110 [s0, s1, s2, s3, s4, s5, s6, s7, xk s8, .val (.long u), .unset] st h := e_go dX5_isWorse_108 rfl rfl
theorem wX5_isWorse_110 : E_ d mX5_isWorse 110 [s0, s1, s2, s3, s4, s5, s6, .val (.long u), s8, s9, s10] st h = E_ d mX5_isWorse 112 [s0, s1, s2, s3, s4, s5, s6, .val (.long u), s8, s9, s10] (.long u :: st) h := e_go dX5_isWorse_110 rfl rfl
theorem wX5_isWorse_112 : E_ d mX5_isWorse 112 [s0, s1, s2, s3, s4, s5, s6, s7, s8, .val (.long u), s10] st h = E_ d mX5_isWorse 114 [s0, s1, s2, s3, s4, s5, s6, s7, s8, .val (.long u), s10] (.long u :: st) h := e_go dX5_isWorse_112 rfl rfl
theorem wX5_isWorse_114 : E_ d mX5_isWorse 114 ls (.long v :: .long u :: st) h = E_ d mX5_isWorse 115 ls (.int (lg_cmp u v) :: st) h := e_go dX5_isWorse_114 rfl rfl
theorem wX5_isWorse_115 : E_ d mX5_isWorse 115 ls (.int x :: st) h = if 0 < x then E_ d mX5_isWorse 118 ls st h else E_ d mX5_isWorse 122 ls st h := e_zle dX5_isWorse_115 rfl rfl
theorem wX5_isWorse_118 : E_ d mX5_isWorse 118 ls st h = E_ d mX5_isWorse 119 ls (.int (nI 1) :: st) h := e_iconst dX5_isWorse_118 kiconst_1 rfl
theorem wX5_isWorse_119 : E_ d mX5_isWorse 119 ls st h = E_ d mX5_isWorse 123 ls st h := e_gt dX5_isWorse_119 rfl
theorem wX5_isWorse_122 : E_ d mX5_isWorse 122 ls st h = E_ d mX5_isWorse 123 ls (.int (nI 0) :: st) h := e_iconst dX5_isWorse_122 kiconst_0 rfl
theorem wX5_isWorse_123 (hx : x = 0 ∨ x = 1) : E_ d mX5_isWorse 123 ls [.int x] h = some (some (.int x), h) := e_rtZ dX5_isWorse_123 rfl hx
/-! FootOutModel.measure -/
theorem wX5_measure_0 : E_ d mX5_measure 0 [.val (.ref a), s1, s2, s3] st h = E_ d mX5_measure 1 [.val (.ref a), s1, s2, s3] (.ref a :: st) h := e_go dX5_measure_0 rfl rfl
theorem wX5_measure_1 : E_ d mX5_measure 1 ls st h = E_ d mX5_measure 2 ls (.int (nI 0) :: st) h := e_iconst dX5_measure_1 kiconst_0 rfl
theorem wX5_measure_2 (ht : oT h a = 7) : E_ d mX5_measure 2 ls (.int x :: .ref a :: st) h = E_ d mX5_measure 5 ls st (pI h a (va_up (oI h a) 0 x)) := e_putI dX5_measure_2 rfl rfl ht
theorem wX5_measure_5 : E_ d mX5_measure 5 [s0, .val (.int x), s2, s3] st h = E_ d mX5_measure 6 [s0, .val (.int x), s2, s3] (.int x :: st) h := e_go dX5_measure_5 rfl rfl
theorem wX5_measure_6 : E_ d mX5_measure 6 ls (.int x :: st) h = E_ d mX5_measure 7 ls (.long x.toInt64 :: st) h := e_go dX5_measure_6 rfl rfl
theorem wX5_measure_7 : E_ d mX5_measure 7 ls st h = E_ d mX5_measure 8 ls (.long 0 :: st) h := e_go dX5_measure_7 rfl rfl
theorem wX5_measure_8 : E_ d mX5_measure 8 ls st h = E_ d mX5_measure 11 ls (.long (3) :: st) h := e_go dX5_measure_8 rfl rfl
theorem wX5_measure_11 : E_ (d + 1) mX5_measure 11 ls [.long u3, .long u2, .long u1] h = (C_ d mX5_within [.long u1, .long u2, .long u3] h).bind fun r => E_ (d + 1) mX5_measure 14 ls (xpu r.1 []) r.2 := e_call dX5_measure_11 rfl rfl
theorem wX5_measure_14 : E_ d mX5_measure 14 ls (.int x :: st) h = if x = 0 then E_ d mX5_measure 17 ls st h else E_ d mX5_measure 24 ls st h := e_zne dX5_measure_14 rfl rfl
theorem wX5_measure_17 : E_ d mX5_measure 17 [.val (.ref a), s1, s2, s3] st h = E_ d mX5_measure 18 [.val (.ref a), s1, s2, s3] (.ref a :: st) h := e_go dX5_measure_17 rfl rfl
theorem wX5_measure_18 : E_ d mX5_measure 18 ls st h = E_ d mX5_measure 20 ls (.int ((-2)) :: st) h := e_bipush dX5_measure_18 kbipush_m2 rfl
theorem wX5_measure_20 (ht : oT h a = 7) : E_ (d + 1) mX5_measure 20 ls [.int x1, .ref a] h = (C_ d mX5_no [.ref a, .int x1] h).bind fun r => E_ (d + 1) mX5_measure 23 ls (xpu r.1 []) r.2 := e_vir dX5_measure_20 rfl rfl rfl rfl rfl rfl (Nat.le_of_ble_eq_true rfl) (Nat.le_of_ble_eq_true rfl) ht
theorem wX5_measure_23 : E_ d mX5_measure 23 ls [.int x] h = some (some (.int x), h) := e_rt dX5_measure_23 rfl rfl
theorem wX5_measure_24 : E_ d mX5_measure 24 [s0, s1, .val (.int x), s3] st h = E_ d mX5_measure 25 [s0, s1, .val (.int x), s3] (.int x :: st) h := e_go dX5_measure_24 rfl rfl
theorem wX5_measure_25 : E_ d mX5_measure 25 ls (.int x :: st) h = E_ d mX5_measure 26 ls (.long x.toInt64 :: st) h := e_go dX5_measure_25 rfl rfl
theorem wX5_measure_26 : E_ d mX5_measure 26 ls st h = E_ d mX5_measure 27 ls (.long 1 :: st) h := e_go dX5_measure_26 rfl rfl
theorem wX5_measure_27 : E_ d mX5_measure 27 ls st h = E_ d mX5_measure 30 ls (.long (99) :: st) h := e_go dX5_measure_27 rfl rfl
theorem wX5_measure_30 : E_ (d + 1) mX5_measure 30 ls [.long u3, .long u2, .long u1] h = (C_ d mX5_within [.long u1, .long u2, .long u3] h).bind fun r => E_ (d + 1) mX5_measure 33 ls (xpu r.1 []) r.2 := e_call dX5_measure_30 rfl rfl
theorem wX5_measure_33 : E_ d mX5_measure 33 ls (.int x :: st) h = if x = 0 then E_ d mX5_measure 48 ls st h else E_ d mX5_measure 36 ls st h := e_zeq dX5_measure_33 rfl rfl
theorem wX5_measure_36 : E_ d mX5_measure 36 [s0, s1, s2, .val (.int x)] st h = E_ d mX5_measure 37 [s0, s1, s2, .val (.int x)] (.int x :: st) h := e_go dX5_measure_36 rfl rfl
theorem wX5_measure_37 : E_ d mX5_measure 37 ls (.int x :: st) h = E_ d mX5_measure 38 ls (.long x.toInt64 :: st) h := e_go dX5_measure_37 rfl rfl
theorem wX5_measure_38 : E_ d mX5_measure 38 ls st h = E_ d mX5_measure 39 ls (.long 0 :: st) h := e_go dX5_measure_38 rfl rfl
theorem wX5_measure_39 : E_ d mX5_measure 39 ls st h = E_ d mX5_measure 42 ls (.long (100) :: st) h := e_go dX5_measure_39 rfl rfl
theorem wX5_measure_42 : E_ (d + 1) mX5_measure 42 ls [.long u3, .long u2, .long u1] h = (C_ d mX5_within [.long u1, .long u2, .long u3] h).bind fun r => E_ (d + 1) mX5_measure 45 ls (xpu r.1 []) r.2 := e_call dX5_measure_42 rfl rfl
theorem wX5_measure_45 : E_ d mX5_measure 45 ls (.int x :: st) h = if x = 0 then E_ d mX5_measure 48 ls st h else E_ d mX5_measure 55 ls st h := e_zne dX5_measure_45 rfl rfl
theorem wX5_measure_48 : E_ d mX5_measure 48 [.val (.ref a), s1, s2, s3] st h = E_ d mX5_measure 49 [.val (.ref a), s1, s2, s3] (.ref a :: st) h := e_go dX5_measure_48 rfl rfl
theorem wX5_measure_49 : E_ d mX5_measure 49 ls st h = E_ d mX5_measure 51 ls (.int ((-3)) :: st) h := e_bipush dX5_measure_49 kbipush_m3 rfl
theorem wX5_measure_51 (ht : oT h a = 7) : E_ (d + 1) mX5_measure 51 ls [.int x1, .ref a] h = (C_ d mX5_no [.ref a, .int x1] h).bind fun r => E_ (d + 1) mX5_measure 54 ls (xpu r.1 []) r.2 := e_vir dX5_measure_51 rfl rfl rfl rfl rfl rfl (Nat.le_of_ble_eq_true rfl) (Nat.le_of_ble_eq_true rfl) ht
theorem wX5_measure_54 : E_ d mX5_measure 54 ls [.int x] h = some (some (.int x), h) := e_rt dX5_measure_54 rfl rfl
theorem wX5_measure_55 : E_ d mX5_measure 55 [.val (.ref a), s1, s2, s3] st h = E_ d mX5_measure 56 [.val (.ref a), s1, s2, s3] (.ref a :: st) h := e_go dX5_measure_55 rfl rfl
theorem wX5_measure_56 (ht : oT h a = 7) : E_ d mX5_measure 56 ls (.ref a :: st) h = E_ d mX5_measure 59 ls (va_rf (oR h a 2) :: st) h := e_getR0 dX5_measure_56 rfl rfl ht
theorem wX5_measure_59 : E_ d mX5_measure 59 ls st h = E_ d mX5_measure 62 ls (.int (nI 550) :: st) h := e_sipush dX5_measure_59 ksipush_550 rfl
theorem wX5_measure_62 : E_ d mX5_measure 62 [s0, .val (.int x), s2, s3] st h = E_ d mX5_measure 63 [s0, .val (.int x), s2, s3] (.int x :: st) h := e_go dX5_measure_62 rfl rfl
theorem wX5_measure_63 : E_ d mX5_measure 63 ls (.int y :: .int x :: st) h = E_ d mX5_measure 64 ls (.int (x + y) :: st) h := e_go dX5_measure_63 rfl rfl
theorem wX5_measure_64 : E_ d mX5_measure 64 [s0, s1, .val (.int x), s3] st h = E_ d mX5_measure 65 [s0, s1, .val (.int x), s3] (.int x :: st) h := e_go dX5_measure_64 rfl rfl
theorem wX5_measure_65 (ht : oT h a = 40) (hi : xix x (oN h a) = true) : E_ d mX5_measure 65 ls (.int y :: .int x :: .ref a :: st) h = E_ d mX5_measure 66 ls st (pI h a (va_up (oI h a) x.toNatClampNeg y)) := e_iast dX5_measure_65 rfl ht hi
theorem wX5_measure_66 : E_ d mX5_measure 66 [.val (.ref a), s1, s2, s3] st h = E_ d mX5_measure 67 [.val (.ref a), s1, s2, s3] (.ref a :: st) h := e_go dX5_measure_66 rfl rfl
theorem wX5_measure_67 (ht : oT h a = 7) : E_ d mX5_measure 67 ls (.ref a :: st) h = E_ d mX5_measure 70 ls (va_rf (oR h a 2) :: st) h := e_getR0 dX5_measure_67 rfl rfl ht
theorem wX5_measure_70 : E_ d mX5_measure 70 ls st h = E_ d mX5_measure 73 ls (.int (nI 554) :: st) h := e_sipush dX5_measure_70 ksipush_554 rfl
theorem wX5_measure_73 : E_ d mX5_measure 73 [s0, .val (.int x), s2, s3] st h = E_ d mX5_measure 74 [s0, .val (.int x), s2, s3] (.int x :: st) h := e_go dX5_measure_73 rfl rfl
theorem wX5_measure_74 : E_ d mX5_measure 74 ls (.int y :: .int x :: st) h = E_ d mX5_measure 75 ls (.int (x + y) :: st) h := e_go dX5_measure_74 rfl rfl
theorem wX5_measure_75 : E_ d mX5_measure 75 [s0, s1, s2, .val (.int x)] st h = E_ d mX5_measure 76 [s0, s1, s2, .val (.int x)] (.int x :: st) h := e_go dX5_measure_75 rfl rfl
theorem wX5_measure_76 (ht : oT h a = 40) (hi : xix x (oN h a) = true) : E_ d mX5_measure 76 ls (.int y :: .int x :: .ref a :: st) h = E_ d mX5_measure 77 ls st (pI h a (va_up (oI h a) x.toNatClampNeg y)) := e_iast dX5_measure_76 rfl ht hi
theorem wX5_measure_77 : E_ d mX5_measure 77 ls st h = E_ d mX5_measure 78 ls (.int (nI 0) :: st) h := e_iconst dX5_measure_77 kiconst_0 rfl
theorem wX5_measure_78 : E_ d mX5_measure 78 ls [.int x] h = some (some (.int x), h) := e_rt dX5_measure_78 rfl rfl
/-! FootOutModel.spent -/
theorem wX5_spent_0 : E_ d mX5_spent 0 [.val (.ref a), s1, s2, s3, s4, s5] st h = E_ d mX5_spent 1 [.val (.ref a), s1, s2, s3, s4, s5] (.ref a :: st) h := e_go dX5_spent_0 rfl rfl
theorem wX5_spent_1 : E_ d mX5_spent 1 ls st h = E_ d mX5_spent 2 ls (.int (nI 0) :: st) h := e_iconst dX5_spent_1 kiconst_0 rfl
theorem wX5_spent_2 (ht : oT h a = 7) : E_ d mX5_spent 2 ls (.int x :: .ref a :: st) h = E_ d mX5_spent 5 ls st (pI h a (va_up (oI h a) 0 x)) := e_putI dX5_spent_2 rfl rfl ht
theorem wX5_spent_5 : E_ d mX5_spent 5 [s0, s1, .val (.int x), s3, s4, s5] st h = E_ d mX5_spent 6 [s0, s1, .val (.int x), s3, s4, s5] (.int x :: st) h := e_go dX5_spent_5 rfl rfl
theorem wX5_spent_6 : E_ d mX5_spent 6 ls st h = E_ d mX5_spent 7 ls (.int ((-1)) :: st) h := e_iconst dX5_spent_6 kiconst_m1 rfl
theorem wX5_spent_7 : E_ d mX5_spent 7 ls (.int y :: .int x :: st) h = if x = y then E_ d mX5_spent 31 ls st h else E_ d mX5_spent 10 ls st h := e_ieq dX5_spent_7 rfl rfl
theorem wX5_spent_10 : E_ d mX5_spent 10 [s0, s1, .val (.int x), s3, s4, s5] st h = E_ d mX5_spent 11 [s0, s1, .val (.int x), s3, s4, s5] (.int x :: st) h := e_go dX5_spent_10 rfl rfl
theorem wX5_spent_11 : E_ d mX5_spent 11 ls st h = E_ d mX5_spent 13 ls (.int (nI 20) :: st) h := e_bipush dX5_spent_11 kbipush_20 rfl
theorem wX5_spent_13 : E_ d mX5_spent 13 ls (.int y :: .int x :: st) h = if x = y then E_ d mX5_spent 31 ls st h else E_ d mX5_spent 16 ls st h := e_ieq dX5_spent_13 rfl rfl
theorem wX5_spent_16 : E_ d mX5_spent 16 [.val (.ref a), s1, s2, s3, s4, s5] st h = E_ d mX5_spent 17 [.val (.ref a), s1, s2, s3, s4, s5] (.ref a :: st) h := e_go dX5_spent_16 rfl rfl
theorem wX5_spent_17 : E_ d mX5_spent 17 [s0, s1, .val (.int x), s3, s4, s5] st h = E_ d mX5_spent 18 [s0, s1, .val (.int x), s3, s4, s5] (.int x :: st) h := e_go dX5_spent_17 rfl rfl
theorem wX5_spent_18 (ht : oT h a = 7) : E_ (d + 1) mX5_spent 18 ls [.int x1, .ref a] h = (C_ d mX5_isPlace [.ref a, .int x1] h).bind fun r => E_ (d + 1) mX5_spent 21 ls (xpu r.1 []) r.2 := e_vir dX5_spent_18 rfl rfl rfl rfl rfl rfl (Nat.le_of_ble_eq_true rfl) (Nat.le_of_ble_eq_true rfl) ht
theorem wX5_spent_21 : E_ d mX5_spent 21 ls (.int x :: st) h = if x = 0 then E_ d mX5_spent 24 ls st h else E_ d mX5_spent 31 ls st h := e_zne dX5_spent_21 rfl rfl
theorem wX5_spent_24 : E_ d mX5_spent 24 [.val (.ref a), s1, s2, s3, s4, s5] st h = E_ d mX5_spent 25 [.val (.ref a), s1, s2, s3, s4, s5] (.ref a :: st) h := e_go dX5_spent_24 rfl rfl
theorem wX5_spent_25 : E_ d mX5_spent 25 ls st h = E_ d mX5_spent 27 ls (.int ((-2)) :: st) h := e_bipush dX5_spent_25 kbipush_m2 rfl
theorem wX5_spent_27 (ht : oT h a = 7) : E_ (d + 1) mX5_spent 27 ls [.int x1, .ref a] h = (C_ d mX5_no [.ref a, .int x1] h).bind fun r => E_ (d + 1) mX5_spent 30 ls (xpu r.1 []) r.2 := e_vir dX5_spent_27 rfl rfl rfl rfl rfl rfl (Nat.le_of_ble_eq_true rfl) (Nat.le_of_ble_eq_true rfl) ht
theorem wX5_spent_30 : E_ d mX5_spent 30 ls [.int x] h = some (some (.int x), h) := e_rt dX5_spent_30 rfl rfl
theorem wX5_spent_31 : E_ d mX5_spent 31 [s0, .val (.int x), s2, s3, s4, s5] st h = E_ d mX5_spent 32 [s0, .val (.int x), s2, s3, s4, s5] (.int x :: st) h := e_go dX5_spent_31 rfl rfl
theorem wX5_spent_32 : E_ d mX5_spent 32 ls (.int x :: st) h = E_ d mX5_spent 33 ls (.long x.toInt64 :: st) h := e_go dX5_spent_32 rfl rfl
theorem wX5_spent_33 : E_ d mX5_spent 33 ls st h = E_ d mX5_spent 34 ls (.long 0 :: st) h := e_go dX5_spent_33 rfl rfl
theorem wX5_spent_34 : E_ d mX5_spent 34 ls st h = E_ d mX5_spent 37 ls (.long (999) :: st) h := e_go dX5_spent_34 rfl rfl
theorem wX5_spent_37 : E_ (d + 1) mX5_spent 37 ls [.long u3, .long u2, .long u1] h = (C_ d mX5_within [.long u1, .long u2, .long u3] h).bind fun r => E_ (d + 1) mX5_spent 40 ls (xpu r.1 []) r.2 := e_call dX5_spent_37 rfl rfl
theorem wX5_spent_40 : E_ d mX5_spent 40 ls (.int x :: st) h = if x = 0 then E_ d mX5_spent 43 ls st h else E_ d mX5_spent 50 ls st h := e_zne dX5_spent_40 rfl rfl
theorem wX5_spent_43 : E_ d mX5_spent 43 [.val (.ref a), s1, s2, s3, s4, s5] st h = E_ d mX5_spent 44 [.val (.ref a), s1, s2, s3, s4, s5] (.ref a :: st) h := e_go dX5_spent_43 rfl rfl
theorem wX5_spent_44 : E_ d mX5_spent 44 ls st h = E_ d mX5_spent 46 ls (.int ((-3)) :: st) h := e_bipush dX5_spent_44 kbipush_m3 rfl
theorem wX5_spent_46 (ht : oT h a = 7) : E_ (d + 1) mX5_spent 46 ls [.int x1, .ref a] h = (C_ d mX5_no [.ref a, .int x1] h).bind fun r => E_ (d + 1) mX5_spent 49 ls (xpu r.1 []) r.2 := e_vir dX5_spent_46 rfl rfl rfl rfl rfl rfl (Nat.le_of_ble_eq_true rfl) (Nat.le_of_ble_eq_true rfl) ht
theorem wX5_spent_49 : E_ d mX5_spent 49 ls [.int x] h = some (some (.int x), h) := e_rt dX5_spent_49 rfl rfl
theorem wX5_spent_50 : E_ d mX5_spent 50 [.val (.ref a), s1, s2, s3, s4, s5] st h = E_ d mX5_spent 51 [.val (.ref a), s1, s2, s3, s4, s5] (.ref a :: st) h := e_go dX5_spent_50 rfl rfl
theorem wX5_spent_51 : E_ d mX5_spent 51 [s0, .val (.int x), s2, s3, s4, s5] st h = E_ d mX5_spent 52 [s0, .val (.int x), s2, s3, s4, s5] (.int x :: st) h := e_go dX5_spent_51 rfl rfl
theorem wX5_spent_52 (ht : oT h a = 7) : E_ (d + 1) mX5_spent 52 ls [.int x1, .ref a] h = (C_ d mX5_laysSpent [.ref a, .int x1] h).bind fun r => E_ (d + 1) mX5_spent 55 ls (xpu r.1 []) r.2 := e_vir dX5_spent_52 rfl rfl rfl rfl rfl rfl (Nat.le_of_ble_eq_true rfl) (Nat.le_of_ble_eq_true rfl) ht
theorem wX5_spent_55 : E_ d mX5_spent 55 [s0, s1, .val (.int x), s3, s4, s5] st h = E_ d mX5_spent 56 [s0, s1, .val (.int x), s3, s4, s5] (.int x :: st) h := e_go dX5_spent_55 rfl rfl
theorem wX5_spent_56 : E_ d mX5_spent 56 ls st h = E_ d mX5_spent 57 ls (.int ((-1)) :: st) h := e_iconst dX5_spent_56 kiconst_m1 rfl
theorem wX5_spent_57 : E_ d mX5_spent 57 ls (.int y :: .int x :: st) h = if x = y then E_ d mX5_spent 60 ls st h else E_ d mX5_spent 67 ls st h := e_ine dX5_spent_57 rfl rfl
theorem wX5_spent_60 : E_ d mX5_spent 60 [.val (.ref a), s1, s2, s3, s4, s5] st h = E_ d mX5_spent 61 [.val (.ref a), s1, s2, s3, s4, s5] (.ref a :: st) h := e_go dX5_spent_60 rfl rfl
theorem wX5_spent_61 (ht : oT h a = 7) : E_ d mX5_spent 61 ls (.ref a :: st) h = E_ d mX5_spent 64 ls (va_rf (oR h a 30) :: st) h := e_getR0 dX5_spent_61 rfl rfl ht
theorem wX5_spent_64 : E_ d mX5_spent 64 [s0, .val (.int x), s2, s3, s4, s5] st h = E_ d mX5_spent 65 [s0, .val (.int x), s2, s3, s4, s5] (.int x :: st) h := e_go dX5_spent_64 rfl rfl
theorem wX5_spent_65 (ht : oT h a = 40) (hi : xix x (oN h a) = true) : E_ d mX5_spent 65 ls (.int x :: .ref a :: st) h = E_ d mX5_spent 66 ls (.int (oI h a x.toNatClampNeg) :: st) h := e_iald dX5_spent_65 rfl ht hi
theorem wX5_spent_66 : E_ d mX5_spent 66 ls [.int x] h = some (some (.int x), h) := e_rt dX5_spent_66 rfl rfl
theorem wX5_spent_67 : E_ d mX5_spent 67 [s0, s1, .val (.int x), s3, s4, s5] st h = E_ d mX5_spent 68 [s0, s1, .val (.int x), s3, s4, s5] (.int x :: st) h := e_go dX5_spent_67 rfl rfl
theorem wX5_spent_68 : E_ d mX5_spent 68 ls st h = E_ d mX5_spent 70 ls (.int (nI 20) :: st) h := e_bipush dX5_spent_68 kbipush_20 rfl
theorem wX5_spent_70 : E_ d mX5_spent 70 ls (.int y :: .int x :: st) h = if x = y then E_ d mX5_spent 73 ls st h else E_ d mX5_spent 80 ls st h := e_ine dX5_spent_70 rfl rfl
theorem wX5_spent_73 : E_ d mX5_spent 73 [.val (.ref a), s1, s2, s3, s4, s5] st h = E_ d mX5_spent 74 [.val (.ref a), s1, s2, s3, s4, s5] (.ref a :: st) h := e_go dX5_spent_73 rfl rfl
theorem wX5_spent_74 (ht : oT h a = 7) : E_ d mX5_spent 74 ls (.ref a :: st) h = E_ d mX5_spent 77 ls (va_rf (oR h a 31) :: st) h := e_getR0 dX5_spent_74 rfl rfl ht
theorem wX5_spent_77 : E_ d mX5_spent 77 [s0, .val (.int x), s2, s3, s4, s5] st h = E_ d mX5_spent 78 [s0, .val (.int x), s2, s3, s4, s5] (.int x :: st) h := e_go dX5_spent_77 rfl rfl
theorem wX5_spent_78 (ht : oT h a = 40) (hi : xix x (oN h a) = true) : E_ d mX5_spent 78 ls (.int x :: .ref a :: st) h = E_ d mX5_spent 79 ls (.int (oI h a x.toNatClampNeg) :: st) h := e_iald dX5_spent_78 rfl ht hi
theorem wX5_spent_79 : E_ d mX5_spent 79 ls [.int x] h = some (some (.int x), h) := e_rt dX5_spent_79 rfl rfl
theorem wX5_spent_80 : E_ d mX5_spent 80 [s0, .val (.int x), s2, s3, s4, s5] st h = E_ d mX5_spent 81 [s0, .val (.int x), s2, s3, s4, s5] (.int x :: st) h := e_go dX5_spent_80 rfl rfl
theorem wX5_spent_81 : E_ d mX5_spent 81 [s0, s1, s2, s3, s4, s5] (.int x :: st) h = E_ d mX5_spent 82 [s0, s1, xk s2, .val (.int x), s4, s5] st h := e_go dX5_spent_81 rfl rfl
theorem wX5_spent_82 : E_ d mX5_spent 82 ls st h = E_ d mX5_spent 83 ls (.int (nI 0) :: st) h := e_iconst dX5_spent_82 kiconst_0 rfl
theorem wX5_spent_83 : E_ d mX5_spent 83 [s0, s1, s2, s3, s4, s5] (.int x :: st) h = E_ d mX5_spent 85 [s0, s1, s2, xk s3, .val (.int x), s5] st h := e_go dX5_spent_83 rfl rfl
theorem wX5_spent_85 : E_ d mX5_spent 85 ls st h = E_ d mX5_spent 86 ls (.int (nI 0) :: st) h := e_iconst dX5_spent_85 kiconst_0 rfl
theorem wX5_spent_86 : E_ d mX5_spent 86 [s0, s1, s2, s3, s4, s5] (.int x :: st) h = E_ d mX5_spent 88 [s0, s1, s2, s3, xk s4, .val (.int x)] st h := e_go dX5_spent_86 rfl rfl
theorem wX5_spent_88 : E_ d mX5_spent 88 [.val (.ref a), s1, s2, s3, s4, s5] st h = E_ d mX5_spent 89 [.val (.ref a), s1, s2, s3, s4, s5] (.ref a :: st) h := e_go dX5_spent_88 rfl rfl
theorem wX5_spent_89 : E_ d mX5_spent 89 [s0, s1, s2, s3, .val (.int x), s5] st h = E_ d mX5_spent 91 [s0, s1, s2, s3, .val (.int x), s5] (.int x :: st) h := e_go dX5_spent_89 rfl rfl
theorem wX5_spent_91 : E_ d mX5_spent 91 [s0, s1, s2, .val (.int x), s4, s5] st h = E_ d mX5_spent 92 [s0, s1, s2, .val (.int x), s4, s5] (.int x :: st) h := e_go dX5_spent_91 rfl rfl
theorem wX5_spent_92 : E_ d mX5_spent 92 [s0, s1, s2, s3, s4, .val (.int x)] st h = E_ d mX5_spent 94 [s0, s1, s2, s3, s4, .val (.int x)] (.int x :: st) h := e_go dX5_spent_92 rfl rfl
theorem wX5_spent_94 (ht : oT h a = 7) : E_ (d + 1) mX5_spent 94 ls [.int x3, .int x2, .int x1, .ref a] h = (C_ d mX5_isBest [.ref a, .int x1, .int x2, .int x3] h).bind fun r => E_ (d + 1) mX5_spent 97 ls (xpu r.1 []) r.2 := e_vir dX5_spent_94 rfl rfl rfl rfl rfl rfl (Nat.le_of_ble_eq_true rfl) (Nat.le_of_ble_eq_true rfl) ht
theorem wX5_spent_97 : E_ d mX5_spent 97 ls (.int x :: st) h = if x = 0 then E_ d mX5_spent 100 ls st h else E_ d mX5_spent 106 ls st h := e_zne dX5_spent_97 rfl rfl
theorem wX5_spent_100 : E_ d mX5_spent 100 [s0, s1, s2, s3, s4, .val (.int x)] st h = E_ d mX5_spent 103 [s0, s1, s2, s3, xk s4, .val (.int (x + nI 1))] st h := by rw [← kiinc_1]; exact e_go dX5_spent_100 rfl rfl
theorem wX5_spent_103 : E_ d mX5_spent 103 ls st h = E_ d mX5_spent 88 ls st h := e_gt dX5_spent_103 rfl
theorem wX5_spent_106 : E_ d mX5_spent 106 [s0, s1, s2, s3, .val (.int x), s5] st h = E_ d mX5_spent 108 [s0, s1, s2, s3, .val (.int x), s5] (.int x :: st) h := e_go dX5_spent_106 rfl rfl
theorem wX5_spent_108 : E_ d mX5_spent 108 [s0, s1, .val (.int x), s3, s4, s5] st h = E_ d mX5_spent 109 [s0, s1, .val (.int x), s3, s4, s5] (.int x :: st) h := e_go dX5_spent_108 rfl rfl
theorem wX5_spent_109 : E_ d mX5_spent 109 ls (.int y :: .int x :: st) h = if x = y then E_ d mX5_spent 112 ls st h else E_ d mX5_spent 115 ls st h := e_ine dX5_spent_109 rfl rfl
theorem wX5_spent_112 : E_ d mX5_spent 112 [s0, s1, s2, s3, s4, .val (.int x)] st h = E_ d mX5_spent 114 [s0, s1, s2, s3, s4, .val (.int x)] (.int x :: st) h := e_go dX5_spent_112 rfl rfl
theorem wX5_spent_114 : E_ d mX5_spent 114 ls [.int x] h = some (some (.int x), h) := e_rt dX5_spent_114 rfl rfl
theorem wX5_spent_115 : E_ d mX5_spent 115 [s0, s1, s2, .val (.int x), s4, s5] st h = E_ d mX5_spent 116 [s0, s1, s2, .val (.int x), s4, s5] (.int x :: st) h := e_go dX5_spent_115 rfl rfl
theorem wX5_spent_116 : E_ d mX5_spent 116 [.val (.ref a), s1, s2, s3, s4, s5] st h = E_ d mX5_spent 117 [.val (.ref a), s1, s2, s3, s4, s5] (.ref a :: st) h := e_go dX5_spent_116 rfl rfl
theorem wX5_spent_117 : E_ d mX5_spent 117 [s0, s1, s2, s3, s4, .val (.int x)] st h = E_ d mX5_spent 119 [s0, s1, s2, s3, s4, .val (.int x)] (.int x :: st) h := e_go dX5_spent_117 rfl rfl
theorem wX5_spent_119 (ht : oT h a = 7) : E_ (d + 1) mX5_spent 119 ls [.int x1, .ref a, .int x2] h = (C_ d mX5_costOf [.ref a, .int x1] h).bind fun r => E_ (d + 1) mX5_spent 122 ls (xpu r.1 [.int x2]) r.2 := e_vir dX5_spent_119 rfl rfl rfl rfl rfl rfl (Nat.le_of_ble_eq_true rfl) (Nat.le_of_ble_eq_true rfl) ht
theorem wX5_spent_122 : E_ d mX5_spent 122 ls (.int y :: .int x :: st) h = E_ d mX5_spent 123 ls (.int (x - y) :: st) h := e_go dX5_spent_122 rfl rfl
theorem wX5_spent_123 : E_ d mX5_spent 123 [s0, s1, s2, s3, s4, s5] (.int x :: st) h = E_ d mX5_spent 124 [s0, s1, xk s2, .val (.int x), s4, s5] st h := e_go dX5_spent_123 rfl rfl
theorem wX5_spent_124 : E_ d mX5_spent 124 [s0, s1, s2, s3, .val (.int x), s5] st h = E_ d mX5_spent 127 [s0, s1, s2, xk s3, .val (.int (x + nI 1)), s5] st h := by rw [← kiinc_1]; exact e_go dX5_spent_124 rfl rfl
theorem wX5_spent_127 : E_ d mX5_spent 127 ls st h = E_ d mX5_spent 85 ls st h := e_gt dX5_spent_127 rfl
/-! FootOutModel.laysSpent -/
theorem wX5_laysSpent_0 : E_ d mX5_laysSpent 0 ls st h = E_ d mX5_laysSpent 1 ls (.int (nI 0) :: st) h := e_iconst dX5_laysSpent_0 kiconst_0 rfl
theorem wX5_laysSpent_1 : E_ d mX5_laysSpent 1 [s0, s1, s2, s3, s4, s5, s6, s7, s8] (.int x :: st) h = E_ d mX5_laysSpent 2 [s0, xk s1, .val (.int x), s3, s4, s5, s6, s7, s8] st h := e_go dX5_laysSpent_1 rfl rfl
theorem wX5_laysSpent_2 : E_ d mX5_laysSpent 2 [s0, s1, .val (.int x), s3, s4, s5, s6, s7, s8] st h = E_ d mX5_laysSpent 3 [s0, s1, .val (.int x), s3, s4, s5, s6, s7, s8] (.int x :: st) h := e_go dX5_laysSpent_2 rfl rfl
theorem wX5_laysSpent_3 : E_ d mX5_laysSpent 3 [s0, .val (.int x), s2, s3, s4, s5, s6, s7, s8] st h = E_ d mX5_laysSpent 4 [s0, .val (.int x), s2, s3, s4, s5, s6, s7, s8] (.int x :: st) h := e_go dX5_laysSpent_3 rfl rfl
theorem wX5_laysSpent_4 : E_ d mX5_laysSpent 4 ls (.int y :: .int x :: st) h = if y < x then E_ d mX5_laysSpent 53 ls st h else E_ d mX5_laysSpent 7 ls st h := e_igt dX5_laysSpent_4 rfl rfl
theorem wX5_laysSpent_7 : E_ d mX5_laysSpent 7 [.val (.ref a), s1, s2, s3, s4, s5, s6, s7, s8] st h = E_ d mX5_laysSpent 8 [.val (.ref a), s1, s2, s3, s4, s5, s6, s7, s8] (.ref a :: st) h := e_go dX5_laysSpent_7 rfl rfl
theorem wX5_laysSpent_8 (ht : oT h a = 7) : E_ d mX5_laysSpent 8 ls (.ref a :: st) h = E_ d mX5_laysSpent 11 ls (va_rf (oR h a 30) :: st) h := e_getR0 dX5_laysSpent_8 rfl rfl ht
theorem wX5_laysSpent_11 : E_ d mX5_laysSpent 11 [.val (.ref a), s1, s2, s3, s4, s5, s6, s7, s8] st h = E_ d mX5_laysSpent 12 [.val (.ref a), s1, s2, s3, s4, s5, s6, s7, s8] (.ref a :: st) h := e_go dX5_laysSpent_11 rfl rfl
theorem wX5_laysSpent_12 (ht : oT h a = 7) : E_ d mX5_laysSpent 12 ls (.ref a :: st) h = E_ d mX5_laysSpent 15 ls (va_rf (oR h a 2) :: st) h := e_getR0 dX5_laysSpent_12 rfl rfl ht
theorem wX5_laysSpent_15 : E_ d mX5_laysSpent 15 ls st h = E_ d mX5_laysSpent 18 ls (.int (nI 477) :: st) h := e_sipush dX5_laysSpent_15 ksipush_477 rfl
theorem wX5_laysSpent_18 (ht : oT h a = 40) (hi : xix x (oN h a) = true) : E_ d mX5_laysSpent 18 ls (.int x :: .ref a :: st) h = E_ d mX5_laysSpent 19 ls (.int (oI h a x.toNatClampNeg) :: st) h := e_iald dX5_laysSpent_18 rfl ht hi
theorem wX5_laysSpent_19 : E_ d mX5_laysSpent 19 ls st h = E_ d mX5_laysSpent 22 ls (.int (nI 1000) :: st) h := e_sipush dX5_laysSpent_19 ksipush_1000 rfl
theorem wX5_laysSpent_22 : E_ d mX5_laysSpent 22 ls (.int y :: .int x :: st) h = E_ d mX5_laysSpent 23 ls (.int (x * y) :: st) h := e_go dX5_laysSpent_22 rfl rfl
theorem wX5_laysSpent_23 : E_ d mX5_laysSpent 23 [s0, s1, .val (.int x), s3, s4, s5, s6, s7, s8] st h = E_ d mX5_laysSpent 24 [s0, s1, .val (.int x), s3, s4, s5, s6, s7, s8] (.int x :: st) h := e_go dX5_laysSpent_23 rfl rfl
theorem wX5_laysSpent_24 : E_ d mX5_laysSpent 24 ls (.int y :: .int x :: st) h = E_ d mX5_laysSpent 25 ls (.int (x + y) :: st) h := e_go dX5_laysSpent_24 rfl rfl
theorem wX5_laysSpent_25 : E_ d mX5_laysSpent 25 ls st h = E_ d mX5_laysSpent 26 ls (.int (nI 0) :: st) h := e_iconst dX5_laysSpent_25 kiconst_0 rfl
theorem wX5_laysSpent_26 (ht : oT h a = 40) (hi : xix x (oN h a) = true) : E_ d mX5_laysSpent 26 ls (.int y :: .int x :: .ref a :: st) h = E_ d mX5_laysSpent 27 ls st (pI h a (va_up (oI h a) x.toNatClampNeg y)) := e_iast dX5_laysSpent_26 rfl ht hi
theorem wX5_laysSpent_27 : E_ d mX5_laysSpent 27 [.val (.ref a), s1, s2, s3, s4, s5, s6, s7, s8] st h = E_ d mX5_laysSpent 28 [.val (.ref a), s1, s2, s3, s4, s5, s6, s7, s8] (.ref a :: st) h := e_go dX5_laysSpent_27 rfl rfl
theorem wX5_laysSpent_28 (ht : oT h a = 7) : E_ d mX5_laysSpent 28 ls (.ref a :: st) h = E_ d mX5_laysSpent 31 ls (va_rf (oR h a 31) :: st) h := e_getR0 dX5_laysSpent_28 rfl rfl ht
theorem wX5_laysSpent_31 : E_ d mX5_laysSpent 31 [.val (.ref a), s1, s2, s3, s4, s5, s6, s7, s8] st h = E_ d mX5_laysSpent 32 [.val (.ref a), s1, s2, s3, s4, s5, s6, s7, s8] (.ref a :: st) h := e_go dX5_laysSpent_31 rfl rfl
theorem wX5_laysSpent_32 (ht : oT h a = 7) : E_ d mX5_laysSpent 32 ls (.ref a :: st) h = E_ d mX5_laysSpent 35 ls (va_rf (oR h a 2) :: st) h := e_getR0 dX5_laysSpent_32 rfl rfl ht
theorem wX5_laysSpent_35 : E_ d mX5_laysSpent 35 ls st h = E_ d mX5_laysSpent 38 ls (.int (nI 477) :: st) h := e_sipush dX5_laysSpent_35 ksipush_477 rfl
theorem wX5_laysSpent_38 (ht : oT h a = 40) (hi : xix x (oN h a) = true) : E_ d mX5_laysSpent 38 ls (.int x :: .ref a :: st) h = E_ d mX5_laysSpent 39 ls (.int (oI h a x.toNatClampNeg) :: st) h := e_iald dX5_laysSpent_38 rfl ht hi
theorem wX5_laysSpent_39 : E_ d mX5_laysSpent 39 ls st h = E_ d mX5_laysSpent 42 ls (.int (nI 1000) :: st) h := e_sipush dX5_laysSpent_39 ksipush_1000 rfl
theorem wX5_laysSpent_42 : E_ d mX5_laysSpent 42 ls (.int y :: .int x :: st) h = E_ d mX5_laysSpent 43 ls (.int (x * y) :: st) h := e_go dX5_laysSpent_42 rfl rfl
theorem wX5_laysSpent_43 : E_ d mX5_laysSpent 43 [s0, s1, .val (.int x), s3, s4, s5, s6, s7, s8] st h = E_ d mX5_laysSpent 44 [s0, s1, .val (.int x), s3, s4, s5, s6, s7, s8] (.int x :: st) h := e_go dX5_laysSpent_43 rfl rfl
theorem wX5_laysSpent_44 : E_ d mX5_laysSpent 44 ls (.int y :: .int x :: st) h = E_ d mX5_laysSpent 45 ls (.int (x + y) :: st) h := e_go dX5_laysSpent_44 rfl rfl
theorem wX5_laysSpent_45 : E_ d mX5_laysSpent 45 ls st h = E_ d mX5_laysSpent 46 ls (.int (nI 0) :: st) h := e_iconst dX5_laysSpent_45 kiconst_0 rfl
theorem wX5_laysSpent_46 (ht : oT h a = 40) (hi : xix x (oN h a) = true) : E_ d mX5_laysSpent 46 ls (.int y :: .int x :: .ref a :: st) h = E_ d mX5_laysSpent 47 ls st (pI h a (va_up (oI h a) x.toNatClampNeg y)) := e_iast dX5_laysSpent_46 rfl ht hi
theorem wX5_laysSpent_47 : E_ d mX5_laysSpent 47 [s0, s1, .val (.int x), s3, s4, s5, s6, s7, s8] st h = E_ d mX5_laysSpent 50 [s0, xk s1, .val (.int (x + nI 1)), s3, s4, s5, s6, s7, s8] st h := by rw [← kiinc_1]; exact e_go dX5_laysSpent_47 rfl rfl
theorem wX5_laysSpent_50 : E_ d mX5_laysSpent 50 ls st h = E_ d mX5_laysSpent 2 ls st h := e_gt dX5_laysSpent_50 rfl
theorem wX5_laysSpent_53 : E_ d mX5_laysSpent 53 [.val (.ref a), s1, s2, s3, s4, s5, s6, s7, s8] st h = E_ d mX5_laysSpent 54 [.val (.ref a), s1, s2, s3, s4, s5, s6, s7, s8] (.ref a :: st) h := e_go dX5_laysSpent_53 rfl rfl
theorem wX5_laysSpent_54 (ht : oT h a = 7) : E_ d mX5_laysSpent 54 ls (.ref a :: st) h = E_ d mX5_laysSpent 57 ls (va_rf (oR h a 2) :: st) h := e_getR0 dX5_laysSpent_54 rfl rfl ht
theorem wX5_laysSpent_57 : E_ d mX5_laysSpent 57 ls st h = E_ d mX5_laysSpent 60 ls (.int (nI 477) :: st) h := e_sipush dX5_laysSpent_57 ksipush_477 rfl
theorem wX5_laysSpent_60 (ht : oT h a = 40) (hi : xix x (oN h a) = true) : E_ d mX5_laysSpent 60 ls (.int x :: .ref a :: st) h = E_ d mX5_laysSpent 61 ls (.int (oI h a x.toNatClampNeg) :: st) h := e_iald dX5_laysSpent_60 rfl ht hi
theorem wX5_laysSpent_61 : E_ d mX5_laysSpent 61 ls st h = E_ d mX5_laysSpent 62 ls (.int (nI 1) :: st) h := e_iconst dX5_laysSpent_61 kiconst_1 rfl
theorem wX5_laysSpent_62 : E_ d mX5_laysSpent 62 ls (.int y :: .int x :: st) h = E_ d mX5_laysSpent 63 ls (.int (x - y) :: st) h := e_go dX5_laysSpent_62 rfl rfl
theorem wX5_laysSpent_63 : E_ d mX5_laysSpent 63 [s0, s1, s2, s3, s4, s5, s6, s7, s8] (.int x :: st) h = E_ d mX5_laysSpent 64 [s0, xk s1, .val (.int x), s3, s4, s5, s6, s7, s8] st h := e_go dX5_laysSpent_63 rfl rfl
theorem wX5_laysSpent_64 : E_ d mX5_laysSpent 64 [s0, s1, .val (.int x), s3, s4, s5, s6, s7, s8] st h = E_ d mX5_laysSpent 65 [s0, s1, .val (.int x), s3, s4, s5, s6, s7, s8] (.int x :: st) h := e_go dX5_laysSpent_64 rfl rfl
theorem wX5_laysSpent_65 : E_ d mX5_laysSpent 65 ls (.int x :: st) h = if x < 0 then E_ d mX5_laysSpent 252 ls st h else E_ d mX5_laysSpent 68 ls st h := e_zlt dX5_laysSpent_65 rfl rfl
theorem wX5_laysSpent_68 : E_ d mX5_laysSpent 68 ls st h = E_ d mX5_laysSpent 69 ls (.int (nI 0) :: st) h := e_iconst dX5_laysSpent_68 kiconst_0 rfl
theorem wX5_laysSpent_69 : E_ d mX5_laysSpent 69 [s0, s1, s2, s3, s4, s5, s6, s7, s8] (.int x :: st) h = E_ d mX5_laysSpent 70 [s0, s1, xk s2, .val (.int x), s4, s5, s6, s7, s8] st h := e_go dX5_laysSpent_69 rfl rfl
theorem wX5_laysSpent_70 : E_ d mX5_laysSpent 70 [s0, s1, s2, .val (.int x), s4, s5, s6, s7, s8] st h = E_ d mX5_laysSpent 71 [s0, s1, s2, .val (.int x), s4, s5, s6, s7, s8] (.int x :: st) h := e_go dX5_laysSpent_70 rfl rfl
theorem wX5_laysSpent_71 : E_ d mX5_laysSpent 71 [s0, .val (.int x), s2, s3, s4, s5, s6, s7, s8] st h = E_ d mX5_laysSpent 72 [s0, .val (.int x), s2, s3, s4, s5, s6, s7, s8] (.int x :: st) h := e_go dX5_laysSpent_71 rfl rfl
theorem wX5_laysSpent_72 : E_ d mX5_laysSpent 72 ls (.int y :: .int x :: st) h = if y < x then E_ d mX5_laysSpent 246 ls st h else E_ d mX5_laysSpent 75 ls st h := e_igt dX5_laysSpent_72 rfl rfl
theorem wX5_laysSpent_75 : E_ d mX5_laysSpent 75 [s0, s1, .val (.int x), s3, s4, s5, s6, s7, s8] st h = E_ d mX5_laysSpent 76 [s0, s1, .val (.int x), s3, s4, s5, s6, s7, s8] (.int x :: st) h := e_go dX5_laysSpent_75 rfl rfl
theorem wX5_laysSpent_76 : E_ d mX5_laysSpent 76 ls st h = E_ d mX5_laysSpent 79 ls (.int (nI 1000) :: st) h := e_sipush dX5_laysSpent_76 ksipush_1000 rfl
theorem wX5_laysSpent_79 : E_ d mX5_laysSpent 79 ls (.int y :: .int x :: st) h = E_ d mX5_laysSpent 80 ls (.int (x * y) :: st) h := e_go dX5_laysSpent_79 rfl rfl
theorem wX5_laysSpent_80 : E_ d mX5_laysSpent 80 [s0, s1, s2, .val (.int x), s4, s5, s6, s7, s8] st h = E_ d mX5_laysSpent 81 [s0, s1, s2, .val (.int x), s4, s5, s6, s7, s8] (.int x :: st) h := e_go dX5_laysSpent_80 rfl rfl
theorem wX5_laysSpent_81 : E_ d mX5_laysSpent 81 ls (.int y :: .int x :: st) h = E_ d mX5_laysSpent 82 ls (.int (x + y) :: st) h := e_go dX5_laysSpent_81 rfl rfl
theorem wX5_laysSpent_82 : E_ d mX5_laysSpent 82 [s0, s1, s2, s3, s4, s5, s6, s7, s8] (.int x :: st) h = E_ d mX5_laysSpent 84 [s0, s1, s2, xk s3, .val (.int x), s5, s6, s7, s8] st h := e_go dX5_laysSpent_82 rfl rfl
theorem wX5_laysSpent_84 : E_ d mX5_laysSpent 84 [.val (.ref a), s1, s2, s3, s4, s5, s6, s7, s8] st h = E_ d mX5_laysSpent 85 [.val (.ref a), s1, s2, s3, s4, s5, s6, s7, s8] (.ref a :: st) h := e_go dX5_laysSpent_84 rfl rfl
theorem wX5_laysSpent_85 (ht : oT h a = 7) : E_ d mX5_laysSpent 85 ls (.ref a :: st) h = E_ d mX5_laysSpent 88 ls (va_rf (oR h a 30) :: st) h := e_getR0 dX5_laysSpent_85 rfl rfl ht
theorem wX5_laysSpent_88 : E_ d mX5_laysSpent 88 [s0, s1, s2, s3, .val (.int x), s5, s6, s7, s8] st h = E_ d mX5_laysSpent 90 [s0, s1, s2, s3, .val (.int x), s5, s6, s7, s8] (.int x :: st) h := e_go dX5_laysSpent_88 rfl rfl
theorem wX5_laysSpent_90 : E_ d mX5_laysSpent 90 ls st h = E_ d mX5_laysSpent 91 ls (.int ((-1)) :: st) h := e_iconst dX5_laysSpent_90 kiconst_m1 rfl
theorem wX5_laysSpent_91 (ht : oT h a = 40) (hi : xix x (oN h a) = true) : E_ d mX5_laysSpent 91 ls (.int y :: .int x :: .ref a :: st) h = E_ d mX5_laysSpent 92 ls st (pI h a (va_up (oI h a) x.toNatClampNeg y)) := e_iast dX5_laysSpent_91 rfl ht hi
theorem wX5_laysSpent_92 : E_ d mX5_laysSpent 92 ls st h = E_ d mX5_laysSpent 93 ls (.int (nI 0) :: st) h := e_iconst dX5_laysSpent_92 kiconst_0 rfl
theorem wX5_laysSpent_93 : E_ d mX5_laysSpent 93 [s0, s1, s2, s3, s4, s5, s6, s7, s8] (.int x :: st) h = E_ d mX5_laysSpent 95 [s0, s1, s2, s3, xk s4, .val (.int x), s6, s7, s8] st h := e_go dX5_laysSpent_93 rfl rfl
theorem wX5_laysSpent_95 : E_ d mX5_laysSpent 95 [s0, s1, s2, s3, s4, .val (.int x), s6, s7, s8] st h = E_ d mX5_laysSpent 97 [s0, s1, s2, s3, s4, .val (.int x), s6, s7, s8] (.int x :: st) h := e_go dX5_laysSpent_95 rfl rfl
theorem wX5_laysSpent_97 : E_ d mX5_laysSpent 97 ls st h = E_ d mX5_laysSpent 99 ls (.int (nI 16) :: st) h := e_bipush dX5_laysSpent_97 kbipush_16 rfl
theorem wX5_laysSpent_99 : E_ d mX5_laysSpent 99 ls (.int y :: .int x :: st) h = if x < y then E_ d mX5_laysSpent 102 ls st h else E_ d mX5_laysSpent 240 ls st h := e_ige dX5_laysSpent_99 rfl rfl
theorem wX5_laysSpent_102 : E_ d mX5_laysSpent 102 [.val (.ref a), s1, s2, s3, s4, s5, s6, s7, s8] st h = E_ d mX5_laysSpent 103 [.val (.ref a), s1, s2, s3, s4, s5, s6, s7, s8] (.ref a :: st) h := e_go dX5_laysSpent_102 rfl rfl
theorem wX5_laysSpent_103 : E_ d mX5_laysSpent 103 [s0, s1, s2, s3, s4, .val (.int x), s6, s7, s8] st h = E_ d mX5_laysSpent 105 [s0, s1, s2, s3, s4, .val (.int x), s6, s7, s8] (.int x :: st) h := e_go dX5_laysSpent_103 rfl rfl
theorem wX5_laysSpent_105 (ht : oT h a = 7) : E_ (d + 1) mX5_laysSpent 105 ls [.int x1, .ref a] h = (C_ d mX5_costOf [.ref a, .int x1] h).bind fun r => E_ (d + 1) mX5_laysSpent 108 ls (xpu r.1 []) r.2 := e_vir dX5_laysSpent_105 rfl rfl rfl rfl rfl rfl (Nat.le_of_ble_eq_true rfl) (Nat.le_of_ble_eq_true rfl) ht
theorem wX5_laysSpent_108 : E_ d mX5_laysSpent 108 [s0, s1, s2, .val (.int x), s4, s5, s6, s7, s8] st h = E_ d mX5_laysSpent 109 [s0, s1, s2, .val (.int x), s4, s5, s6, s7, s8] (.int x :: st) h := e_go dX5_laysSpent_108 rfl rfl
theorem wX5_laysSpent_109 : E_ d mX5_laysSpent 109 ls (.int y :: .int x :: st) h = if y < x then E_ d mX5_laysSpent 112 ls st h else E_ d mX5_laysSpent 115 ls st h := e_ile dX5_laysSpent_109 rfl rfl
theorem wX5_laysSpent_112 : E_ d mX5_laysSpent 112 ls st h = E_ d mX5_laysSpent 234 ls st h := e_gt dX5_laysSpent_112 rfl
theorem wX5_laysSpent_115 : E_ d mX5_laysSpent 115 [s0, s1, .val (.int x), s3, s4, s5, s6, s7, s8] st h = E_ d mX5_laysSpent 116 [s0, s1, .val (.int x), s3, s4, s5, s6, s7, s8] (.int x :: st) h := e_go dX5_laysSpent_115 rfl rfl
theorem wX5_laysSpent_116 : E_ d mX5_laysSpent 116 ls st h = E_ d mX5_laysSpent 117 ls (.int (nI 1) :: st) h := e_iconst dX5_laysSpent_116 kiconst_1 rfl
theorem wX5_laysSpent_117 : E_ d mX5_laysSpent 117 ls (.int y :: .int x :: st) h = E_ d mX5_laysSpent 118 ls (.int (x + y) :: st) h := e_go dX5_laysSpent_117 rfl rfl
theorem wX5_laysSpent_118 : E_ d mX5_laysSpent 118 ls st h = E_ d mX5_laysSpent 121 ls (.int (nI 1000) :: st) h := e_sipush dX5_laysSpent_118 ksipush_1000 rfl
theorem wX5_laysSpent_121 : E_ d mX5_laysSpent 121 ls (.int y :: .int x :: st) h = E_ d mX5_laysSpent 122 ls (.int (x * y) :: st) h := e_go dX5_laysSpent_121 rfl rfl
theorem wX5_laysSpent_122 : E_ d mX5_laysSpent 122 [s0, s1, s2, .val (.int x), s4, s5, s6, s7, s8] st h = E_ d mX5_laysSpent 123 [s0, s1, s2, .val (.int x), s4, s5, s6, s7, s8] (.int x :: st) h := e_go dX5_laysSpent_122 rfl rfl
theorem wX5_laysSpent_123 : E_ d mX5_laysSpent 123 ls (.int y :: .int x :: st) h = E_ d mX5_laysSpent 124 ls (.int (x + y) :: st) h := e_go dX5_laysSpent_123 rfl rfl
theorem wX5_laysSpent_124 : E_ d mX5_laysSpent 124 [.val (.ref a), s1, s2, s3, s4, s5, s6, s7, s8] st h = E_ d mX5_laysSpent 125 [.val (.ref a), s1, s2, s3, s4, s5, s6, s7, s8] (.ref a :: st) h := e_go dX5_laysSpent_124 rfl rfl
theorem wX5_laysSpent_125 : E_ d mX5_laysSpent 125 [s0, s1, s2, s3, s4, .val (.int x), s6, s7, s8] st h = E_ d mX5_laysSpent 127 [s0, s1, s2, s3, s4, .val (.int x), s6, s7, s8] (.int x :: st) h := e_go dX5_laysSpent_125 rfl rfl
theorem wX5_laysSpent_127 (ht : oT h a = 7) : E_ (d + 1) mX5_laysSpent 127 ls [.int x1, .ref a, .int x2] h = (C_ d mX5_costOf [.ref a, .int x1] h).bind fun r => E_ (d + 1) mX5_laysSpent 130 ls (xpu r.1 [.int x2]) r.2 := e_vir dX5_laysSpent_127 rfl rfl rfl rfl rfl rfl (Nat.le_of_ble_eq_true rfl) (Nat.le_of_ble_eq_true rfl) ht
theorem wX5_laysSpent_130 : E_ d mX5_laysSpent 130 ls (.int y :: .int x :: st) h = E_ d mX5_laysSpent 131 ls (.int (x - y) :: st) h := e_go dX5_laysSpent_130 rfl rfl
theorem wX5_laysSpent_131 : E_ d mX5_laysSpent 131 [s0, s1, s2, s3, s4, s5, s6, s7, s8] (.int x :: st) h = E_ d mX5_laysSpent 133 [s0, s1, s2, s3, s4, xk s5, .val (.int x), s7, s8] st h := e_go dX5_laysSpent_131 rfl rfl
theorem wX5_laysSpent_133 : E_ d mX5_laysSpent 133 [.val (.ref a), s1, s2, s3, s4, s5, s6, s7, s8] st h = E_ d mX5_laysSpent 134 [.val (.ref a), s1, s2, s3, s4, s5, s6, s7, s8] (.ref a :: st) h := e_go dX5_laysSpent_133 rfl rfl
theorem wX5_laysSpent_134 : E_ d mX5_laysSpent 134 [s0, s1, .val (.int x), s3, s4, s5, s6, s7, s8] st h = E_ d mX5_laysSpent 135 [s0, s1, .val (.int x), s3, s4, s5, s6, s7, s8] (.int x :: st) h := e_go dX5_laysSpent_134 rfl rfl
theorem wX5_laysSpent_135 : E_ d mX5_laysSpent 135 [s0, s1, s2, s3, s4, .val (.int x), s6, s7, s8] st h = E_ d mX5_laysSpent 137 [s0, s1, s2, s3, s4, .val (.int x), s6, s7, s8] (.int x :: st) h := e_go dX5_laysSpent_135 rfl rfl
theorem wX5_laysSpent_137 (ht : oT h a = 7) : E_ (d + 1) mX5_laysSpent 137 ls [.int x2, .int x1, .ref a] h = (C_ d mX5_leftOf [.ref a, .int x1, .int x2] h).bind fun r => E_ (d + 1) mX5_laysSpent 140 ls (xpu r.1 []) r.2 := e_vir dX5_laysSpent_137 rfl rfl rfl rfl rfl rfl (Nat.le_of_ble_eq_true rfl) (Nat.le_of_ble_eq_true rfl) ht
theorem wX5_laysSpent_140 : E_ d mX5_laysSpent 140 [.val (.ref a), s1, s2, s3, s4, s5, s6, s7, s8] st h = E_ d mX5_laysSpent 141 [.val (.ref a), s1, s2, s3, s4, s5, s6, s7, s8] (.ref a :: st) h := e_go dX5_laysSpent_140 rfl rfl
theorem wX5_laysSpent_141 (ht : oT h a = 7) : E_ d mX5_laysSpent 141 ls (.ref a :: st) h = E_ d mX5_laysSpent 144 ls (va_rf (oR h a 30) :: st) h := e_getR0 dX5_laysSpent_141 rfl rfl ht
theorem wX5_laysSpent_144 : E_ d mX5_laysSpent 144 [s0, s1, s2, s3, s4, s5, .val (.int x), s7, s8] st h = E_ d mX5_laysSpent 146 [s0, s1, s2, s3, s4, s5, .val (.int x), s7, s8] (.int x :: st) h := e_go dX5_laysSpent_144 rfl rfl
theorem wX5_laysSpent_146 (ht : oT h a = 40) (hi : xix x (oN h a) = true) : E_ d mX5_laysSpent 146 ls (.int x :: .ref a :: st) h = E_ d mX5_laysSpent 147 ls (.int (oI h a x.toNatClampNeg) :: st) h := e_iald dX5_laysSpent_146 rfl ht hi
theorem wX5_laysSpent_147 : E_ d mX5_laysSpent 147 ls (.int y :: .int x :: st) h = E_ d mX5_laysSpent 148 ls (.int (x + y) :: st) h := e_go dX5_laysSpent_147 rfl rfl
theorem wX5_laysSpent_148 : E_ d mX5_laysSpent 148 [s0, s1, s2, s3, s4, s5, s6, s7, s8] (.int x :: st) h = E_ d mX5_laysSpent 150 [s0, s1, s2, s3, s4, s5, xk s6, .val (.int x), s8] st h := e_go dX5_laysSpent_148 rfl rfl
theorem wX5_laysSpent_150 : E_ d mX5_laysSpent 150 [.val (.ref a), s1, s2, s3, s4, s5, s6, s7, s8] st h = E_ d mX5_laysSpent 151 [.val (.ref a), s1, s2, s3, s4, s5, s6, s7, s8] (.ref a :: st) h := e_go dX5_laysSpent_150 rfl rfl
theorem wX5_laysSpent_151 : E_ d mX5_laysSpent 151 [s0, s1, s2, s3, s4, .val (.int x), s6, s7, s8] st h = E_ d mX5_laysSpent 153 [s0, s1, s2, s3, s4, .val (.int x), s6, s7, s8] (.int x :: st) h := e_go dX5_laysSpent_151 rfl rfl
theorem wX5_laysSpent_153 (ht : oT h a = 7) : E_ (d + 1) mX5_laysSpent 153 ls [.int x1, .ref a] h = (C_ d mX5_costOf [.ref a, .int x1] h).bind fun r => E_ (d + 1) mX5_laysSpent 156 ls (xpu r.1 []) r.2 := e_vir dX5_laysSpent_153 rfl rfl rfl rfl rfl rfl (Nat.le_of_ble_eq_true rfl) (Nat.le_of_ble_eq_true rfl) ht
theorem wX5_laysSpent_156 : E_ d mX5_laysSpent 156 [.val (.ref a), s1, s2, s3, s4, s5, s6, s7, s8] st h = E_ d mX5_laysSpent 157 [.val (.ref a), s1, s2, s3, s4, s5, s6, s7, s8] (.ref a :: st) h := e_go dX5_laysSpent_156 rfl rfl
theorem wX5_laysSpent_157 (ht : oT h a = 7) : E_ d mX5_laysSpent 157 ls (.ref a :: st) h = E_ d mX5_laysSpent 160 ls (va_rf (oR h a 31) :: st) h := e_getR0 dX5_laysSpent_157 rfl rfl ht
theorem wX5_laysSpent_160 : E_ d mX5_laysSpent 160 [s0, s1, s2, s3, s4, s5, .val (.int x), s7, s8] st h = E_ d mX5_laysSpent 162 [s0, s1, s2, s3, s4, s5, .val (.int x), s7, s8] (.int x :: st) h := e_go dX5_laysSpent_160 rfl rfl
theorem wX5_laysSpent_162 (ht : oT h a = 40) (hi : xix x (oN h a) = true) : E_ d mX5_laysSpent 162 ls (.int x :: .ref a :: st) h = E_ d mX5_laysSpent 163 ls (.int (oI h a x.toNatClampNeg) :: st) h := e_iald dX5_laysSpent_162 rfl ht hi
theorem wX5_laysSpent_163 : E_ d mX5_laysSpent 163 ls (.int y :: .int x :: st) h = E_ d mX5_laysSpent 164 ls (.int (x + y) :: st) h := e_go dX5_laysSpent_163 rfl rfl
theorem wX5_laysSpent_164 : E_ d mX5_laysSpent 164 [s0, s1, s2, s3, s4, s5, s6, s7, s8] (.int x :: st) h = E_ d mX5_laysSpent 166 [s0, s1, s2, s3, s4, s5, s6, xk s7, .val (.int x)] st h := e_go dX5_laysSpent_164 rfl rfl
theorem wX5_laysSpent_166 : E_ d mX5_laysSpent 166 [.val (.ref a), s1, s2, s3, s4, s5, s6, s7, s8] st h = E_ d mX5_laysSpent 167 [.val (.ref a), s1, s2, s3, s4, s5, s6, s7, s8] (.ref a :: st) h := e_go dX5_laysSpent_166 rfl rfl
theorem wX5_laysSpent_167 (ht : oT h a = 7) : E_ d mX5_laysSpent 167 ls (.ref a :: st) h = E_ d mX5_laysSpent 170 ls (va_rf (oR h a 30) :: st) h := e_getR0 dX5_laysSpent_167 rfl rfl ht
theorem wX5_laysSpent_170 : E_ d mX5_laysSpent 170 [s0, s1, s2, s3, .val (.int x), s5, s6, s7, s8] st h = E_ d mX5_laysSpent 172 [s0, s1, s2, s3, .val (.int x), s5, s6, s7, s8] (.int x :: st) h := e_go dX5_laysSpent_170 rfl rfl
theorem wX5_laysSpent_172 (ht : oT h a = 40) (hi : xix x (oN h a) = true) : E_ d mX5_laysSpent 172 ls (.int x :: .ref a :: st) h = E_ d mX5_laysSpent 173 ls (.int (oI h a x.toNatClampNeg) :: st) h := e_iald dX5_laysSpent_172 rfl ht hi
theorem wX5_laysSpent_173 : E_ d mX5_laysSpent 173 ls st h = E_ d mX5_laysSpent 174 ls (.int ((-1)) :: st) h := e_iconst dX5_laysSpent_173 kiconst_m1 rfl
theorem wX5_laysSpent_174 : E_ d mX5_laysSpent 174 ls (.int y :: .int x :: st) h = if x = y then E_ d mX5_laysSpent 216 ls st h else E_ d mX5_laysSpent 177 ls st h := e_ieq dX5_laysSpent_174 rfl rfl
theorem wX5_laysSpent_177 : E_ d mX5_laysSpent 177 [s0, s1, s2, s3, s4, s5, s6, .val (.int x), s8] st h = E_ d mX5_laysSpent 179 [s0, s1, s2, s3, s4, s5, s6, .val (.int x), s8] (.int x :: st) h := e_go dX5_laysSpent_177 rfl rfl
theorem wX5_laysSpent_179 : E_ d mX5_laysSpent 179 [.val (.ref a), s1, s2, s3, s4, s5, s6, s7, s8] st h = E_ d mX5_laysSpent 180 [.val (.ref a), s1, s2, s3, s4, s5, s6, s7, s8] (.ref a :: st) h := e_go dX5_laysSpent_179 rfl rfl
theorem wX5_laysSpent_180 (ht : oT h a = 7) : E_ d mX5_laysSpent 180 ls (.ref a :: st) h = E_ d mX5_laysSpent 183 ls (va_rf (oR h a 30) :: st) h := e_getR0 dX5_laysSpent_180 rfl rfl ht
theorem wX5_laysSpent_183 : E_ d mX5_laysSpent 183 [s0, s1, s2, s3, .val (.int x), s5, s6, s7, s8] st h = E_ d mX5_laysSpent 185 [s0, s1, s2, s3, .val (.int x), s5, s6, s7, s8] (.int x :: st) h := e_go dX5_laysSpent_183 rfl rfl
theorem wX5_laysSpent_185 (ht : oT h a = 40) (hi : xix x (oN h a) = true) : E_ d mX5_laysSpent 185 ls (.int x :: .ref a :: st) h = E_ d mX5_laysSpent 186 ls (.int (oI h a x.toNatClampNeg) :: st) h := e_iald dX5_laysSpent_185 rfl ht hi
theorem wX5_laysSpent_186 : E_ d mX5_laysSpent 186 ls (.int y :: .int x :: st) h = if y < x then E_ d mX5_laysSpent 234 ls st h else E_ d mX5_laysSpent 189 ls st h := e_igt dX5_laysSpent_186 rfl rfl
theorem wX5_laysSpent_189 : E_ d mX5_laysSpent 189 [s0, s1, s2, s3, s4, s5, s6, .val (.int x), s8] st h = E_ d mX5_laysSpent 191 [s0, s1, s2, s3, s4, s5, s6, .val (.int x), s8] (.int x :: st) h := e_go dX5_laysSpent_189 rfl rfl
theorem wX5_laysSpent_191 : E_ d mX5_laysSpent 191 [.val (.ref a), s1, s2, s3, s4, s5, s6, s7, s8] st h = E_ d mX5_laysSpent 192 [.val (.ref a), s1, s2, s3, s4, s5, s6, s7, s8] (.ref a :: st) h := e_go dX5_laysSpent_191 rfl rfl
theorem wX5_laysSpent_192 (ht : oT h a = 7) : E_ d mX5_laysSpent 192 ls (.ref a :: st) h = E_ d mX5_laysSpent 195 ls (va_rf (oR h a 30) :: st) h := e_getR0 dX5_laysSpent_192 rfl rfl ht
theorem wX5_laysSpent_195 : E_ d mX5_laysSpent 195 [s0, s1, s2, s3, .val (.int x), s5, s6, s7, s8] st h = E_ d mX5_laysSpent 197 [s0, s1, s2, s3, .val (.int x), s5, s6, s7, s8] (.int x :: st) h := e_go dX5_laysSpent_195 rfl rfl
theorem wX5_laysSpent_197 (ht : oT h a = 40) (hi : xix x (oN h a) = true) : E_ d mX5_laysSpent 197 ls (.int x :: .ref a :: st) h = E_ d mX5_laysSpent 198 ls (.int (oI h a x.toNatClampNeg) :: st) h := e_iald dX5_laysSpent_197 rfl ht hi
theorem wX5_laysSpent_198 : E_ d mX5_laysSpent 198 ls (.int y :: .int x :: st) h = if x = y then E_ d mX5_laysSpent 201 ls st h else E_ d mX5_laysSpent 216 ls st h := e_ine dX5_laysSpent_198 rfl rfl
theorem wX5_laysSpent_201 : E_ d mX5_laysSpent 201 [s0, s1, s2, s3, s4, s5, s6, s7, .val (.int x)] st h = E_ d mX5_laysSpent 203 [s0, s1, s2, s3, s4, s5, s6, s7, .val (.int x)] (.int x :: st) h := e_go dX5_laysSpent_201 rfl rfl
theorem wX5_laysSpent_203 : E_ d mX5_laysSpent 203 [.val (.ref a), s1, s2, s3, s4, s5, s6, s7, s8] st h = E_ d mX5_laysSpent 204 [.val (.ref a), s1, s2, s3, s4, s5, s6, s7, s8] (.ref a :: st) h := e_go dX5_laysSpent_203 rfl rfl
theorem wX5_laysSpent_204 (ht : oT h a = 7) : E_ d mX5_laysSpent 204 ls (.ref a :: st) h = E_ d mX5_laysSpent 207 ls (va_rf (oR h a 31) :: st) h := e_getR0 dX5_laysSpent_204 rfl rfl ht
theorem wX5_laysSpent_207 : E_ d mX5_laysSpent 207 [s0, s1, s2, s3, .val (.int x), s5, s6, s7, s8] st h = E_ d mX5_laysSpent 209 [s0, s1, s2, s3, .val (.int x), s5, s6, s7, s8] (.int x :: st) h := e_go dX5_laysSpent_207 rfl rfl
theorem wX5_laysSpent_209 (ht : oT h a = 40) (hi : xix x (oN h a) = true) : E_ d mX5_laysSpent 209 ls (.int x :: .ref a :: st) h = E_ d mX5_laysSpent 210 ls (.int (oI h a x.toNatClampNeg) :: st) h := e_iald dX5_laysSpent_209 rfl ht hi
theorem wX5_laysSpent_210 : E_ d mX5_laysSpent 210 ls (.int y :: .int x :: st) h = if x < y then E_ d mX5_laysSpent 216 ls st h else E_ d mX5_laysSpent 213 ls st h := e_ilt dX5_laysSpent_210 rfl rfl
theorem wX5_laysSpent_213 : E_ d mX5_laysSpent 213 ls st h = E_ d mX5_laysSpent 234 ls st h := e_gt dX5_laysSpent_213 rfl
theorem wX5_laysSpent_216 : E_ d mX5_laysSpent 216 [.val (.ref a), s1, s2, s3, s4, s5, s6, s7, s8] st h = E_ d mX5_laysSpent 217 [.val (.ref a), s1, s2, s3, s4, s5, s6, s7, s8] (.ref a :: st) h := e_go dX5_laysSpent_216 rfl rfl
theorem wX5_laysSpent_217 (ht : oT h a = 7) : E_ d mX5_laysSpent 217 ls (.ref a :: st) h = E_ d mX5_laysSpent 220 ls (va_rf (oR h a 30) :: st) h := e_getR0 dX5_laysSpent_217 rfl rfl ht
theorem wX5_laysSpent_220 : E_ d mX5_laysSpent 220 [s0, s1, s2, s3, .val (.int x), s5, s6, s7, s8] st h = E_ d mX5_laysSpent 222 [s0, s1, s2, s3, .val (.int x), s5, s6, s7, s8] (.int x :: st) h := e_go dX5_laysSpent_220 rfl rfl
theorem wX5_laysSpent_222 : E_ d mX5_laysSpent 222 [s0, s1, s2, s3, s4, s5, s6, .val (.int x), s8] st h = E_ d mX5_laysSpent 224 [s0, s1, s2, s3, s4, s5, s6, .val (.int x), s8] (.int x :: st) h := e_go dX5_laysSpent_222 rfl rfl
theorem wX5_laysSpent_224 (ht : oT h a = 40) (hi : xix x (oN h a) = true) : E_ d mX5_laysSpent 224 ls (.int y :: .int x :: .ref a :: st) h = E_ d mX5_laysSpent 225 ls st (pI h a (va_up (oI h a) x.toNatClampNeg y)) := e_iast dX5_laysSpent_224 rfl ht hi
theorem wX5_laysSpent_225 : E_ d mX5_laysSpent 225 [.val (.ref a), s1, s2, s3, s4, s5, s6, s7, s8] st h = E_ d mX5_laysSpent 226 [.val (.ref a), s1, s2, s3, s4, s5, s6, s7, s8] (.ref a :: st) h := e_go dX5_laysSpent_225 rfl rfl
theorem wX5_laysSpent_226 (ht : oT h a = 7) : E_ d mX5_laysSpent 226 ls (.ref a :: st) h = E_ d mX5_laysSpent 229 ls (va_rf (oR h a 31) :: st) h := e_getR0 dX5_laysSpent_226 rfl rfl ht
theorem wX5_laysSpent_229 : E_ d mX5_laysSpent 229 [s0, s1, s2, s3, .val (.int x), s5, s6, s7, s8] st h = E_ d mX5_laysSpent 231 [s0, s1, s2, s3, .val (.int x), s5, s6, s7, s8] (.int x :: st) h := e_go dX5_laysSpent_229 rfl rfl
theorem wX5_laysSpent_231 : E_ d mX5_laysSpent 231 [s0, s1, s2, s3, s4, s5, s6, s7, .val (.int x)] st h = E_ d mX5_laysSpent 233 [s0, s1, s2, s3, s4, s5, s6, s7, .val (.int x)] (.int x :: st) h := e_go dX5_laysSpent_231 rfl rfl
theorem wX5_laysSpent_233 (ht : oT h a = 40) (hi : xix x (oN h a) = true) : E_ d mX5_laysSpent 233 ls (.int y :: .int x :: .ref a :: st) h = E_ d mX5_laysSpent 234 ls st (pI h a (va_up (oI h a) x.toNatClampNeg y)) := e_iast dX5_laysSpent_233 rfl ht hi
theorem wX5_laysSpent_234 : E_ d mX5_laysSpent 234 [s0, s1, s2, s3, s4, .val (.int x), s6, s7, s8] st h = E_ d mX5_laysSpent 237 [s0, s1, s2, s3, xk s4, .val (.int (x + nI 1)), s6, s7, s8] st h := by rw [← kiinc_1]; exact e_go dX5_laysSpent_234 rfl rfl
theorem wX5_laysSpent_237 : E_ d mX5_laysSpent 237 ls st h = E_ d mX5_laysSpent 95 ls st h := e_gt dX5_laysSpent_237 rfl
theorem wX5_laysSpent_240 : E_ d mX5_laysSpent 240 [s0, s1, s2, .val (.int x), s4, s5, s6, s7, s8] st h = E_ d mX5_laysSpent 243 [s0, s1, xk s2, .val (.int (x + nI 1)), s4, s5, s6, s7, s8] st h := by rw [← kiinc_1]; exact e_go dX5_laysSpent_240 rfl rfl
theorem wX5_laysSpent_243 : E_ d mX5_laysSpent 243 ls st h = E_ d mX5_laysSpent 70 ls st h := e_gt dX5_laysSpent_243 rfl
theorem wX5_laysSpent_246 : E_ d mX5_laysSpent 246 [s0, s1, .val (.int x), s3, s4, s5, s6, s7, s8] st h = E_ d mX5_laysSpent 249 [s0, xk s1, .val (.int (x + (-1))), s3, s4, s5, s6, s7, s8] st h := by rw [← kiinc_m1]; exact e_go dX5_laysSpent_246 rfl rfl
theorem wX5_laysSpent_249 : E_ d mX5_laysSpent 249 ls st h = E_ d mX5_laysSpent 64 ls st h := e_gt dX5_laysSpent_249 rfl
theorem wX5_laysSpent_252 : E_ d mX5_laysSpent 252 ls [] h = some (none, h) := e_rt dX5_laysSpent_252 rfl rfl
/-! FootOutModel.costOf -/
theorem wX5_costOf_0 : E_ d mX5_costOf 0 ls st h = E_ d mX5_costOf 1 ls (.int (nI 0) :: st) h := e_iconst dX5_costOf_0 kiconst_0 rfl
theorem wX5_costOf_1 : E_ d mX5_costOf 1 [s0, s1, s2, s3] (.int x :: st) h = E_ d mX5_costOf 2 [s0, xk s1, .val (.int x), s3] st h := e_go dX5_costOf_1 rfl rfl
theorem wX5_costOf_2 : E_ d mX5_costOf 2 ls st h = E_ d mX5_costOf 3 ls (.int (nI 0) :: st) h := e_iconst dX5_costOf_2 kiconst_0 rfl
theorem wX5_costOf_3 : E_ d mX5_costOf 3 [s0, s1, s2, s3] (.int x :: st) h = E_ d mX5_costOf 4 [s0, s1, xk s2, .val (.int x)] st h := e_go dX5_costOf_3 rfl rfl
theorem wX5_costOf_4 : E_ d mX5_costOf 4 [s0, s1, s2, .val (.int x)] st h = E_ d mX5_costOf 5 [s0, s1, s2, .val (.int x)] (.int x :: st) h := e_go dX5_costOf_4 rfl rfl
theorem wX5_costOf_5 : E_ d mX5_costOf 5 ls st h = E_ d mX5_costOf 6 ls (.int (nI 4) :: st) h := e_iconst dX5_costOf_5 kiconst_4 rfl
theorem wX5_costOf_6 : E_ d mX5_costOf 6 ls (.int y :: .int x :: st) h = if x < y then E_ d mX5_costOf 9 ls st h else E_ d mX5_costOf 41 ls st h := e_ige dX5_costOf_6 rfl rfl
theorem wX5_costOf_9 : E_ d mX5_costOf 9 [s0, s1, .val (.int x), s3] st h = E_ d mX5_costOf 10 [s0, s1, .val (.int x), s3] (.int x :: st) h := e_go dX5_costOf_9 rfl rfl
theorem wX5_costOf_10 : E_ d mX5_costOf 10 [s0, .val (.int x), s2, s3] st h = E_ d mX5_costOf 11 [s0, .val (.int x), s2, s3] (.int x :: st) h := e_go dX5_costOf_10 rfl rfl
theorem wX5_costOf_11 : E_ d mX5_costOf 11 [s0, s1, s2, .val (.int x)] st h = E_ d mX5_costOf 12 [s0, s1, s2, .val (.int x)] (.int x :: st) h := e_go dX5_costOf_11 rfl rfl
theorem wX5_costOf_12 : E_ d mX5_costOf 12 ls (.int y :: .int x :: st) h = E_ d mX5_costOf 13 ls (.int (x >>> (y &&& 31)) :: st) h := e_go dX5_costOf_12 rfl rfl
theorem wX5_costOf_13 : E_ d mX5_costOf 13 ls st h = E_ d mX5_costOf 14 ls (.int (nI 1) :: st) h := e_iconst dX5_costOf_13 kiconst_1 rfl
theorem wX5_costOf_14 : E_ d mX5_costOf 14 ls (.int y :: .int x :: st) h = E_ d mX5_costOf 15 ls (.int (x &&& y) :: st) h := e_go dX5_costOf_14 rfl rfl
theorem wX5_costOf_15 : E_ d mX5_costOf 15 ls st h = E_ d mX5_costOf 16 ls (.int (nI 1) :: st) h := e_iconst dX5_costOf_15 kiconst_1 rfl
theorem wX5_costOf_16 : E_ d mX5_costOf 16 ls (.int y :: .int x :: st) h = if x = y then E_ d mX5_costOf 19 ls st h else E_ d mX5_costOf 32 ls st h := e_ine dX5_costOf_16 rfl rfl
theorem wX5_costOf_19 : E_ d mX5_costOf 19 [.val (.ref a), s1, s2, s3] st h = E_ d mX5_costOf 20 [.val (.ref a), s1, s2, s3] (.ref a :: st) h := e_go dX5_costOf_19 rfl rfl
theorem wX5_costOf_20 (ht : oT h a = 7) : E_ d mX5_costOf 20 ls (.ref a :: st) h = E_ d mX5_costOf 23 ls (va_rf (oR h a 2) :: st) h := e_getR0 dX5_costOf_20 rfl rfl ht
theorem wX5_costOf_23 : E_ d mX5_costOf 23 ls st h = E_ d mX5_costOf 26 ls (.int (nI 550) :: st) h := e_sipush dX5_costOf_23 ksipush_550 rfl
theorem wX5_costOf_26 : E_ d mX5_costOf 26 [s0, s1, s2, .val (.int x)] st h = E_ d mX5_costOf 27 [s0, s1, s2, .val (.int x)] (.int x :: st) h := e_go dX5_costOf_26 rfl rfl
theorem wX5_costOf_27 : E_ d mX5_costOf 27 ls (.int y :: .int x :: st) h = E_ d mX5_costOf 28 ls (.int (x + y) :: st) h := e_go dX5_costOf_27 rfl rfl
theorem wX5_costOf_28 (ht : oT h a = 40) (hi : xix x (oN h a) = true) : E_ d mX5_costOf 28 ls (.int x :: .ref a :: st) h = E_ d mX5_costOf 29 ls (.int (oI h a x.toNatClampNeg) :: st) h := e_iald dX5_costOf_28 rfl ht hi
theorem wX5_costOf_29 : E_ d mX5_costOf 29 ls st h = E_ d mX5_costOf 33 ls st h := e_gt dX5_costOf_29 rfl
theorem wX5_costOf_32 : E_ d mX5_costOf 32 ls st h = E_ d mX5_costOf 33 ls (.int (nI 0) :: st) h := e_iconst dX5_costOf_32 kiconst_0 rfl
theorem wX5_costOf_33 : E_ d mX5_costOf 33 ls (.int y :: .int x :: st) h = E_ d mX5_costOf 34 ls (.int (x + y) :: st) h := e_go dX5_costOf_33 rfl rfl
theorem wX5_costOf_34 : E_ d mX5_costOf 34 [s0, s1, s2, s3] (.int x :: st) h = E_ d mX5_costOf 35 [s0, xk s1, .val (.int x), s3] st h := e_go dX5_costOf_34 rfl rfl
theorem wX5_costOf_35 : E_ d mX5_costOf 35 [s0, s1, s2, .val (.int x)] st h = E_ d mX5_costOf 38 [s0, s1, xk s2, .val (.int (x + nI 1))] st h := by rw [← kiinc_1]; exact e_go dX5_costOf_35 rfl rfl
theorem wX5_costOf_38 : E_ d mX5_costOf 38 ls st h = E_ d mX5_costOf 4 ls st h := e_gt dX5_costOf_38 rfl
theorem wX5_costOf_41 : E_ d mX5_costOf 41 [s0, s1, .val (.int x), s3] st h = E_ d mX5_costOf 42 [s0, s1, .val (.int x), s3] (.int x :: st) h := e_go dX5_costOf_41 rfl rfl
theorem wX5_costOf_42 : E_ d mX5_costOf 42 ls [.int x] h = some (some (.int x), h) := e_rt dX5_costOf_42 rfl rfl
/-! FootOutModel.leftOf -/
theorem wX5_leftOf_0 : E_ d mX5_leftOf 0 [.val (.ref a), s1, s2, s3, s4] st h = E_ d mX5_leftOf 1 [.val (.ref a), s1, s2, s3, s4] (.ref a :: st) h := e_go dX5_leftOf_0 rfl rfl
theorem wX5_leftOf_1 : E_ d mX5_leftOf 1 [s0, .val (.int x), s2, s3, s4] st h = E_ d mX5_leftOf 2 [s0, .val (.int x), s2, s3, s4] (.int x :: st) h := e_go dX5_leftOf_1 rfl rfl
theorem wX5_leftOf_2 (ht : oT h a = 7) : E_ (d + 1) mX5_leftOf 2 ls [.int x1, .ref a] h = (C_ d mX5_hurtAt [.ref a, .int x1] h).bind fun r => E_ (d + 1) mX5_leftOf 5 ls (xpu r.1 []) r.2 := e_vir dX5_leftOf_2 rfl rfl rfl rfl rfl rfl (Nat.le_of_ble_eq_true rfl) (Nat.le_of_ble_eq_true rfl) ht
theorem wX5_leftOf_5 : E_ d mX5_leftOf 5 ls st h = E_ d mX5_leftOf 8 ls (.int (nI 10000) :: st) h := e_sipush dX5_leftOf_5 ksipush_10000 rfl
theorem wX5_leftOf_8 : E_ d mX5_leftOf 8 ls (.int y :: .int x :: st) h = E_ d mX5_leftOf 9 ls (.int (x * y) :: st) h := e_go dX5_leftOf_8 rfl rfl
theorem wX5_leftOf_9 : E_ d mX5_leftOf 9 [s0, s1, s2, s3, s4] (.int x :: st) h = E_ d mX5_leftOf 10 [s0, s1, xk s2, .val (.int x), s4] st h := e_go dX5_leftOf_9 rfl rfl
theorem wX5_leftOf_10 : E_ d mX5_leftOf 10 ls st h = E_ d mX5_leftOf 11 ls (.int (nI 0) :: st) h := e_iconst dX5_leftOf_10 kiconst_0 rfl
theorem wX5_leftOf_11 : E_ d mX5_leftOf 11 [s0, s1, s2, s3, s4] (.int x :: st) h = E_ d mX5_leftOf 13 [s0, s1, s2, xk s3, .val (.int x)] st h := e_go dX5_leftOf_11 rfl rfl
theorem wX5_leftOf_13 : E_ d mX5_leftOf 13 [s0, s1, s2, s3, .val (.int x)] st h = E_ d mX5_leftOf 15 [s0, s1, s2, s3, .val (.int x)] (.int x :: st) h := e_go dX5_leftOf_13 rfl rfl
theorem wX5_leftOf_15 : E_ d mX5_leftOf 15 ls st h = E_ d mX5_leftOf 16 ls (.int (nI 4) :: st) h := e_iconst dX5_leftOf_15 kiconst_4 rfl
theorem wX5_leftOf_16 : E_ d mX5_leftOf 16 ls (.int y :: .int x :: st) h = if x < y then E_ d mX5_leftOf 19 ls st h else E_ d mX5_leftOf 60 ls st h := e_ige dX5_leftOf_16 rfl rfl
theorem wX5_leftOf_19 : E_ d mX5_leftOf 19 [s0, s1, .val (.int x), s3, s4] st h = E_ d mX5_leftOf 20 [s0, s1, .val (.int x), s3, s4] (.int x :: st) h := e_go dX5_leftOf_19 rfl rfl
theorem wX5_leftOf_20 : E_ d mX5_leftOf 20 [s0, s1, s2, s3, .val (.int x)] st h = E_ d mX5_leftOf 22 [s0, s1, s2, s3, .val (.int x)] (.int x :: st) h := e_go dX5_leftOf_20 rfl rfl
theorem wX5_leftOf_22 : E_ d mX5_leftOf 22 ls (.int y :: .int x :: st) h = E_ d mX5_leftOf 23 ls (.int (x >>> (y &&& 31)) :: st) h := e_go dX5_leftOf_22 rfl rfl
theorem wX5_leftOf_23 : E_ d mX5_leftOf 23 ls st h = E_ d mX5_leftOf 24 ls (.int (nI 1) :: st) h := e_iconst dX5_leftOf_23 kiconst_1 rfl
theorem wX5_leftOf_24 : E_ d mX5_leftOf 24 ls (.int y :: .int x :: st) h = E_ d mX5_leftOf 25 ls (.int (x &&& y) :: st) h := e_go dX5_leftOf_24 rfl rfl
theorem wX5_leftOf_25 : E_ d mX5_leftOf 25 ls st h = E_ d mX5_leftOf 26 ls (.int (nI 1) :: st) h := e_iconst dX5_leftOf_25 kiconst_1 rfl
theorem wX5_leftOf_26 : E_ d mX5_leftOf 26 ls (.int y :: .int x :: st) h = if x = y then E_ d mX5_leftOf 29 ls st h else E_ d mX5_leftOf 52 ls st h := e_ine dX5_leftOf_26 rfl rfl
theorem wX5_leftOf_29 : E_ d mX5_leftOf 29 [s0, s1, s2, .val (.int x), s4] st h = E_ d mX5_leftOf 30 [s0, s1, s2, .val (.int x), s4] (.int x :: st) h := e_go dX5_leftOf_29 rfl rfl
theorem wX5_leftOf_30 : E_ d mX5_leftOf 30 ls (.int x :: st) h = E_ d mX5_leftOf 31 ls (.long x.toInt64 :: st) h := e_go dX5_leftOf_30 rfl rfl
theorem wX5_leftOf_31 : E_ d mX5_leftOf 31 [.val (.ref a), s1, s2, s3, s4] st h = E_ d mX5_leftOf 32 [.val (.ref a), s1, s2, s3, s4] (.ref a :: st) h := e_go dX5_leftOf_31 rfl rfl
theorem wX5_leftOf_32 (ht : oT h a = 7) : E_ d mX5_leftOf 32 ls (.ref a :: st) h = E_ d mX5_leftOf 35 ls (va_rf (oR h a 2) :: st) h := e_getR0 dX5_leftOf_32 rfl rfl ht
theorem wX5_leftOf_35 : E_ d mX5_leftOf 35 ls st h = E_ d mX5_leftOf 38 ls (.int (nI 554) :: st) h := e_sipush dX5_leftOf_35 ksipush_554 rfl
theorem wX5_leftOf_38 : E_ d mX5_leftOf 38 [s0, s1, s2, s3, .val (.int x)] st h = E_ d mX5_leftOf 40 [s0, s1, s2, s3, .val (.int x)] (.int x :: st) h := e_go dX5_leftOf_38 rfl rfl
theorem wX5_leftOf_40 : E_ d mX5_leftOf 40 ls (.int y :: .int x :: st) h = E_ d mX5_leftOf 41 ls (.int (x + y) :: st) h := e_go dX5_leftOf_40 rfl rfl
theorem wX5_leftOf_41 (ht : oT h a = 40) (hi : xix x (oN h a) = true) : E_ d mX5_leftOf 41 ls (.int x :: .ref a :: st) h = E_ d mX5_leftOf 42 ls (.int (oI h a x.toNatClampNeg) :: st) h := e_iald dX5_leftOf_41 rfl ht hi
theorem wX5_leftOf_42 : E_ d mX5_leftOf 42 ls (.int x :: st) h = E_ d mX5_leftOf 43 ls (.long x.toInt64 :: st) h := e_go dX5_leftOf_42 rfl rfl
theorem wX5_leftOf_43 : E_ d mX5_leftOf 43 ls (.long v :: .long u :: st) h = E_ d mX5_leftOf 44 ls (.long (u * v) :: st) h := e_go dX5_leftOf_43 rfl rfl
theorem wX5_leftOf_44 : E_ d mX5_leftOf 44 ls st h = E_ d mX5_leftOf 47 ls (.long (100) :: st) h := e_go dX5_leftOf_44 rfl rfl
theorem wX5_leftOf_47 (hy : ¬ v = 0) : E_ d mX5_leftOf 47 ls (.long v :: .long u :: st) h = E_ d mX5_leftOf 48 ls (.long (u / v) :: st) h := e_ldiv dX5_leftOf_47 rfl hy
theorem wX5_leftOf_48 : E_ d mX5_leftOf 48 ls (.long u :: st) h = E_ d mX5_leftOf 49 ls (.int u.toInt32 :: st) h := e_go dX5_leftOf_48 rfl rfl
theorem wX5_leftOf_49 : E_ d mX5_leftOf 49 ls st h = E_ d mX5_leftOf 53 ls st h := e_gt dX5_leftOf_49 rfl
theorem wX5_leftOf_52 : E_ d mX5_leftOf 52 [s0, s1, s2, .val (.int x), s4] st h = E_ d mX5_leftOf 53 [s0, s1, s2, .val (.int x), s4] (.int x :: st) h := e_go dX5_leftOf_52 rfl rfl
theorem wX5_leftOf_53 : E_ d mX5_leftOf 53 [s0, s1, s2, s3, s4] (.int x :: st) h = E_ d mX5_leftOf 54 [s0, s1, xk s2, .val (.int x), s4] st h := e_go dX5_leftOf_53 rfl rfl
theorem wX5_leftOf_54 : E_ d mX5_leftOf 54 [s0, s1, s2, s3, .val (.int x)] st h = E_ d mX5_leftOf 57 [s0, s1, s2, xk s3, .val (.int (x + nI 1))] st h := by rw [← kiinc_1]; exact e_go dX5_leftOf_54 rfl rfl
theorem wX5_leftOf_57 : E_ d mX5_leftOf 57 ls st h = E_ d mX5_leftOf 13 ls st h := e_gt dX5_leftOf_57 rfl
theorem wX5_leftOf_60 : E_ d mX5_leftOf 60 [s0, s1, s2, .val (.int x), s4] st h = E_ d mX5_leftOf 61 [s0, s1, s2, .val (.int x), s4] (.int x :: st) h := e_go dX5_leftOf_60 rfl rfl
theorem wX5_leftOf_61 : E_ d mX5_leftOf 61 ls [.int x] h = some (some (.int x), h) := e_rt dX5_leftOf_61 rfl rfl
/-! FootOutModel.isBest -/
theorem wX5_isBest_0 : E_ d mX5_isBest 0 [.val (.ref a), s1, s2, s3, s4] st h = E_ d mX5_isBest 1 [.val (.ref a), s1, s2, s3, s4] (.ref a :: st) h := e_go dX5_isBest_0 rfl rfl
theorem wX5_isBest_1 : E_ d mX5_isBest 1 [s0, s1, s2, .val (.int x), s4] st h = E_ d mX5_isBest 2 [s0, s1, s2, .val (.int x), s4] (.int x :: st) h := e_go dX5_isBest_1 rfl rfl
theorem wX5_isBest_2 (ht : oT h a = 7) : E_ (d + 1) mX5_isBest 2 ls [.int x1, .ref a] h = (C_ d mX5_costOf [.ref a, .int x1] h).bind fun r => E_ (d + 1) mX5_isBest 5 ls (xpu r.1 []) r.2 := e_vir dX5_isBest_2 rfl rfl rfl rfl rfl rfl (Nat.le_of_ble_eq_true rfl) (Nat.le_of_ble_eq_true rfl) ht
theorem wX5_isBest_5 : E_ d mX5_isBest 5 [s0, s1, .val (.int x), s3, s4] st h = E_ d mX5_isBest 6 [s0, s1, .val (.int x), s3, s4] (.int x :: st) h := e_go dX5_isBest_5 rfl rfl
theorem wX5_isBest_6 : E_ d mX5_isBest 6 ls (.int y :: .int x :: st) h = if y < x then E_ d mX5_isBest 9 ls st h else E_ d mX5_isBest 11 ls st h := e_ile dX5_isBest_6 rfl rfl
theorem wX5_isBest_9 : E_ d mX5_isBest 9 ls st h = E_ d mX5_isBest 10 ls (.int (nI 0) :: st) h := e_iconst dX5_isBest_9 kiconst_0 rfl
theorem wX5_isBest_10 (hx : x = 0 ∨ x = 1) : E_ d mX5_isBest 10 ls [.int x] h = some (some (.int x), h) := e_rtZ dX5_isBest_10 rfl hx
theorem wX5_isBest_11 : E_ d mX5_isBest 11 [s0, .val (.int x), s2, s3, s4] st h = E_ d mX5_isBest 12 [s0, .val (.int x), s2, s3, s4] (.int x :: st) h := e_go dX5_isBest_11 rfl rfl
theorem wX5_isBest_12 : E_ d mX5_isBest 12 ls st h = E_ d mX5_isBest 13 ls (.int (nI 1) :: st) h := e_iconst dX5_isBest_12 kiconst_1 rfl
theorem wX5_isBest_13 : E_ d mX5_isBest 13 ls (.int y :: .int x :: st) h = E_ d mX5_isBest 14 ls (.int (x + y) :: st) h := e_go dX5_isBest_13 rfl rfl
theorem wX5_isBest_14 : E_ d mX5_isBest 14 ls st h = E_ d mX5_isBest 17 ls (.int (nI 1000) :: st) h := e_sipush dX5_isBest_14 ksipush_1000 rfl
theorem wX5_isBest_17 : E_ d mX5_isBest 17 ls (.int y :: .int x :: st) h = E_ d mX5_isBest 18 ls (.int (x * y) :: st) h := e_go dX5_isBest_17 rfl rfl
theorem wX5_isBest_18 : E_ d mX5_isBest 18 [s0, s1, .val (.int x), s3, s4] st h = E_ d mX5_isBest 19 [s0, s1, .val (.int x), s3, s4] (.int x :: st) h := e_go dX5_isBest_18 rfl rfl
theorem wX5_isBest_19 : E_ d mX5_isBest 19 ls (.int y :: .int x :: st) h = E_ d mX5_isBest 20 ls (.int (x + y) :: st) h := e_go dX5_isBest_19 rfl rfl
theorem wX5_isBest_20 : E_ d mX5_isBest 20 [.val (.ref a), s1, s2, s3, s4] st h = E_ d mX5_isBest 21 [.val (.ref a), s1, s2, s3, s4] (.ref a :: st) h := e_go dX5_isBest_20 rfl rfl
theorem wX5_isBest_21 : E_ d mX5_isBest 21 [s0, s1, s2, .val (.int x), s4] st h = E_ d mX5_isBest 22 [s0, s1, s2, .val (.int x), s4] (.int x :: st) h := e_go dX5_isBest_21 rfl rfl
theorem wX5_isBest_22 (ht : oT h a = 7) : E_ (d + 1) mX5_isBest 22 ls [.int x1, .ref a, .int x2] h = (C_ d mX5_costOf [.ref a, .int x1] h).bind fun r => E_ (d + 1) mX5_isBest 25 ls (xpu r.1 [.int x2]) r.2 := e_vir dX5_isBest_22 rfl rfl rfl rfl rfl rfl (Nat.le_of_ble_eq_true rfl) (Nat.le_of_ble_eq_true rfl) ht
theorem wX5_isBest_25 : E_ d mX5_isBest 25 ls (.int y :: .int x :: st) h = E_ d mX5_isBest 26 ls (.int (x - y) :: st) h := e_go dX5_isBest_25 rfl rfl
theorem wX5_isBest_26 : E_ d mX5_isBest 26 [s0, s1, s2, s3, s4] (.int x :: st) h = E_ d mX5_isBest 28 [s0, s1, s2, xk s3, .val (.int x)] st h := e_go dX5_isBest_26 rfl rfl
theorem wX5_isBest_28 : E_ d mX5_isBest 28 [.val (.ref a), s1, s2, s3, s4] st h = E_ d mX5_isBest 29 [.val (.ref a), s1, s2, s3, s4] (.ref a :: st) h := e_go dX5_isBest_28 rfl rfl
theorem wX5_isBest_29 : E_ d mX5_isBest 29 [s0, .val (.int x), s2, s3, s4] st h = E_ d mX5_isBest 30 [s0, .val (.int x), s2, s3, s4] (.int x :: st) h := e_go dX5_isBest_29 rfl rfl
theorem wX5_isBest_30 : E_ d mX5_isBest 30 [s0, s1, s2, .val (.int x), s4] st h = E_ d mX5_isBest 31 [s0, s1, s2, .val (.int x), s4] (.int x :: st) h := e_go dX5_isBest_30 rfl rfl
theorem wX5_isBest_31 (ht : oT h a = 7) : E_ (d + 1) mX5_isBest 31 ls [.int x2, .int x1, .ref a] h = (C_ d mX5_leftOf [.ref a, .int x1, .int x2] h).bind fun r => E_ (d + 1) mX5_isBest 34 ls (xpu r.1 []) r.2 := e_vir dX5_isBest_31 rfl rfl rfl rfl rfl rfl (Nat.le_of_ble_eq_true rfl) (Nat.le_of_ble_eq_true rfl) ht
theorem wX5_isBest_34 : E_ d mX5_isBest 34 [.val (.ref a), s1, s2, s3, s4] st h = E_ d mX5_isBest 35 [.val (.ref a), s1, s2, s3, s4] (.ref a :: st) h := e_go dX5_isBest_34 rfl rfl
theorem wX5_isBest_35 (ht : oT h a = 7) : E_ d mX5_isBest 35 ls (.ref a :: st) h = E_ d mX5_isBest 38 ls (va_rf (oR h a 30) :: st) h := e_getR0 dX5_isBest_35 rfl rfl ht
theorem wX5_isBest_38 : E_ d mX5_isBest 38 [s0, s1, s2, s3, .val (.int x)] st h = E_ d mX5_isBest 40 [s0, s1, s2, s3, .val (.int x)] (.int x :: st) h := e_go dX5_isBest_38 rfl rfl
theorem wX5_isBest_40 (ht : oT h a = 40) (hi : xix x (oN h a) = true) : E_ d mX5_isBest 40 ls (.int x :: .ref a :: st) h = E_ d mX5_isBest 41 ls (.int (oI h a x.toNatClampNeg) :: st) h := e_iald dX5_isBest_40 rfl ht hi
theorem wX5_isBest_41 : E_ d mX5_isBest 41 ls (.int y :: .int x :: st) h = E_ d mX5_isBest 42 ls (.int (x + y) :: st) h := e_go dX5_isBest_41 rfl rfl
theorem wX5_isBest_42 : E_ d mX5_isBest 42 [.val (.ref a), s1, s2, s3, s4] st h = E_ d mX5_isBest 43 [.val (.ref a), s1, s2, s3, s4] (.ref a :: st) h := e_go dX5_isBest_42 rfl rfl
theorem wX5_isBest_43 (ht : oT h a = 7) : E_ d mX5_isBest 43 ls (.ref a :: st) h = E_ d mX5_isBest 46 ls (va_rf (oR h a 30) :: st) h := e_getR0 dX5_isBest_43 rfl rfl ht
theorem wX5_isBest_46 : E_ d mX5_isBest 46 [s0, .val (.int x), s2, s3, s4] st h = E_ d mX5_isBest 47 [s0, .val (.int x), s2, s3, s4] (.int x :: st) h := e_go dX5_isBest_46 rfl rfl
theorem wX5_isBest_47 : E_ d mX5_isBest 47 ls st h = E_ d mX5_isBest 50 ls (.int (nI 1000) :: st) h := e_sipush dX5_isBest_47 ksipush_1000 rfl
theorem wX5_isBest_50 : E_ d mX5_isBest 50 ls (.int y :: .int x :: st) h = E_ d mX5_isBest 51 ls (.int (x * y) :: st) h := e_go dX5_isBest_50 rfl rfl
theorem wX5_isBest_51 : E_ d mX5_isBest 51 [s0, s1, .val (.int x), s3, s4] st h = E_ d mX5_isBest 52 [s0, s1, .val (.int x), s3, s4] (.int x :: st) h := e_go dX5_isBest_51 rfl rfl
theorem wX5_isBest_52 : E_ d mX5_isBest 52 ls (.int y :: .int x :: st) h = E_ d mX5_isBest 53 ls (.int (x + y) :: st) h := e_go dX5_isBest_52 rfl rfl
theorem wX5_isBest_53 (ht : oT h a = 40) (hi : xix x (oN h a) = true) : E_ d mX5_isBest 53 ls (.int x :: .ref a :: st) h = E_ d mX5_isBest 54 ls (.int (oI h a x.toNatClampNeg) :: st) h := e_iald dX5_isBest_53 rfl ht hi
theorem wX5_isBest_54 : E_ d mX5_isBest 54 ls (.int y :: .int x :: st) h = if x = y then E_ d mX5_isBest 57 ls st h else E_ d mX5_isBest 89 ls st h := e_ine dX5_isBest_54 rfl rfl
theorem wX5_isBest_57 : E_ d mX5_isBest 57 [.val (.ref a), s1, s2, s3, s4] st h = E_ d mX5_isBest 58 [.val (.ref a), s1, s2, s3, s4] (.ref a :: st) h := e_go dX5_isBest_57 rfl rfl
theorem wX5_isBest_58 : E_ d mX5_isBest 58 [s0, s1, s2, .val (.int x), s4] st h = E_ d mX5_isBest 59 [s0, s1, s2, .val (.int x), s4] (.int x :: st) h := e_go dX5_isBest_58 rfl rfl
theorem wX5_isBest_59 (ht : oT h a = 7) : E_ (d + 1) mX5_isBest 59 ls [.int x1, .ref a] h = (C_ d mX5_costOf [.ref a, .int x1] h).bind fun r => E_ (d + 1) mX5_isBest 62 ls (xpu r.1 []) r.2 := e_vir dX5_isBest_59 rfl rfl rfl rfl rfl rfl (Nat.le_of_ble_eq_true rfl) (Nat.le_of_ble_eq_true rfl) ht
theorem wX5_isBest_62 : E_ d mX5_isBest 62 [.val (.ref a), s1, s2, s3, s4] st h = E_ d mX5_isBest 63 [.val (.ref a), s1, s2, s3, s4] (.ref a :: st) h := e_go dX5_isBest_62 rfl rfl
theorem wX5_isBest_63 (ht : oT h a = 7) : E_ d mX5_isBest 63 ls (.ref a :: st) h = E_ d mX5_isBest 66 ls (va_rf (oR h a 31) :: st) h := e_getR0 dX5_isBest_63 rfl rfl ht
theorem wX5_isBest_66 : E_ d mX5_isBest 66 [s0, s1, s2, s3, .val (.int x)] st h = E_ d mX5_isBest 68 [s0, s1, s2, s3, .val (.int x)] (.int x :: st) h := e_go dX5_isBest_66 rfl rfl
theorem wX5_isBest_68 (ht : oT h a = 40) (hi : xix x (oN h a) = true) : E_ d mX5_isBest 68 ls (.int x :: .ref a :: st) h = E_ d mX5_isBest 69 ls (.int (oI h a x.toNatClampNeg) :: st) h := e_iald dX5_isBest_68 rfl ht hi
theorem wX5_isBest_69 : E_ d mX5_isBest 69 ls (.int y :: .int x :: st) h = E_ d mX5_isBest 70 ls (.int (x + y) :: st) h := e_go dX5_isBest_69 rfl rfl
theorem wX5_isBest_70 : E_ d mX5_isBest 70 [.val (.ref a), s1, s2, s3, s4] st h = E_ d mX5_isBest 71 [.val (.ref a), s1, s2, s3, s4] (.ref a :: st) h := e_go dX5_isBest_70 rfl rfl
theorem wX5_isBest_71 (ht : oT h a = 7) : E_ d mX5_isBest 71 ls (.ref a :: st) h = E_ d mX5_isBest 74 ls (va_rf (oR h a 31) :: st) h := e_getR0 dX5_isBest_71 rfl rfl ht
theorem wX5_isBest_74 : E_ d mX5_isBest 74 [s0, .val (.int x), s2, s3, s4] st h = E_ d mX5_isBest 75 [s0, .val (.int x), s2, s3, s4] (.int x :: st) h := e_go dX5_isBest_74 rfl rfl
theorem wX5_isBest_75 : E_ d mX5_isBest 75 ls st h = E_ d mX5_isBest 78 ls (.int (nI 1000) :: st) h := e_sipush dX5_isBest_75 ksipush_1000 rfl
theorem wX5_isBest_78 : E_ d mX5_isBest 78 ls (.int y :: .int x :: st) h = E_ d mX5_isBest 79 ls (.int (x * y) :: st) h := e_go dX5_isBest_78 rfl rfl
theorem wX5_isBest_79 : E_ d mX5_isBest 79 [s0, s1, .val (.int x), s3, s4] st h = E_ d mX5_isBest 80 [s0, s1, .val (.int x), s3, s4] (.int x :: st) h := e_go dX5_isBest_79 rfl rfl
theorem wX5_isBest_80 : E_ d mX5_isBest 80 ls (.int y :: .int x :: st) h = E_ d mX5_isBest 81 ls (.int (x + y) :: st) h := e_go dX5_isBest_80 rfl rfl
theorem wX5_isBest_81 (ht : oT h a = 40) (hi : xix x (oN h a) = true) : E_ d mX5_isBest 81 ls (.int x :: .ref a :: st) h = E_ d mX5_isBest 82 ls (.int (oI h a x.toNatClampNeg) :: st) h := e_iald dX5_isBest_81 rfl ht hi
theorem wX5_isBest_82 : E_ d mX5_isBest 82 ls (.int y :: .int x :: st) h = if x = y then E_ d mX5_isBest 85 ls st h else E_ d mX5_isBest 89 ls st h := e_ine dX5_isBest_82 rfl rfl
theorem wX5_isBest_85 : E_ d mX5_isBest 85 ls st h = E_ d mX5_isBest 86 ls (.int (nI 1) :: st) h := e_iconst dX5_isBest_85 kiconst_1 rfl
theorem wX5_isBest_86 : E_ d mX5_isBest 86 ls st h = E_ d mX5_isBest 90 ls st h := e_gt dX5_isBest_86 rfl
theorem wX5_isBest_89 : E_ d mX5_isBest 89 ls st h = E_ d mX5_isBest 90 ls (.int (nI 0) :: st) h := e_iconst dX5_isBest_89 kiconst_0 rfl
theorem wX5_isBest_90 (hx : x = 0 ∨ x = 1) : E_ d mX5_isBest 90 ls [.int x] h = some (some (.int x), h) := e_rtZ dX5_isBest_90 rfl hx
/-! FootOutModel.fine -/
theorem wX5_fine_0 : E_ d mX5_fine 0 [.val (.ref a), s1, s2, s3, s4, s5, s6] st h = E_ d mX5_fine 1 [.val (.ref a), s1, s2, s3, s4, s5, s6] (.ref a :: st) h := e_go dX5_fine_0 rfl rfl
theorem wX5_fine_1 : E_ d mX5_fine 1 ls st h = E_ d mX5_fine 2 ls (.int (nI 0) :: st) h := e_iconst dX5_fine_1 kiconst_0 rfl
theorem wX5_fine_2 (ht : oT h a = 7) : E_ d mX5_fine 2 ls (.int x :: .ref a :: st) h = E_ d mX5_fine 5 ls st (pI h a (va_up (oI h a) 0 x)) := e_putI dX5_fine_2 rfl rfl ht
theorem wX5_fine_5 : E_ d mX5_fine 5 [s0, .val (.int x), s2, s3, s4, s5, s6] st h = E_ d mX5_fine 6 [s0, .val (.int x), s2, s3, s4, s5, s6] (.int x :: st) h := e_go dX5_fine_5 rfl rfl
theorem wX5_fine_6 : E_ d mX5_fine 6 ls (.int x :: st) h = E_ d mX5_fine 7 ls (.long x.toInt64 :: st) h := e_go dX5_fine_6 rfl rfl
theorem wX5_fine_7 : E_ d mX5_fine 7 ls st h = E_ d mX5_fine 8 ls (.long 0 :: st) h := e_go dX5_fine_7 rfl rfl
theorem wX5_fine_8 : E_ d mX5_fine 8 ls st h = E_ d mX5_fine 11 ls (.long (1000) :: st) h := e_go dX5_fine_8 rfl rfl
theorem wX5_fine_11 : E_ (d + 1) mX5_fine 11 ls [.long u3, .long u2, .long u1] h = (C_ d mX5_within [.long u1, .long u2, .long u3] h).bind fun r => E_ (d + 1) mX5_fine 14 ls (xpu r.1 []) r.2 := e_call dX5_fine_11 rfl rfl
theorem wX5_fine_14 : E_ d mX5_fine 14 ls (.int x :: st) h = if x = 0 then E_ d mX5_fine 54 ls st h else E_ d mX5_fine 17 ls st h := e_zeq dX5_fine_14 rfl rfl
theorem wX5_fine_17 : E_ d mX5_fine 17 [s0, s1, .val (.int x), s3, s4, s5, s6] st h = E_ d mX5_fine 18 [s0, s1, .val (.int x), s3, s4, s5, s6] (.int x :: st) h := e_go dX5_fine_17 rfl rfl
theorem wX5_fine_18 : E_ d mX5_fine 18 ls (.int x :: st) h = E_ d mX5_fine 19 ls (.long x.toInt64 :: st) h := e_go dX5_fine_18 rfl rfl
theorem wX5_fine_19 : E_ d mX5_fine 19 ls st h = E_ d mX5_fine 20 ls (.long 0 :: st) h := e_go dX5_fine_19 rfl rfl
theorem wX5_fine_20 : E_ d mX5_fine 20 ls st h = E_ d mX5_fine 23 ls (.long (1000) :: st) h := e_go dX5_fine_20 rfl rfl
theorem wX5_fine_23 : E_ (d + 1) mX5_fine 23 ls [.long u3, .long u2, .long u1] h = (C_ d mX5_within [.long u1, .long u2, .long u3] h).bind fun r => E_ (d + 1) mX5_fine 26 ls (xpu r.1 []) r.2 := e_call dX5_fine_23 rfl rfl
theorem wX5_fine_26 : E_ d mX5_fine 26 ls (.int x :: st) h = if x = 0 then E_ d mX5_fine 54 ls st h else E_ d mX5_fine 29 ls st h := e_zeq dX5_fine_26 rfl rfl
theorem wX5_fine_29 : E_ d mX5_fine 29 [s0, s1, s2, .val (.int x), s4, s5, s6] st h = E_ d mX5_fine 30 [s0, s1, s2, .val (.int x), s4, s5, s6] (.int x :: st) h := e_go dX5_fine_29 rfl rfl
theorem wX5_fine_30 : E_ d mX5_fine 30 ls (.int x :: st) h = E_ d mX5_fine 31 ls (.long x.toInt64 :: st) h := e_go dX5_fine_30 rfl rfl
theorem wX5_fine_31 : E_ d mX5_fine 31 ls st h = E_ d mX5_fine 32 ls (.long 0 :: st) h := e_go dX5_fine_31 rfl rfl
theorem wX5_fine_32 : E_ d mX5_fine 32 ls st h = E_ d mX5_fine 35 ls (.long (100) :: st) h := e_go dX5_fine_32 rfl rfl
theorem wX5_fine_35 : E_ (d + 1) mX5_fine 35 ls [.long u3, .long u2, .long u1] h = (C_ d mX5_within [.long u1, .long u2, .long u3] h).bind fun r => E_ (d + 1) mX5_fine 38 ls (xpu r.1 []) r.2 := e_call dX5_fine_35 rfl rfl
theorem wX5_fine_38 : E_ d mX5_fine 38 ls (.int x :: st) h = if x = 0 then E_ d mX5_fine 54 ls st h else E_ d mX5_fine 41 ls st h := e_zeq dX5_fine_38 rfl rfl
theorem wX5_fine_41 : E_ d mX5_fine 41 [s0, s1, s2, s3, .val (.int x), s5, s6] st h = E_ d mX5_fine 43 [s0, s1, s2, s3, .val (.int x), s5, s6] (.int x :: st) h := e_go dX5_fine_41 rfl rfl
theorem wX5_fine_43 : E_ d mX5_fine 43 ls (.int x :: st) h = E_ d mX5_fine 44 ls (.long x.toInt64 :: st) h := e_go dX5_fine_43 rfl rfl
theorem wX5_fine_44 : E_ d mX5_fine 44 ls st h = E_ d mX5_fine 45 ls (.long 0 :: st) h := e_go dX5_fine_44 rfl rfl
theorem wX5_fine_45 : E_ d mX5_fine 45 ls st h = E_ d mX5_fine 48 ls (.long (60) :: st) h := e_go dX5_fine_45 rfl rfl
theorem wX5_fine_48 : E_ (d + 1) mX5_fine 48 ls [.long u3, .long u2, .long u1] h = (C_ d mX5_within [.long u1, .long u2, .long u3] h).bind fun r => E_ (d + 1) mX5_fine 51 ls (xpu r.1 []) r.2 := e_call dX5_fine_48 rfl rfl
theorem wX5_fine_51 : E_ d mX5_fine 51 ls (.int x :: st) h = if x = 0 then E_ d mX5_fine 54 ls st h else E_ d mX5_fine 61 ls st h := e_zne dX5_fine_51 rfl rfl
theorem wX5_fine_54 : E_ d mX5_fine 54 [.val (.ref a), s1, s2, s3, s4, s5, s6] st h = E_ d mX5_fine 55 [.val (.ref a), s1, s2, s3, s4, s5, s6] (.ref a :: st) h := e_go dX5_fine_54 rfl rfl
theorem wX5_fine_55 : E_ d mX5_fine 55 ls st h = E_ d mX5_fine 57 ls (.int ((-3)) :: st) h := e_bipush dX5_fine_55 kbipush_m3 rfl
theorem wX5_fine_57 (ht : oT h a = 7) : E_ (d + 1) mX5_fine 57 ls [.int x1, .ref a] h = (C_ d mX5_no [.ref a, .int x1] h).bind fun r => E_ (d + 1) mX5_fine 60 ls (xpu r.1 []) r.2 := e_vir dX5_fine_57 rfl rfl rfl rfl rfl rfl (Nat.le_of_ble_eq_true rfl) (Nat.le_of_ble_eq_true rfl) ht
theorem wX5_fine_60 : E_ d mX5_fine 60 ls [.int x] h = some (some (.int x), h) := e_rt dX5_fine_60 rfl rfl
theorem wX5_fine_61 : E_ d mX5_fine 61 [s0, .val (.int x), s2, s3, s4, s5, s6] st h = E_ d mX5_fine 62 [s0, .val (.int x), s2, s3, s4, s5, s6] (.int x :: st) h := e_go dX5_fine_61 rfl rfl
theorem wX5_fine_62 : E_ d mX5_fine 62 [s0, s1, s2, s3, s4, s5, s6] (.int x :: st) h = E_ d mX5_fine 64 [s0, s1, s2, s3, xk s4, .val (.int x), s6] st h := e_go dX5_fine_62 rfl rfl
theorem wX5_fine_64 : E_ d mX5_fine 64 ls st h = E_ d mX5_fine 65 ls (.int (nI 0) :: st) h := e_iconst dX5_fine_64 kiconst_0 rfl
theorem wX5_fine_65 : E_ d mX5_fine 65 [s0, s1, s2, s3, s4, s5, s6] (.int x :: st) h = E_ d mX5_fine 67 [s0, s1, s2, s3, s4, xk s5, .val (.int x)] st h := e_go dX5_fine_65 rfl rfl
theorem wX5_fine_67 : E_ d mX5_fine 67 [s0, s1, s2, s3, s4, s5, .val (.int x)] st h = E_ d mX5_fine 69 [s0, s1, s2, s3, s4, s5, .val (.int x)] (.int x :: st) h := e_go dX5_fine_67 rfl rfl
theorem wX5_fine_69 : E_ d mX5_fine 69 [s0, s1, s2, s3, .val (.int x), s5, s6] st h = E_ d mX5_fine 71 [s0, s1, s2, s3, .val (.int x), s5, s6] (.int x :: st) h := e_go dX5_fine_69 rfl rfl
theorem wX5_fine_71 : E_ d mX5_fine 71 ls (.int y :: .int x :: st) h = if x < y then E_ d mX5_fine 74 ls st h else E_ d mX5_fine 94 ls st h := e_ige dX5_fine_71 rfl rfl
theorem wX5_fine_74 : E_ d mX5_fine 74 [s0, s1, s2, s3, s4, .val (.int x), s6] st h = E_ d mX5_fine 76 [s0, s1, s2, s3, s4, .val (.int x), s6] (.int x :: st) h := e_go dX5_fine_74 rfl rfl
theorem wX5_fine_76 : E_ d mX5_fine 76 [s0, s1, .val (.int x), s3, s4, s5, s6] st h = E_ d mX5_fine 77 [s0, s1, .val (.int x), s3, s4, s5, s6] (.int x :: st) h := e_go dX5_fine_76 rfl rfl
theorem wX5_fine_77 : E_ d mX5_fine 77 [s0, s1, s2, s3, s4, .val (.int x), s6] st h = E_ d mX5_fine 79 [s0, s1, s2, s3, s4, .val (.int x), s6] (.int x :: st) h := e_go dX5_fine_77 rfl rfl
theorem wX5_fine_79 : E_ d mX5_fine 79 ls (.int y :: .int x :: st) h = E_ d mX5_fine 80 ls (.int (x - y) :: st) h := e_go dX5_fine_79 rfl rfl
theorem wX5_fine_80 : E_ d mX5_fine 80 [s0, s1, s2, .val (.int x), s4, s5, s6] st h = E_ d mX5_fine 81 [s0, s1, s2, .val (.int x), s4, s5, s6] (.int x :: st) h := e_go dX5_fine_80 rfl rfl
theorem wX5_fine_81 : E_ d mX5_fine 81 ls (.int y :: .int x :: st) h = E_ d mX5_fine 82 ls (.int (x * y) :: st) h := e_go dX5_fine_81 rfl rfl
theorem wX5_fine_82 : E_ d mX5_fine 82 ls st h = E_ d mX5_fine 84 ls (.int (nI 100) :: st) h := e_bipush dX5_fine_82 kbipush_100 rfl
theorem wX5_fine_84 (hy : ¬ y = 0) : E_ d mX5_fine 84 ls (.int y :: .int x :: st) h = E_ d mX5_fine 85 ls (.int (x / y) :: st) h := e_div dX5_fine_84 rfl hy
theorem wX5_fine_85 : E_ d mX5_fine 85 ls (.int y :: .int x :: st) h = E_ d mX5_fine 86 ls (.int (x + y) :: st) h := e_go dX5_fine_85 rfl rfl
theorem wX5_fine_86 : E_ d mX5_fine 86 [s0, s1, s2, s3, s4, s5, s6] (.int x :: st) h = E_ d mX5_fine 88 [s0, s1, s2, s3, xk s4, .val (.int x), s6] st h := e_go dX5_fine_86 rfl rfl
theorem wX5_fine_88 : E_ d mX5_fine 88 [s0, s1, s2, s3, s4, s5, .val (.int x)] st h = E_ d mX5_fine 91 [s0, s1, s2, s3, s4, xk s5, .val (.int (x + nI 1))] st h := by rw [← kiinc_1]; exact e_go dX5_fine_88 rfl rfl
theorem wX5_fine_91 : E_ d mX5_fine 91 ls st h = E_ d mX5_fine 67 ls st h := e_gt dX5_fine_91 rfl
theorem wX5_fine_94 : E_ d mX5_fine 94 [s0, s1, s2, s3, s4, .val (.int x), s6] st h = E_ d mX5_fine 96 [s0, s1, s2, s3, s4, .val (.int x), s6] (.int x :: st) h := e_go dX5_fine_94 rfl rfl
theorem wX5_fine_96 : E_ d mX5_fine 96 ls [.int x] h = some (some (.int x), h) := e_rt dX5_fine_96 rfl rfl
/-! FootOutModel.until -/
theorem wX5_until_0 : E_ d mX5_until 0 [.val (.ref a), s1, s2, s3, s4, s5, s6] st h = E_ d mX5_until 1 [.val (.ref a), s1, s2, s3, s4, s5, s6] (.ref a :: st) h := e_go dX5_until_0 rfl rfl
theorem wX5_until_1 : E_ d mX5_until 1 ls st h = E_ d mX5_until 2 ls (.int (nI 0) :: st) h := e_iconst dX5_until_1 kiconst_0 rfl
theorem wX5_until_2 (ht : oT h a = 7) : E_ d mX5_until 2 ls (.int x :: .ref a :: st) h = E_ d mX5_until 5 ls st (pI h a (va_up (oI h a) 0 x)) := e_putI dX5_until_2 rfl rfl ht
theorem wX5_until_5 : E_ d mX5_until 5 [s0, .val (.int x), s2, s3, s4, s5, s6] st h = E_ d mX5_until 6 [s0, .val (.int x), s2, s3, s4, s5, s6] (.int x :: st) h := e_go dX5_until_5 rfl rfl
theorem wX5_until_6 : E_ d mX5_until 6 ls (.int x :: st) h = E_ d mX5_until 7 ls (.long x.toInt64 :: st) h := e_go dX5_until_6 rfl rfl
theorem wX5_until_7 : E_ d mX5_until 7 ls st h = E_ d mX5_until 8 ls (.long 0 :: st) h := e_go dX5_until_7 rfl rfl
theorem wX5_until_8 : E_ d mX5_until 8 ls st h = E_ d mX5_until 11 ls (.long (1000) :: st) h := e_go dX5_until_8 rfl rfl
theorem wX5_until_11 : E_ (d + 1) mX5_until 11 ls [.long u3, .long u2, .long u1] h = (C_ d mX5_within [.long u1, .long u2, .long u3] h).bind fun r => E_ (d + 1) mX5_until 14 ls (xpu r.1 []) r.2 := e_call dX5_until_11 rfl rfl
theorem wX5_until_14 : E_ d mX5_until 14 ls (.int x :: st) h = if x = 0 then E_ d mX5_until 54 ls st h else E_ d mX5_until 17 ls st h := e_zeq dX5_until_14 rfl rfl
theorem wX5_until_17 : E_ d mX5_until 17 [s0, s1, .val (.int x), s3, s4, s5, s6] st h = E_ d mX5_until 18 [s0, s1, .val (.int x), s3, s4, s5, s6] (.int x :: st) h := e_go dX5_until_17 rfl rfl
theorem wX5_until_18 : E_ d mX5_until 18 ls (.int x :: st) h = E_ d mX5_until 19 ls (.long x.toInt64 :: st) h := e_go dX5_until_18 rfl rfl
theorem wX5_until_19 : E_ d mX5_until 19 ls st h = E_ d mX5_until 20 ls (.long 0 :: st) h := e_go dX5_until_19 rfl rfl
theorem wX5_until_20 : E_ d mX5_until 20 ls st h = E_ d mX5_until 23 ls (.long (1000) :: st) h := e_go dX5_until_20 rfl rfl
theorem wX5_until_23 : E_ (d + 1) mX5_until 23 ls [.long u3, .long u2, .long u1] h = (C_ d mX5_within [.long u1, .long u2, .long u3] h).bind fun r => E_ (d + 1) mX5_until 26 ls (xpu r.1 []) r.2 := e_call dX5_until_23 rfl rfl
theorem wX5_until_26 : E_ d mX5_until 26 ls (.int x :: st) h = if x = 0 then E_ d mX5_until 54 ls st h else E_ d mX5_until 29 ls st h := e_zeq dX5_until_26 rfl rfl
theorem wX5_until_29 : E_ d mX5_until 29 [s0, s1, s2, .val (.int x), s4, s5, s6] st h = E_ d mX5_until 30 [s0, s1, s2, .val (.int x), s4, s5, s6] (.int x :: st) h := e_go dX5_until_29 rfl rfl
theorem wX5_until_30 : E_ d mX5_until 30 ls (.int x :: st) h = E_ d mX5_until 31 ls (.long x.toInt64 :: st) h := e_go dX5_until_30 rfl rfl
theorem wX5_until_31 : E_ d mX5_until 31 ls st h = E_ d mX5_until 32 ls (.long 0 :: st) h := e_go dX5_until_31 rfl rfl
theorem wX5_until_32 : E_ d mX5_until 32 ls st h = E_ d mX5_until 35 ls (.long (100) :: st) h := e_go dX5_until_32 rfl rfl
theorem wX5_until_35 : E_ (d + 1) mX5_until 35 ls [.long u3, .long u2, .long u1] h = (C_ d mX5_within [.long u1, .long u2, .long u3] h).bind fun r => E_ (d + 1) mX5_until 38 ls (xpu r.1 []) r.2 := e_call dX5_until_35 rfl rfl
theorem wX5_until_38 : E_ d mX5_until 38 ls (.int x :: st) h = if x = 0 then E_ d mX5_until 54 ls st h else E_ d mX5_until 41 ls st h := e_zeq dX5_until_38 rfl rfl
theorem wX5_until_41 : E_ d mX5_until 41 [s0, s1, s2, s3, .val (.int x), s5, s6] st h = E_ d mX5_until 43 [s0, s1, s2, s3, .val (.int x), s5, s6] (.int x :: st) h := e_go dX5_until_41 rfl rfl
theorem wX5_until_43 : E_ d mX5_until 43 ls (.int x :: st) h = E_ d mX5_until 44 ls (.long x.toInt64 :: st) h := e_go dX5_until_43 rfl rfl
theorem wX5_until_44 : E_ d mX5_until 44 ls st h = E_ d mX5_until 45 ls (.long 0 :: st) h := e_go dX5_until_44 rfl rfl
theorem wX5_until_45 : E_ d mX5_until 45 ls st h = E_ d mX5_until 48 ls (.long (1000) :: st) h := e_go dX5_until_45 rfl rfl
theorem wX5_until_48 : E_ (d + 1) mX5_until 48 ls [.long u3, .long u2, .long u1] h = (C_ d mX5_within [.long u1, .long u2, .long u3] h).bind fun r => E_ (d + 1) mX5_until 51 ls (xpu r.1 []) r.2 := e_call dX5_until_48 rfl rfl
theorem wX5_until_51 : E_ d mX5_until 51 ls (.int x :: st) h = if x = 0 then E_ d mX5_until 54 ls st h else E_ d mX5_until 61 ls st h := e_zne dX5_until_51 rfl rfl
theorem wX5_until_54 : E_ d mX5_until 54 [.val (.ref a), s1, s2, s3, s4, s5, s6] st h = E_ d mX5_until 55 [.val (.ref a), s1, s2, s3, s4, s5, s6] (.ref a :: st) h := e_go dX5_until_54 rfl rfl
theorem wX5_until_55 : E_ d mX5_until 55 ls st h = E_ d mX5_until 57 ls (.int ((-3)) :: st) h := e_bipush dX5_until_55 kbipush_m3 rfl
theorem wX5_until_57 (ht : oT h a = 7) : E_ (d + 1) mX5_until 57 ls [.int x1, .ref a] h = (C_ d mX5_no [.ref a, .int x1] h).bind fun r => E_ (d + 1) mX5_until 60 ls (xpu r.1 []) r.2 := e_vir dX5_until_57 rfl rfl rfl rfl rfl rfl (Nat.le_of_ble_eq_true rfl) (Nat.le_of_ble_eq_true rfl) ht
theorem wX5_until_60 : E_ d mX5_until 60 ls [.int x] h = some (some (.int x), h) := e_rt dX5_until_60 rfl rfl
theorem wX5_until_61 : E_ d mX5_until 61 [s0, .val (.int x), s2, s3, s4, s5, s6] st h = E_ d mX5_until 62 [s0, .val (.int x), s2, s3, s4, s5, s6] (.int x :: st) h := e_go dX5_until_61 rfl rfl
theorem wX5_until_62 : E_ d mX5_until 62 [s0, s1, s2, s3, s4, s5, s6] (.int x :: st) h = E_ d mX5_until 64 [s0, s1, s2, s3, xk s4, .val (.int x), s6] st h := e_go dX5_until_62 rfl rfl
theorem wX5_until_64 : E_ d mX5_until 64 ls st h = E_ d mX5_until 65 ls (.int (nI 0) :: st) h := e_iconst dX5_until_64 kiconst_0 rfl
theorem wX5_until_65 : E_ d mX5_until 65 [s0, s1, s2, s3, s4, s5, s6] (.int x :: st) h = E_ d mX5_until 67 [s0, s1, s2, s3, s4, xk s5, .val (.int x)] st h := e_go dX5_until_65 rfl rfl
theorem wX5_until_67 : E_ d mX5_until 67 [s0, s1, s2, s3, s4, s5, .val (.int x)] st h = E_ d mX5_until 69 [s0, s1, s2, s3, s4, s5, .val (.int x)] (.int x :: st) h := e_go dX5_until_67 rfl rfl
theorem wX5_until_69 : E_ d mX5_until 69 ls st h = E_ d mX5_until 72 ls (.int (nI 1000) :: st) h := e_sipush dX5_until_69 ksipush_1000 rfl
theorem wX5_until_72 : E_ d mX5_until 72 ls (.int y :: .int x :: st) h = if x < y then E_ d mX5_until 75 ls st h else E_ d mX5_until 116 ls st h := e_ige dX5_until_72 rfl rfl
theorem wX5_until_75 : E_ d mX5_until 75 [s0, s1, s2, s3, s4, .val (.int x), s6] st h = E_ d mX5_until 77 [s0, s1, s2, s3, s4, .val (.int x), s6] (.int x :: st) h := e_go dX5_until_75 rfl rfl
theorem wX5_until_77 : E_ d mX5_until 77 [s0, s1, .val (.int x), s3, s4, s5, s6] st h = E_ d mX5_until 78 [s0, s1, .val (.int x), s3, s4, s5, s6] (.int x :: st) h := e_go dX5_until_77 rfl rfl
theorem wX5_until_78 : E_ d mX5_until 78 ls (.int y :: .int x :: st) h = E_ d mX5_until 79 ls (.int (x - y) :: st) h := e_go dX5_until_78 rfl rfl
theorem wX5_until_79 : E_ d mX5_until 79 ls (.int x :: st) h = E_ d mX5_until 80 ls (.long x.toInt64 :: st) h := e_go dX5_until_79 rfl rfl
theorem wX5_until_80 : E_ d mX5_until 80 [s0, s1, s2, s3, .val (.int x), s5, s6] st h = E_ d mX5_until 82 [s0, s1, s2, s3, .val (.int x), s5, s6] (.int x :: st) h := e_go dX5_until_80 rfl rfl
theorem wX5_until_82 : E_ d mX5_until 82 ls (.int x :: st) h = E_ d mX5_until 83 ls (.int (-x) :: st) h := e_go dX5_until_82 rfl rfl
theorem wX5_until_83 : E_ d mX5_until 83 ls (.int x :: st) h = E_ d mX5_until 84 ls (.long x.toInt64 :: st) h := e_go dX5_until_83 rfl rfl
theorem wX5_until_84 : E_ d mX5_until 84 [s0, s1, s2, s3, .val (.int x), s5, s6] st h = E_ d mX5_until 86 [s0, s1, s2, s3, .val (.int x), s5, s6] (.int x :: st) h := e_go dX5_until_84 rfl rfl
theorem wX5_until_86 : E_ d mX5_until 86 ls (.int x :: st) h = E_ d mX5_until 87 ls (.long x.toInt64 :: st) h := e_go dX5_until_86 rfl rfl
theorem wX5_until_87 : E_ (d + 1) mX5_until 87 ls [.long u3, .long u2, .long u1] h = (C_ d mX5_within [.long u1, .long u2, .long u3] h).bind fun r => E_ (d + 1) mX5_until 90 ls (xpu r.1 []) r.2 := e_call dX5_until_87 rfl rfl
theorem wX5_until_90 : E_ d mX5_until 90 ls (.int x :: st) h = if x = 0 then E_ d mX5_until 96 ls st h else E_ d mX5_until 93 ls st h := e_zeq dX5_until_90 rfl rfl
theorem wX5_until_93 : E_ d mX5_until 93 [s0, s1, s2, s3, s4, s5, .val (.int x)] st h = E_ d mX5_until 95 [s0, s1, s2, s3, s4, s5, .val (.int x)] (.int x :: st) h := e_go dX5_until_93 rfl rfl
theorem wX5_until_95 : E_ d mX5_until 95 ls [.int x] h = some (some (.int x), h) := e_rt dX5_until_95 rfl rfl
theorem wX5_until_96 : E_ d mX5_until 96 [s0, s1, s2, s3, s4, .val (.int x), s6] st h = E_ d mX5_until 98 [s0, s1, s2, s3, s4, .val (.int x), s6] (.int x :: st) h := e_go dX5_until_96 rfl rfl
theorem wX5_until_98 : E_ d mX5_until 98 [s0, s1, .val (.int x), s3, s4, s5, s6] st h = E_ d mX5_until 99 [s0, s1, .val (.int x), s3, s4, s5, s6] (.int x :: st) h := e_go dX5_until_98 rfl rfl
theorem wX5_until_99 : E_ d mX5_until 99 [s0, s1, s2, s3, s4, .val (.int x), s6] st h = E_ d mX5_until 101 [s0, s1, s2, s3, s4, .val (.int x), s6] (.int x :: st) h := e_go dX5_until_99 rfl rfl
theorem wX5_until_101 : E_ d mX5_until 101 ls (.int y :: .int x :: st) h = E_ d mX5_until 102 ls (.int (x - y) :: st) h := e_go dX5_until_101 rfl rfl
theorem wX5_until_102 : E_ d mX5_until 102 [s0, s1, s2, .val (.int x), s4, s5, s6] st h = E_ d mX5_until 103 [s0, s1, s2, .val (.int x), s4, s5, s6] (.int x :: st) h := e_go dX5_until_102 rfl rfl
theorem wX5_until_103 : E_ d mX5_until 103 ls (.int y :: .int x :: st) h = E_ d mX5_until 104 ls (.int (x * y) :: st) h := e_go dX5_until_103 rfl rfl
theorem wX5_until_104 : E_ d mX5_until 104 ls st h = E_ d mX5_until 106 ls (.int (nI 100) :: st) h := e_bipush dX5_until_104 kbipush_100 rfl
theorem wX5_until_106 (hy : ¬ y = 0) : E_ d mX5_until 106 ls (.int y :: .int x :: st) h = E_ d mX5_until 107 ls (.int (x / y) :: st) h := e_div dX5_until_106 rfl hy
theorem wX5_until_107 : E_ d mX5_until 107 ls (.int y :: .int x :: st) h = E_ d mX5_until 108 ls (.int (x + y) :: st) h := e_go dX5_until_107 rfl rfl
theorem wX5_until_108 : E_ d mX5_until 108 [s0, s1, s2, s3, s4, s5, s6] (.int x :: st) h = E_ d mX5_until 110 [s0, s1, s2, s3, xk s4, .val (.int x), s6] st h := e_go dX5_until_108 rfl rfl
theorem wX5_until_110 : E_ d mX5_until 110 [s0, s1, s2, s3, s4, s5, .val (.int x)] st h = E_ d mX5_until 113 [s0, s1, s2, s3, s4, xk s5, .val (.int (x + nI 1))] st h := by rw [← kiinc_1]; exact e_go dX5_until_110 rfl rfl
theorem wX5_until_113 : E_ d mX5_until 113 ls st h = E_ d mX5_until 67 ls st h := e_gt dX5_until_113 rfl
theorem wX5_until_116 : E_ d mX5_until 116 ls st h = E_ d mX5_until 117 ls (.int ((-1)) :: st) h := e_iconst dX5_until_116 kiconst_m1 rfl
theorem wX5_until_117 : E_ d mX5_until 117 ls [.int x] h = some (some (.int x), h) := e_rt dX5_until_117 rfl rfl
/-! FootOutModel.lot -/
theorem wX5_lot_0 : E_ d mX5_lot 0 [.val (.ref a), s1, s2, s3, s4, s5, s6, s7] st h = E_ d mX5_lot 1 [.val (.ref a), s1, s2, s3, s4, s5, s6, s7] (.ref a :: st) h := e_go dX5_lot_0 rfl rfl
theorem wX5_lot_1 : E_ d mX5_lot 1 ls st h = E_ d mX5_lot 2 ls (.int (nI 0) :: st) h := e_iconst dX5_lot_1 kiconst_0 rfl
theorem wX5_lot_2 (ht : oT h a = 7) : E_ d mX5_lot 2 ls (.int x :: .ref a :: st) h = E_ d mX5_lot 5 ls st (pI h a (va_up (oI h a) 0 x)) := e_putI dX5_lot_2 rfl rfl ht
theorem wX5_lot_5 : E_ d mX5_lot 5 [s0, .val (.int x), s2, s3, s4, s5, s6, s7] st h = E_ d mX5_lot 6 [s0, .val (.int x), s2, s3, s4, s5, s6, s7] (.int x :: st) h := e_go dX5_lot_5 rfl rfl
theorem wX5_lot_6 : E_ d mX5_lot 6 ls (.int x :: st) h = E_ d mX5_lot 7 ls (.long x.toInt64 :: st) h := e_go dX5_lot_6 rfl rfl
theorem wX5_lot_7 : E_ d mX5_lot 7 ls st h = E_ d mX5_lot 8 ls (.long 0 :: st) h := e_go dX5_lot_7 rfl rfl
theorem wX5_lot_8 : E_ d mX5_lot 8 ls st h = E_ d mX5_lot 11 ls (.long (1000) :: st) h := e_go dX5_lot_8 rfl rfl
theorem wX5_lot_11 : E_ (d + 1) mX5_lot 11 ls [.long u3, .long u2, .long u1] h = (C_ d mX5_within [.long u1, .long u2, .long u3] h).bind fun r => E_ (d + 1) mX5_lot 14 ls (xpu r.1 []) r.2 := e_call dX5_lot_11 rfl rfl
theorem wX5_lot_14 : E_ d mX5_lot 14 ls (.int x :: st) h = if x = 0 then E_ d mX5_lot 29 ls st h else E_ d mX5_lot 17 ls st h := e_zeq dX5_lot_14 rfl rfl
theorem wX5_lot_17 : E_ d mX5_lot 17 [s0, s1, .val (.int x), s3, s4, s5, s6, s7] st h = E_ d mX5_lot 18 [s0, s1, .val (.int x), s3, s4, s5, s6, s7] (.int x :: st) h := e_go dX5_lot_17 rfl rfl
theorem wX5_lot_18 : E_ d mX5_lot 18 ls (.int x :: st) h = E_ d mX5_lot 19 ls (.long x.toInt64 :: st) h := e_go dX5_lot_18 rfl rfl
theorem wX5_lot_19 : E_ d mX5_lot 19 ls st h = E_ d mX5_lot 20 ls (.long 0 :: st) h := e_go dX5_lot_19 rfl rfl
theorem wX5_lot_20 : E_ d mX5_lot 20 ls st h = E_ d mX5_lot 23 ls (.long (1000) :: st) h := e_go dX5_lot_20 rfl rfl
theorem wX5_lot_23 : E_ (d + 1) mX5_lot 23 ls [.long u3, .long u2, .long u1] h = (C_ d mX5_within [.long u1, .long u2, .long u3] h).bind fun r => E_ (d + 1) mX5_lot 26 ls (xpu r.1 []) r.2 := e_call dX5_lot_23 rfl rfl
theorem wX5_lot_26 : E_ d mX5_lot 26 ls (.int x :: st) h = if x = 0 then E_ d mX5_lot 29 ls st h else E_ d mX5_lot 36 ls st h := e_zne dX5_lot_26 rfl rfl
theorem wX5_lot_29 : E_ d mX5_lot 29 [.val (.ref a), s1, s2, s3, s4, s5, s6, s7] st h = E_ d mX5_lot 30 [.val (.ref a), s1, s2, s3, s4, s5, s6, s7] (.ref a :: st) h := e_go dX5_lot_29 rfl rfl
theorem wX5_lot_30 : E_ d mX5_lot 30 ls st h = E_ d mX5_lot 32 ls (.int ((-3)) :: st) h := e_bipush dX5_lot_30 kbipush_m3 rfl
theorem wX5_lot_32 (ht : oT h a = 7) : E_ (d + 1) mX5_lot 32 ls [.int x1, .ref a] h = (C_ d mX5_no [.ref a, .int x1] h).bind fun r => E_ (d + 1) mX5_lot 35 ls (xpu r.1 []) r.2 := e_vir dX5_lot_32 rfl rfl rfl rfl rfl rfl (Nat.le_of_ble_eq_true rfl) (Nat.le_of_ble_eq_true rfl) ht
theorem wX5_lot_35 : E_ d mX5_lot 35 ls [.int x] h = some (some (.int x), h) := e_rt dX5_lot_35 rfl rfl
theorem wX5_lot_36 : E_ d mX5_lot 36 [s0, .val (.int x), s2, s3, s4, s5, s6, s7] st h = E_ d mX5_lot 37 [s0, .val (.int x), s2, s3, s4, s5, s6, s7] (.int x :: st) h := e_go dX5_lot_36 rfl rfl
theorem wX5_lot_37 : E_ d mX5_lot 37 [s0, s1, .val (.int x), s3, s4, s5, s6, s7] st h = E_ d mX5_lot 38 [s0, s1, .val (.int x), s3, s4, s5, s6, s7] (.int x :: st) h := e_go dX5_lot_37 rfl rfl
theorem wX5_lot_38 : E_ d mX5_lot 38 ls (.int y :: .int x :: st) h = E_ d mX5_lot 39 ls (.int (x - y) :: st) h := e_go dX5_lot_38 rfl rfl
theorem wX5_lot_39 : E_ d mX5_lot 39 ls (.int x :: st) h = E_ d mX5_lot 40 ls (.long x.toInt64 :: st) h := e_go dX5_lot_39 rfl rfl
theorem wX5_lot_40 : E_ d mX5_lot 40 [s0, .val (.int x), s2, s3, s4, s5, s6, s7] st h = E_ d mX5_lot 41 [s0, .val (.int x), s2, s3, s4, s5, s6, s7] (.int x :: st) h := e_go dX5_lot_40 rfl rfl
theorem wX5_lot_41 : E_ d mX5_lot 41 [s0, s1, .val (.int x), s3, s4, s5, s6, s7] st h = E_ d mX5_lot 42 [s0, s1, .val (.int x), s3, s4, s5, s6, s7] (.int x :: st) h := e_go dX5_lot_41 rfl rfl
theorem wX5_lot_42 : E_ d mX5_lot 42 ls (.int y :: .int x :: st) h = E_ d mX5_lot 43 ls (.int (x - y) :: st) h := e_go dX5_lot_42 rfl rfl
theorem wX5_lot_43 : E_ d mX5_lot 43 ls (.int x :: st) h = E_ d mX5_lot 44 ls (.long x.toInt64 :: st) h := e_go dX5_lot_43 rfl rfl
theorem wX5_lot_44 : E_ d mX5_lot 44 ls (.long v :: .long u :: st) h = E_ d mX5_lot 45 ls (.long (u * v) :: st) h := e_go dX5_lot_44 rfl rfl
theorem wX5_lot_45 : E_ d mX5_lot 45 [s0, s1, s2, s3, s4, s5, s6, s7] (.long u :: st) h = E_ d mX5_lot 46 [s0, s1, xk s2, .val (.long u), .unset, s5, s6, s7] st h := e_go dX5_lot_45 rfl rfl
theorem wX5_lot_46 : E_ d mX5_lot 46 ls st h = E_ d mX5_lot 49 ls (.long (4) :: st) h := e_go dX5_lot_46 rfl rfl
theorem wX5_lot_49 : E_ d mX5_lot 49 [s0, .val (.int x), s2, s3, s4, s5, s6, s7] st h = E_ d mX5_lot 50 [s0, .val (.int x), s2, s3, s4, s5, s6, s7] (.int x :: st) h := e_go dX5_lot_49 rfl rfl
theorem wX5_lot_50 : E_ d mX5_lot 50 ls st h = E_ d mX5_lot 53 ls (.int (nI 1000) :: st) h := e_sipush dX5_lot_50 ksipush_1000 rfl
theorem wX5_lot_53 : E_ d mX5_lot 53 [s0, .val (.int x), s2, s3, s4, s5, s6, s7] st h = E_ d mX5_lot 54 [s0, .val (.int x), s2, s3, s4, s5, s6, s7] (.int x :: st) h := e_go dX5_lot_53 rfl rfl
theorem wX5_lot_54 : E_ d mX5_lot 54 ls (.int y :: .int x :: st) h = E_ d mX5_lot 55 ls (.int (x - y) :: st) h := e_go dX5_lot_54 rfl rfl
theorem wX5_lot_55 : E_ d mX5_lot 55 ls (.int y :: .int x :: st) h = E_ d mX5_lot 56 ls (.int (x * y) :: st) h := e_go dX5_lot_55 rfl rfl
theorem wX5_lot_56 : E_ d mX5_lot 56 [s0, s1, .val (.int x), s3, s4, s5, s6, s7] st h = E_ d mX5_lot 57 [s0, s1, .val (.int x), s3, s4, s5, s6, s7] (.int x :: st) h := e_go dX5_lot_56 rfl rfl
theorem wX5_lot_57 : E_ d mX5_lot 57 ls st h = E_ d mX5_lot 60 ls (.int (nI 1000) :: st) h := e_sipush dX5_lot_57 ksipush_1000 rfl
theorem wX5_lot_60 : E_ d mX5_lot 60 [s0, s1, .val (.int x), s3, s4, s5, s6, s7] st h = E_ d mX5_lot 61 [s0, s1, .val (.int x), s3, s4, s5, s6, s7] (.int x :: st) h := e_go dX5_lot_60 rfl rfl
theorem wX5_lot_61 : E_ d mX5_lot 61 ls (.int y :: .int x :: st) h = E_ d mX5_lot 62 ls (.int (x - y) :: st) h := e_go dX5_lot_61 rfl rfl
theorem wX5_lot_62 : E_ d mX5_lot 62 ls (.int y :: .int x :: st) h = E_ d mX5_lot 63 ls (.int (x * y) :: st) h := e_go dX5_lot_62 rfl rfl
theorem wX5_lot_63 : E_ d mX5_lot 63 ls (.int y :: .int x :: st) h = E_ d mX5_lot 64 ls (.int (x + y) :: st) h := e_go dX5_lot_63 rfl rfl
theorem wX5_lot_64 : E_ d mX5_lot 64 ls (.int x :: st) h = E_ d mX5_lot 65 ls (.long x.toInt64 :: st) h := e_go dX5_lot_64 rfl rfl
theorem wX5_lot_65 : E_ d mX5_lot 65 ls (.long v :: .long u :: st) h = E_ d mX5_lot 66 ls (.long (u * v) :: st) h := e_go dX5_lot_65 rfl rfl
theorem wX5_lot_66 : E_ d mX5_lot 66 [s0, s1, s2, s3, s4, s5, s6, s7] (.long u :: st) h = E_ d mX5_lot 68 [s0, s1, s2, s3, xk s4, .val (.long u), .unset, s7] st h := e_go dX5_lot_66 rfl rfl
theorem wX5_lot_68 : E_ d mX5_lot 68 ls st h = E_ d mX5_lot 69 ls (.int (nI 1) :: st) h := e_iconst dX5_lot_68 kiconst_1 rfl
theorem wX5_lot_69 : E_ d mX5_lot 69 [s0, s1, s2, s3, s4, s5, s6, s7] (.int x :: st) h = E_ d mX5_lot 71 [s0, s1, s2, s3, s4, s5, xk s6, .val (.int x)] st h := e_go dX5_lot_69 rfl rfl
theorem wX5_lot_71 : E_ d mX5_lot 71 [s0, s1, s2, s3, s4, s5, s6, .val (.int x)] st h = E_ d mX5_lot 73 [s0, s1, s2, s3, s4, s5, s6, .val (.int x)] (.int x :: st) h := e_go dX5_lot_71 rfl rfl
theorem wX5_lot_73 : E_ d mX5_lot 73 ls st h = E_ d mX5_lot 76 ls (.int (nI 9999) :: st) h := e_sipush dX5_lot_73 ksipush_9999 rfl
theorem wX5_lot_76 : E_ d mX5_lot 76 ls (.int y :: .int x :: st) h = if y < x then E_ d mX5_lot 99 ls st h else E_ d mX5_lot 79 ls st h := e_igt dX5_lot_76 rfl rfl
theorem wX5_lot_79 : E_ d mX5_lot 79 [s0, s1, s2, s3, s4, s5, s6, .val (.int x)] st h = E_ d mX5_lot 81 [s0, s1, s2, s3, s4, s5, s6, .val (.int x)] (.int x :: st) h := e_go dX5_lot_79 rfl rfl
theorem wX5_lot_81 : E_ d mX5_lot 81 ls (.int x :: st) h = E_ d mX5_lot 82 ls (.long x.toInt64 :: st) h := e_go dX5_lot_81 rfl rfl
theorem wX5_lot_82 : E_ d mX5_lot 82 [s0, s1, s2, .val (.long u), s4, s5, s6, s7] st h = E_ d mX5_lot 83 [s0, s1, s2, .val (.long u), s4, s5, s6, s7] (.long u :: st) h := e_go dX5_lot_82 rfl rfl
theorem wX5_lot_83 : E_ d mX5_lot 83 ls (.long v :: .long u :: st) h = E_ d mX5_lot 84 ls (.long (u * v) :: st) h := e_go dX5_lot_83 rfl rfl
theorem wX5_lot_84 : E_ d mX5_lot 84 [s0, s1, s2, s3, s4, .val (.long u), s6, s7] st h = E_ d mX5_lot 86 [s0, s1, s2, s3, s4, .val (.long u), s6, s7] (.long u :: st) h := e_go dX5_lot_84 rfl rfl
theorem wX5_lot_86 : E_ d mX5_lot 86 ls (.long v :: .long u :: st) h = E_ d mX5_lot 87 ls (.int (lg_cmp u v) :: st) h := e_go dX5_lot_86 rfl rfl
theorem wX5_lot_87 : E_ d mX5_lot 87 ls (.int x :: st) h = if x < 0 then E_ d mX5_lot 93 ls st h else E_ d mX5_lot 90 ls st h := e_zlt dX5_lot_87 rfl rfl
theorem wX5_lot_90 : E_ d mX5_lot 90 [s0, s1, s2, s3, s4, s5, s6, .val (.int x)] st h = E_ d mX5_lot 92 [s0, s1, s2, s3, s4, s5, s6, .val (.int x)] (.int x :: st) h := e_go dX5_lot_90 rfl rfl
theorem wX5_lot_92 : E_ d mX5_lot 92 ls [.int x] h = some (some (.int x), h) := e_rt dX5_lot_92 rfl rfl
theorem wX5_lot_93 : E_ d mX5_lot 93 [s0, s1, s2, s3, s4, s5, s6, .val (.int x)] st h = E_ d mX5_lot 96 [s0, s1, s2, s3, s4, s5, xk s6, .val (.int (x + nI 1))] st h := by rw [← kiinc_1]; exact e_go dX5_lot_93 rfl rfl
theorem wX5_lot_96 : E_ d mX5_lot 96 ls st h = E_ d mX5_lot 71 ls st h := e_gt dX5_lot_96 rfl
theorem wX5_lot_99 : E_ d mX5_lot 99 ls st h = E_ d mX5_lot 100 ls (.int ((-1)) :: st) h := e_iconst dX5_lot_99 kiconst_m1 rfl
theorem wX5_lot_100 : E_ d mX5_lot 100 ls [.int x] h = some (some (.int x), h) := e_rt dX5_lot_100 rfl rfl
/-! FootOutModel.shown -/
theorem wX5_shown_0 : E_ d mX5_shown 0 [.val (.ref a), s1, s2, s3, s4, s5, s6, s7, s8] st h = E_ d mX5_shown 1 [.val (.ref a), s1, s2, s3, s4, s5, s6, s7, s8] (.ref a :: st) h := e_go dX5_shown_0 rfl rfl
theorem wX5_shown_1 : E_ d mX5_shown 1 ls st h = E_ d mX5_shown 2 ls (.int (nI 0) :: st) h := e_iconst dX5_shown_1 kiconst_0 rfl
theorem wX5_shown_2 (ht : oT h a = 7) : E_ d mX5_shown 2 ls (.int x :: .ref a :: st) h = E_ d mX5_shown 5 ls st (pI h a (va_up (oI h a) 0 x)) := e_putI dX5_shown_2 rfl rfl ht
theorem wX5_shown_5 : E_ d mX5_shown 5 [s0, s1, .val (.int x), s3, s4, s5, s6, s7, s8] st h = E_ d mX5_shown 6 [s0, s1, .val (.int x), s3, s4, s5, s6, s7, s8] (.int x :: st) h := e_go dX5_shown_5 rfl rfl
theorem wX5_shown_6 : E_ d mX5_shown 6 ls (.int x :: st) h = E_ d mX5_shown 7 ls (.long x.toInt64 :: st) h := e_go dX5_shown_6 rfl rfl
theorem wX5_shown_7 : E_ d mX5_shown 7 ls st h = E_ d mX5_shown 8 ls (.long 1 :: st) h := e_go dX5_shown_7 rfl rfl
theorem wX5_shown_8 : E_ d mX5_shown 8 ls st h = E_ d mX5_shown 11 ls (.long (300) :: st) h := e_go dX5_shown_8 rfl rfl
theorem wX5_shown_11 : E_ (d + 1) mX5_shown 11 ls [.long u3, .long u2, .long u1] h = (C_ d mX5_within [.long u1, .long u2, .long u3] h).bind fun r => E_ (d + 1) mX5_shown 14 ls (xpu r.1 []) r.2 := e_call dX5_shown_11 rfl rfl
theorem wX5_shown_14 : E_ d mX5_shown 14 ls (.int x :: st) h = if x = 0 then E_ d mX5_shown 53 ls st h else E_ d mX5_shown 17 ls st h := e_zeq dX5_shown_14 rfl rfl
theorem wX5_shown_17 : E_ d mX5_shown 17 [s0, s1, s2, s3, .val (.int x), s5, s6, s7, s8] st h = E_ d mX5_shown 19 [s0, s1, s2, s3, .val (.int x), s5, s6, s7, s8] (.int x :: st) h := e_go dX5_shown_17 rfl rfl
theorem wX5_shown_19 : E_ d mX5_shown 19 ls (.int x :: st) h = E_ d mX5_shown 20 ls (.long x.toInt64 :: st) h := e_go dX5_shown_19 rfl rfl
theorem wX5_shown_20 : E_ d mX5_shown 20 ls st h = E_ d mX5_shown 21 ls (.long 1 :: st) h := e_go dX5_shown_20 rfl rfl
theorem wX5_shown_21 : E_ d mX5_shown 21 ls st h = E_ d mX5_shown 24 ls (.long (300) :: st) h := e_go dX5_shown_21 rfl rfl
theorem wX5_shown_24 : E_ (d + 1) mX5_shown 24 ls [.long u3, .long u2, .long u1] h = (C_ d mX5_within [.long u1, .long u2, .long u3] h).bind fun r => E_ (d + 1) mX5_shown 27 ls (xpu r.1 []) r.2 := e_call dX5_shown_24 rfl rfl
theorem wX5_shown_27 : E_ d mX5_shown 27 ls (.int x :: st) h = if x = 0 then E_ d mX5_shown 53 ls st h else E_ d mX5_shown 30 ls st h := e_zeq dX5_shown_27 rfl rfl
theorem wX5_shown_30 : E_ d mX5_shown 30 [s0, .val (.int x), s2, s3, s4, s5, s6, s7, s8] st h = E_ d mX5_shown 31 [s0, .val (.int x), s2, s3, s4, s5, s6, s7, s8] (.int x :: st) h := e_go dX5_shown_30 rfl rfl
theorem wX5_shown_31 : E_ d mX5_shown 31 ls (.int x :: st) h = E_ d mX5_shown 32 ls (.long x.toInt64 :: st) h := e_go dX5_shown_31 rfl rfl
theorem wX5_shown_32 : E_ d mX5_shown 32 ls st h = E_ d mX5_shown 33 ls (.long 0 :: st) h := e_go dX5_shown_32 rfl rfl
theorem wX5_shown_33 : E_ d mX5_shown 33 [s0, s1, .val (.int x), s3, s4, s5, s6, s7, s8] st h = E_ d mX5_shown 34 [s0, s1, .val (.int x), s3, s4, s5, s6, s7, s8] (.int x :: st) h := e_go dX5_shown_33 rfl rfl
theorem wX5_shown_34 : E_ d mX5_shown 34 ls (.int x :: st) h = E_ d mX5_shown 35 ls (.long x.toInt64 :: st) h := e_go dX5_shown_34 rfl rfl
theorem wX5_shown_35 : E_ (d + 1) mX5_shown 35 ls [.long u3, .long u2, .long u1] h = (C_ d mX5_within [.long u1, .long u2, .long u3] h).bind fun r => E_ (d + 1) mX5_shown 38 ls (xpu r.1 []) r.2 := e_call dX5_shown_35 rfl rfl
theorem wX5_shown_38 : E_ d mX5_shown 38 ls (.int x :: st) h = if x = 0 then E_ d mX5_shown 53 ls st h else E_ d mX5_shown 41 ls st h := e_zeq dX5_shown_38 rfl rfl
theorem wX5_shown_41 : E_ d mX5_shown 41 [s0, s1, s2, .val (.int x), s4, s5, s6, s7, s8] st h = E_ d mX5_shown 42 [s0, s1, s2, .val (.int x), s4, s5, s6, s7, s8] (.int x :: st) h := e_go dX5_shown_41 rfl rfl
theorem wX5_shown_42 : E_ d mX5_shown 42 ls (.int x :: st) h = E_ d mX5_shown 43 ls (.long x.toInt64 :: st) h := e_go dX5_shown_42 rfl rfl
theorem wX5_shown_43 : E_ d mX5_shown 43 ls st h = E_ d mX5_shown 44 ls (.long 0 :: st) h := e_go dX5_shown_43 rfl rfl
theorem wX5_shown_44 : E_ d mX5_shown 44 [s0, s1, s2, s3, .val (.int x), s5, s6, s7, s8] st h = E_ d mX5_shown 46 [s0, s1, s2, s3, .val (.int x), s5, s6, s7, s8] (.int x :: st) h := e_go dX5_shown_44 rfl rfl
theorem wX5_shown_46 : E_ d mX5_shown 46 ls (.int x :: st) h = E_ d mX5_shown 47 ls (.long x.toInt64 :: st) h := e_go dX5_shown_46 rfl rfl
theorem wX5_shown_47 : E_ (d + 1) mX5_shown 47 ls [.long u3, .long u2, .long u1] h = (C_ d mX5_within [.long u1, .long u2, .long u3] h).bind fun r => E_ (d + 1) mX5_shown 50 ls (xpu r.1 []) r.2 := e_call dX5_shown_47 rfl rfl
theorem wX5_shown_50 : E_ d mX5_shown 50 ls (.int x :: st) h = if x = 0 then E_ d mX5_shown 53 ls st h else E_ d mX5_shown 60 ls st h := e_zne dX5_shown_50 rfl rfl
theorem wX5_shown_53 : E_ d mX5_shown 53 [.val (.ref a), s1, s2, s3, s4, s5, s6, s7, s8] st h = E_ d mX5_shown 54 [.val (.ref a), s1, s2, s3, s4, s5, s6, s7, s8] (.ref a :: st) h := e_go dX5_shown_53 rfl rfl
theorem wX5_shown_54 : E_ d mX5_shown 54 ls st h = E_ d mX5_shown 56 ls (.int ((-3)) :: st) h := e_bipush dX5_shown_54 kbipush_m3 rfl
theorem wX5_shown_56 (ht : oT h a = 7) : E_ (d + 1) mX5_shown 56 ls [.int x1, .ref a] h = (C_ d mX5_no [.ref a, .int x1] h).bind fun r => E_ (d + 1) mX5_shown 59 ls (xpu r.1 []) r.2 := e_vir dX5_shown_56 rfl rfl rfl rfl rfl rfl (Nat.le_of_ble_eq_true rfl) (Nat.le_of_ble_eq_true rfl) ht
theorem wX5_shown_59 : E_ d mX5_shown 59 ls [.int x] h = some (some (.int x), h) := e_rt dX5_shown_59 rfl rfl
theorem wX5_shown_60 : E_ d mX5_shown 60 [s0, .val (.int x), s2, s3, s4, s5, s6, s7, s8] st h = E_ d mX5_shown 61 [s0, .val (.int x), s2, s3, s4, s5, s6, s7, s8] (.int x :: st) h := e_go dX5_shown_60 rfl rfl
theorem wX5_shown_61 : E_ d mX5_shown 61 [s0, s1, s2, s3, .val (.int x), s5, s6, s7, s8] st h = E_ d mX5_shown 63 [s0, s1, s2, s3, .val (.int x), s5, s6, s7, s8] (.int x :: st) h := e_go dX5_shown_61 rfl rfl
theorem wX5_shown_63 : E_ d mX5_shown 63 ls (.int y :: .int x :: st) h = E_ d mX5_shown 64 ls (.int (x * y) :: st) h := e_go dX5_shown_63 rfl rfl
theorem wX5_shown_64 : E_ d mX5_shown 64 [s0, s1, s2, .val (.int x), s4, s5, s6, s7, s8] st h = E_ d mX5_shown 65 [s0, s1, s2, .val (.int x), s4, s5, s6, s7, s8] (.int x :: st) h := e_go dX5_shown_64 rfl rfl
theorem wX5_shown_65 : E_ d mX5_shown 65 [s0, s1, .val (.int x), s3, s4, s5, s6, s7, s8] st h = E_ d mX5_shown 66 [s0, s1, .val (.int x), s3, s4, s5, s6, s7, s8] (.int x :: st) h := e_go dX5_shown_65 rfl rfl
theorem wX5_shown_66 : E_ d mX5_shown 66 ls (.int y :: .int x :: st) h = E_ d mX5_shown 67 ls (.int (x * y) :: st) h := e_go dX5_shown_66 rfl rfl
theorem wX5_shown_67 : E_ d mX5_shown 67 ls (.int y :: .int x :: st) h = E_ d mX5_shown 68 ls (.int (x - y) :: st) h := e_go dX5_shown_67 rfl rfl
theorem wX5_shown_68 : E_ d mX5_shown 68 ls (.int x :: st) h = E_ d mX5_shown 69 ls (.long x.toInt64 :: st) h := e_go dX5_shown_68 rfl rfl
theorem wX5_shown_69 : E_ d mX5_shown 69 [s0, s1, s2, s3, s4, s5, s6, s7, s8] (.long u :: st) h = E_ d mX5_shown 71 [s0, s1, s2, s3, xk s4, .val (.long u), .unset, s7, s8] st h := e_go dX5_shown_69 rfl rfl
theorem wX5_shown_71 : E_ d mX5_shown 71 ls st h = E_ d mX5_shown 74 ls (.long (4) :: st) h := e_go dX5_shown_71 rfl rfl
theorem wX5_shown_74 : E_ d mX5_shown 74 [s0, .val (.int x), s2, s3, s4, s5, s6, s7, s8] st h = E_ d mX5_shown 75 [s0, .val (.int x), s2, s3, s4, s5, s6, s7, s8] (.int x :: st) h := e_go dX5_shown_74 rfl rfl
theorem wX5_shown_75 : E_ d mX5_shown 75 ls (.int x :: st) h = E_ d mX5_shown 76 ls (.long x.toInt64 :: st) h := e_go dX5_shown_75 rfl rfl
theorem wX5_shown_76 : E_ d mX5_shown 76 [s0, s1, .val (.int x), s3, s4, s5, s6, s7, s8] st h = E_ d mX5_shown 77 [s0, s1, .val (.int x), s3, s4, s5, s6, s7, s8] (.int x :: st) h := e_go dX5_shown_76 rfl rfl
theorem wX5_shown_77 : E_ d mX5_shown 77 [s0, .val (.int x), s2, s3, s4, s5, s6, s7, s8] st h = E_ d mX5_shown 78 [s0, .val (.int x), s2, s3, s4, s5, s6, s7, s8] (.int x :: st) h := e_go dX5_shown_77 rfl rfl
theorem wX5_shown_78 : E_ d mX5_shown 78 ls (.int y :: .int x :: st) h = E_ d mX5_shown 79 ls (.int (x - y) :: st) h := e_go dX5_shown_78 rfl rfl
theorem wX5_shown_79 : E_ d mX5_shown 79 ls (.int x :: st) h = E_ d mX5_shown 80 ls (.long x.toInt64 :: st) h := e_go dX5_shown_79 rfl rfl
theorem wX5_shown_80 : E_ d mX5_shown 80 ls (.long v :: .long u :: st) h = E_ d mX5_shown 81 ls (.long (u * v) :: st) h := e_go dX5_shown_80 rfl rfl
theorem wX5_shown_81 : E_ d mX5_shown 81 [s0, s1, s2, s3, .val (.int x), s5, s6, s7, s8] st h = E_ d mX5_shown 83 [s0, s1, s2, s3, .val (.int x), s5, s6, s7, s8] (.int x :: st) h := e_go dX5_shown_81 rfl rfl
theorem wX5_shown_83 : E_ d mX5_shown 83 ls (.int x :: st) h = E_ d mX5_shown 84 ls (.long x.toInt64 :: st) h := e_go dX5_shown_83 rfl rfl
theorem wX5_shown_84 : E_ d mX5_shown 84 ls (.long v :: .long u :: st) h = E_ d mX5_shown 85 ls (.long (u * v) :: st) h := e_go dX5_shown_84 rfl rfl
theorem wX5_shown_85 : E_ d mX5_shown 85 [s0, s1, s2, s3, .val (.int x), s5, s6, s7, s8] st h = E_ d mX5_shown 87 [s0, s1, s2, s3, .val (.int x), s5, s6, s7, s8] (.int x :: st) h := e_go dX5_shown_85 rfl rfl
theorem wX5_shown_87 : E_ d mX5_shown 87 ls (.int x :: st) h = E_ d mX5_shown 88 ls (.long x.toInt64 :: st) h := e_go dX5_shown_87 rfl rfl
theorem wX5_shown_88 : E_ d mX5_shown 88 ls (.long v :: .long u :: st) h = E_ d mX5_shown 89 ls (.long (u * v) :: st) h := e_go dX5_shown_88 rfl rfl
theorem wX5_shown_89 : E_ d mX5_shown 89 [s0, s1, s2, s3, .val (.int x), s5, s6, s7, s8] st h = E_ d mX5_shown 91 [s0, s1, s2, s3, .val (.int x), s5, s6, s7, s8] (.int x :: st) h := e_go dX5_shown_89 rfl rfl
theorem wX5_shown_91 : E_ d mX5_shown 91 ls (.int x :: st) h = E_ d mX5_shown 92 ls (.long x.toInt64 :: st) h := e_go dX5_shown_91 rfl rfl
theorem wX5_shown_92 : E_ d mX5_shown 92 ls (.long v :: .long u :: st) h = E_ d mX5_shown 93 ls (.long (u * v) :: st) h := e_go dX5_shown_92 rfl rfl
theorem wX5_shown_93 : E_ d mX5_shown 93 [s0, s1, s2, .val (.int x), s4, s5, s6, s7, s8] st h = E_ d mX5_shown 94 [s0, s1, s2, .val (.int x), s4, s5, s6, s7, s8] (.int x :: st) h := e_go dX5_shown_93 rfl rfl
theorem wX5_shown_94 : E_ d mX5_shown 94 ls (.int x :: st) h = E_ d mX5_shown 95 ls (.long x.toInt64 :: st) h := e_go dX5_shown_94 rfl rfl
theorem wX5_shown_95 : E_ d mX5_shown 95 [s0, s1, s2, s3, .val (.int x), s5, s6, s7, s8] st h = E_ d mX5_shown 97 [s0, s1, s2, s3, .val (.int x), s5, s6, s7, s8] (.int x :: st) h := e_go dX5_shown_95 rfl rfl
theorem wX5_shown_97 : E_ d mX5_shown 97 [s0, s1, s2, .val (.int x), s4, s5, s6, s7, s8] st h = E_ d mX5_shown 98 [s0, s1, s2, .val (.int x), s4, s5, s6, s7, s8] (.int x :: st) h := e_go dX5_shown_97 rfl rfl
theorem wX5_shown_98 : E_ d mX5_shown 98 ls (.int y :: .int x :: st) h = E_ d mX5_shown 99 ls (.int (x - y) :: st) h := e_go dX5_shown_98 rfl rfl
theorem wX5_shown_99 : E_ d mX5_shown 99 ls (.int x :: st) h = E_ d mX5_shown 100 ls (.long x.toInt64 :: st) h := e_go dX5_shown_99 rfl rfl
theorem wX5_shown_100 : E_ d mX5_shown 100 ls (.long v :: .long u :: st) h = E_ d mX5_shown 101 ls (.long (u * v) :: st) h := e_go dX5_shown_100 rfl rfl
theorem wX5_shown_101 : E_ d mX5_shown 101 [s0, s1, .val (.int x), s3, s4, s5, s6, s7, s8] st h = E_ d mX5_shown 102 [s0, s1, .val (.int x), s3, s4, s5, s6, s7, s8] (.int x :: st) h := e_go dX5_shown_101 rfl rfl
theorem wX5_shown_102 : E_ d mX5_shown 102 ls (.int x :: st) h = E_ d mX5_shown 103 ls (.long x.toInt64 :: st) h := e_go dX5_shown_102 rfl rfl
theorem wX5_shown_103 : E_ d mX5_shown 103 ls (.long v :: .long u :: st) h = E_ d mX5_shown 104 ls (.long (u * v) :: st) h := e_go dX5_shown_103 rfl rfl
theorem wX5_shown_104 : E_ d mX5_shown 104 [s0, s1, .val (.int x), s3, s4, s5, s6, s7, s8] st h = E_ d mX5_shown 105 [s0, s1, .val (.int x), s3, s4, s5, s6, s7, s8] (.int x :: st) h := e_go dX5_shown_104 rfl rfl
theorem wX5_shown_105 : E_ d mX5_shown 105 ls (.int x :: st) h = E_ d mX5_shown 106 ls (.long x.toInt64 :: st) h := e_go dX5_shown_105 rfl rfl
theorem wX5_shown_106 : E_ d mX5_shown 106 ls (.long v :: .long u :: st) h = E_ d mX5_shown 107 ls (.long (u * v) :: st) h := e_go dX5_shown_106 rfl rfl
theorem wX5_shown_107 : E_ d mX5_shown 107 [s0, s1, .val (.int x), s3, s4, s5, s6, s7, s8] st h = E_ d mX5_shown 108 [s0, s1, .val (.int x), s3, s4, s5, s6, s7, s8] (.int x :: st) h := e_go dX5_shown_107 rfl rfl
theorem wX5_shown_108 : E_ d mX5_shown 108 ls (.int x :: st) h = E_ d mX5_shown 109 ls (.long x.toInt64 :: st) h := e_go dX5_shown_108 rfl rfl
theorem wX5_shown_109 : E_ d mX5_shown 109 ls (.long v :: .long u :: st) h = E_ d mX5_shown 110 ls (.long (u * v) :: st) h := e_go dX5_shown_109 rfl rfl
theorem wX5_shown_110 : E_ d mX5_shown 110 ls (.long v :: .long u :: st) h = E_ d mX5_shown 111 ls (.long (u + v) :: st) h := e_go dX5_shown_110 rfl rfl
theorem wX5_shown_111 : E_ d mX5_shown 111 ls (.long v :: .long u :: st) h = E_ d mX5_shown 112 ls (.long (u * v) :: st) h := e_go dX5_shown_111 rfl rfl
theorem wX5_shown_112 : E_ d mX5_shown 112 [s0, s1, s2, s3, s4, s5, s6, s7, s8] (.long u :: st) h = E_ d mX5_shown 114 [s0, s1, s2, s3, s4, s5, xk s6, .val (.long u), .unset] st h := e_go dX5_shown_112 rfl rfl
theorem wX5_shown_114 : E_ d mX5_shown 114 [s0, s1, s2, s3, s4, .val (.long u), s6, s7, s8] st h = E_ d mX5_shown 116 [s0, s1, s2, s3, s4, .val (.long u), s6, s7, s8] (.long u :: st) h := e_go dX5_shown_114 rfl rfl
theorem wX5_shown_116 : E_ d mX5_shown 116 ls st h = E_ d mX5_shown 117 ls (.long 0 :: st) h := e_go dX5_shown_116 rfl rfl
theorem wX5_shown_117 : E_ d mX5_shown 117 ls (.long v :: .long u :: st) h = E_ d mX5_shown 118 ls (.int (lg_cmp u v) :: st) h := e_go dX5_shown_117 rfl rfl
theorem wX5_shown_118 : E_ d mX5_shown 118 ls (.int x :: st) h = if x = 0 then E_ d mX5_shown 143 ls st h else E_ d mX5_shown 121 ls st h := e_zeq dX5_shown_118 rfl rfl
theorem wX5_shown_121 : E_ d mX5_shown 121 [s0, s1, s2, s3, s4, .val (.long u), s6, s7, s8] st h = E_ d mX5_shown 123 [s0, s1, s2, s3, s4, .val (.long u), s6, s7, s8] (.long u :: st) h := e_go dX5_shown_121 rfl rfl
theorem wX5_shown_123 : E_ d mX5_shown 123 [s0, s1, s2, s3, s4, .val (.long u), s6, s7, s8] st h = E_ d mX5_shown 125 [s0, s1, s2, s3, s4, .val (.long u), s6, s7, s8] (.long u :: st) h := e_go dX5_shown_123 rfl rfl
theorem wX5_shown_125 : E_ d mX5_shown 125 ls (.long v :: .long u :: st) h = E_ d mX5_shown 126 ls (.long (u * v) :: st) h := e_go dX5_shown_125 rfl rfl
theorem wX5_shown_126 : E_ d mX5_shown 126 [s0, s1, .val (.int x), s3, s4, s5, s6, s7, s8] st h = E_ d mX5_shown 127 [s0, s1, .val (.int x), s3, s4, s5, s6, s7, s8] (.int x :: st) h := e_go dX5_shown_126 rfl rfl
theorem wX5_shown_127 : E_ d mX5_shown 127 ls (.int x :: st) h = E_ d mX5_shown 128 ls (.long x.toInt64 :: st) h := e_go dX5_shown_127 rfl rfl
theorem wX5_shown_128 : E_ d mX5_shown 128 ls (.long v :: .long u :: st) h = E_ d mX5_shown 129 ls (.long (u * v) :: st) h := e_go dX5_shown_128 rfl rfl
theorem wX5_shown_129 : E_ d mX5_shown 129 [s0, s1, s2, s3, .val (.int x), s5, s6, s7, s8] st h = E_ d mX5_shown 131 [s0, s1, s2, s3, .val (.int x), s5, s6, s7, s8] (.int x :: st) h := e_go dX5_shown_129 rfl rfl
theorem wX5_shown_131 : E_ d mX5_shown 131 ls (.int x :: st) h = E_ d mX5_shown 132 ls (.long x.toInt64 :: st) h := e_go dX5_shown_131 rfl rfl
theorem wX5_shown_132 : E_ d mX5_shown 132 ls (.long v :: .long u :: st) h = E_ d mX5_shown 133 ls (.long (u * v) :: st) h := e_go dX5_shown_132 rfl rfl
theorem wX5_shown_133 : E_ d mX5_shown 133 [s0, s1, s2, s3, s4, s5, s6, .val (.long u), s8] st h = E_ d mX5_shown 135 [s0, s1, s2, s3, s4, s5, s6, .val (.long u), s8] (.long u :: st) h := e_go dX5_shown_133 rfl rfl
theorem wX5_shown_135 : E_ d mX5_shown 135 ls (.long v :: .long u :: st) h = E_ d mX5_shown 136 ls (.int (lg_cmp u v) :: st) h := e_go dX5_shown_135 rfl rfl
theorem wX5_shown_136 : E_ d mX5_shown 136 ls (.int x :: st) h = if x < 0 then E_ d mX5_shown 143 ls st h else E_ d mX5_shown 139 ls st h := e_zlt dX5_shown_136 rfl rfl
theorem wX5_shown_139 : E_ d mX5_shown 139 ls st h = E_ d mX5_shown 140 ls (.int (nI 1) :: st) h := e_iconst dX5_shown_139 kiconst_1 rfl
theorem wX5_shown_140 : E_ d mX5_shown 140 ls st h = E_ d mX5_shown 144 ls st h := e_gt dX5_shown_140 rfl
theorem wX5_shown_143 : E_ d mX5_shown 143 ls st h = E_ d mX5_shown 144 ls (.int (nI 0) :: st) h := e_iconst dX5_shown_143 kiconst_0 rfl
theorem wX5_shown_144 : E_ d mX5_shown 144 ls [.int x] h = some (some (.int x), h) := e_rt dX5_shown_144 rfl rfl
/-! FootOutModel.clumps -/
theorem wX5_clumps_0 : E_ d mX5_clumps 0 [.val (.ref a), s1, s2, s3, s4, s5, s6, s7, s8, s9, s10, s11] st h = E_ d mX5_clumps 1 [.val (.ref a), s1, s2, s3, s4, s5, s6, s7, s8, s9, s10, s11] (.ref a :: st) h := e_go dX5_clumps_0 rfl rfl
theorem wX5_clumps_1 : E_ d mX5_clumps 1 ls st h = E_ d mX5_clumps 2 ls (.int (nI 0) :: st) h := e_iconst dX5_clumps_1 kiconst_0 rfl
theorem wX5_clumps_2 (ht : oT h a = 7) : E_ d mX5_clumps 2 ls (.int x :: .ref a :: st) h = E_ d mX5_clumps 5 ls st (pI h a (va_up (oI h a) 0 x)) := e_putI dX5_clumps_2 rfl rfl ht
theorem wX5_clumps_5 : E_ d mX5_clumps 5 [s0, .val (.int x), s2, s3, s4, s5, s6, s7, s8, s9, s10, s11] st h = E_ d mX5_clumps 6 [s0, .val (.int x), s2, s3, s4, s5, s6, s7, s8, s9, s10, s11] (.int x :: st) h := e_go dX5_clumps_5 rfl rfl
theorem wX5_clumps_6 : E_ d mX5_clumps 6 ls (.int x :: st) h = E_ d mX5_clumps 7 ls (.long x.toInt64 :: st) h := e_go dX5_clumps_6 rfl rfl
theorem wX5_clumps_7 : E_ d mX5_clumps 7 ls st h = E_ d mX5_clumps 8 ls (.long 0 :: st) h := e_go dX5_clumps_7 rfl rfl
theorem wX5_clumps_8 : E_ d mX5_clumps 8 ls st h = E_ d mX5_clumps 11 ls (.long (3) :: st) h := e_go dX5_clumps_8 rfl rfl
theorem wX5_clumps_11 : E_ (d + 1) mX5_clumps 11 ls [.long u3, .long u2, .long u1] h = (C_ d mX5_within [.long u1, .long u2, .long u3] h).bind fun r => E_ (d + 1) mX5_clumps 14 ls (xpu r.1 []) r.2 := e_call dX5_clumps_11 rfl rfl
theorem wX5_clumps_14 : E_ d mX5_clumps 14 ls (.int x :: st) h = if x = 0 then E_ d mX5_clumps 30 ls st h else E_ d mX5_clumps 17 ls st h := e_zeq dX5_clumps_14 rfl rfl
theorem wX5_clumps_17 : E_ d mX5_clumps 17 [s0, s1, s2, s3, .val (.int x), s5, s6, s7, s8, s9, s10, s11] st h = E_ d mX5_clumps 19 [s0, s1, s2, s3, .val (.int x), s5, s6, s7, s8, s9, s10, s11] (.int x :: st) h := e_go dX5_clumps_17 rfl rfl
theorem wX5_clumps_19 : E_ d mX5_clumps 19 ls (.int x :: st) h = E_ d mX5_clumps 20 ls (.long x.toInt64 :: st) h := e_go dX5_clumps_19 rfl rfl
theorem wX5_clumps_20 : E_ d mX5_clumps 20 ls st h = E_ d mX5_clumps 21 ls (.long 0 :: st) h := e_go dX5_clumps_20 rfl rfl
theorem wX5_clumps_21 : E_ d mX5_clumps 21 ls st h = E_ d mX5_clumps 24 ls (.long (2) :: st) h := e_go dX5_clumps_21 rfl rfl
theorem wX5_clumps_24 : E_ (d + 1) mX5_clumps 24 ls [.long u3, .long u2, .long u1] h = (C_ d mX5_within [.long u1, .long u2, .long u3] h).bind fun r => E_ (d + 1) mX5_clumps 27 ls (xpu r.1 []) r.2 := e_call dX5_clumps_24 rfl rfl
theorem wX5_clumps_27 : E_ d mX5_clumps 27 ls (.int x :: st) h = if x = 0 then E_ d mX5_clumps 30 ls st h else E_ d mX5_clumps 37 ls st h := e_zne dX5_clumps_27 rfl rfl
theorem wX5_clumps_30 : E_ d mX5_clumps 30 [.val (.ref a), s1, s2, s3, s4, s5, s6, s7, s8, s9, s10, s11] st h = E_ d mX5_clumps 31 [.val (.ref a), s1, s2, s3, s4, s5, s6, s7, s8, s9, s10, s11] (.ref a :: st) h := e_go dX5_clumps_30 rfl rfl
theorem wX5_clumps_31 : E_ d mX5_clumps 31 ls st h = E_ d mX5_clumps 33 ls (.int ((-2)) :: st) h := e_bipush dX5_clumps_31 kbipush_m2 rfl
theorem wX5_clumps_33 (ht : oT h a = 7) : E_ (d + 1) mX5_clumps 33 ls [.int x1, .ref a] h = (C_ d mX5_no [.ref a, .int x1] h).bind fun r => E_ (d + 1) mX5_clumps 36 ls (xpu r.1 []) r.2 := e_vir dX5_clumps_33 rfl rfl rfl rfl rfl rfl (Nat.le_of_ble_eq_true rfl) (Nat.le_of_ble_eq_true rfl) ht
theorem wX5_clumps_36 : E_ d mX5_clumps 36 ls [.int x] h = some (some (.int x), h) := e_rt dX5_clumps_36 rfl rfl
theorem wX5_clumps_37 : E_ d mX5_clumps 37 [.val (.ref a), s1, s2, s3, s4, s5, s6, s7, s8, s9, s10, s11] st h = E_ d mX5_clumps 38 [.val (.ref a), s1, s2, s3, s4, s5, s6, s7, s8, s9, s10, s11] (.ref a :: st) h := e_go dX5_clumps_37 rfl rfl
theorem wX5_clumps_38 (ht : oT h a = 7) : E_ d mX5_clumps 38 ls (.ref a :: st) h = E_ d mX5_clumps 41 ls (va_rf (oR h a 33) :: st) h := e_getR0 dX5_clumps_38 rfl rfl ht
theorem wX5_clumps_41 : E_ d mX5_clumps 41 [s0, .val (.int x), s2, s3, s4, s5, s6, s7, s8, s9, s10, s11] st h = E_ d mX5_clumps 42 [s0, .val (.int x), s2, s3, s4, s5, s6, s7, s8, s9, s10, s11] (.int x :: st) h := e_go dX5_clumps_41 rfl rfl
theorem wX5_clumps_42 (ht : oT h a = 40) (hi : xix x (oN h a) = true) : E_ d mX5_clumps 42 ls (.int x :: .ref a :: st) h = E_ d mX5_clumps 43 ls (.int (oI h a x.toNatClampNeg) :: st) h := e_iald dX5_clumps_42 rfl ht hi
theorem wX5_clumps_43 : E_ d mX5_clumps 43 ls st h = E_ d mX5_clumps 44 ls (.int ((-1)) :: st) h := e_iconst dX5_clumps_43 kiconst_m1 rfl
theorem wX5_clumps_44 : E_ d mX5_clumps 44 ls (.int y :: .int x :: st) h = if x = y then E_ d mX5_clumps 47 ls st h else E_ d mX5_clumps 54 ls st h := e_ine dX5_clumps_44 rfl rfl
theorem wX5_clumps_47 : E_ d mX5_clumps 47 [.val (.ref a), s1, s2, s3, s4, s5, s6, s7, s8, s9, s10, s11] st h = E_ d mX5_clumps 48 [.val (.ref a), s1, s2, s3, s4, s5, s6, s7, s8, s9, s10, s11] (.ref a :: st) h := e_go dX5_clumps_47 rfl rfl
theorem wX5_clumps_48 : E_ d mX5_clumps 48 ls st h = E_ d mX5_clumps 50 ls (.int ((-6)) :: st) h := e_bipush dX5_clumps_48 kbipush_m6 rfl
theorem wX5_clumps_50 (ht : oT h a = 7) : E_ (d + 1) mX5_clumps 50 ls [.int x1, .ref a] h = (C_ d mX5_no [.ref a, .int x1] h).bind fun r => E_ (d + 1) mX5_clumps 53 ls (xpu r.1 []) r.2 := e_vir dX5_clumps_50 rfl rfl rfl rfl rfl rfl (Nat.le_of_ble_eq_true rfl) (Nat.le_of_ble_eq_true rfl) ht
theorem wX5_clumps_53 : E_ d mX5_clumps 53 ls [.int x] h = some (some (.int x), h) := e_rt dX5_clumps_53 rfl rfl
theorem wX5_clumps_54 : E_ d mX5_clumps 54 [s0, s1, .val (.int x), s3, s4, s5, s6, s7, s8, s9, s10, s11] st h = E_ d mX5_clumps 55 [s0, s1, .val (.int x), s3, s4, s5, s6, s7, s8, s9, s10, s11] (.int x :: st) h := e_go dX5_clumps_54 rfl rfl
theorem wX5_clumps_55 : E_ d mX5_clumps 55 ls (.int x :: st) h = E_ d mX5_clumps 56 ls (.long x.toInt64 :: st) h := e_go dX5_clumps_55 rfl rfl
theorem wX5_clumps_56 : E_ d mX5_clumps 56 ls st h = E_ d mX5_clumps 59 ls (.long (2) :: st) h := e_go dX5_clumps_56 rfl rfl
theorem wX5_clumps_59 : E_ d mX5_clumps 59 ls st h = E_ d mX5_clumps 62 ls (.long (999) :: st) h := e_go dX5_clumps_59 rfl rfl
theorem wX5_clumps_62 : E_ (d + 1) mX5_clumps 62 ls [.long u3, .long u2, .long u1] h = (C_ d mX5_within [.long u1, .long u2, .long u3] h).bind fun r => E_ (d + 1) mX5_clumps 65 ls (xpu r.1 []) r.2 := e_call dX5_clumps_62 rfl rfl
theorem wX5_clumps_65 : E_ d mX5_clumps 65 ls (.int x :: st) h = if x = 0 then E_ d mX5_clumps 81 ls st h else E_ d mX5_clumps 68 ls st h := e_zeq dX5_clumps_65 rfl rfl
theorem wX5_clumps_68 : E_ d mX5_clumps 68 [s0, s1, s2, .val (.int x), s4, s5, s6, s7, s8, s9, s10, s11] st h = E_ d mX5_clumps 69 [s0, s1, s2, .val (.int x), s4, s5, s6, s7, s8, s9, s10, s11] (.int x :: st) h := e_go dX5_clumps_68 rfl rfl
theorem wX5_clumps_69 : E_ d mX5_clumps 69 ls (.int x :: st) h = E_ d mX5_clumps 70 ls (.long x.toInt64 :: st) h := e_go dX5_clumps_69 rfl rfl
theorem wX5_clumps_70 : E_ d mX5_clumps 70 ls st h = E_ d mX5_clumps 71 ls (.long 1 :: st) h := e_go dX5_clumps_70 rfl rfl
theorem wX5_clumps_71 : E_ d mX5_clumps 71 [s0, s1, .val (.int x), s3, s4, s5, s6, s7, s8, s9, s10, s11] st h = E_ d mX5_clumps 72 [s0, s1, .val (.int x), s3, s4, s5, s6, s7, s8, s9, s10, s11] (.int x :: st) h := e_go dX5_clumps_71 rfl rfl
theorem wX5_clumps_72 : E_ d mX5_clumps 72 ls st h = E_ d mX5_clumps 73 ls (.int (nI 1) :: st) h := e_iconst dX5_clumps_72 kiconst_1 rfl
theorem wX5_clumps_73 : E_ d mX5_clumps 73 ls (.int y :: .int x :: st) h = E_ d mX5_clumps 74 ls (.int (x - y) :: st) h := e_go dX5_clumps_73 rfl rfl
theorem wX5_clumps_74 : E_ d mX5_clumps 74 ls (.int x :: st) h = E_ d mX5_clumps 75 ls (.long x.toInt64 :: st) h := e_go dX5_clumps_74 rfl rfl
theorem wX5_clumps_75 : E_ (d + 1) mX5_clumps 75 ls [.long u3, .long u2, .long u1] h = (C_ d mX5_within [.long u1, .long u2, .long u3] h).bind fun r => E_ (d + 1) mX5_clumps 78 ls (xpu r.1 []) r.2 := e_call dX5_clumps_75 rfl rfl
theorem wX5_clumps_78 : E_ d mX5_clumps 78 ls (.int x :: st) h = if x = 0 then E_ d mX5_clumps 81 ls st h else E_ d mX5_clumps 88 ls st h := e_zne dX5_clumps_78 rfl rfl
theorem wX5_clumps_81 : E_ d mX5_clumps 81 [.val (.ref a), s1, s2, s3, s4, s5, s6, s7, s8, s9, s10, s11] st h = E_ d mX5_clumps 82 [.val (.ref a), s1, s2, s3, s4, s5, s6, s7, s8, s9, s10, s11] (.ref a :: st) h := e_go dX5_clumps_81 rfl rfl
theorem wX5_clumps_82 : E_ d mX5_clumps 82 ls st h = E_ d mX5_clumps 84 ls (.int ((-3)) :: st) h := e_bipush dX5_clumps_82 kbipush_m3 rfl
theorem wX5_clumps_84 (ht : oT h a = 7) : E_ (d + 1) mX5_clumps 84 ls [.int x1, .ref a] h = (C_ d mX5_no [.ref a, .int x1] h).bind fun r => E_ (d + 1) mX5_clumps 87 ls (xpu r.1 []) r.2 := e_vir dX5_clumps_84 rfl rfl rfl rfl rfl rfl (Nat.le_of_ble_eq_true rfl) (Nat.le_of_ble_eq_true rfl) ht
theorem wX5_clumps_87 : E_ d mX5_clumps 87 ls [.int x] h = some (some (.int x), h) := e_rt dX5_clumps_87 rfl rfl
theorem wX5_clumps_88 : E_ d mX5_clumps 88 ls st h = E_ d mX5_clumps 89 ls (.int (nI 0) :: st) h := e_iconst dX5_clumps_88 kiconst_0 rfl
theorem wX5_clumps_89 : E_ d mX5_clumps 89 [s0, s1, s2, s3, s4, s5, s6, s7, s8, s9, s10, s11] (.int x :: st) h = E_ d mX5_clumps 91 [s0, s1, s2, s3, xk s4, .val (.int x), s6, s7, s8, s9, s10, s11] st h := e_go dX5_clumps_89 rfl rfl
theorem wX5_clumps_91 : E_ d mX5_clumps 91 [s0, s1, s2, s3, s4, .val (.int x), s6, s7, s8, s9, s10, s11] st h = E_ d mX5_clumps 93 [s0, s1, s2, s3, s4, .val (.int x), s6, s7, s8, s9, s10, s11] (.int x :: st) h := e_go dX5_clumps_91 rfl rfl
theorem wX5_clumps_93 : E_ d mX5_clumps 93 [.val (.ref a), s1, s2, s3, s4, s5, s6, s7, s8, s9, s10, s11] st h = E_ d mX5_clumps 94 [.val (.ref a), s1, s2, s3, s4, s5, s6, s7, s8, s9, s10, s11] (.ref a :: st) h := e_go dX5_clumps_93 rfl rfl
theorem wX5_clumps_94 (ht : oT h a = 7) : E_ d mX5_clumps 94 ls (.ref a :: st) h = E_ d mX5_clumps 97 ls (va_rf (oR h a 34) :: st) h := e_getR0 dX5_clumps_94 rfl rfl ht
theorem wX5_clumps_97 : E_ d mX5_clumps 97 [s0, .val (.int x), s2, s3, s4, s5, s6, s7, s8, s9, s10, s11] st h = E_ d mX5_clumps 98 [s0, .val (.int x), s2, s3, s4, s5, s6, s7, s8, s9, s10, s11] (.int x :: st) h := e_go dX5_clumps_97 rfl rfl
theorem wX5_clumps_98 (ht : oT h a = 40) (hi : xix x (oN h a) = true) : E_ d mX5_clumps 98 ls (.int x :: .ref a :: st) h = E_ d mX5_clumps 99 ls (.int (oI h a x.toNatClampNeg) :: st) h := e_iald dX5_clumps_98 rfl ht hi
theorem wX5_clumps_99 : E_ d mX5_clumps 99 ls (.int y :: .int x :: st) h = if x < y then E_ d mX5_clumps 102 ls st h else E_ d mX5_clumps 137 ls st h := e_ige dX5_clumps_99 rfl rfl
theorem wX5_clumps_102 : E_ d mX5_clumps 102 [.val (.ref a), s1, s2, s3, s4, s5, s6, s7, s8, s9, s10, s11] st h = E_ d mX5_clumps 103 [.val (.ref a), s1, s2, s3, s4, s5, s6, s7, s8, s9, s10, s11] (.ref a :: st) h := e_go dX5_clumps_102 rfl rfl
theorem wX5_clumps_103 (ht : oT h a = 7) : E_ d mX5_clumps 103 ls (.ref a :: st) h = E_ d mX5_clumps 106 ls (va_rf (oR h a 35) :: st) h := e_getR0 dX5_clumps_103 rfl rfl ht
theorem wX5_clumps_106 : E_ d mX5_clumps 106 ls st h = E_ d mX5_clumps 108 ls (.int (nI 40) :: st) h := e_bipush dX5_clumps_106 kbipush_40 rfl
theorem wX5_clumps_108 : E_ d mX5_clumps 108 [s0, .val (.int x), s2, s3, s4, s5, s6, s7, s8, s9, s10, s11] st h = E_ d mX5_clumps 109 [s0, .val (.int x), s2, s3, s4, s5, s6, s7, s8, s9, s10, s11] (.int x :: st) h := e_go dX5_clumps_108 rfl rfl
theorem wX5_clumps_109 : E_ d mX5_clumps 109 ls (.int y :: .int x :: st) h = E_ d mX5_clumps 110 ls (.int (x * y) :: st) h := e_go dX5_clumps_109 rfl rfl
theorem wX5_clumps_110 : E_ d mX5_clumps 110 [s0, s1, s2, s3, s4, .val (.int x), s6, s7, s8, s9, s10, s11] st h = E_ d mX5_clumps 112 [s0, s1, s2, s3, s4, .val (.int x), s6, s7, s8, s9, s10, s11] (.int x :: st) h := e_go dX5_clumps_110 rfl rfl
theorem wX5_clumps_112 : E_ d mX5_clumps 112 ls (.int y :: .int x :: st) h = E_ d mX5_clumps 113 ls (.int (x + y) :: st) h := e_go dX5_clumps_112 rfl rfl
theorem wX5_clumps_113 (ht : oT h a = 44) (hi : xix x (oN h a) = true) : E_ d mX5_clumps 113 ls (.int x :: .ref a :: st) h = E_ d mX5_clumps 114 ls (.long (oL h a x.toNatClampNeg) :: st) h := e_lald dX5_clumps_113 rfl ht hi
theorem wX5_clumps_114 : E_ d mX5_clumps 114 ls st h = E_ d mX5_clumps 115 ls (.long 0 :: st) h := e_go dX5_clumps_114 rfl rfl
theorem wX5_clumps_115 : E_ d mX5_clumps 115 ls st h = E_ d mX5_clumps 118 ls (.long (9999) :: st) h := e_go dX5_clumps_115 rfl rfl
theorem wX5_clumps_118 : E_ (d + 1) mX5_clumps 118 ls [.long u3, .long u2, .long u1] h = (C_ d mX5_within [.long u1, .long u2, .long u3] h).bind fun r => E_ (d + 1) mX5_clumps 121 ls (xpu r.1 []) r.2 := e_call dX5_clumps_118 rfl rfl
theorem wX5_clumps_121 : E_ d mX5_clumps 121 ls (.int x :: st) h = if x = 0 then E_ d mX5_clumps 124 ls st h else E_ d mX5_clumps 131 ls st h := e_zne dX5_clumps_121 rfl rfl
theorem wX5_clumps_124 : E_ d mX5_clumps 124 [.val (.ref a), s1, s2, s3, s4, s5, s6, s7, s8, s9, s10, s11] st h = E_ d mX5_clumps 125 [.val (.ref a), s1, s2, s3, s4, s5, s6, s7, s8, s9, s10, s11] (.ref a :: st) h := e_go dX5_clumps_124 rfl rfl
theorem wX5_clumps_125 : E_ d mX5_clumps 125 ls st h = E_ d mX5_clumps 127 ls (.int ((-3)) :: st) h := e_bipush dX5_clumps_125 kbipush_m3 rfl
theorem wX5_clumps_127 (ht : oT h a = 7) : E_ (d + 1) mX5_clumps 127 ls [.int x1, .ref a] h = (C_ d mX5_no [.ref a, .int x1] h).bind fun r => E_ (d + 1) mX5_clumps 130 ls (xpu r.1 []) r.2 := e_vir dX5_clumps_127 rfl rfl rfl rfl rfl rfl (Nat.le_of_ble_eq_true rfl) (Nat.le_of_ble_eq_true rfl) ht
theorem wX5_clumps_130 : E_ d mX5_clumps 130 ls [.int x] h = some (some (.int x), h) := e_rt dX5_clumps_130 rfl rfl
theorem wX5_clumps_131 : E_ d mX5_clumps 131 [s0, s1, s2, s3, s4, .val (.int x), s6, s7, s8, s9, s10, s11] st h = E_ d mX5_clumps 134 [s0, s1, s2, s3, xk s4, .val (.int (x + nI 1)), s6, s7, s8, s9, s10, s11] st h := by rw [← kiinc_1]; exact e_go dX5_clumps_131 rfl rfl
theorem wX5_clumps_134 : E_ d mX5_clumps 134 ls st h = E_ d mX5_clumps 91 ls st h := e_gt dX5_clumps_134 rfl
theorem wX5_clumps_137 : E_ d mX5_clumps 137 ls st h = E_ d mX5_clumps 138 ls (.int (nI 0) :: st) h := e_iconst dX5_clumps_137 kiconst_0 rfl
theorem wX5_clumps_138 : E_ d mX5_clumps 138 [s0, s1, s2, s3, s4, s5, s6, s7, s8, s9, s10, s11] (.int x :: st) h = E_ d mX5_clumps 140 [s0, s1, s2, s3, xk s4, .val (.int x), s6, s7, s8, s9, s10, s11] st h := e_go dX5_clumps_138 rfl rfl
theorem wX5_clumps_140 : E_ d mX5_clumps 140 ls st h = E_ d mX5_clumps 141 ls (.int (nI 0) :: st) h := e_iconst dX5_clumps_140 kiconst_0 rfl
theorem wX5_clumps_141 : E_ d mX5_clumps 141 [s0, s1, s2, s3, s4, s5, s6, s7, s8, s9, s10, s11] (.int x :: st) h = E_ d mX5_clumps 143 [s0, s1, s2, s3, s4, xk s5, .val (.int x), s7, s8, s9, s10, s11] st h := e_go dX5_clumps_141 rfl rfl
theorem wX5_clumps_143 : E_ d mX5_clumps 143 [s0, s1, s2, s3, s4, s5, .val (.int x), s7, s8, s9, s10, s11] st h = E_ d mX5_clumps 145 [s0, s1, s2, s3, s4, s5, .val (.int x), s7, s8, s9, s10, s11] (.int x :: st) h := e_go dX5_clumps_143 rfl rfl
theorem wX5_clumps_145 : E_ d mX5_clumps 145 [.val (.ref a), s1, s2, s3, s4, s5, s6, s7, s8, s9, s10, s11] st h = E_ d mX5_clumps 146 [.val (.ref a), s1, s2, s3, s4, s5, s6, s7, s8, s9, s10, s11] (.ref a :: st) h := e_go dX5_clumps_145 rfl rfl
theorem wX5_clumps_146 (ht : oT h a = 7) : E_ d mX5_clumps 146 ls (.ref a :: st) h = E_ d mX5_clumps 149 ls (va_rf (oR h a 34) :: st) h := e_getR0 dX5_clumps_146 rfl rfl ht
theorem wX5_clumps_149 : E_ d mX5_clumps 149 [s0, .val (.int x), s2, s3, s4, s5, s6, s7, s8, s9, s10, s11] st h = E_ d mX5_clumps 150 [s0, .val (.int x), s2, s3, s4, s5, s6, s7, s8, s9, s10, s11] (.int x :: st) h := e_go dX5_clumps_149 rfl rfl
theorem wX5_clumps_150 (ht : oT h a = 40) (hi : xix x (oN h a) = true) : E_ d mX5_clumps 150 ls (.int x :: .ref a :: st) h = E_ d mX5_clumps 151 ls (.int (oI h a x.toNatClampNeg) :: st) h := e_iald dX5_clumps_150 rfl ht hi
theorem wX5_clumps_151 : E_ d mX5_clumps 151 ls (.int y :: .int x :: st) h = if x < y then E_ d mX5_clumps 154 ls st h else E_ d mX5_clumps 219 ls st h := e_ige dX5_clumps_151 rfl rfl
theorem wX5_clumps_154 : E_ d mX5_clumps 154 [.val (.ref a), s1, s2, s3, s4, s5, s6, s7, s8, s9, s10, s11] st h = E_ d mX5_clumps 155 [.val (.ref a), s1, s2, s3, s4, s5, s6, s7, s8, s9, s10, s11] (.ref a :: st) h := e_go dX5_clumps_154 rfl rfl
theorem wX5_clumps_155 (ht : oT h a = 7) : E_ d mX5_clumps 155 ls (.ref a :: st) h = E_ d mX5_clumps 158 ls (va_rf (oR h a 35) :: st) h := e_getR0 dX5_clumps_155 rfl rfl ht
theorem wX5_clumps_158 : E_ d mX5_clumps 158 ls st h = E_ d mX5_clumps 160 ls (.int (nI 40) :: st) h := e_bipush dX5_clumps_158 kbipush_40 rfl
theorem wX5_clumps_160 : E_ d mX5_clumps 160 [s0, .val (.int x), s2, s3, s4, s5, s6, s7, s8, s9, s10, s11] st h = E_ d mX5_clumps 161 [s0, .val (.int x), s2, s3, s4, s5, s6, s7, s8, s9, s10, s11] (.int x :: st) h := e_go dX5_clumps_160 rfl rfl
theorem wX5_clumps_161 : E_ d mX5_clumps 161 ls (.int y :: .int x :: st) h = E_ d mX5_clumps 162 ls (.int (x * y) :: st) h := e_go dX5_clumps_161 rfl rfl
theorem wX5_clumps_162 : E_ d mX5_clumps 162 [s0, s1, s2, s3, s4, s5, .val (.int x), s7, s8, s9, s10, s11] st h = E_ d mX5_clumps 164 [s0, s1, s2, s3, s4, s5, .val (.int x), s7, s8, s9, s10, s11] (.int x :: st) h := e_go dX5_clumps_162 rfl rfl
theorem wX5_clumps_164 : E_ d mX5_clumps 164 ls (.int y :: .int x :: st) h = E_ d mX5_clumps 165 ls (.int (x + y) :: st) h := e_go dX5_clumps_164 rfl rfl
theorem wX5_clumps_165 (ht : oT h a = 44) (hi : xix x (oN h a) = true) : E_ d mX5_clumps 165 ls (.int x :: .ref a :: st) h = E_ d mX5_clumps 166 ls (.long (oL h a x.toNatClampNeg) :: st) h := e_lald dX5_clumps_165 rfl ht hi
theorem wX5_clumps_166 : E_ d mX5_clumps 166 ls (.long u :: st) h = E_ d mX5_clumps 167 ls (.int u.toInt32 :: st) h := e_go dX5_clumps_166 rfl rfl
theorem wX5_clumps_167 : E_ d mX5_clumps 167 [s0, s1, s2, s3, s4, s5, s6, s7, s8, s9, s10, s11] (.int x :: st) h = E_ d mX5_clumps 169 [s0, s1, s2, s3, s4, s5, xk s6, .val (.int x), s8, s9, s10, s11] st h := e_go dX5_clumps_167 rfl rfl
theorem wX5_clumps_169 : E_ d mX5_clumps 169 [.val (.ref a), s1, s2, s3, s4, s5, s6, s7, s8, s9, s10, s11] st h = E_ d mX5_clumps 170 [.val (.ref a), s1, s2, s3, s4, s5, s6, s7, s8, s9, s10, s11] (.ref a :: st) h := e_go dX5_clumps_169 rfl rfl
theorem wX5_clumps_170 (ht : oT h a = 7) : E_ d mX5_clumps 170 ls (.ref a :: st) h = E_ d mX5_clumps 173 ls (va_rf (oR h a 32) :: st) h := e_getR0 dX5_clumps_170 rfl rfl ht
theorem wX5_clumps_173 : E_ d mX5_clumps 173 [s0, s1, s2, s3, s4, s5, .val (.int x), s7, s8, s9, s10, s11] st h = E_ d mX5_clumps 175 [s0, s1, s2, s3, s4, s5, .val (.int x), s7, s8, s9, s10, s11] (.int x :: st) h := e_go dX5_clumps_173 rfl rfl
theorem wX5_clumps_175 : E_ d mX5_clumps 175 [s0, s1, s2, s3, s4, s5, s6, .val (.int x), s8, s9, s10, s11] st h = E_ d mX5_clumps 177 [s0, s1, s2, s3, s4, s5, s6, .val (.int x), s8, s9, s10, s11] (.int x :: st) h := e_go dX5_clumps_175 rfl rfl
theorem wX5_clumps_177 : E_ d mX5_clumps 177 [s0, s1, .val (.int x), s3, s4, s5, s6, s7, s8, s9, s10, s11] st h = E_ d mX5_clumps 178 [s0, s1, .val (.int x), s3, s4, s5, s6, s7, s8, s9, s10, s11] (.int x :: st) h := e_go dX5_clumps_177 rfl rfl
theorem wX5_clumps_178 (hy : ¬ y = 0) : E_ d mX5_clumps 178 ls (.int y :: .int x :: st) h = E_ d mX5_clumps 179 ls (.int (x - x / y * y) :: st) h := e_rem dX5_clumps_178 rfl hy
theorem wX5_clumps_179 : E_ d mX5_clumps 179 [s0, s1, s2, .val (.int x), s4, s5, s6, s7, s8, s9, s10, s11] st h = E_ d mX5_clumps 180 [s0, s1, s2, .val (.int x), s4, s5, s6, s7, s8, s9, s10, s11] (.int x :: st) h := e_go dX5_clumps_179 rfl rfl
theorem wX5_clumps_180 : E_ d mX5_clumps 180 ls (.int y :: .int x :: st) h = if x < y then E_ d mX5_clumps 183 ls st h else E_ d mX5_clumps 188 ls st h := e_ige dX5_clumps_180 rfl rfl
theorem wX5_clumps_183 : E_ d mX5_clumps 183 [s0, s1, s2, s3, s4, s5, s6, .val (.int x), s8, s9, s10, s11] st h = E_ d mX5_clumps 185 [s0, s1, s2, s3, s4, s5, s6, .val (.int x), s8, s9, s10, s11] (.int x :: st) h := e_go dX5_clumps_183 rfl rfl
theorem wX5_clumps_185 : E_ d mX5_clumps 185 ls st h = E_ d mX5_clumps 197 ls st h := e_gt dX5_clumps_185 rfl
theorem wX5_clumps_188 : E_ d mX5_clumps 188 [s0, s1, s2, s3, s4, s5, s6, .val (.int x), s8, s9, s10, s11] st h = E_ d mX5_clumps 190 [s0, s1, s2, s3, s4, s5, s6, .val (.int x), s8, s9, s10, s11] (.int x :: st) h := e_go dX5_clumps_188 rfl rfl
theorem wX5_clumps_190 : E_ d mX5_clumps 190 [s0, s1, .val (.int x), s3, s4, s5, s6, s7, s8, s9, s10, s11] st h = E_ d mX5_clumps 191 [s0, s1, .val (.int x), s3, s4, s5, s6, s7, s8, s9, s10, s11] (.int x :: st) h := e_go dX5_clumps_190 rfl rfl
theorem wX5_clumps_191 : E_ d mX5_clumps 191 ls (.int y :: .int x :: st) h = E_ d mX5_clumps 192 ls (.int (x + y) :: st) h := e_go dX5_clumps_191 rfl rfl
theorem wX5_clumps_192 : E_ d mX5_clumps 192 [s0, s1, s2, s3, s4, s5, s6, .val (.int x), s8, s9, s10, s11] st h = E_ d mX5_clumps 194 [s0, s1, s2, s3, s4, s5, s6, .val (.int x), s8, s9, s10, s11] (.int x :: st) h := e_go dX5_clumps_192 rfl rfl
theorem wX5_clumps_194 : E_ d mX5_clumps 194 [s0, s1, .val (.int x), s3, s4, s5, s6, s7, s8, s9, s10, s11] st h = E_ d mX5_clumps 195 [s0, s1, .val (.int x), s3, s4, s5, s6, s7, s8, s9, s10, s11] (.int x :: st) h := e_go dX5_clumps_194 rfl rfl
theorem wX5_clumps_195 (hy : ¬ y = 0) : E_ d mX5_clumps 195 ls (.int y :: .int x :: st) h = E_ d mX5_clumps 196 ls (.int (x - x / y * y) :: st) h := e_rem dX5_clumps_195 rfl hy
theorem wX5_clumps_196 : E_ d mX5_clumps 196 ls (.int y :: .int x :: st) h = E_ d mX5_clumps 197 ls (.int (x - y) :: st) h := e_go dX5_clumps_196 rfl rfl
theorem wX5_clumps_197 (ht : oT h a = 40) (hi : xix x (oN h a) = true) : E_ d mX5_clumps 197 ls (.int y :: .int x :: .ref a :: st) h = E_ d mX5_clumps 198 ls st (pI h a (va_up (oI h a) x.toNatClampNeg y)) := e_iast dX5_clumps_197 rfl ht hi
theorem wX5_clumps_198 : E_ d mX5_clumps 198 [s0, s1, s2, s3, s4, .val (.int x), s6, s7, s8, s9, s10, s11] st h = E_ d mX5_clumps 200 [s0, s1, s2, s3, s4, .val (.int x), s6, s7, s8, s9, s10, s11] (.int x :: st) h := e_go dX5_clumps_198 rfl rfl
theorem wX5_clumps_200 : E_ d mX5_clumps 200 [.val (.ref a), s1, s2, s3, s4, s5, s6, s7, s8, s9, s10, s11] st h = E_ d mX5_clumps 201 [.val (.ref a), s1, s2, s3, s4, s5, s6, s7, s8, s9, s10, s11] (.ref a :: st) h := e_go dX5_clumps_200 rfl rfl
theorem wX5_clumps_201 (ht : oT h a = 7) : E_ d mX5_clumps 201 ls (.ref a :: st) h = E_ d mX5_clumps 204 ls (va_rf (oR h a 32) :: st) h := e_getR0 dX5_clumps_201 rfl rfl ht
theorem wX5_clumps_204 : E_ d mX5_clumps 204 [s0, s1, s2, s3, s4, s5, .val (.int x), s7, s8, s9, s10, s11] st h = E_ d mX5_clumps 206 [s0, s1, s2, s3, s4, s5, .val (.int x), s7, s8, s9, s10, s11] (.int x :: st) h := e_go dX5_clumps_204 rfl rfl
theorem wX5_clumps_206 (ht : oT h a = 40) (hi : xix x (oN h a) = true) : E_ d mX5_clumps 206 ls (.int x :: .ref a :: st) h = E_ d mX5_clumps 207 ls (.int (oI h a x.toNatClampNeg) :: st) h := e_iald dX5_clumps_206 rfl ht hi
theorem wX5_clumps_207 : E_ d mX5_clumps 207 [s0, s1, s2, s3, s4, s5, s6, .val (.int x), s8, s9, s10, s11] st h = E_ d mX5_clumps 209 [s0, s1, s2, s3, s4, s5, s6, .val (.int x), s8, s9, s10, s11] (.int x :: st) h := e_go dX5_clumps_207 rfl rfl
theorem wX5_clumps_209 : E_ d mX5_clumps 209 ls (.int y :: .int x :: st) h = E_ d mX5_clumps 210 ls (.int (x - y) :: st) h := e_go dX5_clumps_209 rfl rfl
theorem wX5_clumps_210 : E_ d mX5_clumps 210 ls (.int y :: .int x :: st) h = E_ d mX5_clumps 211 ls (.int (x + y) :: st) h := e_go dX5_clumps_210 rfl rfl
theorem wX5_clumps_211 : E_ d mX5_clumps 211 [s0, s1, s2, s3, s4, s5, s6, s7, s8, s9, s10, s11] (.int x :: st) h = E_ d mX5_clumps 213 [s0, s1, s2, s3, xk s4, .val (.int x), s6, s7, s8, s9, s10, s11] st h := e_go dX5_clumps_211 rfl rfl
theorem wX5_clumps_213 : E_ d mX5_clumps 213 [s0, s1, s2, s3, s4, s5, .val (.int x), s7, s8, s9, s10, s11] st h = E_ d mX5_clumps 216 [s0, s1, s2, s3, s4, xk s5, .val (.int (x + nI 1)), s7, s8, s9, s10, s11] st h := by rw [← kiinc_1]; exact e_go dX5_clumps_213 rfl rfl
theorem wX5_clumps_216 : E_ d mX5_clumps 216 ls st h = E_ d mX5_clumps 143 ls st h := e_gt dX5_clumps_216 rfl
theorem wX5_clumps_219 : E_ d mX5_clumps 219 ls st h = E_ d mX5_clumps 220 ls (.int (nI 0) :: st) h := e_iconst dX5_clumps_219 kiconst_0 rfl
theorem wX5_clumps_220 : E_ d mX5_clumps 220 [s0, s1, s2, s3, s4, s5, s6, s7, s8, s9, s10, s11] (.int x :: st) h = E_ d mX5_clumps 222 [s0, s1, s2, s3, s4, xk s5, .val (.int x), s7, s8, s9, s10, s11] st h := e_go dX5_clumps_220 rfl rfl
theorem wX5_clumps_222 : E_ d mX5_clumps 222 ls st h = E_ d mX5_clumps 223 ls (.int (nI 0) :: st) h := e_iconst dX5_clumps_222 kiconst_0 rfl
theorem wX5_clumps_223 : E_ d mX5_clumps 223 [s0, s1, s2, s3, s4, s5, s6, s7, s8, s9, s10, s11] (.int x :: st) h = E_ d mX5_clumps 225 [s0, s1, s2, s3, s4, s5, xk s6, .val (.int x), s8, s9, s10, s11] st h := e_go dX5_clumps_223 rfl rfl
theorem wX5_clumps_225 : E_ d mX5_clumps 225 ls st h = E_ d mX5_clumps 226 ls (.int (nI 0) :: st) h := e_iconst dX5_clumps_225 kiconst_0 rfl
theorem wX5_clumps_226 : E_ d mX5_clumps 226 [s0, s1, s2, s3, s4, s5, s6, s7, s8, s9, s10, s11] (.int x :: st) h = E_ d mX5_clumps 228 [s0, s1, s2, s3, s4, s5, s6, xk s7, .val (.int x), s9, s10, s11] st h := e_go dX5_clumps_226 rfl rfl
theorem wX5_clumps_228 : E_ d mX5_clumps 228 [s0, s1, s2, s3, s4, s5, s6, s7, .val (.int x), s9, s10, s11] st h = E_ d mX5_clumps 230 [s0, s1, s2, s3, s4, s5, s6, s7, .val (.int x), s9, s10, s11] (.int x :: st) h := e_go dX5_clumps_228 rfl rfl
theorem wX5_clumps_230 : E_ d mX5_clumps 230 [.val (.ref a), s1, s2, s3, s4, s5, s6, s7, s8, s9, s10, s11] st h = E_ d mX5_clumps 231 [.val (.ref a), s1, s2, s3, s4, s5, s6, s7, s8, s9, s10, s11] (.ref a :: st) h := e_go dX5_clumps_230 rfl rfl
theorem wX5_clumps_231 (ht : oT h a = 7) : E_ d mX5_clumps 231 ls (.ref a :: st) h = E_ d mX5_clumps 234 ls (va_rf (oR h a 34) :: st) h := e_getR0 dX5_clumps_231 rfl rfl ht
theorem wX5_clumps_234 : E_ d mX5_clumps 234 [s0, .val (.int x), s2, s3, s4, s5, s6, s7, s8, s9, s10, s11] st h = E_ d mX5_clumps 235 [s0, .val (.int x), s2, s3, s4, s5, s6, s7, s8, s9, s10, s11] (.int x :: st) h := e_go dX5_clumps_234 rfl rfl
theorem wX5_clumps_235 (ht : oT h a = 40) (hi : xix x (oN h a) = true) : E_ d mX5_clumps 235 ls (.int x :: .ref a :: st) h = E_ d mX5_clumps 236 ls (.int (oI h a x.toNatClampNeg) :: st) h := e_iald dX5_clumps_235 rfl ht hi
theorem wX5_clumps_236 : E_ d mX5_clumps 236 ls (.int y :: .int x :: st) h = if x < y then E_ d mX5_clumps 239 ls st h else E_ d mX5_clumps 344 ls st h := e_ige dX5_clumps_236 rfl rfl
theorem wX5_clumps_239 : E_ d mX5_clumps 239 ls st h = E_ d mX5_clumps 240 ls (.int (nI 0) :: st) h := e_iconst dX5_clumps_239 kiconst_0 rfl
theorem wX5_clumps_240 : E_ d mX5_clumps 240 [s0, s1, s2, s3, s4, s5, s6, s7, s8, s9, s10, s11] (.int x :: st) h = E_ d mX5_clumps 242 [s0, s1, s2, s3, s4, s5, s6, s7, xk s8, .val (.int x), s10, s11] st h := e_go dX5_clumps_240 rfl rfl
theorem wX5_clumps_242 : E_ d mX5_clumps 242 ls st h = E_ d mX5_clumps 243 ls (.int (nI 1) :: st) h := e_iconst dX5_clumps_242 kiconst_1 rfl
theorem wX5_clumps_243 : E_ d mX5_clumps 243 [s0, s1, s2, s3, s4, s5, s6, s7, s8, s9, s10, s11] (.int x :: st) h = E_ d mX5_clumps 245 [s0, s1, s2, s3, s4, s5, s6, s7, s8, xk s9, .val (.int x), s11] st h := e_go dX5_clumps_243 rfl rfl
theorem wX5_clumps_245 : E_ d mX5_clumps 245 ls st h = E_ d mX5_clumps 246 ls (.int (nI 0) :: st) h := e_iconst dX5_clumps_245 kiconst_0 rfl
theorem wX5_clumps_246 : E_ d mX5_clumps 246 [s0, s1, s2, s3, s4, s5, s6, s7, s8, s9, s10, s11] (.int x :: st) h = E_ d mX5_clumps 248 [s0, s1, s2, s3, s4, s5, s6, s7, s8, s9, xk s10, .val (.int x)] st h := e_go dX5_clumps_246 rfl rfl
theorem wX5_clumps_248 : E_ d mX5_clumps 248 [s0, s1, s2, s3, s4, s5, s6, s7, s8, s9, s10, .val (.int x)] st h = E_ d mX5_clumps 250 [s0, s1, s2, s3, s4, s5, s6, s7, s8, s9, s10, .val (.int x)] (.int x :: st) h := e_go dX5_clumps_248 rfl rfl
theorem wX5_clumps_250 : E_ d mX5_clumps 250 [.val (.ref a), s1, s2, s3, s4, s5, s6, s7, s8, s9, s10, s11] st h = E_ d mX5_clumps 251 [.val (.ref a), s1, s2, s3, s4, s5, s6, s7, s8, s9, s10, s11] (.ref a :: st) h := e_go dX5_clumps_250 rfl rfl
theorem wX5_clumps_251 (ht : oT h a = 7) : E_ d mX5_clumps 251 ls (.ref a :: st) h = E_ d mX5_clumps 254 ls (va_rf (oR h a 34) :: st) h := e_getR0 dX5_clumps_251 rfl rfl ht
theorem wX5_clumps_254 : E_ d mX5_clumps 254 [s0, .val (.int x), s2, s3, s4, s5, s6, s7, s8, s9, s10, s11] st h = E_ d mX5_clumps 255 [s0, .val (.int x), s2, s3, s4, s5, s6, s7, s8, s9, s10, s11] (.int x :: st) h := e_go dX5_clumps_254 rfl rfl
theorem wX5_clumps_255 (ht : oT h a = 40) (hi : xix x (oN h a) = true) : E_ d mX5_clumps 255 ls (.int x :: .ref a :: st) h = E_ d mX5_clumps 256 ls (.int (oI h a x.toNatClampNeg) :: st) h := e_iald dX5_clumps_255 rfl ht hi
theorem wX5_clumps_256 : E_ d mX5_clumps 256 ls (.int y :: .int x :: st) h = if x < y then E_ d mX5_clumps 259 ls st h else E_ d mX5_clumps 307 ls st h := e_ige dX5_clumps_256 rfl rfl
theorem wX5_clumps_259 : E_ d mX5_clumps 259 [.val (.ref a), s1, s2, s3, s4, s5, s6, s7, s8, s9, s10, s11] st h = E_ d mX5_clumps 260 [.val (.ref a), s1, s2, s3, s4, s5, s6, s7, s8, s9, s10, s11] (.ref a :: st) h := e_go dX5_clumps_259 rfl rfl
theorem wX5_clumps_260 (ht : oT h a = 7) : E_ d mX5_clumps 260 ls (.ref a :: st) h = E_ d mX5_clumps 263 ls (va_rf (oR h a 32) :: st) h := e_getR0 dX5_clumps_260 rfl rfl ht
theorem wX5_clumps_263 : E_ d mX5_clumps 263 [s0, s1, s2, s3, s4, s5, s6, s7, s8, s9, s10, .val (.int x)] st h = E_ d mX5_clumps 265 [s0, s1, s2, s3, s4, s5, s6, s7, s8, s9, s10, .val (.int x)] (.int x :: st) h := e_go dX5_clumps_263 rfl rfl
theorem wX5_clumps_265 (ht : oT h a = 40) (hi : xix x (oN h a) = true) : E_ d mX5_clumps 265 ls (.int x :: .ref a :: st) h = E_ d mX5_clumps 266 ls (.int (oI h a x.toNatClampNeg) :: st) h := e_iald dX5_clumps_265 rfl ht hi
theorem wX5_clumps_266 : E_ d mX5_clumps 266 [.val (.ref a), s1, s2, s3, s4, s5, s6, s7, s8, s9, s10, s11] st h = E_ d mX5_clumps 267 [.val (.ref a), s1, s2, s3, s4, s5, s6, s7, s8, s9, s10, s11] (.ref a :: st) h := e_go dX5_clumps_266 rfl rfl
theorem wX5_clumps_267 (ht : oT h a = 7) : E_ d mX5_clumps 267 ls (.ref a :: st) h = E_ d mX5_clumps 270 ls (va_rf (oR h a 32) :: st) h := e_getR0 dX5_clumps_267 rfl rfl ht
theorem wX5_clumps_270 : E_ d mX5_clumps 270 [s0, s1, s2, s3, s4, s5, s6, s7, .val (.int x), s9, s10, s11] st h = E_ d mX5_clumps 272 [s0, s1, s2, s3, s4, s5, s6, s7, .val (.int x), s9, s10, s11] (.int x :: st) h := e_go dX5_clumps_270 rfl rfl
theorem wX5_clumps_272 (ht : oT h a = 40) (hi : xix x (oN h a) = true) : E_ d mX5_clumps 272 ls (.int x :: .ref a :: st) h = E_ d mX5_clumps 273 ls (.int (oI h a x.toNatClampNeg) :: st) h := e_iald dX5_clumps_272 rfl ht hi
theorem wX5_clumps_273 : E_ d mX5_clumps 273 ls (.int y :: .int x :: st) h = if x = y then E_ d mX5_clumps 279 ls st h else E_ d mX5_clumps 276 ls st h := e_ieq dX5_clumps_273 rfl rfl
theorem wX5_clumps_276 : E_ d mX5_clumps 276 ls st h = E_ d mX5_clumps 301 ls st h := e_gt dX5_clumps_276 rfl
theorem wX5_clumps_279 : E_ d mX5_clumps 279 [s0, s1, s2, s3, s4, s5, s6, s7, s8, .val (.int x), s10, s11] st h = E_ d mX5_clumps 282 [s0, s1, s2, s3, s4, s5, s6, s7, xk s8, .val (.int (x + nI 1)), s10, s11] st h := by rw [← kiinc_1]; exact e_go dX5_clumps_279 rfl rfl
theorem wX5_clumps_282 : E_ d mX5_clumps 282 [s0, s1, s2, s3, s4, s5, s6, s7, s8, s9, .val (.int x), s11] st h = E_ d mX5_clumps 284 [s0, s1, s2, s3, s4, s5, s6, s7, s8, s9, .val (.int x), s11] (.int x :: st) h := e_go dX5_clumps_282 rfl rfl
theorem wX5_clumps_284 : E_ d mX5_clumps 284 ls (.int x :: st) h = if x = 0 then E_ d mX5_clumps 298 ls st h else E_ d mX5_clumps 287 ls st h := e_zeq dX5_clumps_284 rfl rfl
theorem wX5_clumps_287 : E_ d mX5_clumps 287 [s0, s1, s2, s3, s4, s5, s6, s7, s8, s9, s10, .val (.int x)] st h = E_ d mX5_clumps 289 [s0, s1, s2, s3, s4, s5, s6, s7, s8, s9, s10, .val (.int x)] (.int x :: st) h := e_go dX5_clumps_287 rfl rfl
theorem wX5_clumps_289 : E_ d mX5_clumps 289 [s0, s1, s2, s3, s4, s5, s6, s7, .val (.int x), s9, s10, s11] st h = E_ d mX5_clumps 291 [s0, s1, s2, s3, s4, s5, s6, s7, .val (.int x), s9, s10, s11] (.int x :: st) h := e_go dX5_clumps_289 rfl rfl
theorem wX5_clumps_291 : E_ d mX5_clumps 291 ls (.int y :: .int x :: st) h = if x < y then E_ d mX5_clumps 298 ls st h else E_ d mX5_clumps 294 ls st h := e_ilt dX5_clumps_291 rfl rfl
theorem wX5_clumps_294 : E_ d mX5_clumps 294 ls st h = E_ d mX5_clumps 295 ls (.int (nI 1) :: st) h := e_iconst dX5_clumps_294 kiconst_1 rfl
theorem wX5_clumps_295 : E_ d mX5_clumps 295 ls st h = E_ d mX5_clumps 299 ls st h := e_gt dX5_clumps_295 rfl
theorem wX5_clumps_298 : E_ d mX5_clumps 298 ls st h = E_ d mX5_clumps 299 ls (.int (nI 0) :: st) h := e_iconst dX5_clumps_298 kiconst_0 rfl
theorem wX5_clumps_299 : E_ d mX5_clumps 299 [s0, s1, s2, s3, s4, s5, s6, s7, s8, s9, s10, s11] (.int x :: st) h = E_ d mX5_clumps 301 [s0, s1, s2, s3, s4, s5, s6, s7, s8, xk s9, .val (.int x), s11] st h := e_go dX5_clumps_299 rfl rfl
theorem wX5_clumps_301 : E_ d mX5_clumps 301 [s0, s1, s2, s3, s4, s5, s6, s7, s8, s9, s10, .val (.int x)] st h = E_ d mX5_clumps 304 [s0, s1, s2, s3, s4, s5, s6, s7, s8, s9, xk s10, .val (.int (x + nI 1))] st h := by rw [← kiinc_1]; exact e_go dX5_clumps_301 rfl rfl
theorem wX5_clumps_304 : E_ d mX5_clumps 304 ls st h = E_ d mX5_clumps 248 ls st h := e_gt dX5_clumps_304 rfl
theorem wX5_clumps_307 : E_ d mX5_clumps 307 [s0, s1, s2, s3, s4, s5, s6, s7, s8, .val (.int x), s10, s11] st h = E_ d mX5_clumps 309 [s0, s1, s2, s3, s4, s5, s6, s7, s8, .val (.int x), s10, s11] (.int x :: st) h := e_go dX5_clumps_307 rfl rfl
theorem wX5_clumps_309 : E_ d mX5_clumps 309 [s0, s1, s2, s3, s4, s5, .val (.int x), s7, s8, s9, s10, s11] st h = E_ d mX5_clumps 311 [s0, s1, s2, s3, s4, s5, .val (.int x), s7, s8, s9, s10, s11] (.int x :: st) h := e_go dX5_clumps_309 rfl rfl
theorem wX5_clumps_311 : E_ d mX5_clumps 311 ls (.int y :: .int x :: st) h = if y < x then E_ d mX5_clumps 314 ls st h else E_ d mX5_clumps 319 ls st h := e_ile dX5_clumps_311 rfl rfl
theorem wX5_clumps_314 : E_ d mX5_clumps 314 [s0, s1, s2, s3, s4, s5, s6, s7, s8, .val (.int x), s10, s11] st h = E_ d mX5_clumps 316 [s0, s1, s2, s3, s4, s5, s6, s7, s8, .val (.int x), s10, s11] (.int x :: st) h := e_go dX5_clumps_314 rfl rfl
theorem wX5_clumps_316 : E_ d mX5_clumps 316 ls st h = E_ d mX5_clumps 321 ls st h := e_gt dX5_clumps_316 rfl
theorem wX5_clumps_319 : E_ d mX5_clumps 319 [s0, s1, s2, s3, s4, s5, .val (.int x), s7, s8, s9, s10, s11] st h = E_ d mX5_clumps 321 [s0, s1, s2, s3, s4, s5, .val (.int x), s7, s8, s9, s10, s11] (.int x :: st) h := e_go dX5_clumps_319 rfl rfl
theorem wX5_clumps_321 : E_ d mX5_clumps 321 [s0, s1, s2, s3, s4, s5, s6, s7, s8, s9, s10, s11] (.int x :: st) h = E_ d mX5_clumps 323 [s0, s1, s2, s3, s4, xk s5, .val (.int x), s7, s8, s9, s10, s11] st h := e_go dX5_clumps_321 rfl rfl
theorem wX5_clumps_323 : E_ d mX5_clumps 323 [s0, s1, s2, s3, s4, s5, s6, .val (.int x), s8, s9, s10, s11] st h = E_ d mX5_clumps 325 [s0, s1, s2, s3, s4, s5, s6, .val (.int x), s8, s9, s10, s11] (.int x :: st) h := e_go dX5_clumps_323 rfl rfl
theorem wX5_clumps_325 : E_ d mX5_clumps 325 [s0, s1, s2, s3, s4, s5, s6, s7, s8, s9, .val (.int x), s11] st h = E_ d mX5_clumps 327 [s0, s1, s2, s3, s4, s5, s6, s7, s8, s9, .val (.int x), s11] (.int x :: st) h := e_go dX5_clumps_325 rfl rfl
theorem wX5_clumps_327 : E_ d mX5_clumps 327 ls (.int x :: st) h = if x = 0 then E_ d mX5_clumps 334 ls st h else E_ d mX5_clumps 330 ls st h := e_zeq dX5_clumps_327 rfl rfl
theorem wX5_clumps_330 : E_ d mX5_clumps 330 ls st h = E_ d mX5_clumps 331 ls (.int (nI 1) :: st) h := e_iconst dX5_clumps_330 kiconst_1 rfl
theorem wX5_clumps_331 : E_ d mX5_clumps 331 ls st h = E_ d mX5_clumps 335 ls st h := e_gt dX5_clumps_331 rfl
theorem wX5_clumps_334 : E_ d mX5_clumps 334 ls st h = E_ d mX5_clumps 335 ls (.int (nI 0) :: st) h := e_iconst dX5_clumps_334 kiconst_0 rfl
theorem wX5_clumps_335 : E_ d mX5_clumps 335 ls (.int y :: .int x :: st) h = E_ d mX5_clumps 336 ls (.int (x + y) :: st) h := e_go dX5_clumps_335 rfl rfl
theorem wX5_clumps_336 : E_ d mX5_clumps 336 [s0, s1, s2, s3, s4, s5, s6, s7, s8, s9, s10, s11] (.int x :: st) h = E_ d mX5_clumps 338 [s0, s1, s2, s3, s4, s5, xk s6, .val (.int x), s8, s9, s10, s11] st h := e_go dX5_clumps_336 rfl rfl
theorem wX5_clumps_338 : E_ d mX5_clumps 338 [s0, s1, s2, s3, s4, s5, s6, s7, .val (.int x), s9, s10, s11] st h = E_ d mX5_clumps 341 [s0, s1, s2, s3, s4, s5, s6, xk s7, .val (.int (x + nI 1)), s9, s10, s11] st h := by rw [← kiinc_1]; exact e_go dX5_clumps_338 rfl rfl
theorem wX5_clumps_341 : E_ d mX5_clumps 341 ls st h = E_ d mX5_clumps 228 ls st h := e_gt dX5_clumps_341 rfl
theorem wX5_clumps_344 : E_ d mX5_clumps 344 [s0, s1, s2, s3, .val (.int x), s5, s6, s7, s8, s9, s10, s11] st h = E_ d mX5_clumps 346 [s0, s1, s2, s3, .val (.int x), s5, s6, s7, s8, s9, s10, s11] (.int x :: st) h := e_go dX5_clumps_344 rfl rfl
theorem wX5_clumps_346 : E_ d mX5_clumps 346 ls (.int x :: st) h = if x = 0 then E_ d mX5_clumps 349 ls st h else E_ d mX5_clumps 354 ls st h := e_zne dX5_clumps_346 rfl rfl
theorem wX5_clumps_349 : E_ d mX5_clumps 349 [s0, s1, s2, s3, s4, .val (.int x), s6, s7, s8, s9, s10, s11] st h = E_ d mX5_clumps 351 [s0, s1, s2, s3, s4, .val (.int x), s6, s7, s8, s9, s10, s11] (.int x :: st) h := e_go dX5_clumps_349 rfl rfl
theorem wX5_clumps_351 : E_ d mX5_clumps 351 ls st h = E_ d mX5_clumps 367 ls st h := e_gt dX5_clumps_351 rfl
theorem wX5_clumps_354 : E_ d mX5_clumps 354 [s0, s1, s2, s3, .val (.int x), s5, s6, s7, s8, s9, s10, s11] st h = E_ d mX5_clumps 356 [s0, s1, s2, s3, .val (.int x), s5, s6, s7, s8, s9, s10, s11] (.int x :: st) h := e_go dX5_clumps_354 rfl rfl
theorem wX5_clumps_356 : E_ d mX5_clumps 356 ls st h = E_ d mX5_clumps 357 ls (.int (nI 1) :: st) h := e_iconst dX5_clumps_356 kiconst_1 rfl
theorem wX5_clumps_357 : E_ d mX5_clumps 357 ls (.int y :: .int x :: st) h = if x = y then E_ d mX5_clumps 360 ls st h else E_ d mX5_clumps 365 ls st h := e_ine dX5_clumps_357 rfl rfl
theorem wX5_clumps_360 : E_ d mX5_clumps 360 [s0, s1, s2, s3, s4, s5, .val (.int x), s7, s8, s9, s10, s11] st h = E_ d mX5_clumps 362 [s0, s1, s2, s3, s4, s5, .val (.int x), s7, s8, s9, s10, s11] (.int x :: st) h := e_go dX5_clumps_360 rfl rfl
theorem wX5_clumps_362 : E_ d mX5_clumps 362 ls st h = E_ d mX5_clumps 367 ls st h := e_gt dX5_clumps_362 rfl
theorem wX5_clumps_365 : E_ d mX5_clumps 365 [s0, s1, s2, s3, s4, s5, s6, .val (.int x), s8, s9, s10, s11] st h = E_ d mX5_clumps 367 [s0, s1, s2, s3, s4, s5, s6, .val (.int x), s8, s9, s10, s11] (.int x :: st) h := e_go dX5_clumps_365 rfl rfl
theorem wX5_clumps_367 : E_ d mX5_clumps 367 ls [.int x] h = some (some (.int x), h) := e_rt dX5_clumps_367 rfl rfl
/-! FootOutModel.lamp -/
theorem wX5_lamp_0 : E_ d mX5_lamp 0 [.val (.ref a), s1, s2, s3, s4, s5, s6, s7, s8, s9, s10, s11] st h = E_ d mX5_lamp 1 [.val (.ref a), s1, s2, s3, s4, s5, s6, s7, s8, s9, s10, s11] (.ref a :: st) h := e_go dX5_lamp_0 rfl rfl
theorem wX5_lamp_1 : E_ d mX5_lamp 1 ls st h = E_ d mX5_lamp 2 ls (.int (nI 0) :: st) h := e_iconst dX5_lamp_1 kiconst_0 rfl
theorem wX5_lamp_2 (ht : oT h a = 7) : E_ d mX5_lamp 2 ls (.int x :: .ref a :: st) h = E_ d mX5_lamp 5 ls st (pI h a (va_up (oI h a) 0 x)) := e_putI dX5_lamp_2 rfl rfl ht
theorem wX5_lamp_5 : E_ d mX5_lamp 5 [s0, s1, s2, .val (.int x), s4, s5, s6, s7, s8, s9, s10, s11] st h = E_ d mX5_lamp 6 [s0, s1, s2, .val (.int x), s4, s5, s6, s7, s8, s9, s10, s11] (.int x :: st) h := e_go dX5_lamp_5 rfl rfl
theorem wX5_lamp_6 : E_ d mX5_lamp 6 ls (.int x :: st) h = E_ d mX5_lamp 7 ls (.long x.toInt64 :: st) h := e_go dX5_lamp_6 rfl rfl
theorem wX5_lamp_7 : E_ d mX5_lamp 7 ls st h = E_ d mX5_lamp 8 ls (.long 0 :: st) h := e_go dX5_lamp_7 rfl rfl
theorem wX5_lamp_8 : E_ d mX5_lamp 8 ls st h = E_ d mX5_lamp 9 ls (.long 1 :: st) h := e_go dX5_lamp_8 rfl rfl
theorem wX5_lamp_9 : E_ (d + 1) mX5_lamp 9 ls [.long u3, .long u2, .long u1] h = (C_ d mX5_within [.long u1, .long u2, .long u3] h).bind fun r => E_ (d + 1) mX5_lamp 12 ls (xpu r.1 []) r.2 := e_call dX5_lamp_9 rfl rfl
theorem wX5_lamp_12 : E_ d mX5_lamp 12 ls (.int x :: st) h = if x = 0 then E_ d mX5_lamp 15 ls st h else E_ d mX5_lamp 22 ls st h := e_zne dX5_lamp_12 rfl rfl
theorem wX5_lamp_15 : E_ d mX5_lamp 15 [.val (.ref a), s1, s2, s3, s4, s5, s6, s7, s8, s9, s10, s11] st h = E_ d mX5_lamp 16 [.val (.ref a), s1, s2, s3, s4, s5, s6, s7, s8, s9, s10, s11] (.ref a :: st) h := e_go dX5_lamp_15 rfl rfl
theorem wX5_lamp_16 : E_ d mX5_lamp 16 ls st h = E_ d mX5_lamp 18 ls (.int ((-2)) :: st) h := e_bipush dX5_lamp_16 kbipush_m2 rfl
theorem wX5_lamp_18 (ht : oT h a = 7) : E_ (d + 1) mX5_lamp 18 ls [.int x1, .ref a] h = (C_ d mX5_no [.ref a, .int x1] h).bind fun r => E_ (d + 1) mX5_lamp 21 ls (xpu r.1 []) r.2 := e_vir dX5_lamp_18 rfl rfl rfl rfl rfl rfl (Nat.le_of_ble_eq_true rfl) (Nat.le_of_ble_eq_true rfl) ht
theorem wX5_lamp_21 : E_ d mX5_lamp 21 ls [.int x] h = some (some (.int x), h) := e_rt dX5_lamp_21 rfl rfl
theorem wX5_lamp_22 : E_ d mX5_lamp 22 [s0, .val (.int x), s2, s3, s4, s5, s6, s7, s8, s9, s10, s11] st h = E_ d mX5_lamp 23 [s0, .val (.int x), s2, s3, s4, s5, s6, s7, s8, s9, s10, s11] (.int x :: st) h := e_go dX5_lamp_22 rfl rfl
theorem wX5_lamp_23 : E_ d mX5_lamp 23 ls (.int x :: st) h = E_ d mX5_lamp 24 ls (.long x.toInt64 :: st) h := e_go dX5_lamp_23 rfl rfl
theorem wX5_lamp_24 : E_ d mX5_lamp 24 ls st h = E_ d mX5_lamp 25 ls (.long 0 :: st) h := e_go dX5_lamp_24 rfl rfl
theorem wX5_lamp_25 : E_ d mX5_lamp 25 ls st h = E_ d mX5_lamp 28 ls (.long (999) :: st) h := e_go dX5_lamp_25 rfl rfl
theorem wX5_lamp_28 : E_ (d + 1) mX5_lamp 28 ls [.long u3, .long u2, .long u1] h = (C_ d mX5_within [.long u1, .long u2, .long u3] h).bind fun r => E_ (d + 1) mX5_lamp 31 ls (xpu r.1 []) r.2 := e_call dX5_lamp_28 rfl rfl
theorem wX5_lamp_31 : E_ d mX5_lamp 31 ls (.int x :: st) h = if x = 0 then E_ d mX5_lamp 46 ls st h else E_ d mX5_lamp 34 ls st h := e_zeq dX5_lamp_31 rfl rfl
theorem wX5_lamp_34 : E_ d mX5_lamp 34 [s0, s1, .val (.int x), s3, s4, s5, s6, s7, s8, s9, s10, s11] st h = E_ d mX5_lamp 35 [s0, s1, .val (.int x), s3, s4, s5, s6, s7, s8, s9, s10, s11] (.int x :: st) h := e_go dX5_lamp_34 rfl rfl
theorem wX5_lamp_35 : E_ d mX5_lamp 35 ls (.int x :: st) h = E_ d mX5_lamp 36 ls (.long x.toInt64 :: st) h := e_go dX5_lamp_35 rfl rfl
theorem wX5_lamp_36 : E_ d mX5_lamp 36 ls st h = E_ d mX5_lamp 37 ls (.long 0 :: st) h := e_go dX5_lamp_36 rfl rfl
theorem wX5_lamp_37 : E_ d mX5_lamp 37 ls st h = E_ d mX5_lamp 40 ls (.long (999) :: st) h := e_go dX5_lamp_37 rfl rfl
theorem wX5_lamp_40 : E_ (d + 1) mX5_lamp 40 ls [.long u3, .long u2, .long u1] h = (C_ d mX5_within [.long u1, .long u2, .long u3] h).bind fun r => E_ (d + 1) mX5_lamp 43 ls (xpu r.1 []) r.2 := e_call dX5_lamp_40 rfl rfl
theorem wX5_lamp_43 : E_ d mX5_lamp 43 ls (.int x :: st) h = if x = 0 then E_ d mX5_lamp 46 ls st h else E_ d mX5_lamp 53 ls st h := e_zne dX5_lamp_43 rfl rfl
theorem wX5_lamp_46 : E_ d mX5_lamp 46 [.val (.ref a), s1, s2, s3, s4, s5, s6, s7, s8, s9, s10, s11] st h = E_ d mX5_lamp 47 [.val (.ref a), s1, s2, s3, s4, s5, s6, s7, s8, s9, s10, s11] (.ref a :: st) h := e_go dX5_lamp_46 rfl rfl
theorem wX5_lamp_47 : E_ d mX5_lamp 47 ls st h = E_ d mX5_lamp 49 ls (.int ((-3)) :: st) h := e_bipush dX5_lamp_47 kbipush_m3 rfl
theorem wX5_lamp_49 (ht : oT h a = 7) : E_ (d + 1) mX5_lamp 49 ls [.int x1, .ref a] h = (C_ d mX5_no [.ref a, .int x1] h).bind fun r => E_ (d + 1) mX5_lamp 52 ls (xpu r.1 []) r.2 := e_vir dX5_lamp_49 rfl rfl rfl rfl rfl rfl (Nat.le_of_ble_eq_true rfl) (Nat.le_of_ble_eq_true rfl) ht
theorem wX5_lamp_52 : E_ d mX5_lamp 52 ls [.int x] h = some (some (.int x), h) := e_rt dX5_lamp_52 rfl rfl
theorem wX5_lamp_53 : E_ d mX5_lamp 53 ls st h = E_ d mX5_lamp 54 ls (.int (nI 0) :: st) h := e_iconst dX5_lamp_53 kiconst_0 rfl
theorem wX5_lamp_54 : E_ d mX5_lamp 54 [s0, s1, s2, s3, s4, s5, s6, s7, s8, s9, s10, s11] (.int x :: st) h = E_ d mX5_lamp 56 [s0, s1, s2, xk s3, .val (.int x), s5, s6, s7, s8, s9, s10, s11] st h := e_go dX5_lamp_54 rfl rfl
theorem wX5_lamp_56 : E_ d mX5_lamp 56 ls st h = E_ d mX5_lamp 57 ls (.int (nI 0) :: st) h := e_iconst dX5_lamp_56 kiconst_0 rfl
theorem wX5_lamp_57 : E_ d mX5_lamp 57 [s0, s1, s2, s3, s4, s5, s6, s7, s8, s9, s10, s11] (.int x :: st) h = E_ d mX5_lamp 59 [s0, s1, s2, s3, xk s4, .val (.int x), s6, s7, s8, s9, s10, s11] st h := e_go dX5_lamp_57 rfl rfl
theorem wX5_lamp_59 : E_ d mX5_lamp 59 ls st h = E_ d mX5_lamp 60 ls (.long 0 :: st) h := e_go dX5_lamp_59 rfl rfl
theorem wX5_lamp_60 : E_ d mX5_lamp 60 [s0, s1, s2, s3, s4, s5, s6, s7, s8, s9, s10, s11] (.long u :: st) h = E_ d mX5_lamp 62 [s0, s1, s2, s3, s4, xk s5, .val (.long u), .unset, s8, s9, s10, s11] st h := e_go dX5_lamp_60 rfl rfl
theorem wX5_lamp_62 : E_ d mX5_lamp 62 ls st h = E_ d mX5_lamp 64 ls (.int (nI 20) :: st) h := e_bipush dX5_lamp_62 kbipush_20 rfl
theorem wX5_lamp_64 : E_ d mX5_lamp 64 [s0, s1, s2, s3, s4, s5, s6, s7, s8, s9, s10, s11] (.int x :: st) h = E_ d mX5_lamp 66 [s0, s1, s2, s3, s4, s5, s6, xk s7, .val (.int x), s9, s10, s11] st h := e_go dX5_lamp_64 rfl rfl
theorem wX5_lamp_66 : E_ d mX5_lamp 66 [s0, s1, s2, s3, s4, s5, s6, s7, .val (.int x), s9, s10, s11] st h = E_ d mX5_lamp 68 [s0, s1, s2, s3, s4, s5, s6, s7, .val (.int x), s9, s10, s11] (.int x :: st) h := e_go dX5_lamp_66 rfl rfl
theorem wX5_lamp_68 : E_ d mX5_lamp 68 ls st h = E_ d mX5_lamp 70 ls (.int (nI 120) :: st) h := e_bipush dX5_lamp_68 kbipush_120 rfl
theorem wX5_lamp_70 : E_ d mX5_lamp 70 ls (.int y :: .int x :: st) h = if y < x then E_ d mX5_lamp 163 ls st h else E_ d mX5_lamp 73 ls st h := e_igt dX5_lamp_70 rfl rfl
theorem wX5_lamp_73 : E_ d mX5_lamp 73 ls st h = E_ d mX5_lamp 74 ls (.int (nI 5) :: st) h := e_iconst dX5_lamp_73 kiconst_5 rfl
theorem wX5_lamp_74 : E_ d mX5_lamp 74 [s0, s1, s2, s3, s4, s5, s6, s7, s8, s9, s10, s11] (.int x :: st) h = E_ d mX5_lamp 76 [s0, s1, s2, s3, s4, s5, s6, s7, xk s8, .val (.int x), s10, s11] st h := e_go dX5_lamp_74 rfl rfl
theorem wX5_lamp_76 : E_ d mX5_lamp 76 [s0, s1, s2, s3, s4, s5, s6, s7, s8, .val (.int x), s10, s11] st h = E_ d mX5_lamp 78 [s0, s1, s2, s3, s4, s5, s6, s7, s8, .val (.int x), s10, s11] (.int x :: st) h := e_go dX5_lamp_76 rfl rfl
theorem wX5_lamp_78 : E_ d mX5_lamp 78 [s0, s1, s2, s3, s4, s5, s6, s7, .val (.int x), s9, s10, s11] st h = E_ d mX5_lamp 80 [s0, s1, s2, s3, s4, s5, s6, s7, .val (.int x), s9, s10, s11] (.int x :: st) h := e_go dX5_lamp_78 rfl rfl
theorem wX5_lamp_80 : E_ d mX5_lamp 80 ls st h = E_ d mX5_lamp 82 ls (.int (nI 10) :: st) h := e_bipush dX5_lamp_80 kbipush_10 rfl
theorem wX5_lamp_82 : E_ d mX5_lamp 82 ls (.int y :: .int x :: st) h = E_ d mX5_lamp 83 ls (.int (x - y) :: st) h := e_go dX5_lamp_82 rfl rfl
theorem wX5_lamp_83 : E_ d mX5_lamp 83 ls (.int y :: .int x :: st) h = if y < x then E_ d mX5_lamp 157 ls st h else E_ d mX5_lamp 86 ls st h := e_igt dX5_lamp_83 rfl rfl
theorem wX5_lamp_86 : E_ d mX5_lamp 86 [s0, .val (.int x), s2, s3, s4, s5, s6, s7, s8, s9, s10, s11] st h = E_ d mX5_lamp 87 [s0, .val (.int x), s2, s3, s4, s5, s6, s7, s8, s9, s10, s11] (.int x :: st) h := e_go dX5_lamp_86 rfl rfl
theorem wX5_lamp_87 : E_ d mX5_lamp 87 ls (.int x :: st) h = E_ d mX5_lamp 88 ls (.long x.toInt64 :: st) h := e_go dX5_lamp_87 rfl rfl
theorem wX5_lamp_88 : E_ d mX5_lamp 88 [s0, s1, s2, s3, s4, s5, s6, s7, s8, .val (.int x), s10, s11] st h = E_ d mX5_lamp 90 [s0, s1, s2, s3, s4, s5, s6, s7, s8, .val (.int x), s10, s11] (.int x :: st) h := e_go dX5_lamp_88 rfl rfl
theorem wX5_lamp_90 : E_ d mX5_lamp 90 ls (.int x :: st) h = E_ d mX5_lamp 91 ls (.long x.toInt64 :: st) h := e_go dX5_lamp_90 rfl rfl
theorem wX5_lamp_91 : E_ d mX5_lamp 91 ls (.long v :: .long u :: st) h = E_ d mX5_lamp 92 ls (.long (u * v) :: st) h := e_go dX5_lamp_91 rfl rfl
theorem wX5_lamp_92 : E_ d mX5_lamp 92 [s0, s1, s2, s3, s4, s5, s6, s7, s8, .val (.int x), s10, s11] st h = E_ d mX5_lamp 94 [s0, s1, s2, s3, s4, s5, s6, s7, s8, .val (.int x), s10, s11] (.int x :: st) h := e_go dX5_lamp_92 rfl rfl
theorem wX5_lamp_94 : E_ d mX5_lamp 94 ls (.int x :: st) h = E_ d mX5_lamp 95 ls (.long x.toInt64 :: st) h := e_go dX5_lamp_94 rfl rfl
theorem wX5_lamp_95 : E_ d mX5_lamp 95 ls (.long v :: .long u :: st) h = E_ d mX5_lamp 96 ls (.long (u * v) :: st) h := e_go dX5_lamp_95 rfl rfl
theorem wX5_lamp_96 : E_ d mX5_lamp 96 [s0, s1, .val (.int x), s3, s4, s5, s6, s7, s8, s9, s10, s11] st h = E_ d mX5_lamp 97 [s0, s1, .val (.int x), s3, s4, s5, s6, s7, s8, s9, s10, s11] (.int x :: st) h := e_go dX5_lamp_96 rfl rfl
theorem wX5_lamp_97 : E_ d mX5_lamp 97 ls (.int x :: st) h = E_ d mX5_lamp 98 ls (.long x.toInt64 :: st) h := e_go dX5_lamp_97 rfl rfl
theorem wX5_lamp_98 : E_ d mX5_lamp 98 [s0, s1, s2, s3, s4, s5, s6, s7, .val (.int x), s9, s10, s11] st h = E_ d mX5_lamp 100 [s0, s1, s2, s3, s4, s5, s6, s7, .val (.int x), s9, s10, s11] (.int x :: st) h := e_go dX5_lamp_98 rfl rfl
theorem wX5_lamp_100 : E_ d mX5_lamp 100 [s0, s1, s2, s3, s4, s5, s6, s7, s8, .val (.int x), s10, s11] st h = E_ d mX5_lamp 102 [s0, s1, s2, s3, s4, s5, s6, s7, s8, .val (.int x), s10, s11] (.int x :: st) h := e_go dX5_lamp_100 rfl rfl
theorem wX5_lamp_102 : E_ d mX5_lamp 102 ls (.int y :: .int x :: st) h = E_ d mX5_lamp 103 ls (.int (x - y) :: st) h := e_go dX5_lamp_102 rfl rfl
theorem wX5_lamp_103 : E_ d mX5_lamp 103 ls (.int x :: st) h = E_ d mX5_lamp 104 ls (.long x.toInt64 :: st) h := e_go dX5_lamp_103 rfl rfl
theorem wX5_lamp_104 : E_ d mX5_lamp 104 ls (.long v :: .long u :: st) h = E_ d mX5_lamp 105 ls (.long (u * v) :: st) h := e_go dX5_lamp_104 rfl rfl
theorem wX5_lamp_105 : E_ d mX5_lamp 105 [s0, s1, s2, s3, s4, s5, s6, s7, .val (.int x), s9, s10, s11] st h = E_ d mX5_lamp 107 [s0, s1, s2, s3, s4, s5, s6, s7, .val (.int x), s9, s10, s11] (.int x :: st) h := e_go dX5_lamp_105 rfl rfl
theorem wX5_lamp_107 : E_ d mX5_lamp 107 [s0, s1, s2, s3, s4, s5, s6, s7, s8, .val (.int x), s10, s11] st h = E_ d mX5_lamp 109 [s0, s1, s2, s3, s4, s5, s6, s7, s8, .val (.int x), s10, s11] (.int x :: st) h := e_go dX5_lamp_107 rfl rfl
theorem wX5_lamp_109 : E_ d mX5_lamp 109 ls (.int y :: .int x :: st) h = E_ d mX5_lamp 110 ls (.int (x - y) :: st) h := e_go dX5_lamp_109 rfl rfl
theorem wX5_lamp_110 : E_ d mX5_lamp 110 ls (.int x :: st) h = E_ d mX5_lamp 111 ls (.long x.toInt64 :: st) h := e_go dX5_lamp_110 rfl rfl
theorem wX5_lamp_111 : E_ d mX5_lamp 111 ls (.long v :: .long u :: st) h = E_ d mX5_lamp 112 ls (.long (u * v) :: st) h := e_go dX5_lamp_111 rfl rfl
theorem wX5_lamp_112 : E_ d mX5_lamp 112 ls (.long v :: .long u :: st) h = E_ d mX5_lamp 113 ls (.long (u + v) :: st) h := e_go dX5_lamp_112 rfl rfl
theorem wX5_lamp_113 : E_ d mX5_lamp 113 [s0, s1, s2, s3, s4, s5, s6, s7, s8, s9, s10, s11] (.long u :: st) h = E_ d mX5_lamp 115 [s0, s1, s2, s3, s4, s5, s6, s7, s8, xk s9, .val (.long u), .unset] st h := e_go dX5_lamp_113 rfl rfl
theorem wX5_lamp_115 : E_ d mX5_lamp 115 [s0, s1, s2, s3, .val (.int x), s5, s6, s7, s8, s9, s10, s11] st h = E_ d mX5_lamp 117 [s0, s1, s2, s3, .val (.int x), s5, s6, s7, s8, s9, s10, s11] (.int x :: st) h := e_go dX5_lamp_115 rfl rfl
theorem wX5_lamp_117 : E_ d mX5_lamp 117 ls (.int x :: st) h = if 0 < x then E_ d mX5_lamp 120 ls st h else E_ d mX5_lamp 139 ls st h := e_zle dX5_lamp_117 rfl rfl
theorem wX5_lamp_120 : E_ d mX5_lamp 120 [s0, s1, s2, s3, s4, s5, s6, s7, s8, s9, .val (.long u), s11] st h = E_ d mX5_lamp 122 [s0, s1, s2, s3, s4, s5, s6, s7, s8, s9, .val (.long u), s11] (.long u :: st) h := e_go dX5_lamp_120 rfl rfl
theorem wX5_lamp_122 : E_ d mX5_lamp 122 [s0, s1, s2, s3, .val (.int x), s5, s6, s7, s8, s9, s10, s11] st h = E_ d mX5_lamp 124 [s0, s1, s2, s3, .val (.int x), s5, s6, s7, s8, s9, s10, s11] (.int x :: st) h := e_go dX5_lamp_122 rfl rfl
theorem wX5_lamp_124 : E_ d mX5_lamp 124 ls (.int x :: st) h = E_ d mX5_lamp 125 ls (.long x.toInt64 :: st) h := e_go dX5_lamp_124 rfl rfl
theorem wX5_lamp_125 : E_ d mX5_lamp 125 ls (.long v :: .long u :: st) h = E_ d mX5_lamp 126 ls (.long (u * v) :: st) h := e_go dX5_lamp_125 rfl rfl
theorem wX5_lamp_126 : E_ d mX5_lamp 126 [s0, s1, s2, s3, s4, s5, .val (.long u), s7, s8, s9, s10, s11] st h = E_ d mX5_lamp 128 [s0, s1, s2, s3, s4, s5, .val (.long u), s7, s8, s9, s10, s11] (.long u :: st) h := e_go dX5_lamp_126 rfl rfl
theorem wX5_lamp_128 : E_ d mX5_lamp 128 [s0, s1, s2, s3, s4, s5, s6, s7, .val (.int x), s9, s10, s11] st h = E_ d mX5_lamp 130 [s0, s1, s2, s3, s4, s5, s6, s7, .val (.int x), s9, s10, s11] (.int x :: st) h := e_go dX5_lamp_128 rfl rfl
theorem wX5_lamp_130 : E_ d mX5_lamp 130 ls (.int x :: st) h = E_ d mX5_lamp 131 ls (.long x.toInt64 :: st) h := e_go dX5_lamp_130 rfl rfl
theorem wX5_lamp_131 : E_ d mX5_lamp 131 ls (.long v :: .long u :: st) h = E_ d mX5_lamp 132 ls (.long (u * v) :: st) h := e_go dX5_lamp_131 rfl rfl
theorem wX5_lamp_132 : E_ d mX5_lamp 132 ls (.long v :: .long u :: st) h = E_ d mX5_lamp 133 ls (.int (lg_cmp u v) :: st) h := e_go dX5_lamp_132 rfl rfl
theorem wX5_lamp_133 : E_ d mX5_lamp 133 ls (.int x :: st) h = if x < 0 then E_ d mX5_lamp 139 ls st h else E_ d mX5_lamp 136 ls st h := e_zlt dX5_lamp_133 rfl rfl
theorem wX5_lamp_136 : E_ d mX5_lamp 136 ls st h = E_ d mX5_lamp 151 ls st h := e_gt dX5_lamp_136 rfl
theorem wX5_lamp_139 : E_ d mX5_lamp 139 [s0, s1, s2, s3, s4, s5, s6, s7, .val (.int x), s9, s10, s11] st h = E_ d mX5_lamp 141 [s0, s1, s2, s3, s4, s5, s6, s7, .val (.int x), s9, s10, s11] (.int x :: st) h := e_go dX5_lamp_139 rfl rfl
theorem wX5_lamp_141 : E_ d mX5_lamp 141 [s0, s1, s2, s3, s4, s5, s6, s7, s8, s9, s10, s11] (.int x :: st) h = E_ d mX5_lamp 143 [s0, s1, s2, xk s3, .val (.int x), s5, s6, s7, s8, s9, s10, s11] st h := e_go dX5_lamp_141 rfl rfl
theorem wX5_lamp_143 : E_ d mX5_lamp 143 [s0, s1, s2, s3, s4, s5, s6, s7, s8, .val (.int x), s10, s11] st h = E_ d mX5_lamp 145 [s0, s1, s2, s3, s4, s5, s6, s7, s8, .val (.int x), s10, s11] (.int x :: st) h := e_go dX5_lamp_143 rfl rfl
theorem wX5_lamp_145 : E_ d mX5_lamp 145 [s0, s1, s2, s3, s4, s5, s6, s7, s8, s9, s10, s11] (.int x :: st) h = E_ d mX5_lamp 147 [s0, s1, s2, s3, xk s4, .val (.int x), s6, s7, s8, s9, s10, s11] st h := e_go dX5_lamp_145 rfl rfl
theorem wX5_lamp_147 : E_ d mX5_lamp 147 [s0, s1, s2, s3, s4, s5, s6, s7, s8, s9, .val (.long u), s11] st h = E_ d mX5_lamp 149 [s0, s1, s2, s3, s4, s5, s6, s7, s8, s9, .val (.long u), s11] (.long u :: st) h := e_go dX5_lamp_147 rfl rfl
theorem wX5_lamp_149 : E_ d mX5_lamp 149 [s0, s1, s2, s3, s4, s5, s6, s7, s8, s9, s10, s11] (.long u :: st) h = E_ d mX5_lamp 151 [s0, s1, s2, s3, s4, xk s5, .val (.long u), .unset, s8, s9, s10, s11] st h := e_go dX5_lamp_149 rfl rfl
theorem wX5_lamp_151 : E_ d mX5_lamp 151 [s0, s1, s2, s3, s4, s5, s6, s7, s8, .val (.int x), s10, s11] st h = E_ d mX5_lamp 154 [s0, s1, s2, s3, s4, s5, s6, s7, xk s8, .val (.int (x + nI 1)), s10, s11] st h := by rw [← kiinc_1]; exact e_go dX5_lamp_151 rfl rfl
theorem wX5_lamp_154 : E_ d mX5_lamp 154 ls st h = E_ d mX5_lamp 76 ls st h := e_gt dX5_lamp_154 rfl
theorem wX5_lamp_157 : E_ d mX5_lamp 157 [s0, s1, s2, s3, s4, s5, s6, s7, .val (.int x), s9, s10, s11] st h = E_ d mX5_lamp 160 [s0, s1, s2, s3, s4, s5, s6, xk s7, .val (.int (x + nI 1)), s9, s10, s11] st h := by rw [← kiinc_1]; exact e_go dX5_lamp_157 rfl rfl
theorem wX5_lamp_160 : E_ d mX5_lamp 160 ls st h = E_ d mX5_lamp 66 ls st h := e_gt dX5_lamp_160 rfl
theorem wX5_lamp_163 : E_ d mX5_lamp 163 [s0, s1, s2, .val (.int x), s4, s5, s6, s7, s8, s9, s10, s11] st h = E_ d mX5_lamp 164 [s0, s1, s2, .val (.int x), s4, s5, s6, s7, s8, s9, s10, s11] (.int x :: st) h := e_go dX5_lamp_163 rfl rfl
theorem wX5_lamp_164 : E_ d mX5_lamp 164 ls (.int x :: st) h = if x = 0 then E_ d mX5_lamp 167 ls st h else E_ d mX5_lamp 172 ls st h := e_zne dX5_lamp_164 rfl rfl
theorem wX5_lamp_167 : E_ d mX5_lamp 167 [s0, s1, s2, s3, .val (.int x), s5, s6, s7, s8, s9, s10, s11] st h = E_ d mX5_lamp 169 [s0, s1, s2, s3, .val (.int x), s5, s6, s7, s8, s9, s10, s11] (.int x :: st) h := e_go dX5_lamp_167 rfl rfl
theorem wX5_lamp_169 : E_ d mX5_lamp 169 ls st h = E_ d mX5_lamp 174 ls st h := e_gt dX5_lamp_169 rfl
theorem wX5_lamp_172 : E_ d mX5_lamp 172 [s0, s1, s2, s3, s4, .val (.int x), s6, s7, s8, s9, s10, s11] st h = E_ d mX5_lamp 174 [s0, s1, s2, s3, s4, .val (.int x), s6, s7, s8, s9, s10, s11] (.int x :: st) h := e_go dX5_lamp_172 rfl rfl
theorem wX5_lamp_174 : E_ d mX5_lamp 174 ls [.int x] h = some (some (.int x), h) := e_rt dX5_lamp_174 rfl rfl
/-! FootOutModel.pay -/
theorem wX5_pay_0 : E_ d mX5_pay 0 [.val (.ref a), s1, s2, s3, s4, s5] st h = E_ d mX5_pay 1 [.val (.ref a), s1, s2, s3, s4, s5] (.ref a :: st) h := e_go dX5_pay_0 rfl rfl
theorem wX5_pay_1 : E_ d mX5_pay 1 ls st h = E_ d mX5_pay 2 ls (.int (nI 0) :: st) h := e_iconst dX5_pay_1 kiconst_0 rfl
theorem wX5_pay_2 (ht : oT h a = 7) : E_ d mX5_pay 2 ls (.int x :: .ref a :: st) h = E_ d mX5_pay 5 ls st (pI h a (va_up (oI h a) 0 x)) := e_putI dX5_pay_2 rfl rfl ht
theorem wX5_pay_5 : E_ d mX5_pay 5 [s0, .val (.int x), s2, s3, s4, s5] st h = E_ d mX5_pay 6 [s0, .val (.int x), s2, s3, s4, s5] (.int x :: st) h := e_go dX5_pay_5 rfl rfl
theorem wX5_pay_6 : E_ d mX5_pay 6 ls (.int x :: st) h = E_ d mX5_pay 7 ls (.long x.toInt64 :: st) h := e_go dX5_pay_6 rfl rfl
theorem wX5_pay_7 : E_ d mX5_pay 7 ls st h = E_ d mX5_pay 8 ls (.long 0 :: st) h := e_go dX5_pay_7 rfl rfl
theorem wX5_pay_8 : E_ d mX5_pay 8 ls st h = E_ d mX5_pay 9 ls (.long 1 :: st) h := e_go dX5_pay_8 rfl rfl
theorem wX5_pay_9 : E_ (d + 1) mX5_pay 9 ls [.long u3, .long u2, .long u1] h = (C_ d mX5_within [.long u1, .long u2, .long u3] h).bind fun r => E_ (d + 1) mX5_pay 12 ls (xpu r.1 []) r.2 := e_call dX5_pay_9 rfl rfl
theorem wX5_pay_12 : E_ d mX5_pay 12 ls (.int x :: st) h = if x = 0 then E_ d mX5_pay 52 ls st h else E_ d mX5_pay 15 ls st h := e_zeq dX5_pay_12 rfl rfl
theorem wX5_pay_15 : E_ d mX5_pay 15 [s0, s1, .val (.int x), s3, s4, s5] st h = E_ d mX5_pay 16 [s0, s1, .val (.int x), s3, s4, s5] (.int x :: st) h := e_go dX5_pay_15 rfl rfl
theorem wX5_pay_16 : E_ d mX5_pay 16 ls (.int x :: st) h = E_ d mX5_pay 17 ls (.long x.toInt64 :: st) h := e_go dX5_pay_16 rfl rfl
theorem wX5_pay_17 : E_ d mX5_pay 17 ls st h = E_ d mX5_pay 18 ls (.long 0 :: st) h := e_go dX5_pay_17 rfl rfl
theorem wX5_pay_18 : E_ d mX5_pay 18 ls st h = E_ d mX5_pay 19 ls (.long 1 :: st) h := e_go dX5_pay_18 rfl rfl
theorem wX5_pay_19 : E_ (d + 1) mX5_pay 19 ls [.long u3, .long u2, .long u1] h = (C_ d mX5_within [.long u1, .long u2, .long u3] h).bind fun r => E_ (d + 1) mX5_pay 22 ls (xpu r.1 []) r.2 := e_call dX5_pay_19 rfl rfl
theorem wX5_pay_22 : E_ d mX5_pay 22 ls (.int x :: st) h = if x = 0 then E_ d mX5_pay 52 ls st h else E_ d mX5_pay 25 ls st h := e_zeq dX5_pay_22 rfl rfl
theorem wX5_pay_25 : E_ d mX5_pay 25 [s0, s1, s2, .val (.int x), s4, s5] st h = E_ d mX5_pay 26 [s0, s1, s2, .val (.int x), s4, s5] (.int x :: st) h := e_go dX5_pay_25 rfl rfl
theorem wX5_pay_26 : E_ d mX5_pay 26 ls (.int x :: st) h = E_ d mX5_pay 27 ls (.long x.toInt64 :: st) h := e_go dX5_pay_26 rfl rfl
theorem wX5_pay_27 : E_ d mX5_pay 27 ls st h = E_ d mX5_pay 28 ls (.long 0 :: st) h := e_go dX5_pay_27 rfl rfl
theorem wX5_pay_28 : E_ d mX5_pay 28 ls st h = E_ d mX5_pay 31 ls (.long (4) :: st) h := e_go dX5_pay_28 rfl rfl
theorem wX5_pay_31 : E_ (d + 1) mX5_pay 31 ls [.long u3, .long u2, .long u1] h = (C_ d mX5_within [.long u1, .long u2, .long u3] h).bind fun r => E_ (d + 1) mX5_pay 34 ls (xpu r.1 []) r.2 := e_call dX5_pay_31 rfl rfl
theorem wX5_pay_34 : E_ d mX5_pay 34 ls (.int x :: st) h = if x = 0 then E_ d mX5_pay 52 ls st h else E_ d mX5_pay 37 ls st h := e_zeq dX5_pay_34 rfl rfl
theorem wX5_pay_37 : E_ d mX5_pay 37 [s0, s1, s2, s3, .val (.int x), s5] st h = E_ d mX5_pay 39 [s0, s1, s2, s3, .val (.int x), s5] (.int x :: st) h := e_go dX5_pay_37 rfl rfl
theorem wX5_pay_39 : E_ d mX5_pay 39 ls (.int x :: st) h = E_ d mX5_pay 40 ls (.long x.toInt64 :: st) h := e_go dX5_pay_39 rfl rfl
theorem wX5_pay_40 : E_ d mX5_pay 40 ls st h = E_ d mX5_pay 43 ls (.long (-99) :: st) h := e_go dX5_pay_40 rfl rfl
theorem wX5_pay_43 : E_ d mX5_pay 43 ls st h = E_ d mX5_pay 46 ls (.long (99) :: st) h := e_go dX5_pay_43 rfl rfl
theorem wX5_pay_46 : E_ (d + 1) mX5_pay 46 ls [.long u3, .long u2, .long u1] h = (C_ d mX5_within [.long u1, .long u2, .long u3] h).bind fun r => E_ (d + 1) mX5_pay 49 ls (xpu r.1 []) r.2 := e_call dX5_pay_46 rfl rfl
theorem wX5_pay_49 : E_ d mX5_pay 49 ls (.int x :: st) h = if x = 0 then E_ d mX5_pay 52 ls st h else E_ d mX5_pay 60 ls st h := e_zne dX5_pay_49 rfl rfl
theorem wX5_pay_52 : E_ d mX5_pay 52 [.val (.ref a), s1, s2, s3, s4, s5] st h = E_ d mX5_pay 53 [.val (.ref a), s1, s2, s3, s4, s5] (.ref a :: st) h := e_go dX5_pay_52 rfl rfl
theorem wX5_pay_53 : E_ d mX5_pay 53 ls st h = E_ d mX5_pay 56 ls (.int ((-1000)) :: st) h := e_sipush dX5_pay_53 ksipush_m1000 rfl
theorem wX5_pay_56 (ht : oT h a = 7) : E_ (d + 1) mX5_pay 56 ls [.int x1, .ref a] h = (C_ d mX5_none [.ref a, .int x1] h).bind fun r => E_ (d + 1) mX5_pay 59 ls (xpu r.1 []) r.2 := e_vir dX5_pay_56 rfl rfl rfl rfl rfl rfl (Nat.le_of_ble_eq_true rfl) (Nat.le_of_ble_eq_true rfl) ht
theorem wX5_pay_59 : E_ d mX5_pay 59 ls [.int x] h = some (some (.int x), h) := e_rt dX5_pay_59 rfl rfl
theorem wX5_pay_60 : E_ d mX5_pay 60 [.val (.ref a), s1, s2, s3, s4, s5] st h = E_ d mX5_pay 61 [.val (.ref a), s1, s2, s3, s4, s5] (.ref a :: st) h := e_go dX5_pay_60 rfl rfl
theorem wX5_pay_61 (ht : oT h a = 7) : E_ d mX5_pay 61 ls (.ref a :: st) h = E_ d mX5_pay 64 ls (va_rf (oR h a 2) :: st) h := e_getR0 dX5_pay_61 rfl rfl ht
theorem wX5_pay_64 : E_ d mX5_pay 64 [.val (.ref a), s1, s2, s3, s4, s5] st h = E_ d mX5_pay 65 [.val (.ref a), s1, s2, s3, s4, s5] (.ref a :: st) h := e_go dX5_pay_64 rfl rfl
theorem wX5_pay_65 : E_ d mX5_pay 65 [s0, .val (.int x), s2, s3, s4, s5] st h = E_ d mX5_pay 66 [s0, .val (.int x), s2, s3, s4, s5] (.int x :: st) h := e_go dX5_pay_65 rfl rfl
theorem wX5_pay_66 : E_ d mX5_pay 66 [s0, s1, .val (.int x), s3, s4, s5] st h = E_ d mX5_pay 67 [s0, s1, .val (.int x), s3, s4, s5] (.int x :: st) h := e_go dX5_pay_66 rfl rfl
theorem wX5_pay_67 : E_ d mX5_pay 67 [s0, s1, s2, .val (.int x), s4, s5] st h = E_ d mX5_pay 68 [s0, s1, s2, .val (.int x), s4, s5] (.int x :: st) h := e_go dX5_pay_67 rfl rfl
theorem wX5_pay_68 (ht : oT h a = 7) : E_ (d + 1) mX5_pay 68 ls [.int x3, .int x2, .int x1, .ref a, .ref r1] h = (C_ d mX5_payAt [.ref a, .int x1, .int x2, .int x3] h).bind fun r => E_ (d + 1) mX5_pay 71 ls (xpu r.1 [.ref r1]) r.2 := e_vir dX5_pay_68 rfl rfl rfl rfl rfl rfl (Nat.le_of_ble_eq_true rfl) (Nat.le_of_ble_eq_true rfl) ht
theorem wX5_pay_71 (ht : oT h a = 40) (hi : xix x (oN h a) = true) : E_ d mX5_pay 71 ls (.int x :: .ref a :: st) h = E_ d mX5_pay 72 ls (.int (oI h a x.toNatClampNeg) :: st) h := e_iald dX5_pay_71 rfl ht hi
theorem wX5_pay_72 : E_ d mX5_pay 72 [s0, s1, s2, s3, s4, s5] (.int x :: st) h = E_ d mX5_pay 74 [s0, s1, s2, s3, xk s4, .val (.int x)] st h := e_go dX5_pay_72 rfl rfl
theorem wX5_pay_74 : E_ d mX5_pay 74 [.val (.ref a), s1, s2, s3, s4, s5] st h = E_ d mX5_pay 75 [.val (.ref a), s1, s2, s3, s4, s5] (.ref a :: st) h := e_go dX5_pay_74 rfl rfl
theorem wX5_pay_75 (ht : oT h a = 7) : E_ d mX5_pay 75 ls (.ref a :: st) h = E_ d mX5_pay 78 ls (va_rf (oR h a 2) :: st) h := e_getR0 dX5_pay_75 rfl rfl ht
theorem wX5_pay_78 : E_ d mX5_pay 78 [.val (.ref a), s1, s2, s3, s4, s5] st h = E_ d mX5_pay 79 [.val (.ref a), s1, s2, s3, s4, s5] (.ref a :: st) h := e_go dX5_pay_78 rfl rfl
theorem wX5_pay_79 : E_ d mX5_pay 79 [s0, .val (.int x), s2, s3, s4, s5] st h = E_ d mX5_pay 80 [s0, .val (.int x), s2, s3, s4, s5] (.int x :: st) h := e_go dX5_pay_79 rfl rfl
theorem wX5_pay_80 : E_ d mX5_pay 80 [s0, s1, .val (.int x), s3, s4, s5] st h = E_ d mX5_pay 81 [s0, s1, .val (.int x), s3, s4, s5] (.int x :: st) h := e_go dX5_pay_80 rfl rfl
theorem wX5_pay_81 : E_ d mX5_pay 81 [s0, s1, s2, .val (.int x), s4, s5] st h = E_ d mX5_pay 82 [s0, s1, s2, .val (.int x), s4, s5] (.int x :: st) h := e_go dX5_pay_81 rfl rfl
theorem wX5_pay_82 (ht : oT h a = 7) : E_ (d + 1) mX5_pay 82 ls [.int x3, .int x2, .int x1, .ref a, .ref r1] h = (C_ d mX5_payAt [.ref a, .int x1, .int x2, .int x3] h).bind fun r => E_ (d + 1) mX5_pay 85 ls (xpu r.1 [.ref r1]) r.2 := e_vir dX5_pay_82 rfl rfl rfl rfl rfl rfl (Nat.le_of_ble_eq_true rfl) (Nat.le_of_ble_eq_true rfl) ht
theorem wX5_pay_85 : E_ d mX5_pay 85 [s0, s1, s2, s3, .val (.int x), s5] st h = E_ d mX5_pay 87 [s0, s1, s2, s3, .val (.int x), s5] (.int x :: st) h := e_go dX5_pay_85 rfl rfl
theorem wX5_pay_87 (ht : oT h a = 40) (hi : xix x (oN h a) = true) : E_ d mX5_pay 87 ls (.int y :: .int x :: .ref a :: st) h = E_ d mX5_pay 88 ls st (pI h a (va_up (oI h a) x.toNatClampNeg y)) := e_iast dX5_pay_87 rfl ht hi
theorem wX5_pay_88 : E_ d mX5_pay 88 [s0, s1, s2, s3, s4, .val (.int x)] st h = E_ d mX5_pay 90 [s0, s1, s2, s3, s4, .val (.int x)] (.int x :: st) h := e_go dX5_pay_88 rfl rfl
theorem wX5_pay_90 : E_ d mX5_pay 90 ls [.int x] h = some (some (.int x), h) := e_rt dX5_pay_90 rfl rfl
/-! FootOutModel.payAt -/
theorem wX5_payAt_0 : E_ d mX5_payAt 0 ls st h = E_ d mX5_payAt 3 ls (.int (nI 558) :: st) h := e_sipush dX5_payAt_0 ksipush_558 rfl
theorem wX5_payAt_3 : E_ d mX5_payAt 3 ls st h = E_ d mX5_payAt 5 ls (.int (nI 10) :: st) h := e_bipush dX5_payAt_3 kbipush_10 rfl
theorem wX5_payAt_5 : E_ d mX5_payAt 5 [s0, .val (.int x), s2, s3] st h = E_ d mX5_payAt 6 [s0, .val (.int x), s2, s3] (.int x :: st) h := e_go dX5_payAt_5 rfl rfl
theorem wX5_payAt_6 : E_ d mX5_payAt 6 ls (.int y :: .int x :: st) h = E_ d mX5_payAt 7 ls (.int (x * y) :: st) h := e_go dX5_payAt_6 rfl rfl
theorem wX5_payAt_7 : E_ d mX5_payAt 7 ls (.int y :: .int x :: st) h = E_ d mX5_payAt 8 ls (.int (x + y) :: st) h := e_go dX5_payAt_7 rfl rfl
theorem wX5_payAt_8 : E_ d mX5_payAt 8 ls st h = E_ d mX5_payAt 9 ls (.int (nI 5) :: st) h := e_iconst dX5_payAt_8 kiconst_5 rfl
theorem wX5_payAt_9 : E_ d mX5_payAt 9 [s0, s1, .val (.int x), s3] st h = E_ d mX5_payAt 10 [s0, s1, .val (.int x), s3] (.int x :: st) h := e_go dX5_payAt_9 rfl rfl
theorem wX5_payAt_10 : E_ d mX5_payAt 10 ls (.int y :: .int x :: st) h = E_ d mX5_payAt 11 ls (.int (x * y) :: st) h := e_go dX5_payAt_10 rfl rfl
theorem wX5_payAt_11 : E_ d mX5_payAt 11 ls (.int y :: .int x :: st) h = E_ d mX5_payAt 12 ls (.int (x + y) :: st) h := e_go dX5_payAt_11 rfl rfl
theorem wX5_payAt_12 : E_ d mX5_payAt 12 [s0, s1, s2, .val (.int x)] st h = E_ d mX5_payAt 13 [s0, s1, s2, .val (.int x)] (.int x :: st) h := e_go dX5_payAt_12 rfl rfl
theorem wX5_payAt_13 : E_ d mX5_payAt 13 ls (.int y :: .int x :: st) h = E_ d mX5_payAt 14 ls (.int (x + y) :: st) h := e_go dX5_payAt_13 rfl rfl
theorem wX5_payAt_14 : E_ d mX5_payAt 14 ls [.int x] h = some (some (.int x), h) := e_rt dX5_payAt_14 rfl rfl
/-! FootOutModel.rests -/
theorem wX5_rests_0 : E_ d mX5_rests 0 [.val (.ref a), s1, s2, s3, s4, s5, s6, s7] st h = E_ d mX5_rests 1 [.val (.ref a), s1, s2, s3, s4, s5, s6, s7] (.ref a :: st) h := e_go dX5_rests_0 rfl rfl
theorem wX5_rests_1 : E_ d mX5_rests 1 ls st h = E_ d mX5_rests 2 ls (.int (nI 0) :: st) h := e_iconst dX5_rests_1 kiconst_0 rfl
theorem wX5_rests_2 (ht : oT h a = 7) : E_ d mX5_rests 2 ls (.int x :: .ref a :: st) h = E_ d mX5_rests 5 ls st (pI h a (va_up (oI h a) 0 x)) := e_putI dX5_rests_2 rfl rfl ht
theorem wX5_rests_5 : E_ d mX5_rests 5 [s0, s1, s2, .val (.int x), s4, s5, s6, s7] st h = E_ d mX5_rests 6 [s0, s1, s2, .val (.int x), s4, s5, s6, s7] (.int x :: st) h := e_go dX5_rests_5 rfl rfl
theorem wX5_rests_6 : E_ d mX5_rests 6 ls (.int x :: st) h = E_ d mX5_rests 7 ls (.long x.toInt64 :: st) h := e_go dX5_rests_6 rfl rfl
theorem wX5_rests_7 : E_ d mX5_rests 7 ls st h = E_ d mX5_rests 8 ls (.long 0 :: st) h := e_go dX5_rests_7 rfl rfl
theorem wX5_rests_8 : E_ d mX5_rests 8 ls st h = E_ d mX5_rests 9 ls (.long 1 :: st) h := e_go dX5_rests_8 rfl rfl
theorem wX5_rests_9 : E_ (d + 1) mX5_rests 9 ls [.long u3, .long u2, .long u1] h = (C_ d mX5_within [.long u1, .long u2, .long u3] h).bind fun r => E_ (d + 1) mX5_rests 12 ls (xpu r.1 []) r.2 := e_call dX5_rests_9 rfl rfl
theorem wX5_rests_12 : E_ d mX5_rests 12 ls (.int x :: st) h = if x = 0 then E_ d mX5_rests 15 ls st h else E_ d mX5_rests 22 ls st h := e_zne dX5_rests_12 rfl rfl
theorem wX5_rests_15 : E_ d mX5_rests 15 [.val (.ref a), s1, s2, s3, s4, s5, s6, s7] st h = E_ d mX5_rests 16 [.val (.ref a), s1, s2, s3, s4, s5, s6, s7] (.ref a :: st) h := e_go dX5_rests_15 rfl rfl
theorem wX5_rests_16 : E_ d mX5_rests 16 ls st h = E_ d mX5_rests 18 ls (.int ((-2)) :: st) h := e_bipush dX5_rests_16 kbipush_m2 rfl
theorem wX5_rests_18 (ht : oT h a = 7) : E_ (d + 1) mX5_rests 18 ls [.int x1, .ref a] h = (C_ d mX5_no [.ref a, .int x1] h).bind fun r => E_ (d + 1) mX5_rests 21 ls (xpu r.1 []) r.2 := e_vir dX5_rests_18 rfl rfl rfl rfl rfl rfl (Nat.le_of_ble_eq_true rfl) (Nat.le_of_ble_eq_true rfl) ht
theorem wX5_rests_21 : E_ d mX5_rests 21 ls [.int x] h = some (some (.int x), h) := e_rt dX5_rests_21 rfl rfl
theorem wX5_rests_22 : E_ d mX5_rests 22 [s0, .val (.int x), s2, s3, s4, s5, s6, s7] st h = E_ d mX5_rests 23 [s0, .val (.int x), s2, s3, s4, s5, s6, s7] (.int x :: st) h := e_go dX5_rests_22 rfl rfl
theorem wX5_rests_23 : E_ d mX5_rests 23 ls (.int x :: st) h = E_ d mX5_rests 24 ls (.long x.toInt64 :: st) h := e_go dX5_rests_23 rfl rfl
theorem wX5_rests_24 : E_ d mX5_rests 24 ls st h = E_ d mX5_rests 25 ls (.long 0 :: st) h := e_go dX5_rests_24 rfl rfl
theorem wX5_rests_25 : E_ d mX5_rests 25 ls st h = E_ d mX5_rests 28 ls (.long (4) :: st) h := e_go dX5_rests_25 rfl rfl
theorem wX5_rests_28 : E_ (d + 1) mX5_rests 28 ls [.long u3, .long u2, .long u1] h = (C_ d mX5_within [.long u1, .long u2, .long u3] h).bind fun r => E_ (d + 1) mX5_rests 31 ls (xpu r.1 []) r.2 := e_call dX5_rests_28 rfl rfl
theorem wX5_rests_31 : E_ d mX5_rests 31 ls (.int x :: st) h = if x = 0 then E_ d mX5_rests 46 ls st h else E_ d mX5_rests 34 ls st h := e_zeq dX5_rests_31 rfl rfl
theorem wX5_rests_34 : E_ d mX5_rests 34 [s0, s1, .val (.int x), s3, s4, s5, s6, s7] st h = E_ d mX5_rests 35 [s0, s1, .val (.int x), s3, s4, s5, s6, s7] (.int x :: st) h := e_go dX5_rests_34 rfl rfl
theorem wX5_rests_35 : E_ d mX5_rests 35 ls (.int x :: st) h = E_ d mX5_rests 36 ls (.long x.toInt64 :: st) h := e_go dX5_rests_35 rfl rfl
theorem wX5_rests_36 : E_ d mX5_rests 36 ls st h = E_ d mX5_rests 37 ls (.long 0 :: st) h := e_go dX5_rests_36 rfl rfl
theorem wX5_rests_37 : E_ d mX5_rests 37 ls st h = E_ d mX5_rests 40 ls (.long (4) :: st) h := e_go dX5_rests_37 rfl rfl
theorem wX5_rests_40 : E_ (d + 1) mX5_rests 40 ls [.long u3, .long u2, .long u1] h = (C_ d mX5_within [.long u1, .long u2, .long u3] h).bind fun r => E_ (d + 1) mX5_rests 43 ls (xpu r.1 []) r.2 := e_call dX5_rests_40 rfl rfl
theorem wX5_rests_43 : E_ d mX5_rests 43 ls (.int x :: st) h = if x = 0 then E_ d mX5_rests 46 ls st h else E_ d mX5_rests 53 ls st h := e_zne dX5_rests_43 rfl rfl
theorem wX5_rests_46 : E_ d mX5_rests 46 [.val (.ref a), s1, s2, s3, s4, s5, s6, s7] st h = E_ d mX5_rests 47 [.val (.ref a), s1, s2, s3, s4, s5, s6, s7] (.ref a :: st) h := e_go dX5_rests_46 rfl rfl
theorem wX5_rests_47 : E_ d mX5_rests 47 ls st h = E_ d mX5_rests 49 ls (.int ((-3)) :: st) h := e_bipush dX5_rests_47 kbipush_m3 rfl
theorem wX5_rests_49 (ht : oT h a = 7) : E_ (d + 1) mX5_rests 49 ls [.int x1, .ref a] h = (C_ d mX5_no [.ref a, .int x1] h).bind fun r => E_ (d + 1) mX5_rests 52 ls (xpu r.1 []) r.2 := e_vir dX5_rests_49 rfl rfl rfl rfl rfl rfl (Nat.le_of_ble_eq_true rfl) (Nat.le_of_ble_eq_true rfl) ht
theorem wX5_rests_52 : E_ d mX5_rests 52 ls [.int x] h = some (some (.int x), h) := e_rt dX5_rests_52 rfl rfl
theorem wX5_rests_53 : E_ d mX5_rests 53 ls st h = E_ d mX5_rests 54 ls (.int (nI 0) :: st) h := e_iconst dX5_rests_53 kiconst_0 rfl
theorem wX5_rests_54 : E_ d mX5_rests 54 [s0, s1, s2, s3, s4, s5, s6, s7] (.int x :: st) h = E_ d mX5_rests 56 [s0, s1, s2, xk s3, .val (.int x), s5, s6, s7] st h := e_go dX5_rests_54 rfl rfl
theorem wX5_rests_56 : E_ d mX5_rests 56 ls st h = E_ d mX5_rests 57 ls (.int ((-1)) :: st) h := e_iconst dX5_rests_56 kiconst_m1 rfl
theorem wX5_rests_57 : E_ d mX5_rests 57 [s0, s1, s2, s3, s4, s5, s6, s7] (.int x :: st) h = E_ d mX5_rests 59 [s0, s1, s2, s3, xk s4, .val (.int x), s6, s7] st h := e_go dX5_rests_57 rfl rfl
theorem wX5_rests_59 : E_ d mX5_rests 59 ls st h = E_ d mX5_rests 60 ls (.int (nI 0) :: st) h := e_iconst dX5_rests_59 kiconst_0 rfl
theorem wX5_rests_60 : E_ d mX5_rests 60 [s0, s1, s2, s3, s4, s5, s6, s7] (.int x :: st) h = E_ d mX5_rests 62 [s0, s1, s2, s3, s4, xk s5, .val (.int x), s7] st h := e_go dX5_rests_60 rfl rfl
theorem wX5_rests_62 : E_ d mX5_rests 62 [s0, s1, s2, s3, s4, s5, .val (.int x), s7] st h = E_ d mX5_rests 64 [s0, s1, s2, s3, s4, s5, .val (.int x), s7] (.int x :: st) h := e_go dX5_rests_62 rfl rfl
theorem wX5_rests_64 : E_ d mX5_rests 64 [s0, .val (.int x), s2, s3, s4, s5, s6, s7] st h = E_ d mX5_rests 65 [s0, .val (.int x), s2, s3, s4, s5, s6, s7] (.int x :: st) h := e_go dX5_rests_64 rfl rfl
theorem wX5_rests_65 : E_ d mX5_rests 65 ls (.int y :: .int x :: st) h = if y < x then E_ d mX5_rests 142 ls st h else E_ d mX5_rests 68 ls st h := e_igt dX5_rests_65 rfl rfl
theorem wX5_rests_68 : E_ d mX5_rests 68 ls st h = E_ d mX5_rests 69 ls (.int (nI 0) :: st) h := e_iconst dX5_rests_68 kiconst_0 rfl
theorem wX5_rests_69 : E_ d mX5_rests 69 [s0, s1, s2, s3, s4, s5, s6, s7] (.int x :: st) h = E_ d mX5_rests 71 [s0, s1, s2, s3, s4, s5, xk s6, .val (.int x)] st h := e_go dX5_rests_69 rfl rfl
theorem wX5_rests_71 : E_ d mX5_rests 71 [s0, s1, s2, s3, s4, s5, s6, .val (.int x)] st h = E_ d mX5_rests 73 [s0, s1, s2, s3, s4, s5, s6, .val (.int x)] (.int x :: st) h := e_go dX5_rests_71 rfl rfl
theorem wX5_rests_73 : E_ d mX5_rests 73 [s0, s1, .val (.int x), s3, s4, s5, s6, s7] st h = E_ d mX5_rests 74 [s0, s1, .val (.int x), s3, s4, s5, s6, s7] (.int x :: st) h := e_go dX5_rests_73 rfl rfl
theorem wX5_rests_74 : E_ d mX5_rests 74 ls (.int y :: .int x :: st) h = if y < x then E_ d mX5_rests 136 ls st h else E_ d mX5_rests 77 ls st h := e_igt dX5_rests_74 rfl rfl
theorem wX5_rests_77 : E_ d mX5_rests 77 [.val (.ref a), s1, s2, s3, s4, s5, s6, s7] st h = E_ d mX5_rests 78 [.val (.ref a), s1, s2, s3, s4, s5, s6, s7] (.ref a :: st) h := e_go dX5_rests_77 rfl rfl
theorem wX5_rests_78 : E_ d mX5_rests 78 ls st h = E_ d mX5_rests 79 ls (.int (nI 0) :: st) h := e_iconst dX5_rests_78 kiconst_0 rfl
theorem wX5_rests_79 : E_ d mX5_rests 79 [s0, s1, s2, s3, s4, s5, .val (.int x), s7] st h = E_ d mX5_rests 81 [s0, s1, s2, s3, s4, s5, .val (.int x), s7] (.int x :: st) h := e_go dX5_rests_79 rfl rfl
theorem wX5_rests_81 : E_ d mX5_rests 81 [s0, .val (.int x), s2, s3, s4, s5, s6, s7] st h = E_ d mX5_rests 82 [s0, .val (.int x), s2, s3, s4, s5, s6, s7] (.int x :: st) h := e_go dX5_rests_81 rfl rfl
theorem wX5_rests_82 : E_ d mX5_rests 82 [s0, s1, s2, s3, s4, s5, s6, .val (.int x)] st h = E_ d mX5_rests 84 [s0, s1, s2, s3, s4, s5, s6, .val (.int x)] (.int x :: st) h := e_go dX5_rests_82 rfl rfl
theorem wX5_rests_84 (ht : oT h a = 7) : E_ (d + 1) mX5_rests 84 ls [.int x4, .int x3, .int x2, .int x1, .ref a] h = (C_ d mX5_isRest [.ref a, .int x1, .int x2, .int x3, .int x4] h).bind fun r => E_ (d + 1) mX5_rests 87 ls (xpu r.1 []) r.2 := e_vir dX5_rests_84 rfl rfl rfl rfl rfl rfl (Nat.le_of_ble_eq_true rfl) (Nat.le_of_ble_eq_true rfl) ht
theorem wX5_rests_87 : E_ d mX5_rests 87 ls (.int x :: st) h = if x = 0 then E_ d mX5_rests 130 ls st h else E_ d mX5_rests 90 ls st h := e_zeq dX5_rests_87 rfl rfl
theorem wX5_rests_90 : E_ d mX5_rests 90 [.val (.ref a), s1, s2, s3, s4, s5, s6, s7] st h = E_ d mX5_rests 91 [.val (.ref a), s1, s2, s3, s4, s5, s6, s7] (.ref a :: st) h := e_go dX5_rests_90 rfl rfl
theorem wX5_rests_91 : E_ d mX5_rests 91 ls st h = E_ d mX5_rests 92 ls (.int (nI 1) :: st) h := e_iconst dX5_rests_91 kiconst_1 rfl
theorem wX5_rests_92 : E_ d mX5_rests 92 [s0, s1, s2, s3, s4, s5, s6, .val (.int x)] st h = E_ d mX5_rests 94 [s0, s1, s2, s3, s4, s5, s6, .val (.int x)] (.int x :: st) h := e_go dX5_rests_92 rfl rfl
theorem wX5_rests_94 : E_ d mX5_rests 94 [s0, s1, .val (.int x), s3, s4, s5, s6, s7] st h = E_ d mX5_rests 95 [s0, s1, .val (.int x), s3, s4, s5, s6, s7] (.int x :: st) h := e_go dX5_rests_94 rfl rfl
theorem wX5_rests_95 : E_ d mX5_rests 95 [s0, s1, s2, s3, s4, s5, .val (.int x), s7] st h = E_ d mX5_rests 97 [s0, s1, s2, s3, s4, s5, .val (.int x), s7] (.int x :: st) h := e_go dX5_rests_95 rfl rfl
theorem wX5_rests_97 (ht : oT h a = 7) : E_ (d + 1) mX5_rests 97 ls [.int x4, .int x3, .int x2, .int x1, .ref a] h = (C_ d mX5_isRest [.ref a, .int x1, .int x2, .int x3, .int x4] h).bind fun r => E_ (d + 1) mX5_rests 100 ls (xpu r.1 []) r.2 := e_vir dX5_rests_97 rfl rfl rfl rfl rfl rfl (Nat.le_of_ble_eq_true rfl) (Nat.le_of_ble_eq_true rfl) ht
theorem wX5_rests_100 : E_ d mX5_rests 100 ls (.int x :: st) h = if x = 0 then E_ d mX5_rests 103 ls st h else E_ d mX5_rests 106 ls st h := e_zne dX5_rests_100 rfl rfl
theorem wX5_rests_103 : E_ d mX5_rests 103 ls st h = E_ d mX5_rests 130 ls st h := e_gt dX5_rests_103 rfl
theorem wX5_rests_106 : E_ d mX5_rests 106 [s0, s1, s2, s3, .val (.int x), s5, s6, s7] st h = E_ d mX5_rests 109 [s0, s1, s2, xk s3, .val (.int (x + nI 1)), s5, s6, s7] st h := by rw [← kiinc_1]; exact e_go dX5_rests_106 rfl rfl
theorem wX5_rests_109 : E_ d mX5_rests 109 [s0, s1, s2, s3, s4, .val (.int x), s6, s7] st h = E_ d mX5_rests 111 [s0, s1, s2, s3, s4, .val (.int x), s6, s7] (.int x :: st) h := e_go dX5_rests_109 rfl rfl
theorem wX5_rests_111 : E_ d mX5_rests 111 ls st h = E_ d mX5_rests 112 ls (.int ((-1)) :: st) h := e_iconst dX5_rests_111 kiconst_m1 rfl
theorem wX5_rests_112 : E_ d mX5_rests 112 ls (.int y :: .int x :: st) h = if x = y then E_ d mX5_rests 115 ls st h else E_ d mX5_rests 126 ls st h := e_ine dX5_rests_112 rfl rfl
theorem wX5_rests_115 : E_ d mX5_rests 115 ls st h = E_ d mX5_rests 117 ls (.int (nI 10) :: st) h := e_bipush dX5_rests_115 kbipush_10 rfl
theorem wX5_rests_117 : E_ d mX5_rests 117 [s0, s1, s2, s3, s4, s5, .val (.int x), s7] st h = E_ d mX5_rests 119 [s0, s1, s2, s3, s4, s5, .val (.int x), s7] (.int x :: st) h := e_go dX5_rests_117 rfl rfl
theorem wX5_rests_119 : E_ d mX5_rests 119 ls (.int y :: .int x :: st) h = E_ d mX5_rests 120 ls (.int (x * y) :: st) h := e_go dX5_rests_119 rfl rfl
theorem wX5_rests_120 : E_ d mX5_rests 120 [s0, s1, s2, s3, s4, s5, s6, .val (.int x)] st h = E_ d mX5_rests 122 [s0, s1, s2, s3, s4, s5, s6, .val (.int x)] (.int x :: st) h := e_go dX5_rests_120 rfl rfl
theorem wX5_rests_122 : E_ d mX5_rests 122 ls (.int y :: .int x :: st) h = E_ d mX5_rests 123 ls (.int (x + y) :: st) h := e_go dX5_rests_122 rfl rfl
theorem wX5_rests_123 : E_ d mX5_rests 123 ls st h = E_ d mX5_rests 128 ls st h := e_gt dX5_rests_123 rfl
theorem wX5_rests_126 : E_ d mX5_rests 126 [s0, s1, s2, s3, s4, .val (.int x), s6, s7] st h = E_ d mX5_rests 128 [s0, s1, s2, s3, s4, .val (.int x), s6, s7] (.int x :: st) h := e_go dX5_rests_126 rfl rfl
theorem wX5_rests_128 : E_ d mX5_rests 128 [s0, s1, s2, s3, s4, s5, s6, s7] (.int x :: st) h = E_ d mX5_rests 130 [s0, s1, s2, s3, xk s4, .val (.int x), s6, s7] st h := e_go dX5_rests_128 rfl rfl
theorem wX5_rests_130 : E_ d mX5_rests 130 [s0, s1, s2, s3, s4, s5, s6, .val (.int x)] st h = E_ d mX5_rests 133 [s0, s1, s2, s3, s4, s5, xk s6, .val (.int (x + nI 1))] st h := by rw [← kiinc_1]; exact e_go dX5_rests_130 rfl rfl
theorem wX5_rests_133 : E_ d mX5_rests 133 ls st h = E_ d mX5_rests 71 ls st h := e_gt dX5_rests_133 rfl
theorem wX5_rests_136 : E_ d mX5_rests 136 [s0, s1, s2, s3, s4, s5, .val (.int x), s7] st h = E_ d mX5_rests 139 [s0, s1, s2, s3, s4, xk s5, .val (.int (x + nI 1)), s7] st h := by rw [← kiinc_1]; exact e_go dX5_rests_136 rfl rfl
theorem wX5_rests_139 : E_ d mX5_rests 139 ls st h = E_ d mX5_rests 62 ls st h := e_gt dX5_rests_139 rfl
theorem wX5_rests_142 : E_ d mX5_rests 142 [s0, s1, s2, .val (.int x), s4, s5, s6, s7] st h = E_ d mX5_rests 143 [s0, s1, s2, .val (.int x), s4, s5, s6, s7] (.int x :: st) h := e_go dX5_rests_142 rfl rfl
theorem wX5_rests_143 : E_ d mX5_rests 143 ls (.int x :: st) h = if x = 0 then E_ d mX5_rests 146 ls st h else E_ d mX5_rests 151 ls st h := e_zne dX5_rests_143 rfl rfl
theorem wX5_rests_146 : E_ d mX5_rests 146 [s0, s1, s2, s3, .val (.int x), s5, s6, s7] st h = E_ d mX5_rests 148 [s0, s1, s2, s3, .val (.int x), s5, s6, s7] (.int x :: st) h := e_go dX5_rests_146 rfl rfl
theorem wX5_rests_148 : E_ d mX5_rests 148 ls st h = E_ d mX5_rests 153 ls st h := e_gt dX5_rests_148 rfl
theorem wX5_rests_151 : E_ d mX5_rests 151 [s0, s1, s2, s3, s4, .val (.int x), s6, s7] st h = E_ d mX5_rests 153 [s0, s1, s2, s3, s4, .val (.int x), s6, s7] (.int x :: st) h := e_go dX5_rests_151 rfl rfl
theorem wX5_rests_153 : E_ d mX5_rests 153 ls [.int x] h = some (some (.int x), h) := e_rt dX5_rests_153 rfl rfl
/-! FootOutModel.isRest -/
theorem wX5_isRest_0 : E_ d mX5_isRest 0 [.val (.ref a), s1, s2, s3, s4, s5, s6] st h = E_ d mX5_isRest 1 [.val (.ref a), s1, s2, s3, s4, s5, s6] (.ref a :: st) h := e_go dX5_isRest_0 rfl rfl
theorem wX5_isRest_1 (ht : oT h a = 7) : E_ d mX5_isRest 1 ls (.ref a :: st) h = E_ d mX5_isRest 4 ls (va_rf (oR h a 2) :: st) h := e_getR0 dX5_isRest_1 rfl rfl ht
theorem wX5_isRest_4 : E_ d mX5_isRest 4 [.val (.ref a), s1, s2, s3, s4, s5, s6] st h = E_ d mX5_isRest 5 [.val (.ref a), s1, s2, s3, s4, s5, s6] (.ref a :: st) h := e_go dX5_isRest_4 rfl rfl
theorem wX5_isRest_5 : E_ d mX5_isRest 5 [s0, .val (.int x), s2, s3, s4, s5, s6] st h = E_ d mX5_isRest 6 [s0, .val (.int x), s2, s3, s4, s5, s6] (.int x :: st) h := e_go dX5_isRest_5 rfl rfl
theorem wX5_isRest_6 : E_ d mX5_isRest 6 ls st h = E_ d mX5_isRest 7 ls (.int (nI 1) :: st) h := e_iconst dX5_isRest_6 kiconst_1 rfl
theorem wX5_isRest_7 : E_ d mX5_isRest 7 [s0, s1, s2, s3, .val (.int x), s5, s6] st h = E_ d mX5_isRest 9 [s0, s1, s2, s3, .val (.int x), s5, s6] (.int x :: st) h := e_go dX5_isRest_7 rfl rfl
theorem wX5_isRest_9 (ht : oT h a = 7) : E_ (d + 1) mX5_isRest 9 ls [.int x3, .int x2, .int x1, .ref a, .ref r1] h = (C_ d mX5_payAt [.ref a, .int x1, .int x2, .int x3] h).bind fun r => E_ (d + 1) mX5_isRest 12 ls (xpu r.1 [.ref r1]) r.2 := e_vir dX5_isRest_9 rfl rfl rfl rfl rfl rfl (Nat.le_of_ble_eq_true rfl) (Nat.le_of_ble_eq_true rfl) ht
theorem wX5_isRest_12 (ht : oT h a = 40) (hi : xix x (oN h a) = true) : E_ d mX5_isRest 12 ls (.int x :: .ref a :: st) h = E_ d mX5_isRest 13 ls (.int (oI h a x.toNatClampNeg) :: st) h := e_iald dX5_isRest_12 rfl ht hi
theorem wX5_isRest_13 : E_ d mX5_isRest 13 [s0, s1, s2, s3, s4, s5, s6] (.int x :: st) h = E_ d mX5_isRest 15 [s0, s1, s2, s3, xk s4, .val (.int x), s6] st h := e_go dX5_isRest_13 rfl rfl
theorem wX5_isRest_15 : E_ d mX5_isRest 15 [.val (.ref a), s1, s2, s3, s4, s5, s6] st h = E_ d mX5_isRest 16 [.val (.ref a), s1, s2, s3, s4, s5, s6] (.ref a :: st) h := e_go dX5_isRest_15 rfl rfl
theorem wX5_isRest_16 (ht : oT h a = 7) : E_ d mX5_isRest 16 ls (.ref a :: st) h = E_ d mX5_isRest 19 ls (va_rf (oR h a 2) :: st) h := e_getR0 dX5_isRest_16 rfl rfl ht
theorem wX5_isRest_19 : E_ d mX5_isRest 19 [.val (.ref a), s1, s2, s3, s4, s5, s6] st h = E_ d mX5_isRest 20 [.val (.ref a), s1, s2, s3, s4, s5, s6] (.ref a :: st) h := e_go dX5_isRest_19 rfl rfl
theorem wX5_isRest_20 : E_ d mX5_isRest 20 [s0, .val (.int x), s2, s3, s4, s5, s6] st h = E_ d mX5_isRest 21 [s0, .val (.int x), s2, s3, s4, s5, s6] (.int x :: st) h := e_go dX5_isRest_20 rfl rfl
theorem wX5_isRest_21 : E_ d mX5_isRest 21 ls st h = E_ d mX5_isRest 22 ls (.int (nI 0) :: st) h := e_iconst dX5_isRest_21 kiconst_0 rfl
theorem wX5_isRest_22 : E_ d mX5_isRest 22 [s0, s1, s2, s3, .val (.int x), s5, s6] st h = E_ d mX5_isRest 24 [s0, s1, s2, s3, .val (.int x), s5, s6] (.int x :: st) h := e_go dX5_isRest_22 rfl rfl
theorem wX5_isRest_24 (ht : oT h a = 7) : E_ (d + 1) mX5_isRest 24 ls [.int x3, .int x2, .int x1, .ref a, .ref r1] h = (C_ d mX5_payAt [.ref a, .int x1, .int x2, .int x3] h).bind fun r => E_ (d + 1) mX5_isRest 27 ls (xpu r.1 [.ref r1]) r.2 := e_vir dX5_isRest_24 rfl rfl rfl rfl rfl rfl (Nat.le_of_ble_eq_true rfl) (Nat.le_of_ble_eq_true rfl) ht
theorem wX5_isRest_27 (ht : oT h a = 40) (hi : xix x (oN h a) = true) : E_ d mX5_isRest 27 ls (.int x :: .ref a :: st) h = E_ d mX5_isRest 28 ls (.int (oI h a x.toNatClampNeg) :: st) h := e_iald dX5_isRest_27 rfl ht hi
theorem wX5_isRest_28 : E_ d mX5_isRest 28 [s0, s1, s2, s3, s4, s5, s6] (.int x :: st) h = E_ d mX5_isRest 30 [s0, s1, s2, s3, s4, xk s5, .val (.int x)] st h := e_go dX5_isRest_28 rfl rfl
theorem wX5_isRest_30 : E_ d mX5_isRest 30 [s0, s1, .val (.int x), s3, s4, s5, s6] st h = E_ d mX5_isRest 31 [s0, s1, .val (.int x), s3, s4, s5, s6] (.int x :: st) h := e_go dX5_isRest_30 rfl rfl
theorem wX5_isRest_31 : E_ d mX5_isRest 31 ls (.int x :: st) h = if x = 0 then E_ d mX5_isRest 41 ls st h else E_ d mX5_isRest 34 ls st h := e_zeq dX5_isRest_31 rfl rfl
theorem wX5_isRest_34 : E_ d mX5_isRest 34 [s0, s1, s2, s3, s4, .val (.int x), s6] st h = E_ d mX5_isRest 36 [s0, s1, s2, s3, s4, .val (.int x), s6] (.int x :: st) h := e_go dX5_isRest_34 rfl rfl
theorem wX5_isRest_36 : E_ d mX5_isRest 36 [s0, s1, s2, s3, s4, s5, .val (.int x)] st h = E_ d mX5_isRest 38 [s0, s1, s2, s3, s4, s5, .val (.int x)] (.int x :: st) h := e_go dX5_isRest_36 rfl rfl
theorem wX5_isRest_38 : E_ d mX5_isRest 38 ls (.int y :: .int x :: st) h = if x < y then E_ d mX5_isRest 57 ls st h else E_ d mX5_isRest 41 ls st h := e_ilt dX5_isRest_38 rfl rfl
theorem wX5_isRest_41 : E_ d mX5_isRest 41 [s0, s1, .val (.int x), s3, s4, s5, s6] st h = E_ d mX5_isRest 42 [s0, s1, .val (.int x), s3, s4, s5, s6] (.int x :: st) h := e_go dX5_isRest_41 rfl rfl
theorem wX5_isRest_42 : E_ d mX5_isRest 42 [s0, s1, s2, .val (.int x), s4, s5, s6] st h = E_ d mX5_isRest 43 [s0, s1, s2, .val (.int x), s4, s5, s6] (.int x :: st) h := e_go dX5_isRest_42 rfl rfl
theorem wX5_isRest_43 : E_ d mX5_isRest 43 ls (.int y :: .int x :: st) h = if x = y then E_ d mX5_isRest 53 ls st h else E_ d mX5_isRest 46 ls st h := e_ieq dX5_isRest_43 rfl rfl
theorem wX5_isRest_46 : E_ d mX5_isRest 46 [s0, s1, s2, s3, s4, s5, .val (.int x)] st h = E_ d mX5_isRest 48 [s0, s1, s2, s3, s4, s5, .val (.int x)] (.int x :: st) h := e_go dX5_isRest_46 rfl rfl
theorem wX5_isRest_48 : E_ d mX5_isRest 48 [s0, s1, s2, s3, s4, .val (.int x), s6] st h = E_ d mX5_isRest 50 [s0, s1, s2, s3, s4, .val (.int x), s6] (.int x :: st) h := e_go dX5_isRest_48 rfl rfl
theorem wX5_isRest_50 : E_ d mX5_isRest 50 ls (.int y :: .int x :: st) h = if x < y then E_ d mX5_isRest 57 ls st h else E_ d mX5_isRest 53 ls st h := e_ilt dX5_isRest_50 rfl rfl
theorem wX5_isRest_53 : E_ d mX5_isRest 53 ls st h = E_ d mX5_isRest 54 ls (.int (nI 1) :: st) h := e_iconst dX5_isRest_53 kiconst_1 rfl
theorem wX5_isRest_54 : E_ d mX5_isRest 54 ls st h = E_ d mX5_isRest 58 ls st h := e_gt dX5_isRest_54 rfl
theorem wX5_isRest_57 : E_ d mX5_isRest 57 ls st h = E_ d mX5_isRest 58 ls (.int (nI 0) :: st) h := e_iconst dX5_isRest_57 kiconst_0 rfl
theorem wX5_isRest_58 (hx : x = 0 ∨ x = 1) : E_ d mX5_isRest 58 ls [.int x] h = some (some (.int x), h) := e_rtZ dX5_isRest_58 rfl hx
/-! FootOutModel.thanks -/
theorem wX5_thanks_0 : E_ d mX5_thanks 0 [.val (.ref a), s1, s2, s3, s4, s5, s6, s7, s8] st h = E_ d mX5_thanks 1 [.val (.ref a), s1, s2, s3, s4, s5, s6, s7, s8] (.ref a :: st) h := e_go dX5_thanks_0 rfl rfl
theorem wX5_thanks_1 : E_ d mX5_thanks 1 ls st h = E_ d mX5_thanks 2 ls (.int (nI 0) :: st) h := e_iconst dX5_thanks_1 kiconst_0 rfl
theorem wX5_thanks_2 (ht : oT h a = 7) : E_ d mX5_thanks 2 ls (.int x :: .ref a :: st) h = E_ d mX5_thanks 5 ls st (pI h a (va_up (oI h a) 0 x)) := e_putI dX5_thanks_2 rfl rfl ht
theorem wX5_thanks_5 : E_ d mX5_thanks 5 [s0, .val (.int x), s2, s3, s4, s5, s6, s7, s8] st h = E_ d mX5_thanks 6 [s0, .val (.int x), s2, s3, s4, s5, s6, s7, s8] (.int x :: st) h := e_go dX5_thanks_5 rfl rfl
theorem wX5_thanks_6 : E_ d mX5_thanks 6 ls (.int x :: st) h = E_ d mX5_thanks 7 ls (.long x.toInt64 :: st) h := e_go dX5_thanks_6 rfl rfl
theorem wX5_thanks_7 : E_ d mX5_thanks 7 ls st h = E_ d mX5_thanks 8 ls (.long 0 :: st) h := e_go dX5_thanks_7 rfl rfl
theorem wX5_thanks_8 : E_ d mX5_thanks 8 ls st h = E_ d mX5_thanks 11 ls (.long (1000000) :: st) h := e_go dX5_thanks_8 rfl rfl
theorem wX5_thanks_11 : E_ (d + 1) mX5_thanks 11 ls [.long u3, .long u2, .long u1] h = (C_ d mX5_within [.long u1, .long u2, .long u3] h).bind fun r => E_ (d + 1) mX5_thanks 14 ls (xpu r.1 []) r.2 := e_call dX5_thanks_11 rfl rfl
theorem wX5_thanks_14 : E_ d mX5_thanks 14 ls (.int x :: st) h = if x = 0 then E_ d mX5_thanks 67 ls st h else E_ d mX5_thanks 17 ls st h := e_zeq dX5_thanks_14 rfl rfl
theorem wX5_thanks_17 : E_ d mX5_thanks 17 [s0, s1, .val (.int x), s3, s4, s5, s6, s7, s8] st h = E_ d mX5_thanks 18 [s0, s1, .val (.int x), s3, s4, s5, s6, s7, s8] (.int x :: st) h := e_go dX5_thanks_17 rfl rfl
theorem wX5_thanks_18 : E_ d mX5_thanks 18 ls (.int x :: st) h = E_ d mX5_thanks 19 ls (.long x.toInt64 :: st) h := e_go dX5_thanks_18 rfl rfl
theorem wX5_thanks_19 : E_ d mX5_thanks 19 ls st h = E_ d mX5_thanks 20 ls (.long 0 :: st) h := e_go dX5_thanks_19 rfl rfl
theorem wX5_thanks_20 : E_ d mX5_thanks 20 ls st h = E_ d mX5_thanks 23 ls (.long (100) :: st) h := e_go dX5_thanks_20 rfl rfl
theorem wX5_thanks_23 : E_ (d + 1) mX5_thanks 23 ls [.long u3, .long u2, .long u1] h = (C_ d mX5_within [.long u1, .long u2, .long u3] h).bind fun r => E_ (d + 1) mX5_thanks 26 ls (xpu r.1 []) r.2 := e_call dX5_thanks_23 rfl rfl
theorem wX5_thanks_26 : E_ d mX5_thanks 26 ls (.int x :: st) h = if x = 0 then E_ d mX5_thanks 67 ls st h else E_ d mX5_thanks 29 ls st h := e_zeq dX5_thanks_26 rfl rfl
theorem wX5_thanks_29 : E_ d mX5_thanks 29 [s0, s1, s2, .val (.int x), s4, s5, s6, s7, s8] st h = E_ d mX5_thanks 30 [s0, s1, s2, .val (.int x), s4, s5, s6, s7, s8] (.int x :: st) h := e_go dX5_thanks_29 rfl rfl
theorem wX5_thanks_30 : E_ d mX5_thanks 30 ls (.int x :: st) h = E_ d mX5_thanks 31 ls (.long x.toInt64 :: st) h := e_go dX5_thanks_30 rfl rfl
theorem wX5_thanks_31 : E_ d mX5_thanks 31 ls st h = E_ d mX5_thanks 32 ls (.long 0 :: st) h := e_go dX5_thanks_31 rfl rfl
theorem wX5_thanks_32 : E_ d mX5_thanks 32 ls st h = E_ d mX5_thanks 35 ls (.long (100) :: st) h := e_go dX5_thanks_32 rfl rfl
theorem wX5_thanks_35 : E_ (d + 1) mX5_thanks 35 ls [.long u3, .long u2, .long u1] h = (C_ d mX5_within [.long u1, .long u2, .long u3] h).bind fun r => E_ (d + 1) mX5_thanks 38 ls (xpu r.1 []) r.2 := e_call dX5_thanks_35 rfl rfl
theorem wX5_thanks_38 : E_ d mX5_thanks 38 ls (.int x :: st) h = if x = 0 then E_ d mX5_thanks 67 ls st h else E_ d mX5_thanks 41 ls st h := e_zeq dX5_thanks_38 rfl rfl
theorem wX5_thanks_41 : E_ d mX5_thanks 41 [s0, s1, s2, s3, .val (.int x), s5, s6, s7, s8] st h = E_ d mX5_thanks 43 [s0, s1, s2, s3, .val (.int x), s5, s6, s7, s8] (.int x :: st) h := e_go dX5_thanks_41 rfl rfl
theorem wX5_thanks_43 : E_ d mX5_thanks 43 ls (.int x :: st) h = E_ d mX5_thanks 44 ls (.long x.toInt64 :: st) h := e_go dX5_thanks_43 rfl rfl
theorem wX5_thanks_44 : E_ d mX5_thanks 44 ls st h = E_ d mX5_thanks 45 ls (.long 0 :: st) h := e_go dX5_thanks_44 rfl rfl
theorem wX5_thanks_45 : E_ d mX5_thanks 45 ls st h = E_ d mX5_thanks 48 ls (.long (100) :: st) h := e_go dX5_thanks_45 rfl rfl
theorem wX5_thanks_48 : E_ (d + 1) mX5_thanks 48 ls [.long u3, .long u2, .long u1] h = (C_ d mX5_within [.long u1, .long u2, .long u3] h).bind fun r => E_ (d + 1) mX5_thanks 51 ls (xpu r.1 []) r.2 := e_call dX5_thanks_48 rfl rfl
theorem wX5_thanks_51 : E_ d mX5_thanks 51 ls (.int x :: st) h = if x = 0 then E_ d mX5_thanks 67 ls st h else E_ d mX5_thanks 54 ls st h := e_zeq dX5_thanks_51 rfl rfl
theorem wX5_thanks_54 : E_ d mX5_thanks 54 [s0, s1, s2, s3, s4, .val (.int x), s6, s7, s8] st h = E_ d mX5_thanks 56 [s0, s1, s2, s3, s4, .val (.int x), s6, s7, s8] (.int x :: st) h := e_go dX5_thanks_54 rfl rfl
theorem wX5_thanks_56 : E_ d mX5_thanks 56 ls (.int x :: st) h = E_ d mX5_thanks 57 ls (.long x.toInt64 :: st) h := e_go dX5_thanks_56 rfl rfl
theorem wX5_thanks_57 : E_ d mX5_thanks 57 ls st h = E_ d mX5_thanks 58 ls (.long 0 :: st) h := e_go dX5_thanks_57 rfl rfl
theorem wX5_thanks_58 : E_ d mX5_thanks 58 ls st h = E_ d mX5_thanks 61 ls (.long (99) :: st) h := e_go dX5_thanks_58 rfl rfl
theorem wX5_thanks_61 : E_ (d + 1) mX5_thanks 61 ls [.long u3, .long u2, .long u1] h = (C_ d mX5_within [.long u1, .long u2, .long u3] h).bind fun r => E_ (d + 1) mX5_thanks 64 ls (xpu r.1 []) r.2 := e_call dX5_thanks_61 rfl rfl
theorem wX5_thanks_64 : E_ d mX5_thanks 64 ls (.int x :: st) h = if x = 0 then E_ d mX5_thanks 67 ls st h else E_ d mX5_thanks 74 ls st h := e_zne dX5_thanks_64 rfl rfl
theorem wX5_thanks_67 : E_ d mX5_thanks 67 [.val (.ref a), s1, s2, s3, s4, s5, s6, s7, s8] st h = E_ d mX5_thanks 68 [.val (.ref a), s1, s2, s3, s4, s5, s6, s7, s8] (.ref a :: st) h := e_go dX5_thanks_67 rfl rfl
theorem wX5_thanks_68 : E_ d mX5_thanks 68 ls st h = E_ d mX5_thanks 70 ls (.int ((-3)) :: st) h := e_bipush dX5_thanks_68 kbipush_m3 rfl
theorem wX5_thanks_70 (ht : oT h a = 7) : E_ (d + 1) mX5_thanks 70 ls [.int x1, .ref a] h = (C_ d mX5_no [.ref a, .int x1] h).bind fun r => E_ (d + 1) mX5_thanks 73 ls (xpu r.1 []) r.2 := e_vir dX5_thanks_70 rfl rfl rfl rfl rfl rfl (Nat.le_of_ble_eq_true rfl) (Nat.le_of_ble_eq_true rfl) ht
theorem wX5_thanks_73 : E_ d mX5_thanks 73 ls [.int x] h = some (some (.int x), h) := e_rt dX5_thanks_73 rfl rfl
theorem wX5_thanks_74 : E_ d mX5_thanks 74 [s0, .val (.int x), s2, s3, s4, s5, s6, s7, s8] st h = E_ d mX5_thanks 75 [s0, .val (.int x), s2, s3, s4, s5, s6, s7, s8] (.int x :: st) h := e_go dX5_thanks_74 rfl rfl
theorem wX5_thanks_75 : E_ d mX5_thanks 75 ls (.int x :: st) h = E_ d mX5_thanks 76 ls (.long x.toInt64 :: st) h := e_go dX5_thanks_75 rfl rfl
theorem wX5_thanks_76 : E_ d mX5_thanks 76 [s0, s1, s2, s3, s4, s5, s6, s7, s8] (.long u :: st) h = E_ d mX5_thanks 78 [s0, s1, s2, s3, s4, xk s5, .val (.long u), .unset, s8] st h := e_go dX5_thanks_76 rfl rfl
theorem wX5_thanks_78 : E_ d mX5_thanks 78 ls st h = E_ d mX5_thanks 79 ls (.int (nI 0) :: st) h := e_iconst dX5_thanks_78 kiconst_0 rfl
theorem wX5_thanks_79 : E_ d mX5_thanks 79 [s0, s1, s2, s3, s4, s5, s6, s7, s8] (.int x :: st) h = E_ d mX5_thanks 81 [s0, s1, s2, s3, s4, s5, s6, xk s7, .val (.int x)] st h := e_go dX5_thanks_79 rfl rfl
theorem wX5_thanks_81 : E_ d mX5_thanks 81 [s0, s1, s2, s3, s4, s5, s6, s7, .val (.int x)] st h = E_ d mX5_thanks 83 [s0, s1, s2, s3, s4, s5, s6, s7, .val (.int x)] (.int x :: st) h := e_go dX5_thanks_81 rfl rfl
theorem wX5_thanks_83 : E_ d mX5_thanks 83 [s0, s1, s2, s3, s4, .val (.int x), s6, s7, s8] st h = E_ d mX5_thanks 85 [s0, s1, s2, s3, s4, .val (.int x), s6, s7, s8] (.int x :: st) h := e_go dX5_thanks_83 rfl rfl
theorem wX5_thanks_85 : E_ d mX5_thanks 85 ls (.int y :: .int x :: st) h = if x < y then E_ d mX5_thanks 88 ls st h else E_ d mX5_thanks 122 ls st h := e_ige dX5_thanks_85 rfl rfl
theorem wX5_thanks_88 : E_ d mX5_thanks 88 [s0, s1, s2, s3, s4, s5, .val (.long u), s7, s8] st h = E_ d mX5_thanks 90 [s0, s1, s2, s3, s4, s5, .val (.long u), s7, s8] (.long u :: st) h := e_go dX5_thanks_88 rfl rfl
theorem wX5_thanks_90 : E_ d mX5_thanks 90 [s0, s1, .val (.int x), s3, s4, s5, s6, s7, s8] st h = E_ d mX5_thanks 91 [s0, s1, .val (.int x), s3, s4, s5, s6, s7, s8] (.int x :: st) h := e_go dX5_thanks_90 rfl rfl
theorem wX5_thanks_91 : E_ d mX5_thanks 91 ls (.int x :: st) h = E_ d mX5_thanks 92 ls (.long x.toInt64 :: st) h := e_go dX5_thanks_91 rfl rfl
theorem wX5_thanks_92 : E_ d mX5_thanks 92 ls (.long v :: .long u :: st) h = E_ d mX5_thanks 93 ls (.long (u * v) :: st) h := e_go dX5_thanks_92 rfl rfl
theorem wX5_thanks_93 : E_ d mX5_thanks 93 [s0, s1, s2, .val (.int x), s4, s5, s6, s7, s8] st h = E_ d mX5_thanks 94 [s0, s1, s2, .val (.int x), s4, s5, s6, s7, s8] (.int x :: st) h := e_go dX5_thanks_93 rfl rfl
theorem wX5_thanks_94 : E_ d mX5_thanks 94 ls (.int x :: st) h = E_ d mX5_thanks 95 ls (.long x.toInt64 :: st) h := e_go dX5_thanks_94 rfl rfl
theorem wX5_thanks_95 : E_ d mX5_thanks 95 ls (.long v :: .long u :: st) h = E_ d mX5_thanks 96 ls (.long (u * v) :: st) h := e_go dX5_thanks_95 rfl rfl
theorem wX5_thanks_96 : E_ d mX5_thanks 96 ls st h = E_ d mX5_thanks 99 ls (.long (100000000) :: st) h := e_go dX5_thanks_96 rfl rfl
theorem wX5_thanks_99 : E_ d mX5_thanks 99 [s0, s1, s2, s3, s4, s5, .val (.long u), s7, s8] st h = E_ d mX5_thanks 101 [s0, s1, s2, s3, s4, s5, .val (.long u), s7, s8] (.long u :: st) h := e_go dX5_thanks_99 rfl rfl
theorem wX5_thanks_101 : E_ d mX5_thanks 101 [s0, s1, .val (.int x), s3, s4, s5, s6, s7, s8] st h = E_ d mX5_thanks 102 [s0, s1, .val (.int x), s3, s4, s5, s6, s7, s8] (.int x :: st) h := e_go dX5_thanks_101 rfl rfl
theorem wX5_thanks_102 : E_ d mX5_thanks 102 ls (.int x :: st) h = E_ d mX5_thanks 103 ls (.long x.toInt64 :: st) h := e_go dX5_thanks_102 rfl rfl
theorem wX5_thanks_103 : E_ d mX5_thanks 103 ls (.long v :: .long u :: st) h = E_ d mX5_thanks 104 ls (.long (u * v) :: st) h := e_go dX5_thanks_103 rfl rfl
theorem wX5_thanks_104 : E_ d mX5_thanks 104 ls (.long v :: .long u :: st) h = E_ d mX5_thanks 105 ls (.long (u - v) :: st) h := e_go dX5_thanks_104 rfl rfl
theorem wX5_thanks_105 : E_ d mX5_thanks 105 [s0, s1, s2, s3, .val (.int x), s5, s6, s7, s8] st h = E_ d mX5_thanks 107 [s0, s1, s2, s3, .val (.int x), s5, s6, s7, s8] (.int x :: st) h := e_go dX5_thanks_105 rfl rfl
theorem wX5_thanks_107 : E_ d mX5_thanks 107 ls (.int x :: st) h = E_ d mX5_thanks 108 ls (.long x.toInt64 :: st) h := e_go dX5_thanks_107 rfl rfl
theorem wX5_thanks_108 : E_ d mX5_thanks 108 ls (.long v :: .long u :: st) h = E_ d mX5_thanks 109 ls (.long (u * v) :: st) h := e_go dX5_thanks_108 rfl rfl
theorem wX5_thanks_109 : E_ d mX5_thanks 109 ls (.long v :: .long u :: st) h = E_ d mX5_thanks 110 ls (.long (u + v) :: st) h := e_go dX5_thanks_109 rfl rfl
theorem wX5_thanks_110 : E_ d mX5_thanks 110 ls st h = E_ d mX5_thanks 113 ls (.long (10000) :: st) h := e_go dX5_thanks_110 rfl rfl
theorem wX5_thanks_113 (hy : ¬ v = 0) : E_ d mX5_thanks 113 ls (.long v :: .long u :: st) h = E_ d mX5_thanks 114 ls (.long (u / v) :: st) h := e_ldiv dX5_thanks_113 rfl hy
theorem wX5_thanks_114 : E_ d mX5_thanks 114 [s0, s1, s2, s3, s4, s5, s6, s7, s8] (.long u :: st) h = E_ d mX5_thanks 116 [s0, s1, s2, s3, s4, xk s5, .val (.long u), .unset, s8] st h := e_go dX5_thanks_114 rfl rfl
theorem wX5_thanks_116 : E_ d mX5_thanks 116 [s0, s1, s2, s3, s4, s5, s6, s7, .val (.int x)] st h = E_ d mX5_thanks 119 [s0, s1, s2, s3, s4, s5, s6, xk s7, .val (.int (x + nI 1))] st h := by rw [← kiinc_1]; exact e_go dX5_thanks_116 rfl rfl
theorem wX5_thanks_119 : E_ d mX5_thanks 119 ls st h = E_ d mX5_thanks 81 ls st h := e_gt dX5_thanks_119 rfl
theorem wX5_thanks_122 : E_ d mX5_thanks 122 [s0, s1, s2, s3, s4, s5, .val (.long u), s7, s8] st h = E_ d mX5_thanks 124 [s0, s1, s2, s3, s4, s5, .val (.long u), s7, s8] (.long u :: st) h := e_go dX5_thanks_122 rfl rfl
theorem wX5_thanks_124 : E_ d mX5_thanks 124 ls (.long u :: st) h = E_ d mX5_thanks 125 ls (.int u.toInt32 :: st) h := e_go dX5_thanks_124 rfl rfl
theorem wX5_thanks_125 : E_ d mX5_thanks 125 ls [.int x] h = some (some (.int x), h) := e_rt dX5_thanks_125 rfl rfl
/-! FootOutModel.filled -/
theorem wX5_filled_0 : E_ d mX5_filled 0 [.val (.ref a), s1, s2] st h = E_ d mX5_filled 1 [.val (.ref a), s1, s2] (.ref a :: st) h := e_go dX5_filled_0 rfl rfl
theorem wX5_filled_1 : E_ d mX5_filled 1 ls st h = E_ d mX5_filled 2 ls (.int (nI 0) :: st) h := e_iconst dX5_filled_1 kiconst_0 rfl
theorem wX5_filled_2 (ht : oT h a = 7) : E_ d mX5_filled 2 ls (.int x :: .ref a :: st) h = E_ d mX5_filled 5 ls st (pI h a (va_up (oI h a) 0 x)) := e_putI dX5_filled_2 rfl rfl ht
theorem wX5_filled_5 : E_ d mX5_filled 5 [s0, .val (.int x), s2] st h = E_ d mX5_filled 6 [s0, .val (.int x), s2] (.int x :: st) h := e_go dX5_filled_5 rfl rfl
theorem wX5_filled_6 : E_ d mX5_filled 6 ls (.int x :: st) h = E_ d mX5_filled 7 ls (.long x.toInt64 :: st) h := e_go dX5_filled_6 rfl rfl
theorem wX5_filled_7 : E_ d mX5_filled 7 ls st h = E_ d mX5_filled 8 ls (.long 0 :: st) h := e_go dX5_filled_7 rfl rfl
theorem wX5_filled_8 : E_ d mX5_filled 8 ls st h = E_ d mX5_filled 11 ls (.long (3) :: st) h := e_go dX5_filled_8 rfl rfl
theorem wX5_filled_11 : E_ (d + 1) mX5_filled 11 ls [.long u3, .long u2, .long u1] h = (C_ d mX5_within [.long u1, .long u2, .long u3] h).bind fun r => E_ (d + 1) mX5_filled 14 ls (xpu r.1 []) r.2 := e_call dX5_filled_11 rfl rfl
theorem wX5_filled_14 : E_ d mX5_filled 14 ls (.int x :: st) h = if x = 0 then E_ d mX5_filled 17 ls st h else E_ d mX5_filled 24 ls st h := e_zne dX5_filled_14 rfl rfl
theorem wX5_filled_17 : E_ d mX5_filled 17 [.val (.ref a), s1, s2] st h = E_ d mX5_filled 18 [.val (.ref a), s1, s2] (.ref a :: st) h := e_go dX5_filled_17 rfl rfl
theorem wX5_filled_18 : E_ d mX5_filled 18 ls st h = E_ d mX5_filled 20 ls (.int ((-2)) :: st) h := e_bipush dX5_filled_18 kbipush_m2 rfl
theorem wX5_filled_20 (ht : oT h a = 7) : E_ (d + 1) mX5_filled 20 ls [.int x1, .ref a] h = (C_ d mX5_no [.ref a, .int x1] h).bind fun r => E_ (d + 1) mX5_filled 23 ls (xpu r.1 []) r.2 := e_vir dX5_filled_20 rfl rfl rfl rfl rfl rfl (Nat.le_of_ble_eq_true rfl) (Nat.le_of_ble_eq_true rfl) ht
theorem wX5_filled_23 : E_ d mX5_filled 23 ls [.int x] h = some (some (.int x), h) := e_rt dX5_filled_23 rfl rfl
theorem wX5_filled_24 : E_ d mX5_filled 24 [.val (.ref a), s1, s2] st h = E_ d mX5_filled 25 [.val (.ref a), s1, s2] (.ref a :: st) h := e_go dX5_filled_24 rfl rfl
theorem wX5_filled_25 (ht : oT h a = 7) : E_ d mX5_filled 25 ls (.ref a :: st) h = E_ d mX5_filled 28 ls (va_rf (oR h a 33) :: st) h := e_getR0 dX5_filled_25 rfl rfl ht
theorem wX5_filled_28 : E_ d mX5_filled 28 [s0, .val (.int x), s2] st h = E_ d mX5_filled 29 [s0, .val (.int x), s2] (.int x :: st) h := e_go dX5_filled_28 rfl rfl
theorem wX5_filled_29 (ht : oT h a = 40) (hi : xix x (oN h a) = true) : E_ d mX5_filled 29 ls (.int x :: .ref a :: st) h = E_ d mX5_filled 30 ls (.int (oI h a x.toNatClampNeg) :: st) h := e_iald dX5_filled_29 rfl ht hi
theorem wX5_filled_30 : E_ d mX5_filled 30 ls st h = E_ d mX5_filled 31 ls (.int ((-1)) :: st) h := e_iconst dX5_filled_30 kiconst_m1 rfl
theorem wX5_filled_31 : E_ d mX5_filled 31 ls (.int y :: .int x :: st) h = if x = y then E_ d mX5_filled 34 ls st h else E_ d mX5_filled 41 ls st h := e_ine dX5_filled_31 rfl rfl
theorem wX5_filled_34 : E_ d mX5_filled 34 [.val (.ref a), s1, s2] st h = E_ d mX5_filled 35 [.val (.ref a), s1, s2] (.ref a :: st) h := e_go dX5_filled_34 rfl rfl
theorem wX5_filled_35 : E_ d mX5_filled 35 ls st h = E_ d mX5_filled 37 ls (.int ((-6)) :: st) h := e_bipush dX5_filled_35 kbipush_m6 rfl
theorem wX5_filled_37 (ht : oT h a = 7) : E_ (d + 1) mX5_filled 37 ls [.int x1, .ref a] h = (C_ d mX5_no [.ref a, .int x1] h).bind fun r => E_ (d + 1) mX5_filled 40 ls (xpu r.1 []) r.2 := e_vir dX5_filled_37 rfl rfl rfl rfl rfl rfl (Nat.le_of_ble_eq_true rfl) (Nat.le_of_ble_eq_true rfl) ht
theorem wX5_filled_40 : E_ d mX5_filled 40 ls [.int x] h = some (some (.int x), h) := e_rt dX5_filled_40 rfl rfl
theorem wX5_filled_41 : E_ d mX5_filled 41 [s0, s1, .val (.int x)] st h = E_ d mX5_filled 42 [s0, s1, .val (.int x)] (.int x :: st) h := e_go dX5_filled_41 rfl rfl
theorem wX5_filled_42 : E_ d mX5_filled 42 ls (.int x :: st) h = E_ d mX5_filled 43 ls (.long x.toInt64 :: st) h := e_go dX5_filled_42 rfl rfl
theorem wX5_filled_43 : E_ d mX5_filled 43 ls st h = E_ d mX5_filled 44 ls (.long 0 :: st) h := e_go dX5_filled_43 rfl rfl
theorem wX5_filled_44 : E_ d mX5_filled 44 [.val (.ref a), s1, s2] st h = E_ d mX5_filled 45 [.val (.ref a), s1, s2] (.ref a :: st) h := e_go dX5_filled_44 rfl rfl
theorem wX5_filled_45 (ht : oT h a = 7) : E_ d mX5_filled 45 ls (.ref a :: st) h = E_ d mX5_filled 48 ls (va_rf (oR h a 34) :: st) h := e_getR0 dX5_filled_45 rfl rfl ht
theorem wX5_filled_48 : E_ d mX5_filled 48 [s0, .val (.int x), s2] st h = E_ d mX5_filled 49 [s0, .val (.int x), s2] (.int x :: st) h := e_go dX5_filled_48 rfl rfl
theorem wX5_filled_49 (ht : oT h a = 40) (hi : xix x (oN h a) = true) : E_ d mX5_filled 49 ls (.int x :: .ref a :: st) h = E_ d mX5_filled 50 ls (.int (oI h a x.toNatClampNeg) :: st) h := e_iald dX5_filled_49 rfl ht hi
theorem wX5_filled_50 : E_ d mX5_filled 50 ls st h = E_ d mX5_filled 51 ls (.int (nI 1) :: st) h := e_iconst dX5_filled_50 kiconst_1 rfl
theorem wX5_filled_51 : E_ d mX5_filled 51 ls (.int y :: .int x :: st) h = E_ d mX5_filled 52 ls (.int (x - y) :: st) h := e_go dX5_filled_51 rfl rfl
theorem wX5_filled_52 : E_ d mX5_filled 52 ls (.int x :: st) h = E_ d mX5_filled 53 ls (.long x.toInt64 :: st) h := e_go dX5_filled_52 rfl rfl
theorem wX5_filled_53 : E_ (d + 1) mX5_filled 53 ls [.long u3, .long u2, .long u1] h = (C_ d mX5_within [.long u1, .long u2, .long u3] h).bind fun r => E_ (d + 1) mX5_filled 56 ls (xpu r.1 []) r.2 := e_call dX5_filled_53 rfl rfl
theorem wX5_filled_56 : E_ d mX5_filled 56 ls (.int x :: st) h = if x = 0 then E_ d mX5_filled 59 ls st h else E_ d mX5_filled 66 ls st h := e_zne dX5_filled_56 rfl rfl
theorem wX5_filled_59 : E_ d mX5_filled 59 [.val (.ref a), s1, s2] st h = E_ d mX5_filled 60 [.val (.ref a), s1, s2] (.ref a :: st) h := e_go dX5_filled_59 rfl rfl
theorem wX5_filled_60 : E_ d mX5_filled 60 ls st h = E_ d mX5_filled 62 ls (.int ((-7)) :: st) h := e_bipush dX5_filled_60 kbipush_m7 rfl
theorem wX5_filled_62 (ht : oT h a = 7) : E_ (d + 1) mX5_filled 62 ls [.int x1, .ref a] h = (C_ d mX5_no [.ref a, .int x1] h).bind fun r => E_ (d + 1) mX5_filled 65 ls (xpu r.1 []) r.2 := e_vir dX5_filled_62 rfl rfl rfl rfl rfl rfl (Nat.le_of_ble_eq_true rfl) (Nat.le_of_ble_eq_true rfl) ht
theorem wX5_filled_65 : E_ d mX5_filled 65 ls [.int x] h = some (some (.int x), h) := e_rt dX5_filled_65 rfl rfl
theorem wX5_filled_66 : E_ d mX5_filled 66 [.val (.ref a), s1, s2] st h = E_ d mX5_filled 67 [.val (.ref a), s1, s2] (.ref a :: st) h := e_go dX5_filled_66 rfl rfl
theorem wX5_filled_67 : E_ d mX5_filled 67 [s0, .val (.int x), s2] st h = E_ d mX5_filled 68 [s0, .val (.int x), s2] (.int x :: st) h := e_go dX5_filled_67 rfl rfl
theorem wX5_filled_68 (ht : oT h a = 7) : E_ (d + 1) mX5_filled 68 ls [.int x1, .ref a] h = (C_ d mX5_isTooMuch [.ref a, .int x1] h).bind fun r => E_ (d + 1) mX5_filled 71 ls (xpu r.1 []) r.2 := e_vir dX5_filled_68 rfl rfl rfl rfl rfl rfl (Nat.le_of_ble_eq_true rfl) (Nat.le_of_ble_eq_true rfl) ht
theorem wX5_filled_71 : E_ d mX5_filled 71 ls (.int x :: st) h = if x = 0 then E_ d mX5_filled 81 ls st h else E_ d mX5_filled 74 ls st h := e_zeq dX5_filled_71 rfl rfl
theorem wX5_filled_74 : E_ d mX5_filled 74 [.val (.ref a), s1, s2] st h = E_ d mX5_filled 75 [.val (.ref a), s1, s2] (.ref a :: st) h := e_go dX5_filled_74 rfl rfl
theorem wX5_filled_75 : E_ d mX5_filled 75 ls st h = E_ d mX5_filled 77 ls (.int ((-3)) :: st) h := e_bipush dX5_filled_75 kbipush_m3 rfl
theorem wX5_filled_77 (ht : oT h a = 7) : E_ (d + 1) mX5_filled 77 ls [.int x1, .ref a] h = (C_ d mX5_no [.ref a, .int x1] h).bind fun r => E_ (d + 1) mX5_filled 80 ls (xpu r.1 []) r.2 := e_vir dX5_filled_77 rfl rfl rfl rfl rfl rfl (Nat.le_of_ble_eq_true rfl) (Nat.le_of_ble_eq_true rfl) ht
theorem wX5_filled_80 : E_ d mX5_filled 80 ls [.int x] h = some (some (.int x), h) := e_rt dX5_filled_80 rfl rfl
theorem wX5_filled_81 : E_ d mX5_filled 81 [.val (.ref a), s1, s2] st h = E_ d mX5_filled 82 [.val (.ref a), s1, s2] (.ref a :: st) h := e_go dX5_filled_81 rfl rfl
theorem wX5_filled_82 : E_ d mX5_filled 82 [s0, .val (.int x), s2] st h = E_ d mX5_filled 83 [s0, .val (.int x), s2] (.int x :: st) h := e_go dX5_filled_82 rfl rfl
theorem wX5_filled_83 (ht : oT h a = 7) : E_ (d + 1) mX5_filled 83 ls [.int x1, .ref a] h = (C_ d mX5_hereIn [.ref a, .int x1] h).bind fun r => E_ (d + 1) mX5_filled 86 ls (xpu r.1 []) r.2 := e_vir dX5_filled_83 rfl rfl rfl rfl rfl rfl (Nat.le_of_ble_eq_true rfl) (Nat.le_of_ble_eq_true rfl) ht
theorem wX5_filled_86 : E_ d mX5_filled 86 ls (.int x :: st) h = if x = 0 then E_ d mX5_filled 89 ls st h else E_ d mX5_filled 93 ls st h := e_zne dX5_filled_86 rfl rfl
theorem wX5_filled_89 : E_ d mX5_filled 89 ls st h = E_ d mX5_filled 90 ls (.int ((-1)) :: st) h := e_iconst dX5_filled_89 kiconst_m1 rfl
theorem wX5_filled_90 : E_ d mX5_filled 90 ls st h = E_ d mX5_filled 99 ls st h := e_gt dX5_filled_90 rfl
theorem wX5_filled_93 : E_ d mX5_filled 93 [.val (.ref a), s1, s2] st h = E_ d mX5_filled 94 [.val (.ref a), s1, s2] (.ref a :: st) h := e_go dX5_filled_93 rfl rfl
theorem wX5_filled_94 : E_ d mX5_filled 94 [s0, .val (.int x), s2] st h = E_ d mX5_filled 95 [s0, .val (.int x), s2] (.int x :: st) h := e_go dX5_filled_94 rfl rfl
theorem wX5_filled_95 : E_ d mX5_filled 95 [s0, s1, .val (.int x)] st h = E_ d mX5_filled 96 [s0, s1, .val (.int x)] (.int x :: st) h := e_go dX5_filled_95 rfl rfl
theorem wX5_filled_96 (ht : oT h a = 7) : E_ (d + 1) mX5_filled 96 ls [.int x2, .int x1, .ref a] h = (C_ d mX5_filledAt [.ref a, .int x1, .int x2] h).bind fun r => E_ (d + 1) mX5_filled 99 ls (xpu r.1 []) r.2 := e_vir dX5_filled_96 rfl rfl rfl rfl rfl rfl (Nat.le_of_ble_eq_true rfl) (Nat.le_of_ble_eq_true rfl) ht
theorem wX5_filled_99 : E_ d mX5_filled 99 ls [.int x] h = some (some (.int x), h) := e_rt dX5_filled_99 rfl rfl
/-! FootOutModel.isTooMuch -/
theorem wX5_isTooMuch_0 : E_ d mX5_isTooMuch 0 ls st h = E_ d mX5_isTooMuch 1 ls (.int (nI 0) :: st) h := e_iconst dX5_isTooMuch_0 kiconst_0 rfl
theorem wX5_isTooMuch_1 : E_ d mX5_isTooMuch 1 [s0, s1, s2] (.int x :: st) h = E_ d mX5_isTooMuch 2 [s0, xk s1, .val (.int x)] st h := e_go dX5_isTooMuch_1 rfl rfl
theorem wX5_isTooMuch_2 : E_ d mX5_isTooMuch 2 [s0, s1, .val (.int x)] st h = E_ d mX5_isTooMuch 3 [s0, s1, .val (.int x)] (.int x :: st) h := e_go dX5_isTooMuch_2 rfl rfl
theorem wX5_isTooMuch_3 : E_ d mX5_isTooMuch 3 [.val (.ref a), s1, s2] st h = E_ d mX5_isTooMuch 4 [.val (.ref a), s1, s2] (.ref a :: st) h := e_go dX5_isTooMuch_3 rfl rfl
theorem wX5_isTooMuch_4 (ht : oT h a = 7) : E_ d mX5_isTooMuch 4 ls (.ref a :: st) h = E_ d mX5_isTooMuch 7 ls (va_rf (oR h a 34) :: st) h := e_getR0 dX5_isTooMuch_4 rfl rfl ht
theorem wX5_isTooMuch_7 : E_ d mX5_isTooMuch 7 [s0, .val (.int x), s2] st h = E_ d mX5_isTooMuch 8 [s0, .val (.int x), s2] (.int x :: st) h := e_go dX5_isTooMuch_7 rfl rfl
theorem wX5_isTooMuch_8 (ht : oT h a = 40) (hi : xix x (oN h a) = true) : E_ d mX5_isTooMuch 8 ls (.int x :: .ref a :: st) h = E_ d mX5_isTooMuch 9 ls (.int (oI h a x.toNatClampNeg) :: st) h := e_iald dX5_isTooMuch_8 rfl ht hi
theorem wX5_isTooMuch_9 : E_ d mX5_isTooMuch 9 ls (.int y :: .int x :: st) h = if x < y then E_ d mX5_isTooMuch 12 ls st h else E_ d mX5_isTooMuch 38 ls st h := e_ige dX5_isTooMuch_9 rfl rfl
theorem wX5_isTooMuch_12 : E_ d mX5_isTooMuch 12 [.val (.ref a), s1, s2] st h = E_ d mX5_isTooMuch 13 [.val (.ref a), s1, s2] (.ref a :: st) h := e_go dX5_isTooMuch_12 rfl rfl
theorem wX5_isTooMuch_13 (ht : oT h a = 7) : E_ d mX5_isTooMuch 13 ls (.ref a :: st) h = E_ d mX5_isTooMuch 16 ls (va_rf (oR h a 35) :: st) h := e_getR0 dX5_isTooMuch_13 rfl rfl ht
theorem wX5_isTooMuch_16 : E_ d mX5_isTooMuch 16 ls st h = E_ d mX5_isTooMuch 18 ls (.int (nI 40) :: st) h := e_bipush dX5_isTooMuch_16 kbipush_40 rfl
theorem wX5_isTooMuch_18 : E_ d mX5_isTooMuch 18 [s0, .val (.int x), s2] st h = E_ d mX5_isTooMuch 19 [s0, .val (.int x), s2] (.int x :: st) h := e_go dX5_isTooMuch_18 rfl rfl
theorem wX5_isTooMuch_19 : E_ d mX5_isTooMuch 19 ls (.int y :: .int x :: st) h = E_ d mX5_isTooMuch 20 ls (.int (x * y) :: st) h := e_go dX5_isTooMuch_19 rfl rfl
theorem wX5_isTooMuch_20 : E_ d mX5_isTooMuch 20 [s0, s1, .val (.int x)] st h = E_ d mX5_isTooMuch 21 [s0, s1, .val (.int x)] (.int x :: st) h := e_go dX5_isTooMuch_20 rfl rfl
theorem wX5_isTooMuch_21 : E_ d mX5_isTooMuch 21 ls (.int y :: .int x :: st) h = E_ d mX5_isTooMuch 22 ls (.int (x + y) :: st) h := e_go dX5_isTooMuch_21 rfl rfl
theorem wX5_isTooMuch_22 (ht : oT h a = 44) (hi : xix x (oN h a) = true) : E_ d mX5_isTooMuch 22 ls (.int x :: .ref a :: st) h = E_ d mX5_isTooMuch 23 ls (.long (oL h a x.toNatClampNeg) :: st) h := e_lald dX5_isTooMuch_22 rfl ht hi
theorem wX5_isTooMuch_23 : E_ d mX5_isTooMuch 23 ls st h = E_ d mX5_isTooMuch 26 ls (.long (1000000) :: st) h := e_go dX5_isTooMuch_23 rfl rfl
theorem wX5_isTooMuch_26 : E_ d mX5_isTooMuch 26 ls (.long v :: .long u :: st) h = E_ d mX5_isTooMuch 27 ls (.int (lg_cmp u v) :: st) h := e_go dX5_isTooMuch_26 rfl rfl
theorem wX5_isTooMuch_27 : E_ d mX5_isTooMuch 27 ls (.int x :: st) h = if 0 < x then E_ d mX5_isTooMuch 30 ls st h else E_ d mX5_isTooMuch 32 ls st h := e_zle dX5_isTooMuch_27 rfl rfl
theorem wX5_isTooMuch_30 : E_ d mX5_isTooMuch 30 ls st h = E_ d mX5_isTooMuch 31 ls (.int (nI 1) :: st) h := e_iconst dX5_isTooMuch_30 kiconst_1 rfl
theorem wX5_isTooMuch_31 (hx : x = 0 ∨ x = 1) : E_ d mX5_isTooMuch 31 ls [.int x] h = some (some (.int x), h) := e_rtZ dX5_isTooMuch_31 rfl hx
theorem wX5_isTooMuch_32 : E_ d mX5_isTooMuch 32 [s0, s1, .val (.int x)] st h = E_ d mX5_isTooMuch 35 [s0, xk s1, .val (.int (x + nI 1))] st h := by rw [← kiinc_1]; exact e_go dX5_isTooMuch_32 rfl rfl
theorem wX5_isTooMuch_35 : E_ d mX5_isTooMuch 35 ls st h = E_ d mX5_isTooMuch 2 ls st h := e_gt dX5_isTooMuch_35 rfl
theorem wX5_isTooMuch_38 : E_ d mX5_isTooMuch 38 ls st h = E_ d mX5_isTooMuch 39 ls (.int (nI 0) :: st) h := e_iconst dX5_isTooMuch_38 kiconst_0 rfl
theorem wX5_isTooMuch_39 (hx : x = 0 ∨ x = 1) : E_ d mX5_isTooMuch 39 ls [.int x] h = some (some (.int x), h) := e_rtZ dX5_isTooMuch_39 rfl hx
/-! FootOutModel.hereIn -/
theorem wX5_hereIn_0 : E_ d mX5_hereIn 0 ls st h = E_ d mX5_hereIn 1 ls (.int (nI 0) :: st) h := e_iconst dX5_hereIn_0 kiconst_0 rfl
theorem wX5_hereIn_1 : E_ d mX5_hereIn 1 [s0, s1, s2, s3] (.int x :: st) h = E_ d mX5_hereIn 2 [s0, xk s1, .val (.int x), s3] st h := e_go dX5_hereIn_1 rfl rfl
theorem wX5_hereIn_2 : E_ d mX5_hereIn 2 ls st h = E_ d mX5_hereIn 3 ls (.int (nI 0) :: st) h := e_iconst dX5_hereIn_2 kiconst_0 rfl
theorem wX5_hereIn_3 : E_ d mX5_hereIn 3 [s0, s1, s2, s3] (.int x :: st) h = E_ d mX5_hereIn 4 [s0, s1, xk s2, .val (.int x)] st h := e_go dX5_hereIn_3 rfl rfl
theorem wX5_hereIn_4 : E_ d mX5_hereIn 4 [s0, s1, s2, .val (.int x)] st h = E_ d mX5_hereIn 5 [s0, s1, s2, .val (.int x)] (.int x :: st) h := e_go dX5_hereIn_4 rfl rfl
theorem wX5_hereIn_5 : E_ d mX5_hereIn 5 [.val (.ref a), s1, s2, s3] st h = E_ d mX5_hereIn 6 [.val (.ref a), s1, s2, s3] (.ref a :: st) h := e_go dX5_hereIn_5 rfl rfl
theorem wX5_hereIn_6 (ht : oT h a = 7) : E_ d mX5_hereIn 6 ls (.ref a :: st) h = E_ d mX5_hereIn 9 ls (va_rf (oR h a 34) :: st) h := e_getR0 dX5_hereIn_6 rfl rfl ht
theorem wX5_hereIn_9 : E_ d mX5_hereIn 9 [s0, .val (.int x), s2, s3] st h = E_ d mX5_hereIn 10 [s0, .val (.int x), s2, s3] (.int x :: st) h := e_go dX5_hereIn_9 rfl rfl
theorem wX5_hereIn_10 (ht : oT h a = 40) (hi : xix x (oN h a) = true) : E_ d mX5_hereIn 10 ls (.int x :: .ref a :: st) h = E_ d mX5_hereIn 11 ls (.int (oI h a x.toNatClampNeg) :: st) h := e_iald dX5_hereIn_10 rfl ht hi
theorem wX5_hereIn_11 : E_ d mX5_hereIn 11 ls (.int y :: .int x :: st) h = if x < y then E_ d mX5_hereIn 14 ls st h else E_ d mX5_hereIn 44 ls st h := e_ige dX5_hereIn_11 rfl rfl
theorem wX5_hereIn_14 : E_ d mX5_hereIn 14 [s0, s1, .val (.int x), s3] st h = E_ d mX5_hereIn 15 [s0, s1, .val (.int x), s3] (.int x :: st) h := e_go dX5_hereIn_14 rfl rfl
theorem wX5_hereIn_15 : E_ d mX5_hereIn 15 [.val (.ref a), s1, s2, s3] st h = E_ d mX5_hereIn 16 [.val (.ref a), s1, s2, s3] (.ref a :: st) h := e_go dX5_hereIn_15 rfl rfl
theorem wX5_hereIn_16 (ht : oT h a = 7) : E_ d mX5_hereIn 16 ls (.ref a :: st) h = E_ d mX5_hereIn 19 ls (va_rf (oR h a 35) :: st) h := e_getR0 dX5_hereIn_16 rfl rfl ht
theorem wX5_hereIn_19 : E_ d mX5_hereIn 19 ls st h = E_ d mX5_hereIn 21 ls (.int (nI 40) :: st) h := e_bipush dX5_hereIn_19 kbipush_40 rfl
theorem wX5_hereIn_21 : E_ d mX5_hereIn 21 [s0, .val (.int x), s2, s3] st h = E_ d mX5_hereIn 22 [s0, .val (.int x), s2, s3] (.int x :: st) h := e_go dX5_hereIn_21 rfl rfl
theorem wX5_hereIn_22 : E_ d mX5_hereIn 22 ls (.int y :: .int x :: st) h = E_ d mX5_hereIn 23 ls (.int (x * y) :: st) h := e_go dX5_hereIn_22 rfl rfl
theorem wX5_hereIn_23 : E_ d mX5_hereIn 23 [s0, s1, s2, .val (.int x)] st h = E_ d mX5_hereIn 24 [s0, s1, s2, .val (.int x)] (.int x :: st) h := e_go dX5_hereIn_23 rfl rfl
theorem wX5_hereIn_24 : E_ d mX5_hereIn 24 ls (.int y :: .int x :: st) h = E_ d mX5_hereIn 25 ls (.int (x + y) :: st) h := e_go dX5_hereIn_24 rfl rfl
theorem wX5_hereIn_25 (ht : oT h a = 44) (hi : xix x (oN h a) = true) : E_ d mX5_hereIn 25 ls (.int x :: .ref a :: st) h = E_ d mX5_hereIn 26 ls (.long (oL h a x.toNatClampNeg) :: st) h := e_lald dX5_hereIn_25 rfl ht hi
theorem wX5_hereIn_26 : E_ d mX5_hereIn 26 ls st h = E_ d mX5_hereIn 27 ls (.long 0 :: st) h := e_go dX5_hereIn_26 rfl rfl
theorem wX5_hereIn_27 : E_ d mX5_hereIn 27 ls (.long v :: .long u :: st) h = E_ d mX5_hereIn 28 ls (.int (lg_cmp u v) :: st) h := e_go dX5_hereIn_27 rfl rfl
theorem wX5_hereIn_28 : E_ d mX5_hereIn 28 ls (.int x :: st) h = if x < 0 then E_ d mX5_hereIn 35 ls st h else E_ d mX5_hereIn 31 ls st h := e_zlt dX5_hereIn_28 rfl rfl
theorem wX5_hereIn_31 : E_ d mX5_hereIn 31 ls st h = E_ d mX5_hereIn 32 ls (.int (nI 1) :: st) h := e_iconst dX5_hereIn_31 kiconst_1 rfl
theorem wX5_hereIn_32 : E_ d mX5_hereIn 32 ls st h = E_ d mX5_hereIn 36 ls st h := e_gt dX5_hereIn_32 rfl
theorem wX5_hereIn_35 : E_ d mX5_hereIn 35 ls st h = E_ d mX5_hereIn 36 ls (.int (nI 0) :: st) h := e_iconst dX5_hereIn_35 kiconst_0 rfl
theorem wX5_hereIn_36 : E_ d mX5_hereIn 36 ls (.int y :: .int x :: st) h = E_ d mX5_hereIn 37 ls (.int (x + y) :: st) h := e_go dX5_hereIn_36 rfl rfl
theorem wX5_hereIn_37 : E_ d mX5_hereIn 37 [s0, s1, s2, s3] (.int x :: st) h = E_ d mX5_hereIn 38 [s0, xk s1, .val (.int x), s3] st h := e_go dX5_hereIn_37 rfl rfl
theorem wX5_hereIn_38 : E_ d mX5_hereIn 38 [s0, s1, s2, .val (.int x)] st h = E_ d mX5_hereIn 41 [s0, s1, xk s2, .val (.int (x + nI 1))] st h := by rw [← kiinc_1]; exact e_go dX5_hereIn_38 rfl rfl
theorem wX5_hereIn_41 : E_ d mX5_hereIn 41 ls st h = E_ d mX5_hereIn 4 ls st h := e_gt dX5_hereIn_41 rfl
theorem wX5_hereIn_44 : E_ d mX5_hereIn 44 [s0, s1, .val (.int x), s3] st h = E_ d mX5_hereIn 45 [s0, s1, .val (.int x), s3] (.int x :: st) h := e_go dX5_hereIn_44 rfl rfl
theorem wX5_hereIn_45 : E_ d mX5_hereIn 45 ls [.int x] h = some (some (.int x), h) := e_rt dX5_hereIn_45 rfl rfl
/-! FootOutModel.filledAt -/
theorem wX5_filledAt_0 : E_ d mX5_filledAt 0 [s0, s1, .val (.int x), s3, s4, s5, s6, s7, s8] st h = E_ d mX5_filledAt 1 [s0, s1, .val (.int x), s3, s4, s5, s6, s7, s8] (.int x :: st) h := e_go dX5_filledAt_0 rfl rfl
theorem wX5_filledAt_1 : E_ d mX5_filledAt 1 [s0, s1, s2, s3, s4, s5, s6, s7, s8] (.int x :: st) h = E_ d mX5_filledAt 2 [s0, s1, xk s2, .val (.int x), s4, s5, s6, s7, s8] st h := e_go dX5_filledAt_1 rfl rfl
theorem wX5_filledAt_2 : E_ d mX5_filledAt 2 [s0, s1, .val (.int x), s3, s4, s5, s6, s7, s8] st h = E_ d mX5_filledAt 3 [s0, s1, .val (.int x), s3, s4, s5, s6, s7, s8] (.int x :: st) h := e_go dX5_filledAt_2 rfl rfl
theorem wX5_filledAt_3 : E_ d mX5_filledAt 3 [s0, s1, s2, s3, s4, s5, s6, s7, s8] (.int x :: st) h = E_ d mX5_filledAt 5 [s0, s1, s2, xk s3, .val (.int x), s5, s6, s7, s8] st h := e_go dX5_filledAt_3 rfl rfl
theorem wX5_filledAt_5 : E_ d mX5_filledAt 5 [s0, s1, s2, .val (.int x), s4, s5, s6, s7, s8] st h = E_ d mX5_filledAt 6 [s0, s1, s2, .val (.int x), s4, s5, s6, s7, s8] (.int x :: st) h := e_go dX5_filledAt_5 rfl rfl
theorem wX5_filledAt_6 : E_ d mX5_filledAt 6 ls (.int x :: st) h = if x < 0 then E_ d mX5_filledAt 31 ls st h else E_ d mX5_filledAt 9 ls st h := e_zlt dX5_filledAt_6 rfl rfl
theorem wX5_filledAt_9 : E_ d mX5_filledAt 9 [.val (.ref a), s1, s2, s3, s4, s5, s6, s7, s8] st h = E_ d mX5_filledAt 10 [.val (.ref a), s1, s2, s3, s4, s5, s6, s7, s8] (.ref a :: st) h := e_go dX5_filledAt_9 rfl rfl
theorem wX5_filledAt_10 (ht : oT h a = 7) : E_ d mX5_filledAt 10 ls (.ref a :: st) h = E_ d mX5_filledAt 13 ls (va_rf (oR h a 35) :: st) h := e_getR0 dX5_filledAt_10 rfl rfl ht
theorem wX5_filledAt_13 : E_ d mX5_filledAt 13 ls st h = E_ d mX5_filledAt 15 ls (.int (nI 40) :: st) h := e_bipush dX5_filledAt_13 kbipush_40 rfl
theorem wX5_filledAt_15 : E_ d mX5_filledAt 15 [s0, .val (.int x), s2, s3, s4, s5, s6, s7, s8] st h = E_ d mX5_filledAt 16 [s0, .val (.int x), s2, s3, s4, s5, s6, s7, s8] (.int x :: st) h := e_go dX5_filledAt_15 rfl rfl
theorem wX5_filledAt_16 : E_ d mX5_filledAt 16 ls (.int y :: .int x :: st) h = E_ d mX5_filledAt 17 ls (.int (x * y) :: st) h := e_go dX5_filledAt_16 rfl rfl
theorem wX5_filledAt_17 : E_ d mX5_filledAt 17 [s0, s1, s2, .val (.int x), s4, s5, s6, s7, s8] st h = E_ d mX5_filledAt 18 [s0, s1, s2, .val (.int x), s4, s5, s6, s7, s8] (.int x :: st) h := e_go dX5_filledAt_17 rfl rfl
theorem wX5_filledAt_18 : E_ d mX5_filledAt 18 ls (.int y :: .int x :: st) h = E_ d mX5_filledAt 19 ls (.int (x + y) :: st) h := e_go dX5_filledAt_18 rfl rfl
theorem wX5_filledAt_19 (ht : oT h a = 44) (hi : xix x (oN h a) = true) : E_ d mX5_filledAt 19 ls (.int x :: .ref a :: st) h = E_ d mX5_filledAt 20 ls (.long (oL h a x.toNatClampNeg) :: st) h := e_lald dX5_filledAt_19 rfl ht hi
theorem wX5_filledAt_20 : E_ d mX5_filledAt 20 ls st h = E_ d mX5_filledAt 21 ls (.long 0 :: st) h := e_go dX5_filledAt_20 rfl rfl
theorem wX5_filledAt_21 : E_ d mX5_filledAt 21 ls (.long v :: .long u :: st) h = E_ d mX5_filledAt 22 ls (.int (lg_cmp u v) :: st) h := e_go dX5_filledAt_21 rfl rfl
theorem wX5_filledAt_22 : E_ d mX5_filledAt 22 ls (.int x :: st) h = if x < 0 then E_ d mX5_filledAt 25 ls st h else E_ d mX5_filledAt 31 ls st h := e_zge dX5_filledAt_22 rfl rfl
theorem wX5_filledAt_25 : E_ d mX5_filledAt 25 [s0, s1, s2, .val (.int x), s4, s5, s6, s7, s8] st h = E_ d mX5_filledAt 28 [s0, s1, xk s2, .val (.int (x + (-1))), s4, s5, s6, s7, s8] st h := by rw [← kiinc_m1]; exact e_go dX5_filledAt_25 rfl rfl
theorem wX5_filledAt_28 : E_ d mX5_filledAt 28 ls st h = E_ d mX5_filledAt 5 ls st h := e_gt dX5_filledAt_28 rfl
theorem wX5_filledAt_31 : E_ d mX5_filledAt 31 [s0, s1, s2, s3, .val (.int x), s5, s6, s7, s8] st h = E_ d mX5_filledAt 33 [s0, s1, s2, s3, .val (.int x), s5, s6, s7, s8] (.int x :: st) h := e_go dX5_filledAt_31 rfl rfl
theorem wX5_filledAt_33 : E_ d mX5_filledAt 33 [.val (.ref a), s1, s2, s3, s4, s5, s6, s7, s8] st h = E_ d mX5_filledAt 34 [.val (.ref a), s1, s2, s3, s4, s5, s6, s7, s8] (.ref a :: st) h := e_go dX5_filledAt_33 rfl rfl
theorem wX5_filledAt_34 (ht : oT h a = 7) : E_ d mX5_filledAt 34 ls (.ref a :: st) h = E_ d mX5_filledAt 37 ls (va_rf (oR h a 34) :: st) h := e_getR0 dX5_filledAt_34 rfl rfl ht
theorem wX5_filledAt_37 : E_ d mX5_filledAt 37 [s0, .val (.int x), s2, s3, s4, s5, s6, s7, s8] st h = E_ d mX5_filledAt 38 [s0, .val (.int x), s2, s3, s4, s5, s6, s7, s8] (.int x :: st) h := e_go dX5_filledAt_37 rfl rfl
theorem wX5_filledAt_38 (ht : oT h a = 40) (hi : xix x (oN h a) = true) : E_ d mX5_filledAt 38 ls (.int x :: .ref a :: st) h = E_ d mX5_filledAt 39 ls (.int (oI h a x.toNatClampNeg) :: st) h := e_iald dX5_filledAt_38 rfl ht hi
theorem wX5_filledAt_39 : E_ d mX5_filledAt 39 ls (.int y :: .int x :: st) h = if x < y then E_ d mX5_filledAt 42 ls st h else E_ d mX5_filledAt 65 ls st h := e_ige dX5_filledAt_39 rfl rfl
theorem wX5_filledAt_42 : E_ d mX5_filledAt 42 [.val (.ref a), s1, s2, s3, s4, s5, s6, s7, s8] st h = E_ d mX5_filledAt 43 [.val (.ref a), s1, s2, s3, s4, s5, s6, s7, s8] (.ref a :: st) h := e_go dX5_filledAt_42 rfl rfl
theorem wX5_filledAt_43 (ht : oT h a = 7) : E_ d mX5_filledAt 43 ls (.ref a :: st) h = E_ d mX5_filledAt 46 ls (va_rf (oR h a 35) :: st) h := e_getR0 dX5_filledAt_43 rfl rfl ht
theorem wX5_filledAt_46 : E_ d mX5_filledAt 46 ls st h = E_ d mX5_filledAt 48 ls (.int (nI 40) :: st) h := e_bipush dX5_filledAt_46 kbipush_40 rfl
theorem wX5_filledAt_48 : E_ d mX5_filledAt 48 [s0, .val (.int x), s2, s3, s4, s5, s6, s7, s8] st h = E_ d mX5_filledAt 49 [s0, .val (.int x), s2, s3, s4, s5, s6, s7, s8] (.int x :: st) h := e_go dX5_filledAt_48 rfl rfl
theorem wX5_filledAt_49 : E_ d mX5_filledAt 49 ls (.int y :: .int x :: st) h = E_ d mX5_filledAt 50 ls (.int (x * y) :: st) h := e_go dX5_filledAt_49 rfl rfl
theorem wX5_filledAt_50 : E_ d mX5_filledAt 50 [s0, s1, s2, s3, .val (.int x), s5, s6, s7, s8] st h = E_ d mX5_filledAt 52 [s0, s1, s2, s3, .val (.int x), s5, s6, s7, s8] (.int x :: st) h := e_go dX5_filledAt_50 rfl rfl
theorem wX5_filledAt_52 : E_ d mX5_filledAt 52 ls (.int y :: .int x :: st) h = E_ d mX5_filledAt 53 ls (.int (x + y) :: st) h := e_go dX5_filledAt_52 rfl rfl
theorem wX5_filledAt_53 (ht : oT h a = 44) (hi : xix x (oN h a) = true) : E_ d mX5_filledAt 53 ls (.int x :: .ref a :: st) h = E_ d mX5_filledAt 54 ls (.long (oL h a x.toNatClampNeg) :: st) h := e_lald dX5_filledAt_53 rfl ht hi
theorem wX5_filledAt_54 : E_ d mX5_filledAt 54 ls st h = E_ d mX5_filledAt 55 ls (.long 0 :: st) h := e_go dX5_filledAt_54 rfl rfl
theorem wX5_filledAt_55 : E_ d mX5_filledAt 55 ls (.long v :: .long u :: st) h = E_ d mX5_filledAt 56 ls (.int (lg_cmp u v) :: st) h := e_go dX5_filledAt_55 rfl rfl
theorem wX5_filledAt_56 : E_ d mX5_filledAt 56 ls (.int x :: st) h = if x < 0 then E_ d mX5_filledAt 59 ls st h else E_ d mX5_filledAt 65 ls st h := e_zge dX5_filledAt_56 rfl rfl
theorem wX5_filledAt_59 : E_ d mX5_filledAt 59 [s0, s1, s2, s3, .val (.int x), s5, s6, s7, s8] st h = E_ d mX5_filledAt 62 [s0, s1, s2, xk s3, .val (.int (x + nI 1)), s5, s6, s7, s8] st h := by rw [← kiinc_1]; exact e_go dX5_filledAt_59 rfl rfl
theorem wX5_filledAt_62 : E_ d mX5_filledAt 62 ls st h = E_ d mX5_filledAt 31 ls st h := e_gt dX5_filledAt_62 rfl
theorem wX5_filledAt_65 : E_ d mX5_filledAt 65 [s0, s1, s2, .val (.int x), s4, s5, s6, s7, s8] st h = E_ d mX5_filledAt 66 [s0, s1, s2, .val (.int x), s4, s5, s6, s7, s8] (.int x :: st) h := e_go dX5_filledAt_65 rfl rfl
theorem wX5_filledAt_66 : E_ d mX5_filledAt 66 ls (.int x :: st) h = if x < 0 then E_ d mX5_filledAt 83 ls st h else E_ d mX5_filledAt 69 ls st h := e_zlt dX5_filledAt_66 rfl rfl
theorem wX5_filledAt_69 : E_ d mX5_filledAt 69 [.val (.ref a), s1, s2, s3, s4, s5, s6, s7, s8] st h = E_ d mX5_filledAt 70 [.val (.ref a), s1, s2, s3, s4, s5, s6, s7, s8] (.ref a :: st) h := e_go dX5_filledAt_69 rfl rfl
theorem wX5_filledAt_70 (ht : oT h a = 7) : E_ d mX5_filledAt 70 ls (.ref a :: st) h = E_ d mX5_filledAt 73 ls (va_rf (oR h a 35) :: st) h := e_getR0 dX5_filledAt_70 rfl rfl ht
theorem wX5_filledAt_73 : E_ d mX5_filledAt 73 ls st h = E_ d mX5_filledAt 75 ls (.int (nI 40) :: st) h := e_bipush dX5_filledAt_73 kbipush_40 rfl
theorem wX5_filledAt_75 : E_ d mX5_filledAt 75 [s0, .val (.int x), s2, s3, s4, s5, s6, s7, s8] st h = E_ d mX5_filledAt 76 [s0, .val (.int x), s2, s3, s4, s5, s6, s7, s8] (.int x :: st) h := e_go dX5_filledAt_75 rfl rfl
theorem wX5_filledAt_76 : E_ d mX5_filledAt 76 ls (.int y :: .int x :: st) h = E_ d mX5_filledAt 77 ls (.int (x * y) :: st) h := e_go dX5_filledAt_76 rfl rfl
theorem wX5_filledAt_77 : E_ d mX5_filledAt 77 [s0, s1, s2, .val (.int x), s4, s5, s6, s7, s8] st h = E_ d mX5_filledAt 78 [s0, s1, s2, .val (.int x), s4, s5, s6, s7, s8] (.int x :: st) h := e_go dX5_filledAt_77 rfl rfl
theorem wX5_filledAt_78 : E_ d mX5_filledAt 78 ls (.int y :: .int x :: st) h = E_ d mX5_filledAt 79 ls (.int (x + y) :: st) h := e_go dX5_filledAt_78 rfl rfl
theorem wX5_filledAt_79 (ht : oT h a = 44) (hi : xix x (oN h a) = true) : E_ d mX5_filledAt 79 ls (.int x :: .ref a :: st) h = E_ d mX5_filledAt 80 ls (.long (oL h a x.toNatClampNeg) :: st) h := e_lald dX5_filledAt_79 rfl ht hi
theorem wX5_filledAt_80 : E_ d mX5_filledAt 80 ls st h = E_ d mX5_filledAt 95 ls st h := e_gt dX5_filledAt_80 rfl
theorem wX5_filledAt_83 : E_ d mX5_filledAt 83 [.val (.ref a), s1, s2, s3, s4, s5, s6, s7, s8] st h = E_ d mX5_filledAt 84 [.val (.ref a), s1, s2, s3, s4, s5, s6, s7, s8] (.ref a :: st) h := e_go dX5_filledAt_83 rfl rfl
theorem wX5_filledAt_84 (ht : oT h a = 7) : E_ d mX5_filledAt 84 ls (.ref a :: st) h = E_ d mX5_filledAt 87 ls (va_rf (oR h a 35) :: st) h := e_getR0 dX5_filledAt_84 rfl rfl ht
theorem wX5_filledAt_87 : E_ d mX5_filledAt 87 ls st h = E_ d mX5_filledAt 89 ls (.int (nI 40) :: st) h := e_bipush dX5_filledAt_87 kbipush_40 rfl
theorem wX5_filledAt_89 : E_ d mX5_filledAt 89 [s0, .val (.int x), s2, s3, s4, s5, s6, s7, s8] st h = E_ d mX5_filledAt 90 [s0, .val (.int x), s2, s3, s4, s5, s6, s7, s8] (.int x :: st) h := e_go dX5_filledAt_89 rfl rfl
theorem wX5_filledAt_90 : E_ d mX5_filledAt 90 ls (.int y :: .int x :: st) h = E_ d mX5_filledAt 91 ls (.int (x * y) :: st) h := e_go dX5_filledAt_90 rfl rfl
theorem wX5_filledAt_91 : E_ d mX5_filledAt 91 [s0, s1, s2, s3, .val (.int x), s5, s6, s7, s8] st h = E_ d mX5_filledAt 93 [s0, s1, s2, s3, .val (.int x), s5, s6, s7, s8] (.int x :: st) h := e_go dX5_filledAt_91 rfl rfl
theorem wX5_filledAt_93 : E_ d mX5_filledAt 93 ls (.int y :: .int x :: st) h = E_ d mX5_filledAt 94 ls (.int (x + y) :: st) h := e_go dX5_filledAt_93 rfl rfl
theorem wX5_filledAt_94 (ht : oT h a = 44) (hi : xix x (oN h a) = true) : E_ d mX5_filledAt 94 ls (.int x :: .ref a :: st) h = E_ d mX5_filledAt 95 ls (.long (oL h a x.toNatClampNeg) :: st) h := e_lald dX5_filledAt_94 rfl ht hi
theorem wX5_filledAt_95 : E_ d mX5_filledAt 95 [s0, s1, s2, s3, s4, s5, s6, s7, s8] (.long u :: st) h = E_ d mX5_filledAt 97 [s0, s1, s2, s3, xk s4, .val (.long u), .unset, s7, s8] st h := e_go dX5_filledAt_95 rfl rfl
theorem wX5_filledAt_97 : E_ d mX5_filledAt 97 [s0, s1, s2, s3, .val (.int x), s5, s6, s7, s8] st h = E_ d mX5_filledAt 99 [s0, s1, s2, s3, .val (.int x), s5, s6, s7, s8] (.int x :: st) h := e_go dX5_filledAt_97 rfl rfl
theorem wX5_filledAt_99 : E_ d mX5_filledAt 99 [.val (.ref a), s1, s2, s3, s4, s5, s6, s7, s8] st h = E_ d mX5_filledAt 100 [.val (.ref a), s1, s2, s3, s4, s5, s6, s7, s8] (.ref a :: st) h := e_go dX5_filledAt_99 rfl rfl
theorem wX5_filledAt_100 (ht : oT h a = 7) : E_ d mX5_filledAt 100 ls (.ref a :: st) h = E_ d mX5_filledAt 103 ls (va_rf (oR h a 34) :: st) h := e_getR0 dX5_filledAt_100 rfl rfl ht
theorem wX5_filledAt_103 : E_ d mX5_filledAt 103 [s0, .val (.int x), s2, s3, s4, s5, s6, s7, s8] st h = E_ d mX5_filledAt 104 [s0, .val (.int x), s2, s3, s4, s5, s6, s7, s8] (.int x :: st) h := e_go dX5_filledAt_103 rfl rfl
theorem wX5_filledAt_104 (ht : oT h a = 40) (hi : xix x (oN h a) = true) : E_ d mX5_filledAt 104 ls (.int x :: .ref a :: st) h = E_ d mX5_filledAt 105 ls (.int (oI h a x.toNatClampNeg) :: st) h := e_iald dX5_filledAt_104 rfl ht hi
theorem wX5_filledAt_105 : E_ d mX5_filledAt 105 ls (.int y :: .int x :: st) h = if x < y then E_ d mX5_filledAt 108 ls st h else E_ d mX5_filledAt 123 ls st h := e_ige dX5_filledAt_105 rfl rfl
theorem wX5_filledAt_108 : E_ d mX5_filledAt 108 [.val (.ref a), s1, s2, s3, s4, s5, s6, s7, s8] st h = E_ d mX5_filledAt 109 [.val (.ref a), s1, s2, s3, s4, s5, s6, s7, s8] (.ref a :: st) h := e_go dX5_filledAt_108 rfl rfl
theorem wX5_filledAt_109 (ht : oT h a = 7) : E_ d mX5_filledAt 109 ls (.ref a :: st) h = E_ d mX5_filledAt 112 ls (va_rf (oR h a 35) :: st) h := e_getR0 dX5_filledAt_109 rfl rfl ht
theorem wX5_filledAt_112 : E_ d mX5_filledAt 112 ls st h = E_ d mX5_filledAt 114 ls (.int (nI 40) :: st) h := e_bipush dX5_filledAt_112 kbipush_40 rfl
theorem wX5_filledAt_114 : E_ d mX5_filledAt 114 [s0, .val (.int x), s2, s3, s4, s5, s6, s7, s8] st h = E_ d mX5_filledAt 115 [s0, .val (.int x), s2, s3, s4, s5, s6, s7, s8] (.int x :: st) h := e_go dX5_filledAt_114 rfl rfl
theorem wX5_filledAt_115 : E_ d mX5_filledAt 115 ls (.int y :: .int x :: st) h = E_ d mX5_filledAt 116 ls (.int (x * y) :: st) h := e_go dX5_filledAt_115 rfl rfl
theorem wX5_filledAt_116 : E_ d mX5_filledAt 116 [s0, s1, s2, s3, .val (.int x), s5, s6, s7, s8] st h = E_ d mX5_filledAt 118 [s0, s1, s2, s3, .val (.int x), s5, s6, s7, s8] (.int x :: st) h := e_go dX5_filledAt_116 rfl rfl
theorem wX5_filledAt_118 : E_ d mX5_filledAt 118 ls (.int y :: .int x :: st) h = E_ d mX5_filledAt 119 ls (.int (x + y) :: st) h := e_go dX5_filledAt_118 rfl rfl
theorem wX5_filledAt_119 (ht : oT h a = 44) (hi : xix x (oN h a) = true) : E_ d mX5_filledAt 119 ls (.int x :: .ref a :: st) h = E_ d mX5_filledAt 120 ls (.long (oL h a x.toNatClampNeg) :: st) h := e_lald dX5_filledAt_119 rfl ht hi
theorem wX5_filledAt_120 : E_ d mX5_filledAt 120 ls st h = E_ d mX5_filledAt 125 ls st h := e_gt dX5_filledAt_120 rfl
theorem wX5_filledAt_123 : E_ d mX5_filledAt 123 [s0, s1, s2, s3, s4, .val (.long u), s6, s7, s8] st h = E_ d mX5_filledAt 125 [s0, s1, s2, s3, s4, .val (.long u), s6, s7, s8] (.long u :: st) h := e_go dX5_filledAt_123 rfl rfl
theorem wX5_filledAt_125 : E_ d mX5_filledAt 125 [s0, s1, s2, s3, s4, s5, s6, s7, s8] (.long u :: st) h = E_ d mX5_filledAt 127 [s0, s1, s2, s3, s4, s5, xk s6, .val (.long u), .unset] st h := e_go dX5_filledAt_125 rfl rfl
theorem wX5_filledAt_127 : E_ d mX5_filledAt 127 [s0, s1, s2, s3, s4, .val (.long u), s6, s7, s8] st h = E_ d mX5_filledAt 129 [s0, s1, s2, s3, s4, .val (.long u), s6, s7, s8] (.long u :: st) h := e_go dX5_filledAt_127 rfl rfl
theorem wX5_filledAt_129 : E_ d mX5_filledAt 129 [s0, s1, s2, s3, s4, s5, s6, .val (.long u), s8] st h = E_ d mX5_filledAt 131 [s0, s1, s2, s3, s4, s5, s6, .val (.long u), s8] (.long u :: st) h := e_go dX5_filledAt_129 rfl rfl
theorem wX5_filledAt_131 : E_ d mX5_filledAt 131 ls (.long v :: .long u :: st) h = E_ d mX5_filledAt 132 ls (.long (u + v) :: st) h := e_go dX5_filledAt_131 rfl rfl
theorem wX5_filledAt_132 : E_ d mX5_filledAt 132 ls st h = E_ d mX5_filledAt 135 ls (.long (2) :: st) h := e_go dX5_filledAt_132 rfl rfl
theorem wX5_filledAt_135 (hy : ¬ v = 0) : E_ d mX5_filledAt 135 ls (.long v :: .long u :: st) h = E_ d mX5_filledAt 136 ls (.long (u / v) :: st) h := e_ldiv dX5_filledAt_135 rfl hy
theorem wX5_filledAt_136 : E_ d mX5_filledAt 136 ls (.long u :: st) h = E_ d mX5_filledAt 137 ls (.int u.toInt32 :: st) h := e_go dX5_filledAt_136 rfl rfl
theorem wX5_filledAt_137 : E_ d mX5_filledAt 137 ls [.int x] h = some (some (.int x), h) := e_rt dX5_filledAt_137 rfl rfl
/-! FootOutModel.slip -/
theorem wX5_slip_0 : E_ d mX5_slip 0 [.val (.ref a), s1, s2, s3, s4, s5, s6, s7, s8, s9, s10, s11, s12, s13] st h = E_ d mX5_slip 1 [.val (.ref a), s1, s2, s3, s4, s5, s6, s7, s8, s9, s10, s11, s12, s13] (.ref a :: st) h := e_go dX5_slip_0 rfl rfl
theorem wX5_slip_1 : E_ d mX5_slip 1 ls st h = E_ d mX5_slip 2 ls (.int (nI 0) :: st) h := e_iconst dX5_slip_1 kiconst_0 rfl
theorem wX5_slip_2 (ht : oT h a = 7) : E_ d mX5_slip 2 ls (.int x :: .ref a :: st) h = E_ d mX5_slip 5 ls st (pI h a (va_up (oI h a) 0 x)) := e_putI dX5_slip_2 rfl rfl ht
theorem wX5_slip_5 : E_ d mX5_slip 5 [.val (.ref a), s1, s2, s3, s4, s5, s6, s7, s8, s9, s10, s11, s12, s13] st h = E_ d mX5_slip 6 [.val (.ref a), s1, s2, s3, s4, s5, s6, s7, s8, s9, s10, s11, s12, s13] (.ref a :: st) h := e_go dX5_slip_5 rfl rfl
theorem wX5_slip_6 : E_ d mX5_slip 6 [s0, .val (.int x), s2, s3, s4, s5, s6, s7, s8, s9, s10, s11, s12, s13] st h = E_ d mX5_slip 7 [s0, .val (.int x), s2, s3, s4, s5, s6, s7, s8, s9, s10, s11, s12, s13] (.int x :: st) h := e_go dX5_slip_6 rfl rfl
theorem wX5_slip_7 (ht : oT h a = 7) : E_ (d + 1) mX5_slip 7 ls [.int x1, .ref a] h = (C_ d mX5_isRow [.ref a, .int x1] h).bind fun r => E_ (d + 1) mX5_slip 10 ls (xpu r.1 []) r.2 := e_vir dX5_slip_7 rfl rfl rfl rfl rfl rfl (Nat.le_of_ble_eq_true rfl) (Nat.le_of_ble_eq_true rfl) ht
theorem wX5_slip_10 : E_ d mX5_slip 10 ls (.int x :: st) h = if x = 0 then E_ d mX5_slip 21 ls st h else E_ d mX5_slip 13 ls st h := e_zeq dX5_slip_10 rfl rfl
theorem wX5_slip_13 : E_ d mX5_slip 13 [.val (.ref a), s1, s2, s3, s4, s5, s6, s7, s8, s9, s10, s11, s12, s13] st h = E_ d mX5_slip 14 [.val (.ref a), s1, s2, s3, s4, s5, s6, s7, s8, s9, s10, s11, s12, s13] (.ref a :: st) h := e_go dX5_slip_13 rfl rfl
theorem wX5_slip_14 : E_ d mX5_slip 14 [s0, s1, .val (.int x), s3, s4, s5, s6, s7, s8, s9, s10, s11, s12, s13] st h = E_ d mX5_slip 15 [s0, s1, .val (.int x), s3, s4, s5, s6, s7, s8, s9, s10, s11, s12, s13] (.int x :: st) h := e_go dX5_slip_14 rfl rfl
theorem wX5_slip_15 (ht : oT h a = 7) : E_ (d + 1) mX5_slip 15 ls [.int x1, .ref a] h = (C_ d mX5_isRow [.ref a, .int x1] h).bind fun r => E_ (d + 1) mX5_slip 18 ls (xpu r.1 []) r.2 := e_vir dX5_slip_15 rfl rfl rfl rfl rfl rfl (Nat.le_of_ble_eq_true rfl) (Nat.le_of_ble_eq_true rfl) ht
theorem wX5_slip_18 : E_ d mX5_slip 18 ls (.int x :: st) h = if x = 0 then E_ d mX5_slip 21 ls st h else E_ d mX5_slip 28 ls st h := e_zne dX5_slip_18 rfl rfl
theorem wX5_slip_21 : E_ d mX5_slip 21 [.val (.ref a), s1, s2, s3, s4, s5, s6, s7, s8, s9, s10, s11, s12, s13] st h = E_ d mX5_slip 22 [.val (.ref a), s1, s2, s3, s4, s5, s6, s7, s8, s9, s10, s11, s12, s13] (.ref a :: st) h := e_go dX5_slip_21 rfl rfl
theorem wX5_slip_22 : E_ d mX5_slip 22 ls st h = E_ d mX5_slip 24 ls (.int ((-100)) :: st) h := e_bipush dX5_slip_22 kbipush_m100 rfl
theorem wX5_slip_24 (ht : oT h a = 7) : E_ (d + 1) mX5_slip 24 ls [.int x1, .ref a] h = (C_ d mX5_none [.ref a, .int x1] h).bind fun r => E_ (d + 1) mX5_slip 27 ls (xpu r.1 []) r.2 := e_vir dX5_slip_24 rfl rfl rfl rfl rfl rfl (Nat.le_of_ble_eq_true rfl) (Nat.le_of_ble_eq_true rfl) ht
theorem wX5_slip_27 : E_ d mX5_slip 27 ls [.int x] h = some (some (.int x), h) := e_rt dX5_slip_27 rfl rfl
theorem wX5_slip_28 : E_ d mX5_slip 28 ls st h = E_ d mX5_slip 29 ls (.int ((-1)) :: st) h := e_iconst dX5_slip_28 kiconst_m1 rfl
theorem wX5_slip_29 : E_ d mX5_slip 29 [s0, s1, s2, s3, s4, s5, s6, s7, s8, s9, s10, s11, s12, s13] (.int x :: st) h = E_ d mX5_slip 30 [s0, s1, xk s2, .val (.int x), s4, s5, s6, s7, s8, s9, s10, s11, s12, s13] st h := e_go dX5_slip_29 rfl rfl
theorem wX5_slip_30 : E_ d mX5_slip 30 ls st h = E_ d mX5_slip 31 ls (.int (nI 0) :: st) h := e_iconst dX5_slip_30 kiconst_0 rfl
theorem wX5_slip_31 : E_ d mX5_slip 31 [s0, s1, s2, s3, s4, s5, s6, s7, s8, s9, s10, s11, s12, s13] (.int x :: st) h = E_ d mX5_slip 33 [s0, s1, s2, xk s3, .val (.int x), s5, s6, s7, s8, s9, s10, s11, s12, s13] st h := e_go dX5_slip_31 rfl rfl
theorem wX5_slip_33 : E_ d mX5_slip 33 ls st h = E_ d mX5_slip 34 ls (.long 0 :: st) h := e_go dX5_slip_33 rfl rfl
theorem wX5_slip_34 : E_ d mX5_slip 34 [s0, s1, s2, s3, s4, s5, s6, s7, s8, s9, s10, s11, s12, s13] (.long u :: st) h = E_ d mX5_slip 36 [s0, s1, s2, s3, xk s4, .val (.long u), .unset, s7, s8, s9, s10, s11, s12, s13] st h := e_go dX5_slip_34 rfl rfl
theorem wX5_slip_36 : E_ d mX5_slip 36 ls st h = E_ d mX5_slip 37 ls (.int (nI 0) :: st) h := e_iconst dX5_slip_36 kiconst_0 rfl
theorem wX5_slip_37 : E_ d mX5_slip 37 [s0, s1, s2, s3, s4, s5, s6, s7, s8, s9, s10, s11, s12, s13] (.int x :: st) h = E_ d mX5_slip 39 [s0, s1, s2, s3, s4, s5, xk s6, .val (.int x), s8, s9, s10, s11, s12, s13] st h := e_go dX5_slip_37 rfl rfl
theorem wX5_slip_39 : E_ d mX5_slip 39 [s0, s1, s2, s3, s4, s5, s6, .val (.int x), s8, s9, s10, s11, s12, s13] st h = E_ d mX5_slip 41 [s0, s1, s2, s3, s4, s5, s6, .val (.int x), s8, s9, s10, s11, s12, s13] (.int x :: st) h := e_go dX5_slip_39 rfl rfl
theorem wX5_slip_41 : E_ d mX5_slip 41 ls st h = E_ d mX5_slip 43 ls (.int (nI 7) :: st) h := e_bipush dX5_slip_41 kbipush_7 rfl
theorem wX5_slip_43 : E_ d mX5_slip 43 ls (.int y :: .int x :: st) h = if x < y then E_ d mX5_slip 46 ls st h else E_ d mX5_slip 210 ls st h := e_ige dX5_slip_43 rfl rfl
theorem wX5_slip_46 : E_ d mX5_slip 46 [s0, s1, s2, s3, s4, s5, s6, .val (.int x), s8, s9, s10, s11, s12, s13] st h = E_ d mX5_slip 48 [s0, s1, s2, s3, s4, s5, s6, .val (.int x), s8, s9, s10, s11, s12, s13] (.int x :: st) h := e_go dX5_slip_46 rfl rfl
theorem wX5_slip_48 : E_ d mX5_slip 48 ls st h = E_ d mX5_slip 49 ls (.int (nI 2) :: st) h := e_iconst dX5_slip_48 kiconst_2 rfl
theorem wX5_slip_49 (hy : ¬ y = 0) : E_ d mX5_slip 49 ls (.int y :: .int x :: st) h = E_ d mX5_slip 50 ls (.int (x - x / y * y) :: st) h := e_rem dX5_slip_49 rfl hy
theorem wX5_slip_50 : E_ d mX5_slip 50 ls st h = E_ d mX5_slip 51 ls (.int (nI 1) :: st) h := e_iconst dX5_slip_50 kiconst_1 rfl
theorem wX5_slip_51 : E_ d mX5_slip 51 ls (.int y :: .int x :: st) h = if x = y then E_ d mX5_slip 54 ls st h else E_ d mX5_slip 64 ls st h := e_ine dX5_slip_51 rfl rfl
theorem wX5_slip_54 : E_ d mX5_slip 54 [s0, s1, s2, s3, s4, s5, s6, .val (.int x), s8, s9, s10, s11, s12, s13] st h = E_ d mX5_slip 56 [s0, s1, s2, s3, s4, s5, s6, .val (.int x), s8, s9, s10, s11, s12, s13] (.int x :: st) h := e_go dX5_slip_54 rfl rfl
theorem wX5_slip_56 : E_ d mX5_slip 56 ls st h = E_ d mX5_slip 57 ls (.int (nI 1) :: st) h := e_iconst dX5_slip_56 kiconst_1 rfl
theorem wX5_slip_57 : E_ d mX5_slip 57 ls (.int y :: .int x :: st) h = E_ d mX5_slip 58 ls (.int (x + y) :: st) h := e_go dX5_slip_57 rfl rfl
theorem wX5_slip_58 : E_ d mX5_slip 58 ls (.int x :: st) h = E_ d mX5_slip 59 ls (.int (-x) :: st) h := e_go dX5_slip_58 rfl rfl
theorem wX5_slip_59 : E_ d mX5_slip 59 ls st h = E_ d mX5_slip 60 ls (.int (nI 2) :: st) h := e_iconst dX5_slip_59 kiconst_2 rfl
theorem wX5_slip_60 (hy : ¬ y = 0) : E_ d mX5_slip 60 ls (.int y :: .int x :: st) h = E_ d mX5_slip 61 ls (.int (x / y) :: st) h := e_div dX5_slip_60 rfl hy
theorem wX5_slip_61 : E_ d mX5_slip 61 ls st h = E_ d mX5_slip 68 ls st h := e_gt dX5_slip_61 rfl
theorem wX5_slip_64 : E_ d mX5_slip 64 [s0, s1, s2, s3, s4, s5, s6, .val (.int x), s8, s9, s10, s11, s12, s13] st h = E_ d mX5_slip 66 [s0, s1, s2, s3, s4, s5, s6, .val (.int x), s8, s9, s10, s11, s12, s13] (.int x :: st) h := e_go dX5_slip_64 rfl rfl
theorem wX5_slip_66 : E_ d mX5_slip 66 ls st h = E_ d mX5_slip 67 ls (.int (nI 2) :: st) h := e_iconst dX5_slip_66 kiconst_2 rfl
theorem wX5_slip_67 (hy : ¬ y = 0) : E_ d mX5_slip 67 ls (.int y :: .int x :: st) h = E_ d mX5_slip 68 ls (.int (x / y) :: st) h := e_div dX5_slip_67 rfl hy
theorem wX5_slip_68 : E_ d mX5_slip 68 [s0, s1, s2, s3, s4, s5, s6, s7, s8, s9, s10, s11, s12, s13] (.int x :: st) h = E_ d mX5_slip 70 [s0, s1, s2, s3, s4, s5, s6, xk s7, .val (.int x), s9, s10, s11, s12, s13] st h := e_go dX5_slip_68 rfl rfl
theorem wX5_slip_70 : E_ d mX5_slip 70 ls st h = E_ d mX5_slip 71 ls (.long 0 :: st) h := e_go dX5_slip_70 rfl rfl
theorem wX5_slip_71 : E_ d mX5_slip 71 [s0, s1, s2, s3, s4, s5, s6, s7, s8, s9, s10, s11, s12, s13] (.long u :: st) h = E_ d mX5_slip 73 [s0, s1, s2, s3, s4, s5, s6, s7, xk s8, .val (.long u), .unset, s11, s12, s13] st h := e_go dX5_slip_71 rfl rfl
theorem wX5_slip_73 : E_ d mX5_slip 73 ls st h = E_ d mX5_slip 74 ls (.int (nI 0) :: st) h := e_iconst dX5_slip_73 kiconst_0 rfl
theorem wX5_slip_74 : E_ d mX5_slip 74 [s0, s1, s2, s3, s4, s5, s6, s7, s8, s9, s10, s11, s12, s13] (.int x :: st) h = E_ d mX5_slip 76 [s0, s1, s2, s3, s4, s5, s6, s7, s8, s9, xk s10, .val (.int x), s12, s13] st h := e_go dX5_slip_74 rfl rfl
theorem wX5_slip_76 : E_ d mX5_slip 76 ls st h = E_ d mX5_slip 77 ls (.int (nI 0) :: st) h := e_iconst dX5_slip_76 kiconst_0 rfl
theorem wX5_slip_77 : E_ d mX5_slip 77 [s0, s1, s2, s3, s4, s5, s6, s7, s8, s9, s10, s11, s12, s13] (.int x :: st) h = E_ d mX5_slip 79 [s0, s1, s2, s3, s4, s5, s6, s7, s8, s9, s10, xk s11, .val (.int x), s13] st h := e_go dX5_slip_77 rfl rfl
theorem wX5_slip_79 : E_ d mX5_slip 79 [s0, s1, s2, s3, s4, s5, s6, s7, s8, s9, s10, s11, .val (.int x), s13] st h = E_ d mX5_slip 81 [s0, s1, s2, s3, s4, s5, s6, s7, s8, s9, s10, s11, .val (.int x), s13] (.int x :: st) h := e_go dX5_slip_79 rfl rfl
theorem wX5_slip_81 : E_ d mX5_slip 81 [.val (.ref a), s1, s2, s3, s4, s5, s6, s7, s8, s9, s10, s11, s12, s13] st h = E_ d mX5_slip 82 [.val (.ref a), s1, s2, s3, s4, s5, s6, s7, s8, s9, s10, s11, s12, s13] (.ref a :: st) h := e_go dX5_slip_81 rfl rfl
theorem wX5_slip_82 (ht : oT h a = 7) : E_ d mX5_slip 82 ls (.ref a :: st) h = E_ d mX5_slip 85 ls (va_rf (oR h a 34) :: st) h := e_getR0 dX5_slip_82 rfl rfl ht
theorem wX5_slip_85 : E_ d mX5_slip 85 [s0, .val (.int x), s2, s3, s4, s5, s6, s7, s8, s9, s10, s11, s12, s13] st h = E_ d mX5_slip 86 [s0, .val (.int x), s2, s3, s4, s5, s6, s7, s8, s9, s10, s11, s12, s13] (.int x :: st) h := e_go dX5_slip_85 rfl rfl
theorem wX5_slip_86 (ht : oT h a = 40) (hi : xix x (oN h a) = true) : E_ d mX5_slip 86 ls (.int x :: .ref a :: st) h = E_ d mX5_slip 87 ls (.int (oI h a x.toNatClampNeg) :: st) h := e_iald dX5_slip_86 rfl ht hi
theorem wX5_slip_87 : E_ d mX5_slip 87 ls (.int y :: .int x :: st) h = if x < y then E_ d mX5_slip 90 ls st h else E_ d mX5_slip 164 ls st h := e_ige dX5_slip_87 rfl rfl
theorem wX5_slip_90 : E_ d mX5_slip 90 [s0, s1, s2, s3, s4, s5, s6, s7, s8, s9, s10, s11, .val (.int x), s13] st h = E_ d mX5_slip 92 [s0, s1, s2, s3, s4, s5, s6, s7, s8, s9, s10, s11, .val (.int x), s13] (.int x :: st) h := e_go dX5_slip_90 rfl rfl
theorem wX5_slip_92 : E_ d mX5_slip 92 [s0, s1, s2, s3, s4, s5, s6, s7, .val (.int x), s9, s10, s11, s12, s13] st h = E_ d mX5_slip 94 [s0, s1, s2, s3, s4, s5, s6, s7, .val (.int x), s9, s10, s11, s12, s13] (.int x :: st) h := e_go dX5_slip_92 rfl rfl
theorem wX5_slip_94 : E_ d mX5_slip 94 ls (.int y :: .int x :: st) h = E_ d mX5_slip 95 ls (.int (x + y) :: st) h := e_go dX5_slip_94 rfl rfl
theorem wX5_slip_95 : E_ d mX5_slip 95 ls (.int x :: st) h = E_ d mX5_slip 96 ls (.long x.toInt64 :: st) h := e_go dX5_slip_95 rfl rfl
theorem wX5_slip_96 : E_ d mX5_slip 96 ls st h = E_ d mX5_slip 97 ls (.long 0 :: st) h := e_go dX5_slip_96 rfl rfl
theorem wX5_slip_97 : E_ d mX5_slip 97 [.val (.ref a), s1, s2, s3, s4, s5, s6, s7, s8, s9, s10, s11, s12, s13] st h = E_ d mX5_slip 98 [.val (.ref a), s1, s2, s3, s4, s5, s6, s7, s8, s9, s10, s11, s12, s13] (.ref a :: st) h := e_go dX5_slip_97 rfl rfl
theorem wX5_slip_98 (ht : oT h a = 7) : E_ d mX5_slip 98 ls (.ref a :: st) h = E_ d mX5_slip 101 ls (va_rf (oR h a 34) :: st) h := e_getR0 dX5_slip_98 rfl rfl ht
theorem wX5_slip_101 : E_ d mX5_slip 101 [s0, s1, .val (.int x), s3, s4, s5, s6, s7, s8, s9, s10, s11, s12, s13] st h = E_ d mX5_slip 102 [s0, s1, .val (.int x), s3, s4, s5, s6, s7, s8, s9, s10, s11, s12, s13] (.int x :: st) h := e_go dX5_slip_101 rfl rfl
theorem wX5_slip_102 (ht : oT h a = 40) (hi : xix x (oN h a) = true) : E_ d mX5_slip 102 ls (.int x :: .ref a :: st) h = E_ d mX5_slip 103 ls (.int (oI h a x.toNatClampNeg) :: st) h := e_iald dX5_slip_102 rfl ht hi
theorem wX5_slip_103 : E_ d mX5_slip 103 ls st h = E_ d mX5_slip 104 ls (.int (nI 1) :: st) h := e_iconst dX5_slip_103 kiconst_1 rfl
theorem wX5_slip_104 : E_ d mX5_slip 104 ls (.int y :: .int x :: st) h = E_ d mX5_slip 105 ls (.int (x - y) :: st) h := e_go dX5_slip_104 rfl rfl
theorem wX5_slip_105 : E_ d mX5_slip 105 ls (.int x :: st) h = E_ d mX5_slip 106 ls (.long x.toInt64 :: st) h := e_go dX5_slip_105 rfl rfl
theorem wX5_slip_106 : E_ (d + 1) mX5_slip 106 ls [.long u3, .long u2, .long u1] h = (C_ d mX5_within [.long u1, .long u2, .long u3] h).bind fun r => E_ (d + 1) mX5_slip 109 ls (xpu r.1 []) r.2 := e_call dX5_slip_106 rfl rfl
theorem wX5_slip_109 : E_ d mX5_slip 109 ls (.int x :: st) h = if x = 0 then E_ d mX5_slip 112 ls st h else E_ d mX5_slip 115 ls st h := e_zne dX5_slip_109 rfl rfl
theorem wX5_slip_112 : E_ d mX5_slip 112 ls st h = E_ d mX5_slip 158 ls st h := e_gt dX5_slip_112 rfl
theorem wX5_slip_115 : E_ d mX5_slip 115 [.val (.ref a), s1, s2, s3, s4, s5, s6, s7, s8, s9, s10, s11, s12, s13] st h = E_ d mX5_slip 116 [.val (.ref a), s1, s2, s3, s4, s5, s6, s7, s8, s9, s10, s11, s12, s13] (.ref a :: st) h := e_go dX5_slip_115 rfl rfl
theorem wX5_slip_116 : E_ d mX5_slip 116 [s0, .val (.int x), s2, s3, s4, s5, s6, s7, s8, s9, s10, s11, s12, s13] st h = E_ d mX5_slip 117 [s0, .val (.int x), s2, s3, s4, s5, s6, s7, s8, s9, s10, s11, s12, s13] (.int x :: st) h := e_go dX5_slip_116 rfl rfl
theorem wX5_slip_117 : E_ d mX5_slip 117 [s0, s1, s2, s3, s4, s5, s6, s7, s8, s9, s10, s11, .val (.int x), s13] st h = E_ d mX5_slip 119 [s0, s1, s2, s3, s4, s5, s6, s7, s8, s9, s10, s11, .val (.int x), s13] (.int x :: st) h := e_go dX5_slip_117 rfl rfl
theorem wX5_slip_119 (ht : oT h a = 7) : E_ (d + 1) mX5_slip 119 ls [.int x2, .int x1, .ref a] h = (C_ d mX5_filledAt [.ref a, .int x1, .int x2] h).bind fun r => E_ (d + 1) mX5_slip 122 ls (xpu r.1 []) r.2 := e_vir dX5_slip_119 rfl rfl rfl rfl rfl rfl (Nat.le_of_ble_eq_true rfl) (Nat.le_of_ble_eq_true rfl) ht
theorem wX5_slip_122 : E_ d mX5_slip 122 [.val (.ref a), s1, s2, s3, s4, s5, s6, s7, s8, s9, s10, s11, s12, s13] st h = E_ d mX5_slip 123 [.val (.ref a), s1, s2, s3, s4, s5, s6, s7, s8, s9, s10, s11, s12, s13] (.ref a :: st) h := e_go dX5_slip_122 rfl rfl
theorem wX5_slip_123 : E_ d mX5_slip 123 [s0, s1, .val (.int x), s3, s4, s5, s6, s7, s8, s9, s10, s11, s12, s13] st h = E_ d mX5_slip 124 [s0, s1, .val (.int x), s3, s4, s5, s6, s7, s8, s9, s10, s11, s12, s13] (.int x :: st) h := e_go dX5_slip_123 rfl rfl
theorem wX5_slip_124 : E_ d mX5_slip 124 [s0, s1, s2, s3, s4, s5, s6, s7, s8, s9, s10, s11, .val (.int x), s13] st h = E_ d mX5_slip 126 [s0, s1, s2, s3, s4, s5, s6, s7, s8, s9, s10, s11, .val (.int x), s13] (.int x :: st) h := e_go dX5_slip_124 rfl rfl
theorem wX5_slip_126 : E_ d mX5_slip 126 [s0, s1, s2, s3, s4, s5, s6, s7, .val (.int x), s9, s10, s11, s12, s13] st h = E_ d mX5_slip 128 [s0, s1, s2, s3, s4, s5, s6, s7, .val (.int x), s9, s10, s11, s12, s13] (.int x :: st) h := e_go dX5_slip_126 rfl rfl
theorem wX5_slip_128 : E_ d mX5_slip 128 ls (.int y :: .int x :: st) h = E_ d mX5_slip 129 ls (.int (x + y) :: st) h := e_go dX5_slip_128 rfl rfl
theorem wX5_slip_129 (ht : oT h a = 7) : E_ (d + 1) mX5_slip 129 ls [.int x2, .int x1, .ref a, .int x3] h = (C_ d mX5_filledAt [.ref a, .int x1, .int x2] h).bind fun r => E_ (d + 1) mX5_slip 132 ls (xpu r.1 [.int x3]) r.2 := e_vir dX5_slip_129 rfl rfl rfl rfl rfl rfl (Nat.le_of_ble_eq_true rfl) (Nat.le_of_ble_eq_true rfl) ht
theorem wX5_slip_132 : E_ d mX5_slip 132 ls (.int y :: .int x :: st) h = E_ d mX5_slip 133 ls (.int (x - y) :: st) h := e_go dX5_slip_132 rfl rfl
theorem wX5_slip_133 : E_ d mX5_slip 133 [s0, s1, s2, s3, s4, s5, s6, s7, s8, s9, s10, s11, s12, s13] (.int x :: st) h = E_ d mX5_slip 135 [s0, s1, s2, s3, s4, s5, s6, s7, s8, s9, s10, s11, xk s12, .val (.int x)] st h := e_go dX5_slip_133 rfl rfl
theorem wX5_slip_135 : E_ d mX5_slip 135 [s0, s1, s2, s3, s4, s5, s6, s7, s8, .val (.long u), s10, s11, s12, s13] st h = E_ d mX5_slip 137 [s0, s1, s2, s3, s4, s5, s6, s7, s8, .val (.long u), s10, s11, s12, s13] (.long u :: st) h := e_go dX5_slip_135 rfl rfl
theorem wX5_slip_137 : E_ d mX5_slip 137 [s0, s1, s2, s3, s4, s5, s6, s7, s8, s9, s10, s11, s12, .val (.int x)] st h = E_ d mX5_slip 139 [s0, s1, s2, s3, s4, s5, s6, s7, s8, s9, s10, s11, s12, .val (.int x)] (.int x :: st) h := e_go dX5_slip_137 rfl rfl
theorem wX5_slip_139 : E_ d mX5_slip 139 ls (.int x :: st) h = if x < 0 then E_ d mX5_slip 142 ls st h else E_ d mX5_slip 149 ls st h := e_zge dX5_slip_139 rfl rfl
theorem wX5_slip_142 : E_ d mX5_slip 142 [s0, s1, s2, s3, s4, s5, s6, s7, s8, s9, s10, s11, s12, .val (.int x)] st h = E_ d mX5_slip 144 [s0, s1, s2, s3, s4, s5, s6, s7, s8, s9, s10, s11, s12, .val (.int x)] (.int x :: st) h := e_go dX5_slip_142 rfl rfl
theorem wX5_slip_144 : E_ d mX5_slip 144 ls (.int x :: st) h = E_ d mX5_slip 145 ls (.int (-x) :: st) h := e_go dX5_slip_144 rfl rfl
theorem wX5_slip_145 : E_ d mX5_slip 145 ls (.int x :: st) h = E_ d mX5_slip 146 ls (.long x.toInt64 :: st) h := e_go dX5_slip_145 rfl rfl
theorem wX5_slip_146 : E_ d mX5_slip 146 ls st h = E_ d mX5_slip 152 ls st h := e_gt dX5_slip_146 rfl
theorem wX5_slip_149 : E_ d mX5_slip 149 [s0, s1, s2, s3, s4, s5, s6, s7, s8, s9, s10, s11, s12, .val (.int x)] st h = E_ d mX5_slip 151 [s0, s1, s2, s3, s4, s5, s6, s7, s8, s9, s10, s11, s12, .val (.int x)] (.int x :: st) h := e_go dX5_slip_149 rfl rfl
theorem wX5_slip_151 : E_ d mX5_slip 151 ls (.int x :: st) h = E_ d mX5_slip 152 ls (.long x.toInt64 :: st) h := e_go dX5_slip_151 rfl rfl
theorem wX5_slip_152 : E_ d mX5_slip 152 ls (.long v :: .long u :: st) h = E_ d mX5_slip 153 ls (.long (u + v) :: st) h := e_go dX5_slip_152 rfl rfl
theorem wX5_slip_153 : E_ d mX5_slip 153 [s0, s1, s2, s3, s4, s5, s6, s7, s8, s9, s10, s11, s12, s13] (.long u :: st) h = E_ d mX5_slip 155 [s0, s1, s2, s3, s4, s5, s6, s7, xk s8, .val (.long u), .unset, s11, s12, s13] st h := e_go dX5_slip_153 rfl rfl
theorem wX5_slip_155 : E_ d mX5_slip 155 [s0, s1, s2, s3, s4, s5, s6, s7, s8, s9, s10, .val (.int x), s12, s13] st h = E_ d mX5_slip 158 [s0, s1, s2, s3, s4, s5, s6, s7, s8, s9, xk s10, .val (.int (x + nI 1)), s12, s13] st h := by rw [← kiinc_1]; exact e_go dX5_slip_155 rfl rfl
theorem wX5_slip_158 : E_ d mX5_slip 158 [s0, s1, s2, s3, s4, s5, s6, s7, s8, s9, s10, s11, .val (.int x), s13] st h = E_ d mX5_slip 161 [s0, s1, s2, s3, s4, s5, s6, s7, s8, s9, s10, xk s11, .val (.int (x + nI 1)), s13] st h := by rw [← kiinc_1]; exact e_go dX5_slip_158 rfl rfl
theorem wX5_slip_161 : E_ d mX5_slip 161 ls st h = E_ d mX5_slip 79 ls st h := e_gt dX5_slip_161 rfl
theorem wX5_slip_164 : E_ d mX5_slip 164 [s0, s1, s2, s3, s4, s5, s6, s7, s8, s9, s10, .val (.int x), s12, s13] st h = E_ d mX5_slip 166 [s0, s1, s2, s3, s4, s5, s6, s7, s8, s9, s10, .val (.int x), s12, s13] (.int x :: st) h := e_go dX5_slip_164 rfl rfl
theorem wX5_slip_166 : E_ d mX5_slip 166 ls (.int x :: st) h = if x = 0 then E_ d mX5_slip 204 ls st h else E_ d mX5_slip 169 ls st h := e_zeq dX5_slip_166 rfl rfl
theorem wX5_slip_169 : E_ d mX5_slip 169 [s0, s1, s2, s3, .val (.int x), s5, s6, s7, s8, s9, s10, s11, s12, s13] st h = E_ d mX5_slip 171 [s0, s1, s2, s3, .val (.int x), s5, s6, s7, s8, s9, s10, s11, s12, s13] (.int x :: st) h := e_go dX5_slip_169 rfl rfl
theorem wX5_slip_171 : E_ d mX5_slip 171 ls (.int x :: st) h = if 0 < x then E_ d mX5_slip 174 ls st h else E_ d mX5_slip 193 ls st h := e_zle dX5_slip_171 rfl rfl
theorem wX5_slip_174 : E_ d mX5_slip 174 [s0, s1, s2, s3, s4, s5, s6, s7, s8, .val (.long u), s10, s11, s12, s13] st h = E_ d mX5_slip 176 [s0, s1, s2, s3, s4, s5, s6, s7, s8, .val (.long u), s10, s11, s12, s13] (.long u :: st) h := e_go dX5_slip_174 rfl rfl
theorem wX5_slip_176 : E_ d mX5_slip 176 [s0, s1, s2, s3, .val (.int x), s5, s6, s7, s8, s9, s10, s11, s12, s13] st h = E_ d mX5_slip 178 [s0, s1, s2, s3, .val (.int x), s5, s6, s7, s8, s9, s10, s11, s12, s13] (.int x :: st) h := e_go dX5_slip_176 rfl rfl
theorem wX5_slip_178 : E_ d mX5_slip 178 ls (.int x :: st) h = E_ d mX5_slip 179 ls (.long x.toInt64 :: st) h := e_go dX5_slip_178 rfl rfl
theorem wX5_slip_179 : E_ d mX5_slip 179 ls (.long v :: .long u :: st) h = E_ d mX5_slip 180 ls (.long (u * v) :: st) h := e_go dX5_slip_179 rfl rfl
theorem wX5_slip_180 : E_ d mX5_slip 180 [s0, s1, s2, s3, s4, .val (.long u), s6, s7, s8, s9, s10, s11, s12, s13] st h = E_ d mX5_slip 182 [s0, s1, s2, s3, s4, .val (.long u), s6, s7, s8, s9, s10, s11, s12, s13] (.long u :: st) h := e_go dX5_slip_180 rfl rfl
theorem wX5_slip_182 : E_ d mX5_slip 182 [s0, s1, s2, s3, s4, s5, s6, s7, s8, s9, s10, .val (.int x), s12, s13] st h = E_ d mX5_slip 184 [s0, s1, s2, s3, s4, s5, s6, s7, s8, s9, s10, .val (.int x), s12, s13] (.int x :: st) h := e_go dX5_slip_182 rfl rfl
theorem wX5_slip_184 : E_ d mX5_slip 184 ls (.int x :: st) h = E_ d mX5_slip 185 ls (.long x.toInt64 :: st) h := e_go dX5_slip_184 rfl rfl
theorem wX5_slip_185 : E_ d mX5_slip 185 ls (.long v :: .long u :: st) h = E_ d mX5_slip 186 ls (.long (u * v) :: st) h := e_go dX5_slip_185 rfl rfl
theorem wX5_slip_186 : E_ d mX5_slip 186 ls (.long v :: .long u :: st) h = E_ d mX5_slip 187 ls (.int (lg_cmp u v) :: st) h := e_go dX5_slip_186 rfl rfl
theorem wX5_slip_187 : E_ d mX5_slip 187 ls (.int x :: st) h = if x < 0 then E_ d mX5_slip 193 ls st h else E_ d mX5_slip 190 ls st h := e_zlt dX5_slip_187 rfl rfl
theorem wX5_slip_190 : E_ d mX5_slip 190 ls st h = E_ d mX5_slip 204 ls st h := e_gt dX5_slip_190 rfl
theorem wX5_slip_193 : E_ d mX5_slip 193 [s0, s1, s2, s3, s4, s5, s6, s7, .val (.int x), s9, s10, s11, s12, s13] st h = E_ d mX5_slip 195 [s0, s1, s2, s3, s4, s5, s6, s7, .val (.int x), s9, s10, s11, s12, s13] (.int x :: st) h := e_go dX5_slip_193 rfl rfl
theorem wX5_slip_195 : E_ d mX5_slip 195 [s0, s1, s2, s3, s4, s5, s6, s7, s8, s9, s10, s11, s12, s13] (.int x :: st) h = E_ d mX5_slip 196 [s0, s1, xk s2, .val (.int x), s4, s5, s6, s7, s8, s9, s10, s11, s12, s13] st h := e_go dX5_slip_195 rfl rfl
theorem wX5_slip_196 : E_ d mX5_slip 196 [s0, s1, s2, s3, s4, s5, s6, s7, s8, s9, s10, .val (.int x), s12, s13] st h = E_ d mX5_slip 198 [s0, s1, s2, s3, s4, s5, s6, s7, s8, s9, s10, .val (.int x), s12, s13] (.int x :: st) h := e_go dX5_slip_196 rfl rfl
theorem wX5_slip_198 : E_ d mX5_slip 198 [s0, s1, s2, s3, s4, s5, s6, s7, s8, s9, s10, s11, s12, s13] (.int x :: st) h = E_ d mX5_slip 200 [s0, s1, s2, xk s3, .val (.int x), s5, s6, s7, s8, s9, s10, s11, s12, s13] st h := e_go dX5_slip_198 rfl rfl
theorem wX5_slip_200 : E_ d mX5_slip 200 [s0, s1, s2, s3, s4, s5, s6, s7, s8, .val (.long u), s10, s11, s12, s13] st h = E_ d mX5_slip 202 [s0, s1, s2, s3, s4, s5, s6, s7, s8, .val (.long u), s10, s11, s12, s13] (.long u :: st) h := e_go dX5_slip_200 rfl rfl
theorem wX5_slip_202 : E_ d mX5_slip 202 [s0, s1, s2, s3, s4, s5, s6, s7, s8, s9, s10, s11, s12, s13] (.long u :: st) h = E_ d mX5_slip 204 [s0, s1, s2, s3, xk s4, .val (.long u), .unset, s7, s8, s9, s10, s11, s12, s13] st h := e_go dX5_slip_202 rfl rfl
theorem wX5_slip_204 : E_ d mX5_slip 204 [s0, s1, s2, s3, s4, s5, s6, .val (.int x), s8, s9, s10, s11, s12, s13] st h = E_ d mX5_slip 207 [s0, s1, s2, s3, s4, s5, xk s6, .val (.int (x + nI 1)), s8, s9, s10, s11, s12, s13] st h := by rw [← kiinc_1]; exact e_go dX5_slip_204 rfl rfl
theorem wX5_slip_207 : E_ d mX5_slip 207 ls st h = E_ d mX5_slip 39 ls st h := e_gt dX5_slip_207 rfl
theorem wX5_slip_210 : E_ d mX5_slip 210 [s0, s1, s2, s3, .val (.int x), s5, s6, s7, s8, s9, s10, s11, s12, s13] st h = E_ d mX5_slip 212 [s0, s1, s2, s3, .val (.int x), s5, s6, s7, s8, s9, s10, s11, s12, s13] (.int x :: st) h := e_go dX5_slip_210 rfl rfl
theorem wX5_slip_212 : E_ d mX5_slip 212 ls (.int x :: st) h = if x = 0 then E_ d mX5_slip 215 ls st h else E_ d mX5_slip 224 ls st h := e_zne dX5_slip_212 rfl rfl
theorem wX5_slip_215 : E_ d mX5_slip 215 [.val (.ref a), s1, s2, s3, s4, s5, s6, s7, s8, s9, s10, s11, s12, s13] st h = E_ d mX5_slip 216 [.val (.ref a), s1, s2, s3, s4, s5, s6, s7, s8, s9, s10, s11, s12, s13] (.ref a :: st) h := e_go dX5_slip_215 rfl rfl
theorem wX5_slip_216 : E_ d mX5_slip 216 ls st h = E_ d mX5_slip 218 ls (.int ((-100)) :: st) h := e_bipush dX5_slip_216 kbipush_m100 rfl
theorem wX5_slip_218 (ht : oT h a = 7) : E_ (d + 1) mX5_slip 218 ls [.int x1, .ref a] h = (C_ d mX5_none [.ref a, .int x1] h).bind fun r => E_ (d + 1) mX5_slip 221 ls (xpu r.1 []) r.2 := e_vir dX5_slip_218 rfl rfl rfl rfl rfl rfl (Nat.le_of_ble_eq_true rfl) (Nat.le_of_ble_eq_true rfl) ht
theorem wX5_slip_221 : E_ d mX5_slip 221 ls st h = E_ d mX5_slip 225 ls st h := e_gt dX5_slip_221 rfl
theorem wX5_slip_224 : E_ d mX5_slip 224 [s0, s1, s2, .val (.int x), s4, s5, s6, s7, s8, s9, s10, s11, s12, s13] st h = E_ d mX5_slip 225 [s0, s1, s2, .val (.int x), s4, s5, s6, s7, s8, s9, s10, s11, s12, s13] (.int x :: st) h := e_go dX5_slip_224 rfl rfl
theorem wX5_slip_225 : E_ d mX5_slip 225 ls [.int x] h = some (some (.int x), h) := e_rt dX5_slip_225 rfl rfl
/-! FootOutModel.isRow -/
theorem wX5_isRow_0 : E_ d mX5_isRow 0 [s0, .val (.int x)] st h = E_ d mX5_isRow 1 [s0, .val (.int x)] (.int x :: st) h := e_go dX5_isRow_0 rfl rfl
theorem wX5_isRow_1 : E_ d mX5_isRow 1 ls (.int x :: st) h = E_ d mX5_isRow 2 ls (.long x.toInt64 :: st) h := e_go dX5_isRow_1 rfl rfl
theorem wX5_isRow_2 : E_ d mX5_isRow 2 ls st h = E_ d mX5_isRow 3 ls (.long 0 :: st) h := e_go dX5_isRow_2 rfl rfl
theorem wX5_isRow_3 : E_ d mX5_isRow 3 ls st h = E_ d mX5_isRow 6 ls (.long (3) :: st) h := e_go dX5_isRow_3 rfl rfl
theorem wX5_isRow_6 : E_ (d + 1) mX5_isRow 6 ls [.long u3, .long u2, .long u1] h = (C_ d mX5_within [.long u1, .long u2, .long u3] h).bind fun r => E_ (d + 1) mX5_isRow 9 ls (xpu r.1 []) r.2 := e_call dX5_isRow_6 rfl rfl
theorem wX5_isRow_9 : E_ d mX5_isRow 9 ls (.int x :: st) h = if x = 0 then E_ d mX5_isRow 42 ls st h else E_ d mX5_isRow 12 ls st h := e_zeq dX5_isRow_9 rfl rfl
theorem wX5_isRow_12 : E_ d mX5_isRow 12 [.val (.ref a), s1] st h = E_ d mX5_isRow 13 [.val (.ref a), s1] (.ref a :: st) h := e_go dX5_isRow_12 rfl rfl
theorem wX5_isRow_13 (ht : oT h a = 7) : E_ d mX5_isRow 13 ls (.ref a :: st) h = E_ d mX5_isRow 16 ls (va_rf (oR h a 33) :: st) h := e_getR0 dX5_isRow_13 rfl rfl ht
theorem wX5_isRow_16 : E_ d mX5_isRow 16 [s0, .val (.int x)] st h = E_ d mX5_isRow 17 [s0, .val (.int x)] (.int x :: st) h := e_go dX5_isRow_16 rfl rfl
theorem wX5_isRow_17 (ht : oT h a = 40) (hi : xix x (oN h a) = true) : E_ d mX5_isRow 17 ls (.int x :: .ref a :: st) h = E_ d mX5_isRow 18 ls (.int (oI h a x.toNatClampNeg) :: st) h := e_iald dX5_isRow_17 rfl ht hi
theorem wX5_isRow_18 : E_ d mX5_isRow 18 ls st h = E_ d mX5_isRow 19 ls (.int ((-1)) :: st) h := e_iconst dX5_isRow_18 kiconst_m1 rfl
theorem wX5_isRow_19 : E_ d mX5_isRow 19 ls (.int y :: .int x :: st) h = if x = y then E_ d mX5_isRow 42 ls st h else E_ d mX5_isRow 22 ls st h := e_ieq dX5_isRow_19 rfl rfl
theorem wX5_isRow_22 : E_ d mX5_isRow 22 [.val (.ref a), s1] st h = E_ d mX5_isRow 23 [.val (.ref a), s1] (.ref a :: st) h := e_go dX5_isRow_22 rfl rfl
theorem wX5_isRow_23 : E_ d mX5_isRow 23 [s0, .val (.int x)] st h = E_ d mX5_isRow 24 [s0, .val (.int x)] (.int x :: st) h := e_go dX5_isRow_23 rfl rfl
theorem wX5_isRow_24 (ht : oT h a = 7) : E_ (d + 1) mX5_isRow 24 ls [.int x1, .ref a] h = (C_ d mX5_hereIn [.ref a, .int x1] h).bind fun r => E_ (d + 1) mX5_isRow 27 ls (xpu r.1 []) r.2 := e_vir dX5_isRow_24 rfl rfl rfl rfl rfl rfl (Nat.le_of_ble_eq_true rfl) (Nat.le_of_ble_eq_true rfl) ht
theorem wX5_isRow_27 : E_ d mX5_isRow 27 ls (.int x :: st) h = if 0 < x then E_ d mX5_isRow 30 ls st h else E_ d mX5_isRow 42 ls st h := e_zle dX5_isRow_27 rfl rfl
theorem wX5_isRow_30 : E_ d mX5_isRow 30 [.val (.ref a), s1] st h = E_ d mX5_isRow 31 [.val (.ref a), s1] (.ref a :: st) h := e_go dX5_isRow_30 rfl rfl
theorem wX5_isRow_31 : E_ d mX5_isRow 31 [s0, .val (.int x)] st h = E_ d mX5_isRow 32 [s0, .val (.int x)] (.int x :: st) h := e_go dX5_isRow_31 rfl rfl
theorem wX5_isRow_32 (ht : oT h a = 7) : E_ (d + 1) mX5_isRow 32 ls [.int x1, .ref a] h = (C_ d mX5_isTooMuch [.ref a, .int x1] h).bind fun r => E_ (d + 1) mX5_isRow 35 ls (xpu r.1 []) r.2 := e_vir dX5_isRow_32 rfl rfl rfl rfl rfl rfl (Nat.le_of_ble_eq_true rfl) (Nat.le_of_ble_eq_true rfl) ht
theorem wX5_isRow_35 : E_ d mX5_isRow 35 ls (.int x :: st) h = if x = 0 then E_ d mX5_isRow 38 ls st h else E_ d mX5_isRow 42 ls st h := e_zne dX5_isRow_35 rfl rfl
theorem wX5_isRow_38 : E_ d mX5_isRow 38 ls st h = E_ d mX5_isRow 39 ls (.int (nI 1) :: st) h := e_iconst dX5_isRow_38 kiconst_1 rfl
theorem wX5_isRow_39 : E_ d mX5_isRow 39 ls st h = E_ d mX5_isRow 43 ls st h := e_gt dX5_isRow_39 rfl
theorem wX5_isRow_42 : E_ d mX5_isRow 42 ls st h = E_ d mX5_isRow 43 ls (.int (nI 0) :: st) h := e_iconst dX5_isRow_42 kiconst_0 rfl
theorem wX5_isRow_43 (hx : x = 0 ∨ x = 1) : E_ d mX5_isRow 43 ls [.int x] h = some (some (.int x), h) := e_rtZ dX5_isRow_43 rfl hx
/-! FootOutModel.numbers -/
theorem wX5_numbers_0 : E_ d mX5_numbers 0 [.val (.ref a), s1, s2, s3, s4] st h = E_ d mX5_numbers 1 [.val (.ref a), s1, s2, s3, s4] (.ref a :: st) h := e_go dX5_numbers_0 rfl rfl
theorem wX5_numbers_1 : E_ d mX5_numbers 1 ls st h = E_ d mX5_numbers 2 ls (.int (nI 0) :: st) h := e_iconst dX5_numbers_1 kiconst_0 rfl
theorem wX5_numbers_2 (ht : oT h a = 7) : E_ d mX5_numbers 2 ls (.int x :: .ref a :: st) h = E_ d mX5_numbers 5 ls st (pI h a (va_up (oI h a) 0 x)) := e_putI dX5_numbers_2 rfl rfl ht
theorem wX5_numbers_5 : E_ d mX5_numbers 5 [s0, .val (.int x), s2, s3, s4] st h = E_ d mX5_numbers 6 [s0, .val (.int x), s2, s3, s4] (.int x :: st) h := e_go dX5_numbers_5 rfl rfl
theorem wX5_numbers_6 : E_ d mX5_numbers 6 ls (.int x :: st) h = E_ d mX5_numbers 7 ls (.long x.toInt64 :: st) h := e_go dX5_numbers_6 rfl rfl
theorem wX5_numbers_7 : E_ d mX5_numbers 7 ls st h = E_ d mX5_numbers 8 ls (.long 0 :: st) h := e_go dX5_numbers_7 rfl rfl
theorem wX5_numbers_8 : E_ d mX5_numbers 8 ls st h = E_ d mX5_numbers 11 ls (.long (3) :: st) h := e_go dX5_numbers_8 rfl rfl
theorem wX5_numbers_11 : E_ (d + 1) mX5_numbers 11 ls [.long u3, .long u2, .long u1] h = (C_ d mX5_within [.long u1, .long u2, .long u3] h).bind fun r => E_ (d + 1) mX5_numbers 14 ls (xpu r.1 []) r.2 := e_call dX5_numbers_11 rfl rfl
theorem wX5_numbers_14 : E_ d mX5_numbers 14 ls (.int x :: st) h = if x = 0 then E_ d mX5_numbers 29 ls st h else E_ d mX5_numbers 17 ls st h := e_zeq dX5_numbers_14 rfl rfl
theorem wX5_numbers_17 : E_ d mX5_numbers 17 [s0, s1, .val (.int x), s3, s4] st h = E_ d mX5_numbers 18 [s0, s1, .val (.int x), s3, s4] (.int x :: st) h := e_go dX5_numbers_17 rfl rfl
theorem wX5_numbers_18 : E_ d mX5_numbers 18 ls (.int x :: st) h = E_ d mX5_numbers 19 ls (.long x.toInt64 :: st) h := e_go dX5_numbers_18 rfl rfl
theorem wX5_numbers_19 : E_ d mX5_numbers 19 ls st h = E_ d mX5_numbers 20 ls (.long 0 :: st) h := e_go dX5_numbers_19 rfl rfl
theorem wX5_numbers_20 : E_ d mX5_numbers 20 ls st h = E_ d mX5_numbers 23 ls (.long (3) :: st) h := e_go dX5_numbers_20 rfl rfl
theorem wX5_numbers_23 : E_ (d + 1) mX5_numbers 23 ls [.long u3, .long u2, .long u1] h = (C_ d mX5_within [.long u1, .long u2, .long u3] h).bind fun r => E_ (d + 1) mX5_numbers 26 ls (xpu r.1 []) r.2 := e_call dX5_numbers_23 rfl rfl
theorem wX5_numbers_26 : E_ d mX5_numbers 26 ls (.int x :: st) h = if x = 0 then E_ d mX5_numbers 29 ls st h else E_ d mX5_numbers 36 ls st h := e_zne dX5_numbers_26 rfl rfl
theorem wX5_numbers_29 : E_ d mX5_numbers 29 [.val (.ref a), s1, s2, s3, s4] st h = E_ d mX5_numbers 30 [.val (.ref a), s1, s2, s3, s4] (.ref a :: st) h := e_go dX5_numbers_29 rfl rfl
theorem wX5_numbers_30 : E_ d mX5_numbers 30 ls st h = E_ d mX5_numbers 32 ls (.int ((-2)) :: st) h := e_bipush dX5_numbers_30 kbipush_m2 rfl
theorem wX5_numbers_32 (ht : oT h a = 7) : E_ (d + 1) mX5_numbers 32 ls [.int x1, .ref a] h = (C_ d mX5_no [.ref a, .int x1] h).bind fun r => E_ (d + 1) mX5_numbers 35 ls (xpu r.1 []) r.2 := e_vir dX5_numbers_32 rfl rfl rfl rfl rfl rfl (Nat.le_of_ble_eq_true rfl) (Nat.le_of_ble_eq_true rfl) ht
theorem wX5_numbers_35 : E_ d mX5_numbers 35 ls [.int x] h = some (some (.int x), h) := e_rt dX5_numbers_35 rfl rfl
theorem wX5_numbers_36 : E_ d mX5_numbers 36 [s0, s1, s2, .val (.int x), s4] st h = E_ d mX5_numbers 37 [s0, s1, s2, .val (.int x), s4] (.int x :: st) h := e_go dX5_numbers_36 rfl rfl
theorem wX5_numbers_37 : E_ d mX5_numbers 37 ls (.int x :: st) h = E_ d mX5_numbers 38 ls (.long x.toInt64 :: st) h := e_go dX5_numbers_37 rfl rfl
theorem wX5_numbers_38 : E_ d mX5_numbers 38 ls st h = E_ d mX5_numbers 39 ls (.long 0 :: st) h := e_go dX5_numbers_38 rfl rfl
theorem wX5_numbers_39 : E_ d mX5_numbers 39 ls st h = E_ d mX5_numbers 42 ls (.long (40) :: st) h := e_go dX5_numbers_39 rfl rfl
theorem wX5_numbers_42 : E_ (d + 1) mX5_numbers 42 ls [.long u3, .long u2, .long u1] h = (C_ d mX5_within [.long u1, .long u2, .long u3] h).bind fun r => E_ (d + 1) mX5_numbers 45 ls (xpu r.1 []) r.2 := e_call dX5_numbers_42 rfl rfl
theorem wX5_numbers_45 : E_ d mX5_numbers 45 ls (.int x :: st) h = if x = 0 then E_ d mX5_numbers 48 ls st h else E_ d mX5_numbers 55 ls st h := e_zne dX5_numbers_45 rfl rfl
theorem wX5_numbers_48 : E_ d mX5_numbers 48 [.val (.ref a), s1, s2, s3, s4] st h = E_ d mX5_numbers 49 [.val (.ref a), s1, s2, s3, s4] (.ref a :: st) h := e_go dX5_numbers_48 rfl rfl
theorem wX5_numbers_49 : E_ d mX5_numbers 49 ls st h = E_ d mX5_numbers 51 ls (.int ((-3)) :: st) h := e_bipush dX5_numbers_49 kbipush_m3 rfl
theorem wX5_numbers_51 (ht : oT h a = 7) : E_ (d + 1) mX5_numbers 51 ls [.int x1, .ref a] h = (C_ d mX5_no [.ref a, .int x1] h).bind fun r => E_ (d + 1) mX5_numbers 54 ls (xpu r.1 []) r.2 := e_vir dX5_numbers_51 rfl rfl rfl rfl rfl rfl (Nat.le_of_ble_eq_true rfl) (Nat.le_of_ble_eq_true rfl) ht
theorem wX5_numbers_54 : E_ d mX5_numbers 54 ls [.int x] h = some (some (.int x), h) := e_rt dX5_numbers_54 rfl rfl
theorem wX5_numbers_55 : E_ d mX5_numbers 55 [.val (.ref a), s1, s2, s3, s4] st h = E_ d mX5_numbers 56 [.val (.ref a), s1, s2, s3, s4] (.ref a :: st) h := e_go dX5_numbers_55 rfl rfl
theorem wX5_numbers_56 (ht : oT h a = 7) : E_ d mX5_numbers 56 ls (.ref a :: st) h = E_ d mX5_numbers 59 ls (va_rf (oR h a 33) :: st) h := e_getR0 dX5_numbers_56 rfl rfl ht
theorem wX5_numbers_59 : E_ d mX5_numbers 59 [s0, .val (.int x), s2, s3, s4] st h = E_ d mX5_numbers 60 [s0, .val (.int x), s2, s3, s4] (.int x :: st) h := e_go dX5_numbers_59 rfl rfl
theorem wX5_numbers_60 : E_ d mX5_numbers 60 [s0, s1, .val (.int x), s3, s4] st h = E_ d mX5_numbers 61 [s0, s1, .val (.int x), s3, s4] (.int x :: st) h := e_go dX5_numbers_60 rfl rfl
theorem wX5_numbers_61 (ht : oT h a = 40) (hi : xix x (oN h a) = true) : E_ d mX5_numbers 61 ls (.int y :: .int x :: .ref a :: st) h = E_ d mX5_numbers 62 ls st (pI h a (va_up (oI h a) x.toNatClampNeg y)) := e_iast dX5_numbers_61 rfl ht hi
theorem wX5_numbers_62 : E_ d mX5_numbers 62 [.val (.ref a), s1, s2, s3, s4] st h = E_ d mX5_numbers 63 [.val (.ref a), s1, s2, s3, s4] (.ref a :: st) h := e_go dX5_numbers_62 rfl rfl
theorem wX5_numbers_63 (ht : oT h a = 7) : E_ d mX5_numbers 63 ls (.ref a :: st) h = E_ d mX5_numbers 66 ls (va_rf (oR h a 34) :: st) h := e_getR0 dX5_numbers_63 rfl rfl ht
theorem wX5_numbers_66 : E_ d mX5_numbers 66 [s0, .val (.int x), s2, s3, s4] st h = E_ d mX5_numbers 67 [s0, .val (.int x), s2, s3, s4] (.int x :: st) h := e_go dX5_numbers_66 rfl rfl
theorem wX5_numbers_67 : E_ d mX5_numbers 67 [s0, s1, s2, .val (.int x), s4] st h = E_ d mX5_numbers 68 [s0, s1, s2, .val (.int x), s4] (.int x :: st) h := e_go dX5_numbers_67 rfl rfl
theorem wX5_numbers_68 (ht : oT h a = 40) (hi : xix x (oN h a) = true) : E_ d mX5_numbers 68 ls (.int y :: .int x :: .ref a :: st) h = E_ d mX5_numbers 69 ls st (pI h a (va_up (oI h a) x.toNatClampNeg y)) := e_iast dX5_numbers_68 rfl ht hi
theorem wX5_numbers_69 : E_ d mX5_numbers 69 ls st h = E_ d mX5_numbers 70 ls (.int (nI 0) :: st) h := e_iconst dX5_numbers_69 kiconst_0 rfl
theorem wX5_numbers_70 : E_ d mX5_numbers 70 [s0, s1, s2, s3, s4] (.int x :: st) h = E_ d mX5_numbers 72 [s0, s1, s2, xk s3, .val (.int x)] st h := e_go dX5_numbers_70 rfl rfl
theorem wX5_numbers_72 : E_ d mX5_numbers 72 [s0, s1, s2, s3, .val (.int x)] st h = E_ d mX5_numbers 74 [s0, s1, s2, s3, .val (.int x)] (.int x :: st) h := e_go dX5_numbers_72 rfl rfl
theorem wX5_numbers_74 : E_ d mX5_numbers 74 [s0, s1, s2, .val (.int x), s4] st h = E_ d mX5_numbers 75 [s0, s1, s2, .val (.int x), s4] (.int x :: st) h := e_go dX5_numbers_74 rfl rfl
theorem wX5_numbers_75 : E_ d mX5_numbers 75 ls (.int y :: .int x :: st) h = if x < y then E_ d mX5_numbers 78 ls st h else E_ d mX5_numbers 97 ls st h := e_ige dX5_numbers_75 rfl rfl
theorem wX5_numbers_78 : E_ d mX5_numbers 78 [.val (.ref a), s1, s2, s3, s4] st h = E_ d mX5_numbers 79 [.val (.ref a), s1, s2, s3, s4] (.ref a :: st) h := e_go dX5_numbers_78 rfl rfl
theorem wX5_numbers_79 (ht : oT h a = 7) : E_ d mX5_numbers 79 ls (.ref a :: st) h = E_ d mX5_numbers 82 ls (va_rf (oR h a 35) :: st) h := e_getR0 dX5_numbers_79 rfl rfl ht
theorem wX5_numbers_82 : E_ d mX5_numbers 82 ls st h = E_ d mX5_numbers 84 ls (.int (nI 40) :: st) h := e_bipush dX5_numbers_82 kbipush_40 rfl
theorem wX5_numbers_84 : E_ d mX5_numbers 84 [s0, .val (.int x), s2, s3, s4] st h = E_ d mX5_numbers 85 [s0, .val (.int x), s2, s3, s4] (.int x :: st) h := e_go dX5_numbers_84 rfl rfl
theorem wX5_numbers_85 : E_ d mX5_numbers 85 ls (.int y :: .int x :: st) h = E_ d mX5_numbers 86 ls (.int (x * y) :: st) h := e_go dX5_numbers_85 rfl rfl
theorem wX5_numbers_86 : E_ d mX5_numbers 86 [s0, s1, s2, s3, .val (.int x)] st h = E_ d mX5_numbers 88 [s0, s1, s2, s3, .val (.int x)] (.int x :: st) h := e_go dX5_numbers_86 rfl rfl
theorem wX5_numbers_88 : E_ d mX5_numbers 88 ls (.int y :: .int x :: st) h = E_ d mX5_numbers 89 ls (.int (x + y) :: st) h := e_go dX5_numbers_88 rfl rfl
theorem wX5_numbers_89 : E_ d mX5_numbers 89 ls st h = E_ d mX5_numbers 90 ls (.long 0 :: st) h := e_go dX5_numbers_89 rfl rfl
theorem wX5_numbers_90 (ht : oT h a = 44) (hi : xix x (oN h a) = true) : E_ d mX5_numbers 90 ls (.long u :: .int x :: .ref a :: st) h = E_ d mX5_numbers 91 ls st (pL h a (va_up (oL h a) x.toNatClampNeg u)) := e_last dX5_numbers_90 rfl ht hi
theorem wX5_numbers_91 : E_ d mX5_numbers 91 [s0, s1, s2, s3, .val (.int x)] st h = E_ d mX5_numbers 94 [s0, s1, s2, xk s3, .val (.int (x + nI 1))] st h := by rw [← kiinc_1]; exact e_go dX5_numbers_91 rfl rfl
theorem wX5_numbers_94 : E_ d mX5_numbers 94 ls st h = E_ d mX5_numbers 72 ls st h := e_gt dX5_numbers_94 rfl
theorem wX5_numbers_97 : E_ d mX5_numbers 97 ls st h = E_ d mX5_numbers 98 ls (.int (nI 0) :: st) h := e_iconst dX5_numbers_97 kiconst_0 rfl
theorem wX5_numbers_98 : E_ d mX5_numbers 98 ls [.int x] h = some (some (.int x), h) := e_rt dX5_numbers_98 rfl rfl
/-! FootOutModel.write -/
theorem wX5_write_0 : E_ d mX5_write 0 [.val (.ref a), s1, s2, s3, s4] st h = E_ d mX5_write 1 [.val (.ref a), s1, s2, s3, s4] (.ref a :: st) h := e_go dX5_write_0 rfl rfl
theorem wX5_write_1 : E_ d mX5_write 1 ls st h = E_ d mX5_write 2 ls (.int (nI 0) :: st) h := e_iconst dX5_write_1 kiconst_0 rfl
theorem wX5_write_2 (ht : oT h a = 7) : E_ d mX5_write 2 ls (.int x :: .ref a :: st) h = E_ d mX5_write 5 ls st (pI h a (va_up (oI h a) 0 x)) := e_putI dX5_write_2 rfl rfl ht
theorem wX5_write_5 : E_ d mX5_write 5 [s0, .val (.int x), s2, s3, s4] st h = E_ d mX5_write 6 [s0, .val (.int x), s2, s3, s4] (.int x :: st) h := e_go dX5_write_5 rfl rfl
theorem wX5_write_6 : E_ d mX5_write 6 ls (.int x :: st) h = E_ d mX5_write 7 ls (.long x.toInt64 :: st) h := e_go dX5_write_6 rfl rfl
theorem wX5_write_7 : E_ d mX5_write 7 ls st h = E_ d mX5_write 8 ls (.long 0 :: st) h := e_go dX5_write_7 rfl rfl
theorem wX5_write_8 : E_ d mX5_write 8 ls st h = E_ d mX5_write 11 ls (.long (3) :: st) h := e_go dX5_write_8 rfl rfl
theorem wX5_write_11 : E_ (d + 1) mX5_write 11 ls [.long u3, .long u2, .long u1] h = (C_ d mX5_within [.long u1, .long u2, .long u3] h).bind fun r => E_ (d + 1) mX5_write 14 ls (xpu r.1 []) r.2 := e_call dX5_write_11 rfl rfl
theorem wX5_write_14 : E_ d mX5_write 14 ls (.int x :: st) h = if x = 0 then E_ d mX5_write 17 ls st h else E_ d mX5_write 25 ls st h := e_zne dX5_write_14 rfl rfl
theorem wX5_write_17 : E_ d mX5_write 17 [.val (.ref a), s1, s2, s3, s4] st h = E_ d mX5_write 18 [.val (.ref a), s1, s2, s3, s4] (.ref a :: st) h := e_go dX5_write_17 rfl rfl
theorem wX5_write_18 : E_ d mX5_write 18 ls st h = E_ d mX5_write 20 ls (.int ((-2)) :: st) h := e_bipush dX5_write_18 kbipush_m2 rfl
theorem wX5_write_20 (ht : oT h a = 7) : E_ (d + 1) mX5_write 20 ls [.int x1, .ref a] h = (C_ d mX5_no [.ref a, .int x1] h).bind fun r => E_ (d + 1) mX5_write 23 ls (xpu r.1 []) r.2 := e_vir dX5_write_20 rfl rfl rfl rfl rfl rfl (Nat.le_of_ble_eq_true rfl) (Nat.le_of_ble_eq_true rfl) ht
theorem wX5_write_23 : E_ d mX5_write 23 ls (.int x :: st) h = E_ d mX5_write 24 ls (.long x.toInt64 :: st) h := e_go dX5_write_23 rfl rfl
theorem wX5_write_24 : E_ d mX5_write 24 ls [.long u] h = some (some (.long u), h) := e_rt dX5_write_24 rfl rfl
theorem wX5_write_25 : E_ d mX5_write 25 [.val (.ref a), s1, s2, s3, s4] st h = E_ d mX5_write 26 [.val (.ref a), s1, s2, s3, s4] (.ref a :: st) h := e_go dX5_write_25 rfl rfl
theorem wX5_write_26 (ht : oT h a = 7) : E_ d mX5_write 26 ls (.ref a :: st) h = E_ d mX5_write 29 ls (va_rf (oR h a 33) :: st) h := e_getR0 dX5_write_26 rfl rfl ht
theorem wX5_write_29 : E_ d mX5_write 29 [s0, .val (.int x), s2, s3, s4] st h = E_ d mX5_write 30 [s0, .val (.int x), s2, s3, s4] (.int x :: st) h := e_go dX5_write_29 rfl rfl
theorem wX5_write_30 (ht : oT h a = 40) (hi : xix x (oN h a) = true) : E_ d mX5_write 30 ls (.int x :: .ref a :: st) h = E_ d mX5_write 31 ls (.int (oI h a x.toNatClampNeg) :: st) h := e_iald dX5_write_30 rfl ht hi
theorem wX5_write_31 : E_ d mX5_write 31 ls st h = E_ d mX5_write 32 ls (.int ((-1)) :: st) h := e_iconst dX5_write_31 kiconst_m1 rfl
theorem wX5_write_32 : E_ d mX5_write 32 ls (.int y :: .int x :: st) h = if x = y then E_ d mX5_write 35 ls st h else E_ d mX5_write 43 ls st h := e_ine dX5_write_32 rfl rfl
theorem wX5_write_35 : E_ d mX5_write 35 [.val (.ref a), s1, s2, s3, s4] st h = E_ d mX5_write 36 [.val (.ref a), s1, s2, s3, s4] (.ref a :: st) h := e_go dX5_write_35 rfl rfl
theorem wX5_write_36 : E_ d mX5_write 36 ls st h = E_ d mX5_write 38 ls (.int ((-6)) :: st) h := e_bipush dX5_write_36 kbipush_m6 rfl
theorem wX5_write_38 (ht : oT h a = 7) : E_ (d + 1) mX5_write 38 ls [.int x1, .ref a] h = (C_ d mX5_no [.ref a, .int x1] h).bind fun r => E_ (d + 1) mX5_write 41 ls (xpu r.1 []) r.2 := e_vir dX5_write_38 rfl rfl rfl rfl rfl rfl (Nat.le_of_ble_eq_true rfl) (Nat.le_of_ble_eq_true rfl) ht
theorem wX5_write_41 : E_ d mX5_write 41 ls (.int x :: st) h = E_ d mX5_write 42 ls (.long x.toInt64 :: st) h := e_go dX5_write_41 rfl rfl
theorem wX5_write_42 : E_ d mX5_write 42 ls [.long u] h = some (some (.long u), h) := e_rt dX5_write_42 rfl rfl
theorem wX5_write_43 : E_ d mX5_write 43 [s0, s1, .val (.int x), s3, s4] st h = E_ d mX5_write 44 [s0, s1, .val (.int x), s3, s4] (.int x :: st) h := e_go dX5_write_43 rfl rfl
theorem wX5_write_44 : E_ d mX5_write 44 ls (.int x :: st) h = E_ d mX5_write 45 ls (.long x.toInt64 :: st) h := e_go dX5_write_44 rfl rfl
theorem wX5_write_45 : E_ d mX5_write 45 ls st h = E_ d mX5_write 46 ls (.long 0 :: st) h := e_go dX5_write_45 rfl rfl
theorem wX5_write_46 : E_ d mX5_write 46 [.val (.ref a), s1, s2, s3, s4] st h = E_ d mX5_write 47 [.val (.ref a), s1, s2, s3, s4] (.ref a :: st) h := e_go dX5_write_46 rfl rfl
theorem wX5_write_47 (ht : oT h a = 7) : E_ d mX5_write 47 ls (.ref a :: st) h = E_ d mX5_write 50 ls (va_rf (oR h a 34) :: st) h := e_getR0 dX5_write_47 rfl rfl ht
theorem wX5_write_50 : E_ d mX5_write 50 [s0, .val (.int x), s2, s3, s4] st h = E_ d mX5_write 51 [s0, .val (.int x), s2, s3, s4] (.int x :: st) h := e_go dX5_write_50 rfl rfl
theorem wX5_write_51 (ht : oT h a = 40) (hi : xix x (oN h a) = true) : E_ d mX5_write 51 ls (.int x :: .ref a :: st) h = E_ d mX5_write 52 ls (.int (oI h a x.toNatClampNeg) :: st) h := e_iald dX5_write_51 rfl ht hi
theorem wX5_write_52 : E_ d mX5_write 52 ls st h = E_ d mX5_write 53 ls (.int (nI 1) :: st) h := e_iconst dX5_write_52 kiconst_1 rfl
theorem wX5_write_53 : E_ d mX5_write 53 ls (.int y :: .int x :: st) h = E_ d mX5_write 54 ls (.int (x - y) :: st) h := e_go dX5_write_53 rfl rfl
theorem wX5_write_54 : E_ d mX5_write 54 ls (.int x :: st) h = E_ d mX5_write 55 ls (.long x.toInt64 :: st) h := e_go dX5_write_54 rfl rfl
theorem wX5_write_55 : E_ (d + 1) mX5_write 55 ls [.long u3, .long u2, .long u1] h = (C_ d mX5_within [.long u1, .long u2, .long u3] h).bind fun r => E_ (d + 1) mX5_write 58 ls (xpu r.1 []) r.2 := e_call dX5_write_55 rfl rfl
theorem wX5_write_58 : E_ d mX5_write 58 ls (.int x :: st) h = if x = 0 then E_ d mX5_write 61 ls st h else E_ d mX5_write 69 ls st h := e_zne dX5_write_58 rfl rfl
theorem wX5_write_61 : E_ d mX5_write 61 [.val (.ref a), s1, s2, s3, s4] st h = E_ d mX5_write 62 [.val (.ref a), s1, s2, s3, s4] (.ref a :: st) h := e_go dX5_write_61 rfl rfl
theorem wX5_write_62 : E_ d mX5_write 62 ls st h = E_ d mX5_write 64 ls (.int ((-7)) :: st) h := e_bipush dX5_write_62 kbipush_m7 rfl
theorem wX5_write_64 (ht : oT h a = 7) : E_ (d + 1) mX5_write 64 ls [.int x1, .ref a] h = (C_ d mX5_no [.ref a, .int x1] h).bind fun r => E_ (d + 1) mX5_write 67 ls (xpu r.1 []) r.2 := e_vir dX5_write_64 rfl rfl rfl rfl rfl rfl (Nat.le_of_ble_eq_true rfl) (Nat.le_of_ble_eq_true rfl) ht
theorem wX5_write_67 : E_ d mX5_write 67 ls (.int x :: st) h = E_ d mX5_write 68 ls (.long x.toInt64 :: st) h := e_go dX5_write_67 rfl rfl
theorem wX5_write_68 : E_ d mX5_write 68 ls [.long u] h = some (some (.long u), h) := e_rt dX5_write_68 rfl rfl
theorem wX5_write_69 : E_ d mX5_write 69 [.val (.ref a), s1, s2, s3, s4] st h = E_ d mX5_write 70 [.val (.ref a), s1, s2, s3, s4] (.ref a :: st) h := e_go dX5_write_69 rfl rfl
theorem wX5_write_70 (ht : oT h a = 7) : E_ d mX5_write 70 ls (.ref a :: st) h = E_ d mX5_write 73 ls (va_rf (oR h a 35) :: st) h := e_getR0 dX5_write_70 rfl rfl ht
theorem wX5_write_73 : E_ d mX5_write 73 ls st h = E_ d mX5_write 75 ls (.int (nI 40) :: st) h := e_bipush dX5_write_73 kbipush_40 rfl
theorem wX5_write_75 : E_ d mX5_write 75 [s0, .val (.int x), s2, s3, s4] st h = E_ d mX5_write 76 [s0, .val (.int x), s2, s3, s4] (.int x :: st) h := e_go dX5_write_75 rfl rfl
theorem wX5_write_76 : E_ d mX5_write 76 ls (.int y :: .int x :: st) h = E_ d mX5_write 77 ls (.int (x * y) :: st) h := e_go dX5_write_76 rfl rfl
theorem wX5_write_77 : E_ d mX5_write 77 [s0, s1, .val (.int x), s3, s4] st h = E_ d mX5_write 78 [s0, s1, .val (.int x), s3, s4] (.int x :: st) h := e_go dX5_write_77 rfl rfl
theorem wX5_write_78 : E_ d mX5_write 78 ls (.int y :: .int x :: st) h = E_ d mX5_write 79 ls (.int (x + y) :: st) h := e_go dX5_write_78 rfl rfl
theorem wX5_write_79 : E_ d mX5_write 79 [s0, s1, s2, .val (.long u), s4] st h = E_ d mX5_write 80 [s0, s1, s2, .val (.long u), s4] (.long u :: st) h := e_go dX5_write_79 rfl rfl
theorem wX5_write_80 : E_ d mX5_write 80 [.val (.ref a), s1, s2, s3, s4] st h = E_ d mX5_write 81 [.val (.ref a), s1, s2, s3, s4] (.ref a :: st) h := e_go dX5_write_80 rfl rfl
theorem wX5_write_81 (ht : oT h a = 7) : E_ d mX5_write 81 ls (.ref a :: st) h = E_ d mX5_write 84 ls (va_rf (oR h a 33) :: st) h := e_getR0 dX5_write_81 rfl rfl ht
theorem wX5_write_84 : E_ d mX5_write 84 [s0, .val (.int x), s2, s3, s4] st h = E_ d mX5_write 85 [s0, .val (.int x), s2, s3, s4] (.int x :: st) h := e_go dX5_write_84 rfl rfl
theorem wX5_write_85 (ht : oT h a = 40) (hi : xix x (oN h a) = true) : E_ d mX5_write 85 ls (.int x :: .ref a :: st) h = E_ d mX5_write 86 ls (.int (oI h a x.toNatClampNeg) :: st) h := e_iald dX5_write_85 rfl ht hi
theorem wX5_write_86 : E_ (d + 1) mX5_write 86 ls [.int x1, .long u1, .int x2, .ref r1] h = (C_ d mX5_cut [.long u1, .int x1] h).bind fun r => E_ (d + 1) mX5_write 89 ls (xpu r.1 [.int x2, .ref r1]) r.2 := e_call dX5_write_86 rfl rfl
theorem wX5_write_89 (ht : oT h a = 44) (hi : xix x (oN h a) = true) : E_ d mX5_write 89 ls (.long u :: .int x :: .ref a :: st) h = E_ d mX5_write 90 ls st (pL h a (va_up (oL h a) x.toNatClampNeg u)) := e_last dX5_write_89 rfl ht hi
theorem wX5_write_90 : E_ d mX5_write 90 [.val (.ref a), s1, s2, s3, s4] st h = E_ d mX5_write 91 [.val (.ref a), s1, s2, s3, s4] (.ref a :: st) h := e_go dX5_write_90 rfl rfl
theorem wX5_write_91 (ht : oT h a = 7) : E_ d mX5_write 91 ls (.ref a :: st) h = E_ d mX5_write 94 ls (va_rf (oR h a 35) :: st) h := e_getR0 dX5_write_91 rfl rfl ht
theorem wX5_write_94 : E_ d mX5_write 94 ls st h = E_ d mX5_write 96 ls (.int (nI 40) :: st) h := e_bipush dX5_write_94 kbipush_40 rfl
theorem wX5_write_96 : E_ d mX5_write 96 [s0, .val (.int x), s2, s3, s4] st h = E_ d mX5_write 97 [s0, .val (.int x), s2, s3, s4] (.int x :: st) h := e_go dX5_write_96 rfl rfl
theorem wX5_write_97 : E_ d mX5_write 97 ls (.int y :: .int x :: st) h = E_ d mX5_write 98 ls (.int (x * y) :: st) h := e_go dX5_write_97 rfl rfl
theorem wX5_write_98 : E_ d mX5_write 98 [s0, s1, .val (.int x), s3, s4] st h = E_ d mX5_write 99 [s0, s1, .val (.int x), s3, s4] (.int x :: st) h := e_go dX5_write_98 rfl rfl
theorem wX5_write_99 : E_ d mX5_write 99 ls (.int y :: .int x :: st) h = E_ d mX5_write 100 ls (.int (x + y) :: st) h := e_go dX5_write_99 rfl rfl
theorem wX5_write_100 (ht : oT h a = 44) (hi : xix x (oN h a) = true) : E_ d mX5_write 100 ls (.int x :: .ref a :: st) h = E_ d mX5_write 101 ls (.long (oL h a x.toNatClampNeg) :: st) h := e_lald dX5_write_100 rfl ht hi
theorem wX5_write_101 : E_ d mX5_write 101 ls [.long u] h = some (some (.long u), h) := e_rt dX5_write_101 rfl rfl
/-! FootOutModel.cut -/
theorem wX5_cut_0 : E_ d mX5_cut 0 [s0, s1, .val (.int x)] st h = E_ d mX5_cut 1 [s0, s1, .val (.int x)] (.int x :: st) h := e_go dX5_cut_0 rfl rfl
theorem wX5_cut_1 : E_ d mX5_cut 1 ls (.int x :: st) h = if x = 0 then E_ d mX5_cut 4 ls st h else E_ d mX5_cut 11 ls st h := e_zne dX5_cut_1 rfl rfl
theorem wX5_cut_4 : E_ d mX5_cut 4 [.val (.long u), s1, s2] st h = E_ d mX5_cut 5 [.val (.long u), s1, s2] (.long u :: st) h := e_go dX5_cut_4 rfl rfl
theorem wX5_cut_5 : E_ d mX5_cut 5 ls (.long u :: st) h = E_ d mX5_cut 6 ls (.int u.toInt32 :: st) h := e_go dX5_cut_5 rfl rfl
theorem wX5_cut_6 : E_ d mX5_cut 6 ls (.int x :: st) h = E_ d mX5_cut 7 ls (.int x.toInt8.toInt32 :: st) h := e_go dX5_cut_6 rfl rfl
theorem wX5_cut_7 : E_ d mX5_cut 7 ls (.int x :: st) h = E_ d mX5_cut 8 ls (.long x.toInt64 :: st) h := e_go dX5_cut_7 rfl rfl
theorem wX5_cut_8 : E_ d mX5_cut 8 ls st h = E_ d mX5_cut 35 ls st h := e_gt dX5_cut_8 rfl
theorem wX5_cut_11 : E_ d mX5_cut 11 [s0, s1, .val (.int x)] st h = E_ d mX5_cut 12 [s0, s1, .val (.int x)] (.int x :: st) h := e_go dX5_cut_11 rfl rfl
theorem wX5_cut_12 : E_ d mX5_cut 12 ls st h = E_ d mX5_cut 13 ls (.int (nI 1) :: st) h := e_iconst dX5_cut_12 kiconst_1 rfl
theorem wX5_cut_13 : E_ d mX5_cut 13 ls (.int y :: .int x :: st) h = if x = y then E_ d mX5_cut 16 ls st h else E_ d mX5_cut 23 ls st h := e_ine dX5_cut_13 rfl rfl
theorem wX5_cut_16 : E_ d mX5_cut 16 [.val (.long u), s1, s2] st h = E_ d mX5_cut 17 [.val (.long u), s1, s2] (.long u :: st) h := e_go dX5_cut_16 rfl rfl
theorem wX5_cut_17 : E_ d mX5_cut 17 ls (.long u :: st) h = E_ d mX5_cut 18 ls (.int u.toInt32 :: st) h := e_go dX5_cut_17 rfl rfl
theorem wX5_cut_18 : E_ d mX5_cut 18 ls (.int x :: st) h = E_ d mX5_cut 19 ls (.int x.toInt16.toInt32 :: st) h := e_go dX5_cut_18 rfl rfl
theorem wX5_cut_19 : E_ d mX5_cut 19 ls (.int x :: st) h = E_ d mX5_cut 20 ls (.long x.toInt64 :: st) h := e_go dX5_cut_19 rfl rfl
theorem wX5_cut_20 : E_ d mX5_cut 20 ls st h = E_ d mX5_cut 35 ls st h := e_gt dX5_cut_20 rfl
theorem wX5_cut_23 : E_ d mX5_cut 23 [s0, s1, .val (.int x)] st h = E_ d mX5_cut 24 [s0, s1, .val (.int x)] (.int x :: st) h := e_go dX5_cut_23 rfl rfl
theorem wX5_cut_24 : E_ d mX5_cut 24 ls st h = E_ d mX5_cut 25 ls (.int (nI 2) :: st) h := e_iconst dX5_cut_24 kiconst_2 rfl
theorem wX5_cut_25 : E_ d mX5_cut 25 ls (.int y :: .int x :: st) h = if x = y then E_ d mX5_cut 28 ls st h else E_ d mX5_cut 34 ls st h := e_ine dX5_cut_25 rfl rfl
theorem wX5_cut_28 : E_ d mX5_cut 28 [.val (.long u), s1, s2] st h = E_ d mX5_cut 29 [.val (.long u), s1, s2] (.long u :: st) h := e_go dX5_cut_28 rfl rfl
theorem wX5_cut_29 : E_ d mX5_cut 29 ls (.long u :: st) h = E_ d mX5_cut 30 ls (.int u.toInt32 :: st) h := e_go dX5_cut_29 rfl rfl
theorem wX5_cut_30 : E_ d mX5_cut 30 ls (.int x :: st) h = E_ d mX5_cut 31 ls (.long x.toInt64 :: st) h := e_go dX5_cut_30 rfl rfl
theorem wX5_cut_31 : E_ d mX5_cut 31 ls st h = E_ d mX5_cut 35 ls st h := e_gt dX5_cut_31 rfl
theorem wX5_cut_34 : E_ d mX5_cut 34 [.val (.long u), s1, s2] st h = E_ d mX5_cut 35 [.val (.long u), s1, s2] (.long u :: st) h := e_go dX5_cut_34 rfl rfl
theorem wX5_cut_35 : E_ d mX5_cut 35 ls [.long u] h = some (some (.long u), h) := e_rt dX5_cut_35 rfl rfl
/-! FootOutModel.image -/
theorem wX5_image_0 : E_ d mX5_image 0 [.val (.ref a), s1, s2] st h = E_ d mX5_image 1 [.val (.ref a), s1, s2] (.ref a :: st) h := e_go dX5_image_0 rfl rfl
theorem wX5_image_1 : E_ d mX5_image 1 ls st h = E_ d mX5_image 2 ls (.int (nI 0) :: st) h := e_iconst dX5_image_1 kiconst_0 rfl
theorem wX5_image_2 (ht : oT h a = 7) : E_ d mX5_image 2 ls (.int x :: .ref a :: st) h = E_ d mX5_image 5 ls st (pI h a (va_up (oI h a) 0 x)) := e_putI dX5_image_2 rfl rfl ht
theorem wX5_image_5 : E_ d mX5_image 5 [s0, .val (.int x), s2] st h = E_ d mX5_image 6 [s0, .val (.int x), s2] (.int x :: st) h := e_go dX5_image_5 rfl rfl
theorem wX5_image_6 : E_ d mX5_image 6 ls (.int x :: st) h = E_ d mX5_image 7 ls (.long x.toInt64 :: st) h := e_go dX5_image_6 rfl rfl
theorem wX5_image_7 : E_ d mX5_image 7 ls st h = E_ d mX5_image 8 ls (.long 0 :: st) h := e_go dX5_image_7 rfl rfl
theorem wX5_image_8 : E_ d mX5_image 8 ls st h = E_ d mX5_image 9 ls (.long 1 :: st) h := e_go dX5_image_8 rfl rfl
theorem wX5_image_9 : E_ (d + 1) mX5_image 9 ls [.long u3, .long u2, .long u1] h = (C_ d mX5_within [.long u1, .long u2, .long u3] h).bind fun r => E_ (d + 1) mX5_image 12 ls (xpu r.1 []) r.2 := e_call dX5_image_9 rfl rfl
theorem wX5_image_12 : E_ d mX5_image 12 ls (.int x :: st) h = if x = 0 then E_ d mX5_image 15 ls st h else E_ d mX5_image 22 ls st h := e_zne dX5_image_12 rfl rfl
theorem wX5_image_15 : E_ d mX5_image 15 [.val (.ref a), s1, s2] st h = E_ d mX5_image 16 [.val (.ref a), s1, s2] (.ref a :: st) h := e_go dX5_image_15 rfl rfl
theorem wX5_image_16 : E_ d mX5_image 16 ls st h = E_ d mX5_image 18 ls (.int ((-2)) :: st) h := e_bipush dX5_image_16 kbipush_m2 rfl
theorem wX5_image_18 (ht : oT h a = 7) : E_ (d + 1) mX5_image 18 ls [.int x1, .ref a] h = (C_ d mX5_no [.ref a, .int x1] h).bind fun r => E_ (d + 1) mX5_image 21 ls (xpu r.1 []) r.2 := e_vir dX5_image_18 rfl rfl rfl rfl rfl rfl (Nat.le_of_ble_eq_true rfl) (Nat.le_of_ble_eq_true rfl) ht
theorem wX5_image_21 : E_ d mX5_image 21 ls [.int x] h = some (some (.int x), h) := e_rt dX5_image_21 rfl rfl
theorem wX5_image_22 : E_ d mX5_image 22 ls st h = E_ d mX5_image 23 ls (.int (nI 0) :: st) h := e_iconst dX5_image_22 kiconst_0 rfl
theorem wX5_image_23 : E_ d mX5_image 23 [s0, s1, s2] (.int x :: st) h = E_ d mX5_image 24 [s0, xk s1, .val (.int x)] st h := e_go dX5_image_23 rfl rfl
theorem wX5_image_24 : E_ d mX5_image 24 [s0, s1, .val (.int x)] st h = E_ d mX5_image 25 [s0, s1, .val (.int x)] (.int x :: st) h := e_go dX5_image_24 rfl rfl
theorem wX5_image_25 : E_ d mX5_image 25 ls st h = E_ d mX5_image 28 ls (.int (nI 578) :: st) h := e_sipush dX5_image_25 ksipush_578 rfl
theorem wX5_image_28 : E_ d mX5_image 28 ls (.int y :: .int x :: st) h = if x < y then E_ d mX5_image 31 ls st h else E_ d mX5_image 57 ls st h := e_ige dX5_image_28 rfl rfl
theorem wX5_image_31 : E_ d mX5_image 31 [.val (.ref a), s1, s2] st h = E_ d mX5_image 32 [.val (.ref a), s1, s2] (.ref a :: st) h := e_go dX5_image_31 rfl rfl
theorem wX5_image_32 (ht : oT h a = 7) : E_ d mX5_image 32 ls (.ref a :: st) h = E_ d mX5_image 35 ls (va_rf (oR h a 2) :: st) h := e_getR0 dX5_image_32 rfl rfl ht
theorem wX5_image_35 : E_ d mX5_image 35 ls st h = E_ d mX5_image 38 ls (.int (nI 578) :: st) h := e_sipush dX5_image_35 ksipush_578 rfl
theorem wX5_image_38 : E_ d mX5_image 38 [s0, .val (.int x), s2] st h = E_ d mX5_image 39 [s0, .val (.int x), s2] (.int x :: st) h := e_go dX5_image_38 rfl rfl
theorem wX5_image_39 : E_ d mX5_image 39 ls st h = E_ d mX5_image 40 ls (.int (nI 1) :: st) h := e_iconst dX5_image_39 kiconst_1 rfl
theorem wX5_image_40 : E_ d mX5_image 40 ls (.int y :: .int x :: st) h = E_ d mX5_image 41 ls (.int (x + y) :: st) h := e_go dX5_image_40 rfl rfl
theorem wX5_image_41 : E_ d mX5_image 41 ls (.int y :: .int x :: st) h = E_ d mX5_image 42 ls (.int (x * y) :: st) h := e_go dX5_image_41 rfl rfl
theorem wX5_image_42 : E_ d mX5_image 42 [s0, s1, .val (.int x)] st h = E_ d mX5_image 43 [s0, s1, .val (.int x)] (.int x :: st) h := e_go dX5_image_42 rfl rfl
theorem wX5_image_43 : E_ d mX5_image 43 ls (.int y :: .int x :: st) h = E_ d mX5_image 44 ls (.int (x + y) :: st) h := e_go dX5_image_43 rfl rfl
theorem wX5_image_44 : E_ d mX5_image 44 [.val (.ref a), s1, s2] st h = E_ d mX5_image 45 [.val (.ref a), s1, s2] (.ref a :: st) h := e_go dX5_image_44 rfl rfl
theorem wX5_image_45 (ht : oT h a = 7) : E_ d mX5_image 45 ls (.ref a :: st) h = E_ d mX5_image 48 ls (va_rf (oR h a 2) :: st) h := e_getR0 dX5_image_45 rfl rfl ht
theorem wX5_image_48 : E_ d mX5_image 48 [s0, s1, .val (.int x)] st h = E_ d mX5_image 49 [s0, s1, .val (.int x)] (.int x :: st) h := e_go dX5_image_48 rfl rfl
theorem wX5_image_49 (ht : oT h a = 40) (hi : xix x (oN h a) = true) : E_ d mX5_image 49 ls (.int x :: .ref a :: st) h = E_ d mX5_image 50 ls (.int (oI h a x.toNatClampNeg) :: st) h := e_iald dX5_image_49 rfl ht hi
theorem wX5_image_50 (ht : oT h a = 40) (hi : xix x (oN h a) = true) : E_ d mX5_image 50 ls (.int y :: .int x :: .ref a :: st) h = E_ d mX5_image 51 ls st (pI h a (va_up (oI h a) x.toNatClampNeg y)) := e_iast dX5_image_50 rfl ht hi
theorem wX5_image_51 : E_ d mX5_image 51 [s0, s1, .val (.int x)] st h = E_ d mX5_image 54 [s0, xk s1, .val (.int (x + nI 1))] st h := by rw [← kiinc_1]; exact e_go dX5_image_51 rfl rfl
theorem wX5_image_54 : E_ d mX5_image 54 ls st h = E_ d mX5_image 24 ls st h := e_gt dX5_image_54 rfl
theorem wX5_image_57 : E_ d mX5_image 57 [.val (.ref a), s1, s2] st h = E_ d mX5_image 58 [.val (.ref a), s1, s2] (.ref a :: st) h := e_go dX5_image_57 rfl rfl
theorem wX5_image_58 (ht : oT h a = 7) : E_ d mX5_image 58 ls (.ref a :: st) h = E_ d mX5_image 61 ls (va_rf (oR h a 3) :: st) h := e_getR0 dX5_image_58 rfl rfl ht
theorem wX5_image_61 : E_ d mX5_image 61 [s0, .val (.int x), s2] st h = E_ d mX5_image 62 [s0, .val (.int x), s2] (.int x :: st) h := e_go dX5_image_61 rfl rfl
theorem wX5_image_62 : E_ d mX5_image 62 ls st h = E_ d mX5_image 63 ls (.int (nI 1) :: st) h := e_iconst dX5_image_62 kiconst_1 rfl
theorem wX5_image_63 (ht : oT h a = 41) (hi : xix x (oN h a) = true) : E_ d mX5_image 63 ls (.int y :: .int x :: .ref a :: st) h = E_ d mX5_image 64 ls st (pI h a (va_up (oI h a) x.toNatClampNeg (vp_nar .byte y))) := e_bast dX5_image_63 rfl ht hi
theorem wX5_image_63z (ht : oT h a = 42) (hi : xix x (oN h a) = true) : E_ d mX5_image 63 ls (.int y :: .int x :: .ref a :: st) h = E_ d mX5_image 64 ls st (pI h a (va_up (oI h a) x.toNatClampNeg (vp_nar .boolean y))) := e_zast dX5_image_63 rfl ht hi
theorem wX5_image_64 : E_ d mX5_image 64 ls st h = E_ d mX5_image 65 ls (.int (nI 0) :: st) h := e_iconst dX5_image_64 kiconst_0 rfl
theorem wX5_image_65 : E_ d mX5_image 65 ls [.int x] h = some (some (.int x), h) := e_rt dX5_image_65 rfl rfl
/-! FootOutModel.restore -/
theorem wX5_restore_0 : E_ d mX5_restore 0 [.val (.ref a), s1, s2] st h = E_ d mX5_restore 1 [.val (.ref a), s1, s2] (.ref a :: st) h := e_go dX5_restore_0 rfl rfl
theorem wX5_restore_1 : E_ d mX5_restore 1 ls st h = E_ d mX5_restore 2 ls (.int (nI 0) :: st) h := e_iconst dX5_restore_1 kiconst_0 rfl
theorem wX5_restore_2 (ht : oT h a = 7) : E_ d mX5_restore 2 ls (.int x :: .ref a :: st) h = E_ d mX5_restore 5 ls st (pI h a (va_up (oI h a) 0 x)) := e_putI dX5_restore_2 rfl rfl ht
theorem wX5_restore_5 : E_ d mX5_restore 5 [s0, .val (.int x), s2] st h = E_ d mX5_restore 6 [s0, .val (.int x), s2] (.int x :: st) h := e_go dX5_restore_5 rfl rfl
theorem wX5_restore_6 : E_ d mX5_restore 6 ls (.int x :: st) h = E_ d mX5_restore 7 ls (.long x.toInt64 :: st) h := e_go dX5_restore_6 rfl rfl
theorem wX5_restore_7 : E_ d mX5_restore 7 ls st h = E_ d mX5_restore 8 ls (.long 0 :: st) h := e_go dX5_restore_7 rfl rfl
theorem wX5_restore_8 : E_ d mX5_restore 8 ls st h = E_ d mX5_restore 9 ls (.long 1 :: st) h := e_go dX5_restore_8 rfl rfl
theorem wX5_restore_9 : E_ (d + 1) mX5_restore 9 ls [.long u3, .long u2, .long u1] h = (C_ d mX5_within [.long u1, .long u2, .long u3] h).bind fun r => E_ (d + 1) mX5_restore 12 ls (xpu r.1 []) r.2 := e_call dX5_restore_9 rfl rfl
theorem wX5_restore_12 : E_ d mX5_restore 12 ls (.int x :: st) h = if x = 0 then E_ d mX5_restore 15 ls st h else E_ d mX5_restore 22 ls st h := e_zne dX5_restore_12 rfl rfl
theorem wX5_restore_15 : E_ d mX5_restore 15 [.val (.ref a), s1, s2] st h = E_ d mX5_restore 16 [.val (.ref a), s1, s2] (.ref a :: st) h := e_go dX5_restore_15 rfl rfl
theorem wX5_restore_16 : E_ d mX5_restore 16 ls st h = E_ d mX5_restore 18 ls (.int ((-2)) :: st) h := e_bipush dX5_restore_16 kbipush_m2 rfl
theorem wX5_restore_18 (ht : oT h a = 7) : E_ (d + 1) mX5_restore 18 ls [.int x1, .ref a] h = (C_ d mX5_no [.ref a, .int x1] h).bind fun r => E_ (d + 1) mX5_restore 21 ls (xpu r.1 []) r.2 := e_vir dX5_restore_18 rfl rfl rfl rfl rfl rfl (Nat.le_of_ble_eq_true rfl) (Nat.le_of_ble_eq_true rfl) ht
theorem wX5_restore_21 : E_ d mX5_restore 21 ls [.int x] h = some (some (.int x), h) := e_rt dX5_restore_21 rfl rfl
theorem wX5_restore_22 : E_ d mX5_restore 22 [.val (.ref a), s1, s2] st h = E_ d mX5_restore 23 [.val (.ref a), s1, s2] (.ref a :: st) h := e_go dX5_restore_22 rfl rfl
theorem wX5_restore_23 (ht : oT h a = 7) : E_ d mX5_restore 23 ls (.ref a :: st) h = E_ d mX5_restore 26 ls (va_rf (oR h a 3) :: st) h := e_getR0 dX5_restore_23 rfl rfl ht
theorem wX5_restore_26 : E_ d mX5_restore 26 [s0, .val (.int x), s2] st h = E_ d mX5_restore 27 [s0, .val (.int x), s2] (.int x :: st) h := e_go dX5_restore_26 rfl rfl
theorem wX5_restore_27 (ht : oT h a = 41 ∨ oT h a = 42) (hi : xix x (oN h a) = true) : E_ d mX5_restore 27 ls (.int x :: .ref a :: st) h = E_ d mX5_restore 28 ls (.int (oI h a x.toNatClampNeg) :: st) h := e_bald dX5_restore_27 rfl ht hi
theorem wX5_restore_28 : E_ d mX5_restore 28 ls (.int x :: st) h = if x = 0 then E_ d mX5_restore 31 ls st h else E_ d mX5_restore 38 ls st h := e_zne dX5_restore_28 rfl rfl
theorem wX5_restore_31 : E_ d mX5_restore 31 [.val (.ref a), s1, s2] st h = E_ d mX5_restore 32 [.val (.ref a), s1, s2] (.ref a :: st) h := e_go dX5_restore_31 rfl rfl
theorem wX5_restore_32 : E_ d mX5_restore 32 ls st h = E_ d mX5_restore 34 ls (.int ((-5)) :: st) h := e_bipush dX5_restore_32 kbipush_m5 rfl
theorem wX5_restore_34 (ht : oT h a = 7) : E_ (d + 1) mX5_restore 34 ls [.int x1, .ref a] h = (C_ d mX5_no [.ref a, .int x1] h).bind fun r => E_ (d + 1) mX5_restore 37 ls (xpu r.1 []) r.2 := e_vir dX5_restore_34 rfl rfl rfl rfl rfl rfl (Nat.le_of_ble_eq_true rfl) (Nat.le_of_ble_eq_true rfl) ht
theorem wX5_restore_37 : E_ d mX5_restore 37 ls [.int x] h = some (some (.int x), h) := e_rt dX5_restore_37 rfl rfl
theorem wX5_restore_38 : E_ d mX5_restore 38 ls st h = E_ d mX5_restore 39 ls (.int (nI 0) :: st) h := e_iconst dX5_restore_38 kiconst_0 rfl
theorem wX5_restore_39 : E_ d mX5_restore 39 [s0, s1, s2] (.int x :: st) h = E_ d mX5_restore 40 [s0, xk s1, .val (.int x)] st h := e_go dX5_restore_39 rfl rfl
theorem wX5_restore_40 : E_ d mX5_restore 40 [s0, s1, .val (.int x)] st h = E_ d mX5_restore 41 [s0, s1, .val (.int x)] (.int x :: st) h := e_go dX5_restore_40 rfl rfl
theorem wX5_restore_41 : E_ d mX5_restore 41 ls st h = E_ d mX5_restore 44 ls (.int (nI 578) :: st) h := e_sipush dX5_restore_41 ksipush_578 rfl
theorem wX5_restore_44 : E_ d mX5_restore 44 ls (.int y :: .int x :: st) h = if x < y then E_ d mX5_restore 47 ls st h else E_ d mX5_restore 73 ls st h := e_ige dX5_restore_44 rfl rfl
theorem wX5_restore_47 : E_ d mX5_restore 47 [.val (.ref a), s1, s2] st h = E_ d mX5_restore 48 [.val (.ref a), s1, s2] (.ref a :: st) h := e_go dX5_restore_47 rfl rfl
theorem wX5_restore_48 (ht : oT h a = 7) : E_ d mX5_restore 48 ls (.ref a :: st) h = E_ d mX5_restore 51 ls (va_rf (oR h a 2) :: st) h := e_getR0 dX5_restore_48 rfl rfl ht
theorem wX5_restore_51 : E_ d mX5_restore 51 [s0, s1, .val (.int x)] st h = E_ d mX5_restore 52 [s0, s1, .val (.int x)] (.int x :: st) h := e_go dX5_restore_51 rfl rfl
theorem wX5_restore_52 : E_ d mX5_restore 52 [.val (.ref a), s1, s2] st h = E_ d mX5_restore 53 [.val (.ref a), s1, s2] (.ref a :: st) h := e_go dX5_restore_52 rfl rfl
theorem wX5_restore_53 (ht : oT h a = 7) : E_ d mX5_restore 53 ls (.ref a :: st) h = E_ d mX5_restore 56 ls (va_rf (oR h a 2) :: st) h := e_getR0 dX5_restore_53 rfl rfl ht
theorem wX5_restore_56 : E_ d mX5_restore 56 ls st h = E_ d mX5_restore 59 ls (.int (nI 578) :: st) h := e_sipush dX5_restore_56 ksipush_578 rfl
theorem wX5_restore_59 : E_ d mX5_restore 59 [s0, .val (.int x), s2] st h = E_ d mX5_restore 60 [s0, .val (.int x), s2] (.int x :: st) h := e_go dX5_restore_59 rfl rfl
theorem wX5_restore_60 : E_ d mX5_restore 60 ls st h = E_ d mX5_restore 61 ls (.int (nI 1) :: st) h := e_iconst dX5_restore_60 kiconst_1 rfl
theorem wX5_restore_61 : E_ d mX5_restore 61 ls (.int y :: .int x :: st) h = E_ d mX5_restore 62 ls (.int (x + y) :: st) h := e_go dX5_restore_61 rfl rfl
theorem wX5_restore_62 : E_ d mX5_restore 62 ls (.int y :: .int x :: st) h = E_ d mX5_restore 63 ls (.int (x * y) :: st) h := e_go dX5_restore_62 rfl rfl
theorem wX5_restore_63 : E_ d mX5_restore 63 [s0, s1, .val (.int x)] st h = E_ d mX5_restore 64 [s0, s1, .val (.int x)] (.int x :: st) h := e_go dX5_restore_63 rfl rfl
theorem wX5_restore_64 : E_ d mX5_restore 64 ls (.int y :: .int x :: st) h = E_ d mX5_restore 65 ls (.int (x + y) :: st) h := e_go dX5_restore_64 rfl rfl
theorem wX5_restore_65 (ht : oT h a = 40) (hi : xix x (oN h a) = true) : E_ d mX5_restore 65 ls (.int x :: .ref a :: st) h = E_ d mX5_restore 66 ls (.int (oI h a x.toNatClampNeg) :: st) h := e_iald dX5_restore_65 rfl ht hi
theorem wX5_restore_66 (ht : oT h a = 40) (hi : xix x (oN h a) = true) : E_ d mX5_restore 66 ls (.int y :: .int x :: .ref a :: st) h = E_ d mX5_restore 67 ls st (pI h a (va_up (oI h a) x.toNatClampNeg y)) := e_iast dX5_restore_66 rfl ht hi
theorem wX5_restore_67 : E_ d mX5_restore 67 [s0, s1, .val (.int x)] st h = E_ d mX5_restore 70 [s0, xk s1, .val (.int (x + nI 1))] st h := by rw [← kiinc_1]; exact e_go dX5_restore_67 rfl rfl
theorem wX5_restore_70 : E_ d mX5_restore 70 ls st h = E_ d mX5_restore 40 ls st h := e_gt dX5_restore_70 rfl
theorem wX5_restore_73 : E_ d mX5_restore 73 ls st h = E_ d mX5_restore 74 ls (.int (nI 0) :: st) h := e_iconst dX5_restore_73 kiconst_0 rfl
theorem wX5_restore_74 : E_ d mX5_restore 74 ls [.int x] h = some (some (.int x), h) := e_rt dX5_restore_74 rfl rfl
/-! FootOutModel.status -/
theorem wX5_status_0 : E_ d mX5_status 0 [.val (.ref a), s1] st h = E_ d mX5_status 1 [.val (.ref a), s1] (.ref a :: st) h := e_go dX5_status_0 rfl rfl
theorem wX5_status_1 : E_ d mX5_status 1 ls st h = E_ d mX5_status 2 ls (.int (nI 0) :: st) h := e_iconst dX5_status_1 kiconst_0 rfl
theorem wX5_status_2 (ht : oT h a = 7) : E_ d mX5_status 2 ls (.int x :: .ref a :: st) h = E_ d mX5_status 5 ls st (pI h a (va_up (oI h a) 0 x)) := e_putI dX5_status_2 rfl rfl ht
theorem wX5_status_5 : E_ d mX5_status 5 [s0, .val (.int x)] st h = E_ d mX5_status 6 [s0, .val (.int x)] (.int x :: st) h := e_go dX5_status_5 rfl rfl
theorem wX5_status_6 : E_ d mX5_status 6 ls (.int x :: st) h = E_ d mX5_status 7 ls (.long x.toInt64 :: st) h := e_go dX5_status_6 rfl rfl
theorem wX5_status_7 : E_ d mX5_status 7 ls st h = E_ d mX5_status 8 ls (.long 0 :: st) h := e_go dX5_status_7 rfl rfl
theorem wX5_status_8 : E_ d mX5_status 8 ls st h = E_ d mX5_status 11 ls (.long (5) :: st) h := e_go dX5_status_8 rfl rfl
theorem wX5_status_11 : E_ (d + 1) mX5_status 11 ls [.long u3, .long u2, .long u1] h = (C_ d mX5_within [.long u1, .long u2, .long u3] h).bind fun r => E_ (d + 1) mX5_status 14 ls (xpu r.1 []) r.2 := e_call dX5_status_11 rfl rfl
theorem wX5_status_14 : E_ d mX5_status 14 ls (.int x :: st) h = if x = 0 then E_ d mX5_status 26 ls st h else E_ d mX5_status 17 ls st h := e_zeq dX5_status_14 rfl rfl
theorem wX5_status_17 : E_ d mX5_status 17 [.val (.ref a), s1] st h = E_ d mX5_status 18 [.val (.ref a), s1] (.ref a :: st) h := e_go dX5_status_17 rfl rfl
theorem wX5_status_18 (ht : oT h a = 7) : E_ d mX5_status 18 ls (.ref a :: st) h = E_ d mX5_status 21 ls (va_rf (oR h a 1) :: st) h := e_getR0 dX5_status_18 rfl rfl ht
theorem wX5_status_21 : E_ d mX5_status 21 [s0, .val (.int x)] st h = E_ d mX5_status 22 [s0, .val (.int x)] (.int x :: st) h := e_go dX5_status_21 rfl rfl
theorem wX5_status_22 (ht : oT h a = 40) (hi : xix x (oN h a) = true) : E_ d mX5_status 22 ls (.int x :: .ref a :: st) h = E_ d mX5_status 23 ls (.int (oI h a x.toNatClampNeg) :: st) h := e_iald dX5_status_22 rfl ht hi
theorem wX5_status_23 : E_ d mX5_status 23 ls st h = E_ d mX5_status 27 ls st h := e_gt dX5_status_23 rfl
theorem wX5_status_26 : E_ d mX5_status 26 ls st h = E_ d mX5_status 27 ls (.int ((-1)) :: st) h := e_iconst dX5_status_26 kiconst_m1 rfl
theorem wX5_status_27 : E_ d mX5_status 27 ls [.int x] h = some (some (.int x), h) := e_rt dX5_status_27 rfl rfl
/-! FootOutModel.count -/
theorem wX5_count_0 : E_ d mX5_count 0 [.val (.ref a), s1] st h = E_ d mX5_count 1 [.val (.ref a), s1] (.ref a :: st) h := e_go dX5_count_0 rfl rfl
theorem wX5_count_1 : E_ d mX5_count 1 ls st h = E_ d mX5_count 2 ls (.int (nI 0) :: st) h := e_iconst dX5_count_1 kiconst_0 rfl
theorem wX5_count_2 (ht : oT h a = 7) : E_ d mX5_count 2 ls (.int x :: .ref a :: st) h = E_ d mX5_count 5 ls st (pI h a (va_up (oI h a) 0 x)) := e_putI dX5_count_2 rfl rfl ht
theorem wX5_count_5 : E_ d mX5_count 5 [s0, .val (.int x)] st h = E_ d mX5_count 6 [s0, .val (.int x)] (.int x :: st) h := e_go dX5_count_5 rfl rfl
theorem wX5_count_6d (hx : x.toInt < 0 ∨ 10 < x.toInt) : E_ d mX5_count 6 ls (.int x :: st) h = E_ d mX5_count 148 ls st h := e_swO dX5_count_6 rfl hx
theorem wX5_count_6c0 : E_ d mX5_count 6 ls (.int (nI 0) :: st) h = E_ d mX5_count 64 ls st h := e_swI (n := 0) dX5_count_6 (by decide) (by decide) rfl rfl
theorem wX5_count_6c1 : E_ d mX5_count 6 ls (.int (nI 1) :: st) h = E_ d mX5_count 71 ls st h := e_swI (n := 1) dX5_count_6 (by decide) (by decide) rfl rfl
theorem wX5_count_6c2 : E_ d mX5_count 6 ls (.int (nI 2) :: st) h = E_ d mX5_count 78 ls st h := e_swI (n := 2) dX5_count_6 (by decide) (by decide) rfl rfl
theorem wX5_count_6c3 : E_ d mX5_count 6 ls (.int (nI 3) :: st) h = E_ d mX5_count 86 ls st h := e_swI (n := 3) dX5_count_6 (by decide) (by decide) rfl rfl
theorem wX5_count_6c4 : E_ d mX5_count 6 ls (.int (nI 4) :: st) h = E_ d mX5_count 94 ls st h := e_swI (n := 4) dX5_count_6 (by decide) (by decide) rfl rfl
theorem wX5_count_6c5 : E_ d mX5_count 6 ls (.int (nI 5) :: st) h = E_ d mX5_count 102 ls st h := e_swI (n := 5) dX5_count_6 (by decide) (by decide) rfl rfl
theorem wX5_count_6c6 : E_ d mX5_count 6 ls (.int (nI 6) :: st) h = E_ d mX5_count 110 ls st h := e_swI (n := 6) dX5_count_6 (by decide) (by decide) rfl rfl
theorem wX5_count_6c7 : E_ d mX5_count 6 ls (.int (nI 7) :: st) h = E_ d mX5_count 118 ls st h := e_swI (n := 7) dX5_count_6 (by decide) (by decide) rfl rfl
theorem wX5_count_6c8 : E_ d mX5_count 6 ls (.int (nI 8) :: st) h = E_ d mX5_count 126 ls st h := e_swI (n := 8) dX5_count_6 (by decide) (by decide) rfl rfl
theorem wX5_count_6c9 : E_ d mX5_count 6 ls (.int (nI 9) :: st) h = E_ d mX5_count 135 ls st h := e_swI (n := 9) dX5_count_6 (by decide) (by decide) rfl rfl
theorem wX5_count_6c10 : E_ d mX5_count 6 ls (.int (nI 10) :: st) h = E_ d mX5_count 140 ls st h := e_swI (n := 10) dX5_count_6 (by decide) (by decide) rfl rfl
theorem wX5_count_64 : E_ d mX5_count 64 [.val (.ref a), s1] st h = E_ d mX5_count 65 [.val (.ref a), s1] (.ref a :: st) h := e_go dX5_count_64 rfl rfl
theorem wX5_count_65 (ht : oT h a = 7) : E_ d mX5_count 65 ls (.ref a :: st) h = E_ d mX5_count 68 ls (va_rf (oR h a 2) :: st) h := e_getR0 dX5_count_65 rfl rfl ht
theorem wX5_count_68 : E_ d mX5_count 68 ls st h = E_ d mX5_count 69 ls (.int (nI 0) :: st) h := e_iconst dX5_count_68 kiconst_0 rfl
theorem wX5_count_69 (ht : oT h a = 40) (hi : xix x (oN h a) = true) : E_ d mX5_count 69 ls (.int x :: .ref a :: st) h = E_ d mX5_count 70 ls (.int (oI h a x.toNatClampNeg) :: st) h := e_iald dX5_count_69 rfl ht hi
theorem wX5_count_70 : E_ d mX5_count 70 ls [.int x] h = some (some (.int x), h) := e_rt dX5_count_70 rfl rfl
theorem wX5_count_71 : E_ d mX5_count 71 [.val (.ref a), s1] st h = E_ d mX5_count 72 [.val (.ref a), s1] (.ref a :: st) h := e_go dX5_count_71 rfl rfl
theorem wX5_count_72 (ht : oT h a = 7) : E_ d mX5_count 72 ls (.ref a :: st) h = E_ d mX5_count 75 ls (va_rf (oR h a 2) :: st) h := e_getR0 dX5_count_72 rfl rfl ht
theorem wX5_count_75 : E_ d mX5_count 75 ls st h = E_ d mX5_count 76 ls (.int (nI 1) :: st) h := e_iconst dX5_count_75 kiconst_1 rfl
theorem wX5_count_76 (ht : oT h a = 40) (hi : xix x (oN h a) = true) : E_ d mX5_count 76 ls (.int x :: .ref a :: st) h = E_ d mX5_count 77 ls (.int (oI h a x.toNatClampNeg) :: st) h := e_iald dX5_count_76 rfl ht hi
theorem wX5_count_77 : E_ d mX5_count 77 ls [.int x] h = some (some (.int x), h) := e_rt dX5_count_77 rfl rfl
theorem wX5_count_78 : E_ d mX5_count 78 [.val (.ref a), s1] st h = E_ d mX5_count 79 [.val (.ref a), s1] (.ref a :: st) h := e_go dX5_count_78 rfl rfl
theorem wX5_count_79 (ht : oT h a = 7) : E_ d mX5_count 79 ls (.ref a :: st) h = E_ d mX5_count 82 ls (va_rf (oR h a 2) :: st) h := e_getR0 dX5_count_79 rfl rfl ht
theorem wX5_count_82 : E_ d mX5_count 82 ls st h = E_ d mX5_count 84 ls (.int (nI 34) :: st) h := e_bipush dX5_count_82 kbipush_34 rfl
theorem wX5_count_84 (ht : oT h a = 40) (hi : xix x (oN h a) = true) : E_ d mX5_count 84 ls (.int x :: .ref a :: st) h = E_ d mX5_count 85 ls (.int (oI h a x.toNatClampNeg) :: st) h := e_iald dX5_count_84 rfl ht hi
theorem wX5_count_85 : E_ d mX5_count 85 ls [.int x] h = some (some (.int x), h) := e_rt dX5_count_85 rfl rfl
theorem wX5_count_86 : E_ d mX5_count 86 [.val (.ref a), s1] st h = E_ d mX5_count 87 [.val (.ref a), s1] (.ref a :: st) h := e_go dX5_count_86 rfl rfl
theorem wX5_count_87 (ht : oT h a = 7) : E_ d mX5_count 87 ls (.ref a :: st) h = E_ d mX5_count 90 ls (va_rf (oR h a 2) :: st) h := e_getR0 dX5_count_87 rfl rfl ht
theorem wX5_count_90 : E_ d mX5_count 90 ls st h = E_ d mX5_count 92 ls (.int (nI 35) :: st) h := e_bipush dX5_count_90 kbipush_35 rfl
theorem wX5_count_92 (ht : oT h a = 40) (hi : xix x (oN h a) = true) : E_ d mX5_count 92 ls (.int x :: .ref a :: st) h = E_ d mX5_count 93 ls (.int (oI h a x.toNatClampNeg) :: st) h := e_iald dX5_count_92 rfl ht hi
theorem wX5_count_93 : E_ d mX5_count 93 ls [.int x] h = some (some (.int x), h) := e_rt dX5_count_93 rfl rfl
theorem wX5_count_94 : E_ d mX5_count 94 [.val (.ref a), s1] st h = E_ d mX5_count 95 [.val (.ref a), s1] (.ref a :: st) h := e_go dX5_count_94 rfl rfl
theorem wX5_count_95 (ht : oT h a = 7) : E_ d mX5_count 95 ls (.ref a :: st) h = E_ d mX5_count 98 ls (va_rf (oR h a 2) :: st) h := e_getR0 dX5_count_95 rfl rfl ht
theorem wX5_count_98 : E_ d mX5_count 98 ls st h = E_ d mX5_count 100 ls (.int (nI 36) :: st) h := e_bipush dX5_count_98 kbipush_36 rfl
theorem wX5_count_100 (ht : oT h a = 40) (hi : xix x (oN h a) = true) : E_ d mX5_count 100 ls (.int x :: .ref a :: st) h = E_ d mX5_count 101 ls (.int (oI h a x.toNatClampNeg) :: st) h := e_iald dX5_count_100 rfl ht hi
theorem wX5_count_101 : E_ d mX5_count 101 ls [.int x] h = some (some (.int x), h) := e_rt dX5_count_101 rfl rfl
theorem wX5_count_102 : E_ d mX5_count 102 [.val (.ref a), s1] st h = E_ d mX5_count 103 [.val (.ref a), s1] (.ref a :: st) h := e_go dX5_count_102 rfl rfl
theorem wX5_count_103 (ht : oT h a = 7) : E_ d mX5_count 103 ls (.ref a :: st) h = E_ d mX5_count 106 ls (va_rf (oR h a 2) :: st) h := e_getR0 dX5_count_103 rfl rfl ht
theorem wX5_count_106 : E_ d mX5_count 106 ls st h = E_ d mX5_count 108 ls (.int (nI 37) :: st) h := e_bipush dX5_count_106 kbipush_37 rfl
theorem wX5_count_108 (ht : oT h a = 40) (hi : xix x (oN h a) = true) : E_ d mX5_count 108 ls (.int x :: .ref a :: st) h = E_ d mX5_count 109 ls (.int (oI h a x.toNatClampNeg) :: st) h := e_iald dX5_count_108 rfl ht hi
theorem wX5_count_109 : E_ d mX5_count 109 ls [.int x] h = some (some (.int x), h) := e_rt dX5_count_109 rfl rfl
theorem wX5_count_110 : E_ d mX5_count 110 [.val (.ref a), s1] st h = E_ d mX5_count 111 [.val (.ref a), s1] (.ref a :: st) h := e_go dX5_count_110 rfl rfl
theorem wX5_count_111 (ht : oT h a = 7) : E_ d mX5_count 111 ls (.ref a :: st) h = E_ d mX5_count 114 ls (va_rf (oR h a 2) :: st) h := e_getR0 dX5_count_111 rfl rfl ht
theorem wX5_count_114 : E_ d mX5_count 114 ls st h = E_ d mX5_count 116 ls (.int (nI 38) :: st) h := e_bipush dX5_count_114 kbipush_38 rfl
theorem wX5_count_116 (ht : oT h a = 40) (hi : xix x (oN h a) = true) : E_ d mX5_count 116 ls (.int x :: .ref a :: st) h = E_ d mX5_count 117 ls (.int (oI h a x.toNatClampNeg) :: st) h := e_iald dX5_count_116 rfl ht hi
theorem wX5_count_117 : E_ d mX5_count 117 ls [.int x] h = some (some (.int x), h) := e_rt dX5_count_117 rfl rfl
theorem wX5_count_118 : E_ d mX5_count 118 [.val (.ref a), s1] st h = E_ d mX5_count 119 [.val (.ref a), s1] (.ref a :: st) h := e_go dX5_count_118 rfl rfl
theorem wX5_count_119 (ht : oT h a = 7) : E_ d mX5_count 119 ls (.ref a :: st) h = E_ d mX5_count 122 ls (va_rf (oR h a 2) :: st) h := e_getR0 dX5_count_119 rfl rfl ht
theorem wX5_count_122 : E_ d mX5_count 122 ls st h = E_ d mX5_count 124 ls (.int (nI 40) :: st) h := e_bipush dX5_count_122 kbipush_40 rfl
theorem wX5_count_124 (ht : oT h a = 40) (hi : xix x (oN h a) = true) : E_ d mX5_count 124 ls (.int x :: .ref a :: st) h = E_ d mX5_count 125 ls (.int (oI h a x.toNatClampNeg) :: st) h := e_iald dX5_count_124 rfl ht hi
theorem wX5_count_125 : E_ d mX5_count 125 ls [.int x] h = some (some (.int x), h) := e_rt dX5_count_125 rfl rfl
theorem wX5_count_126 : E_ d mX5_count 126 [.val (.ref a), s1] st h = E_ d mX5_count 127 [.val (.ref a), s1] (.ref a :: st) h := e_go dX5_count_126 rfl rfl
theorem wX5_count_127 (ht : oT h a = 7) : E_ d mX5_count 127 ls (.ref a :: st) h = E_ d mX5_count 130 ls (va_rf (oR h a 2) :: st) h := e_getR0 dX5_count_127 rfl rfl ht
theorem wX5_count_130 : E_ d mX5_count 130 ls st h = E_ d mX5_count 133 ls (.int (nI 477) :: st) h := e_sipush dX5_count_130 ksipush_477 rfl
theorem wX5_count_133 (ht : oT h a = 40) (hi : xix x (oN h a) = true) : E_ d mX5_count 133 ls (.int x :: .ref a :: st) h = E_ d mX5_count 134 ls (.int (oI h a x.toNatClampNeg) :: st) h := e_iald dX5_count_133 rfl ht hi
theorem wX5_count_134 : E_ d mX5_count 134 ls [.int x] h = some (some (.int x), h) := e_rt dX5_count_134 rfl rfl
theorem wX5_count_135 : E_ d mX5_count 135 [.val (.ref a), s1] st h = E_ d mX5_count 136 [.val (.ref a), s1] (.ref a :: st) h := e_go dX5_count_135 rfl rfl
theorem wX5_count_136 (ht : oT h a = 7) : E_ d mX5_count 136 ls (.ref a :: st) h = E_ d mX5_count 139 ls (.int (oI h a 6) :: st) h := e_getI dX5_count_136 rfl rfl ht
theorem wX5_count_139 : E_ d mX5_count 139 ls [.int x] h = some (some (.int x), h) := e_rt dX5_count_139 rfl rfl
theorem wX5_count_140 : E_ d mX5_count 140 [.val (.ref a), s1] st h = E_ d mX5_count 141 [.val (.ref a), s1] (.ref a :: st) h := e_go dX5_count_140 rfl rfl
theorem wX5_count_141 (ht : oT h a = 7) : E_ d mX5_count 141 ls (.ref a :: st) h = E_ d mX5_count 144 ls (va_rf (oR h a 2) :: st) h := e_getR0 dX5_count_141 rfl rfl ht
theorem wX5_count_144 : E_ d mX5_count 144 ls st h = E_ d mX5_count 146 ls (.int (nI 39) :: st) h := e_bipush dX5_count_144 kbipush_39 rfl
theorem wX5_count_146 (ht : oT h a = 40) (hi : xix x (oN h a) = true) : E_ d mX5_count 146 ls (.int x :: .ref a :: st) h = E_ d mX5_count 147 ls (.int (oI h a x.toNatClampNeg) :: st) h := e_iald dX5_count_146 rfl ht hi
theorem wX5_count_147 : E_ d mX5_count 147 ls [.int x] h = some (some (.int x), h) := e_rt dX5_count_147 rfl rfl
theorem wX5_count_148 : E_ d mX5_count 148 ls st h = E_ d mX5_count 149 ls (.int ((-1)) :: st) h := e_iconst dX5_count_148 kiconst_m1 rfl
theorem wX5_count_149 : E_ d mX5_count 149 ls [.int x] h = some (some (.int x), h) := e_rt dX5_count_149 rfl rfl
