variable {d a b e f : Nat} {ls : List Slot} {st : List Value} {h : xH} {x y z x1 x2 x3 x4 x5 x6 x7 x8 : Int32} {u v u1 u2 u3 u4 u5 u6 : Int64} {r1 r2 r3 r4 r5 r6 : Nat} {s0 s1 s2 s3 s4 s5 s6 s7 s8 s9 s10 s11 s12 s13 : Slot} {q : Option Nat}
/-! FootOut.above -/
theorem wX0_above_0 : E_ d mX0_above 0 [.val (.ref a), s1] st h = E_ d mX0_above 1 [.val (.ref a), s1] (.ref a :: st) h := e_go dX0_above_0 rfl rfl
theorem wX0_above_1 : E_ d mX0_above 1 ls st h = E_ d mX0_above 2 ls (.int (nI 0) :: st) h := e_iconst dX0_above_1 kiconst_0 rfl
theorem wX0_above_2 : E_ d mX0_above 2 [s0, .val (.int x)] st h = E_ d mX0_above 3 [s0, .val (.int x)] (.int x :: st) h := e_go dX0_above_2 rfl rfl
theorem wX0_above_3 : E_ d mX0_above 3 ls st h = E_ d mX0_above 4 ls (.int (nI 0) :: st) h := e_iconst dX0_above_3 kiconst_0 rfl
theorem wX0_above_4 : E_ d mX0_above 4 ls st h = E_ d mX0_above 5 ls (.int (nI 1) :: st) h := e_iconst dX0_above_4 kiconst_1 rfl
theorem wX0_above_5 (ht : oT h a = 1) : E_ (d + 1) mX0_above 5 ls [.int x4, .int x3, .int x2, .int x1, .ref a] h = (C_ d mX0_sumOf [.ref a, .int x1, .int x2, .int x3, .int x4] h).bind fun r => E_ (d + 1) mX0_above 8 ls (xpu r.1 []) r.2 := e_vir dX0_above_5 rfl rfl rfl rfl rfl rfl (Nat.le_of_ble_eq_true rfl) (Nat.le_of_ble_eq_true rfl) ht
theorem wX0_above_8 : E_ d mX0_above 8 [.val (.ref a), s1] st h = E_ d mX0_above 9 [.val (.ref a), s1] (.ref a :: st) h := e_go dX0_above_8 rfl rfl
theorem wX0_above_9 : E_ d mX0_above 9 ls st h = E_ d mX0_above 10 ls (.int (nI 1) :: st) h := e_iconst dX0_above_9 kiconst_1 rfl
theorem wX0_above_10 : E_ d mX0_above 10 ls st h = E_ d mX0_above 11 ls (.int (nI 1) :: st) h := e_iconst dX0_above_10 kiconst_1 rfl
theorem wX0_above_11 : E_ d mX0_above 11 ls st h = E_ d mX0_above 12 ls (.int (nI 0) :: st) h := e_iconst dX0_above_11 kiconst_0 rfl
theorem wX0_above_12 : E_ d mX0_above 12 ls st h = E_ d mX0_above 13 ls (.int (nI 0) :: st) h := e_iconst dX0_above_12 kiconst_0 rfl
theorem wX0_above_13 (ht : oT h a = 1) : E_ (d + 1) mX0_above 13 ls [.int x4, .int x3, .int x2, .int x1, .ref a, .long u1] h = (C_ d mX0_sumOf [.ref a, .int x1, .int x2, .int x3, .int x4] h).bind fun r => E_ (d + 1) mX0_above 16 ls (xpu r.1 [.long u1]) r.2 := e_vir dX0_above_13 rfl rfl rfl rfl rfl rfl (Nat.le_of_ble_eq_true rfl) (Nat.le_of_ble_eq_true rfl) ht
theorem wX0_above_16 : E_ d mX0_above 16 ls (.long v :: .long u :: st) h = E_ d mX0_above 17 ls (.long (u * v) :: st) h := e_go dX0_above_16 rfl rfl
theorem wX0_above_17 : E_ d mX0_above 17 [.val (.ref a), s1] st h = E_ d mX0_above 18 [.val (.ref a), s1] (.ref a :: st) h := e_go dX0_above_17 rfl rfl
theorem wX0_above_18 : E_ d mX0_above 18 [s0, .val (.int x)] st h = E_ d mX0_above 19 [s0, .val (.int x)] (.int x :: st) h := e_go dX0_above_18 rfl rfl
theorem wX0_above_19 : E_ d mX0_above 19 ls st h = E_ d mX0_above 20 ls (.int (nI 1) :: st) h := e_iconst dX0_above_19 kiconst_1 rfl
theorem wX0_above_20 (ht : oT h a = 1) : E_ (d + 1) mX0_above 20 ls [.int x2, .int x1, .ref a, .long u1] h = (C_ d mX0_below [.ref a, .int x1, .int x2] h).bind fun r => E_ (d + 1) mX0_above 23 ls (xpu r.1 [.long u1]) r.2 := e_vir dX0_above_20 rfl rfl rfl rfl rfl rfl (Nat.le_of_ble_eq_true rfl) (Nat.le_of_ble_eq_true rfl) ht
theorem wX0_above_23 : E_ d mX0_above 23 ls (.long v :: .long u :: st) h = E_ d mX0_above 24 ls (.long (u * v) :: st) h := e_go dX0_above_23 rfl rfl
theorem wX0_above_24 : E_ d mX0_above 24 [.val (.ref a), s1] st h = E_ d mX0_above 25 [.val (.ref a), s1] (.ref a :: st) h := e_go dX0_above_24 rfl rfl
theorem wX0_above_25 : E_ d mX0_above 25 ls st h = E_ d mX0_above 26 ls (.int (nI 0) :: st) h := e_iconst dX0_above_25 kiconst_0 rfl
theorem wX0_above_26 : E_ d mX0_above 26 [s0, .val (.int x)] st h = E_ d mX0_above 27 [s0, .val (.int x)] (.int x :: st) h := e_go dX0_above_26 rfl rfl
theorem wX0_above_27 : E_ d mX0_above 27 ls st h = E_ d mX0_above 28 ls (.int (nI 1) :: st) h := e_iconst dX0_above_27 kiconst_1 rfl
theorem wX0_above_28 : E_ d mX0_above 28 ls st h = E_ d mX0_above 29 ls (.int (nI 1) :: st) h := e_iconst dX0_above_28 kiconst_1 rfl
theorem wX0_above_29 (ht : oT h a = 1) : E_ (d + 1) mX0_above 29 ls [.int x4, .int x3, .int x2, .int x1, .ref a, .long u1] h = (C_ d mX0_sumOf [.ref a, .int x1, .int x2, .int x3, .int x4] h).bind fun r => E_ (d + 1) mX0_above 32 ls (xpu r.1 [.long u1]) r.2 := e_vir dX0_above_29 rfl rfl rfl rfl rfl rfl (Nat.le_of_ble_eq_true rfl) (Nat.le_of_ble_eq_true rfl) ht
theorem wX0_above_32 : E_ d mX0_above 32 [.val (.ref a), s1] st h = E_ d mX0_above 33 [.val (.ref a), s1] (.ref a :: st) h := e_go dX0_above_32 rfl rfl
theorem wX0_above_33 : E_ d mX0_above 33 ls st h = E_ d mX0_above 34 ls (.int (nI 1) :: st) h := e_iconst dX0_above_33 kiconst_1 rfl
theorem wX0_above_34 : E_ d mX0_above 34 ls st h = E_ d mX0_above 35 ls (.int (nI 1) :: st) h := e_iconst dX0_above_34 kiconst_1 rfl
theorem wX0_above_35 : E_ d mX0_above 35 ls st h = E_ d mX0_above 36 ls (.int (nI 1) :: st) h := e_iconst dX0_above_35 kiconst_1 rfl
theorem wX0_above_36 : E_ d mX0_above 36 ls st h = E_ d mX0_above 37 ls (.int (nI 0) :: st) h := e_iconst dX0_above_36 kiconst_0 rfl
theorem wX0_above_37 (ht : oT h a = 1) : E_ (d + 1) mX0_above 37 ls [.int x4, .int x3, .int x2, .int x1, .ref a, .long u1, .long u2] h = (C_ d mX0_sumOf [.ref a, .int x1, .int x2, .int x3, .int x4] h).bind fun r => E_ (d + 1) mX0_above 40 ls (xpu r.1 [.long u1, .long u2]) r.2 := e_vir dX0_above_37 rfl rfl rfl rfl rfl rfl (Nat.le_of_ble_eq_true rfl) (Nat.le_of_ble_eq_true rfl) ht
theorem wX0_above_40 : E_ d mX0_above 40 ls (.long v :: .long u :: st) h = E_ d mX0_above 41 ls (.long (u * v) :: st) h := e_go dX0_above_40 rfl rfl
theorem wX0_above_41 : E_ d mX0_above 41 [.val (.ref a), s1] st h = E_ d mX0_above 42 [.val (.ref a), s1] (.ref a :: st) h := e_go dX0_above_41 rfl rfl
theorem wX0_above_42 : E_ d mX0_above 42 [s0, .val (.int x)] st h = E_ d mX0_above 43 [s0, .val (.int x)] (.int x :: st) h := e_go dX0_above_42 rfl rfl
theorem wX0_above_43 : E_ d mX0_above 43 ls st h = E_ d mX0_above 44 ls (.int (nI 0) :: st) h := e_iconst dX0_above_43 kiconst_0 rfl
theorem wX0_above_44 (ht : oT h a = 1) : E_ (d + 1) mX0_above 44 ls [.int x2, .int x1, .ref a, .long u1, .long u2] h = (C_ d mX0_below [.ref a, .int x1, .int x2] h).bind fun r => E_ (d + 1) mX0_above 47 ls (xpu r.1 [.long u1, .long u2]) r.2 := e_vir dX0_above_44 rfl rfl rfl rfl rfl rfl (Nat.le_of_ble_eq_true rfl) (Nat.le_of_ble_eq_true rfl) ht
theorem wX0_above_47 : E_ d mX0_above 47 ls (.long v :: .long u :: st) h = E_ d mX0_above 48 ls (.long (u * v) :: st) h := e_go dX0_above_47 rfl rfl
theorem wX0_above_48 : E_ d mX0_above 48 ls (.long v :: .long u :: st) h = E_ d mX0_above 49 ls (.long (u + v) :: st) h := e_go dX0_above_48 rfl rfl
theorem wX0_above_49 : E_ d mX0_above 49 ls [.long u] h = some (some (.long u), h) := e_rt dX0_above_49 rfl rfl
/-! FootOut.sumOf -/
theorem wX0_sumOf_0 : E_ d mX0_sumOf 0 ls st h = E_ d mX0_sumOf 1 ls (.long 0 :: st) h := e_go dX0_sumOf_0 rfl rfl
theorem wX0_sumOf_1 : E_ d mX0_sumOf 1 [s0, s1, s2, s3, s4, s5, s6, s7] (.long u :: st) h = E_ d mX0_sumOf 3 [s0, s1, s2, s3, xk s4, .val (.long u), .unset, s7] st h := e_go dX0_sumOf_1 rfl rfl
theorem wX0_sumOf_3 : E_ d mX0_sumOf 3 ls st h = E_ d mX0_sumOf 4 ls (.int (nI 0) :: st) h := e_iconst dX0_sumOf_3 kiconst_0 rfl
theorem wX0_sumOf_4 : E_ d mX0_sumOf 4 [s0, s1, s2, s3, s4, s5, s6, s7] (.int x :: st) h = E_ d mX0_sumOf 6 [s0, s1, s2, s3, s4, s5, xk s6, .val (.int x)] st h := e_go dX0_sumOf_4 rfl rfl
theorem wX0_sumOf_6 : E_ d mX0_sumOf 6 [s0, s1, s2, s3, s4, s5, s6, .val (.int x)] st h = E_ d mX0_sumOf 8 [s0, s1, s2, s3, s4, s5, s6, .val (.int x)] (.int x :: st) h := e_go dX0_sumOf_6 rfl rfl
theorem wX0_sumOf_8 : E_ d mX0_sumOf 8 [.val (.ref a), s1, s2, s3, s4, s5, s6, s7] st h = E_ d mX0_sumOf 9 [.val (.ref a), s1, s2, s3, s4, s5, s6, s7] (.ref a :: st) h := e_go dX0_sumOf_8 rfl rfl
theorem wX0_sumOf_9 (ht : oT h a = 1) : E_ d mX0_sumOf 9 ls (.ref a :: st) h = E_ d mX0_sumOf 12 ls (va_rf (oR h a 0) :: st) h := e_getR dX0_sumOf_9 rfl rfl ht
theorem wX0_sumOf_12 (ht : oT h a = 2) : E_ d mX0_sumOf 12 ls (.ref a :: st) h = E_ d mX0_sumOf 15 ls (va_rf (oR h a 2) :: st) h := e_getR0 dX0_sumOf_12 rfl rfl ht
theorem wX0_sumOf_15 (ht : oT h a = 4) : E_ (d + 1) mX0_sumOf 15 ls [.ref a, .int x1] h = (C_ d mJ2_size [.ref a] h).bind fun r => E_ (d + 1) mX0_sumOf 18 ls (xpu r.1 [.int x1]) r.2 := e_vir dX0_sumOf_15 rfl rfl rfl rfl rfl rfl (Nat.le_of_ble_eq_true rfl) (Nat.le_of_ble_eq_true rfl) ht
theorem wX0_sumOf_18 : E_ d mX0_sumOf 18 ls (.int y :: .int x :: st) h = if x < y then E_ d mX0_sumOf 21 ls st h else E_ d mX0_sumOf 108 ls st h := e_ige dX0_sumOf_18 rfl rfl
theorem wX0_sumOf_21 : E_ d mX0_sumOf 21 [s0, .val (.int x), s2, s3, s4, s5, s6, s7] st h = E_ d mX0_sumOf 22 [s0, .val (.int x), s2, s3, s4, s5, s6, s7] (.int x :: st) h := e_go dX0_sumOf_21 rfl rfl
theorem wX0_sumOf_22 : E_ d mX0_sumOf 22 ls (.int x :: st) h = if x = 0 then E_ d mX0_sumOf 25 ls st h else E_ d mX0_sumOf 47 ls st h := e_zne dX0_sumOf_22 rfl rfl
theorem wX0_sumOf_25 : E_ d mX0_sumOf 25 [.val (.ref a), s1, s2, s3, s4, s5, s6, s7] st h = E_ d mX0_sumOf 26 [.val (.ref a), s1, s2, s3, s4, s5, s6, s7] (.ref a :: st) h := e_go dX0_sumOf_25 rfl rfl
theorem wX0_sumOf_26 (ht : oT h a = 1) : E_ d mX0_sumOf 26 ls (.ref a :: st) h = E_ d mX0_sumOf 29 ls (va_rf (oR h a 0) :: st) h := e_getR dX0_sumOf_26 rfl rfl ht
theorem wX0_sumOf_29 (ht : oT h a = 2) : E_ d mX0_sumOf 29 ls (.ref a :: st) h = E_ d mX0_sumOf 32 ls (va_rf (oR h a 2) :: st) h := e_getR0 dX0_sumOf_29 rfl rfl ht
theorem wX0_sumOf_32 : E_ d mX0_sumOf 32 [s0, s1, s2, s3, s4, s5, s6, .val (.int x)] st h = E_ d mX0_sumOf 34 [s0, s1, s2, s3, s4, s5, s6, .val (.int x)] (.int x :: st) h := e_go dX0_sumOf_32 rfl rfl
theorem wX0_sumOf_34 (ht : oT h a = 4) : E_ (d + 1) mX0_sumOf 34 ls [.int x1, .ref a] h = (C_ d mJ2_get [.ref a, .int x1] h).bind fun r => E_ (d + 1) mX0_sumOf 37 ls (xpu r.1 []) r.2 := e_vir dX0_sumOf_34 rfl rfl rfl rfl rfl rfl (Nat.le_of_ble_eq_true rfl) (Nat.le_of_ble_eq_true rfl) ht
theorem wX0_sumOf_37 (ht : oT h a = 19) : E_ d mX0_sumOf 37 ls (.ref a :: st) h = E_ d mX0_sumOf 40 ls (.ref a :: st) h := e_cast dX0_sumOf_37 rfl rfl ht
theorem wX0_sumOf_37n : E_ d mX0_sumOf 37 ls (.null :: st) h = E_ d mX0_sumOf 40 ls (.null :: st) h := e_go dX0_sumOf_37 rfl rfl
theorem wX0_sumOf_40 (ht : oT h a = 19) : E_ d mX0_sumOf 40 ls (.ref a :: st) h = E_ d mX0_sumOf 43 ls (.int (oI h a 0) :: st) h := e_getZ0 dX0_sumOf_40 rfl rfl ht
theorem wX0_sumOf_43 : E_ d mX0_sumOf 43 [s0, s1, .val (.int x), s3, s4, s5, s6, s7] st h = E_ d mX0_sumOf 44 [s0, s1, .val (.int x), s3, s4, s5, s6, s7] (.int x :: st) h := e_go dX0_sumOf_43 rfl rfl
theorem wX0_sumOf_44 : E_ d mX0_sumOf 44 ls (.int y :: .int x :: st) h = if x = y then E_ d mX0_sumOf 47 ls st h else E_ d mX0_sumOf 102 ls st h := e_ine dX0_sumOf_44 rfl rfl
theorem wX0_sumOf_47 : E_ d mX0_sumOf 47 [s0, s1, s2, s3, s4, .val (.long u), s6, s7] st h = E_ d mX0_sumOf 49 [s0, s1, s2, s3, s4, .val (.long u), s6, s7] (.long u :: st) h := e_go dX0_sumOf_47 rfl rfl
theorem wX0_sumOf_49 : E_ d mX0_sumOf 49 [s0, s1, s2, s3, .val (.int x), s5, s6, s7] st h = E_ d mX0_sumOf 51 [s0, s1, s2, s3, .val (.int x), s5, s6, s7] (.int x :: st) h := e_go dX0_sumOf_49 rfl rfl
theorem wX0_sumOf_51 : E_ d mX0_sumOf 51 ls (.int x :: st) h = if x = 0 then E_ d mX0_sumOf 78 ls st h else E_ d mX0_sumOf 54 ls st h := e_zeq dX0_sumOf_51 rfl rfl
theorem wX0_sumOf_54 : E_ d mX0_sumOf 54 [.val (.ref a), s1, s2, s3, s4, s5, s6, s7] st h = E_ d mX0_sumOf 55 [.val (.ref a), s1, s2, s3, s4, s5, s6, s7] (.ref a :: st) h := e_go dX0_sumOf_54 rfl rfl
theorem wX0_sumOf_55 (ht : oT h a = 1) : E_ d mX0_sumOf 55 ls (.ref a :: st) h = E_ d mX0_sumOf 58 ls (va_rf (oR h a 0) :: st) h := e_getR dX0_sumOf_55 rfl rfl ht
theorem wX0_sumOf_58 (ht : oT h a = 2) : E_ d mX0_sumOf 58 ls (.ref a :: st) h = E_ d mX0_sumOf 61 ls (va_rf (oR h a 2) :: st) h := e_getR0 dX0_sumOf_58 rfl rfl ht
theorem wX0_sumOf_61 : E_ d mX0_sumOf 61 [s0, s1, s2, s3, s4, s5, s6, .val (.int x)] st h = E_ d mX0_sumOf 63 [s0, s1, s2, s3, s4, s5, s6, .val (.int x)] (.int x :: st) h := e_go dX0_sumOf_61 rfl rfl
theorem wX0_sumOf_63 (ht : oT h a = 4) : E_ (d + 1) mX0_sumOf 63 ls [.int x1, .ref a, .long u1] h = (C_ d mJ2_get [.ref a, .int x1] h).bind fun r => E_ (d + 1) mX0_sumOf 66 ls (xpu r.1 [.long u1]) r.2 := e_vir dX0_sumOf_63 rfl rfl rfl rfl rfl rfl (Nat.le_of_ble_eq_true rfl) (Nat.le_of_ble_eq_true rfl) ht
theorem wX0_sumOf_66 (ht : oT h a = 19) : E_ d mX0_sumOf 66 ls (.ref a :: st) h = E_ d mX0_sumOf 69 ls (.ref a :: st) h := e_cast dX0_sumOf_66 rfl rfl ht
theorem wX0_sumOf_66n : E_ d mX0_sumOf 66 ls (.null :: st) h = E_ d mX0_sumOf 69 ls (.null :: st) h := e_go dX0_sumOf_66 rfl rfl
theorem wX0_sumOf_69 (ht : oT h a = 19) : E_ d mX0_sumOf 69 ls (.ref a :: st) h = E_ d mX0_sumOf 72 ls (va_rf (oR h a 2) :: st) h := e_getR0 dX0_sumOf_69 rfl rfl ht
theorem wX0_sumOf_72 : E_ d mX0_sumOf 72 [s0, s1, s2, .val (.int x), s4, s5, s6, s7] st h = E_ d mX0_sumOf 73 [s0, s1, s2, .val (.int x), s4, s5, s6, s7] (.int x :: st) h := e_go dX0_sumOf_72 rfl rfl
theorem wX0_sumOf_73 (ht : oT h a = 40) (hi : xix x (oN h a) = true) : E_ d mX0_sumOf 73 ls (.int x :: .ref a :: st) h = E_ d mX0_sumOf 74 ls (.int (oI h a x.toNatClampNeg) :: st) h := e_iald dX0_sumOf_73 rfl ht hi
theorem wX0_sumOf_74 : E_ d mX0_sumOf 74 ls (.int x :: st) h = E_ d mX0_sumOf 75 ls (.long x.toInt64 :: st) h := e_go dX0_sumOf_74 rfl rfl
theorem wX0_sumOf_75 : E_ d mX0_sumOf 75 ls st h = E_ d mX0_sumOf 99 ls st h := e_gt dX0_sumOf_75 rfl
theorem wX0_sumOf_78 : E_ d mX0_sumOf 78 [.val (.ref a), s1, s2, s3, s4, s5, s6, s7] st h = E_ d mX0_sumOf 79 [.val (.ref a), s1, s2, s3, s4, s5, s6, s7] (.ref a :: st) h := e_go dX0_sumOf_78 rfl rfl
theorem wX0_sumOf_79 (ht : oT h a = 1) : E_ d mX0_sumOf 79 ls (.ref a :: st) h = E_ d mX0_sumOf 82 ls (va_rf (oR h a 0) :: st) h := e_getR dX0_sumOf_79 rfl rfl ht
theorem wX0_sumOf_82 (ht : oT h a = 2) : E_ d mX0_sumOf 82 ls (.ref a :: st) h = E_ d mX0_sumOf 85 ls (va_rf (oR h a 2) :: st) h := e_getR0 dX0_sumOf_82 rfl rfl ht
theorem wX0_sumOf_85 : E_ d mX0_sumOf 85 [s0, s1, s2, s3, s4, s5, s6, .val (.int x)] st h = E_ d mX0_sumOf 87 [s0, s1, s2, s3, s4, s5, s6, .val (.int x)] (.int x :: st) h := e_go dX0_sumOf_85 rfl rfl
theorem wX0_sumOf_87 (ht : oT h a = 4) : E_ (d + 1) mX0_sumOf 87 ls [.int x1, .ref a, .long u1] h = (C_ d mJ2_get [.ref a, .int x1] h).bind fun r => E_ (d + 1) mX0_sumOf 90 ls (xpu r.1 [.long u1]) r.2 := e_vir dX0_sumOf_87 rfl rfl rfl rfl rfl rfl (Nat.le_of_ble_eq_true rfl) (Nat.le_of_ble_eq_true rfl) ht
theorem wX0_sumOf_90 (ht : oT h a = 19) : E_ d mX0_sumOf 90 ls (.ref a :: st) h = E_ d mX0_sumOf 93 ls (.ref a :: st) h := e_cast dX0_sumOf_90 rfl rfl ht
theorem wX0_sumOf_90n : E_ d mX0_sumOf 90 ls (.null :: st) h = E_ d mX0_sumOf 93 ls (.null :: st) h := e_go dX0_sumOf_90 rfl rfl
theorem wX0_sumOf_93 (ht : oT h a = 19) : E_ d mX0_sumOf 93 ls (.ref a :: st) h = E_ d mX0_sumOf 96 ls (va_rf (oR h a 1) :: st) h := e_getR0 dX0_sumOf_93 rfl rfl ht
theorem wX0_sumOf_96 : E_ d mX0_sumOf 96 [s0, s1, s2, .val (.int x), s4, s5, s6, s7] st h = E_ d mX0_sumOf 97 [s0, s1, s2, .val (.int x), s4, s5, s6, s7] (.int x :: st) h := e_go dX0_sumOf_96 rfl rfl
theorem wX0_sumOf_97 (ht : oT h a = 40) (hi : xix x (oN h a) = true) : E_ d mX0_sumOf 97 ls (.int x :: .ref a :: st) h = E_ d mX0_sumOf 98 ls (.int (oI h a x.toNatClampNeg) :: st) h := e_iald dX0_sumOf_97 rfl ht hi
theorem wX0_sumOf_98 : E_ d mX0_sumOf 98 ls (.int x :: st) h = E_ d mX0_sumOf 99 ls (.long x.toInt64 :: st) h := e_go dX0_sumOf_98 rfl rfl
theorem wX0_sumOf_99 : E_ d mX0_sumOf 99 ls (.long v :: .long u :: st) h = E_ d mX0_sumOf 100 ls (.long (u + v) :: st) h := e_go dX0_sumOf_99 rfl rfl
theorem wX0_sumOf_100 : E_ d mX0_sumOf 100 [s0, s1, s2, s3, s4, s5, s6, s7] (.long u :: st) h = E_ d mX0_sumOf 102 [s0, s1, s2, s3, xk s4, .val (.long u), .unset, s7] st h := e_go dX0_sumOf_100 rfl rfl
theorem wX0_sumOf_102 : E_ d mX0_sumOf 102 [s0, s1, s2, s3, s4, s5, s6, .val (.int x)] st h = E_ d mX0_sumOf 105 [s0, s1, s2, s3, s4, s5, xk s6, .val (.int (x + nI 1))] st h := by rw [← kiinc_1]; exact e_go dX0_sumOf_102 rfl rfl
theorem wX0_sumOf_105 : E_ d mX0_sumOf 105 ls st h = E_ d mX0_sumOf 6 ls st h := e_gt dX0_sumOf_105 rfl
theorem wX0_sumOf_108 : E_ d mX0_sumOf 108 [s0, s1, s2, s3, s4, .val (.long u), s6, s7] st h = E_ d mX0_sumOf 110 [s0, s1, s2, s3, s4, .val (.long u), s6, s7] (.long u :: st) h := e_go dX0_sumOf_108 rfl rfl
theorem wX0_sumOf_110 : E_ d mX0_sumOf 110 ls [.long u] h = some (some (.long u), h) := e_rt dX0_sumOf_110 rfl rfl
/-! FootOut.below -/
theorem wX0_below_0 : E_ d mX0_below 0 ls st h = E_ d mX0_below 1 ls (.long 1 :: st) h := e_go dX0_below_0 rfl rfl
theorem wX0_below_1 : E_ d mX0_below 1 [.val (.ref a), s1, s2] st h = E_ d mX0_below 2 [.val (.ref a), s1, s2] (.ref a :: st) h := e_go dX0_below_1 rfl rfl
theorem wX0_below_2 : E_ d mX0_below 2 ls st h = E_ d mX0_below 3 ls (.int (nI 0) :: st) h := e_iconst dX0_below_2 kiconst_0 rfl
theorem wX0_below_3 : E_ d mX0_below 3 [s0, .val (.int x), s2] st h = E_ d mX0_below 4 [s0, .val (.int x), s2] (.int x :: st) h := e_go dX0_below_3 rfl rfl
theorem wX0_below_4 : E_ d mX0_below 4 [s0, s1, .val (.int x)] st h = E_ d mX0_below 5 [s0, s1, .val (.int x)] (.int x :: st) h := e_go dX0_below_4 rfl rfl
theorem wX0_below_5 : E_ d mX0_below 5 ls st h = E_ d mX0_below 6 ls (.int (nI 0) :: st) h := e_iconst dX0_below_5 kiconst_0 rfl
theorem wX0_below_6 (ht : oT h a = 1) : E_ (d + 1) mX0_below 6 ls [.int x4, .int x3, .int x2, .int x1, .ref a, .long u1] h = (C_ d mX0_sumOf [.ref a, .int x1, .int x2, .int x3, .int x4] h).bind fun r => E_ (d + 1) mX0_below 9 ls (xpu r.1 [.long u1]) r.2 := e_vir dX0_below_6 rfl rfl rfl rfl rfl rfl (Nat.le_of_ble_eq_true rfl) (Nat.le_of_ble_eq_true rfl) ht
theorem wX0_below_9 : E_ d mX0_below 9 ls [.long u2, .long u1] h = (xP 9 [.long u1, .long u2] h).bind fun r => E_ d mX0_below 12 ls (xpu r.1 []) r.2 := e_staP dX0_below_9 rfl (Nat.le_of_ble_eq_true rfl) rfl rfl rfl (Nat.le_of_ble_eq_true rfl)
theorem wX0_below_12 : E_ d mX0_below 12 ls [.long u] h = some (some (.long u), h) := e_rt dX0_below_12 rfl rfl
/-! FootOut.worst -/
theorem wX0_worst_0 : E_ d mX0_worst 0 [.val (.ref a), s1, s2, s3, s4] st h = E_ d mX0_worst 1 [.val (.ref a), s1, s2, s3, s4] (.ref a :: st) h := e_go dX0_worst_0 rfl rfl
theorem wX0_worst_1 (ht : oT h a = 1) : E_ d mX0_worst 1 ls (.ref a :: st) h = E_ d mX0_worst 4 ls (va_rf (oR h a 0) :: st) h := e_getR dX0_worst_1 rfl rfl ht
theorem wX0_worst_4 (ht : oT h a = 2) : E_ d mX0_worst 4 ls (.ref a :: st) h = E_ d mX0_worst 7 ls (va_rf (oR h a 2) :: st) h := e_getR0 dX0_worst_4 rfl rfl ht
theorem wX0_worst_7 (ht : oT h a = 4) : E_ (d + 1) mX0_worst 7 ls [.ref a] h = (C_ d mJ2_size [.ref a] h).bind fun r => E_ (d + 1) mX0_worst 10 ls (xpu r.1 []) r.2 := e_vir dX0_worst_7 rfl rfl rfl rfl rfl rfl (Nat.le_of_ble_eq_true rfl) (Nat.le_of_ble_eq_true rfl) ht
theorem wX0_worst_10 : E_ d mX0_worst 10 [s0, s1, s2, s3, s4] (.int x :: st) h = E_ d mX0_worst 11 [s0, s1, xk s2, .val (.int x), s4] st h := e_go dX0_worst_10 rfl rfl
theorem wX0_worst_11 : E_ d mX0_worst 11 [s0, .val (.int x), s2, s3, s4] st h = E_ d mX0_worst 12 [s0, .val (.int x), s2, s3, s4] (.int x :: st) h := e_go dX0_worst_11 rfl rfl
theorem wX0_worst_12 : E_ d mX0_worst 12 ls (.int x :: st) h = E_ d mX0_worst 13 ls (.long x.toInt64 :: st) h := e_go dX0_worst_12 rfl rfl
theorem wX0_worst_13 : E_ d mX0_worst 13 ls st h = E_ d mX0_worst 14 ls (.long 0 :: st) h := e_go dX0_worst_13 rfl rfl
theorem wX0_worst_14 : E_ d mX0_worst 14 [s0, s1, s2, .val (.int x), s4] st h = E_ d mX0_worst 15 [s0, s1, s2, .val (.int x), s4] (.int x :: st) h := e_go dX0_worst_14 rfl rfl
theorem wX0_worst_15 : E_ d mX0_worst 15 ls (.int x :: st) h = E_ d mX0_worst 16 ls (.long x.toInt64 :: st) h := e_go dX0_worst_15 rfl rfl
theorem wX0_worst_16 : E_ (d + 1) mX0_worst 16 ls [.long u3, .long u2, .long u1] h = (C_ d mX0_in [.long u1, .long u2, .long u3] h).bind fun r => E_ (d + 1) mX0_worst 19 ls (xpu r.1 []) r.2 := e_call dX0_worst_16 rfl rfl
theorem wX0_worst_19 : E_ d mX0_worst 19 ls (.int x :: st) h = if x = 0 then E_ d mX0_worst 46 ls st h else E_ d mX0_worst 22 ls st h := e_zeq dX0_worst_19 rfl rfl
theorem wX0_worst_22 : E_ d mX0_worst 22 [s0, s1, .val (.int x), s3, s4] st h = E_ d mX0_worst 23 [s0, s1, .val (.int x), s3, s4] (.int x :: st) h := e_go dX0_worst_22 rfl rfl
theorem wX0_worst_23 : E_ d mX0_worst 23 ls (.int x :: st) h = E_ d mX0_worst 24 ls (.long x.toInt64 :: st) h := e_go dX0_worst_23 rfl rfl
theorem wX0_worst_24 : E_ d mX0_worst 24 ls st h = E_ d mX0_worst 25 ls (.long 0 :: st) h := e_go dX0_worst_24 rfl rfl
theorem wX0_worst_25 : E_ d mX0_worst 25 ls st h = E_ d mX0_worst 28 ls (.long (3) :: st) h := e_go dX0_worst_25 rfl rfl
theorem wX0_worst_28 : E_ (d + 1) mX0_worst 28 ls [.long u3, .long u2, .long u1] h = (C_ d mX0_in [.long u1, .long u2, .long u3] h).bind fun r => E_ (d + 1) mX0_worst 31 ls (xpu r.1 []) r.2 := e_call dX0_worst_28 rfl rfl
theorem wX0_worst_31 : E_ d mX0_worst 31 ls (.int x :: st) h = if x = 0 then E_ d mX0_worst 46 ls st h else E_ d mX0_worst 34 ls st h := e_zeq dX0_worst_31 rfl rfl
theorem wX0_worst_34 : E_ d mX0_worst 34 [s0, s1, .val (.int x), s3, s4] st h = E_ d mX0_worst 35 [s0, s1, .val (.int x), s3, s4] (.int x :: st) h := e_go dX0_worst_34 rfl rfl
theorem wX0_worst_35 : E_ d mX0_worst 35 ls st h = E_ d mX0_worst 36 ls (.int (nI 1) :: st) h := e_iconst dX0_worst_35 kiconst_1 rfl
theorem wX0_worst_36 : E_ d mX0_worst 36 ls (.int y :: .int x :: st) h = if y < x then E_ d mX0_worst 39 ls st h else E_ d mX0_worst 54 ls st h := e_ile dX0_worst_36 rfl rfl
theorem wX0_worst_39 : E_ d mX0_worst 39 ls st h = E_ d mX0_worst 40 ls (.int (nI 2) :: st) h := e_iconst dX0_worst_39 kiconst_2 rfl
theorem wX0_worst_40 : E_ d mX0_worst 40 [s0, .val (.int x), s2, s3, s4] st h = E_ d mX0_worst 41 [s0, .val (.int x), s2, s3, s4] (.int x :: st) h := e_go dX0_worst_40 rfl rfl
theorem wX0_worst_41 : E_ d mX0_worst 41 ls (.int y :: .int x :: st) h = E_ d mX0_worst 42 ls (.int (x * y) :: st) h := e_go dX0_worst_41 rfl rfl
theorem wX0_worst_42 : E_ d mX0_worst 42 [s0, s1, s2, .val (.int x), s4] st h = E_ d mX0_worst 43 [s0, s1, s2, .val (.int x), s4] (.int x :: st) h := e_go dX0_worst_42 rfl rfl
theorem wX0_worst_43 : E_ d mX0_worst 43 ls (.int y :: .int x :: st) h = if y < x then E_ d mX0_worst 46 ls st h else E_ d mX0_worst 54 ls st h := e_ile dX0_worst_43 rfl rfl
theorem wX0_worst_46 : E_ d mX0_worst 46 [.val (.ref a), s1, s2, s3, s4] st h = E_ d mX0_worst 47 [.val (.ref a), s1, s2, s3, s4] (.ref a :: st) h := e_go dX0_worst_46 rfl rfl
theorem wX0_worst_47 : E_ d mX0_worst 47 ls st h = E_ d mX0_worst 50 ls (.int ((-1000000)) :: st) h := e_go dX0_worst_47 rfl rfl
theorem wX0_worst_50 (ht : oT h a = 1) : E_ (d + 1) mX0_worst 50 ls [.int x1, .ref a] h = (C_ d mX0_no [.ref a, .int x1] h).bind fun r => E_ (d + 1) mX0_worst 53 ls (xpu r.1 []) r.2 := e_vir dX0_worst_50 rfl rfl rfl rfl rfl rfl (Nat.le_of_ble_eq_true rfl) (Nat.le_of_ble_eq_true rfl) ht
theorem wX0_worst_53 : E_ d mX0_worst 53 ls [.int x] h = some (some (.int x), h) := e_rt dX0_worst_53 rfl rfl
theorem wX0_worst_54 : E_ d mX0_worst 54 [.val (.ref a), s1, s2, s3, s4] st h = E_ d mX0_worst 55 [.val (.ref a), s1, s2, s3, s4] (.ref a :: st) h := e_go dX0_worst_54 rfl rfl
theorem wX0_worst_55 : E_ d mX0_worst 55 [s0, .val (.int x), s2, s3, s4] st h = E_ d mX0_worst 56 [s0, .val (.int x), s2, s3, s4] (.int x :: st) h := e_go dX0_worst_55 rfl rfl
theorem wX0_worst_56 (ht : oT h a = 1) : E_ (d + 1) mX0_worst 56 ls [.int x1, .ref a] h = (C_ d mX0_worstOf [.ref a, .int x1] h).bind fun r => E_ (d + 1) mX0_worst 59 ls (xpu r.1 []) r.2 := e_vir dX0_worst_56 rfl rfl rfl rfl rfl rfl (Nat.le_of_ble_eq_true rfl) (Nat.le_of_ble_eq_true rfl) ht
theorem wX0_worst_59 : E_ d mX0_worst 59 [s0, s1, s2, s3, s4] (.int x :: st) h = E_ d mX0_worst 61 [s0, s1, s2, xk s3, .val (.int x)] st h := e_go dX0_worst_59 rfl rfl
theorem wX0_worst_61 : E_ d mX0_worst 61 [s0, s1, .val (.int x), s3, s4] st h = E_ d mX0_worst 62 [s0, s1, .val (.int x), s3, s4] (.int x :: st) h := e_go dX0_worst_61 rfl rfl
theorem wX0_worst_62 : E_ d mX0_worst 62 ls (.int x :: st) h = if x = 0 then E_ d mX0_worst 65 ls st h else E_ d mX0_worst 70 ls st h := e_zne dX0_worst_62 rfl rfl
theorem wX0_worst_65 : E_ d mX0_worst 65 [s0, s1, s2, s3, .val (.int x)] st h = E_ d mX0_worst 67 [s0, s1, s2, s3, .val (.int x)] (.int x :: st) h := e_go dX0_worst_65 rfl rfl
theorem wX0_worst_67 : E_ d mX0_worst 67 ls st h = E_ d mX0_worst 108 ls st h := e_gt dX0_worst_67 rfl
theorem wX0_worst_70 : E_ d mX0_worst 70 [s0, s1, .val (.int x), s3, s4] st h = E_ d mX0_worst 71 [s0, s1, .val (.int x), s3, s4] (.int x :: st) h := e_go dX0_worst_70 rfl rfl
theorem wX0_worst_71 : E_ d mX0_worst 71 ls st h = E_ d mX0_worst 72 ls (.int (nI 1) :: st) h := e_iconst dX0_worst_71 kiconst_1 rfl
theorem wX0_worst_72 : E_ d mX0_worst 72 ls (.int y :: .int x :: st) h = if x = y then E_ d mX0_worst 75 ls st h else E_ d mX0_worst 84 ls st h := e_ine dX0_worst_72 rfl rfl
theorem wX0_worst_75 : E_ d mX0_worst 75 [.val (.ref a), s1, s2, s3, s4] st h = E_ d mX0_worst 76 [.val (.ref a), s1, s2, s3, s4] (.ref a :: st) h := e_go dX0_worst_75 rfl rfl
theorem wX0_worst_76 : E_ d mX0_worst 76 [s0, s1, s2, s3, .val (.int x)] st h = E_ d mX0_worst 78 [s0, s1, s2, s3, .val (.int x)] (.int x :: st) h := e_go dX0_worst_76 rfl rfl
theorem wX0_worst_78 (ht : oT h a = 1) : E_ (d + 1) mX0_worst 78 ls [.int x1, .ref a] h = (C_ d mX0_fallOf [.ref a, .int x1] h).bind fun r => E_ (d + 1) mX0_worst 81 ls (xpu r.1 []) r.2 := e_vir dX0_worst_78 rfl rfl rfl rfl rfl rfl (Nat.le_of_ble_eq_true rfl) (Nat.le_of_ble_eq_true rfl) ht
theorem wX0_worst_81 : E_ d mX0_worst 81 ls st h = E_ d mX0_worst 108 ls st h := e_gt dX0_worst_81 rfl
theorem wX0_worst_84 : E_ d mX0_worst 84 [s0, s1, .val (.int x), s3, s4] st h = E_ d mX0_worst 85 [s0, s1, .val (.int x), s3, s4] (.int x :: st) h := e_go dX0_worst_84 rfl rfl
theorem wX0_worst_85 : E_ d mX0_worst 85 ls st h = E_ d mX0_worst 86 ls (.int (nI 2) :: st) h := e_iconst dX0_worst_85 kiconst_2 rfl
theorem wX0_worst_86 : E_ d mX0_worst 86 ls (.int y :: .int x :: st) h = if x = y then E_ d mX0_worst 89 ls st h else E_ d mX0_worst 102 ls st h := e_ine dX0_worst_86 rfl rfl
theorem wX0_worst_89 : E_ d mX0_worst 89 [.val (.ref a), s1, s2, s3, s4] st h = E_ d mX0_worst 90 [.val (.ref a), s1, s2, s3, s4] (.ref a :: st) h := e_go dX0_worst_89 rfl rfl
theorem wX0_worst_90 : E_ d mX0_worst 90 [.val (.ref a), s1, s2, s3, s4] st h = E_ d mX0_worst 91 [.val (.ref a), s1, s2, s3, s4] (.ref a :: st) h := e_go dX0_worst_90 rfl rfl
theorem wX0_worst_91 : E_ d mX0_worst 91 [s0, s1, s2, s3, .val (.int x)] st h = E_ d mX0_worst 93 [s0, s1, s2, s3, .val (.int x)] (.int x :: st) h := e_go dX0_worst_91 rfl rfl
theorem wX0_worst_93 (ht : oT h a = 1) : E_ (d + 1) mX0_worst 93 ls [.int x1, .ref a, .ref r1] h = (C_ d mX0_matches [.ref a, .int x1] h).bind fun r => E_ (d + 1) mX0_worst 96 ls (xpu r.1 [.ref r1]) r.2 := e_vir dX0_worst_93 rfl rfl rfl rfl rfl rfl (Nat.le_of_ble_eq_true rfl) (Nat.le_of_ble_eq_true rfl) ht
theorem wX0_worst_96 (ht : oT h a = 1) : E_ (d + 1) mX0_worst 96 ls [.int x1, .ref a] h = (C_ d mX0_fallOf [.ref a, .int x1] h).bind fun r => E_ (d + 1) mX0_worst 99 ls (xpu r.1 []) r.2 := e_vir dX0_worst_96 rfl rfl rfl rfl rfl rfl (Nat.le_of_ble_eq_true rfl) (Nat.le_of_ble_eq_true rfl) ht
theorem wX0_worst_99 : E_ d mX0_worst 99 ls st h = E_ d mX0_worst 108 ls st h := e_gt dX0_worst_99 rfl
theorem wX0_worst_102 : E_ d mX0_worst 102 [.val (.ref a), s1, s2, s3, s4] st h = E_ d mX0_worst 103 [.val (.ref a), s1, s2, s3, s4] (.ref a :: st) h := e_go dX0_worst_102 rfl rfl
theorem wX0_worst_103 : E_ d mX0_worst 103 [s0, s1, s2, s3, .val (.int x)] st h = E_ d mX0_worst 105 [s0, s1, s2, s3, .val (.int x)] (.int x :: st) h := e_go dX0_worst_103 rfl rfl
theorem wX0_worst_105 (ht : oT h a = 1) : E_ (d + 1) mX0_worst 105 ls [.int x1, .ref a] h = (C_ d mX0_matches [.ref a, .int x1] h).bind fun r => E_ (d + 1) mX0_worst 108 ls (xpu r.1 []) r.2 := e_vir dX0_worst_105 rfl rfl rfl rfl rfl rfl (Nat.le_of_ble_eq_true rfl) (Nat.le_of_ble_eq_true rfl) ht
theorem wX0_worst_108 : E_ d mX0_worst 108 ls [.int x] h = some (some (.int x), h) := e_rt dX0_worst_108 rfl rfl
/-! FootOut.worstOf -/
theorem wX0_worstOf_0 : E_ d mX0_worstOf 0 ls st h = E_ d mX0_worstOf 1 ls (.int (nI 0) :: st) h := e_iconst dX0_worstOf_0 kiconst_0 rfl
theorem wX0_worstOf_1 : E_ d mX0_worstOf 1 [s0, s1, s2, s3, s4, s5] (.int x :: st) h = E_ d mX0_worstOf 2 [s0, xk s1, .val (.int x), s3, s4, s5] st h := e_go dX0_worstOf_1 rfl rfl
theorem wX0_worstOf_2 : E_ d mX0_worstOf 2 ls st h = E_ d mX0_worstOf 3 ls (.int (nI 0) :: st) h := e_iconst dX0_worstOf_2 kiconst_0 rfl
theorem wX0_worstOf_3 : E_ d mX0_worstOf 3 [s0, s1, s2, s3, s4, s5] (.int x :: st) h = E_ d mX0_worstOf 4 [s0, s1, xk s2, .val (.int x), s4, s5] st h := e_go dX0_worstOf_3 rfl rfl
theorem wX0_worstOf_4 : E_ d mX0_worstOf 4 [s0, s1, s2, .val (.int x), s4, s5] st h = E_ d mX0_worstOf 5 [s0, s1, s2, .val (.int x), s4, s5] (.int x :: st) h := e_go dX0_worstOf_4 rfl rfl
theorem wX0_worstOf_5 : E_ d mX0_worstOf 5 [s0, .val (.int x), s2, s3, s4, s5] st h = E_ d mX0_worstOf 6 [s0, .val (.int x), s2, s3, s4, s5] (.int x :: st) h := e_go dX0_worstOf_5 rfl rfl
theorem wX0_worstOf_6 : E_ d mX0_worstOf 6 ls (.int y :: .int x :: st) h = if x < y then E_ d mX0_worstOf 9 ls st h else E_ d mX0_worstOf 107 ls st h := e_ige dX0_worstOf_6 rfl rfl
theorem wX0_worstOf_9 : E_ d mX0_worstOf 9 ls st h = E_ d mX0_worstOf 10 ls (.int ((-1)) :: st) h := e_iconst dX0_worstOf_9 kiconst_m1 rfl
theorem wX0_worstOf_10 : E_ d mX0_worstOf 10 [s0, s1, s2, s3, s4, s5] (.int x :: st) h = E_ d mX0_worstOf 12 [s0, s1, s2, xk s3, .val (.int x), s5] st h := e_go dX0_worstOf_10 rfl rfl
theorem wX0_worstOf_12 : E_ d mX0_worstOf 12 ls st h = E_ d mX0_worstOf 13 ls (.int (nI 0) :: st) h := e_iconst dX0_worstOf_12 kiconst_0 rfl
theorem wX0_worstOf_13 : E_ d mX0_worstOf 13 [s0, s1, s2, s3, s4, s5] (.int x :: st) h = E_ d mX0_worstOf 15 [s0, s1, s2, s3, xk s4, .val (.int x)] st h := e_go dX0_worstOf_13 rfl rfl
theorem wX0_worstOf_15 : E_ d mX0_worstOf 15 [s0, s1, s2, s3, s4, .val (.int x)] st h = E_ d mX0_worstOf 17 [s0, s1, s2, s3, s4, .val (.int x)] (.int x :: st) h := e_go dX0_worstOf_15 rfl rfl
theorem wX0_worstOf_17 : E_ d mX0_worstOf 17 [.val (.ref a), s1, s2, s3, s4, s5] st h = E_ d mX0_worstOf 18 [.val (.ref a), s1, s2, s3, s4, s5] (.ref a :: st) h := e_go dX0_worstOf_17 rfl rfl
theorem wX0_worstOf_18 (ht : oT h a = 1) : E_ d mX0_worstOf 18 ls (.ref a :: st) h = E_ d mX0_worstOf 21 ls (va_rf (oR h a 0) :: st) h := e_getR dX0_worstOf_18 rfl rfl ht
theorem wX0_worstOf_21 (ht : oT h a = 2) : E_ d mX0_worstOf 21 ls (.ref a :: st) h = E_ d mX0_worstOf 24 ls (va_rf (oR h a 2) :: st) h := e_getR0 dX0_worstOf_21 rfl rfl ht
theorem wX0_worstOf_24 (ht : oT h a = 4) : E_ (d + 1) mX0_worstOf 24 ls [.ref a, .int x1] h = (C_ d mJ2_size [.ref a] h).bind fun r => E_ (d + 1) mX0_worstOf 27 ls (xpu r.1 [.int x1]) r.2 := e_vir dX0_worstOf_24 rfl rfl rfl rfl rfl rfl (Nat.le_of_ble_eq_true rfl) (Nat.le_of_ble_eq_true rfl) ht
theorem wX0_worstOf_27 : E_ d mX0_worstOf 27 ls (.int y :: .int x :: st) h = if x < y then E_ d mX0_worstOf 30 ls st h else E_ d mX0_worstOf 94 ls st h := e_ige dX0_worstOf_27 rfl rfl
theorem wX0_worstOf_30 : E_ d mX0_worstOf 30 [s0, s1, .val (.int x), s3, s4, s5] st h = E_ d mX0_worstOf 31 [s0, s1, .val (.int x), s3, s4, s5] (.int x :: st) h := e_go dX0_worstOf_30 rfl rfl
theorem wX0_worstOf_31 : E_ d mX0_worstOf 31 [s0, s1, s2, s3, s4, .val (.int x)] st h = E_ d mX0_worstOf 33 [s0, s1, s2, s3, s4, .val (.int x)] (.int x :: st) h := e_go dX0_worstOf_31 rfl rfl
theorem wX0_worstOf_33 : E_ (d + 1) mX0_worstOf 33 ls [.int x2, .int x1] h = (C_ d mX0_has [.int x1, .int x2] h).bind fun r => E_ (d + 1) mX0_worstOf 36 ls (xpu r.1 []) r.2 := e_call dX0_worstOf_33 rfl rfl
theorem wX0_worstOf_36 : E_ d mX0_worstOf 36 ls (.int x :: st) h = if x = 0 then E_ d mX0_worstOf 39 ls st h else E_ d mX0_worstOf 88 ls st h := e_zne dX0_worstOf_36 rfl rfl
theorem wX0_worstOf_39 : E_ d mX0_worstOf 39 [s0, s1, s2, s3, .val (.int x), s5] st h = E_ d mX0_worstOf 41 [s0, s1, s2, s3, .val (.int x), s5] (.int x :: st) h := e_go dX0_worstOf_39 rfl rfl
theorem wX0_worstOf_41 : E_ d mX0_worstOf 41 ls st h = E_ d mX0_worstOf 42 ls (.int ((-1)) :: st) h := e_iconst dX0_worstOf_41 kiconst_m1 rfl
theorem wX0_worstOf_42 : E_ d mX0_worstOf 42 ls (.int y :: .int x :: st) h = if x = y then E_ d mX0_worstOf 84 ls st h else E_ d mX0_worstOf 45 ls st h := e_ieq dX0_worstOf_42 rfl rfl
theorem wX0_worstOf_45 : E_ d mX0_worstOf 45 [.val (.ref a), s1, s2, s3, s4, s5] st h = E_ d mX0_worstOf 46 [.val (.ref a), s1, s2, s3, s4, s5] (.ref a :: st) h := e_go dX0_worstOf_45 rfl rfl
theorem wX0_worstOf_46 (ht : oT h a = 1) : E_ d mX0_worstOf 46 ls (.ref a :: st) h = E_ d mX0_worstOf 49 ls (va_rf (oR h a 0) :: st) h := e_getR dX0_worstOf_46 rfl rfl ht
theorem wX0_worstOf_49 (ht : oT h a = 2) : E_ d mX0_worstOf 49 ls (.ref a :: st) h = E_ d mX0_worstOf 52 ls (va_rf (oR h a 2) :: st) h := e_getR0 dX0_worstOf_49 rfl rfl ht
theorem wX0_worstOf_52 : E_ d mX0_worstOf 52 [s0, s1, s2, s3, s4, .val (.int x)] st h = E_ d mX0_worstOf 54 [s0, s1, s2, s3, s4, .val (.int x)] (.int x :: st) h := e_go dX0_worstOf_52 rfl rfl
theorem wX0_worstOf_54 (ht : oT h a = 4) : E_ (d + 1) mX0_worstOf 54 ls [.int x1, .ref a] h = (C_ d mJ2_get [.ref a, .int x1] h).bind fun r => E_ (d + 1) mX0_worstOf 57 ls (xpu r.1 []) r.2 := e_vir dX0_worstOf_54 rfl rfl rfl rfl rfl rfl (Nat.le_of_ble_eq_true rfl) (Nat.le_of_ble_eq_true rfl) ht
theorem wX0_worstOf_57 (ht : oT h a = 19) : E_ d mX0_worstOf 57 ls (.ref a :: st) h = E_ d mX0_worstOf 60 ls (.ref a :: st) h := e_cast dX0_worstOf_57 rfl rfl ht
theorem wX0_worstOf_57n : E_ d mX0_worstOf 57 ls (.null :: st) h = E_ d mX0_worstOf 60 ls (.null :: st) h := e_go dX0_worstOf_57 rfl rfl
theorem wX0_worstOf_60 (ht : oT h a = 19) : E_ (d + 1) mX0_worstOf 60 ls [.ref a] h = (C_ d mX19_hurt [.ref a] h).bind fun r => E_ (d + 1) mX0_worstOf 63 ls (xpu r.1 []) r.2 := e_vir dX0_worstOf_60 rfl rfl rfl rfl rfl rfl (Nat.le_of_ble_eq_true rfl) (Nat.le_of_ble_eq_true rfl) ht
theorem wX0_worstOf_63 : E_ d mX0_worstOf 63 [.val (.ref a), s1, s2, s3, s4, s5] st h = E_ d mX0_worstOf 64 [.val (.ref a), s1, s2, s3, s4, s5] (.ref a :: st) h := e_go dX0_worstOf_63 rfl rfl
theorem wX0_worstOf_64 (ht : oT h a = 1) : E_ d mX0_worstOf 64 ls (.ref a :: st) h = E_ d mX0_worstOf 67 ls (va_rf (oR h a 0) :: st) h := e_getR dX0_worstOf_64 rfl rfl ht
theorem wX0_worstOf_67 (ht : oT h a = 2) : E_ d mX0_worstOf 67 ls (.ref a :: st) h = E_ d mX0_worstOf 70 ls (va_rf (oR h a 2) :: st) h := e_getR0 dX0_worstOf_67 rfl rfl ht
theorem wX0_worstOf_70 : E_ d mX0_worstOf 70 [s0, s1, s2, s3, .val (.int x), s5] st h = E_ d mX0_worstOf 72 [s0, s1, s2, s3, .val (.int x), s5] (.int x :: st) h := e_go dX0_worstOf_70 rfl rfl
theorem wX0_worstOf_72 (ht : oT h a = 4) : E_ (d + 1) mX0_worstOf 72 ls [.int x1, .ref a, .int x2] h = (C_ d mJ2_get [.ref a, .int x1] h).bind fun r => E_ (d + 1) mX0_worstOf 75 ls (xpu r.1 [.int x2]) r.2 := e_vir dX0_worstOf_72 rfl rfl rfl rfl rfl rfl (Nat.le_of_ble_eq_true rfl) (Nat.le_of_ble_eq_true rfl) ht
theorem wX0_worstOf_75 (ht : oT h a = 19) : E_ d mX0_worstOf 75 ls (.ref a :: st) h = E_ d mX0_worstOf 78 ls (.ref a :: st) h := e_cast dX0_worstOf_75 rfl rfl ht
theorem wX0_worstOf_75n : E_ d mX0_worstOf 75 ls (.null :: st) h = E_ d mX0_worstOf 78 ls (.null :: st) h := e_go dX0_worstOf_75 rfl rfl
theorem wX0_worstOf_78 (ht : oT h a = 19) : E_ (d + 1) mX0_worstOf 78 ls [.ref a, .int x1] h = (C_ d mX19_hurt [.ref a] h).bind fun r => E_ (d + 1) mX0_worstOf 81 ls (xpu r.1 [.int x1]) r.2 := e_vir dX0_worstOf_78 rfl rfl rfl rfl rfl rfl (Nat.le_of_ble_eq_true rfl) (Nat.le_of_ble_eq_true rfl) ht
theorem wX0_worstOf_81 : E_ d mX0_worstOf 81 ls (.int y :: .int x :: st) h = if y < x then E_ d mX0_worstOf 84 ls st h else E_ d mX0_worstOf 88 ls st h := e_ile dX0_worstOf_81 rfl rfl
theorem wX0_worstOf_84 : E_ d mX0_worstOf 84 [s0, s1, s2, s3, s4, .val (.int x)] st h = E_ d mX0_worstOf 86 [s0, s1, s2, s3, s4, .val (.int x)] (.int x :: st) h := e_go dX0_worstOf_84 rfl rfl
theorem wX0_worstOf_86 : E_ d mX0_worstOf 86 [s0, s1, s2, s3, s4, s5] (.int x :: st) h = E_ d mX0_worstOf 88 [s0, s1, s2, xk s3, .val (.int x), s5] st h := e_go dX0_worstOf_86 rfl rfl
theorem wX0_worstOf_88 : E_ d mX0_worstOf 88 [s0, s1, s2, s3, s4, .val (.int x)] st h = E_ d mX0_worstOf 91 [s0, s1, s2, s3, xk s4, .val (.int (x + nI 1))] st h := by rw [← kiinc_1]; exact e_go dX0_worstOf_88 rfl rfl
theorem wX0_worstOf_91 : E_ d mX0_worstOf 91 ls st h = E_ d mX0_worstOf 15 ls st h := e_gt dX0_worstOf_91 rfl
theorem wX0_worstOf_94 : E_ d mX0_worstOf 94 [s0, s1, .val (.int x), s3, s4, s5] st h = E_ d mX0_worstOf 95 [s0, s1, .val (.int x), s3, s4, s5] (.int x :: st) h := e_go dX0_worstOf_94 rfl rfl
theorem wX0_worstOf_95 : E_ d mX0_worstOf 95 ls st h = E_ d mX0_worstOf 96 ls (.int (nI 1) :: st) h := e_iconst dX0_worstOf_95 kiconst_1 rfl
theorem wX0_worstOf_96 : E_ d mX0_worstOf 96 [s0, s1, s2, s3, .val (.int x), s5] st h = E_ d mX0_worstOf 98 [s0, s1, s2, s3, .val (.int x), s5] (.int x :: st) h := e_go dX0_worstOf_96 rfl rfl
theorem wX0_worstOf_98 : E_ d mX0_worstOf 98 ls (.int y :: .int x :: st) h = E_ d mX0_worstOf 99 ls (.int (x <<< (y &&& 31)) :: st) h := e_go dX0_worstOf_98 rfl rfl
theorem wX0_worstOf_99 : E_ d mX0_worstOf 99 ls (.int y :: .int x :: st) h = E_ d mX0_worstOf 100 ls (.int (x ||| y) :: st) h := e_go dX0_worstOf_99 rfl rfl
theorem wX0_worstOf_100 : E_ d mX0_worstOf 100 [s0, s1, s2, s3, s4, s5] (.int x :: st) h = E_ d mX0_worstOf 101 [s0, xk s1, .val (.int x), s3, s4, s5] st h := e_go dX0_worstOf_100 rfl rfl
theorem wX0_worstOf_101 : E_ d mX0_worstOf 101 [s0, s1, s2, .val (.int x), s4, s5] st h = E_ d mX0_worstOf 104 [s0, s1, xk s2, .val (.int (x + nI 1)), s4, s5] st h := by rw [← kiinc_1]; exact e_go dX0_worstOf_101 rfl rfl
theorem wX0_worstOf_104 : E_ d mX0_worstOf 104 ls st h = E_ d mX0_worstOf 4 ls st h := e_gt dX0_worstOf_104 rfl
theorem wX0_worstOf_107 : E_ d mX0_worstOf 107 [s0, s1, .val (.int x), s3, s4, s5] st h = E_ d mX0_worstOf 108 [s0, s1, .val (.int x), s3, s4, s5] (.int x :: st) h := e_go dX0_worstOf_107 rfl rfl
theorem wX0_worstOf_108 : E_ d mX0_worstOf 108 ls [.int x] h = some (some (.int x), h) := e_rt dX0_worstOf_108 rfl rfl
/-! FootOut.fallOf -/
theorem wX0_fallOf_0 : E_ d mX0_fallOf 0 ls st h = E_ d mX0_fallOf 1 ls (.int (nI 0) :: st) h := e_iconst dX0_fallOf_0 kiconst_0 rfl
theorem wX0_fallOf_1 : E_ d mX0_fallOf 1 [s0, s1, s2, s3] (.int x :: st) h = E_ d mX0_fallOf 2 [s0, xk s1, .val (.int x), s3] st h := e_go dX0_fallOf_1 rfl rfl
theorem wX0_fallOf_2 : E_ d mX0_fallOf 2 ls st h = E_ d mX0_fallOf 3 ls (.int (nI 0) :: st) h := e_iconst dX0_fallOf_2 kiconst_0 rfl
theorem wX0_fallOf_3 : E_ d mX0_fallOf 3 [s0, s1, s2, s3] (.int x :: st) h = E_ d mX0_fallOf 4 [s0, s1, xk s2, .val (.int x)] st h := e_go dX0_fallOf_3 rfl rfl
theorem wX0_fallOf_4 : E_ d mX0_fallOf 4 [s0, s1, s2, .val (.int x)] st h = E_ d mX0_fallOf 5 [s0, s1, s2, .val (.int x)] (.int x :: st) h := e_go dX0_fallOf_4 rfl rfl
theorem wX0_fallOf_5 : E_ d mX0_fallOf 5 [.val (.ref a), s1, s2, s3] st h = E_ d mX0_fallOf 6 [.val (.ref a), s1, s2, s3] (.ref a :: st) h := e_go dX0_fallOf_5 rfl rfl
theorem wX0_fallOf_6 (ht : oT h a = 1) : E_ d mX0_fallOf 6 ls (.ref a :: st) h = E_ d mX0_fallOf 9 ls (va_rf (oR h a 0) :: st) h := e_getR dX0_fallOf_6 rfl rfl ht
theorem wX0_fallOf_9 (ht : oT h a = 2) : E_ d mX0_fallOf 9 ls (.ref a :: st) h = E_ d mX0_fallOf 12 ls (va_rf (oR h a 2) :: st) h := e_getR0 dX0_fallOf_9 rfl rfl ht
theorem wX0_fallOf_12 (ht : oT h a = 4) : E_ (d + 1) mX0_fallOf 12 ls [.ref a, .int x1] h = (C_ d mJ2_size [.ref a] h).bind fun r => E_ (d + 1) mX0_fallOf 15 ls (xpu r.1 [.int x1]) r.2 := e_vir dX0_fallOf_12 rfl rfl rfl rfl rfl rfl (Nat.le_of_ble_eq_true rfl) (Nat.le_of_ble_eq_true rfl) ht
theorem wX0_fallOf_15 : E_ d mX0_fallOf 15 ls (.int y :: .int x :: st) h = if x < y then E_ d mX0_fallOf 18 ls st h else E_ d mX0_fallOf 56 ls st h := e_ige dX0_fallOf_15 rfl rfl
theorem wX0_fallOf_18 : E_ d mX0_fallOf 18 [s0, s1, .val (.int x), s3] st h = E_ d mX0_fallOf 19 [s0, s1, .val (.int x), s3] (.int x :: st) h := e_go dX0_fallOf_18 rfl rfl
theorem wX0_fallOf_19 : E_ d mX0_fallOf 19 [s0, .val (.int x), s2, s3] st h = E_ d mX0_fallOf 20 [s0, .val (.int x), s2, s3] (.int x :: st) h := e_go dX0_fallOf_19 rfl rfl
theorem wX0_fallOf_20 : E_ d mX0_fallOf 20 [s0, s1, s2, .val (.int x)] st h = E_ d mX0_fallOf 21 [s0, s1, s2, .val (.int x)] (.int x :: st) h := e_go dX0_fallOf_20 rfl rfl
theorem wX0_fallOf_21 : E_ (d + 1) mX0_fallOf 21 ls [.int x2, .int x1, .int x3] h = (C_ d mX0_has [.int x1, .int x2] h).bind fun r => E_ (d + 1) mX0_fallOf 24 ls (xpu r.1 [.int x3]) r.2 := e_call dX0_fallOf_21 rfl rfl
theorem wX0_fallOf_24 : E_ d mX0_fallOf 24 ls (.int x :: st) h = if x = 0 then E_ d mX0_fallOf 47 ls st h else E_ d mX0_fallOf 27 ls st h := e_zeq dX0_fallOf_24 rfl rfl
theorem wX0_fallOf_27 : E_ d mX0_fallOf 27 [.val (.ref a), s1, s2, s3] st h = E_ d mX0_fallOf 28 [.val (.ref a), s1, s2, s3] (.ref a :: st) h := e_go dX0_fallOf_27 rfl rfl
theorem wX0_fallOf_28 (ht : oT h a = 1) : E_ d mX0_fallOf 28 ls (.ref a :: st) h = E_ d mX0_fallOf 31 ls (va_rf (oR h a 0) :: st) h := e_getR dX0_fallOf_28 rfl rfl ht
theorem wX0_fallOf_31 (ht : oT h a = 2) : E_ d mX0_fallOf 31 ls (.ref a :: st) h = E_ d mX0_fallOf 34 ls (va_rf (oR h a 2) :: st) h := e_getR0 dX0_fallOf_31 rfl rfl ht
theorem wX0_fallOf_34 : E_ d mX0_fallOf 34 [s0, s1, s2, .val (.int x)] st h = E_ d mX0_fallOf 35 [s0, s1, s2, .val (.int x)] (.int x :: st) h := e_go dX0_fallOf_34 rfl rfl
theorem wX0_fallOf_35 (ht : oT h a = 4) : E_ (d + 1) mX0_fallOf 35 ls [.int x1, .ref a, .int x2] h = (C_ d mJ2_get [.ref a, .int x1] h).bind fun r => E_ (d + 1) mX0_fallOf 38 ls (xpu r.1 [.int x2]) r.2 := e_vir dX0_fallOf_35 rfl rfl rfl rfl rfl rfl (Nat.le_of_ble_eq_true rfl) (Nat.le_of_ble_eq_true rfl) ht
theorem wX0_fallOf_38 (ht : oT h a = 19) : E_ d mX0_fallOf 38 ls (.ref a :: st) h = E_ d mX0_fallOf 41 ls (.ref a :: st) h := e_cast dX0_fallOf_38 rfl rfl ht
theorem wX0_fallOf_38n : E_ d mX0_fallOf 38 ls (.null :: st) h = E_ d mX0_fallOf 41 ls (.null :: st) h := e_go dX0_fallOf_38 rfl rfl
theorem wX0_fallOf_41 (ht : oT h a = 19) : E_ (d + 1) mX0_fallOf 41 ls [.ref a, .int x1] h = (C_ d mX19_fall [.ref a] h).bind fun r => E_ (d + 1) mX0_fallOf 44 ls (xpu r.1 [.int x1]) r.2 := e_vir dX0_fallOf_41 rfl rfl rfl rfl rfl rfl (Nat.le_of_ble_eq_true rfl) (Nat.le_of_ble_eq_true rfl) ht
theorem wX0_fallOf_44 : E_ d mX0_fallOf 44 ls st h = E_ d mX0_fallOf 48 ls st h := e_gt dX0_fallOf_44 rfl
theorem wX0_fallOf_47 : E_ d mX0_fallOf 47 ls st h = E_ d mX0_fallOf 48 ls (.int (nI 0) :: st) h := e_iconst dX0_fallOf_47 kiconst_0 rfl
theorem wX0_fallOf_48 : E_ d mX0_fallOf 48 ls (.int y :: .int x :: st) h = E_ d mX0_fallOf 49 ls (.int (x + y) :: st) h := e_go dX0_fallOf_48 rfl rfl
theorem wX0_fallOf_49 : E_ d mX0_fallOf 49 [s0, s1, s2, s3] (.int x :: st) h = E_ d mX0_fallOf 50 [s0, xk s1, .val (.int x), s3] st h := e_go dX0_fallOf_49 rfl rfl
theorem wX0_fallOf_50 : E_ d mX0_fallOf 50 [s0, s1, s2, .val (.int x)] st h = E_ d mX0_fallOf 53 [s0, s1, xk s2, .val (.int (x + nI 1))] st h := by rw [← kiinc_1]; exact e_go dX0_fallOf_50 rfl rfl
theorem wX0_fallOf_53 : E_ d mX0_fallOf 53 ls st h = E_ d mX0_fallOf 4 ls st h := e_gt dX0_fallOf_53 rfl
theorem wX0_fallOf_56 : E_ d mX0_fallOf 56 [s0, s1, .val (.int x), s3] st h = E_ d mX0_fallOf 57 [s0, s1, .val (.int x), s3] (.int x :: st) h := e_go dX0_fallOf_56 rfl rfl
theorem wX0_fallOf_57 : E_ d mX0_fallOf 57 ls [.int x] h = some (some (.int x), h) := e_rt dX0_fallOf_57 rfl rfl
/-! FootOut.matches -/
theorem wX0_matches_0 : E_ d mX0_matches 0 ls st h = E_ d mX0_matches 1 ls (.int (nI 0) :: st) h := e_iconst dX0_matches_0 kiconst_0 rfl
theorem wX0_matches_1 : E_ d mX0_matches 1 [s0, s1, s2, s3, s4, s5] (.int x :: st) h = E_ d mX0_matches 2 [s0, xk s1, .val (.int x), s3, s4, s5] st h := e_go dX0_matches_1 rfl rfl
theorem wX0_matches_2 : E_ d mX0_matches 2 ls st h = E_ d mX0_matches 3 ls (.int (nI 0) :: st) h := e_iconst dX0_matches_2 kiconst_0 rfl
theorem wX0_matches_3 : E_ d mX0_matches 3 [s0, s1, s2, s3, s4, s5] (.int x :: st) h = E_ d mX0_matches 4 [s0, s1, xk s2, .val (.int x), s4, s5] st h := e_go dX0_matches_3 rfl rfl
theorem wX0_matches_4 : E_ d mX0_matches 4 [s0, s1, s2, .val (.int x), s4, s5] st h = E_ d mX0_matches 5 [s0, s1, s2, .val (.int x), s4, s5] (.int x :: st) h := e_go dX0_matches_4 rfl rfl
theorem wX0_matches_5 : E_ d mX0_matches 5 [.val (.ref a), s1, s2, s3, s4, s5] st h = E_ d mX0_matches 6 [.val (.ref a), s1, s2, s3, s4, s5] (.ref a :: st) h := e_go dX0_matches_5 rfl rfl
theorem wX0_matches_6 (ht : oT h a = 1) : E_ d mX0_matches 6 ls (.ref a :: st) h = E_ d mX0_matches 9 ls (va_rf (oR h a 0) :: st) h := e_getR dX0_matches_6 rfl rfl ht
theorem wX0_matches_9 (ht : oT h a = 2) : E_ d mX0_matches 9 ls (.ref a :: st) h = E_ d mX0_matches 12 ls (va_rf (oR h a 2) :: st) h := e_getR0 dX0_matches_9 rfl rfl ht
theorem wX0_matches_12 (ht : oT h a = 4) : E_ (d + 1) mX0_matches 12 ls [.ref a, .int x1] h = (C_ d mJ2_size [.ref a] h).bind fun r => E_ (d + 1) mX0_matches 15 ls (xpu r.1 [.int x1]) r.2 := e_vir dX0_matches_12 rfl rfl rfl rfl rfl rfl (Nat.le_of_ble_eq_true rfl) (Nat.le_of_ble_eq_true rfl) ht
theorem wX0_matches_15 : E_ d mX0_matches 15 ls (.int y :: .int x :: st) h = if x < y then E_ d mX0_matches 18 ls st h else E_ d mX0_matches 107 ls st h := e_ige dX0_matches_15 rfl rfl
theorem wX0_matches_18 : E_ d mX0_matches 18 [s0, .val (.int x), s2, s3, s4, s5] st h = E_ d mX0_matches 19 [s0, .val (.int x), s2, s3, s4, s5] (.int x :: st) h := e_go dX0_matches_18 rfl rfl
theorem wX0_matches_19 : E_ d mX0_matches 19 [s0, s1, s2, .val (.int x), s4, s5] st h = E_ d mX0_matches 20 [s0, s1, s2, .val (.int x), s4, s5] (.int x :: st) h := e_go dX0_matches_19 rfl rfl
theorem wX0_matches_20 : E_ (d + 1) mX0_matches 20 ls [.int x2, .int x1] h = (C_ d mX0_has [.int x1, .int x2] h).bind fun r => E_ (d + 1) mX0_matches 23 ls (xpu r.1 []) r.2 := e_call dX0_matches_20 rfl rfl
theorem wX0_matches_23 : E_ d mX0_matches 23 ls (.int x :: st) h = if x = 0 then E_ d mX0_matches 26 ls st h else E_ d mX0_matches 29 ls st h := e_zne dX0_matches_23 rfl rfl
theorem wX0_matches_26 : E_ d mX0_matches 26 ls st h = E_ d mX0_matches 101 ls st h := e_gt dX0_matches_26 rfl
theorem wX0_matches_29 : E_ d mX0_matches 29 ls st h = E_ d mX0_matches 30 ls (.int ((-1)) :: st) h := e_iconst dX0_matches_29 kiconst_m1 rfl
theorem wX0_matches_30 : E_ d mX0_matches 30 [s0, s1, s2, s3, s4, s5] (.int x :: st) h = E_ d mX0_matches 32 [s0, s1, s2, xk s3, .val (.int x), s5] st h := e_go dX0_matches_30 rfl rfl
theorem wX0_matches_32 : E_ d mX0_matches 32 ls st h = E_ d mX0_matches 33 ls (.int (nI 0) :: st) h := e_iconst dX0_matches_32 kiconst_0 rfl
theorem wX0_matches_33 : E_ d mX0_matches 33 [s0, s1, s2, s3, s4, s5] (.int x :: st) h = E_ d mX0_matches 35 [s0, s1, s2, s3, xk s4, .val (.int x)] st h := e_go dX0_matches_33 rfl rfl
theorem wX0_matches_35 : E_ d mX0_matches 35 [s0, s1, s2, s3, s4, .val (.int x)] st h = E_ d mX0_matches 37 [s0, s1, s2, s3, s4, .val (.int x)] (.int x :: st) h := e_go dX0_matches_35 rfl rfl
theorem wX0_matches_37 : E_ d mX0_matches 37 [.val (.ref a), s1, s2, s3, s4, s5] st h = E_ d mX0_matches 38 [.val (.ref a), s1, s2, s3, s4, s5] (.ref a :: st) h := e_go dX0_matches_37 rfl rfl
theorem wX0_matches_38 (ht : oT h a = 1) : E_ d mX0_matches 38 ls (.ref a :: st) h = E_ d mX0_matches 41 ls (va_rf (oR h a 0) :: st) h := e_getR dX0_matches_38 rfl rfl ht
theorem wX0_matches_41 (ht : oT h a = 2) : E_ d mX0_matches 41 ls (.ref a :: st) h = E_ d mX0_matches 44 ls (va_rf (oR h a 2) :: st) h := e_getR0 dX0_matches_41 rfl rfl ht
theorem wX0_matches_44 (ht : oT h a = 4) : E_ (d + 1) mX0_matches 44 ls [.ref a, .int x1] h = (C_ d mJ2_size [.ref a] h).bind fun r => E_ (d + 1) mX0_matches 47 ls (xpu r.1 [.int x1]) r.2 := e_vir dX0_matches_44 rfl rfl rfl rfl rfl rfl (Nat.le_of_ble_eq_true rfl) (Nat.le_of_ble_eq_true rfl) ht
theorem wX0_matches_47 : E_ d mX0_matches 47 ls (.int y :: .int x :: st) h = if x < y then E_ d mX0_matches 50 ls st h else E_ d mX0_matches 94 ls st h := e_ige dX0_matches_47 rfl rfl
theorem wX0_matches_50 : E_ d mX0_matches 50 [s0, .val (.int x), s2, s3, s4, s5] st h = E_ d mX0_matches 51 [s0, .val (.int x), s2, s3, s4, s5] (.int x :: st) h := e_go dX0_matches_50 rfl rfl
theorem wX0_matches_51 : E_ d mX0_matches 51 [s0, s1, .val (.int x), s3, s4, s5] st h = E_ d mX0_matches 52 [s0, s1, .val (.int x), s3, s4, s5] (.int x :: st) h := e_go dX0_matches_51 rfl rfl
theorem wX0_matches_52 : E_ d mX0_matches 52 ls (.int y :: .int x :: st) h = E_ d mX0_matches 53 ls (.int (x ||| y) :: st) h := e_go dX0_matches_52 rfl rfl
theorem wX0_matches_53 : E_ d mX0_matches 53 [s0, s1, s2, s3, s4, .val (.int x)] st h = E_ d mX0_matches 55 [s0, s1, s2, s3, s4, .val (.int x)] (.int x :: st) h := e_go dX0_matches_53 rfl rfl
theorem wX0_matches_55 : E_ (d + 1) mX0_matches 55 ls [.int x2, .int x1] h = (C_ d mX0_has [.int x1, .int x2] h).bind fun r => E_ (d + 1) mX0_matches 58 ls (xpu r.1 []) r.2 := e_call dX0_matches_55 rfl rfl
theorem wX0_matches_58 : E_ d mX0_matches 58 ls (.int x :: st) h = if x = 0 then E_ d mX0_matches 61 ls st h else E_ d mX0_matches 88 ls st h := e_zne dX0_matches_58 rfl rfl
theorem wX0_matches_61 : E_ d mX0_matches 61 [s0, s1, s2, s3, .val (.int x), s5] st h = E_ d mX0_matches 63 [s0, s1, s2, s3, .val (.int x), s5] (.int x :: st) h := e_go dX0_matches_61 rfl rfl
theorem wX0_matches_63 : E_ d mX0_matches 63 ls st h = E_ d mX0_matches 64 ls (.int ((-1)) :: st) h := e_iconst dX0_matches_63 kiconst_m1 rfl
theorem wX0_matches_64 : E_ d mX0_matches 64 ls (.int y :: .int x :: st) h = if x = y then E_ d mX0_matches 84 ls st h else E_ d mX0_matches 67 ls st h := e_ieq dX0_matches_64 rfl rfl
theorem wX0_matches_67 : E_ d mX0_matches 67 [.val (.ref a), s1, s2, s3, s4, s5] st h = E_ d mX0_matches 68 [.val (.ref a), s1, s2, s3, s4, s5] (.ref a :: st) h := e_go dX0_matches_67 rfl rfl
theorem wX0_matches_68 : E_ d mX0_matches 68 [s0, s1, s2, .val (.int x), s4, s5] st h = E_ d mX0_matches 69 [s0, s1, s2, .val (.int x), s4, s5] (.int x :: st) h := e_go dX0_matches_68 rfl rfl
theorem wX0_matches_69 : E_ d mX0_matches 69 [s0, s1, s2, s3, s4, .val (.int x)] st h = E_ d mX0_matches 71 [s0, s1, s2, s3, s4, .val (.int x)] (.int x :: st) h := e_go dX0_matches_69 rfl rfl
theorem wX0_matches_71 (ht : oT h a = 1) : E_ (d + 1) mX0_matches 71 ls [.int x2, .int x1, .ref a] h = (C_ d mX0_apart [.ref a, .int x1, .int x2] h).bind fun r => E_ (d + 1) mX0_matches 74 ls (xpu r.1 []) r.2 := e_vir dX0_matches_71 rfl rfl rfl rfl rfl rfl (Nat.le_of_ble_eq_true rfl) (Nat.le_of_ble_eq_true rfl) ht
theorem wX0_matches_74 : E_ d mX0_matches 74 [.val (.ref a), s1, s2, s3, s4, s5] st h = E_ d mX0_matches 75 [.val (.ref a), s1, s2, s3, s4, s5] (.ref a :: st) h := e_go dX0_matches_74 rfl rfl
theorem wX0_matches_75 : E_ d mX0_matches 75 [s0, s1, s2, .val (.int x), s4, s5] st h = E_ d mX0_matches 76 [s0, s1, s2, .val (.int x), s4, s5] (.int x :: st) h := e_go dX0_matches_75 rfl rfl
theorem wX0_matches_76 : E_ d mX0_matches 76 [s0, s1, s2, s3, .val (.int x), s5] st h = E_ d mX0_matches 78 [s0, s1, s2, s3, .val (.int x), s5] (.int x :: st) h := e_go dX0_matches_76 rfl rfl
theorem wX0_matches_78 (ht : oT h a = 1) : E_ (d + 1) mX0_matches 78 ls [.int x2, .int x1, .ref a, .int x3] h = (C_ d mX0_apart [.ref a, .int x1, .int x2] h).bind fun r => E_ (d + 1) mX0_matches 81 ls (xpu r.1 [.int x3]) r.2 := e_vir dX0_matches_78 rfl rfl rfl rfl rfl rfl (Nat.le_of_ble_eq_true rfl) (Nat.le_of_ble_eq_true rfl) ht
theorem wX0_matches_81 : E_ d mX0_matches 81 ls (.int y :: .int x :: st) h = if x < y then E_ d mX0_matches 84 ls st h else E_ d mX0_matches 88 ls st h := e_ige dX0_matches_81 rfl rfl
theorem wX0_matches_84 : E_ d mX0_matches 84 [s0, s1, s2, s3, s4, .val (.int x)] st h = E_ d mX0_matches 86 [s0, s1, s2, s3, s4, .val (.int x)] (.int x :: st) h := e_go dX0_matches_84 rfl rfl
theorem wX0_matches_86 : E_ d mX0_matches 86 [s0, s1, s2, s3, s4, s5] (.int x :: st) h = E_ d mX0_matches 88 [s0, s1, s2, xk s3, .val (.int x), s5] st h := e_go dX0_matches_86 rfl rfl
theorem wX0_matches_88 : E_ d mX0_matches 88 [s0, s1, s2, s3, s4, .val (.int x)] st h = E_ d mX0_matches 91 [s0, s1, s2, s3, xk s4, .val (.int (x + nI 1))] st h := by rw [← kiinc_1]; exact e_go dX0_matches_88 rfl rfl
theorem wX0_matches_91 : E_ d mX0_matches 91 ls st h = E_ d mX0_matches 35 ls st h := e_gt dX0_matches_91 rfl
theorem wX0_matches_94 : E_ d mX0_matches 94 [s0, s1, .val (.int x), s3, s4, s5] st h = E_ d mX0_matches 95 [s0, s1, .val (.int x), s3, s4, s5] (.int x :: st) h := e_go dX0_matches_94 rfl rfl
theorem wX0_matches_95 : E_ d mX0_matches 95 ls st h = E_ d mX0_matches 96 ls (.int (nI 1) :: st) h := e_iconst dX0_matches_95 kiconst_1 rfl
theorem wX0_matches_96 : E_ d mX0_matches 96 [s0, s1, s2, s3, .val (.int x), s5] st h = E_ d mX0_matches 98 [s0, s1, s2, s3, .val (.int x), s5] (.int x :: st) h := e_go dX0_matches_96 rfl rfl
theorem wX0_matches_98 : E_ d mX0_matches 98 ls (.int y :: .int x :: st) h = E_ d mX0_matches 99 ls (.int (x <<< (y &&& 31)) :: st) h := e_go dX0_matches_98 rfl rfl
theorem wX0_matches_99 : E_ d mX0_matches 99 ls (.int y :: .int x :: st) h = E_ d mX0_matches 100 ls (.int (x ||| y) :: st) h := e_go dX0_matches_99 rfl rfl
theorem wX0_matches_100 : E_ d mX0_matches 100 [s0, s1, s2, s3, s4, s5] (.int x :: st) h = E_ d mX0_matches 101 [s0, xk s1, .val (.int x), s3, s4, s5] st h := e_go dX0_matches_100 rfl rfl
theorem wX0_matches_101 : E_ d mX0_matches 101 [s0, s1, s2, .val (.int x), s4, s5] st h = E_ d mX0_matches 104 [s0, s1, xk s2, .val (.int (x + nI 1)), s4, s5] st h := by rw [← kiinc_1]; exact e_go dX0_matches_101 rfl rfl
theorem wX0_matches_104 : E_ d mX0_matches 104 ls st h = E_ d mX0_matches 4 ls st h := e_gt dX0_matches_104 rfl
theorem wX0_matches_107 : E_ d mX0_matches 107 [s0, s1, .val (.int x), s3, s4, s5] st h = E_ d mX0_matches 108 [s0, s1, .val (.int x), s3, s4, s5] (.int x :: st) h := e_go dX0_matches_107 rfl rfl
theorem wX0_matches_108 : E_ d mX0_matches 108 ls [.int x] h = some (some (.int x), h) := e_rt dX0_matches_108 rfl rfl
/-! FootOut.apart -/
theorem wX0_apart_0 : E_ d mX0_apart 0 [.val (.ref a), s1, s2] st h = E_ d mX0_apart 1 [.val (.ref a), s1, s2] (.ref a :: st) h := e_go dX0_apart_0 rfl rfl
theorem wX0_apart_1 (ht : oT h a = 1) : E_ d mX0_apart 1 ls (.ref a :: st) h = E_ d mX0_apart 4 ls (va_rf (oR h a 0) :: st) h := e_getR dX0_apart_1 rfl rfl ht
theorem wX0_apart_4 (ht : oT h a = 2) : E_ d mX0_apart 4 ls (.ref a :: st) h = E_ d mX0_apart 7 ls (va_rf (oR h a 2) :: st) h := e_getR0 dX0_apart_4 rfl rfl ht
theorem wX0_apart_7 : E_ d mX0_apart 7 [s0, .val (.int x), s2] st h = E_ d mX0_apart 8 [s0, .val (.int x), s2] (.int x :: st) h := e_go dX0_apart_7 rfl rfl
theorem wX0_apart_8 (ht : oT h a = 4) : E_ (d + 1) mX0_apart 8 ls [.int x1, .ref a] h = (C_ d mJ2_get [.ref a, .int x1] h).bind fun r => E_ (d + 1) mX0_apart 11 ls (xpu r.1 []) r.2 := e_vir dX0_apart_8 rfl rfl rfl rfl rfl rfl (Nat.le_of_ble_eq_true rfl) (Nat.le_of_ble_eq_true rfl) ht
theorem wX0_apart_11 (ht : oT h a = 19) : E_ d mX0_apart 11 ls (.ref a :: st) h = E_ d mX0_apart 14 ls (.ref a :: st) h := e_cast dX0_apart_11 rfl rfl ht
theorem wX0_apart_11n : E_ d mX0_apart 11 ls (.null :: st) h = E_ d mX0_apart 14 ls (.null :: st) h := e_go dX0_apart_11 rfl rfl
theorem wX0_apart_14 (ht : oT h a = 19) : E_ (d + 1) mX0_apart 14 ls [.ref a] h = (C_ d mX19_hurt [.ref a] h).bind fun r => E_ (d + 1) mX0_apart 17 ls (xpu r.1 []) r.2 := e_vir dX0_apart_14 rfl rfl rfl rfl rfl rfl (Nat.le_of_ble_eq_true rfl) (Nat.le_of_ble_eq_true rfl) ht
theorem wX0_apart_17 : E_ d mX0_apart 17 [.val (.ref a), s1, s2] st h = E_ d mX0_apart 18 [.val (.ref a), s1, s2] (.ref a :: st) h := e_go dX0_apart_17 rfl rfl
theorem wX0_apart_18 (ht : oT h a = 1) : E_ d mX0_apart 18 ls (.ref a :: st) h = E_ d mX0_apart 21 ls (va_rf (oR h a 0) :: st) h := e_getR dX0_apart_18 rfl rfl ht
theorem wX0_apart_21 (ht : oT h a = 2) : E_ d mX0_apart 21 ls (.ref a :: st) h = E_ d mX0_apart 24 ls (va_rf (oR h a 2) :: st) h := e_getR0 dX0_apart_21 rfl rfl ht
theorem wX0_apart_24 : E_ d mX0_apart 24 [s0, s1, .val (.int x)] st h = E_ d mX0_apart 25 [s0, s1, .val (.int x)] (.int x :: st) h := e_go dX0_apart_24 rfl rfl
theorem wX0_apart_25 (ht : oT h a = 4) : E_ (d + 1) mX0_apart 25 ls [.int x1, .ref a, .int x2] h = (C_ d mJ2_get [.ref a, .int x1] h).bind fun r => E_ (d + 1) mX0_apart 28 ls (xpu r.1 [.int x2]) r.2 := e_vir dX0_apart_25 rfl rfl rfl rfl rfl rfl (Nat.le_of_ble_eq_true rfl) (Nat.le_of_ble_eq_true rfl) ht
theorem wX0_apart_28 (ht : oT h a = 19) : E_ d mX0_apart 28 ls (.ref a :: st) h = E_ d mX0_apart 31 ls (.ref a :: st) h := e_cast dX0_apart_28 rfl rfl ht
theorem wX0_apart_28n : E_ d mX0_apart 28 ls (.null :: st) h = E_ d mX0_apart 31 ls (.null :: st) h := e_go dX0_apart_28 rfl rfl
theorem wX0_apart_31 (ht : oT h a = 19) : E_ (d + 1) mX0_apart 31 ls [.ref a, .int x1] h = (C_ d mX19_hurt [.ref a] h).bind fun r => E_ (d + 1) mX0_apart 34 ls (xpu r.1 [.int x1]) r.2 := e_vir dX0_apart_31 rfl rfl rfl rfl rfl rfl (Nat.le_of_ble_eq_true rfl) (Nat.le_of_ble_eq_true rfl) ht
theorem wX0_apart_34 : E_ d mX0_apart 34 ls (.int y :: .int x :: st) h = E_ d mX0_apart 35 ls (.int (x - y) :: st) h := e_go dX0_apart_34 rfl rfl
theorem wX0_apart_35 : E_ d mX0_apart 35 ls [.int x1] h = (xP 8 [.int x1] h).bind fun r => E_ d mX0_apart 38 ls (xpu r.1 []) r.2 := e_staP dX0_apart_35 rfl (Nat.le_of_ble_eq_true rfl) rfl rfl rfl (Nat.le_of_ble_eq_true rfl)
theorem wX0_apart_38 : E_ d mX0_apart 38 ls [.int x] h = some (some (.int x), h) := e_rt dX0_apart_38 rfl rfl
/-! FootOut.ranked -/
theorem wX0_ranked_0 : E_ d mX0_ranked 0 ls st h = E_ d mX0_ranked 1 ls (.int (nI 0) :: st) h := e_iconst dX0_ranked_0 kiconst_0 rfl
theorem wX0_ranked_1 : E_ d mX0_ranked 1 [s0, s1, s2, s3, s4] (.int x :: st) h = E_ d mX0_ranked 2 [s0, xk s1, .val (.int x), s3, s4] st h := e_go dX0_ranked_1 rfl rfl
theorem wX0_ranked_2 : E_ d mX0_ranked 2 [s0, s1, .val (.int x), s3, s4] st h = E_ d mX0_ranked 3 [s0, s1, .val (.int x), s3, s4] (.int x :: st) h := e_go dX0_ranked_2 rfl rfl
theorem wX0_ranked_3 : E_ d mX0_ranked 3 [.val (.ref a), s1, s2, s3, s4] st h = E_ d mX0_ranked 4 [.val (.ref a), s1, s2, s3, s4] (.ref a :: st) h := e_go dX0_ranked_3 rfl rfl
theorem wX0_ranked_4 (ht : oT h a = 1) : E_ d mX0_ranked 4 ls (.ref a :: st) h = E_ d mX0_ranked 7 ls (va_rf (oR h a 0) :: st) h := e_getR dX0_ranked_4 rfl rfl ht
theorem wX0_ranked_7 (ht : oT h a = 2) : E_ d mX0_ranked 7 ls (.ref a :: st) h = E_ d mX0_ranked 10 ls (va_rf (oR h a 2) :: st) h := e_getR0 dX0_ranked_7 rfl rfl ht
theorem wX0_ranked_10 (ht : oT h a = 4) : E_ (d + 1) mX0_ranked 10 ls [.ref a, .int x1] h = (C_ d mJ2_size [.ref a] h).bind fun r => E_ (d + 1) mX0_ranked 13 ls (xpu r.1 [.int x1]) r.2 := e_vir dX0_ranked_10 rfl rfl rfl rfl rfl rfl (Nat.le_of_ble_eq_true rfl) (Nat.le_of_ble_eq_true rfl) ht
theorem wX0_ranked_13 : E_ d mX0_ranked 13 ls (.int y :: .int x :: st) h = if x < y then E_ d mX0_ranked 16 ls st h else E_ d mX0_ranked 79 ls st h := e_ige dX0_ranked_13 rfl rfl
theorem wX0_ranked_16 : E_ d mX0_ranked 16 ls st h = E_ d mX0_ranked 17 ls (.int (nI 0) :: st) h := e_iconst dX0_ranked_16 kiconst_0 rfl
theorem wX0_ranked_17 : E_ d mX0_ranked 17 [s0, s1, s2, s3, s4] (.int x :: st) h = E_ d mX0_ranked 18 [s0, s1, xk s2, .val (.int x), s4] st h := e_go dX0_ranked_17 rfl rfl
theorem wX0_ranked_18 : E_ d mX0_ranked 18 ls st h = E_ d mX0_ranked 19 ls (.int (nI 0) :: st) h := e_iconst dX0_ranked_18 kiconst_0 rfl
theorem wX0_ranked_19 : E_ d mX0_ranked 19 [s0, s1, s2, s3, s4] (.int x :: st) h = E_ d mX0_ranked 21 [s0, s1, s2, xk s3, .val (.int x)] st h := e_go dX0_ranked_19 rfl rfl
theorem wX0_ranked_21 : E_ d mX0_ranked 21 [s0, s1, s2, s3, .val (.int x)] st h = E_ d mX0_ranked 23 [s0, s1, s2, s3, .val (.int x)] (.int x :: st) h := e_go dX0_ranked_21 rfl rfl
theorem wX0_ranked_23 : E_ d mX0_ranked 23 [.val (.ref a), s1, s2, s3, s4] st h = E_ d mX0_ranked 24 [.val (.ref a), s1, s2, s3, s4] (.ref a :: st) h := e_go dX0_ranked_23 rfl rfl
theorem wX0_ranked_24 (ht : oT h a = 1) : E_ d mX0_ranked 24 ls (.ref a :: st) h = E_ d mX0_ranked 27 ls (va_rf (oR h a 0) :: st) h := e_getR dX0_ranked_24 rfl rfl ht
theorem wX0_ranked_27 (ht : oT h a = 2) : E_ d mX0_ranked 27 ls (.ref a :: st) h = E_ d mX0_ranked 30 ls (va_rf (oR h a 2) :: st) h := e_getR0 dX0_ranked_27 rfl rfl ht
theorem wX0_ranked_30 (ht : oT h a = 4) : E_ (d + 1) mX0_ranked 30 ls [.ref a, .int x1] h = (C_ d mJ2_size [.ref a] h).bind fun r => E_ (d + 1) mX0_ranked 33 ls (xpu r.1 [.int x1]) r.2 := e_vir dX0_ranked_30 rfl rfl rfl rfl rfl rfl (Nat.le_of_ble_eq_true rfl) (Nat.le_of_ble_eq_true rfl) ht
theorem wX0_ranked_33 : E_ d mX0_ranked 33 ls (.int y :: .int x :: st) h = if x < y then E_ d mX0_ranked 36 ls st h else E_ d mX0_ranked 66 ls st h := e_ige dX0_ranked_33 rfl rfl
theorem wX0_ranked_36 : E_ d mX0_ranked 36 [s0, s1, s2, .val (.int x), s4] st h = E_ d mX0_ranked 37 [s0, s1, s2, .val (.int x), s4] (.int x :: st) h := e_go dX0_ranked_36 rfl rfl
theorem wX0_ranked_37 : E_ d mX0_ranked 37 [s0, s1, s2, s3, .val (.int x)] st h = E_ d mX0_ranked 39 [s0, s1, s2, s3, .val (.int x)] (.int x :: st) h := e_go dX0_ranked_37 rfl rfl
theorem wX0_ranked_39 : E_ d mX0_ranked 39 [s0, s1, .val (.int x), s3, s4] st h = E_ d mX0_ranked 40 [s0, s1, .val (.int x), s3, s4] (.int x :: st) h := e_go dX0_ranked_39 rfl rfl
theorem wX0_ranked_40 : E_ d mX0_ranked 40 ls (.int y :: .int x :: st) h = if x = y then E_ d mX0_ranked 57 ls st h else E_ d mX0_ranked 43 ls st h := e_ieq dX0_ranked_40 rfl rfl
theorem wX0_ranked_43 : E_ d mX0_ranked 43 [.val (.ref a), s1, s2, s3, s4] st h = E_ d mX0_ranked 44 [.val (.ref a), s1, s2, s3, s4] (.ref a :: st) h := e_go dX0_ranked_43 rfl rfl
theorem wX0_ranked_44 : E_ d mX0_ranked 44 [s0, s1, s2, s3, .val (.int x)] st h = E_ d mX0_ranked 46 [s0, s1, s2, s3, .val (.int x)] (.int x :: st) h := e_go dX0_ranked_44 rfl rfl
theorem wX0_ranked_46 : E_ d mX0_ranked 46 [s0, s1, .val (.int x), s3, s4] st h = E_ d mX0_ranked 47 [s0, s1, .val (.int x), s3, s4] (.int x :: st) h := e_go dX0_ranked_46 rfl rfl
theorem wX0_ranked_47 (ht : oT h a = 1) : E_ (d + 1) mX0_ranked 47 ls [.int x2, .int x1, .ref a, .int x3] h = (C_ d mX0_isWorse [.ref a, .int x1, .int x2] h).bind fun r => E_ (d + 1) mX0_ranked 50 ls (xpu r.1 [.int x3]) r.2 := e_vir dX0_ranked_47 rfl rfl rfl rfl rfl rfl (Nat.le_of_ble_eq_true rfl) (Nat.le_of_ble_eq_true rfl) ht
theorem wX0_ranked_50 : E_ d mX0_ranked 50 ls (.int x :: st) h = if x = 0 then E_ d mX0_ranked 57 ls st h else E_ d mX0_ranked 53 ls st h := e_zeq dX0_ranked_50 rfl rfl
theorem wX0_ranked_53 : E_ d mX0_ranked 53 ls st h = E_ d mX0_ranked 54 ls (.int (nI 1) :: st) h := e_iconst dX0_ranked_53 kiconst_1 rfl
theorem wX0_ranked_54 : E_ d mX0_ranked 54 ls st h = E_ d mX0_ranked 58 ls st h := e_gt dX0_ranked_54 rfl
theorem wX0_ranked_57 : E_ d mX0_ranked 57 ls st h = E_ d mX0_ranked 58 ls (.int (nI 0) :: st) h := e_iconst dX0_ranked_57 kiconst_0 rfl
theorem wX0_ranked_58 : E_ d mX0_ranked 58 ls (.int y :: .int x :: st) h = E_ d mX0_ranked 59 ls (.int (x + y) :: st) h := e_go dX0_ranked_58 rfl rfl
theorem wX0_ranked_59 : E_ d mX0_ranked 59 [s0, s1, s2, s3, s4] (.int x :: st) h = E_ d mX0_ranked 60 [s0, s1, xk s2, .val (.int x), s4] st h := e_go dX0_ranked_59 rfl rfl
theorem wX0_ranked_60 : E_ d mX0_ranked 60 [s0, s1, s2, s3, .val (.int x)] st h = E_ d mX0_ranked 63 [s0, s1, s2, xk s3, .val (.int (x + nI 1))] st h := by rw [← kiinc_1]; exact e_go dX0_ranked_60 rfl rfl
theorem wX0_ranked_63 : E_ d mX0_ranked 63 ls st h = E_ d mX0_ranked 21 ls st h := e_gt dX0_ranked_63 rfl
theorem wX0_ranked_66 : E_ d mX0_ranked 66 [s0, s1, s2, .val (.int x), s4] st h = E_ d mX0_ranked 67 [s0, s1, s2, .val (.int x), s4] (.int x :: st) h := e_go dX0_ranked_66 rfl rfl
theorem wX0_ranked_67 : E_ d mX0_ranked 67 [s0, .val (.int x), s2, s3, s4] st h = E_ d mX0_ranked 68 [s0, .val (.int x), s2, s3, s4] (.int x :: st) h := e_go dX0_ranked_67 rfl rfl
theorem wX0_ranked_68 : E_ d mX0_ranked 68 ls (.int y :: .int x :: st) h = if x = y then E_ d mX0_ranked 71 ls st h else E_ d mX0_ranked 73 ls st h := e_ine dX0_ranked_68 rfl rfl
theorem wX0_ranked_71 : E_ d mX0_ranked 71 [s0, s1, .val (.int x), s3, s4] st h = E_ d mX0_ranked 72 [s0, s1, .val (.int x), s3, s4] (.int x :: st) h := e_go dX0_ranked_71 rfl rfl
theorem wX0_ranked_72 : E_ d mX0_ranked 72 ls [.int x] h = some (some (.int x), h) := e_rt dX0_ranked_72 rfl rfl
theorem wX0_ranked_73 : E_ d mX0_ranked 73 [s0, s1, .val (.int x), s3, s4] st h = E_ d mX0_ranked 76 [s0, xk s1, .val (.int (x + nI 1)), s3, s4] st h := by rw [← kiinc_1]; exact e_go dX0_ranked_73 rfl rfl
theorem wX0_ranked_76 : E_ d mX0_ranked 76 ls st h = E_ d mX0_ranked 2 ls st h := e_gt dX0_ranked_76 rfl
theorem wX0_ranked_79 : E_ d mX0_ranked 79 ls st h = E_ d mX0_ranked 80 ls (.int ((-1)) :: st) h := e_iconst dX0_ranked_79 kiconst_m1 rfl
theorem wX0_ranked_80 : E_ d mX0_ranked 80 ls [.int x] h = some (some (.int x), h) := e_rt dX0_ranked_80 rfl rfl
/-! FootOut.isWorse -/
theorem wX0_isWorse_0 : E_ d mX0_isWorse 0 [.val (.ref a), s1, s2, s3, s4, s5, s6] st h = E_ d mX0_isWorse 1 [.val (.ref a), s1, s2, s3, s4, s5, s6] (.ref a :: st) h := e_go dX0_isWorse_0 rfl rfl
theorem wX0_isWorse_1 (ht : oT h a = 1) : E_ d mX0_isWorse 1 ls (.ref a :: st) h = E_ d mX0_isWorse 4 ls (va_rf (oR h a 0) :: st) h := e_getR dX0_isWorse_1 rfl rfl ht
theorem wX0_isWorse_4 (ht : oT h a = 2) : E_ d mX0_isWorse 4 ls (.ref a :: st) h = E_ d mX0_isWorse 7 ls (va_rf (oR h a 2) :: st) h := e_getR0 dX0_isWorse_4 rfl rfl ht
theorem wX0_isWorse_7 : E_ d mX0_isWorse 7 [s0, .val (.int x), s2, s3, s4, s5, s6] st h = E_ d mX0_isWorse 8 [s0, .val (.int x), s2, s3, s4, s5, s6] (.int x :: st) h := e_go dX0_isWorse_7 rfl rfl
theorem wX0_isWorse_8 (ht : oT h a = 4) : E_ (d + 1) mX0_isWorse 8 ls [.int x1, .ref a] h = (C_ d mJ2_get [.ref a, .int x1] h).bind fun r => E_ (d + 1) mX0_isWorse 11 ls (xpu r.1 []) r.2 := e_vir dX0_isWorse_8 rfl rfl rfl rfl rfl rfl (Nat.le_of_ble_eq_true rfl) (Nat.le_of_ble_eq_true rfl) ht
theorem wX0_isWorse_11 (ht : oT h a = 19) : E_ d mX0_isWorse 11 ls (.ref a :: st) h = E_ d mX0_isWorse 14 ls (.ref a :: st) h := e_cast dX0_isWorse_11 rfl rfl ht
theorem wX0_isWorse_11n : E_ d mX0_isWorse 11 ls (.null :: st) h = E_ d mX0_isWorse 14 ls (.null :: st) h := e_go dX0_isWorse_11 rfl rfl
theorem wX0_isWorse_14 : E_ d mX0_isWorse 14 [s0, s1, s2, s3, s4, s5, s6] (.ref a :: st) h = E_ d mX0_isWorse 15 [s0, s1, xk s2, .val (.ref a), s4, s5, s6] st h := e_go dX0_isWorse_14 rfl rfl
theorem wX0_isWorse_15 : E_ d mX0_isWorse 15 [.val (.ref a), s1, s2, s3, s4, s5, s6] st h = E_ d mX0_isWorse 16 [.val (.ref a), s1, s2, s3, s4, s5, s6] (.ref a :: st) h := e_go dX0_isWorse_15 rfl rfl
theorem wX0_isWorse_16 (ht : oT h a = 1) : E_ d mX0_isWorse 16 ls (.ref a :: st) h = E_ d mX0_isWorse 19 ls (va_rf (oR h a 0) :: st) h := e_getR dX0_isWorse_16 rfl rfl ht
theorem wX0_isWorse_19 (ht : oT h a = 2) : E_ d mX0_isWorse 19 ls (.ref a :: st) h = E_ d mX0_isWorse 22 ls (va_rf (oR h a 2) :: st) h := e_getR0 dX0_isWorse_19 rfl rfl ht
theorem wX0_isWorse_22 : E_ d mX0_isWorse 22 [s0, s1, .val (.int x), s3, s4, s5, s6] st h = E_ d mX0_isWorse 23 [s0, s1, .val (.int x), s3, s4, s5, s6] (.int x :: st) h := e_go dX0_isWorse_22 rfl rfl
theorem wX0_isWorse_23 (ht : oT h a = 4) : E_ (d + 1) mX0_isWorse 23 ls [.int x1, .ref a] h = (C_ d mJ2_get [.ref a, .int x1] h).bind fun r => E_ (d + 1) mX0_isWorse 26 ls (xpu r.1 []) r.2 := e_vir dX0_isWorse_23 rfl rfl rfl rfl rfl rfl (Nat.le_of_ble_eq_true rfl) (Nat.le_of_ble_eq_true rfl) ht
theorem wX0_isWorse_26 (ht : oT h a = 19) : E_ d mX0_isWorse 26 ls (.ref a :: st) h = E_ d mX0_isWorse 29 ls (.ref a :: st) h := e_cast dX0_isWorse_26 rfl rfl ht
theorem wX0_isWorse_26n : E_ d mX0_isWorse 26 ls (.null :: st) h = E_ d mX0_isWorse 29 ls (.null :: st) h := e_go dX0_isWorse_26 rfl rfl
theorem wX0_isWorse_29 : E_ d mX0_isWorse 29 [s0, s1, s2, s3, s4, s5, s6] (.ref a :: st) h = E_ d mX0_isWorse 31 [s0, s1, s2, xk s3, .val (.ref a), s5, s6] st h := e_go dX0_isWorse_29 rfl rfl
theorem wX0_isWorse_31 : E_ d mX0_isWorse 31 [s0, s1, s2, .val (.ref a), s4, s5, s6] st h = E_ d mX0_isWorse 32 [s0, s1, s2, .val (.ref a), s4, s5, s6] (.ref a :: st) h := e_go dX0_isWorse_31 rfl rfl
theorem wX0_isWorse_32 (ht : oT h a = 19) : E_ (d + 1) mX0_isWorse 32 ls [.ref a] h = (C_ d mX19_hurt [.ref a] h).bind fun r => E_ (d + 1) mX0_isWorse 35 ls (xpu r.1 []) r.2 := e_vir dX0_isWorse_32 rfl rfl rfl rfl rfl rfl (Nat.le_of_ble_eq_true rfl) (Nat.le_of_ble_eq_true rfl) ht
theorem wX0_isWorse_35 : E_ d mX0_isWorse 35 ls st h = E_ d mX0_isWorse 36 ls (.int (nI 1) :: st) h := e_iconst dX0_isWorse_35 kiconst_1 rfl
theorem wX0_isWorse_36 : E_ d mX0_isWorse 36 [s0, s1, s2, s3, .val (.ref a), s5, s6] st h = E_ d mX0_isWorse 38 [s0, s1, s2, s3, .val (.ref a), s5, s6] (.ref a :: st) h := e_go dX0_isWorse_36 rfl rfl
theorem wX0_isWorse_38 (ht : oT h a = 19) : E_ (d + 1) mX0_isWorse 38 ls [.ref a, .int x1, .int x2] h = (C_ d mX19_crossing [.ref a] h).bind fun r => E_ (d + 1) mX0_isWorse 41 ls (xpu r.1 [.int x1, .int x2]) r.2 := e_vir dX0_isWorse_38 rfl rfl rfl rfl rfl rfl (Nat.le_of_ble_eq_true rfl) (Nat.le_of_ble_eq_true rfl) ht
theorem wX0_isWorse_41 : E_ d mX0_isWorse 41 ls [.int x2, .int x1, .int x3] h = (xP 6 [.int x1, .int x2] h).bind fun r => E_ d mX0_isWorse 44 ls (xpu r.1 [.int x3]) r.2 := e_staP dX0_isWorse_41 rfl (Nat.le_of_ble_eq_true rfl) rfl rfl rfl (Nat.le_of_ble_eq_true rfl)
theorem wX0_isWorse_44 : E_ d mX0_isWorse 44 ls (.int y :: .int x :: st) h = E_ d mX0_isWorse 45 ls (.int (x * y) :: st) h := e_go dX0_isWorse_44 rfl rfl
theorem wX0_isWorse_45 : E_ d mX0_isWorse 45 [s0, s1, s2, s3, s4, s5, s6] (.int x :: st) h = E_ d mX0_isWorse 47 [s0, s1, s2, s3, xk s4, .val (.int x), s6] st h := e_go dX0_isWorse_45 rfl rfl
theorem wX0_isWorse_47 : E_ d mX0_isWorse 47 [s0, s1, s2, s3, .val (.ref a), s5, s6] st h = E_ d mX0_isWorse 49 [s0, s1, s2, s3, .val (.ref a), s5, s6] (.ref a :: st) h := e_go dX0_isWorse_47 rfl rfl
theorem wX0_isWorse_49 (ht : oT h a = 19) : E_ (d + 1) mX0_isWorse 49 ls [.ref a] h = (C_ d mX19_hurt [.ref a] h).bind fun r => E_ (d + 1) mX0_isWorse 52 ls (xpu r.1 []) r.2 := e_vir dX0_isWorse_49 rfl rfl rfl rfl rfl rfl (Nat.le_of_ble_eq_true rfl) (Nat.le_of_ble_eq_true rfl) ht
theorem wX0_isWorse_52 : E_ d mX0_isWorse 52 ls st h = E_ d mX0_isWorse 53 ls (.int (nI 1) :: st) h := e_iconst dX0_isWorse_52 kiconst_1 rfl
theorem wX0_isWorse_53 : E_ d mX0_isWorse 53 [s0, s1, s2, .val (.ref a), s4, s5, s6] st h = E_ d mX0_isWorse 54 [s0, s1, s2, .val (.ref a), s4, s5, s6] (.ref a :: st) h := e_go dX0_isWorse_53 rfl rfl
theorem wX0_isWorse_54 (ht : oT h a = 19) : E_ (d + 1) mX0_isWorse 54 ls [.ref a, .int x1, .int x2] h = (C_ d mX19_crossing [.ref a] h).bind fun r => E_ (d + 1) mX0_isWorse 57 ls (xpu r.1 [.int x1, .int x2]) r.2 := e_vir dX0_isWorse_54 rfl rfl rfl rfl rfl rfl (Nat.le_of_ble_eq_true rfl) (Nat.le_of_ble_eq_true rfl) ht
theorem wX0_isWorse_57 : E_ d mX0_isWorse 57 ls [.int x2, .int x1, .int x3] h = (xP 6 [.int x1, .int x2] h).bind fun r => E_ d mX0_isWorse 60 ls (xpu r.1 [.int x3]) r.2 := e_staP dX0_isWorse_57 rfl (Nat.le_of_ble_eq_true rfl) rfl rfl rfl (Nat.le_of_ble_eq_true rfl)
theorem wX0_isWorse_60 : E_ d mX0_isWorse 60 ls (.int y :: .int x :: st) h = E_ d mX0_isWorse 61 ls (.int (x * y) :: st) h := e_go dX0_isWorse_60 rfl rfl
theorem wX0_isWorse_61 : E_ d mX0_isWorse 61 [s0, s1, s2, s3, s4, s5, s6] (.int x :: st) h = E_ d mX0_isWorse 63 [s0, s1, s2, s3, s4, xk s5, .val (.int x)] st h := e_go dX0_isWorse_61 rfl rfl
theorem wX0_isWorse_63 : E_ d mX0_isWorse 63 [s0, s1, s2, s3, s4, .val (.int x), s6] st h = E_ d mX0_isWorse 65 [s0, s1, s2, s3, s4, .val (.int x), s6] (.int x :: st) h := e_go dX0_isWorse_63 rfl rfl
theorem wX0_isWorse_65 : E_ d mX0_isWorse 65 [s0, s1, s2, s3, s4, s5, .val (.int x)] st h = E_ d mX0_isWorse 67 [s0, s1, s2, s3, s4, s5, .val (.int x)] (.int x :: st) h := e_go dX0_isWorse_65 rfl rfl
theorem wX0_isWorse_67 : E_ d mX0_isWorse 67 ls (.int y :: .int x :: st) h = if x = y then E_ d mX0_isWorse 85 ls st h else E_ d mX0_isWorse 70 ls st h := e_ieq dX0_isWorse_67 rfl rfl
theorem wX0_isWorse_70 : E_ d mX0_isWorse 70 [s0, s1, s2, s3, s4, .val (.int x), s6] st h = E_ d mX0_isWorse 72 [s0, s1, s2, s3, s4, .val (.int x), s6] (.int x :: st) h := e_go dX0_isWorse_70 rfl rfl
theorem wX0_isWorse_72 : E_ d mX0_isWorse 72 [s0, s1, s2, s3, s4, s5, .val (.int x)] st h = E_ d mX0_isWorse 74 [s0, s1, s2, s3, s4, s5, .val (.int x)] (.int x :: st) h := e_go dX0_isWorse_72 rfl rfl
theorem wX0_isWorse_74 : E_ d mX0_isWorse 74 ls (.int y :: .int x :: st) h = if y < x then E_ d mX0_isWorse 77 ls st h else E_ d mX0_isWorse 81 ls st h := e_ile dX0_isWorse_74 rfl rfl
theorem wX0_isWorse_77 : E_ d mX0_isWorse 77 ls st h = E_ d mX0_isWorse 78 ls (.int (nI 1) :: st) h := e_iconst dX0_isWorse_77 kiconst_1 rfl
theorem wX0_isWorse_78 : E_ d mX0_isWorse 78 ls st h = E_ d mX0_isWorse 95 ls st h := e_gt dX0_isWorse_78 rfl
theorem wX0_isWorse_81 : E_ d mX0_isWorse 81 ls st h = E_ d mX0_isWorse 82 ls (.int (nI 0) :: st) h := e_iconst dX0_isWorse_81 kiconst_0 rfl
theorem wX0_isWorse_82 : E_ d mX0_isWorse 82 ls st h = E_ d mX0_isWorse 95 ls st h := e_gt dX0_isWorse_82 rfl
theorem wX0_isWorse_85 : E_ d mX0_isWorse 85 [s0, .val (.int x), s2, s3, s4, s5, s6] st h = E_ d mX0_isWorse 86 [s0, .val (.int x), s2, s3, s4, s5, s6] (.int x :: st) h := e_go dX0_isWorse_85 rfl rfl
theorem wX0_isWorse_86 : E_ d mX0_isWorse 86 [s0, s1, .val (.int x), s3, s4, s5, s6] st h = E_ d mX0_isWorse 87 [s0, s1, .val (.int x), s3, s4, s5, s6] (.int x :: st) h := e_go dX0_isWorse_86 rfl rfl
theorem wX0_isWorse_87 : E_ d mX0_isWorse 87 ls (.int y :: .int x :: st) h = if x < y then E_ d mX0_isWorse 90 ls st h else E_ d mX0_isWorse 94 ls st h := e_ige dX0_isWorse_87 rfl rfl
theorem wX0_isWorse_90 : E_ d mX0_isWorse 90 ls st h = E_ d mX0_isWorse 91 ls (.int (nI 1) :: st) h := e_iconst dX0_isWorse_90 kiconst_1 rfl
theorem wX0_isWorse_91 : E_ d mX0_isWorse 91 ls st h = E_ d mX0_isWorse 95 ls st h := e_gt dX0_isWorse_91 rfl
theorem wX0_isWorse_94 : E_ d mX0_isWorse 94 ls st h = E_ d mX0_isWorse 95 ls (.int (nI 0) :: st) h := e_iconst dX0_isWorse_94 kiconst_0 rfl
theorem wX0_isWorse_95 (hx : x = 0 ∨ x = 1) : E_ d mX0_isWorse 95 ls [.int x] h = some (some (.int x), h) := e_rtZ dX0_isWorse_95 rfl hx
/-! FootOut.measure -/
theorem wX0_measure_0 : E_ d mX0_measure 0 [s0, .val (.int x), s2, s3] st h = E_ d mX0_measure 1 [s0, .val (.int x), s2, s3] (.int x :: st) h := e_go dX0_measure_0 rfl rfl
theorem wX0_measure_1 : E_ d mX0_measure 1 ls (.int x :: st) h = E_ d mX0_measure 2 ls (.long x.toInt64 :: st) h := e_go dX0_measure_1 rfl rfl
theorem wX0_measure_2 : E_ d mX0_measure 2 ls st h = E_ d mX0_measure 3 ls (.long 0 :: st) h := e_go dX0_measure_2 rfl rfl
theorem wX0_measure_3 : E_ d mX0_measure 3 ls st h = E_ d mX0_measure 6 ls (.long (3) :: st) h := e_go dX0_measure_3 rfl rfl
theorem wX0_measure_6 : E_ (d + 1) mX0_measure 6 ls [.long u3, .long u2, .long u1] h = (C_ d mX0_in [.long u1, .long u2, .long u3] h).bind fun r => E_ (d + 1) mX0_measure 9 ls (xpu r.1 []) r.2 := e_call dX0_measure_6 rfl rfl
theorem wX0_measure_9 : E_ d mX0_measure 9 ls (.int x :: st) h = if x = 0 then E_ d mX0_measure 12 ls st h else E_ d mX0_measure 19 ls st h := e_zne dX0_measure_9 rfl rfl
theorem wX0_measure_12 : E_ d mX0_measure 12 [.val (.ref a), s1, s2, s3] st h = E_ d mX0_measure 13 [.val (.ref a), s1, s2, s3] (.ref a :: st) h := e_go dX0_measure_12 rfl rfl
theorem wX0_measure_13 : E_ d mX0_measure 13 ls st h = E_ d mX0_measure 15 ls (.int ((-2)) :: st) h := e_bipush dX0_measure_13 kbipush_m2 rfl
theorem wX0_measure_15 (ht : oT h a = 1) : E_ (d + 1) mX0_measure 15 ls [.int x1, .ref a] h = (C_ d mX0_no [.ref a, .int x1] h).bind fun r => E_ (d + 1) mX0_measure 18 ls (xpu r.1 []) r.2 := e_vir dX0_measure_15 rfl rfl rfl rfl rfl rfl (Nat.le_of_ble_eq_true rfl) (Nat.le_of_ble_eq_true rfl) ht
theorem wX0_measure_18 : E_ d mX0_measure 18 ls [.int x] h = some (some (.int x), h) := e_rt dX0_measure_18 rfl rfl
theorem wX0_measure_19 : E_ d mX0_measure 19 [s0, s1, .val (.int x), s3] st h = E_ d mX0_measure 20 [s0, s1, .val (.int x), s3] (.int x :: st) h := e_go dX0_measure_19 rfl rfl
theorem wX0_measure_20 : E_ d mX0_measure 20 ls (.int x :: st) h = E_ d mX0_measure 21 ls (.long x.toInt64 :: st) h := e_go dX0_measure_20 rfl rfl
theorem wX0_measure_21 : E_ d mX0_measure 21 ls st h = E_ d mX0_measure 22 ls (.long 1 :: st) h := e_go dX0_measure_21 rfl rfl
theorem wX0_measure_22 : E_ d mX0_measure 22 ls st h = E_ d mX0_measure 25 ls (.long (99) :: st) h := e_go dX0_measure_22 rfl rfl
theorem wX0_measure_25 : E_ (d + 1) mX0_measure 25 ls [.long u3, .long u2, .long u1] h = (C_ d mX0_in [.long u1, .long u2, .long u3] h).bind fun r => E_ (d + 1) mX0_measure 28 ls (xpu r.1 []) r.2 := e_call dX0_measure_25 rfl rfl
theorem wX0_measure_28 : E_ d mX0_measure 28 ls (.int x :: st) h = if x = 0 then E_ d mX0_measure 43 ls st h else E_ d mX0_measure 31 ls st h := e_zeq dX0_measure_28 rfl rfl
theorem wX0_measure_31 : E_ d mX0_measure 31 [s0, s1, s2, .val (.int x)] st h = E_ d mX0_measure 32 [s0, s1, s2, .val (.int x)] (.int x :: st) h := e_go dX0_measure_31 rfl rfl
theorem wX0_measure_32 : E_ d mX0_measure 32 ls (.int x :: st) h = E_ d mX0_measure 33 ls (.long x.toInt64 :: st) h := e_go dX0_measure_32 rfl rfl
theorem wX0_measure_33 : E_ d mX0_measure 33 ls st h = E_ d mX0_measure 34 ls (.long 0 :: st) h := e_go dX0_measure_33 rfl rfl
theorem wX0_measure_34 : E_ d mX0_measure 34 ls st h = E_ d mX0_measure 37 ls (.long (100) :: st) h := e_go dX0_measure_34 rfl rfl
theorem wX0_measure_37 : E_ (d + 1) mX0_measure 37 ls [.long u3, .long u2, .long u1] h = (C_ d mX0_in [.long u1, .long u2, .long u3] h).bind fun r => E_ (d + 1) mX0_measure 40 ls (xpu r.1 []) r.2 := e_call dX0_measure_37 rfl rfl
theorem wX0_measure_40 : E_ d mX0_measure 40 ls (.int x :: st) h = if x = 0 then E_ d mX0_measure 43 ls st h else E_ d mX0_measure 50 ls st h := e_zne dX0_measure_40 rfl rfl
theorem wX0_measure_43 : E_ d mX0_measure 43 [.val (.ref a), s1, s2, s3] st h = E_ d mX0_measure 44 [.val (.ref a), s1, s2, s3] (.ref a :: st) h := e_go dX0_measure_43 rfl rfl
theorem wX0_measure_44 : E_ d mX0_measure 44 ls st h = E_ d mX0_measure 46 ls (.int ((-3)) :: st) h := e_bipush dX0_measure_44 kbipush_m3 rfl
theorem wX0_measure_46 (ht : oT h a = 1) : E_ (d + 1) mX0_measure 46 ls [.int x1, .ref a] h = (C_ d mX0_no [.ref a, .int x1] h).bind fun r => E_ (d + 1) mX0_measure 49 ls (xpu r.1 []) r.2 := e_vir dX0_measure_46 rfl rfl rfl rfl rfl rfl (Nat.le_of_ble_eq_true rfl) (Nat.le_of_ble_eq_true rfl) ht
theorem wX0_measure_49 : E_ d mX0_measure 49 ls [.int x] h = some (some (.int x), h) := e_rt dX0_measure_49 rfl rfl
theorem wX0_measure_50 : E_ d mX0_measure 50 [.val (.ref a), s1, s2, s3] st h = E_ d mX0_measure 51 [.val (.ref a), s1, s2, s3] (.ref a :: st) h := e_go dX0_measure_50 rfl rfl
theorem wX0_measure_51 (ht : oT h a = 1) : E_ d mX0_measure 51 ls (.ref a :: st) h = E_ d mX0_measure 54 ls (va_rf (oR h a 0) :: st) h := e_getR dX0_measure_51 rfl rfl ht
theorem wX0_measure_54 (ht : oT h a = 2) : E_ d mX0_measure 54 ls (.ref a :: st) h = E_ d mX0_measure 57 ls (va_rf (oR h a 3) :: st) h := e_getR0 dX0_measure_54 rfl rfl ht
theorem wX0_measure_57 : E_ d mX0_measure 57 [s0, .val (.int x), s2, s3] st h = E_ d mX0_measure 58 [s0, .val (.int x), s2, s3] (.int x :: st) h := e_go dX0_measure_57 rfl rfl
theorem wX0_measure_58 : E_ d mX0_measure 58 [s0, s1, .val (.int x), s3] st h = E_ d mX0_measure 59 [s0, s1, .val (.int x), s3] (.int x :: st) h := e_go dX0_measure_58 rfl rfl
theorem wX0_measure_59 (ht : oT h a = 40) (hi : xix x (oN h a) = true) : E_ d mX0_measure 59 ls (.int y :: .int x :: .ref a :: st) h = E_ d mX0_measure 60 ls st (pI h a (va_up (oI h a) x.toNatClampNeg y)) := e_iast dX0_measure_59 rfl ht hi
theorem wX0_measure_60 : E_ d mX0_measure 60 [.val (.ref a), s1, s2, s3] st h = E_ d mX0_measure 61 [.val (.ref a), s1, s2, s3] (.ref a :: st) h := e_go dX0_measure_60 rfl rfl
theorem wX0_measure_61 (ht : oT h a = 1) : E_ d mX0_measure 61 ls (.ref a :: st) h = E_ d mX0_measure 64 ls (va_rf (oR h a 0) :: st) h := e_getR dX0_measure_61 rfl rfl ht
theorem wX0_measure_64 (ht : oT h a = 2) : E_ d mX0_measure 64 ls (.ref a :: st) h = E_ d mX0_measure 67 ls (va_rf (oR h a 4) :: st) h := e_getR0 dX0_measure_64 rfl rfl ht
theorem wX0_measure_67 : E_ d mX0_measure 67 [s0, .val (.int x), s2, s3] st h = E_ d mX0_measure 68 [s0, .val (.int x), s2, s3] (.int x :: st) h := e_go dX0_measure_67 rfl rfl
theorem wX0_measure_68 : E_ d mX0_measure 68 [s0, s1, s2, .val (.int x)] st h = E_ d mX0_measure 69 [s0, s1, s2, .val (.int x)] (.int x :: st) h := e_go dX0_measure_68 rfl rfl
theorem wX0_measure_69 (ht : oT h a = 40) (hi : xix x (oN h a) = true) : E_ d mX0_measure 69 ls (.int y :: .int x :: .ref a :: st) h = E_ d mX0_measure 70 ls st (pI h a (va_up (oI h a) x.toNatClampNeg y)) := e_iast dX0_measure_69 rfl ht hi
theorem wX0_measure_70 : E_ d mX0_measure 70 ls st h = E_ d mX0_measure 71 ls (.int (nI 0) :: st) h := e_iconst dX0_measure_70 kiconst_0 rfl
theorem wX0_measure_71 : E_ d mX0_measure 71 ls [.int x] h = some (some (.int x), h) := e_rt dX0_measure_71 rfl rfl
/-! FootOut.spent -/
theorem wX0_spent_0 : E_ d mX0_spent 0 [s0, s1, .val (.int x), s3, s4, s5, s6, s7] st h = E_ d mX0_spent 1 [s0, s1, .val (.int x), s3, s4, s5, s6, s7] (.int x :: st) h := e_go dX0_spent_0 rfl rfl
theorem wX0_spent_1 : E_ d mX0_spent 1 ls st h = E_ d mX0_spent 2 ls (.int ((-1)) :: st) h := e_iconst dX0_spent_1 kiconst_m1 rfl
theorem wX0_spent_2 : E_ d mX0_spent 2 ls (.int y :: .int x :: st) h = if x = y then E_ d mX0_spent 26 ls st h else E_ d mX0_spent 5 ls st h := e_ieq dX0_spent_2 rfl rfl
theorem wX0_spent_5 : E_ d mX0_spent 5 [s0, s1, .val (.int x), s3, s4, s5, s6, s7] st h = E_ d mX0_spent 6 [s0, s1, .val (.int x), s3, s4, s5, s6, s7] (.int x :: st) h := e_go dX0_spent_5 rfl rfl
theorem wX0_spent_6 : E_ d mX0_spent 6 ls st h = E_ d mX0_spent 8 ls (.int (nI 20) :: st) h := e_bipush dX0_spent_6 kbipush_20 rfl
theorem wX0_spent_8 : E_ d mX0_spent 8 ls (.int y :: .int x :: st) h = if x = y then E_ d mX0_spent 26 ls st h else E_ d mX0_spent 11 ls st h := e_ieq dX0_spent_8 rfl rfl
theorem wX0_spent_11 : E_ d mX0_spent 11 [.val (.ref a), s1, s2, s3, s4, s5, s6, s7] st h = E_ d mX0_spent 12 [.val (.ref a), s1, s2, s3, s4, s5, s6, s7] (.ref a :: st) h := e_go dX0_spent_11 rfl rfl
theorem wX0_spent_12 : E_ d mX0_spent 12 [s0, s1, .val (.int x), s3, s4, s5, s6, s7] st h = E_ d mX0_spent 13 [s0, s1, .val (.int x), s3, s4, s5, s6, s7] (.int x :: st) h := e_go dX0_spent_12 rfl rfl
theorem wX0_spent_13 (ht : oT h a = 1) : E_ (d + 1) mX0_spent 13 ls [.int x1, .ref a] h = (C_ d mX0_isPlace [.ref a, .int x1] h).bind fun r => E_ (d + 1) mX0_spent 16 ls (xpu r.1 []) r.2 := e_vir dX0_spent_13 rfl rfl rfl rfl rfl rfl (Nat.le_of_ble_eq_true rfl) (Nat.le_of_ble_eq_true rfl) ht
theorem wX0_spent_16 : E_ d mX0_spent 16 ls (.int x :: st) h = if x = 0 then E_ d mX0_spent 19 ls st h else E_ d mX0_spent 26 ls st h := e_zne dX0_spent_16 rfl rfl
theorem wX0_spent_19 : E_ d mX0_spent 19 [.val (.ref a), s1, s2, s3, s4, s5, s6, s7] st h = E_ d mX0_spent 20 [.val (.ref a), s1, s2, s3, s4, s5, s6, s7] (.ref a :: st) h := e_go dX0_spent_19 rfl rfl
theorem wX0_spent_20 : E_ d mX0_spent 20 ls st h = E_ d mX0_spent 22 ls (.int ((-2)) :: st) h := e_bipush dX0_spent_20 kbipush_m2 rfl
theorem wX0_spent_22 (ht : oT h a = 1) : E_ (d + 1) mX0_spent 22 ls [.int x1, .ref a] h = (C_ d mX0_no [.ref a, .int x1] h).bind fun r => E_ (d + 1) mX0_spent 25 ls (xpu r.1 []) r.2 := e_vir dX0_spent_22 rfl rfl rfl rfl rfl rfl (Nat.le_of_ble_eq_true rfl) (Nat.le_of_ble_eq_true rfl) ht
theorem wX0_spent_25 : E_ d mX0_spent 25 ls [.int x] h = some (some (.int x), h) := e_rt dX0_spent_25 rfl rfl
theorem wX0_spent_26 : E_ d mX0_spent 26 [s0, .val (.int x), s2, s3, s4, s5, s6, s7] st h = E_ d mX0_spent 27 [s0, .val (.int x), s2, s3, s4, s5, s6, s7] (.int x :: st) h := e_go dX0_spent_26 rfl rfl
theorem wX0_spent_27 : E_ d mX0_spent 27 ls (.int x :: st) h = E_ d mX0_spent 28 ls (.long x.toInt64 :: st) h := e_go dX0_spent_27 rfl rfl
theorem wX0_spent_28 : E_ d mX0_spent 28 ls st h = E_ d mX0_spent 29 ls (.long 0 :: st) h := e_go dX0_spent_28 rfl rfl
theorem wX0_spent_29 : E_ d mX0_spent 29 ls st h = E_ d mX0_spent 32 ls (.long (999) :: st) h := e_go dX0_spent_29 rfl rfl
theorem wX0_spent_32 : E_ (d + 1) mX0_spent 32 ls [.long u3, .long u2, .long u1] h = (C_ d mX0_in [.long u1, .long u2, .long u3] h).bind fun r => E_ (d + 1) mX0_spent 35 ls (xpu r.1 []) r.2 := e_call dX0_spent_32 rfl rfl
theorem wX0_spent_35 : E_ d mX0_spent 35 ls (.int x :: st) h = if x = 0 then E_ d mX0_spent 38 ls st h else E_ d mX0_spent 45 ls st h := e_zne dX0_spent_35 rfl rfl
theorem wX0_spent_38 : E_ d mX0_spent 38 [.val (.ref a), s1, s2, s3, s4, s5, s6, s7] st h = E_ d mX0_spent 39 [.val (.ref a), s1, s2, s3, s4, s5, s6, s7] (.ref a :: st) h := e_go dX0_spent_38 rfl rfl
theorem wX0_spent_39 : E_ d mX0_spent 39 ls st h = E_ d mX0_spent 41 ls (.int ((-3)) :: st) h := e_bipush dX0_spent_39 kbipush_m3 rfl
theorem wX0_spent_41 (ht : oT h a = 1) : E_ (d + 1) mX0_spent 41 ls [.int x1, .ref a] h = (C_ d mX0_no [.ref a, .int x1] h).bind fun r => E_ (d + 1) mX0_spent 44 ls (xpu r.1 []) r.2 := e_vir dX0_spent_41 rfl rfl rfl rfl rfl rfl (Nat.le_of_ble_eq_true rfl) (Nat.le_of_ble_eq_true rfl) ht
theorem wX0_spent_44 : E_ d mX0_spent 44 ls [.int x] h = some (some (.int x), h) := e_rt dX0_spent_44 rfl rfl
theorem wX0_spent_45 : E_ d mX0_spent 45 [.val (.ref a), s1, s2, s3, s4, s5, s6, s7] st h = E_ d mX0_spent 46 [.val (.ref a), s1, s2, s3, s4, s5, s6, s7] (.ref a :: st) h := e_go dX0_spent_45 rfl rfl
theorem wX0_spent_46 : E_ d mX0_spent 46 [s0, .val (.int x), s2, s3, s4, s5, s6, s7] st h = E_ d mX0_spent 47 [s0, .val (.int x), s2, s3, s4, s5, s6, s7] (.int x :: st) h := e_go dX0_spent_46 rfl rfl
theorem wX0_spent_47 (ht : oT h a = 1) : E_ (d + 1) mX0_spent 47 ls [.int x1, .ref a] h = (C_ d mX0_laysSpent [.ref a, .int x1] h).bind fun r => E_ (d + 1) mX0_spent 50 ls (xpu r.1 []) r.2 := e_vir dX0_spent_47 rfl rfl rfl rfl rfl rfl (Nat.le_of_ble_eq_true rfl) (Nat.le_of_ble_eq_true rfl) ht
theorem wX0_spent_50 : E_ d mX0_spent 50 [.val (.ref a), s1, s2, s3, s4, s5, s6, s7] st h = E_ d mX0_spent 51 [.val (.ref a), s1, s2, s3, s4, s5, s6, s7] (.ref a :: st) h := e_go dX0_spent_50 rfl rfl
theorem wX0_spent_51 (ht : oT h a = 1) : E_ d mX0_spent 51 ls (.ref a :: st) h = E_ d mX0_spent 54 ls (va_rf (oR h a 13) :: st) h := e_getR0 dX0_spent_51 rfl rfl ht
theorem wX0_spent_54 : E_ d mX0_spent 54 [s0, .val (.int x), s2, s3, s4, s5, s6, s7] st h = E_ d mX0_spent 55 [s0, .val (.int x), s2, s3, s4, s5, s6, s7] (.int x :: st) h := e_go dX0_spent_54 rfl rfl
theorem wX0_spent_55 (ht : oT h a = 44) (hi : xix x (oN h a) = true) : E_ d mX0_spent 55 ls (.int x :: .ref a :: st) h = E_ d mX0_spent 56 ls (.long (oL h a x.toNatClampNeg) :: st) h := e_lald dX0_spent_55 rfl ht hi
theorem wX0_spent_56 : E_ d mX0_spent 56 [s0, s1, s2, s3, s4, s5, s6, s7] (.long u :: st) h = E_ d mX0_spent 57 [s0, s1, xk s2, .val (.long u), .unset, s5, s6, s7] st h := e_go dX0_spent_56 rfl rfl
theorem wX0_spent_57 : E_ d mX0_spent 57 [s0, s1, .val (.int x), s3, s4, s5, s6, s7] st h = E_ d mX0_spent 58 [s0, s1, .val (.int x), s3, s4, s5, s6, s7] (.int x :: st) h := e_go dX0_spent_57 rfl rfl
theorem wX0_spent_58 : E_ d mX0_spent 58 ls st h = E_ d mX0_spent 59 ls (.int ((-1)) :: st) h := e_iconst dX0_spent_58 kiconst_m1 rfl
theorem wX0_spent_59 : E_ d mX0_spent 59 ls (.int y :: .int x :: st) h = if x = y then E_ d mX0_spent 62 ls st h else E_ d mX0_spent 69 ls st h := e_ine dX0_spent_59 rfl rfl
theorem wX0_spent_62 : E_ d mX0_spent 62 [s0, s1, s2, .val (.long u), s4, s5, s6, s7] st h = E_ d mX0_spent 63 [s0, s1, s2, .val (.long u), s4, s5, s6, s7] (.long u :: st) h := e_go dX0_spent_62 rfl rfl
theorem wX0_spent_63 : E_ d mX0_spent 63 ls st h = E_ d mX0_spent 66 ls (.long (10000) :: st) h := e_go dX0_spent_63 rfl rfl
theorem wX0_spent_66 (hy : ¬ v = 0) : E_ d mX0_spent 66 ls (.long v :: .long u :: st) h = E_ d mX0_spent 67 ls (.long (u / v) :: st) h := e_ldiv dX0_spent_66 rfl hy
theorem wX0_spent_67 : E_ d mX0_spent 67 ls (.long u :: st) h = E_ d mX0_spent 68 ls (.int u.toInt32 :: st) h := e_go dX0_spent_67 rfl rfl
theorem wX0_spent_68 : E_ d mX0_spent 68 ls [.int x] h = some (some (.int x), h) := e_rt dX0_spent_68 rfl rfl
theorem wX0_spent_69 : E_ d mX0_spent 69 [s0, s1, .val (.int x), s3, s4, s5, s6, s7] st h = E_ d mX0_spent 70 [s0, s1, .val (.int x), s3, s4, s5, s6, s7] (.int x :: st) h := e_go dX0_spent_69 rfl rfl
theorem wX0_spent_70 : E_ d mX0_spent 70 ls st h = E_ d mX0_spent 72 ls (.int (nI 20) :: st) h := e_bipush dX0_spent_70 kbipush_20 rfl
theorem wX0_spent_72 : E_ d mX0_spent 72 ls (.int y :: .int x :: st) h = if x = y then E_ d mX0_spent 75 ls st h else E_ d mX0_spent 82 ls st h := e_ine dX0_spent_72 rfl rfl
theorem wX0_spent_75 : E_ d mX0_spent 75 [s0, s1, s2, .val (.long u), s4, s5, s6, s7] st h = E_ d mX0_spent 76 [s0, s1, s2, .val (.long u), s4, s5, s6, s7] (.long u :: st) h := e_go dX0_spent_75 rfl rfl
theorem wX0_spent_76 : E_ d mX0_spent 76 ls st h = E_ d mX0_spent 79 ls (.long (10000) :: st) h := e_go dX0_spent_76 rfl rfl
theorem wX0_spent_79 (hy : ¬ v = 0) : E_ d mX0_spent 79 ls (.long v :: .long u :: st) h = E_ d mX0_spent 80 ls (.long (u - u / v * v) :: st) h := e_lrem dX0_spent_79 rfl hy
theorem wX0_spent_80 : E_ d mX0_spent 80 ls (.long u :: st) h = E_ d mX0_spent 81 ls (.int u.toInt32 :: st) h := e_go dX0_spent_80 rfl rfl
theorem wX0_spent_81 : E_ d mX0_spent 81 ls [.int x] h = some (some (.int x), h) := e_rt dX0_spent_81 rfl rfl
theorem wX0_spent_82 : E_ d mX0_spent 82 [s0, .val (.int x), s2, s3, s4, s5, s6, s7] st h = E_ d mX0_spent 83 [s0, .val (.int x), s2, s3, s4, s5, s6, s7] (.int x :: st) h := e_go dX0_spent_82 rfl rfl
theorem wX0_spent_83 : E_ d mX0_spent 83 [s0, s1, s2, s3, s4, s5, s6, s7] (.int x :: st) h = E_ d mX0_spent 85 [s0, s1, s2, s3, xk s4, .val (.int x), s6, s7] st h := e_go dX0_spent_83 rfl rfl
theorem wX0_spent_85 : E_ d mX0_spent 85 ls st h = E_ d mX0_spent 86 ls (.int (nI 0) :: st) h := e_iconst dX0_spent_85 kiconst_0 rfl
theorem wX0_spent_86 : E_ d mX0_spent 86 [s0, s1, s2, s3, s4, s5, s6, s7] (.int x :: st) h = E_ d mX0_spent 88 [s0, s1, s2, s3, s4, xk s5, .val (.int x), s7] st h := e_go dX0_spent_86 rfl rfl
theorem wX0_spent_88 : E_ d mX0_spent 88 ls st h = E_ d mX0_spent 89 ls (.int (nI 0) :: st) h := e_iconst dX0_spent_88 kiconst_0 rfl
theorem wX0_spent_89 : E_ d mX0_spent 89 [s0, s1, s2, s3, s4, s5, s6, s7] (.int x :: st) h = E_ d mX0_spent 91 [s0, s1, s2, s3, s4, s5, xk s6, .val (.int x)] st h := e_go dX0_spent_89 rfl rfl
theorem wX0_spent_91 : E_ d mX0_spent 91 [s0, s1, s2, s3, s4, s5, s6, .val (.int x)] st h = E_ d mX0_spent 93 [s0, s1, s2, s3, s4, s5, s6, .val (.int x)] (.int x :: st) h := e_go dX0_spent_91 rfl rfl
theorem wX0_spent_93 : E_ d mX0_spent 93 [s0, s1, .val (.int x), s3, s4, s5, s6, s7] st h = E_ d mX0_spent 94 [s0, s1, .val (.int x), s3, s4, s5, s6, s7] (.int x :: st) h := e_go dX0_spent_93 rfl rfl
theorem wX0_spent_94 : E_ d mX0_spent 94 ls (.int y :: .int x :: st) h = if y < x then E_ d mX0_spent 162 ls st h else E_ d mX0_spent 97 ls st h := e_igt dX0_spent_94 rfl rfl
theorem wX0_spent_97 : E_ d mX0_spent 97 ls st h = E_ d mX0_spent 98 ls (.int (nI 0) :: st) h := e_iconst dX0_spent_97 kiconst_0 rfl
theorem wX0_spent_98 : E_ d mX0_spent 98 [s0, s1, s2, s3, s4, s5, s6, s7] (.int x :: st) h = E_ d mX0_spent 100 [s0, s1, s2, s3, s4, xk s5, .val (.int x), s7] st h := e_go dX0_spent_98 rfl rfl
theorem wX0_spent_100 : E_ d mX0_spent 100 [.val (.ref a), s1, s2, s3, s4, s5, s6, s7] st h = E_ d mX0_spent 101 [.val (.ref a), s1, s2, s3, s4, s5, s6, s7] (.ref a :: st) h := e_go dX0_spent_100 rfl rfl
theorem wX0_spent_101 : E_ d mX0_spent 101 [s0, s1, s2, s3, s4, s5, .val (.int x), s7] st h = E_ d mX0_spent 103 [s0, s1, s2, s3, s4, s5, .val (.int x), s7] (.int x :: st) h := e_go dX0_spent_101 rfl rfl
theorem wX0_spent_103 (ht : oT h a = 1) : E_ (d + 1) mX0_spent 103 ls [.int x1, .ref a] h = (C_ d mX0_costOf [.ref a, .int x1] h).bind fun r => E_ (d + 1) mX0_spent 106 ls (xpu r.1 []) r.2 := e_vir dX0_spent_103 rfl rfl rfl rfl rfl rfl (Nat.le_of_ble_eq_true rfl) (Nat.le_of_ble_eq_true rfl) ht
theorem wX0_spent_106 : E_ d mX0_spent 106 [s0, s1, s2, s3, s4, .val (.int x), s6, s7] st h = E_ d mX0_spent 108 [s0, s1, s2, s3, s4, .val (.int x), s6, s7] (.int x :: st) h := e_go dX0_spent_106 rfl rfl
theorem wX0_spent_108 : E_ d mX0_spent 108 ls (.int y :: .int x :: st) h = if y < x then E_ d mX0_spent 139 ls st h else E_ d mX0_spent 111 ls st h := e_igt dX0_spent_108 rfl rfl
theorem wX0_spent_111 : E_ d mX0_spent 111 [.val (.ref a), s1, s2, s3, s4, s5, s6, s7] st h = E_ d mX0_spent 112 [.val (.ref a), s1, s2, s3, s4, s5, s6, s7] (.ref a :: st) h := e_go dX0_spent_111 rfl rfl
theorem wX0_spent_112 : E_ d mX0_spent 112 [s0, s1, s2, s3, s4, s5, s6, .val (.int x)] st h = E_ d mX0_spent 114 [s0, s1, s2, s3, s4, s5, s6, .val (.int x)] (.int x :: st) h := e_go dX0_spent_112 rfl rfl
theorem wX0_spent_114 : E_ d mX0_spent 114 [s0, s1, s2, s3, s4, .val (.int x), s6, s7] st h = E_ d mX0_spent 116 [s0, s1, s2, s3, s4, .val (.int x), s6, s7] (.int x :: st) h := e_go dX0_spent_114 rfl rfl
theorem wX0_spent_116 : E_ d mX0_spent 116 [s0, s1, s2, s3, s4, s5, .val (.int x), s7] st h = E_ d mX0_spent 118 [s0, s1, s2, s3, s4, s5, .val (.int x), s7] (.int x :: st) h := e_go dX0_spent_116 rfl rfl
theorem wX0_spent_118 (ht : oT h a = 1) : E_ (d + 1) mX0_spent 118 ls [.int x3, .int x2, .int x1, .ref a] h = (C_ d mX0_spends [.ref a, .int x1, .int x2, .int x3] h).bind fun r => E_ (d + 1) mX0_spent 121 ls (xpu r.1 []) r.2 := e_vir dX0_spent_118 rfl rfl rfl rfl rfl rfl (Nat.le_of_ble_eq_true rfl) (Nat.le_of_ble_eq_true rfl) ht
theorem wX0_spent_121 : E_ d mX0_spent 121 [.val (.ref a), s1, s2, s3, s4, s5, s6, s7] st h = E_ d mX0_spent 122 [.val (.ref a), s1, s2, s3, s4, s5, s6, s7] (.ref a :: st) h := e_go dX0_spent_121 rfl rfl
theorem wX0_spent_122 (ht : oT h a = 1) : E_ d mX0_spent 122 ls (.ref a :: st) h = E_ d mX0_spent 125 ls (va_rf (oR h a 13) :: st) h := e_getR0 dX0_spent_122 rfl rfl ht
theorem wX0_spent_125 : E_ d mX0_spent 125 ls st h = E_ d mX0_spent 128 ls (.int (nI 1000) :: st) h := e_sipush dX0_spent_125 ksipush_1000 rfl
theorem wX0_spent_128 : E_ d mX0_spent 128 [s0, s1, s2, s3, s4, s5, s6, .val (.int x)] st h = E_ d mX0_spent 130 [s0, s1, s2, s3, s4, s5, s6, .val (.int x)] (.int x :: st) h := e_go dX0_spent_128 rfl rfl
theorem wX0_spent_130 : E_ d mX0_spent 130 ls (.int y :: .int x :: st) h = E_ d mX0_spent 131 ls (.int (x * y) :: st) h := e_go dX0_spent_130 rfl rfl
theorem wX0_spent_131 : E_ d mX0_spent 131 [s0, s1, s2, s3, s4, .val (.int x), s6, s7] st h = E_ d mX0_spent 133 [s0, s1, s2, s3, s4, .val (.int x), s6, s7] (.int x :: st) h := e_go dX0_spent_131 rfl rfl
theorem wX0_spent_133 : E_ d mX0_spent 133 ls (.int y :: .int x :: st) h = E_ d mX0_spent 134 ls (.int (x + y) :: st) h := e_go dX0_spent_133 rfl rfl
theorem wX0_spent_134 (ht : oT h a = 44) (hi : xix x (oN h a) = true) : E_ d mX0_spent 134 ls (.int x :: .ref a :: st) h = E_ d mX0_spent 135 ls (.long (oL h a x.toNatClampNeg) :: st) h := e_lald dX0_spent_134 rfl ht hi
theorem wX0_spent_135 : E_ d mX0_spent 135 ls (.long v :: .long u :: st) h = E_ d mX0_spent 136 ls (.int (lg_cmp u v) :: st) h := e_go dX0_spent_135 rfl rfl
theorem wX0_spent_136 : E_ d mX0_spent 136 ls (.int x :: st) h = if x = 0 then E_ d mX0_spent 145 ls st h else E_ d mX0_spent 139 ls st h := e_zeq dX0_spent_136 rfl rfl
theorem wX0_spent_139 : E_ d mX0_spent 139 [s0, s1, s2, s3, s4, s5, .val (.int x), s7] st h = E_ d mX0_spent 142 [s0, s1, s2, s3, s4, xk s5, .val (.int (x + nI 1)), s7] st h := by rw [← kiinc_1]; exact e_go dX0_spent_139 rfl rfl
theorem wX0_spent_142 : E_ d mX0_spent 142 ls st h = E_ d mX0_spent 100 ls st h := e_gt dX0_spent_142 rfl
theorem wX0_spent_145 : E_ d mX0_spent 145 [s0, s1, s2, s3, s4, .val (.int x), s6, s7] st h = E_ d mX0_spent 147 [s0, s1, s2, s3, s4, .val (.int x), s6, s7] (.int x :: st) h := e_go dX0_spent_145 rfl rfl
theorem wX0_spent_147 : E_ d mX0_spent 147 [.val (.ref a), s1, s2, s3, s4, s5, s6, s7] st h = E_ d mX0_spent 148 [.val (.ref a), s1, s2, s3, s4, s5, s6, s7] (.ref a :: st) h := e_go dX0_spent_147 rfl rfl
theorem wX0_spent_148 : E_ d mX0_spent 148 [s0, s1, s2, s3, s4, s5, .val (.int x), s7] st h = E_ d mX0_spent 150 [s0, s1, s2, s3, s4, s5, .val (.int x), s7] (.int x :: st) h := e_go dX0_spent_148 rfl rfl
theorem wX0_spent_150 (ht : oT h a = 1) : E_ (d + 1) mX0_spent 150 ls [.int x1, .ref a, .int x2] h = (C_ d mX0_costOf [.ref a, .int x1] h).bind fun r => E_ (d + 1) mX0_spent 153 ls (xpu r.1 [.int x2]) r.2 := e_vir dX0_spent_150 rfl rfl rfl rfl rfl rfl (Nat.le_of_ble_eq_true rfl) (Nat.le_of_ble_eq_true rfl) ht
theorem wX0_spent_153 : E_ d mX0_spent 153 ls (.int y :: .int x :: st) h = E_ d mX0_spent 154 ls (.int (x - y) :: st) h := e_go dX0_spent_153 rfl rfl
theorem wX0_spent_154 : E_ d mX0_spent 154 [s0, s1, s2, s3, s4, s5, s6, s7] (.int x :: st) h = E_ d mX0_spent 156 [s0, s1, s2, s3, xk s4, .val (.int x), s6, s7] st h := e_go dX0_spent_154 rfl rfl
theorem wX0_spent_156 : E_ d mX0_spent 156 [s0, s1, s2, s3, s4, s5, s6, .val (.int x)] st h = E_ d mX0_spent 159 [s0, s1, s2, s3, s4, s5, xk s6, .val (.int (x + nI 1))] st h := by rw [← kiinc_1]; exact e_go dX0_spent_156 rfl rfl
theorem wX0_spent_159 : E_ d mX0_spent 159 ls st h = E_ d mX0_spent 91 ls st h := e_gt dX0_spent_159 rfl
theorem wX0_spent_162 : E_ d mX0_spent 162 [s0, s1, s2, s3, s4, s5, .val (.int x), s7] st h = E_ d mX0_spent 164 [s0, s1, s2, s3, s4, s5, .val (.int x), s7] (.int x :: st) h := e_go dX0_spent_162 rfl rfl
theorem wX0_spent_164 : E_ d mX0_spent 164 ls [.int x] h = some (some (.int x), h) := e_rt dX0_spent_164 rfl rfl
/-! FootOut.laysSpent -/
theorem wX0_laysSpent_0 : E_ d mX0_laysSpent 0 [.val (.ref a), s1, s2, s3, s4, s5, s6, s7] st h = E_ d mX0_laysSpent 1 [.val (.ref a), s1, s2, s3, s4, s5, s6, s7] (.ref a :: st) h := e_go dX0_laysSpent_0 rfl rfl
theorem wX0_laysSpent_1 (ht : oT h a = 1) : E_ d mX0_laysSpent 1 ls (.ref a :: st) h = E_ d mX0_laysSpent 4 ls (va_rf (oR h a 0) :: st) h := e_getR dX0_laysSpent_1 rfl rfl ht
theorem wX0_laysSpent_4 (ht : oT h a = 2) : E_ d mX0_laysSpent 4 ls (.ref a :: st) h = E_ d mX0_laysSpent 7 ls (va_rf (oR h a 2) :: st) h := e_getR0 dX0_laysSpent_4 rfl rfl ht
theorem wX0_laysSpent_7 (ht : oT h a = 4) : E_ (d + 1) mX0_laysSpent 7 ls [.ref a] h = (C_ d mJ2_size [.ref a] h).bind fun r => E_ (d + 1) mX0_laysSpent 10 ls (xpu r.1 []) r.2 := e_vir dX0_laysSpent_7 rfl rfl rfl rfl rfl rfl (Nat.le_of_ble_eq_true rfl) (Nat.le_of_ble_eq_true rfl) ht
theorem wX0_laysSpent_10 : E_ d mX0_laysSpent 10 [s0, s1, s2, s3, s4, s5, s6, s7] (.int x :: st) h = E_ d mX0_laysSpent 11 [s0, xk s1, .val (.int x), s3, s4, s5, s6, s7] st h := e_go dX0_laysSpent_10 rfl rfl
theorem wX0_laysSpent_11 : E_ d mX0_laysSpent 11 ls st h = E_ d mX0_laysSpent 12 ls (.int (nI 0) :: st) h := e_iconst dX0_laysSpent_11 kiconst_0 rfl
theorem wX0_laysSpent_12 : E_ d mX0_laysSpent 12 [s0, s1, s2, s3, s4, s5, s6, s7] (.int x :: st) h = E_ d mX0_laysSpent 13 [s0, s1, xk s2, .val (.int x), s4, s5, s6, s7] st h := e_go dX0_laysSpent_12 rfl rfl
theorem wX0_laysSpent_13 : E_ d mX0_laysSpent 13 [s0, s1, s2, .val (.int x), s4, s5, s6, s7] st h = E_ d mX0_laysSpent 14 [s0, s1, s2, .val (.int x), s4, s5, s6, s7] (.int x :: st) h := e_go dX0_laysSpent_13 rfl rfl
theorem wX0_laysSpent_14 : E_ d mX0_laysSpent 14 [s0, .val (.int x), s2, s3, s4, s5, s6, s7] st h = E_ d mX0_laysSpent 15 [s0, .val (.int x), s2, s3, s4, s5, s6, s7] (.int x :: st) h := e_go dX0_laysSpent_14 rfl rfl
theorem wX0_laysSpent_15 : E_ d mX0_laysSpent 15 ls (.int y :: .int x :: st) h = if y < x then E_ d mX0_laysSpent 37 ls st h else E_ d mX0_laysSpent 18 ls st h := e_igt dX0_laysSpent_15 rfl rfl
theorem wX0_laysSpent_18 : E_ d mX0_laysSpent 18 [.val (.ref a), s1, s2, s3, s4, s5, s6, s7] st h = E_ d mX0_laysSpent 19 [.val (.ref a), s1, s2, s3, s4, s5, s6, s7] (.ref a :: st) h := e_go dX0_laysSpent_18 rfl rfl
theorem wX0_laysSpent_19 (ht : oT h a = 1) : E_ d mX0_laysSpent 19 ls (.ref a :: st) h = E_ d mX0_laysSpent 22 ls (va_rf (oR h a 13) :: st) h := e_getR0 dX0_laysSpent_19 rfl rfl ht
theorem wX0_laysSpent_22 : E_ d mX0_laysSpent 22 ls st h = E_ d mX0_laysSpent 25 ls (.int (nI 1000) :: st) h := e_sipush dX0_laysSpent_22 ksipush_1000 rfl
theorem wX0_laysSpent_25 : E_ d mX0_laysSpent 25 [s0, s1, .val (.int x), s3, s4, s5, s6, s7] st h = E_ d mX0_laysSpent 26 [s0, s1, .val (.int x), s3, s4, s5, s6, s7] (.int x :: st) h := e_go dX0_laysSpent_25 rfl rfl
theorem wX0_laysSpent_26 : E_ d mX0_laysSpent 26 ls (.int y :: .int x :: st) h = E_ d mX0_laysSpent 27 ls (.int (x * y) :: st) h := e_go dX0_laysSpent_26 rfl rfl
theorem wX0_laysSpent_27 : E_ d mX0_laysSpent 27 [s0, s1, s2, .val (.int x), s4, s5, s6, s7] st h = E_ d mX0_laysSpent 28 [s0, s1, s2, .val (.int x), s4, s5, s6, s7] (.int x :: st) h := e_go dX0_laysSpent_27 rfl rfl
theorem wX0_laysSpent_28 : E_ d mX0_laysSpent 28 ls (.int y :: .int x :: st) h = E_ d mX0_laysSpent 29 ls (.int (x + y) :: st) h := e_go dX0_laysSpent_28 rfl rfl
theorem wX0_laysSpent_29 : E_ d mX0_laysSpent 29 ls st h = E_ d mX0_laysSpent 30 ls (.long 0 :: st) h := e_go dX0_laysSpent_29 rfl rfl
theorem wX0_laysSpent_30 (ht : oT h a = 44) (hi : xix x (oN h a) = true) : E_ d mX0_laysSpent 30 ls (.long u :: .int x :: .ref a :: st) h = E_ d mX0_laysSpent 31 ls st (pL h a (va_up (oL h a) x.toNatClampNeg u)) := e_last dX0_laysSpent_30 rfl ht hi
theorem wX0_laysSpent_31 : E_ d mX0_laysSpent 31 [s0, s1, s2, .val (.int x), s4, s5, s6, s7] st h = E_ d mX0_laysSpent 34 [s0, s1, xk s2, .val (.int (x + nI 1)), s4, s5, s6, s7] st h := by rw [← kiinc_1]; exact e_go dX0_laysSpent_31 rfl rfl
theorem wX0_laysSpent_34 : E_ d mX0_laysSpent 34 ls st h = E_ d mX0_laysSpent 13 ls st h := e_gt dX0_laysSpent_34 rfl
theorem wX0_laysSpent_37 : E_ d mX0_laysSpent 37 [s0, s1, .val (.int x), s3, s4, s5, s6, s7] st h = E_ d mX0_laysSpent 38 [s0, s1, .val (.int x), s3, s4, s5, s6, s7] (.int x :: st) h := e_go dX0_laysSpent_37 rfl rfl
theorem wX0_laysSpent_38 : E_ d mX0_laysSpent 38 ls st h = E_ d mX0_laysSpent 39 ls (.int (nI 1) :: st) h := e_iconst dX0_laysSpent_38 kiconst_1 rfl
theorem wX0_laysSpent_39 : E_ d mX0_laysSpent 39 ls (.int y :: .int x :: st) h = E_ d mX0_laysSpent 40 ls (.int (x - y) :: st) h := e_go dX0_laysSpent_39 rfl rfl
theorem wX0_laysSpent_40 : E_ d mX0_laysSpent 40 [s0, s1, s2, s3, s4, s5, s6, s7] (.int x :: st) h = E_ d mX0_laysSpent 41 [s0, s1, xk s2, .val (.int x), s4, s5, s6, s7] st h := e_go dX0_laysSpent_40 rfl rfl
theorem wX0_laysSpent_41 : E_ d mX0_laysSpent 41 [s0, s1, s2, .val (.int x), s4, s5, s6, s7] st h = E_ d mX0_laysSpent 42 [s0, s1, s2, .val (.int x), s4, s5, s6, s7] (.int x :: st) h := e_go dX0_laysSpent_41 rfl rfl
theorem wX0_laysSpent_42 : E_ d mX0_laysSpent 42 ls (.int x :: st) h = if x < 0 then E_ d mX0_laysSpent 134 ls st h else E_ d mX0_laysSpent 45 ls st h := e_zlt dX0_laysSpent_42 rfl rfl
theorem wX0_laysSpent_45 : E_ d mX0_laysSpent 45 ls st h = E_ d mX0_laysSpent 46 ls (.int (nI 0) :: st) h := e_iconst dX0_laysSpent_45 kiconst_0 rfl
theorem wX0_laysSpent_46 : E_ d mX0_laysSpent 46 [s0, s1, s2, s3, s4, s5, s6, s7] (.int x :: st) h = E_ d mX0_laysSpent 48 [s0, s1, s2, xk s3, .val (.int x), s5, s6, s7] st h := e_go dX0_laysSpent_46 rfl rfl
theorem wX0_laysSpent_48 : E_ d mX0_laysSpent 48 [s0, s1, s2, s3, .val (.int x), s5, s6, s7] st h = E_ d mX0_laysSpent 50 [s0, s1, s2, s3, .val (.int x), s5, s6, s7] (.int x :: st) h := e_go dX0_laysSpent_48 rfl rfl
theorem wX0_laysSpent_50 : E_ d mX0_laysSpent 50 [s0, .val (.int x), s2, s3, s4, s5, s6, s7] st h = E_ d mX0_laysSpent 51 [s0, .val (.int x), s2, s3, s4, s5, s6, s7] (.int x :: st) h := e_go dX0_laysSpent_50 rfl rfl
theorem wX0_laysSpent_51 : E_ d mX0_laysSpent 51 ls (.int y :: .int x :: st) h = if y < x then E_ d mX0_laysSpent 128 ls st h else E_ d mX0_laysSpent 54 ls st h := e_igt dX0_laysSpent_51 rfl rfl
theorem wX0_laysSpent_54 : E_ d mX0_laysSpent 54 [.val (.ref a), s1, s2, s3, s4, s5, s6, s7] st h = E_ d mX0_laysSpent 55 [.val (.ref a), s1, s2, s3, s4, s5, s6, s7] (.ref a :: st) h := e_go dX0_laysSpent_54 rfl rfl
theorem wX0_laysSpent_55 : E_ d mX0_laysSpent 55 [s0, s1, s2, .val (.int x), s4, s5, s6, s7] st h = E_ d mX0_laysSpent 56 [s0, s1, s2, .val (.int x), s4, s5, s6, s7] (.int x :: st) h := e_go dX0_laysSpent_55 rfl rfl
theorem wX0_laysSpent_56 : E_ d mX0_laysSpent 56 [s0, s1, s2, s3, .val (.int x), s5, s6, s7] st h = E_ d mX0_laysSpent 58 [s0, s1, s2, s3, .val (.int x), s5, s6, s7] (.int x :: st) h := e_go dX0_laysSpent_56 rfl rfl
theorem wX0_laysSpent_58 : E_ d mX0_laysSpent 58 ls st h = E_ d mX0_laysSpent 59 ls (.int (nI 0) :: st) h := e_iconst dX0_laysSpent_58 kiconst_0 rfl
theorem wX0_laysSpent_59 (ht : oT h a = 1) : E_ (d + 1) mX0_laysSpent 59 ls [.int x3, .int x2, .int x1, .ref a] h = (C_ d mX0_spends [.ref a, .int x1, .int x2, .int x3] h).bind fun r => E_ (d + 1) mX0_laysSpent 62 ls (xpu r.1 []) r.2 := e_vir dX0_laysSpent_59 rfl rfl rfl rfl rfl rfl (Nat.le_of_ble_eq_true rfl) (Nat.le_of_ble_eq_true rfl) ht
theorem wX0_laysSpent_62 : E_ d mX0_laysSpent 62 [s0, s1, s2, s3, s4, s5, s6, s7] (.long u :: st) h = E_ d mX0_laysSpent 64 [s0, s1, s2, s3, xk s4, .val (.long u), .unset, s7] st h := e_go dX0_laysSpent_62 rfl rfl
theorem wX0_laysSpent_64 : E_ d mX0_laysSpent 64 ls st h = E_ d mX0_laysSpent 65 ls (.int (nI 1) :: st) h := e_iconst dX0_laysSpent_64 kiconst_1 rfl
theorem wX0_laysSpent_65 : E_ d mX0_laysSpent 65 [s0, s1, s2, s3, s4, s5, s6, s7] (.int x :: st) h = E_ d mX0_laysSpent 67 [s0, s1, s2, s3, s4, s5, xk s6, .val (.int x)] st h := e_go dX0_laysSpent_65 rfl rfl
theorem wX0_laysSpent_67 : E_ d mX0_laysSpent 67 [s0, s1, s2, s3, s4, s5, s6, .val (.int x)] st h = E_ d mX0_laysSpent 69 [s0, s1, s2, s3, s4, s5, s6, .val (.int x)] (.int x :: st) h := e_go dX0_laysSpent_67 rfl rfl
theorem wX0_laysSpent_69 : E_ d mX0_laysSpent 69 ls st h = E_ d mX0_laysSpent 71 ls (.int (nI 16) :: st) h := e_bipush dX0_laysSpent_69 kbipush_16 rfl
theorem wX0_laysSpent_71 : E_ d mX0_laysSpent 71 ls (.int y :: .int x :: st) h = if x < y then E_ d mX0_laysSpent 74 ls st h else E_ d mX0_laysSpent 107 ls st h := e_ige dX0_laysSpent_71 rfl rfl
theorem wX0_laysSpent_74 : E_ d mX0_laysSpent 74 [.val (.ref a), s1, s2, s3, s4, s5, s6, s7] st h = E_ d mX0_laysSpent 75 [.val (.ref a), s1, s2, s3, s4, s5, s6, s7] (.ref a :: st) h := e_go dX0_laysSpent_74 rfl rfl
theorem wX0_laysSpent_75 : E_ d mX0_laysSpent 75 [s0, s1, s2, s3, s4, s5, s6, .val (.int x)] st h = E_ d mX0_laysSpent 77 [s0, s1, s2, s3, s4, s5, s6, .val (.int x)] (.int x :: st) h := e_go dX0_laysSpent_75 rfl rfl
theorem wX0_laysSpent_77 (ht : oT h a = 1) : E_ (d + 1) mX0_laysSpent 77 ls [.int x1, .ref a] h = (C_ d mX0_costOf [.ref a, .int x1] h).bind fun r => E_ (d + 1) mX0_laysSpent 80 ls (xpu r.1 []) r.2 := e_vir dX0_laysSpent_77 rfl rfl rfl rfl rfl rfl (Nat.le_of_ble_eq_true rfl) (Nat.le_of_ble_eq_true rfl) ht
theorem wX0_laysSpent_80 : E_ d mX0_laysSpent 80 [s0, s1, s2, s3, .val (.int x), s5, s6, s7] st h = E_ d mX0_laysSpent 82 [s0, s1, s2, s3, .val (.int x), s5, s6, s7] (.int x :: st) h := e_go dX0_laysSpent_80 rfl rfl
theorem wX0_laysSpent_82 : E_ d mX0_laysSpent 82 ls (.int y :: .int x :: st) h = if y < x then E_ d mX0_laysSpent 101 ls st h else E_ d mX0_laysSpent 85 ls st h := e_igt dX0_laysSpent_82 rfl rfl
theorem wX0_laysSpent_85 : E_ d mX0_laysSpent 85 [s0, s1, s2, s3, s4, .val (.long u), s6, s7] st h = E_ d mX0_laysSpent 87 [s0, s1, s2, s3, s4, .val (.long u), s6, s7] (.long u :: st) h := e_go dX0_laysSpent_85 rfl rfl
theorem wX0_laysSpent_87 : E_ d mX0_laysSpent 87 [.val (.ref a), s1, s2, s3, s4, s5, s6, s7] st h = E_ d mX0_laysSpent 88 [.val (.ref a), s1, s2, s3, s4, s5, s6, s7] (.ref a :: st) h := e_go dX0_laysSpent_87 rfl rfl
theorem wX0_laysSpent_88 : E_ d mX0_laysSpent 88 [s0, s1, s2, .val (.int x), s4, s5, s6, s7] st h = E_ d mX0_laysSpent 89 [s0, s1, s2, .val (.int x), s4, s5, s6, s7] (.int x :: st) h := e_go dX0_laysSpent_88 rfl rfl
theorem wX0_laysSpent_89 : E_ d mX0_laysSpent 89 [s0, s1, s2, s3, .val (.int x), s5, s6, s7] st h = E_ d mX0_laysSpent 91 [s0, s1, s2, s3, .val (.int x), s5, s6, s7] (.int x :: st) h := e_go dX0_laysSpent_89 rfl rfl
theorem wX0_laysSpent_91 : E_ d mX0_laysSpent 91 [s0, s1, s2, s3, s4, s5, s6, .val (.int x)] st h = E_ d mX0_laysSpent 93 [s0, s1, s2, s3, s4, s5, s6, .val (.int x)] (.int x :: st) h := e_go dX0_laysSpent_91 rfl rfl
theorem wX0_laysSpent_93 (ht : oT h a = 1) : E_ (d + 1) mX0_laysSpent 93 ls [.int x3, .int x2, .int x1, .ref a, .long u1] h = (C_ d mX0_spends [.ref a, .int x1, .int x2, .int x3] h).bind fun r => E_ (d + 1) mX0_laysSpent 96 ls (xpu r.1 [.long u1]) r.2 := e_vir dX0_laysSpent_93 rfl rfl rfl rfl rfl rfl (Nat.le_of_ble_eq_true rfl) (Nat.le_of_ble_eq_true rfl) ht
theorem wX0_laysSpent_96 : E_ d mX0_laysSpent 96 ls [.long u2, .long u1] h = (xP 10 [.long u1, .long u2] h).bind fun r => E_ d mX0_laysSpent 99 ls (xpu r.1 []) r.2 := e_staP dX0_laysSpent_96 rfl (Nat.le_of_ble_eq_true rfl) rfl rfl rfl (Nat.le_of_ble_eq_true rfl)
theorem wX0_laysSpent_99 : E_ d mX0_laysSpent 99 [s0, s1, s2, s3, s4, s5, s6, s7] (.long u :: st) h = E_ d mX0_laysSpent 101 [s0, s1, s2, s3, xk s4, .val (.long u), .unset, s7] st h := e_go dX0_laysSpent_99 rfl rfl
theorem wX0_laysSpent_101 : E_ d mX0_laysSpent 101 [s0, s1, s2, s3, s4, s5, s6, .val (.int x)] st h = E_ d mX0_laysSpent 104 [s0, s1, s2, s3, s4, s5, xk s6, .val (.int (x + nI 1))] st h := by rw [← kiinc_1]; exact e_go dX0_laysSpent_101 rfl rfl
theorem wX0_laysSpent_104 : E_ d mX0_laysSpent 104 ls st h = E_ d mX0_laysSpent 67 ls st h := e_gt dX0_laysSpent_104 rfl
theorem wX0_laysSpent_107 : E_ d mX0_laysSpent 107 [.val (.ref a), s1, s2, s3, s4, s5, s6, s7] st h = E_ d mX0_laysSpent 108 [.val (.ref a), s1, s2, s3, s4, s5, s6, s7] (.ref a :: st) h := e_go dX0_laysSpent_107 rfl rfl
theorem wX0_laysSpent_108 (ht : oT h a = 1) : E_ d mX0_laysSpent 108 ls (.ref a :: st) h = E_ d mX0_laysSpent 111 ls (va_rf (oR h a 13) :: st) h := e_getR0 dX0_laysSpent_108 rfl rfl ht
theorem wX0_laysSpent_111 : E_ d mX0_laysSpent 111 ls st h = E_ d mX0_laysSpent 114 ls (.int (nI 1000) :: st) h := e_sipush dX0_laysSpent_111 ksipush_1000 rfl
theorem wX0_laysSpent_114 : E_ d mX0_laysSpent 114 [s0, s1, s2, .val (.int x), s4, s5, s6, s7] st h = E_ d mX0_laysSpent 115 [s0, s1, s2, .val (.int x), s4, s5, s6, s7] (.int x :: st) h := e_go dX0_laysSpent_114 rfl rfl
theorem wX0_laysSpent_115 : E_ d mX0_laysSpent 115 ls (.int y :: .int x :: st) h = E_ d mX0_laysSpent 116 ls (.int (x * y) :: st) h := e_go dX0_laysSpent_115 rfl rfl
theorem wX0_laysSpent_116 : E_ d mX0_laysSpent 116 [s0, s1, s2, s3, .val (.int x), s5, s6, s7] st h = E_ d mX0_laysSpent 118 [s0, s1, s2, s3, .val (.int x), s5, s6, s7] (.int x :: st) h := e_go dX0_laysSpent_116 rfl rfl
theorem wX0_laysSpent_118 : E_ d mX0_laysSpent 118 ls (.int y :: .int x :: st) h = E_ d mX0_laysSpent 119 ls (.int (x + y) :: st) h := e_go dX0_laysSpent_118 rfl rfl
theorem wX0_laysSpent_119 : E_ d mX0_laysSpent 119 [s0, s1, s2, s3, s4, .val (.long u), s6, s7] st h = E_ d mX0_laysSpent 121 [s0, s1, s2, s3, s4, .val (.long u), s6, s7] (.long u :: st) h := e_go dX0_laysSpent_119 rfl rfl
theorem wX0_laysSpent_121 (ht : oT h a = 44) (hi : xix x (oN h a) = true) : E_ d mX0_laysSpent 121 ls (.long u :: .int x :: .ref a :: st) h = E_ d mX0_laysSpent 122 ls st (pL h a (va_up (oL h a) x.toNatClampNeg u)) := e_last dX0_laysSpent_121 rfl ht hi
theorem wX0_laysSpent_122 : E_ d mX0_laysSpent 122 [s0, s1, s2, s3, .val (.int x), s5, s6, s7] st h = E_ d mX0_laysSpent 125 [s0, s1, s2, xk s3, .val (.int (x + nI 1)), s5, s6, s7] st h := by rw [← kiinc_1]; exact e_go dX0_laysSpent_122 rfl rfl
theorem wX0_laysSpent_125 : E_ d mX0_laysSpent 125 ls st h = E_ d mX0_laysSpent 48 ls st h := e_gt dX0_laysSpent_125 rfl
theorem wX0_laysSpent_128 : E_ d mX0_laysSpent 128 [s0, s1, s2, .val (.int x), s4, s5, s6, s7] st h = E_ d mX0_laysSpent 131 [s0, s1, xk s2, .val (.int (x + (-1))), s4, s5, s6, s7] st h := by rw [← kiinc_m1]; exact e_go dX0_laysSpent_128 rfl rfl
theorem wX0_laysSpent_131 : E_ d mX0_laysSpent 131 ls st h = E_ d mX0_laysSpent 41 ls st h := e_gt dX0_laysSpent_131 rfl
theorem wX0_laysSpent_134 : E_ d mX0_laysSpent 134 ls [] h = some (none, h) := e_rt dX0_laysSpent_134 rfl rfl
/-! FootOut.spends -/
theorem wX0_spends_0 : E_ d mX0_spends 0 ls st h = E_ d mX0_spends 3 ls (.long (10000) :: st) h := e_go dX0_spends_0 rfl rfl
theorem wX0_spends_3 : E_ d mX0_spends 3 [.val (.ref a), s1, s2, s3] st h = E_ d mX0_spends 4 [.val (.ref a), s1, s2, s3] (.ref a :: st) h := e_go dX0_spends_3 rfl rfl
theorem wX0_spends_4 : E_ d mX0_spends 4 [s0, .val (.int x), s2, s3] st h = E_ d mX0_spends 5 [s0, .val (.int x), s2, s3] (.int x :: st) h := e_go dX0_spends_4 rfl rfl
theorem wX0_spends_5 : E_ d mX0_spends 5 [s0, s1, s2, .val (.int x)] st h = E_ d mX0_spends 6 [s0, s1, s2, .val (.int x)] (.int x :: st) h := e_go dX0_spends_5 rfl rfl
theorem wX0_spends_6 (ht : oT h a = 1) : E_ (d + 1) mX0_spends 6 ls [.int x2, .int x1, .ref a, .long u1] h = (C_ d mX0_leftAt [.ref a, .int x1, .int x2] h).bind fun r => E_ (d + 1) mX0_spends 9 ls (xpu r.1 [.long u1]) r.2 := e_vir dX0_spends_6 rfl rfl rfl rfl rfl rfl (Nat.le_of_ble_eq_true rfl) (Nat.le_of_ble_eq_true rfl) ht
theorem wX0_spends_9 : E_ d mX0_spends 9 ls (.int x :: st) h = E_ d mX0_spends 10 ls (.long x.toInt64 :: st) h := e_go dX0_spends_9 rfl rfl
theorem wX0_spends_10 : E_ d mX0_spends 10 ls (.long v :: .long u :: st) h = E_ d mX0_spends 11 ls (.long (u * v) :: st) h := e_go dX0_spends_10 rfl rfl
theorem wX0_spends_11 : E_ d mX0_spends 11 [.val (.ref a), s1, s2, s3] st h = E_ d mX0_spends 12 [.val (.ref a), s1, s2, s3] (.ref a :: st) h := e_go dX0_spends_11 rfl rfl
theorem wX0_spends_12 : E_ d mX0_spends 12 [s0, s1, s2, .val (.int x)] st h = E_ d mX0_spends 13 [s0, s1, s2, .val (.int x)] (.int x :: st) h := e_go dX0_spends_12 rfl rfl
theorem wX0_spends_13 (ht : oT h a = 1) : E_ (d + 1) mX0_spends 13 ls [.int x1, .ref a, .long u1] h = (C_ d mX0_costOf [.ref a, .int x1] h).bind fun r => E_ (d + 1) mX0_spends 16 ls (xpu r.1 [.long u1]) r.2 := e_vir dX0_spends_13 rfl rfl rfl rfl rfl rfl (Nat.le_of_ble_eq_true rfl) (Nat.le_of_ble_eq_true rfl) ht
theorem wX0_spends_16 : E_ d mX0_spends 16 ls (.int x :: st) h = E_ d mX0_spends 17 ls (.long x.toInt64 :: st) h := e_go dX0_spends_16 rfl rfl
theorem wX0_spends_17 : E_ d mX0_spends 17 ls (.long v :: .long u :: st) h = E_ d mX0_spends 18 ls (.long (u + v) :: st) h := e_go dX0_spends_17 rfl rfl
theorem wX0_spends_18 : E_ d mX0_spends 18 [.val (.ref a), s1, s2, s3] st h = E_ d mX0_spends 19 [.val (.ref a), s1, s2, s3] (.ref a :: st) h := e_go dX0_spends_18 rfl rfl
theorem wX0_spends_19 (ht : oT h a = 1) : E_ d mX0_spends 19 ls (.ref a :: st) h = E_ d mX0_spends 22 ls (va_rf (oR h a 13) :: st) h := e_getR0 dX0_spends_19 rfl rfl ht
theorem wX0_spends_22 : E_ d mX0_spends 22 ls st h = E_ d mX0_spends 25 ls (.int (nI 1000) :: st) h := e_sipush dX0_spends_22 ksipush_1000 rfl
theorem wX0_spends_25 : E_ d mX0_spends 25 [s0, .val (.int x), s2, s3] st h = E_ d mX0_spends 26 [s0, .val (.int x), s2, s3] (.int x :: st) h := e_go dX0_spends_25 rfl rfl
theorem wX0_spends_26 : E_ d mX0_spends 26 ls st h = E_ d mX0_spends 27 ls (.int (nI 1) :: st) h := e_iconst dX0_spends_26 kiconst_1 rfl
theorem wX0_spends_27 : E_ d mX0_spends 27 ls (.int y :: .int x :: st) h = E_ d mX0_spends 28 ls (.int (x + y) :: st) h := e_go dX0_spends_27 rfl rfl
theorem wX0_spends_28 : E_ d mX0_spends 28 ls (.int y :: .int x :: st) h = E_ d mX0_spends 29 ls (.int (x * y) :: st) h := e_go dX0_spends_28 rfl rfl
theorem wX0_spends_29 : E_ d mX0_spends 29 [s0, s1, .val (.int x), s3] st h = E_ d mX0_spends 30 [s0, s1, .val (.int x), s3] (.int x :: st) h := e_go dX0_spends_29 rfl rfl
theorem wX0_spends_30 : E_ d mX0_spends 30 ls (.int y :: .int x :: st) h = E_ d mX0_spends 31 ls (.int (x + y) :: st) h := e_go dX0_spends_30 rfl rfl
theorem wX0_spends_31 : E_ d mX0_spends 31 [.val (.ref a), s1, s2, s3] st h = E_ d mX0_spends 32 [.val (.ref a), s1, s2, s3] (.ref a :: st) h := e_go dX0_spends_31 rfl rfl
theorem wX0_spends_32 : E_ d mX0_spends 32 [s0, s1, s2, .val (.int x)] st h = E_ d mX0_spends 33 [s0, s1, s2, .val (.int x)] (.int x :: st) h := e_go dX0_spends_32 rfl rfl
theorem wX0_spends_33 (ht : oT h a = 1) : E_ (d + 1) mX0_spends 33 ls [.int x1, .ref a, .int x2, .ref r1, .long u1] h = (C_ d mX0_costOf [.ref a, .int x1] h).bind fun r => E_ (d + 1) mX0_spends 36 ls (xpu r.1 [.int x2, .ref r1, .long u1]) r.2 := e_vir dX0_spends_33 rfl rfl rfl rfl rfl rfl (Nat.le_of_ble_eq_true rfl) (Nat.le_of_ble_eq_true rfl) ht
theorem wX0_spends_36 : E_ d mX0_spends 36 ls (.int y :: .int x :: st) h = E_ d mX0_spends 37 ls (.int (x - y) :: st) h := e_go dX0_spends_36 rfl rfl
theorem wX0_spends_37 (ht : oT h a = 44) (hi : xix x (oN h a) = true) : E_ d mX0_spends 37 ls (.int x :: .ref a :: st) h = E_ d mX0_spends 38 ls (.long (oL h a x.toNatClampNeg) :: st) h := e_lald dX0_spends_37 rfl ht hi
theorem wX0_spends_38 : E_ d mX0_spends 38 ls (.long v :: .long u :: st) h = E_ d mX0_spends 39 ls (.long (u + v) :: st) h := e_go dX0_spends_38 rfl rfl
theorem wX0_spends_39 : E_ d mX0_spends 39 ls [.long u] h = some (some (.long u), h) := e_rt dX0_spends_39 rfl rfl
/-! FootOut.leftAt -/
theorem wX0_leftAt_0 : E_ d mX0_leftAt 0 ls st h = E_ d mX0_leftAt 3 ls (.int (nI 10000) :: st) h := e_sipush dX0_leftAt_0 ksipush_10000 rfl
theorem wX0_leftAt_3 : E_ d mX0_leftAt 3 [.val (.ref a), s1, s2, s3, s4] st h = E_ d mX0_leftAt 4 [.val (.ref a), s1, s2, s3, s4] (.ref a :: st) h := e_go dX0_leftAt_3 rfl rfl
theorem wX0_leftAt_4 (ht : oT h a = 1) : E_ d mX0_leftAt 4 ls (.ref a :: st) h = E_ d mX0_leftAt 7 ls (va_rf (oR h a 0) :: st) h := e_getR dX0_leftAt_4 rfl rfl ht
theorem wX0_leftAt_7 (ht : oT h a = 2) : E_ d mX0_leftAt 7 ls (.ref a :: st) h = E_ d mX0_leftAt 10 ls (va_rf (oR h a 2) :: st) h := e_getR0 dX0_leftAt_7 rfl rfl ht
theorem wX0_leftAt_10 : E_ d mX0_leftAt 10 [s0, .val (.int x), s2, s3, s4] st h = E_ d mX0_leftAt 11 [s0, .val (.int x), s2, s3, s4] (.int x :: st) h := e_go dX0_leftAt_10 rfl rfl
theorem wX0_leftAt_11 (ht : oT h a = 4) : E_ (d + 1) mX0_leftAt 11 ls [.int x1, .ref a, .int x2] h = (C_ d mJ2_get [.ref a, .int x1] h).bind fun r => E_ (d + 1) mX0_leftAt 14 ls (xpu r.1 [.int x2]) r.2 := e_vir dX0_leftAt_11 rfl rfl rfl rfl rfl rfl (Nat.le_of_ble_eq_true rfl) (Nat.le_of_ble_eq_true rfl) ht
theorem wX0_leftAt_14 (ht : oT h a = 19) : E_ d mX0_leftAt 14 ls (.ref a :: st) h = E_ d mX0_leftAt 17 ls (.ref a :: st) h := e_cast dX0_leftAt_14 rfl rfl ht
theorem wX0_leftAt_14n : E_ d mX0_leftAt 14 ls (.null :: st) h = E_ d mX0_leftAt 17 ls (.null :: st) h := e_go dX0_leftAt_14 rfl rfl
theorem wX0_leftAt_17 (ht : oT h a = 19) : E_ (d + 1) mX0_leftAt 17 ls [.ref a, .int x1] h = (C_ d mX19_hurt [.ref a] h).bind fun r => E_ (d + 1) mX0_leftAt 20 ls (xpu r.1 [.int x1]) r.2 := e_vir dX0_leftAt_17 rfl rfl rfl rfl rfl rfl (Nat.le_of_ble_eq_true rfl) (Nat.le_of_ble_eq_true rfl) ht
theorem wX0_leftAt_20 : E_ d mX0_leftAt 20 ls (.int y :: .int x :: st) h = E_ d mX0_leftAt 21 ls (.int (x * y) :: st) h := e_go dX0_leftAt_20 rfl rfl
theorem wX0_leftAt_21 : E_ d mX0_leftAt 21 [s0, s1, s2, s3, s4] (.int x :: st) h = E_ d mX0_leftAt 22 [s0, s1, xk s2, .val (.int x), s4] st h := e_go dX0_leftAt_21 rfl rfl
theorem wX0_leftAt_22 : E_ d mX0_leftAt 22 ls st h = E_ d mX0_leftAt 23 ls (.int (nI 0) :: st) h := e_iconst dX0_leftAt_22 kiconst_0 rfl
theorem wX0_leftAt_23 : E_ d mX0_leftAt 23 [s0, s1, s2, s3, s4] (.int x :: st) h = E_ d mX0_leftAt 25 [s0, s1, s2, xk s3, .val (.int x)] st h := e_go dX0_leftAt_23 rfl rfl
theorem wX0_leftAt_25 : E_ d mX0_leftAt 25 [s0, s1, s2, s3, .val (.int x)] st h = E_ d mX0_leftAt 27 [s0, s1, s2, s3, .val (.int x)] (.int x :: st) h := e_go dX0_leftAt_25 rfl rfl
theorem wX0_leftAt_27 : E_ d mX0_leftAt 27 ls st h = E_ d mX0_leftAt 28 ls (.int (nI 4) :: st) h := e_iconst dX0_leftAt_27 kiconst_4 rfl
theorem wX0_leftAt_28 : E_ d mX0_leftAt 28 ls (.int y :: .int x :: st) h = if x < y then E_ d mX0_leftAt 31 ls st h else E_ d mX0_leftAt 70 ls st h := e_ige dX0_leftAt_28 rfl rfl
theorem wX0_leftAt_31 : E_ d mX0_leftAt 31 [s0, s1, .val (.int x), s3, s4] st h = E_ d mX0_leftAt 32 [s0, s1, .val (.int x), s3, s4] (.int x :: st) h := e_go dX0_leftAt_31 rfl rfl
theorem wX0_leftAt_32 : E_ d mX0_leftAt 32 [s0, s1, s2, s3, .val (.int x)] st h = E_ d mX0_leftAt 34 [s0, s1, s2, s3, .val (.int x)] (.int x :: st) h := e_go dX0_leftAt_32 rfl rfl
theorem wX0_leftAt_34 : E_ (d + 1) mX0_leftAt 34 ls [.int x2, .int x1] h = (C_ d mX0_has [.int x1, .int x2] h).bind fun r => E_ (d + 1) mX0_leftAt 37 ls (xpu r.1 []) r.2 := e_call dX0_leftAt_34 rfl rfl
theorem wX0_leftAt_37 : E_ d mX0_leftAt 37 ls (.int x :: st) h = if x = 0 then E_ d mX0_leftAt 62 ls st h else E_ d mX0_leftAt 40 ls st h := e_zeq dX0_leftAt_37 rfl rfl
theorem wX0_leftAt_40 : E_ d mX0_leftAt 40 [s0, s1, s2, .val (.int x), s4] st h = E_ d mX0_leftAt 41 [s0, s1, s2, .val (.int x), s4] (.int x :: st) h := e_go dX0_leftAt_40 rfl rfl
theorem wX0_leftAt_41 : E_ d mX0_leftAt 41 ls (.int x :: st) h = E_ d mX0_leftAt 42 ls (.long x.toInt64 :: st) h := e_go dX0_leftAt_41 rfl rfl
theorem wX0_leftAt_42 : E_ d mX0_leftAt 42 [.val (.ref a), s1, s2, s3, s4] st h = E_ d mX0_leftAt 43 [.val (.ref a), s1, s2, s3, s4] (.ref a :: st) h := e_go dX0_leftAt_42 rfl rfl
theorem wX0_leftAt_43 (ht : oT h a = 1) : E_ d mX0_leftAt 43 ls (.ref a :: st) h = E_ d mX0_leftAt 46 ls (va_rf (oR h a 0) :: st) h := e_getR dX0_leftAt_43 rfl rfl ht
theorem wX0_leftAt_46 (ht : oT h a = 2) : E_ d mX0_leftAt 46 ls (.ref a :: st) h = E_ d mX0_leftAt 49 ls (va_rf (oR h a 4) :: st) h := e_getR0 dX0_leftAt_46 rfl rfl ht
theorem wX0_leftAt_49 : E_ d mX0_leftAt 49 [s0, s1, s2, s3, .val (.int x)] st h = E_ d mX0_leftAt 51 [s0, s1, s2, s3, .val (.int x)] (.int x :: st) h := e_go dX0_leftAt_49 rfl rfl
theorem wX0_leftAt_51 (ht : oT h a = 40) (hi : xix x (oN h a) = true) : E_ d mX0_leftAt 51 ls (.int x :: .ref a :: st) h = E_ d mX0_leftAt 52 ls (.int (oI h a x.toNatClampNeg) :: st) h := e_iald dX0_leftAt_51 rfl ht hi
theorem wX0_leftAt_52 : E_ d mX0_leftAt 52 ls (.int x :: st) h = E_ d mX0_leftAt 53 ls (.long x.toInt64 :: st) h := e_go dX0_leftAt_52 rfl rfl
theorem wX0_leftAt_53 : E_ d mX0_leftAt 53 ls (.long v :: .long u :: st) h = E_ d mX0_leftAt 54 ls (.long (u * v) :: st) h := e_go dX0_leftAt_53 rfl rfl
theorem wX0_leftAt_54 : E_ d mX0_leftAt 54 ls st h = E_ d mX0_leftAt 57 ls (.long (100) :: st) h := e_go dX0_leftAt_54 rfl rfl
theorem wX0_leftAt_57 (hy : ¬ v = 0) : E_ d mX0_leftAt 57 ls (.long v :: .long u :: st) h = E_ d mX0_leftAt 58 ls (.long (u / v) :: st) h := e_ldiv dX0_leftAt_57 rfl hy
theorem wX0_leftAt_58 : E_ d mX0_leftAt 58 ls (.long u :: st) h = E_ d mX0_leftAt 59 ls (.int u.toInt32 :: st) h := e_go dX0_leftAt_58 rfl rfl
theorem wX0_leftAt_59 : E_ d mX0_leftAt 59 ls st h = E_ d mX0_leftAt 63 ls st h := e_gt dX0_leftAt_59 rfl
theorem wX0_leftAt_62 : E_ d mX0_leftAt 62 [s0, s1, s2, .val (.int x), s4] st h = E_ d mX0_leftAt 63 [s0, s1, s2, .val (.int x), s4] (.int x :: st) h := e_go dX0_leftAt_62 rfl rfl
theorem wX0_leftAt_63 : E_ d mX0_leftAt 63 [s0, s1, s2, s3, s4] (.int x :: st) h = E_ d mX0_leftAt 64 [s0, s1, xk s2, .val (.int x), s4] st h := e_go dX0_leftAt_63 rfl rfl
theorem wX0_leftAt_64 : E_ d mX0_leftAt 64 [s0, s1, s2, s3, .val (.int x)] st h = E_ d mX0_leftAt 67 [s0, s1, s2, xk s3, .val (.int (x + nI 1))] st h := by rw [← kiinc_1]; exact e_go dX0_leftAt_64 rfl rfl
theorem wX0_leftAt_67 : E_ d mX0_leftAt 67 ls st h = E_ d mX0_leftAt 25 ls st h := e_gt dX0_leftAt_67 rfl
theorem wX0_leftAt_70 : E_ d mX0_leftAt 70 [s0, s1, s2, .val (.int x), s4] st h = E_ d mX0_leftAt 71 [s0, s1, s2, .val (.int x), s4] (.int x :: st) h := e_go dX0_leftAt_70 rfl rfl
theorem wX0_leftAt_71 : E_ d mX0_leftAt 71 ls [.int x] h = some (some (.int x), h) := e_rt dX0_leftAt_71 rfl rfl
/-! FootOut.costOf -/
theorem wX0_costOf_0 : E_ d mX0_costOf 0 ls st h = E_ d mX0_costOf 1 ls (.int (nI 0) :: st) h := e_iconst dX0_costOf_0 kiconst_0 rfl
theorem wX0_costOf_1 : E_ d mX0_costOf 1 [s0, s1, s2, s3] (.int x :: st) h = E_ d mX0_costOf 2 [s0, xk s1, .val (.int x), s3] st h := e_go dX0_costOf_1 rfl rfl
theorem wX0_costOf_2 : E_ d mX0_costOf 2 ls st h = E_ d mX0_costOf 3 ls (.int (nI 0) :: st) h := e_iconst dX0_costOf_2 kiconst_0 rfl
theorem wX0_costOf_3 : E_ d mX0_costOf 3 [s0, s1, s2, s3] (.int x :: st) h = E_ d mX0_costOf 4 [s0, s1, xk s2, .val (.int x)] st h := e_go dX0_costOf_3 rfl rfl
theorem wX0_costOf_4 : E_ d mX0_costOf 4 [s0, s1, s2, .val (.int x)] st h = E_ d mX0_costOf 5 [s0, s1, s2, .val (.int x)] (.int x :: st) h := e_go dX0_costOf_4 rfl rfl
theorem wX0_costOf_5 : E_ d mX0_costOf 5 ls st h = E_ d mX0_costOf 6 ls (.int (nI 4) :: st) h := e_iconst dX0_costOf_5 kiconst_4 rfl
theorem wX0_costOf_6 : E_ d mX0_costOf 6 ls (.int y :: .int x :: st) h = if x < y then E_ d mX0_costOf 9 ls st h else E_ d mX0_costOf 39 ls st h := e_ige dX0_costOf_6 rfl rfl
theorem wX0_costOf_9 : E_ d mX0_costOf 9 [s0, s1, .val (.int x), s3] st h = E_ d mX0_costOf 10 [s0, s1, .val (.int x), s3] (.int x :: st) h := e_go dX0_costOf_9 rfl rfl
theorem wX0_costOf_10 : E_ d mX0_costOf 10 [s0, .val (.int x), s2, s3] st h = E_ d mX0_costOf 11 [s0, .val (.int x), s2, s3] (.int x :: st) h := e_go dX0_costOf_10 rfl rfl
theorem wX0_costOf_11 : E_ d mX0_costOf 11 [s0, s1, s2, .val (.int x)] st h = E_ d mX0_costOf 12 [s0, s1, s2, .val (.int x)] (.int x :: st) h := e_go dX0_costOf_11 rfl rfl
theorem wX0_costOf_12 : E_ (d + 1) mX0_costOf 12 ls [.int x2, .int x1, .int x3] h = (C_ d mX0_has [.int x1, .int x2] h).bind fun r => E_ (d + 1) mX0_costOf 15 ls (xpu r.1 [.int x3]) r.2 := e_call dX0_costOf_12 rfl rfl
theorem wX0_costOf_15 : E_ d mX0_costOf 15 ls (.int x :: st) h = if x = 0 then E_ d mX0_costOf 30 ls st h else E_ d mX0_costOf 18 ls st h := e_zeq dX0_costOf_15 rfl rfl
theorem wX0_costOf_18 : E_ d mX0_costOf 18 [.val (.ref a), s1, s2, s3] st h = E_ d mX0_costOf 19 [.val (.ref a), s1, s2, s3] (.ref a :: st) h := e_go dX0_costOf_18 rfl rfl
theorem wX0_costOf_19 (ht : oT h a = 1) : E_ d mX0_costOf 19 ls (.ref a :: st) h = E_ d mX0_costOf 22 ls (va_rf (oR h a 0) :: st) h := e_getR dX0_costOf_19 rfl rfl ht
theorem wX0_costOf_22 (ht : oT h a = 2) : E_ d mX0_costOf 22 ls (.ref a :: st) h = E_ d mX0_costOf 25 ls (va_rf (oR h a 3) :: st) h := e_getR0 dX0_costOf_22 rfl rfl ht
theorem wX0_costOf_25 : E_ d mX0_costOf 25 [s0, s1, s2, .val (.int x)] st h = E_ d mX0_costOf 26 [s0, s1, s2, .val (.int x)] (.int x :: st) h := e_go dX0_costOf_25 rfl rfl
theorem wX0_costOf_26 (ht : oT h a = 40) (hi : xix x (oN h a) = true) : E_ d mX0_costOf 26 ls (.int x :: .ref a :: st) h = E_ d mX0_costOf 27 ls (.int (oI h a x.toNatClampNeg) :: st) h := e_iald dX0_costOf_26 rfl ht hi
theorem wX0_costOf_27 : E_ d mX0_costOf 27 ls st h = E_ d mX0_costOf 31 ls st h := e_gt dX0_costOf_27 rfl
theorem wX0_costOf_30 : E_ d mX0_costOf 30 ls st h = E_ d mX0_costOf 31 ls (.int (nI 0) :: st) h := e_iconst dX0_costOf_30 kiconst_0 rfl
theorem wX0_costOf_31 : E_ d mX0_costOf 31 ls (.int y :: .int x :: st) h = E_ d mX0_costOf 32 ls (.int (x + y) :: st) h := e_go dX0_costOf_31 rfl rfl
theorem wX0_costOf_32 : E_ d mX0_costOf 32 [s0, s1, s2, s3] (.int x :: st) h = E_ d mX0_costOf 33 [s0, xk s1, .val (.int x), s3] st h := e_go dX0_costOf_32 rfl rfl
theorem wX0_costOf_33 : E_ d mX0_costOf 33 [s0, s1, s2, .val (.int x)] st h = E_ d mX0_costOf 36 [s0, s1, xk s2, .val (.int (x + nI 1))] st h := by rw [← kiinc_1]; exact e_go dX0_costOf_33 rfl rfl
theorem wX0_costOf_36 : E_ d mX0_costOf 36 ls st h = E_ d mX0_costOf 4 ls st h := e_gt dX0_costOf_36 rfl
theorem wX0_costOf_39 : E_ d mX0_costOf 39 [s0, s1, .val (.int x), s3] st h = E_ d mX0_costOf 40 [s0, s1, .val (.int x), s3] (.int x :: st) h := e_go dX0_costOf_39 rfl rfl
theorem wX0_costOf_40 : E_ d mX0_costOf 40 ls [.int x] h = some (some (.int x), h) := e_rt dX0_costOf_40 rfl rfl
/-! FootOut.fine -/
theorem wX0_fine_0 : E_ d mX0_fine 0 [s0, .val (.int x), s2, s3, s4, s5, s6] st h = E_ d mX0_fine 1 [s0, .val (.int x), s2, s3, s4, s5, s6] (.int x :: st) h := e_go dX0_fine_0 rfl rfl
theorem wX0_fine_1 : E_ d mX0_fine 1 ls (.int x :: st) h = E_ d mX0_fine 2 ls (.long x.toInt64 :: st) h := e_go dX0_fine_1 rfl rfl
theorem wX0_fine_2 : E_ d mX0_fine 2 ls st h = E_ d mX0_fine 3 ls (.long 0 :: st) h := e_go dX0_fine_2 rfl rfl
theorem wX0_fine_3 : E_ d mX0_fine 3 ls st h = E_ d mX0_fine 6 ls (.long (1000) :: st) h := e_go dX0_fine_3 rfl rfl
theorem wX0_fine_6 : E_ (d + 1) mX0_fine 6 ls [.long u3, .long u2, .long u1] h = (C_ d mX0_in [.long u1, .long u2, .long u3] h).bind fun r => E_ (d + 1) mX0_fine 9 ls (xpu r.1 []) r.2 := e_call dX0_fine_6 rfl rfl
theorem wX0_fine_9 : E_ d mX0_fine 9 ls (.int x :: st) h = if x = 0 then E_ d mX0_fine 49 ls st h else E_ d mX0_fine 12 ls st h := e_zeq dX0_fine_9 rfl rfl
theorem wX0_fine_12 : E_ d mX0_fine 12 [s0, s1, .val (.int x), s3, s4, s5, s6] st h = E_ d mX0_fine 13 [s0, s1, .val (.int x), s3, s4, s5, s6] (.int x :: st) h := e_go dX0_fine_12 rfl rfl
theorem wX0_fine_13 : E_ d mX0_fine 13 ls (.int x :: st) h = E_ d mX0_fine 14 ls (.long x.toInt64 :: st) h := e_go dX0_fine_13 rfl rfl
theorem wX0_fine_14 : E_ d mX0_fine 14 ls st h = E_ d mX0_fine 15 ls (.long 0 :: st) h := e_go dX0_fine_14 rfl rfl
theorem wX0_fine_15 : E_ d mX0_fine 15 ls st h = E_ d mX0_fine 18 ls (.long (1000) :: st) h := e_go dX0_fine_15 rfl rfl
theorem wX0_fine_18 : E_ (d + 1) mX0_fine 18 ls [.long u3, .long u2, .long u1] h = (C_ d mX0_in [.long u1, .long u2, .long u3] h).bind fun r => E_ (d + 1) mX0_fine 21 ls (xpu r.1 []) r.2 := e_call dX0_fine_18 rfl rfl
theorem wX0_fine_21 : E_ d mX0_fine 21 ls (.int x :: st) h = if x = 0 then E_ d mX0_fine 49 ls st h else E_ d mX0_fine 24 ls st h := e_zeq dX0_fine_21 rfl rfl
theorem wX0_fine_24 : E_ d mX0_fine 24 [s0, s1, s2, .val (.int x), s4, s5, s6] st h = E_ d mX0_fine 25 [s0, s1, s2, .val (.int x), s4, s5, s6] (.int x :: st) h := e_go dX0_fine_24 rfl rfl
theorem wX0_fine_25 : E_ d mX0_fine 25 ls (.int x :: st) h = E_ d mX0_fine 26 ls (.long x.toInt64 :: st) h := e_go dX0_fine_25 rfl rfl
theorem wX0_fine_26 : E_ d mX0_fine 26 ls st h = E_ d mX0_fine 27 ls (.long 0 :: st) h := e_go dX0_fine_26 rfl rfl
theorem wX0_fine_27 : E_ d mX0_fine 27 ls st h = E_ d mX0_fine 30 ls (.long (100) :: st) h := e_go dX0_fine_27 rfl rfl
theorem wX0_fine_30 : E_ (d + 1) mX0_fine 30 ls [.long u3, .long u2, .long u1] h = (C_ d mX0_in [.long u1, .long u2, .long u3] h).bind fun r => E_ (d + 1) mX0_fine 33 ls (xpu r.1 []) r.2 := e_call dX0_fine_30 rfl rfl
theorem wX0_fine_33 : E_ d mX0_fine 33 ls (.int x :: st) h = if x = 0 then E_ d mX0_fine 49 ls st h else E_ d mX0_fine 36 ls st h := e_zeq dX0_fine_33 rfl rfl
theorem wX0_fine_36 : E_ d mX0_fine 36 [s0, s1, s2, s3, .val (.int x), s5, s6] st h = E_ d mX0_fine 38 [s0, s1, s2, s3, .val (.int x), s5, s6] (.int x :: st) h := e_go dX0_fine_36 rfl rfl
theorem wX0_fine_38 : E_ d mX0_fine 38 ls (.int x :: st) h = E_ d mX0_fine 39 ls (.long x.toInt64 :: st) h := e_go dX0_fine_38 rfl rfl
theorem wX0_fine_39 : E_ d mX0_fine 39 ls st h = E_ d mX0_fine 40 ls (.long 0 :: st) h := e_go dX0_fine_39 rfl rfl
theorem wX0_fine_40 : E_ d mX0_fine 40 ls st h = E_ d mX0_fine 43 ls (.long (60) :: st) h := e_go dX0_fine_40 rfl rfl
theorem wX0_fine_43 : E_ (d + 1) mX0_fine 43 ls [.long u3, .long u2, .long u1] h = (C_ d mX0_in [.long u1, .long u2, .long u3] h).bind fun r => E_ (d + 1) mX0_fine 46 ls (xpu r.1 []) r.2 := e_call dX0_fine_43 rfl rfl
theorem wX0_fine_46 : E_ d mX0_fine 46 ls (.int x :: st) h = if x = 0 then E_ d mX0_fine 49 ls st h else E_ d mX0_fine 56 ls st h := e_zne dX0_fine_46 rfl rfl
theorem wX0_fine_49 : E_ d mX0_fine 49 [.val (.ref a), s1, s2, s3, s4, s5, s6] st h = E_ d mX0_fine 50 [.val (.ref a), s1, s2, s3, s4, s5, s6] (.ref a :: st) h := e_go dX0_fine_49 rfl rfl
theorem wX0_fine_50 : E_ d mX0_fine 50 ls st h = E_ d mX0_fine 52 ls (.int ((-3)) :: st) h := e_bipush dX0_fine_50 kbipush_m3 rfl
theorem wX0_fine_52 (ht : oT h a = 1) : E_ (d + 1) mX0_fine 52 ls [.int x1, .ref a] h = (C_ d mX0_no [.ref a, .int x1] h).bind fun r => E_ (d + 1) mX0_fine 55 ls (xpu r.1 []) r.2 := e_vir dX0_fine_52 rfl rfl rfl rfl rfl rfl (Nat.le_of_ble_eq_true rfl) (Nat.le_of_ble_eq_true rfl) ht
theorem wX0_fine_55 : E_ d mX0_fine 55 ls [.int x] h = some (some (.int x), h) := e_rt dX0_fine_55 rfl rfl
theorem wX0_fine_56 : E_ d mX0_fine 56 [s0, .val (.int x), s2, s3, s4, s5, s6] st h = E_ d mX0_fine 57 [s0, .val (.int x), s2, s3, s4, s5, s6] (.int x :: st) h := e_go dX0_fine_56 rfl rfl
theorem wX0_fine_57 : E_ d mX0_fine 57 [s0, s1, s2, s3, s4, s5, s6] (.int x :: st) h = E_ d mX0_fine 59 [s0, s1, s2, s3, xk s4, .val (.int x), s6] st h := e_go dX0_fine_57 rfl rfl
theorem wX0_fine_59 : E_ d mX0_fine 59 ls st h = E_ d mX0_fine 60 ls (.int (nI 0) :: st) h := e_iconst dX0_fine_59 kiconst_0 rfl
theorem wX0_fine_60 : E_ d mX0_fine 60 [s0, s1, s2, s3, s4, s5, s6] (.int x :: st) h = E_ d mX0_fine 62 [s0, s1, s2, s3, s4, xk s5, .val (.int x)] st h := e_go dX0_fine_60 rfl rfl
theorem wX0_fine_62 : E_ d mX0_fine 62 [s0, s1, s2, s3, s4, s5, .val (.int x)] st h = E_ d mX0_fine 64 [s0, s1, s2, s3, s4, s5, .val (.int x)] (.int x :: st) h := e_go dX0_fine_62 rfl rfl
theorem wX0_fine_64 : E_ d mX0_fine 64 [s0, s1, s2, s3, .val (.int x), s5, s6] st h = E_ d mX0_fine 66 [s0, s1, s2, s3, .val (.int x), s5, s6] (.int x :: st) h := e_go dX0_fine_64 rfl rfl
theorem wX0_fine_66 : E_ d mX0_fine 66 ls (.int y :: .int x :: st) h = if x < y then E_ d mX0_fine 69 ls st h else E_ d mX0_fine 89 ls st h := e_ige dX0_fine_66 rfl rfl
theorem wX0_fine_69 : E_ d mX0_fine 69 [s0, s1, s2, s3, s4, .val (.int x), s6] st h = E_ d mX0_fine 71 [s0, s1, s2, s3, s4, .val (.int x), s6] (.int x :: st) h := e_go dX0_fine_69 rfl rfl
theorem wX0_fine_71 : E_ d mX0_fine 71 [s0, s1, .val (.int x), s3, s4, s5, s6] st h = E_ d mX0_fine 72 [s0, s1, .val (.int x), s3, s4, s5, s6] (.int x :: st) h := e_go dX0_fine_71 rfl rfl
theorem wX0_fine_72 : E_ d mX0_fine 72 [s0, s1, s2, s3, s4, .val (.int x), s6] st h = E_ d mX0_fine 74 [s0, s1, s2, s3, s4, .val (.int x), s6] (.int x :: st) h := e_go dX0_fine_72 rfl rfl
theorem wX0_fine_74 : E_ d mX0_fine 74 ls (.int y :: .int x :: st) h = E_ d mX0_fine 75 ls (.int (x - y) :: st) h := e_go dX0_fine_74 rfl rfl
theorem wX0_fine_75 : E_ d mX0_fine 75 [s0, s1, s2, .val (.int x), s4, s5, s6] st h = E_ d mX0_fine 76 [s0, s1, s2, .val (.int x), s4, s5, s6] (.int x :: st) h := e_go dX0_fine_75 rfl rfl
theorem wX0_fine_76 : E_ d mX0_fine 76 ls (.int y :: .int x :: st) h = E_ d mX0_fine 77 ls (.int (x * y) :: st) h := e_go dX0_fine_76 rfl rfl
theorem wX0_fine_77 : E_ d mX0_fine 77 ls st h = E_ d mX0_fine 79 ls (.int (nI 100) :: st) h := e_bipush dX0_fine_77 kbipush_100 rfl
theorem wX0_fine_79 (hy : ¬ y = 0) : E_ d mX0_fine 79 ls (.int y :: .int x :: st) h = E_ d mX0_fine 80 ls (.int (x / y) :: st) h := e_div dX0_fine_79 rfl hy
theorem wX0_fine_80 : E_ d mX0_fine 80 ls (.int y :: .int x :: st) h = E_ d mX0_fine 81 ls (.int (x + y) :: st) h := e_go dX0_fine_80 rfl rfl
theorem wX0_fine_81 : E_ d mX0_fine 81 [s0, s1, s2, s3, s4, s5, s6] (.int x :: st) h = E_ d mX0_fine 83 [s0, s1, s2, s3, xk s4, .val (.int x), s6] st h := e_go dX0_fine_81 rfl rfl
theorem wX0_fine_83 : E_ d mX0_fine 83 [s0, s1, s2, s3, s4, s5, .val (.int x)] st h = E_ d mX0_fine 86 [s0, s1, s2, s3, s4, xk s5, .val (.int (x + nI 1))] st h := by rw [← kiinc_1]; exact e_go dX0_fine_83 rfl rfl
theorem wX0_fine_86 : E_ d mX0_fine 86 ls st h = E_ d mX0_fine 62 ls st h := e_gt dX0_fine_86 rfl
theorem wX0_fine_89 : E_ d mX0_fine 89 [s0, s1, s2, s3, s4, .val (.int x), s6] st h = E_ d mX0_fine 91 [s0, s1, s2, s3, s4, .val (.int x), s6] (.int x :: st) h := e_go dX0_fine_89 rfl rfl
theorem wX0_fine_91 : E_ d mX0_fine 91 ls [.int x] h = some (some (.int x), h) := e_rt dX0_fine_91 rfl rfl
/-! FootOut.until -/
theorem wX0_until_0 : E_ d mX0_until 0 [s0, .val (.int x), s2, s3, s4, s5, s6] st h = E_ d mX0_until 1 [s0, .val (.int x), s2, s3, s4, s5, s6] (.int x :: st) h := e_go dX0_until_0 rfl rfl
theorem wX0_until_1 : E_ d mX0_until 1 ls (.int x :: st) h = E_ d mX0_until 2 ls (.long x.toInt64 :: st) h := e_go dX0_until_1 rfl rfl
theorem wX0_until_2 : E_ d mX0_until 2 ls st h = E_ d mX0_until 3 ls (.long 0 :: st) h := e_go dX0_until_2 rfl rfl
theorem wX0_until_3 : E_ d mX0_until 3 ls st h = E_ d mX0_until 6 ls (.long (1000) :: st) h := e_go dX0_until_3 rfl rfl
theorem wX0_until_6 : E_ (d + 1) mX0_until 6 ls [.long u3, .long u2, .long u1] h = (C_ d mX0_in [.long u1, .long u2, .long u3] h).bind fun r => E_ (d + 1) mX0_until 9 ls (xpu r.1 []) r.2 := e_call dX0_until_6 rfl rfl
theorem wX0_until_9 : E_ d mX0_until 9 ls (.int x :: st) h = if x = 0 then E_ d mX0_until 49 ls st h else E_ d mX0_until 12 ls st h := e_zeq dX0_until_9 rfl rfl
theorem wX0_until_12 : E_ d mX0_until 12 [s0, s1, .val (.int x), s3, s4, s5, s6] st h = E_ d mX0_until 13 [s0, s1, .val (.int x), s3, s4, s5, s6] (.int x :: st) h := e_go dX0_until_12 rfl rfl
theorem wX0_until_13 : E_ d mX0_until 13 ls (.int x :: st) h = E_ d mX0_until 14 ls (.long x.toInt64 :: st) h := e_go dX0_until_13 rfl rfl
theorem wX0_until_14 : E_ d mX0_until 14 ls st h = E_ d mX0_until 15 ls (.long 0 :: st) h := e_go dX0_until_14 rfl rfl
theorem wX0_until_15 : E_ d mX0_until 15 ls st h = E_ d mX0_until 18 ls (.long (1000) :: st) h := e_go dX0_until_15 rfl rfl
theorem wX0_until_18 : E_ (d + 1) mX0_until 18 ls [.long u3, .long u2, .long u1] h = (C_ d mX0_in [.long u1, .long u2, .long u3] h).bind fun r => E_ (d + 1) mX0_until 21 ls (xpu r.1 []) r.2 := e_call dX0_until_18 rfl rfl
theorem wX0_until_21 : E_ d mX0_until 21 ls (.int x :: st) h = if x = 0 then E_ d mX0_until 49 ls st h else E_ d mX0_until 24 ls st h := e_zeq dX0_until_21 rfl rfl
theorem wX0_until_24 : E_ d mX0_until 24 [s0, s1, s2, .val (.int x), s4, s5, s6] st h = E_ d mX0_until 25 [s0, s1, s2, .val (.int x), s4, s5, s6] (.int x :: st) h := e_go dX0_until_24 rfl rfl
theorem wX0_until_25 : E_ d mX0_until 25 ls (.int x :: st) h = E_ d mX0_until 26 ls (.long x.toInt64 :: st) h := e_go dX0_until_25 rfl rfl
theorem wX0_until_26 : E_ d mX0_until 26 ls st h = E_ d mX0_until 27 ls (.long 0 :: st) h := e_go dX0_until_26 rfl rfl
theorem wX0_until_27 : E_ d mX0_until 27 ls st h = E_ d mX0_until 30 ls (.long (100) :: st) h := e_go dX0_until_27 rfl rfl
theorem wX0_until_30 : E_ (d + 1) mX0_until 30 ls [.long u3, .long u2, .long u1] h = (C_ d mX0_in [.long u1, .long u2, .long u3] h).bind fun r => E_ (d + 1) mX0_until 33 ls (xpu r.1 []) r.2 := e_call dX0_until_30 rfl rfl
theorem wX0_until_33 : E_ d mX0_until 33 ls (.int x :: st) h = if x = 0 then E_ d mX0_until 49 ls st h else E_ d mX0_until 36 ls st h := e_zeq dX0_until_33 rfl rfl
theorem wX0_until_36 : E_ d mX0_until 36 [s0, s1, s2, s3, .val (.int x), s5, s6] st h = E_ d mX0_until 38 [s0, s1, s2, s3, .val (.int x), s5, s6] (.int x :: st) h := e_go dX0_until_36 rfl rfl
theorem wX0_until_38 : E_ d mX0_until 38 ls (.int x :: st) h = E_ d mX0_until 39 ls (.long x.toInt64 :: st) h := e_go dX0_until_38 rfl rfl
theorem wX0_until_39 : E_ d mX0_until 39 ls st h = E_ d mX0_until 40 ls (.long 0 :: st) h := e_go dX0_until_39 rfl rfl
theorem wX0_until_40 : E_ d mX0_until 40 ls st h = E_ d mX0_until 43 ls (.long (1000) :: st) h := e_go dX0_until_40 rfl rfl
theorem wX0_until_43 : E_ (d + 1) mX0_until 43 ls [.long u3, .long u2, .long u1] h = (C_ d mX0_in [.long u1, .long u2, .long u3] h).bind fun r => E_ (d + 1) mX0_until 46 ls (xpu r.1 []) r.2 := e_call dX0_until_43 rfl rfl
theorem wX0_until_46 : E_ d mX0_until 46 ls (.int x :: st) h = if x = 0 then E_ d mX0_until 49 ls st h else E_ d mX0_until 56 ls st h := e_zne dX0_until_46 rfl rfl
theorem wX0_until_49 : E_ d mX0_until 49 [.val (.ref a), s1, s2, s3, s4, s5, s6] st h = E_ d mX0_until 50 [.val (.ref a), s1, s2, s3, s4, s5, s6] (.ref a :: st) h := e_go dX0_until_49 rfl rfl
theorem wX0_until_50 : E_ d mX0_until 50 ls st h = E_ d mX0_until 52 ls (.int ((-3)) :: st) h := e_bipush dX0_until_50 kbipush_m3 rfl
theorem wX0_until_52 (ht : oT h a = 1) : E_ (d + 1) mX0_until 52 ls [.int x1, .ref a] h = (C_ d mX0_no [.ref a, .int x1] h).bind fun r => E_ (d + 1) mX0_until 55 ls (xpu r.1 []) r.2 := e_vir dX0_until_52 rfl rfl rfl rfl rfl rfl (Nat.le_of_ble_eq_true rfl) (Nat.le_of_ble_eq_true rfl) ht
theorem wX0_until_55 : E_ d mX0_until 55 ls [.int x] h = some (some (.int x), h) := e_rt dX0_until_55 rfl rfl
theorem wX0_until_56 : E_ d mX0_until 56 [s0, .val (.int x), s2, s3, s4, s5, s6] st h = E_ d mX0_until 57 [s0, .val (.int x), s2, s3, s4, s5, s6] (.int x :: st) h := e_go dX0_until_56 rfl rfl
theorem wX0_until_57 : E_ d mX0_until 57 [s0, s1, s2, s3, s4, s5, s6] (.int x :: st) h = E_ d mX0_until 59 [s0, s1, s2, s3, xk s4, .val (.int x), s6] st h := e_go dX0_until_57 rfl rfl
theorem wX0_until_59 : E_ d mX0_until 59 ls st h = E_ d mX0_until 60 ls (.int (nI 0) :: st) h := e_iconst dX0_until_59 kiconst_0 rfl
theorem wX0_until_60 : E_ d mX0_until 60 [s0, s1, s2, s3, s4, s5, s6] (.int x :: st) h = E_ d mX0_until 62 [s0, s1, s2, s3, s4, xk s5, .val (.int x)] st h := e_go dX0_until_60 rfl rfl
theorem wX0_until_62 : E_ d mX0_until 62 [s0, s1, s2, s3, s4, s5, .val (.int x)] st h = E_ d mX0_until 64 [s0, s1, s2, s3, s4, s5, .val (.int x)] (.int x :: st) h := e_go dX0_until_62 rfl rfl
theorem wX0_until_64 : E_ d mX0_until 64 ls st h = E_ d mX0_until 67 ls (.int (nI 1000) :: st) h := e_sipush dX0_until_64 ksipush_1000 rfl
theorem wX0_until_67 : E_ d mX0_until 67 ls (.int y :: .int x :: st) h = if x < y then E_ d mX0_until 70 ls st h else E_ d mX0_until 105 ls st h := e_ige dX0_until_67 rfl rfl
theorem wX0_until_70 : E_ d mX0_until 70 [s0, s1, .val (.int x), s3, s4, s5, s6] st h = E_ d mX0_until 71 [s0, s1, .val (.int x), s3, s4, s5, s6] (.int x :: st) h := e_go dX0_until_70 rfl rfl
theorem wX0_until_71 : E_ d mX0_until 71 [s0, s1, s2, s3, s4, .val (.int x), s6] st h = E_ d mX0_until 73 [s0, s1, s2, s3, s4, .val (.int x), s6] (.int x :: st) h := e_go dX0_until_71 rfl rfl
theorem wX0_until_73 : E_ d mX0_until 73 ls (.int y :: .int x :: st) h = E_ d mX0_until 74 ls (.int (x - y) :: st) h := e_go dX0_until_73 rfl rfl
theorem wX0_until_74 : E_ d mX0_until 74 ls [.int x1] h = (xP 8 [.int x1] h).bind fun r => E_ d mX0_until 77 ls (xpu r.1 []) r.2 := e_staP dX0_until_74 rfl (Nat.le_of_ble_eq_true rfl) rfl rfl rfl (Nat.le_of_ble_eq_true rfl)
theorem wX0_until_77 : E_ d mX0_until 77 [s0, s1, s2, s3, .val (.int x), s5, s6] st h = E_ d mX0_until 79 [s0, s1, s2, s3, .val (.int x), s5, s6] (.int x :: st) h := e_go dX0_until_77 rfl rfl
theorem wX0_until_79 : E_ d mX0_until 79 ls (.int y :: .int x :: st) h = if y < x then E_ d mX0_until 85 ls st h else E_ d mX0_until 82 ls st h := e_igt dX0_until_79 rfl rfl
theorem wX0_until_82 : E_ d mX0_until 82 [s0, s1, s2, s3, s4, s5, .val (.int x)] st h = E_ d mX0_until 84 [s0, s1, s2, s3, s4, s5, .val (.int x)] (.int x :: st) h := e_go dX0_until_82 rfl rfl
theorem wX0_until_84 : E_ d mX0_until 84 ls [.int x] h = some (some (.int x), h) := e_rt dX0_until_84 rfl rfl
theorem wX0_until_85 : E_ d mX0_until 85 [s0, s1, s2, s3, s4, .val (.int x), s6] st h = E_ d mX0_until 87 [s0, s1, s2, s3, s4, .val (.int x), s6] (.int x :: st) h := e_go dX0_until_85 rfl rfl
theorem wX0_until_87 : E_ d mX0_until 87 [s0, s1, .val (.int x), s3, s4, s5, s6] st h = E_ d mX0_until 88 [s0, s1, .val (.int x), s3, s4, s5, s6] (.int x :: st) h := e_go dX0_until_87 rfl rfl
theorem wX0_until_88 : E_ d mX0_until 88 [s0, s1, s2, s3, s4, .val (.int x), s6] st h = E_ d mX0_until 90 [s0, s1, s2, s3, s4, .val (.int x), s6] (.int x :: st) h := e_go dX0_until_88 rfl rfl
theorem wX0_until_90 : E_ d mX0_until 90 ls (.int y :: .int x :: st) h = E_ d mX0_until 91 ls (.int (x - y) :: st) h := e_go dX0_until_90 rfl rfl
theorem wX0_until_91 : E_ d mX0_until 91 [s0, s1, s2, .val (.int x), s4, s5, s6] st h = E_ d mX0_until 92 [s0, s1, s2, .val (.int x), s4, s5, s6] (.int x :: st) h := e_go dX0_until_91 rfl rfl
theorem wX0_until_92 : E_ d mX0_until 92 ls (.int y :: .int x :: st) h = E_ d mX0_until 93 ls (.int (x * y) :: st) h := e_go dX0_until_92 rfl rfl
theorem wX0_until_93 : E_ d mX0_until 93 ls st h = E_ d mX0_until 95 ls (.int (nI 100) :: st) h := e_bipush dX0_until_93 kbipush_100 rfl
theorem wX0_until_95 (hy : ¬ y = 0) : E_ d mX0_until 95 ls (.int y :: .int x :: st) h = E_ d mX0_until 96 ls (.int (x / y) :: st) h := e_div dX0_until_95 rfl hy
theorem wX0_until_96 : E_ d mX0_until 96 ls (.int y :: .int x :: st) h = E_ d mX0_until 97 ls (.int (x + y) :: st) h := e_go dX0_until_96 rfl rfl
theorem wX0_until_97 : E_ d mX0_until 97 [s0, s1, s2, s3, s4, s5, s6] (.int x :: st) h = E_ d mX0_until 99 [s0, s1, s2, s3, xk s4, .val (.int x), s6] st h := e_go dX0_until_97 rfl rfl
theorem wX0_until_99 : E_ d mX0_until 99 [s0, s1, s2, s3, s4, s5, .val (.int x)] st h = E_ d mX0_until 102 [s0, s1, s2, s3, s4, xk s5, .val (.int (x + nI 1))] st h := by rw [← kiinc_1]; exact e_go dX0_until_99 rfl rfl
theorem wX0_until_102 : E_ d mX0_until 102 ls st h = E_ d mX0_until 62 ls st h := e_gt dX0_until_102 rfl
theorem wX0_until_105 : E_ d mX0_until 105 ls st h = E_ d mX0_until 106 ls (.int ((-1)) :: st) h := e_iconst dX0_until_105 kiconst_m1 rfl
theorem wX0_until_106 : E_ d mX0_until 106 ls [.int x] h = some (some (.int x), h) := e_rt dX0_until_106 rfl rfl
/-! FootOut.lot -/
theorem wX0_lot_0 : E_ d mX0_lot 0 [s0, .val (.int x), s2, s3] st h = E_ d mX0_lot 1 [s0, .val (.int x), s2, s3] (.int x :: st) h := e_go dX0_lot_0 rfl rfl
theorem wX0_lot_1 : E_ d mX0_lot 1 ls (.int x :: st) h = E_ d mX0_lot 2 ls (.long x.toInt64 :: st) h := e_go dX0_lot_1 rfl rfl
theorem wX0_lot_2 : E_ d mX0_lot 2 ls st h = E_ d mX0_lot 3 ls (.long 0 :: st) h := e_go dX0_lot_2 rfl rfl
theorem wX0_lot_3 : E_ d mX0_lot 3 ls st h = E_ d mX0_lot 6 ls (.long (1000) :: st) h := e_go dX0_lot_3 rfl rfl
theorem wX0_lot_6 : E_ (d + 1) mX0_lot 6 ls [.long u3, .long u2, .long u1] h = (C_ d mX0_in [.long u1, .long u2, .long u3] h).bind fun r => E_ (d + 1) mX0_lot 9 ls (xpu r.1 []) r.2 := e_call dX0_lot_6 rfl rfl
theorem wX0_lot_9 : E_ d mX0_lot 9 ls (.int x :: st) h = if x = 0 then E_ d mX0_lot 24 ls st h else E_ d mX0_lot 12 ls st h := e_zeq dX0_lot_9 rfl rfl
theorem wX0_lot_12 : E_ d mX0_lot 12 [s0, s1, .val (.int x), s3] st h = E_ d mX0_lot 13 [s0, s1, .val (.int x), s3] (.int x :: st) h := e_go dX0_lot_12 rfl rfl
theorem wX0_lot_13 : E_ d mX0_lot 13 ls (.int x :: st) h = E_ d mX0_lot 14 ls (.long x.toInt64 :: st) h := e_go dX0_lot_13 rfl rfl
theorem wX0_lot_14 : E_ d mX0_lot 14 ls st h = E_ d mX0_lot 15 ls (.long 0 :: st) h := e_go dX0_lot_14 rfl rfl
theorem wX0_lot_15 : E_ d mX0_lot 15 ls st h = E_ d mX0_lot 18 ls (.long (1000) :: st) h := e_go dX0_lot_15 rfl rfl
theorem wX0_lot_18 : E_ (d + 1) mX0_lot 18 ls [.long u3, .long u2, .long u1] h = (C_ d mX0_in [.long u1, .long u2, .long u3] h).bind fun r => E_ (d + 1) mX0_lot 21 ls (xpu r.1 []) r.2 := e_call dX0_lot_18 rfl rfl
theorem wX0_lot_21 : E_ d mX0_lot 21 ls (.int x :: st) h = if x = 0 then E_ d mX0_lot 24 ls st h else E_ d mX0_lot 31 ls st h := e_zne dX0_lot_21 rfl rfl
theorem wX0_lot_24 : E_ d mX0_lot 24 [.val (.ref a), s1, s2, s3] st h = E_ d mX0_lot 25 [.val (.ref a), s1, s2, s3] (.ref a :: st) h := e_go dX0_lot_24 rfl rfl
theorem wX0_lot_25 : E_ d mX0_lot 25 ls st h = E_ d mX0_lot 27 ls (.int ((-3)) :: st) h := e_bipush dX0_lot_25 kbipush_m3 rfl
theorem wX0_lot_27 (ht : oT h a = 1) : E_ (d + 1) mX0_lot 27 ls [.int x1, .ref a] h = (C_ d mX0_no [.ref a, .int x1] h).bind fun r => E_ (d + 1) mX0_lot 30 ls (xpu r.1 []) r.2 := e_vir dX0_lot_27 rfl rfl rfl rfl rfl rfl (Nat.le_of_ble_eq_true rfl) (Nat.le_of_ble_eq_true rfl) ht
theorem wX0_lot_30 : E_ d mX0_lot 30 ls [.int x] h = some (some (.int x), h) := e_rt dX0_lot_30 rfl rfl
theorem wX0_lot_31 : E_ d mX0_lot 31 ls st h = E_ d mX0_lot 32 ls (.int (nI 1) :: st) h := e_iconst dX0_lot_31 kiconst_1 rfl
theorem wX0_lot_32 : E_ d mX0_lot 32 [s0, s1, s2, s3] (.int x :: st) h = E_ d mX0_lot 33 [s0, s1, xk s2, .val (.int x)] st h := e_go dX0_lot_32 rfl rfl
theorem wX0_lot_33 : E_ d mX0_lot 33 [s0, s1, s2, .val (.int x)] st h = E_ d mX0_lot 34 [s0, s1, s2, .val (.int x)] (.int x :: st) h := e_go dX0_lot_33 rfl rfl
theorem wX0_lot_34 : E_ d mX0_lot 34 ls st h = E_ d mX0_lot 37 ls (.int (nI 9999) :: st) h := e_sipush dX0_lot_34 ksipush_9999 rfl
theorem wX0_lot_37 : E_ d mX0_lot 37 ls (.int y :: .int x :: st) h = if y < x then E_ d mX0_lot 73 ls st h else E_ d mX0_lot 40 ls st h := e_igt dX0_lot_37 rfl rfl
theorem wX0_lot_40 : E_ d mX0_lot 40 [s0, s1, s2, .val (.int x)] st h = E_ d mX0_lot 41 [s0, s1, s2, .val (.int x)] (.int x :: st) h := e_go dX0_lot_40 rfl rfl
theorem wX0_lot_41 : E_ d mX0_lot 41 ls (.int x :: st) h = E_ d mX0_lot 42 ls (.long x.toInt64 :: st) h := e_go dX0_lot_41 rfl rfl
theorem wX0_lot_42 : E_ d mX0_lot 42 [s0, .val (.int x), s2, s3] st h = E_ d mX0_lot 43 [s0, .val (.int x), s2, s3] (.int x :: st) h := e_go dX0_lot_42 rfl rfl
theorem wX0_lot_43 : E_ d mX0_lot 43 [s0, s1, .val (.int x), s3] st h = E_ d mX0_lot 44 [s0, s1, .val (.int x), s3] (.int x :: st) h := e_go dX0_lot_43 rfl rfl
theorem wX0_lot_44 : E_ d mX0_lot 44 ls (.int y :: .int x :: st) h = E_ d mX0_lot 45 ls (.int (x - y) :: st) h := e_go dX0_lot_44 rfl rfl
theorem wX0_lot_45 : E_ d mX0_lot 45 ls (.int x :: st) h = E_ d mX0_lot 46 ls (.long x.toInt64 :: st) h := e_go dX0_lot_45 rfl rfl
theorem wX0_lot_46 : E_ d mX0_lot 46 ls (.long v :: .long u :: st) h = E_ d mX0_lot 47 ls (.long (u * v) :: st) h := e_go dX0_lot_46 rfl rfl
theorem wX0_lot_47 : E_ d mX0_lot 47 [s0, .val (.int x), s2, s3] st h = E_ d mX0_lot 48 [s0, .val (.int x), s2, s3] (.int x :: st) h := e_go dX0_lot_47 rfl rfl
theorem wX0_lot_48 : E_ d mX0_lot 48 [s0, s1, .val (.int x), s3] st h = E_ d mX0_lot 49 [s0, s1, .val (.int x), s3] (.int x :: st) h := e_go dX0_lot_48 rfl rfl
theorem wX0_lot_49 : E_ d mX0_lot 49 ls (.int y :: .int x :: st) h = E_ d mX0_lot 50 ls (.int (x - y) :: st) h := e_go dX0_lot_49 rfl rfl
theorem wX0_lot_50 : E_ d mX0_lot 50 ls (.int x :: st) h = E_ d mX0_lot 51 ls (.long x.toInt64 :: st) h := e_go dX0_lot_50 rfl rfl
theorem wX0_lot_51 : E_ d mX0_lot 51 ls (.long v :: .long u :: st) h = E_ d mX0_lot 52 ls (.long (u * v) :: st) h := e_go dX0_lot_51 rfl rfl
theorem wX0_lot_52 : E_ d mX0_lot 52 [s0, .val (.int x), s2, s3] st h = E_ d mX0_lot 53 [s0, .val (.int x), s2, s3] (.int x :: st) h := e_go dX0_lot_52 rfl rfl
theorem wX0_lot_53 : E_ (d + 1) mX0_lot 53 ls [.int x1, .long u1] h = (C_ d mX0_spread [.int x1] h).bind fun r => E_ (d + 1) mX0_lot 56 ls (xpu r.1 [.long u1]) r.2 := e_call dX0_lot_53 rfl rfl
theorem wX0_lot_56 : E_ d mX0_lot 56 [s0, s1, .val (.int x), s3] st h = E_ d mX0_lot 57 [s0, s1, .val (.int x), s3] (.int x :: st) h := e_go dX0_lot_56 rfl rfl
theorem wX0_lot_57 : E_ (d + 1) mX0_lot 57 ls [.int x1, .long u1, .long u2] h = (C_ d mX0_spread [.int x1] h).bind fun r => E_ (d + 1) mX0_lot 60 ls (xpu r.1 [.long u1, .long u2]) r.2 := e_call dX0_lot_57 rfl rfl
theorem wX0_lot_60 : E_ d mX0_lot 60 ls (.long v :: .long u :: st) h = E_ d mX0_lot 61 ls (.long (u + v) :: st) h := e_go dX0_lot_60 rfl rfl
theorem wX0_lot_61 : E_ d mX0_lot 61 ls (.long v :: .long u :: st) h = E_ d mX0_lot 62 ls (.int (lg_cmp u v) :: st) h := e_go dX0_lot_61 rfl rfl
theorem wX0_lot_62 : E_ d mX0_lot 62 ls (.int x :: st) h = if x < 0 then E_ d mX0_lot 67 ls st h else E_ d mX0_lot 65 ls st h := e_zlt dX0_lot_62 rfl rfl
theorem wX0_lot_65 : E_ d mX0_lot 65 [s0, s1, s2, .val (.int x)] st h = E_ d mX0_lot 66 [s0, s1, s2, .val (.int x)] (.int x :: st) h := e_go dX0_lot_65 rfl rfl
theorem wX0_lot_66 : E_ d mX0_lot 66 ls [.int x] h = some (some (.int x), h) := e_rt dX0_lot_66 rfl rfl
theorem wX0_lot_67 : E_ d mX0_lot 67 [s0, s1, s2, .val (.int x)] st h = E_ d mX0_lot 70 [s0, s1, xk s2, .val (.int (x + nI 1))] st h := by rw [← kiinc_1]; exact e_go dX0_lot_67 rfl rfl
theorem wX0_lot_70 : E_ d mX0_lot 70 ls st h = E_ d mX0_lot 33 ls st h := e_gt dX0_lot_70 rfl
theorem wX0_lot_73 : E_ d mX0_lot 73 ls st h = E_ d mX0_lot 74 ls (.int ((-1)) :: st) h := e_iconst dX0_lot_73 kiconst_m1 rfl
theorem wX0_lot_74 : E_ d mX0_lot 74 ls [.int x] h = some (some (.int x), h) := e_rt dX0_lot_74 rfl rfl
/-! FootOut.spread -/
theorem wX0_spread_0 : E_ d mX0_spread 0 ls st h = E_ d mX0_spread 3 ls (.long (4) :: st) h := e_go dX0_spread_0 rfl rfl
theorem wX0_spread_3 : E_ d mX0_spread 3 [.val (.int x)] st h = E_ d mX0_spread 4 [.val (.int x)] (.int x :: st) h := e_go dX0_spread_3 rfl rfl
theorem wX0_spread_4 : E_ d mX0_spread 4 ls (.int x :: st) h = E_ d mX0_spread 5 ls (.long x.toInt64 :: st) h := e_go dX0_spread_4 rfl rfl
theorem wX0_spread_5 : E_ d mX0_spread 5 ls (.long v :: .long u :: st) h = E_ d mX0_spread 6 ls (.long (u * v) :: st) h := e_go dX0_spread_5 rfl rfl
theorem wX0_spread_6 : E_ d mX0_spread 6 ls st h = E_ d mX0_spread 9 ls (.int (nI 1000) :: st) h := e_sipush dX0_spread_6 ksipush_1000 rfl
theorem wX0_spread_9 : E_ d mX0_spread 9 [.val (.int x)] st h = E_ d mX0_spread 10 [.val (.int x)] (.int x :: st) h := e_go dX0_spread_9 rfl rfl
theorem wX0_spread_10 : E_ d mX0_spread 10 ls (.int y :: .int x :: st) h = E_ d mX0_spread 11 ls (.int (x - y) :: st) h := e_go dX0_spread_10 rfl rfl
theorem wX0_spread_11 : E_ d mX0_spread 11 ls (.int x :: st) h = E_ d mX0_spread 12 ls (.long x.toInt64 :: st) h := e_go dX0_spread_11 rfl rfl
theorem wX0_spread_12 : E_ d mX0_spread 12 ls (.long v :: .long u :: st) h = E_ d mX0_spread 13 ls (.long (u * v) :: st) h := e_go dX0_spread_12 rfl rfl
theorem wX0_spread_13 : E_ d mX0_spread 13 ls [.long u] h = some (some (.long u), h) := e_rt dX0_spread_13 rfl rfl
/-! FootOut.shown -/
theorem wX0_shown_0 : E_ d mX0_shown 0 [s0, s1, .val (.int x), s3, s4, s5, s6, s7, s8] st h = E_ d mX0_shown 1 [s0, s1, .val (.int x), s3, s4, s5, s6, s7, s8] (.int x :: st) h := e_go dX0_shown_0 rfl rfl
theorem wX0_shown_1 : E_ d mX0_shown 1 ls (.int x :: st) h = E_ d mX0_shown 2 ls (.long x.toInt64 :: st) h := e_go dX0_shown_1 rfl rfl
theorem wX0_shown_2 : E_ d mX0_shown 2 ls st h = E_ d mX0_shown 3 ls (.long 1 :: st) h := e_go dX0_shown_2 rfl rfl
theorem wX0_shown_3 : E_ d mX0_shown 3 ls st h = E_ d mX0_shown 6 ls (.long (300) :: st) h := e_go dX0_shown_3 rfl rfl
theorem wX0_shown_6 : E_ (d + 1) mX0_shown 6 ls [.long u3, .long u2, .long u1] h = (C_ d mX0_in [.long u1, .long u2, .long u3] h).bind fun r => E_ (d + 1) mX0_shown 9 ls (xpu r.1 []) r.2 := e_call dX0_shown_6 rfl rfl
theorem wX0_shown_9 : E_ d mX0_shown 9 ls (.int x :: st) h = if x = 0 then E_ d mX0_shown 48 ls st h else E_ d mX0_shown 12 ls st h := e_zeq dX0_shown_9 rfl rfl
theorem wX0_shown_12 : E_ d mX0_shown 12 [s0, s1, s2, s3, .val (.int x), s5, s6, s7, s8] st h = E_ d mX0_shown 14 [s0, s1, s2, s3, .val (.int x), s5, s6, s7, s8] (.int x :: st) h := e_go dX0_shown_12 rfl rfl
theorem wX0_shown_14 : E_ d mX0_shown 14 ls (.int x :: st) h = E_ d mX0_shown 15 ls (.long x.toInt64 :: st) h := e_go dX0_shown_14 rfl rfl
theorem wX0_shown_15 : E_ d mX0_shown 15 ls st h = E_ d mX0_shown 16 ls (.long 1 :: st) h := e_go dX0_shown_15 rfl rfl
theorem wX0_shown_16 : E_ d mX0_shown 16 ls st h = E_ d mX0_shown 19 ls (.long (300) :: st) h := e_go dX0_shown_16 rfl rfl
theorem wX0_shown_19 : E_ (d + 1) mX0_shown 19 ls [.long u3, .long u2, .long u1] h = (C_ d mX0_in [.long u1, .long u2, .long u3] h).bind fun r => E_ (d + 1) mX0_shown 22 ls (xpu r.1 []) r.2 := e_call dX0_shown_19 rfl rfl
theorem wX0_shown_22 : E_ d mX0_shown 22 ls (.int x :: st) h = if x = 0 then E_ d mX0_shown 48 ls st h else E_ d mX0_shown 25 ls st h := e_zeq dX0_shown_22 rfl rfl
theorem wX0_shown_25 : E_ d mX0_shown 25 [s0, .val (.int x), s2, s3, s4, s5, s6, s7, s8] st h = E_ d mX0_shown 26 [s0, .val (.int x), s2, s3, s4, s5, s6, s7, s8] (.int x :: st) h := e_go dX0_shown_25 rfl rfl
theorem wX0_shown_26 : E_ d mX0_shown 26 ls (.int x :: st) h = E_ d mX0_shown 27 ls (.long x.toInt64 :: st) h := e_go dX0_shown_26 rfl rfl
theorem wX0_shown_27 : E_ d mX0_shown 27 ls st h = E_ d mX0_shown 28 ls (.long 0 :: st) h := e_go dX0_shown_27 rfl rfl
theorem wX0_shown_28 : E_ d mX0_shown 28 [s0, s1, .val (.int x), s3, s4, s5, s6, s7, s8] st h = E_ d mX0_shown 29 [s0, s1, .val (.int x), s3, s4, s5, s6, s7, s8] (.int x :: st) h := e_go dX0_shown_28 rfl rfl
theorem wX0_shown_29 : E_ d mX0_shown 29 ls (.int x :: st) h = E_ d mX0_shown 30 ls (.long x.toInt64 :: st) h := e_go dX0_shown_29 rfl rfl
theorem wX0_shown_30 : E_ (d + 1) mX0_shown 30 ls [.long u3, .long u2, .long u1] h = (C_ d mX0_in [.long u1, .long u2, .long u3] h).bind fun r => E_ (d + 1) mX0_shown 33 ls (xpu r.1 []) r.2 := e_call dX0_shown_30 rfl rfl
theorem wX0_shown_33 : E_ d mX0_shown 33 ls (.int x :: st) h = if x = 0 then E_ d mX0_shown 48 ls st h else E_ d mX0_shown 36 ls st h := e_zeq dX0_shown_33 rfl rfl
theorem wX0_shown_36 : E_ d mX0_shown 36 [s0, s1, s2, .val (.int x), s4, s5, s6, s7, s8] st h = E_ d mX0_shown 37 [s0, s1, s2, .val (.int x), s4, s5, s6, s7, s8] (.int x :: st) h := e_go dX0_shown_36 rfl rfl
theorem wX0_shown_37 : E_ d mX0_shown 37 ls (.int x :: st) h = E_ d mX0_shown 38 ls (.long x.toInt64 :: st) h := e_go dX0_shown_37 rfl rfl
theorem wX0_shown_38 : E_ d mX0_shown 38 ls st h = E_ d mX0_shown 39 ls (.long 0 :: st) h := e_go dX0_shown_38 rfl rfl
theorem wX0_shown_39 : E_ d mX0_shown 39 [s0, s1, s2, s3, .val (.int x), s5, s6, s7, s8] st h = E_ d mX0_shown 41 [s0, s1, s2, s3, .val (.int x), s5, s6, s7, s8] (.int x :: st) h := e_go dX0_shown_39 rfl rfl
theorem wX0_shown_41 : E_ d mX0_shown 41 ls (.int x :: st) h = E_ d mX0_shown 42 ls (.long x.toInt64 :: st) h := e_go dX0_shown_41 rfl rfl
theorem wX0_shown_42 : E_ (d + 1) mX0_shown 42 ls [.long u3, .long u2, .long u1] h = (C_ d mX0_in [.long u1, .long u2, .long u3] h).bind fun r => E_ (d + 1) mX0_shown 45 ls (xpu r.1 []) r.2 := e_call dX0_shown_42 rfl rfl
theorem wX0_shown_45 : E_ d mX0_shown 45 ls (.int x :: st) h = if x = 0 then E_ d mX0_shown 48 ls st h else E_ d mX0_shown 55 ls st h := e_zne dX0_shown_45 rfl rfl
theorem wX0_shown_48 : E_ d mX0_shown 48 [.val (.ref a), s1, s2, s3, s4, s5, s6, s7, s8] st h = E_ d mX0_shown 49 [.val (.ref a), s1, s2, s3, s4, s5, s6, s7, s8] (.ref a :: st) h := e_go dX0_shown_48 rfl rfl
theorem wX0_shown_49 : E_ d mX0_shown 49 ls st h = E_ d mX0_shown 51 ls (.int ((-3)) :: st) h := e_bipush dX0_shown_49 kbipush_m3 rfl
theorem wX0_shown_51 (ht : oT h a = 1) : E_ (d + 1) mX0_shown 51 ls [.int x1, .ref a] h = (C_ d mX0_no [.ref a, .int x1] h).bind fun r => E_ (d + 1) mX0_shown 54 ls (xpu r.1 []) r.2 := e_vir dX0_shown_51 rfl rfl rfl rfl rfl rfl (Nat.le_of_ble_eq_true rfl) (Nat.le_of_ble_eq_true rfl) ht
theorem wX0_shown_54 : E_ d mX0_shown 54 ls [.int x] h = some (some (.int x), h) := e_rt dX0_shown_54 rfl rfl
theorem wX0_shown_55 : E_ d mX0_shown 55 [s0, .val (.int x), s2, s3, s4, s5, s6, s7, s8] st h = E_ d mX0_shown 56 [s0, .val (.int x), s2, s3, s4, s5, s6, s7, s8] (.int x :: st) h := e_go dX0_shown_55 rfl rfl
theorem wX0_shown_56 : E_ d mX0_shown 56 ls (.int x :: st) h = E_ d mX0_shown 57 ls (.long x.toInt64 :: st) h := e_go dX0_shown_56 rfl rfl
theorem wX0_shown_57 : E_ d mX0_shown 57 [s0, s1, s2, s3, .val (.int x), s5, s6, s7, s8] st h = E_ d mX0_shown 59 [s0, s1, s2, s3, .val (.int x), s5, s6, s7, s8] (.int x :: st) h := e_go dX0_shown_57 rfl rfl
theorem wX0_shown_59 : E_ d mX0_shown 59 ls (.int x :: st) h = E_ d mX0_shown 60 ls (.long x.toInt64 :: st) h := e_go dX0_shown_59 rfl rfl
theorem wX0_shown_60 : E_ d mX0_shown 60 ls (.long v :: .long u :: st) h = E_ d mX0_shown 61 ls (.long (u * v) :: st) h := e_go dX0_shown_60 rfl rfl
theorem wX0_shown_61 : E_ d mX0_shown 61 [s0, s1, s2, .val (.int x), s4, s5, s6, s7, s8] st h = E_ d mX0_shown 62 [s0, s1, s2, .val (.int x), s4, s5, s6, s7, s8] (.int x :: st) h := e_go dX0_shown_61 rfl rfl
theorem wX0_shown_62 : E_ d mX0_shown 62 ls (.int x :: st) h = E_ d mX0_shown 63 ls (.long x.toInt64 :: st) h := e_go dX0_shown_62 rfl rfl
theorem wX0_shown_63 : E_ d mX0_shown 63 [s0, s1, .val (.int x), s3, s4, s5, s6, s7, s8] st h = E_ d mX0_shown 64 [s0, s1, .val (.int x), s3, s4, s5, s6, s7, s8] (.int x :: st) h := e_go dX0_shown_63 rfl rfl
theorem wX0_shown_64 : E_ d mX0_shown 64 ls (.int x :: st) h = E_ d mX0_shown 65 ls (.long x.toInt64 :: st) h := e_go dX0_shown_64 rfl rfl
theorem wX0_shown_65 : E_ d mX0_shown 65 ls (.long v :: .long u :: st) h = E_ d mX0_shown 66 ls (.long (u * v) :: st) h := e_go dX0_shown_65 rfl rfl
theorem wX0_shown_66 : E_ d mX0_shown 66 ls (.long v :: .long u :: st) h = E_ d mX0_shown 67 ls (.long (u - v) :: st) h := e_go dX0_shown_66 rfl rfl
theorem wX0_shown_67 : E_ d mX0_shown 67 [s0, s1, s2, s3, s4, s5, s6, s7, s8] (.long u :: st) h = E_ d mX0_shown 69 [s0, s1, s2, s3, xk s4, .val (.long u), .unset, s7, s8] st h := e_go dX0_shown_67 rfl rfl
theorem wX0_shown_69 : E_ d mX0_shown 69 ls st h = E_ d mX0_shown 72 ls (.long (4) :: st) h := e_go dX0_shown_69 rfl rfl
theorem wX0_shown_72 : E_ d mX0_shown 72 [s0, .val (.int x), s2, s3, s4, s5, s6, s7, s8] st h = E_ d mX0_shown 73 [s0, .val (.int x), s2, s3, s4, s5, s6, s7, s8] (.int x :: st) h := e_go dX0_shown_72 rfl rfl
theorem wX0_shown_73 : E_ d mX0_shown 73 [s0, s1, .val (.int x), s3, s4, s5, s6, s7, s8] st h = E_ d mX0_shown 74 [s0, s1, .val (.int x), s3, s4, s5, s6, s7, s8] (.int x :: st) h := e_go dX0_shown_73 rfl rfl
theorem wX0_shown_74 : E_ d mX0_shown 74 [s0, .val (.int x), s2, s3, s4, s5, s6, s7, s8] st h = E_ d mX0_shown 75 [s0, .val (.int x), s2, s3, s4, s5, s6, s7, s8] (.int x :: st) h := e_go dX0_shown_74 rfl rfl
theorem wX0_shown_75 : E_ d mX0_shown 75 ls (.int y :: .int x :: st) h = E_ d mX0_shown 76 ls (.int (x - y) :: st) h := e_go dX0_shown_75 rfl rfl
theorem wX0_shown_76 : E_ d mX0_shown 76 ls (.int y :: .int x :: st) h = E_ d mX0_shown 77 ls (.int (x * y) :: st) h := e_go dX0_shown_76 rfl rfl
theorem wX0_shown_77 : E_ d mX0_shown 77 ls (.int x :: st) h = E_ d mX0_shown 78 ls (.long x.toInt64 :: st) h := e_go dX0_shown_77 rfl rfl
theorem wX0_shown_78 : E_ d mX0_shown 78 [s0, s1, s2, s3, .val (.int x), s5, s6, s7, s8] st h = E_ d mX0_shown 80 [s0, s1, s2, s3, .val (.int x), s5, s6, s7, s8] (.int x :: st) h := e_go dX0_shown_78 rfl rfl
theorem wX0_shown_80 : E_ d mX0_shown 80 ls (.int x :: st) h = E_ d mX0_shown 81 ls (.long x.toInt64 :: st) h := e_go dX0_shown_80 rfl rfl
theorem wX0_shown_81 : E_ (d + 1) mX0_shown 81 ls [.long u1, .long u2, .long u3] h = (C_ d mX0_cube [.long u1] h).bind fun r => E_ (d + 1) mX0_shown 84 ls (xpu r.1 [.long u2, .long u3]) r.2 := e_call dX0_shown_81 rfl rfl
theorem wX0_shown_84 : E_ d mX0_shown 84 ls (.long v :: .long u :: st) h = E_ d mX0_shown 85 ls (.long (u * v) :: st) h := e_go dX0_shown_84 rfl rfl
theorem wX0_shown_85 : E_ d mX0_shown 85 [s0, s1, s2, .val (.int x), s4, s5, s6, s7, s8] st h = E_ d mX0_shown 86 [s0, s1, s2, .val (.int x), s4, s5, s6, s7, s8] (.int x :: st) h := e_go dX0_shown_85 rfl rfl
theorem wX0_shown_86 : E_ d mX0_shown 86 [s0, s1, s2, s3, .val (.int x), s5, s6, s7, s8] st h = E_ d mX0_shown 88 [s0, s1, s2, s3, .val (.int x), s5, s6, s7, s8] (.int x :: st) h := e_go dX0_shown_86 rfl rfl
theorem wX0_shown_88 : E_ d mX0_shown 88 [s0, s1, s2, .val (.int x), s4, s5, s6, s7, s8] st h = E_ d mX0_shown 89 [s0, s1, s2, .val (.int x), s4, s5, s6, s7, s8] (.int x :: st) h := e_go dX0_shown_88 rfl rfl
theorem wX0_shown_89 : E_ d mX0_shown 89 ls (.int y :: .int x :: st) h = E_ d mX0_shown 90 ls (.int (x - y) :: st) h := e_go dX0_shown_89 rfl rfl
theorem wX0_shown_90 : E_ d mX0_shown 90 ls (.int y :: .int x :: st) h = E_ d mX0_shown 91 ls (.int (x * y) :: st) h := e_go dX0_shown_90 rfl rfl
theorem wX0_shown_91 : E_ d mX0_shown 91 ls (.int x :: st) h = E_ d mX0_shown 92 ls (.long x.toInt64 :: st) h := e_go dX0_shown_91 rfl rfl
theorem wX0_shown_92 : E_ d mX0_shown 92 [s0, s1, .val (.int x), s3, s4, s5, s6, s7, s8] st h = E_ d mX0_shown 93 [s0, s1, .val (.int x), s3, s4, s5, s6, s7, s8] (.int x :: st) h := e_go dX0_shown_92 rfl rfl
theorem wX0_shown_93 : E_ d mX0_shown 93 ls (.int x :: st) h = E_ d mX0_shown 94 ls (.long x.toInt64 :: st) h := e_go dX0_shown_93 rfl rfl
theorem wX0_shown_94 : E_ (d + 1) mX0_shown 94 ls [.long u1, .long u2, .long u3, .long u4] h = (C_ d mX0_cube [.long u1] h).bind fun r => E_ (d + 1) mX0_shown 97 ls (xpu r.1 [.long u2, .long u3, .long u4]) r.2 := e_call dX0_shown_94 rfl rfl
theorem wX0_shown_97 : E_ d mX0_shown 97 ls (.long v :: .long u :: st) h = E_ d mX0_shown 98 ls (.long (u * v) :: st) h := e_go dX0_shown_97 rfl rfl
theorem wX0_shown_98 : E_ d mX0_shown 98 ls (.long v :: .long u :: st) h = E_ d mX0_shown 99 ls (.long (u + v) :: st) h := e_go dX0_shown_98 rfl rfl
theorem wX0_shown_99 : E_ d mX0_shown 99 ls (.long v :: .long u :: st) h = E_ d mX0_shown 100 ls (.long (u * v) :: st) h := e_go dX0_shown_99 rfl rfl
theorem wX0_shown_100 : E_ d mX0_shown 100 [s0, s1, s2, s3, s4, s5, s6, s7, s8] (.long u :: st) h = E_ d mX0_shown 102 [s0, s1, s2, s3, s4, s5, xk s6, .val (.long u), .unset] st h := e_go dX0_shown_100 rfl rfl
theorem wX0_shown_102 : E_ d mX0_shown 102 [s0, s1, s2, s3, s4, .val (.long u), s6, s7, s8] st h = E_ d mX0_shown 104 [s0, s1, s2, s3, s4, .val (.long u), s6, s7, s8] (.long u :: st) h := e_go dX0_shown_102 rfl rfl
theorem wX0_shown_104 : E_ d mX0_shown 104 ls st h = E_ d mX0_shown 105 ls (.long 0 :: st) h := e_go dX0_shown_104 rfl rfl
theorem wX0_shown_105 : E_ d mX0_shown 105 ls (.long v :: .long u :: st) h = E_ d mX0_shown 106 ls (.int (lg_cmp u v) :: st) h := e_go dX0_shown_105 rfl rfl
theorem wX0_shown_106 : E_ d mX0_shown 106 ls (.int x :: st) h = if x = 0 then E_ d mX0_shown 131 ls st h else E_ d mX0_shown 109 ls st h := e_zeq dX0_shown_106 rfl rfl
theorem wX0_shown_109 : E_ d mX0_shown 109 [s0, s1, s2, s3, s4, .val (.long u), s6, s7, s8] st h = E_ d mX0_shown 111 [s0, s1, s2, s3, s4, .val (.long u), s6, s7, s8] (.long u :: st) h := e_go dX0_shown_109 rfl rfl
theorem wX0_shown_111 : E_ d mX0_shown 111 [s0, s1, s2, s3, s4, .val (.long u), s6, s7, s8] st h = E_ d mX0_shown 113 [s0, s1, s2, s3, s4, .val (.long u), s6, s7, s8] (.long u :: st) h := e_go dX0_shown_111 rfl rfl
theorem wX0_shown_113 : E_ d mX0_shown 113 ls (.long v :: .long u :: st) h = E_ d mX0_shown 114 ls (.long (u * v) :: st) h := e_go dX0_shown_113 rfl rfl
theorem wX0_shown_114 : E_ d mX0_shown 114 [s0, s1, .val (.int x), s3, s4, s5, s6, s7, s8] st h = E_ d mX0_shown 115 [s0, s1, .val (.int x), s3, s4, s5, s6, s7, s8] (.int x :: st) h := e_go dX0_shown_114 rfl rfl
theorem wX0_shown_115 : E_ d mX0_shown 115 ls (.int x :: st) h = E_ d mX0_shown 116 ls (.long x.toInt64 :: st) h := e_go dX0_shown_115 rfl rfl
theorem wX0_shown_116 : E_ d mX0_shown 116 ls (.long v :: .long u :: st) h = E_ d mX0_shown 117 ls (.long (u * v) :: st) h := e_go dX0_shown_116 rfl rfl
theorem wX0_shown_117 : E_ d mX0_shown 117 [s0, s1, s2, s3, .val (.int x), s5, s6, s7, s8] st h = E_ d mX0_shown 119 [s0, s1, s2, s3, .val (.int x), s5, s6, s7, s8] (.int x :: st) h := e_go dX0_shown_117 rfl rfl
theorem wX0_shown_119 : E_ d mX0_shown 119 ls (.int x :: st) h = E_ d mX0_shown 120 ls (.long x.toInt64 :: st) h := e_go dX0_shown_119 rfl rfl
theorem wX0_shown_120 : E_ d mX0_shown 120 ls (.long v :: .long u :: st) h = E_ d mX0_shown 121 ls (.long (u * v) :: st) h := e_go dX0_shown_120 rfl rfl
theorem wX0_shown_121 : E_ d mX0_shown 121 [s0, s1, s2, s3, s4, s5, s6, .val (.long u), s8] st h = E_ d mX0_shown 123 [s0, s1, s2, s3, s4, s5, s6, .val (.long u), s8] (.long u :: st) h := e_go dX0_shown_121 rfl rfl
theorem wX0_shown_123 : E_ d mX0_shown 123 ls (.long v :: .long u :: st) h = E_ d mX0_shown 124 ls (.int (lg_cmp u v) :: st) h := e_go dX0_shown_123 rfl rfl
theorem wX0_shown_124 : E_ d mX0_shown 124 ls (.int x :: st) h = if x < 0 then E_ d mX0_shown 131 ls st h else E_ d mX0_shown 127 ls st h := e_zlt dX0_shown_124 rfl rfl
theorem wX0_shown_127 : E_ d mX0_shown 127 ls st h = E_ d mX0_shown 128 ls (.int (nI 1) :: st) h := e_iconst dX0_shown_127 kiconst_1 rfl
theorem wX0_shown_128 : E_ d mX0_shown 128 ls st h = E_ d mX0_shown 132 ls st h := e_gt dX0_shown_128 rfl
theorem wX0_shown_131 : E_ d mX0_shown 131 ls st h = E_ d mX0_shown 132 ls (.int (nI 0) :: st) h := e_iconst dX0_shown_131 kiconst_0 rfl
theorem wX0_shown_132 : E_ d mX0_shown 132 ls [.int x] h = some (some (.int x), h) := e_rt dX0_shown_132 rfl rfl
/-! FootOut.cube -/
theorem wX0_cube_0 : E_ d mX0_cube 0 [.val (.long u), s1] st h = E_ d mX0_cube 1 [.val (.long u), s1] (.long u :: st) h := e_go dX0_cube_0 rfl rfl
theorem wX0_cube_1 : E_ d mX0_cube 1 [.val (.long u), s1] st h = E_ d mX0_cube 2 [.val (.long u), s1] (.long u :: st) h := e_go dX0_cube_1 rfl rfl
theorem wX0_cube_2 : E_ d mX0_cube 2 ls (.long v :: .long u :: st) h = E_ d mX0_cube 3 ls (.long (u * v) :: st) h := e_go dX0_cube_2 rfl rfl
theorem wX0_cube_3 : E_ d mX0_cube 3 [.val (.long u), s1] st h = E_ d mX0_cube 4 [.val (.long u), s1] (.long u :: st) h := e_go dX0_cube_3 rfl rfl
theorem wX0_cube_4 : E_ d mX0_cube 4 ls (.long v :: .long u :: st) h = E_ d mX0_cube 5 ls (.long (u * v) :: st) h := e_go dX0_cube_4 rfl rfl
theorem wX0_cube_5 : E_ d mX0_cube 5 ls [.long u] h = some (some (.long u), h) := e_rt dX0_cube_5 rfl rfl
/-! FootOut.clumps -/
theorem wX0_clumps_0 : E_ d mX0_clumps 0 [s0, .val (.int x), s2, s3, s4, s5, s6, s7, s8, s9, s10, s11] st h = E_ d mX0_clumps 1 [s0, .val (.int x), s2, s3, s4, s5, s6, s7, s8, s9, s10, s11] (.int x :: st) h := e_go dX0_clumps_0 rfl rfl
theorem wX0_clumps_1 : E_ (d + 1) mX0_clumps 1 ls [.int x1] h = (C_ d mX0_isRow [.int x1] h).bind fun r => E_ (d + 1) mX0_clumps 4 ls (xpu r.1 []) r.2 := e_call dX0_clumps_1 rfl rfl
theorem wX0_clumps_4 : E_ d mX0_clumps 4 ls (.int x :: st) h = if x = 0 then E_ d mX0_clumps 20 ls st h else E_ d mX0_clumps 7 ls st h := e_zeq dX0_clumps_4 rfl rfl
theorem wX0_clumps_7 : E_ d mX0_clumps 7 [s0, s1, s2, s3, .val (.int x), s5, s6, s7, s8, s9, s10, s11] st h = E_ d mX0_clumps 9 [s0, s1, s2, s3, .val (.int x), s5, s6, s7, s8, s9, s10, s11] (.int x :: st) h := e_go dX0_clumps_7 rfl rfl
theorem wX0_clumps_9 : E_ d mX0_clumps 9 ls (.int x :: st) h = E_ d mX0_clumps 10 ls (.long x.toInt64 :: st) h := e_go dX0_clumps_9 rfl rfl
theorem wX0_clumps_10 : E_ d mX0_clumps 10 ls st h = E_ d mX0_clumps 11 ls (.long 0 :: st) h := e_go dX0_clumps_10 rfl rfl
theorem wX0_clumps_11 : E_ d mX0_clumps 11 ls st h = E_ d mX0_clumps 14 ls (.long (2) :: st) h := e_go dX0_clumps_11 rfl rfl
theorem wX0_clumps_14 : E_ (d + 1) mX0_clumps 14 ls [.long u3, .long u2, .long u1] h = (C_ d mX0_in [.long u1, .long u2, .long u3] h).bind fun r => E_ (d + 1) mX0_clumps 17 ls (xpu r.1 []) r.2 := e_call dX0_clumps_14 rfl rfl
theorem wX0_clumps_17 : E_ d mX0_clumps 17 ls (.int x :: st) h = if x = 0 then E_ d mX0_clumps 20 ls st h else E_ d mX0_clumps 27 ls st h := e_zne dX0_clumps_17 rfl rfl
theorem wX0_clumps_20 : E_ d mX0_clumps 20 [.val (.ref a), s1, s2, s3, s4, s5, s6, s7, s8, s9, s10, s11] st h = E_ d mX0_clumps 21 [.val (.ref a), s1, s2, s3, s4, s5, s6, s7, s8, s9, s10, s11] (.ref a :: st) h := e_go dX0_clumps_20 rfl rfl
theorem wX0_clumps_21 : E_ d mX0_clumps 21 ls st h = E_ d mX0_clumps 23 ls (.int ((-2)) :: st) h := e_bipush dX0_clumps_21 kbipush_m2 rfl
theorem wX0_clumps_23 (ht : oT h a = 1) : E_ (d + 1) mX0_clumps 23 ls [.int x1, .ref a] h = (C_ d mX0_no [.ref a, .int x1] h).bind fun r => E_ (d + 1) mX0_clumps 26 ls (xpu r.1 []) r.2 := e_vir dX0_clumps_23 rfl rfl rfl rfl rfl rfl (Nat.le_of_ble_eq_true rfl) (Nat.le_of_ble_eq_true rfl) ht
theorem wX0_clumps_26 : E_ d mX0_clumps 26 ls [.int x] h = some (some (.int x), h) := e_rt dX0_clumps_26 rfl rfl
theorem wX0_clumps_27 : E_ d mX0_clumps 27 [.val (.ref a), s1, s2, s3, s4, s5, s6, s7, s8, s9, s10, s11] st h = E_ d mX0_clumps 28 [.val (.ref a), s1, s2, s3, s4, s5, s6, s7, s8, s9, s10, s11] (.ref a :: st) h := e_go dX0_clumps_27 rfl rfl
theorem wX0_clumps_28 (ht : oT h a = 1) : E_ d mX0_clumps 28 ls (.ref a :: st) h = E_ d mX0_clumps 31 ls (va_rf (oR h a 17) :: st) h := e_getR0 dX0_clumps_28 rfl rfl ht
theorem wX0_clumps_31 : E_ d mX0_clumps 31 [s0, .val (.int x), s2, s3, s4, s5, s6, s7, s8, s9, s10, s11] st h = E_ d mX0_clumps 32 [s0, .val (.int x), s2, s3, s4, s5, s6, s7, s8, s9, s10, s11] (.int x :: st) h := e_go dX0_clumps_31 rfl rfl
theorem wX0_clumps_32 (ht : 45 ≤ oT h a ∧ oT h a ≤ 48) (hi : xix x (oN h a) = true) : E_ d mX0_clumps 32 ls (.int x :: .ref a :: st) h = E_ d mX0_clumps 33 ls (va_rf (oR h a x.toNatClampNeg) :: st) h := e_aald dX0_clumps_32 rfl ht hi
theorem wX0_clumps_33 (ht : oT h a = 6) : E_ d mX0_clumps 33 ls (.ref a :: st) h = E_ d mX0_clumps 36 ls (va_rf (oR h a 0) :: st) h := e_getR dX0_clumps_33 rfl rfl ht
theorem wX0_clumps_36 : E_ d mX0_clumps 36 ls (.ref a :: st) h = E_ d mX0_clumps 46 ls st h := e_nnR dX0_clumps_36 rfl
theorem wX0_clumps_36n : E_ d mX0_clumps 36 ls (.null :: st) h = E_ d mX0_clumps 39 ls st h := e_go dX0_clumps_36 rfl rfl
theorem wX0_clumps_39 : E_ d mX0_clumps 39 [.val (.ref a), s1, s2, s3, s4, s5, s6, s7, s8, s9, s10, s11] st h = E_ d mX0_clumps 40 [.val (.ref a), s1, s2, s3, s4, s5, s6, s7, s8, s9, s10, s11] (.ref a :: st) h := e_go dX0_clumps_39 rfl rfl
theorem wX0_clumps_40 : E_ d mX0_clumps 40 ls st h = E_ d mX0_clumps 42 ls (.int ((-6)) :: st) h := e_bipush dX0_clumps_40 kbipush_m6 rfl
theorem wX0_clumps_42 (ht : oT h a = 1) : E_ (d + 1) mX0_clumps 42 ls [.int x1, .ref a] h = (C_ d mX0_no [.ref a, .int x1] h).bind fun r => E_ (d + 1) mX0_clumps 45 ls (xpu r.1 []) r.2 := e_vir dX0_clumps_42 rfl rfl rfl rfl rfl rfl (Nat.le_of_ble_eq_true rfl) (Nat.le_of_ble_eq_true rfl) ht
theorem wX0_clumps_45 : E_ d mX0_clumps 45 ls [.int x] h = some (some (.int x), h) := e_rt dX0_clumps_45 rfl rfl
theorem wX0_clumps_46 : E_ d mX0_clumps 46 [s0, s1, .val (.int x), s3, s4, s5, s6, s7, s8, s9, s10, s11] st h = E_ d mX0_clumps 47 [s0, s1, .val (.int x), s3, s4, s5, s6, s7, s8, s9, s10, s11] (.int x :: st) h := e_go dX0_clumps_46 rfl rfl
theorem wX0_clumps_47 : E_ d mX0_clumps 47 ls (.int x :: st) h = E_ d mX0_clumps 48 ls (.long x.toInt64 :: st) h := e_go dX0_clumps_47 rfl rfl
theorem wX0_clumps_48 : E_ d mX0_clumps 48 ls st h = E_ d mX0_clumps 51 ls (.long (2) :: st) h := e_go dX0_clumps_48 rfl rfl
theorem wX0_clumps_51 : E_ d mX0_clumps 51 ls st h = E_ d mX0_clumps 54 ls (.long (999) :: st) h := e_go dX0_clumps_51 rfl rfl
theorem wX0_clumps_54 : E_ (d + 1) mX0_clumps 54 ls [.long u3, .long u2, .long u1] h = (C_ d mX0_in [.long u1, .long u2, .long u3] h).bind fun r => E_ (d + 1) mX0_clumps 57 ls (xpu r.1 []) r.2 := e_call dX0_clumps_54 rfl rfl
theorem wX0_clumps_57 : E_ d mX0_clumps 57 ls (.int x :: st) h = if x = 0 then E_ d mX0_clumps 73 ls st h else E_ d mX0_clumps 60 ls st h := e_zeq dX0_clumps_57 rfl rfl
theorem wX0_clumps_60 : E_ d mX0_clumps 60 [s0, s1, s2, .val (.int x), s4, s5, s6, s7, s8, s9, s10, s11] st h = E_ d mX0_clumps 61 [s0, s1, s2, .val (.int x), s4, s5, s6, s7, s8, s9, s10, s11] (.int x :: st) h := e_go dX0_clumps_60 rfl rfl
theorem wX0_clumps_61 : E_ d mX0_clumps 61 ls (.int x :: st) h = E_ d mX0_clumps 62 ls (.long x.toInt64 :: st) h := e_go dX0_clumps_61 rfl rfl
theorem wX0_clumps_62 : E_ d mX0_clumps 62 ls st h = E_ d mX0_clumps 63 ls (.long 1 :: st) h := e_go dX0_clumps_62 rfl rfl
theorem wX0_clumps_63 : E_ d mX0_clumps 63 [s0, s1, .val (.int x), s3, s4, s5, s6, s7, s8, s9, s10, s11] st h = E_ d mX0_clumps 64 [s0, s1, .val (.int x), s3, s4, s5, s6, s7, s8, s9, s10, s11] (.int x :: st) h := e_go dX0_clumps_63 rfl rfl
theorem wX0_clumps_64 : E_ d mX0_clumps 64 ls st h = E_ d mX0_clumps 65 ls (.int (nI 1) :: st) h := e_iconst dX0_clumps_64 kiconst_1 rfl
theorem wX0_clumps_65 : E_ d mX0_clumps 65 ls (.int y :: .int x :: st) h = E_ d mX0_clumps 66 ls (.int (x - y) :: st) h := e_go dX0_clumps_65 rfl rfl
theorem wX0_clumps_66 : E_ d mX0_clumps 66 ls (.int x :: st) h = E_ d mX0_clumps 67 ls (.long x.toInt64 :: st) h := e_go dX0_clumps_66 rfl rfl
theorem wX0_clumps_67 : E_ (d + 1) mX0_clumps 67 ls [.long u3, .long u2, .long u1] h = (C_ d mX0_in [.long u1, .long u2, .long u3] h).bind fun r => E_ (d + 1) mX0_clumps 70 ls (xpu r.1 []) r.2 := e_call dX0_clumps_67 rfl rfl
theorem wX0_clumps_70 : E_ d mX0_clumps 70 ls (.int x :: st) h = if x = 0 then E_ d mX0_clumps 73 ls st h else E_ d mX0_clumps 80 ls st h := e_zne dX0_clumps_70 rfl rfl
theorem wX0_clumps_73 : E_ d mX0_clumps 73 [.val (.ref a), s1, s2, s3, s4, s5, s6, s7, s8, s9, s10, s11] st h = E_ d mX0_clumps 74 [.val (.ref a), s1, s2, s3, s4, s5, s6, s7, s8, s9, s10, s11] (.ref a :: st) h := e_go dX0_clumps_73 rfl rfl
theorem wX0_clumps_74 : E_ d mX0_clumps 74 ls st h = E_ d mX0_clumps 76 ls (.int ((-3)) :: st) h := e_bipush dX0_clumps_74 kbipush_m3 rfl
theorem wX0_clumps_76 (ht : oT h a = 1) : E_ (d + 1) mX0_clumps 76 ls [.int x1, .ref a] h = (C_ d mX0_no [.ref a, .int x1] h).bind fun r => E_ (d + 1) mX0_clumps 79 ls (xpu r.1 []) r.2 := e_vir dX0_clumps_76 rfl rfl rfl rfl rfl rfl (Nat.le_of_ble_eq_true rfl) (Nat.le_of_ble_eq_true rfl) ht
theorem wX0_clumps_79 : E_ d mX0_clumps 79 ls [.int x] h = some (some (.int x), h) := e_rt dX0_clumps_79 rfl rfl
theorem wX0_clumps_80 : E_ d mX0_clumps 80 ls st h = E_ d mX0_clumps 81 ls (.int (nI 0) :: st) h := e_iconst dX0_clumps_80 kiconst_0 rfl
theorem wX0_clumps_81 : E_ d mX0_clumps 81 [s0, s1, s2, s3, s4, s5, s6, s7, s8, s9, s10, s11] (.int x :: st) h = E_ d mX0_clumps 83 [s0, s1, s2, s3, xk s4, .val (.int x), s6, s7, s8, s9, s10, s11] st h := e_go dX0_clumps_81 rfl rfl
theorem wX0_clumps_83 : E_ d mX0_clumps 83 ls st h = E_ d mX0_clumps 84 ls (.int (nI 0) :: st) h := e_iconst dX0_clumps_83 kiconst_0 rfl
theorem wX0_clumps_84 : E_ d mX0_clumps 84 [s0, s1, s2, s3, s4, s5, s6, s7, s8, s9, s10, s11] (.int x :: st) h = E_ d mX0_clumps 86 [s0, s1, s2, s3, s4, xk s5, .val (.int x), s7, s8, s9, s10, s11] st h := e_go dX0_clumps_84 rfl rfl
theorem wX0_clumps_86 : E_ d mX0_clumps 86 ls st h = E_ d mX0_clumps 87 ls (.int (nI 0) :: st) h := e_iconst dX0_clumps_86 kiconst_0 rfl
theorem wX0_clumps_87 : E_ d mX0_clumps 87 [s0, s1, s2, s3, s4, s5, s6, s7, s8, s9, s10, s11] (.int x :: st) h = E_ d mX0_clumps 89 [s0, s1, s2, s3, s4, s5, xk s6, .val (.int x), s8, s9, s10, s11] st h := e_go dX0_clumps_87 rfl rfl
theorem wX0_clumps_89 : E_ d mX0_clumps 89 ls st h = E_ d mX0_clumps 90 ls (.int (nI 0) :: st) h := e_iconst dX0_clumps_89 kiconst_0 rfl
theorem wX0_clumps_90 : E_ d mX0_clumps 90 [s0, s1, s2, s3, s4, s5, s6, s7, s8, s9, s10, s11] (.int x :: st) h = E_ d mX0_clumps 92 [s0, s1, s2, s3, s4, s5, s6, xk s7, .val (.int x), s9, s10, s11] st h := e_go dX0_clumps_90 rfl rfl
theorem wX0_clumps_92 : E_ d mX0_clumps 92 [s0, s1, s2, s3, s4, s5, s6, s7, .val (.int x), s9, s10, s11] st h = E_ d mX0_clumps 94 [s0, s1, s2, s3, s4, s5, s6, s7, .val (.int x), s9, s10, s11] (.int x :: st) h := e_go dX0_clumps_92 rfl rfl
theorem wX0_clumps_94 : E_ d mX0_clumps 94 [.val (.ref a), s1, s2, s3, s4, s5, s6, s7, s8, s9, s10, s11] st h = E_ d mX0_clumps 95 [.val (.ref a), s1, s2, s3, s4, s5, s6, s7, s8, s9, s10, s11] (.ref a :: st) h := e_go dX0_clumps_94 rfl rfl
theorem wX0_clumps_95 (ht : oT h a = 1) : E_ d mX0_clumps 95 ls (.ref a :: st) h = E_ d mX0_clumps 98 ls (va_rf (oR h a 17) :: st) h := e_getR0 dX0_clumps_95 rfl rfl ht
theorem wX0_clumps_98 : E_ d mX0_clumps 98 [s0, .val (.int x), s2, s3, s4, s5, s6, s7, s8, s9, s10, s11] st h = E_ d mX0_clumps 99 [s0, .val (.int x), s2, s3, s4, s5, s6, s7, s8, s9, s10, s11] (.int x :: st) h := e_go dX0_clumps_98 rfl rfl
theorem wX0_clumps_99 (ht : 45 ≤ oT h a ∧ oT h a ≤ 48) (hi : xix x (oN h a) = true) : E_ d mX0_clumps 99 ls (.int x :: .ref a :: st) h = E_ d mX0_clumps 100 ls (va_rf (oR h a x.toNatClampNeg) :: st) h := e_aald dX0_clumps_99 rfl ht hi
theorem wX0_clumps_100 (ht : oT h a = 6) : E_ (d + 1) mX0_clumps 100 ls [.ref a, .int x1] h = (C_ d mX4_many [.ref a] h).bind fun r => E_ (d + 1) mX0_clumps 103 ls (xpu r.1 [.int x1]) r.2 := e_vir dX0_clumps_100 rfl rfl rfl rfl rfl rfl (Nat.le_of_ble_eq_true rfl) (Nat.le_of_ble_eq_true rfl) ht
theorem wX0_clumps_103 : E_ d mX0_clumps 103 ls (.int y :: .int x :: st) h = if x < y then E_ d mX0_clumps 106 ls st h else E_ d mX0_clumps 197 ls st h := e_ige dX0_clumps_103 rfl rfl
theorem wX0_clumps_106 : E_ d mX0_clumps 106 [.val (.ref a), s1, s2, s3, s4, s5, s6, s7, s8, s9, s10, s11] st h = E_ d mX0_clumps 107 [.val (.ref a), s1, s2, s3, s4, s5, s6, s7, s8, s9, s10, s11] (.ref a :: st) h := e_go dX0_clumps_106 rfl rfl
theorem wX0_clumps_107 (ht : oT h a = 1) : E_ d mX0_clumps 107 ls (.ref a :: st) h = E_ d mX0_clumps 110 ls (va_rf (oR h a 17) :: st) h := e_getR0 dX0_clumps_107 rfl rfl ht
theorem wX0_clumps_110 : E_ d mX0_clumps 110 [s0, .val (.int x), s2, s3, s4, s5, s6, s7, s8, s9, s10, s11] st h = E_ d mX0_clumps 111 [s0, .val (.int x), s2, s3, s4, s5, s6, s7, s8, s9, s10, s11] (.int x :: st) h := e_go dX0_clumps_110 rfl rfl
theorem wX0_clumps_111 (ht : 45 ≤ oT h a ∧ oT h a ≤ 48) (hi : xix x (oN h a) = true) : E_ d mX0_clumps 111 ls (.int x :: .ref a :: st) h = E_ d mX0_clumps 112 ls (va_rf (oR h a x.toNatClampNeg) :: st) h := e_aald dX0_clumps_111 rfl ht hi
theorem wX0_clumps_112 : E_ d mX0_clumps 112 [s0, s1, s2, s3, s4, s5, s6, s7, .val (.int x), s9, s10, s11] st h = E_ d mX0_clumps 114 [s0, s1, s2, s3, s4, s5, s6, s7, .val (.int x), s9, s10, s11] (.int x :: st) h := e_go dX0_clumps_112 rfl rfl
theorem wX0_clumps_114 (ht : oT h a = 6) : E_ (d + 1) mX0_clumps 114 ls [.int x1, .ref a] h = (C_ d mX4_number [.ref a, .int x1] h).bind fun r => E_ (d + 1) mX0_clumps 117 ls (xpu r.1 []) r.2 := e_vir dX0_clumps_114 rfl rfl rfl rfl rfl rfl (Nat.le_of_ble_eq_true rfl) (Nat.le_of_ble_eq_true rfl) ht
theorem wX0_clumps_117 : E_ d mX0_clumps 117 ls st h = E_ d mX0_clumps 118 ls (.long 0 :: st) h := e_go dX0_clumps_117 rfl rfl
theorem wX0_clumps_118 : E_ d mX0_clumps 118 ls st h = E_ d mX0_clumps 121 ls (.long (9999) :: st) h := e_go dX0_clumps_118 rfl rfl
theorem wX0_clumps_121 : E_ (d + 1) mX0_clumps 121 ls [.long u3, .long u2, .long u1] h = (C_ d mX0_in [.long u1, .long u2, .long u3] h).bind fun r => E_ (d + 1) mX0_clumps 124 ls (xpu r.1 []) r.2 := e_call dX0_clumps_121 rfl rfl
theorem wX0_clumps_124 : E_ d mX0_clumps 124 ls (.int x :: st) h = if x = 0 then E_ d mX0_clumps 127 ls st h else E_ d mX0_clumps 134 ls st h := e_zne dX0_clumps_124 rfl rfl
theorem wX0_clumps_127 : E_ d mX0_clumps 127 [.val (.ref a), s1, s2, s3, s4, s5, s6, s7, s8, s9, s10, s11] st h = E_ d mX0_clumps 128 [.val (.ref a), s1, s2, s3, s4, s5, s6, s7, s8, s9, s10, s11] (.ref a :: st) h := e_go dX0_clumps_127 rfl rfl
theorem wX0_clumps_128 : E_ d mX0_clumps 128 ls st h = E_ d mX0_clumps 130 ls (.int ((-3)) :: st) h := e_bipush dX0_clumps_128 kbipush_m3 rfl
theorem wX0_clumps_130 (ht : oT h a = 1) : E_ (d + 1) mX0_clumps 130 ls [.int x1, .ref a] h = (C_ d mX0_no [.ref a, .int x1] h).bind fun r => E_ (d + 1) mX0_clumps 133 ls (xpu r.1 []) r.2 := e_vir dX0_clumps_130 rfl rfl rfl rfl rfl rfl (Nat.le_of_ble_eq_true rfl) (Nat.le_of_ble_eq_true rfl) ht
theorem wX0_clumps_133 : E_ d mX0_clumps 133 ls [.int x] h = some (some (.int x), h) := e_rt dX0_clumps_133 rfl rfl
theorem wX0_clumps_134 : E_ d mX0_clumps 134 [.val (.ref a), s1, s2, s3, s4, s5, s6, s7, s8, s9, s10, s11] st h = E_ d mX0_clumps 135 [.val (.ref a), s1, s2, s3, s4, s5, s6, s7, s8, s9, s10, s11] (.ref a :: st) h := e_go dX0_clumps_134 rfl rfl
theorem wX0_clumps_135 (ht : oT h a = 1) : E_ d mX0_clumps 135 ls (.ref a :: st) h = E_ d mX0_clumps 138 ls (va_rf (oR h a 17) :: st) h := e_getR0 dX0_clumps_135 rfl rfl ht
theorem wX0_clumps_138 : E_ d mX0_clumps 138 [s0, .val (.int x), s2, s3, s4, s5, s6, s7, s8, s9, s10, s11] st h = E_ d mX0_clumps 139 [s0, .val (.int x), s2, s3, s4, s5, s6, s7, s8, s9, s10, s11] (.int x :: st) h := e_go dX0_clumps_138 rfl rfl
theorem wX0_clumps_139 (ht : 45 ≤ oT h a ∧ oT h a ≤ 48) (hi : xix x (oN h a) = true) : E_ d mX0_clumps 139 ls (.int x :: .ref a :: st) h = E_ d mX0_clumps 140 ls (va_rf (oR h a x.toNatClampNeg) :: st) h := e_aald dX0_clumps_139 rfl ht hi
theorem wX0_clumps_140 : E_ d mX0_clumps 140 [s0, s1, s2, s3, s4, s5, s6, s7, .val (.int x), s9, s10, s11] st h = E_ d mX0_clumps 142 [s0, s1, s2, s3, s4, s5, s6, s7, .val (.int x), s9, s10, s11] (.int x :: st) h := e_go dX0_clumps_140 rfl rfl
theorem wX0_clumps_142 (ht : oT h a = 6) : E_ (d + 1) mX0_clumps 142 ls [.int x1, .ref a] h = (C_ d mX4_number [.ref a, .int x1] h).bind fun r => E_ (d + 1) mX0_clumps 145 ls (xpu r.1 []) r.2 := e_vir dX0_clumps_142 rfl rfl rfl rfl rfl rfl (Nat.le_of_ble_eq_true rfl) (Nat.le_of_ble_eq_true rfl) ht
theorem wX0_clumps_145 : E_ d mX0_clumps 145 ls (.long u :: st) h = E_ d mX0_clumps 146 ls (.int u.toInt32 :: st) h := e_go dX0_clumps_145 rfl rfl
theorem wX0_clumps_146 : E_ d mX0_clumps 146 [s0, s1, s2, s3, s4, s5, s6, s7, s8, s9, s10, s11] (.int x :: st) h = E_ d mX0_clumps 148 [s0, s1, s2, s3, s4, s5, s6, s7, xk s8, .val (.int x), s10, s11] st h := e_go dX0_clumps_146 rfl rfl
theorem wX0_clumps_148 : E_ d mX0_clumps 148 [.val (.ref a), s1, s2, s3, s4, s5, s6, s7, s8, s9, s10, s11] st h = E_ d mX0_clumps 149 [.val (.ref a), s1, s2, s3, s4, s5, s6, s7, s8, s9, s10, s11] (.ref a :: st) h := e_go dX0_clumps_148 rfl rfl
theorem wX0_clumps_149 (ht : oT h a = 1) : E_ d mX0_clumps 149 ls (.ref a :: st) h = E_ d mX0_clumps 152 ls (va_rf (oR h a 14) :: st) h := e_getR0 dX0_clumps_149 rfl rfl ht
theorem wX0_clumps_152 : E_ d mX0_clumps 152 [s0, s1, s2, s3, s4, s5, s6, s7, .val (.int x), s9, s10, s11] st h = E_ d mX0_clumps 154 [s0, s1, s2, s3, s4, s5, s6, s7, .val (.int x), s9, s10, s11] (.int x :: st) h := e_go dX0_clumps_152 rfl rfl
theorem wX0_clumps_154 : E_ d mX0_clumps 154 [s0, s1, s2, s3, s4, s5, s6, s7, s8, .val (.int x), s10, s11] st h = E_ d mX0_clumps 156 [s0, s1, s2, s3, s4, s5, s6, s7, s8, .val (.int x), s10, s11] (.int x :: st) h := e_go dX0_clumps_154 rfl rfl
theorem wX0_clumps_156 : E_ d mX0_clumps 156 [s0, s1, .val (.int x), s3, s4, s5, s6, s7, s8, s9, s10, s11] st h = E_ d mX0_clumps 157 [s0, s1, .val (.int x), s3, s4, s5, s6, s7, s8, s9, s10, s11] (.int x :: st) h := e_go dX0_clumps_156 rfl rfl
theorem wX0_clumps_157 (hy : ¬ y = 0) : E_ d mX0_clumps 157 ls (.int y :: .int x :: st) h = E_ d mX0_clumps 158 ls (.int (x - x / y * y) :: st) h := e_rem dX0_clumps_157 rfl hy
theorem wX0_clumps_158 : E_ d mX0_clumps 158 [s0, s1, s2, .val (.int x), s4, s5, s6, s7, s8, s9, s10, s11] st h = E_ d mX0_clumps 159 [s0, s1, s2, .val (.int x), s4, s5, s6, s7, s8, s9, s10, s11] (.int x :: st) h := e_go dX0_clumps_158 rfl rfl
theorem wX0_clumps_159 : E_ d mX0_clumps 159 ls (.int y :: .int x :: st) h = if x < y then E_ d mX0_clumps 162 ls st h else E_ d mX0_clumps 167 ls st h := e_ige dX0_clumps_159 rfl rfl
theorem wX0_clumps_162 : E_ d mX0_clumps 162 [s0, s1, s2, s3, s4, s5, s6, s7, s8, .val (.int x), s10, s11] st h = E_ d mX0_clumps 164 [s0, s1, s2, s3, s4, s5, s6, s7, s8, .val (.int x), s10, s11] (.int x :: st) h := e_go dX0_clumps_162 rfl rfl
theorem wX0_clumps_164 : E_ d mX0_clumps 164 ls st h = E_ d mX0_clumps 175 ls st h := e_gt dX0_clumps_164 rfl
theorem wX0_clumps_167 : E_ d mX0_clumps 167 [s0, s1, s2, s3, s4, s5, s6, s7, s8, .val (.int x), s10, s11] st h = E_ d mX0_clumps 169 [s0, s1, s2, s3, s4, s5, s6, s7, s8, .val (.int x), s10, s11] (.int x :: st) h := e_go dX0_clumps_167 rfl rfl
theorem wX0_clumps_169 : E_ d mX0_clumps 169 [s0, s1, .val (.int x), s3, s4, s5, s6, s7, s8, s9, s10, s11] st h = E_ d mX0_clumps 170 [s0, s1, .val (.int x), s3, s4, s5, s6, s7, s8, s9, s10, s11] (.int x :: st) h := e_go dX0_clumps_169 rfl rfl
theorem wX0_clumps_170 (hy : ¬ y = 0) : E_ d mX0_clumps 170 ls (.int y :: .int x :: st) h = E_ d mX0_clumps 171 ls (.int (x / y) :: st) h := e_div dX0_clumps_170 rfl hy
theorem wX0_clumps_171 : E_ d mX0_clumps 171 ls st h = E_ d mX0_clumps 172 ls (.int (nI 1) :: st) h := e_iconst dX0_clumps_171 kiconst_1 rfl
theorem wX0_clumps_172 : E_ d mX0_clumps 172 ls (.int y :: .int x :: st) h = E_ d mX0_clumps 173 ls (.int (x + y) :: st) h := e_go dX0_clumps_172 rfl rfl
theorem wX0_clumps_173 : E_ d mX0_clumps 173 [s0, s1, .val (.int x), s3, s4, s5, s6, s7, s8, s9, s10, s11] st h = E_ d mX0_clumps 174 [s0, s1, .val (.int x), s3, s4, s5, s6, s7, s8, s9, s10, s11] (.int x :: st) h := e_go dX0_clumps_173 rfl rfl
theorem wX0_clumps_174 : E_ d mX0_clumps 174 ls (.int y :: .int x :: st) h = E_ d mX0_clumps 175 ls (.int (x * y) :: st) h := e_go dX0_clumps_174 rfl rfl
theorem wX0_clumps_175 (ht : oT h a = 40) (hi : xix x (oN h a) = true) : E_ d mX0_clumps 175 ls (.int y :: .int x :: .ref a :: st) h = E_ d mX0_clumps 176 ls st (pI h a (va_up (oI h a) x.toNatClampNeg y)) := e_iast dX0_clumps_175 rfl ht hi
theorem wX0_clumps_176 : E_ d mX0_clumps 176 [s0, s1, s2, s3, s4, .val (.int x), s6, s7, s8, s9, s10, s11] st h = E_ d mX0_clumps 178 [s0, s1, s2, s3, s4, .val (.int x), s6, s7, s8, s9, s10, s11] (.int x :: st) h := e_go dX0_clumps_176 rfl rfl
theorem wX0_clumps_178 : E_ d mX0_clumps 178 [.val (.ref a), s1, s2, s3, s4, s5, s6, s7, s8, s9, s10, s11] st h = E_ d mX0_clumps 179 [.val (.ref a), s1, s2, s3, s4, s5, s6, s7, s8, s9, s10, s11] (.ref a :: st) h := e_go dX0_clumps_178 rfl rfl
theorem wX0_clumps_179 (ht : oT h a = 1) : E_ d mX0_clumps 179 ls (.ref a :: st) h = E_ d mX0_clumps 182 ls (va_rf (oR h a 14) :: st) h := e_getR0 dX0_clumps_179 rfl rfl ht
theorem wX0_clumps_182 : E_ d mX0_clumps 182 [s0, s1, s2, s3, s4, s5, s6, s7, .val (.int x), s9, s10, s11] st h = E_ d mX0_clumps 184 [s0, s1, s2, s3, s4, s5, s6, s7, .val (.int x), s9, s10, s11] (.int x :: st) h := e_go dX0_clumps_182 rfl rfl
theorem wX0_clumps_184 (ht : oT h a = 40) (hi : xix x (oN h a) = true) : E_ d mX0_clumps 184 ls (.int x :: .ref a :: st) h = E_ d mX0_clumps 185 ls (.int (oI h a x.toNatClampNeg) :: st) h := e_iald dX0_clumps_184 rfl ht hi
theorem wX0_clumps_185 : E_ d mX0_clumps 185 [s0, s1, s2, s3, s4, s5, s6, s7, s8, .val (.int x), s10, s11] st h = E_ d mX0_clumps 187 [s0, s1, s2, s3, s4, s5, s6, s7, s8, .val (.int x), s10, s11] (.int x :: st) h := e_go dX0_clumps_185 rfl rfl
theorem wX0_clumps_187 : E_ d mX0_clumps 187 ls (.int y :: .int x :: st) h = E_ d mX0_clumps 188 ls (.int (x - y) :: st) h := e_go dX0_clumps_187 rfl rfl
theorem wX0_clumps_188 : E_ d mX0_clumps 188 ls (.int y :: .int x :: st) h = E_ d mX0_clumps 189 ls (.int (x + y) :: st) h := e_go dX0_clumps_188 rfl rfl
theorem wX0_clumps_189 : E_ d mX0_clumps 189 [s0, s1, s2, s3, s4, s5, s6, s7, s8, s9, s10, s11] (.int x :: st) h = E_ d mX0_clumps 191 [s0, s1, s2, s3, xk s4, .val (.int x), s6, s7, s8, s9, s10, s11] st h := e_go dX0_clumps_189 rfl rfl
theorem wX0_clumps_191 : E_ d mX0_clumps 191 [s0, s1, s2, s3, s4, s5, s6, s7, .val (.int x), s9, s10, s11] st h = E_ d mX0_clumps 194 [s0, s1, s2, s3, s4, s5, s6, xk s7, .val (.int (x + nI 1)), s9, s10, s11] st h := by rw [← kiinc_1]; exact e_go dX0_clumps_191 rfl rfl
theorem wX0_clumps_194 : E_ d mX0_clumps 194 ls st h = E_ d mX0_clumps 92 ls st h := e_gt dX0_clumps_194 rfl
theorem wX0_clumps_197 : E_ d mX0_clumps 197 ls st h = E_ d mX0_clumps 198 ls (.int (nI 0) :: st) h := e_iconst dX0_clumps_197 kiconst_0 rfl
theorem wX0_clumps_198 : E_ d mX0_clumps 198 [s0, s1, s2, s3, s4, s5, s6, s7, s8, s9, s10, s11] (.int x :: st) h = E_ d mX0_clumps 200 [s0, s1, s2, s3, s4, s5, s6, xk s7, .val (.int x), s9, s10, s11] st h := e_go dX0_clumps_198 rfl rfl
theorem wX0_clumps_200 : E_ d mX0_clumps 200 [s0, s1, s2, s3, s4, s5, s6, s7, .val (.int x), s9, s10, s11] st h = E_ d mX0_clumps 202 [s0, s1, s2, s3, s4, s5, s6, s7, .val (.int x), s9, s10, s11] (.int x :: st) h := e_go dX0_clumps_200 rfl rfl
theorem wX0_clumps_202 : E_ d mX0_clumps 202 [.val (.ref a), s1, s2, s3, s4, s5, s6, s7, s8, s9, s10, s11] st h = E_ d mX0_clumps 203 [.val (.ref a), s1, s2, s3, s4, s5, s6, s7, s8, s9, s10, s11] (.ref a :: st) h := e_go dX0_clumps_202 rfl rfl
theorem wX0_clumps_203 (ht : oT h a = 1) : E_ d mX0_clumps 203 ls (.ref a :: st) h = E_ d mX0_clumps 206 ls (va_rf (oR h a 17) :: st) h := e_getR0 dX0_clumps_203 rfl rfl ht
theorem wX0_clumps_206 : E_ d mX0_clumps 206 [s0, .val (.int x), s2, s3, s4, s5, s6, s7, s8, s9, s10, s11] st h = E_ d mX0_clumps 207 [s0, .val (.int x), s2, s3, s4, s5, s6, s7, s8, s9, s10, s11] (.int x :: st) h := e_go dX0_clumps_206 rfl rfl
theorem wX0_clumps_207 (ht : 45 ≤ oT h a ∧ oT h a ≤ 48) (hi : xix x (oN h a) = true) : E_ d mX0_clumps 207 ls (.int x :: .ref a :: st) h = E_ d mX0_clumps 208 ls (va_rf (oR h a x.toNatClampNeg) :: st) h := e_aald dX0_clumps_207 rfl ht hi
theorem wX0_clumps_208 (ht : oT h a = 6) : E_ (d + 1) mX0_clumps 208 ls [.ref a, .int x1] h = (C_ d mX4_many [.ref a] h).bind fun r => E_ (d + 1) mX0_clumps 211 ls (xpu r.1 [.int x1]) r.2 := e_vir dX0_clumps_208 rfl rfl rfl rfl rfl rfl (Nat.le_of_ble_eq_true rfl) (Nat.le_of_ble_eq_true rfl) ht
theorem wX0_clumps_211 : E_ d mX0_clumps 211 ls (.int y :: .int x :: st) h = if x < y then E_ d mX0_clumps 214 ls st h else E_ d mX0_clumps 336 ls st h := e_ige dX0_clumps_211 rfl rfl
theorem wX0_clumps_214 : E_ d mX0_clumps 214 ls st h = E_ d mX0_clumps 215 ls (.int (nI 0) :: st) h := e_iconst dX0_clumps_214 kiconst_0 rfl
theorem wX0_clumps_215 : E_ d mX0_clumps 215 [s0, s1, s2, s3, s4, s5, s6, s7, s8, s9, s10, s11] (.int x :: st) h = E_ d mX0_clumps 217 [s0, s1, s2, s3, s4, s5, s6, s7, xk s8, .val (.int x), s10, s11] st h := e_go dX0_clumps_215 rfl rfl
theorem wX0_clumps_217 : E_ d mX0_clumps 217 ls st h = E_ d mX0_clumps 218 ls (.int (nI 1) :: st) h := e_iconst dX0_clumps_217 kiconst_1 rfl
theorem wX0_clumps_218 : E_ d mX0_clumps 218 [s0, s1, s2, s3, s4, s5, s6, s7, s8, s9, s10, s11] (.int x :: st) h = E_ d mX0_clumps 220 [s0, s1, s2, s3, s4, s5, s6, s7, s8, xk s9, .val (.int x), s11] st h := e_go dX0_clumps_218 rfl rfl
theorem wX0_clumps_220 : E_ d mX0_clumps 220 ls st h = E_ d mX0_clumps 221 ls (.int (nI 0) :: st) h := e_iconst dX0_clumps_220 kiconst_0 rfl
theorem wX0_clumps_221 : E_ d mX0_clumps 221 [s0, s1, s2, s3, s4, s5, s6, s7, s8, s9, s10, s11] (.int x :: st) h = E_ d mX0_clumps 223 [s0, s1, s2, s3, s4, s5, s6, s7, s8, s9, xk s10, .val (.int x)] st h := e_go dX0_clumps_221 rfl rfl
theorem wX0_clumps_223 : E_ d mX0_clumps 223 [s0, s1, s2, s3, s4, s5, s6, s7, s8, s9, s10, .val (.int x)] st h = E_ d mX0_clumps 225 [s0, s1, s2, s3, s4, s5, s6, s7, s8, s9, s10, .val (.int x)] (.int x :: st) h := e_go dX0_clumps_223 rfl rfl
theorem wX0_clumps_225 : E_ d mX0_clumps 225 [.val (.ref a), s1, s2, s3, s4, s5, s6, s7, s8, s9, s10, s11] st h = E_ d mX0_clumps 226 [.val (.ref a), s1, s2, s3, s4, s5, s6, s7, s8, s9, s10, s11] (.ref a :: st) h := e_go dX0_clumps_225 rfl rfl
theorem wX0_clumps_226 (ht : oT h a = 1) : E_ d mX0_clumps 226 ls (.ref a :: st) h = E_ d mX0_clumps 229 ls (va_rf (oR h a 17) :: st) h := e_getR0 dX0_clumps_226 rfl rfl ht
theorem wX0_clumps_229 : E_ d mX0_clumps 229 [s0, .val (.int x), s2, s3, s4, s5, s6, s7, s8, s9, s10, s11] st h = E_ d mX0_clumps 230 [s0, .val (.int x), s2, s3, s4, s5, s6, s7, s8, s9, s10, s11] (.int x :: st) h := e_go dX0_clumps_229 rfl rfl
theorem wX0_clumps_230 (ht : 45 ≤ oT h a ∧ oT h a ≤ 48) (hi : xix x (oN h a) = true) : E_ d mX0_clumps 230 ls (.int x :: .ref a :: st) h = E_ d mX0_clumps 231 ls (va_rf (oR h a x.toNatClampNeg) :: st) h := e_aald dX0_clumps_230 rfl ht hi
theorem wX0_clumps_231 (ht : oT h a = 6) : E_ (d + 1) mX0_clumps 231 ls [.ref a, .int x1] h = (C_ d mX4_many [.ref a] h).bind fun r => E_ (d + 1) mX0_clumps 234 ls (xpu r.1 [.int x1]) r.2 := e_vir dX0_clumps_231 rfl rfl rfl rfl rfl rfl (Nat.le_of_ble_eq_true rfl) (Nat.le_of_ble_eq_true rfl) ht
theorem wX0_clumps_234 : E_ d mX0_clumps 234 ls (.int y :: .int x :: st) h = if x < y then E_ d mX0_clumps 237 ls st h else E_ d mX0_clumps 306 ls st h := e_ige dX0_clumps_234 rfl rfl
theorem wX0_clumps_237 : E_ d mX0_clumps 237 [s0, s1, s2, s3, s4, s5, s6, s7, s8, .val (.int x), s10, s11] st h = E_ d mX0_clumps 239 [s0, s1, s2, s3, s4, s5, s6, s7, s8, .val (.int x), s10, s11] (.int x :: st) h := e_go dX0_clumps_237 rfl rfl
theorem wX0_clumps_239 : E_ d mX0_clumps 239 [.val (.ref a), s1, s2, s3, s4, s5, s6, s7, s8, s9, s10, s11] st h = E_ d mX0_clumps 240 [.val (.ref a), s1, s2, s3, s4, s5, s6, s7, s8, s9, s10, s11] (.ref a :: st) h := e_go dX0_clumps_239 rfl rfl
theorem wX0_clumps_240 (ht : oT h a = 1) : E_ d mX0_clumps 240 ls (.ref a :: st) h = E_ d mX0_clumps 243 ls (va_rf (oR h a 14) :: st) h := e_getR0 dX0_clumps_240 rfl rfl ht
theorem wX0_clumps_243 : E_ d mX0_clumps 243 [s0, s1, s2, s3, s4, s5, s6, s7, s8, s9, s10, .val (.int x)] st h = E_ d mX0_clumps 245 [s0, s1, s2, s3, s4, s5, s6, s7, s8, s9, s10, .val (.int x)] (.int x :: st) h := e_go dX0_clumps_243 rfl rfl
theorem wX0_clumps_245 (ht : oT h a = 40) (hi : xix x (oN h a) = true) : E_ d mX0_clumps 245 ls (.int x :: .ref a :: st) h = E_ d mX0_clumps 246 ls (.int (oI h a x.toNatClampNeg) :: st) h := e_iald dX0_clumps_245 rfl ht hi
theorem wX0_clumps_246 : E_ d mX0_clumps 246 [.val (.ref a), s1, s2, s3, s4, s5, s6, s7, s8, s9, s10, s11] st h = E_ d mX0_clumps 247 [.val (.ref a), s1, s2, s3, s4, s5, s6, s7, s8, s9, s10, s11] (.ref a :: st) h := e_go dX0_clumps_246 rfl rfl
theorem wX0_clumps_247 (ht : oT h a = 1) : E_ d mX0_clumps 247 ls (.ref a :: st) h = E_ d mX0_clumps 250 ls (va_rf (oR h a 14) :: st) h := e_getR0 dX0_clumps_247 rfl rfl ht
theorem wX0_clumps_250 : E_ d mX0_clumps 250 [s0, s1, s2, s3, s4, s5, s6, s7, .val (.int x), s9, s10, s11] st h = E_ d mX0_clumps 252 [s0, s1, s2, s3, s4, s5, s6, s7, .val (.int x), s9, s10, s11] (.int x :: st) h := e_go dX0_clumps_250 rfl rfl
theorem wX0_clumps_252 (ht : oT h a = 40) (hi : xix x (oN h a) = true) : E_ d mX0_clumps 252 ls (.int x :: .ref a :: st) h = E_ d mX0_clumps 253 ls (.int (oI h a x.toNatClampNeg) :: st) h := e_iald dX0_clumps_252 rfl ht hi
theorem wX0_clumps_253 : E_ d mX0_clumps 253 ls (.int y :: .int x :: st) h = if x = y then E_ d mX0_clumps 256 ls st h else E_ d mX0_clumps 260 ls st h := e_ine dX0_clumps_253 rfl rfl
theorem wX0_clumps_256 : E_ d mX0_clumps 256 ls st h = E_ d mX0_clumps 257 ls (.int (nI 1) :: st) h := e_iconst dX0_clumps_256 kiconst_1 rfl
theorem wX0_clumps_257 : E_ d mX0_clumps 257 ls st h = E_ d mX0_clumps 261 ls st h := e_gt dX0_clumps_257 rfl
theorem wX0_clumps_260 : E_ d mX0_clumps 260 ls st h = E_ d mX0_clumps 261 ls (.int (nI 0) :: st) h := e_iconst dX0_clumps_260 kiconst_0 rfl
theorem wX0_clumps_261 : E_ d mX0_clumps 261 ls (.int y :: .int x :: st) h = E_ d mX0_clumps 262 ls (.int (x + y) :: st) h := e_go dX0_clumps_261 rfl rfl
theorem wX0_clumps_262 : E_ d mX0_clumps 262 [s0, s1, s2, s3, s4, s5, s6, s7, s8, s9, s10, s11] (.int x :: st) h = E_ d mX0_clumps 264 [s0, s1, s2, s3, s4, s5, s6, s7, xk s8, .val (.int x), s10, s11] st h := e_go dX0_clumps_262 rfl rfl
theorem wX0_clumps_264 : E_ d mX0_clumps 264 [s0, s1, s2, s3, s4, s5, s6, s7, s8, s9, .val (.int x), s11] st h = E_ d mX0_clumps 266 [s0, s1, s2, s3, s4, s5, s6, s7, s8, s9, .val (.int x), s11] (.int x :: st) h := e_go dX0_clumps_264 rfl rfl
theorem wX0_clumps_266 : E_ d mX0_clumps 266 ls (.int x :: st) h = if x = 0 then E_ d mX0_clumps 297 ls st h else E_ d mX0_clumps 269 ls st h := e_zeq dX0_clumps_266 rfl rfl
theorem wX0_clumps_269 : E_ d mX0_clumps 269 [s0, s1, s2, s3, s4, s5, s6, s7, s8, s9, s10, .val (.int x)] st h = E_ d mX0_clumps 271 [s0, s1, s2, s3, s4, s5, s6, s7, s8, s9, s10, .val (.int x)] (.int x :: st) h := e_go dX0_clumps_269 rfl rfl
theorem wX0_clumps_271 : E_ d mX0_clumps 271 [s0, s1, s2, s3, s4, s5, s6, s7, .val (.int x), s9, s10, s11] st h = E_ d mX0_clumps 273 [s0, s1, s2, s3, s4, s5, s6, s7, .val (.int x), s9, s10, s11] (.int x :: st) h := e_go dX0_clumps_271 rfl rfl
theorem wX0_clumps_273 : E_ d mX0_clumps 273 ls (.int y :: .int x :: st) h = if x < y then E_ d mX0_clumps 276 ls st h else E_ d mX0_clumps 293 ls st h := e_ige dX0_clumps_273 rfl rfl
theorem wX0_clumps_276 : E_ d mX0_clumps 276 [.val (.ref a), s1, s2, s3, s4, s5, s6, s7, s8, s9, s10, s11] st h = E_ d mX0_clumps 277 [.val (.ref a), s1, s2, s3, s4, s5, s6, s7, s8, s9, s10, s11] (.ref a :: st) h := e_go dX0_clumps_276 rfl rfl
theorem wX0_clumps_277 (ht : oT h a = 1) : E_ d mX0_clumps 277 ls (.ref a :: st) h = E_ d mX0_clumps 280 ls (va_rf (oR h a 14) :: st) h := e_getR0 dX0_clumps_277 rfl rfl ht
theorem wX0_clumps_280 : E_ d mX0_clumps 280 [s0, s1, s2, s3, s4, s5, s6, s7, s8, s9, s10, .val (.int x)] st h = E_ d mX0_clumps 282 [s0, s1, s2, s3, s4, s5, s6, s7, s8, s9, s10, .val (.int x)] (.int x :: st) h := e_go dX0_clumps_280 rfl rfl
theorem wX0_clumps_282 (ht : oT h a = 40) (hi : xix x (oN h a) = true) : E_ d mX0_clumps 282 ls (.int x :: .ref a :: st) h = E_ d mX0_clumps 283 ls (.int (oI h a x.toNatClampNeg) :: st) h := e_iald dX0_clumps_282 rfl ht hi
theorem wX0_clumps_283 : E_ d mX0_clumps 283 [.val (.ref a), s1, s2, s3, s4, s5, s6, s7, s8, s9, s10, s11] st h = E_ d mX0_clumps 284 [.val (.ref a), s1, s2, s3, s4, s5, s6, s7, s8, s9, s10, s11] (.ref a :: st) h := e_go dX0_clumps_283 rfl rfl
theorem wX0_clumps_284 (ht : oT h a = 1) : E_ d mX0_clumps 284 ls (.ref a :: st) h = E_ d mX0_clumps 287 ls (va_rf (oR h a 14) :: st) h := e_getR0 dX0_clumps_284 rfl rfl ht
theorem wX0_clumps_287 : E_ d mX0_clumps 287 [s0, s1, s2, s3, s4, s5, s6, s7, .val (.int x), s9, s10, s11] st h = E_ d mX0_clumps 289 [s0, s1, s2, s3, s4, s5, s6, s7, .val (.int x), s9, s10, s11] (.int x :: st) h := e_go dX0_clumps_287 rfl rfl
theorem wX0_clumps_289 (ht : oT h a = 40) (hi : xix x (oN h a) = true) : E_ d mX0_clumps 289 ls (.int x :: .ref a :: st) h = E_ d mX0_clumps 290 ls (.int (oI h a x.toNatClampNeg) :: st) h := e_iald dX0_clumps_289 rfl ht hi
theorem wX0_clumps_290 : E_ d mX0_clumps 290 ls (.int y :: .int x :: st) h = if x = y then E_ d mX0_clumps 297 ls st h else E_ d mX0_clumps 293 ls st h := e_ieq dX0_clumps_290 rfl rfl
theorem wX0_clumps_293 : E_ d mX0_clumps 293 ls st h = E_ d mX0_clumps 294 ls (.int (nI 1) :: st) h := e_iconst dX0_clumps_293 kiconst_1 rfl
theorem wX0_clumps_294 : E_ d mX0_clumps 294 ls st h = E_ d mX0_clumps 298 ls st h := e_gt dX0_clumps_294 rfl
theorem wX0_clumps_297 : E_ d mX0_clumps 297 ls st h = E_ d mX0_clumps 298 ls (.int (nI 0) :: st) h := e_iconst dX0_clumps_297 kiconst_0 rfl
theorem wX0_clumps_298 : E_ d mX0_clumps 298 [s0, s1, s2, s3, s4, s5, s6, s7, s8, s9, s10, s11] (.int x :: st) h = E_ d mX0_clumps 300 [s0, s1, s2, s3, s4, s5, s6, s7, s8, xk s9, .val (.int x), s11] st h := e_go dX0_clumps_298 rfl rfl
theorem wX0_clumps_300 : E_ d mX0_clumps 300 [s0, s1, s2, s3, s4, s5, s6, s7, s8, s9, s10, .val (.int x)] st h = E_ d mX0_clumps 303 [s0, s1, s2, s3, s4, s5, s6, s7, s8, s9, xk s10, .val (.int (x + nI 1))] st h := by rw [← kiinc_1]; exact e_go dX0_clumps_300 rfl rfl
theorem wX0_clumps_303 : E_ d mX0_clumps 303 ls st h = E_ d mX0_clumps 223 ls st h := e_gt dX0_clumps_303 rfl
theorem wX0_clumps_306 : E_ d mX0_clumps 306 [s0, s1, s2, s3, s4, s5, .val (.int x), s7, s8, s9, s10, s11] st h = E_ d mX0_clumps 308 [s0, s1, s2, s3, s4, s5, .val (.int x), s7, s8, s9, s10, s11] (.int x :: st) h := e_go dX0_clumps_306 rfl rfl
theorem wX0_clumps_308 : E_ d mX0_clumps 308 [s0, s1, s2, s3, s4, s5, s6, s7, s8, s9, .val (.int x), s11] st h = E_ d mX0_clumps 310 [s0, s1, s2, s3, s4, s5, s6, s7, s8, s9, .val (.int x), s11] (.int x :: st) h := e_go dX0_clumps_308 rfl rfl
theorem wX0_clumps_310 : E_ d mX0_clumps 310 ls (.int x :: st) h = if x = 0 then E_ d mX0_clumps 317 ls st h else E_ d mX0_clumps 313 ls st h := e_zeq dX0_clumps_310 rfl rfl
theorem wX0_clumps_313 : E_ d mX0_clumps 313 ls st h = E_ d mX0_clumps 314 ls (.int (nI 1) :: st) h := e_iconst dX0_clumps_313 kiconst_1 rfl
theorem wX0_clumps_314 : E_ d mX0_clumps 314 ls st h = E_ d mX0_clumps 318 ls st h := e_gt dX0_clumps_314 rfl
theorem wX0_clumps_317 : E_ d mX0_clumps 317 ls st h = E_ d mX0_clumps 318 ls (.int (nI 0) :: st) h := e_iconst dX0_clumps_317 kiconst_0 rfl
theorem wX0_clumps_318 : E_ d mX0_clumps 318 ls (.int y :: .int x :: st) h = E_ d mX0_clumps 319 ls (.int (x + y) :: st) h := e_go dX0_clumps_318 rfl rfl
theorem wX0_clumps_319 : E_ d mX0_clumps 319 [s0, s1, s2, s3, s4, s5, s6, s7, s8, s9, s10, s11] (.int x :: st) h = E_ d mX0_clumps 321 [s0, s1, s2, s3, s4, xk s5, .val (.int x), s7, s8, s9, s10, s11] st h := e_go dX0_clumps_319 rfl rfl
theorem wX0_clumps_321 : E_ d mX0_clumps 321 [s0, s1, s2, s3, s4, s5, s6, .val (.int x), s8, s9, s10, s11] st h = E_ d mX0_clumps 323 [s0, s1, s2, s3, s4, s5, s6, .val (.int x), s8, s9, s10, s11] (.int x :: st) h := e_go dX0_clumps_321 rfl rfl
theorem wX0_clumps_323 : E_ d mX0_clumps 323 [s0, s1, s2, s3, s4, s5, s6, s7, s8, .val (.int x), s10, s11] st h = E_ d mX0_clumps 325 [s0, s1, s2, s3, s4, s5, s6, s7, s8, .val (.int x), s10, s11] (.int x :: st) h := e_go dX0_clumps_323 rfl rfl
theorem wX0_clumps_325 : E_ d mX0_clumps 325 ls [.int x2, .int x1] h = (xP 6 [.int x1, .int x2] h).bind fun r => E_ d mX0_clumps 328 ls (xpu r.1 []) r.2 := e_staP dX0_clumps_325 rfl (Nat.le_of_ble_eq_true rfl) rfl rfl rfl (Nat.le_of_ble_eq_true rfl)
theorem wX0_clumps_328 : E_ d mX0_clumps 328 [s0, s1, s2, s3, s4, s5, s6, s7, s8, s9, s10, s11] (.int x :: st) h = E_ d mX0_clumps 330 [s0, s1, s2, s3, s4, s5, xk s6, .val (.int x), s8, s9, s10, s11] st h := e_go dX0_clumps_328 rfl rfl
theorem wX0_clumps_330 : E_ d mX0_clumps 330 [s0, s1, s2, s3, s4, s5, s6, s7, .val (.int x), s9, s10, s11] st h = E_ d mX0_clumps 333 [s0, s1, s2, s3, s4, s5, s6, xk s7, .val (.int (x + nI 1)), s9, s10, s11] st h := by rw [← kiinc_1]; exact e_go dX0_clumps_330 rfl rfl
theorem wX0_clumps_333 : E_ d mX0_clumps 333 ls st h = E_ d mX0_clumps 200 ls st h := e_gt dX0_clumps_333 rfl
theorem wX0_clumps_336 : E_ d mX0_clumps 336 [s0, s1, s2, s3, .val (.int x), s5, s6, s7, s8, s9, s10, s11] st h = E_ d mX0_clumps 338 [s0, s1, s2, s3, .val (.int x), s5, s6, s7, s8, s9, s10, s11] (.int x :: st) h := e_go dX0_clumps_336 rfl rfl
theorem wX0_clumps_338 : E_ d mX0_clumps 338 ls (.int x :: st) h = if x = 0 then E_ d mX0_clumps 341 ls st h else E_ d mX0_clumps 346 ls st h := e_zne dX0_clumps_338 rfl rfl
theorem wX0_clumps_341 : E_ d mX0_clumps 341 [s0, s1, s2, s3, s4, .val (.int x), s6, s7, s8, s9, s10, s11] st h = E_ d mX0_clumps 343 [s0, s1, s2, s3, s4, .val (.int x), s6, s7, s8, s9, s10, s11] (.int x :: st) h := e_go dX0_clumps_341 rfl rfl
theorem wX0_clumps_343 : E_ d mX0_clumps 343 ls st h = E_ d mX0_clumps 359 ls st h := e_gt dX0_clumps_343 rfl
theorem wX0_clumps_346 : E_ d mX0_clumps 346 [s0, s1, s2, s3, .val (.int x), s5, s6, s7, s8, s9, s10, s11] st h = E_ d mX0_clumps 348 [s0, s1, s2, s3, .val (.int x), s5, s6, s7, s8, s9, s10, s11] (.int x :: st) h := e_go dX0_clumps_346 rfl rfl
theorem wX0_clumps_348 : E_ d mX0_clumps 348 ls st h = E_ d mX0_clumps 349 ls (.int (nI 1) :: st) h := e_iconst dX0_clumps_348 kiconst_1 rfl
theorem wX0_clumps_349 : E_ d mX0_clumps 349 ls (.int y :: .int x :: st) h = if x = y then E_ d mX0_clumps 352 ls st h else E_ d mX0_clumps 357 ls st h := e_ine dX0_clumps_349 rfl rfl
theorem wX0_clumps_352 : E_ d mX0_clumps 352 [s0, s1, s2, s3, s4, s5, s6, .val (.int x), s8, s9, s10, s11] st h = E_ d mX0_clumps 354 [s0, s1, s2, s3, s4, s5, s6, .val (.int x), s8, s9, s10, s11] (.int x :: st) h := e_go dX0_clumps_352 rfl rfl
theorem wX0_clumps_354 : E_ d mX0_clumps 354 ls st h = E_ d mX0_clumps 359 ls st h := e_gt dX0_clumps_354 rfl
theorem wX0_clumps_357 : E_ d mX0_clumps 357 [s0, s1, s2, s3, s4, s5, .val (.int x), s7, s8, s9, s10, s11] st h = E_ d mX0_clumps 359 [s0, s1, s2, s3, s4, s5, .val (.int x), s7, s8, s9, s10, s11] (.int x :: st) h := e_go dX0_clumps_357 rfl rfl
theorem wX0_clumps_359 : E_ d mX0_clumps 359 ls [.int x] h = some (some (.int x), h) := e_rt dX0_clumps_359 rfl rfl
/-! FootOut.isRow -/
theorem wX0_isRow_0 : E_ d mX0_isRow 0 [.val (.int x)] st h = E_ d mX0_isRow 1 [.val (.int x)] (.int x :: st) h := e_go dX0_isRow_0 rfl rfl
theorem wX0_isRow_1 : E_ d mX0_isRow 1 ls (.int x :: st) h = E_ d mX0_isRow 2 ls (.long x.toInt64 :: st) h := e_go dX0_isRow_1 rfl rfl
theorem wX0_isRow_2 : E_ d mX0_isRow 2 ls st h = E_ d mX0_isRow 3 ls (.long 0 :: st) h := e_go dX0_isRow_2 rfl rfl
theorem wX0_isRow_3 : E_ d mX0_isRow 3 ls st h = E_ d mX0_isRow 6 ls (.long (3) :: st) h := e_go dX0_isRow_3 rfl rfl
theorem wX0_isRow_6 : E_ (d + 1) mX0_isRow 6 ls [.long u3, .long u2, .long u1] h = (C_ d mX0_in [.long u1, .long u2, .long u3] h).bind fun r => E_ (d + 1) mX0_isRow 9 ls (xpu r.1 []) r.2 := e_call dX0_isRow_6 rfl rfl
theorem wX0_isRow_9 (hx : x = 0 ∨ x = 1) : E_ d mX0_isRow 9 ls [.int x] h = some (some (.int x), h) := e_rtZ dX0_isRow_9 rfl hx
/-! FootOut.lamp -/
theorem wX0_lamp_0 : E_ d mX0_lamp 0 [s0, s1, s2, .val (.int x), s4, s5, s6, s7] st h = E_ d mX0_lamp 1 [s0, s1, s2, .val (.int x), s4, s5, s6, s7] (.int x :: st) h := e_go dX0_lamp_0 rfl rfl
theorem wX0_lamp_1 : E_ d mX0_lamp 1 ls (.int x :: st) h = E_ d mX0_lamp 2 ls (.long x.toInt64 :: st) h := e_go dX0_lamp_1 rfl rfl
theorem wX0_lamp_2 : E_ d mX0_lamp 2 ls st h = E_ d mX0_lamp 3 ls (.long 0 :: st) h := e_go dX0_lamp_2 rfl rfl
theorem wX0_lamp_3 : E_ d mX0_lamp 3 ls st h = E_ d mX0_lamp 4 ls (.long 1 :: st) h := e_go dX0_lamp_3 rfl rfl
theorem wX0_lamp_4 : E_ (d + 1) mX0_lamp 4 ls [.long u3, .long u2, .long u1] h = (C_ d mX0_in [.long u1, .long u2, .long u3] h).bind fun r => E_ (d + 1) mX0_lamp 7 ls (xpu r.1 []) r.2 := e_call dX0_lamp_4 rfl rfl
theorem wX0_lamp_7 : E_ d mX0_lamp 7 ls (.int x :: st) h = if x = 0 then E_ d mX0_lamp 10 ls st h else E_ d mX0_lamp 17 ls st h := e_zne dX0_lamp_7 rfl rfl
theorem wX0_lamp_10 : E_ d mX0_lamp 10 [.val (.ref a), s1, s2, s3, s4, s5, s6, s7] st h = E_ d mX0_lamp 11 [.val (.ref a), s1, s2, s3, s4, s5, s6, s7] (.ref a :: st) h := e_go dX0_lamp_10 rfl rfl
theorem wX0_lamp_11 : E_ d mX0_lamp 11 ls st h = E_ d mX0_lamp 13 ls (.int ((-2)) :: st) h := e_bipush dX0_lamp_11 kbipush_m2 rfl
theorem wX0_lamp_13 (ht : oT h a = 1) : E_ (d + 1) mX0_lamp 13 ls [.int x1, .ref a] h = (C_ d mX0_no [.ref a, .int x1] h).bind fun r => E_ (d + 1) mX0_lamp 16 ls (xpu r.1 []) r.2 := e_vir dX0_lamp_13 rfl rfl rfl rfl rfl rfl (Nat.le_of_ble_eq_true rfl) (Nat.le_of_ble_eq_true rfl) ht
theorem wX0_lamp_16 : E_ d mX0_lamp 16 ls [.int x] h = some (some (.int x), h) := e_rt dX0_lamp_16 rfl rfl
theorem wX0_lamp_17 : E_ d mX0_lamp 17 [s0, .val (.int x), s2, s3, s4, s5, s6, s7] st h = E_ d mX0_lamp 18 [s0, .val (.int x), s2, s3, s4, s5, s6, s7] (.int x :: st) h := e_go dX0_lamp_17 rfl rfl
theorem wX0_lamp_18 : E_ d mX0_lamp 18 ls (.int x :: st) h = E_ d mX0_lamp 19 ls (.long x.toInt64 :: st) h := e_go dX0_lamp_18 rfl rfl
theorem wX0_lamp_19 : E_ d mX0_lamp 19 ls st h = E_ d mX0_lamp 20 ls (.long 0 :: st) h := e_go dX0_lamp_19 rfl rfl
theorem wX0_lamp_20 : E_ d mX0_lamp 20 ls st h = E_ d mX0_lamp 23 ls (.long (999) :: st) h := e_go dX0_lamp_20 rfl rfl
theorem wX0_lamp_23 : E_ (d + 1) mX0_lamp 23 ls [.long u3, .long u2, .long u1] h = (C_ d mX0_in [.long u1, .long u2, .long u3] h).bind fun r => E_ (d + 1) mX0_lamp 26 ls (xpu r.1 []) r.2 := e_call dX0_lamp_23 rfl rfl
theorem wX0_lamp_26 : E_ d mX0_lamp 26 ls (.int x :: st) h = if x = 0 then E_ d mX0_lamp 41 ls st h else E_ d mX0_lamp 29 ls st h := e_zeq dX0_lamp_26 rfl rfl
theorem wX0_lamp_29 : E_ d mX0_lamp 29 [s0, s1, .val (.int x), s3, s4, s5, s6, s7] st h = E_ d mX0_lamp 30 [s0, s1, .val (.int x), s3, s4, s5, s6, s7] (.int x :: st) h := e_go dX0_lamp_29 rfl rfl
theorem wX0_lamp_30 : E_ d mX0_lamp 30 ls (.int x :: st) h = E_ d mX0_lamp 31 ls (.long x.toInt64 :: st) h := e_go dX0_lamp_30 rfl rfl
theorem wX0_lamp_31 : E_ d mX0_lamp 31 ls st h = E_ d mX0_lamp 32 ls (.long 0 :: st) h := e_go dX0_lamp_31 rfl rfl
theorem wX0_lamp_32 : E_ d mX0_lamp 32 ls st h = E_ d mX0_lamp 35 ls (.long (999) :: st) h := e_go dX0_lamp_32 rfl rfl
theorem wX0_lamp_35 : E_ (d + 1) mX0_lamp 35 ls [.long u3, .long u2, .long u1] h = (C_ d mX0_in [.long u1, .long u2, .long u3] h).bind fun r => E_ (d + 1) mX0_lamp 38 ls (xpu r.1 []) r.2 := e_call dX0_lamp_35 rfl rfl
theorem wX0_lamp_38 : E_ d mX0_lamp 38 ls (.int x :: st) h = if x = 0 then E_ d mX0_lamp 41 ls st h else E_ d mX0_lamp 48 ls st h := e_zne dX0_lamp_38 rfl rfl
theorem wX0_lamp_41 : E_ d mX0_lamp 41 [.val (.ref a), s1, s2, s3, s4, s5, s6, s7] st h = E_ d mX0_lamp 42 [.val (.ref a), s1, s2, s3, s4, s5, s6, s7] (.ref a :: st) h := e_go dX0_lamp_41 rfl rfl
theorem wX0_lamp_42 : E_ d mX0_lamp 42 ls st h = E_ d mX0_lamp 44 ls (.int ((-3)) :: st) h := e_bipush dX0_lamp_42 kbipush_m3 rfl
theorem wX0_lamp_44 (ht : oT h a = 1) : E_ (d + 1) mX0_lamp 44 ls [.int x1, .ref a] h = (C_ d mX0_no [.ref a, .int x1] h).bind fun r => E_ (d + 1) mX0_lamp 47 ls (xpu r.1 []) r.2 := e_vir dX0_lamp_44 rfl rfl rfl rfl rfl rfl (Nat.le_of_ble_eq_true rfl) (Nat.le_of_ble_eq_true rfl) ht
theorem wX0_lamp_47 : E_ d mX0_lamp 47 ls [.int x] h = some (some (.int x), h) := e_rt dX0_lamp_47 rfl rfl
theorem wX0_lamp_48 : E_ d mX0_lamp 48 ls st h = E_ d mX0_lamp 50 ls (.int (nI 20) :: st) h := e_bipush dX0_lamp_48 kbipush_20 rfl
theorem wX0_lamp_50 : E_ d mX0_lamp 50 [s0, s1, s2, s3, s4, s5, s6, s7] (.int x :: st) h = E_ d mX0_lamp 52 [s0, s1, s2, xk s3, .val (.int x), s5, s6, s7] st h := e_go dX0_lamp_50 rfl rfl
theorem wX0_lamp_52 : E_ d mX0_lamp 52 ls st h = E_ d mX0_lamp 53 ls (.int (nI 5) :: st) h := e_iconst dX0_lamp_52 kiconst_5 rfl
theorem wX0_lamp_53 : E_ d mX0_lamp 53 [s0, s1, s2, s3, s4, s5, s6, s7] (.int x :: st) h = E_ d mX0_lamp 55 [s0, s1, s2, s3, xk s4, .val (.int x), s6, s7] st h := e_go dX0_lamp_53 rfl rfl
theorem wX0_lamp_55 : E_ d mX0_lamp 55 ls st h = E_ d mX0_lamp 57 ls (.int (nI 20) :: st) h := e_bipush dX0_lamp_55 kbipush_20 rfl
theorem wX0_lamp_57 : E_ d mX0_lamp 57 [s0, s1, s2, s3, s4, s5, s6, s7] (.int x :: st) h = E_ d mX0_lamp 59 [s0, s1, s2, s3, s4, xk s5, .val (.int x), s7] st h := e_go dX0_lamp_57 rfl rfl
theorem wX0_lamp_59 : E_ d mX0_lamp 59 [s0, s1, s2, s3, s4, s5, .val (.int x), s7] st h = E_ d mX0_lamp 61 [s0, s1, s2, s3, s4, s5, .val (.int x), s7] (.int x :: st) h := e_go dX0_lamp_59 rfl rfl
theorem wX0_lamp_61 : E_ d mX0_lamp 61 ls st h = E_ d mX0_lamp 63 ls (.int (nI 120) :: st) h := e_bipush dX0_lamp_61 kbipush_120 rfl
theorem wX0_lamp_63 : E_ d mX0_lamp 63 ls (.int y :: .int x :: st) h = if y < x then E_ d mX0_lamp 132 ls st h else E_ d mX0_lamp 66 ls st h := e_igt dX0_lamp_63 rfl rfl
theorem wX0_lamp_66 : E_ d mX0_lamp 66 ls st h = E_ d mX0_lamp 67 ls (.int (nI 5) :: st) h := e_iconst dX0_lamp_66 kiconst_5 rfl
theorem wX0_lamp_67 : E_ d mX0_lamp 67 [s0, s1, s2, s3, s4, s5, s6, s7] (.int x :: st) h = E_ d mX0_lamp 69 [s0, s1, s2, s3, s4, s5, xk s6, .val (.int x)] st h := e_go dX0_lamp_67 rfl rfl
theorem wX0_lamp_69 : E_ d mX0_lamp 69 [s0, s1, s2, s3, s4, s5, s6, .val (.int x)] st h = E_ d mX0_lamp 71 [s0, s1, s2, s3, s4, s5, s6, .val (.int x)] (.int x :: st) h := e_go dX0_lamp_69 rfl rfl
theorem wX0_lamp_71 : E_ d mX0_lamp 71 [s0, s1, s2, s3, s4, s5, .val (.int x), s7] st h = E_ d mX0_lamp 73 [s0, s1, s2, s3, s4, s5, .val (.int x), s7] (.int x :: st) h := e_go dX0_lamp_71 rfl rfl
theorem wX0_lamp_73 : E_ d mX0_lamp 73 ls st h = E_ d mX0_lamp 75 ls (.int (nI 10) :: st) h := e_bipush dX0_lamp_73 kbipush_10 rfl
theorem wX0_lamp_75 : E_ d mX0_lamp 75 ls (.int y :: .int x :: st) h = E_ d mX0_lamp 76 ls (.int (x - y) :: st) h := e_go dX0_lamp_75 rfl rfl
theorem wX0_lamp_76 : E_ d mX0_lamp 76 ls (.int y :: .int x :: st) h = if y < x then E_ d mX0_lamp 126 ls st h else E_ d mX0_lamp 79 ls st h := e_igt dX0_lamp_76 rfl rfl
theorem wX0_lamp_79 : E_ d mX0_lamp 79 [s0, .val (.int x), s2, s3, s4, s5, s6, s7] st h = E_ d mX0_lamp 80 [s0, .val (.int x), s2, s3, s4, s5, s6, s7] (.int x :: st) h := e_go dX0_lamp_79 rfl rfl
theorem wX0_lamp_80 : E_ d mX0_lamp 80 [s0, s1, .val (.int x), s3, s4, s5, s6, s7] st h = E_ d mX0_lamp 81 [s0, s1, .val (.int x), s3, s4, s5, s6, s7] (.int x :: st) h := e_go dX0_lamp_80 rfl rfl
theorem wX0_lamp_81 : E_ d mX0_lamp 81 [s0, s1, s2, s3, s4, s5, .val (.int x), s7] st h = E_ d mX0_lamp 83 [s0, s1, s2, s3, s4, s5, .val (.int x), s7] (.int x :: st) h := e_go dX0_lamp_81 rfl rfl
theorem wX0_lamp_83 : E_ d mX0_lamp 83 [s0, s1, s2, s3, s4, s5, s6, .val (.int x)] st h = E_ d mX0_lamp 85 [s0, s1, s2, s3, s4, s5, s6, .val (.int x)] (.int x :: st) h := e_go dX0_lamp_83 rfl rfl
theorem wX0_lamp_85 : E_ (d + 1) mX0_lamp 85 ls [.int x4, .int x3, .int x2, .int x1] h = (C_ d mX0_waste [.int x1, .int x2, .int x3, .int x4] h).bind fun r => E_ (d + 1) mX0_lamp 88 ls (xpu r.1 []) r.2 := e_call dX0_lamp_85 rfl rfl
theorem wX0_lamp_88 : E_ d mX0_lamp 88 [s0, s1, s2, s3, .val (.int x), s5, s6, s7] st h = E_ d mX0_lamp 90 [s0, s1, s2, s3, .val (.int x), s5, s6, s7] (.int x :: st) h := e_go dX0_lamp_88 rfl rfl
theorem wX0_lamp_90 : E_ d mX0_lamp 90 ls (.int x :: st) h = E_ d mX0_lamp 91 ls (.long x.toInt64 :: st) h := e_go dX0_lamp_90 rfl rfl
theorem wX0_lamp_91 : E_ d mX0_lamp 91 ls (.long v :: .long u :: st) h = E_ d mX0_lamp 92 ls (.long (u * v) :: st) h := e_go dX0_lamp_91 rfl rfl
theorem wX0_lamp_92 : E_ d mX0_lamp 92 [s0, .val (.int x), s2, s3, s4, s5, s6, s7] st h = E_ d mX0_lamp 93 [s0, .val (.int x), s2, s3, s4, s5, s6, s7] (.int x :: st) h := e_go dX0_lamp_92 rfl rfl
theorem wX0_lamp_93 : E_ d mX0_lamp 93 [s0, s1, .val (.int x), s3, s4, s5, s6, s7] st h = E_ d mX0_lamp 94 [s0, s1, .val (.int x), s3, s4, s5, s6, s7] (.int x :: st) h := e_go dX0_lamp_93 rfl rfl
theorem wX0_lamp_94 : E_ d mX0_lamp 94 [s0, s1, s2, s3, .val (.int x), s5, s6, s7] st h = E_ d mX0_lamp 96 [s0, s1, s2, s3, .val (.int x), s5, s6, s7] (.int x :: st) h := e_go dX0_lamp_94 rfl rfl
theorem wX0_lamp_96 : E_ d mX0_lamp 96 [s0, s1, s2, s3, s4, .val (.int x), s6, s7] st h = E_ d mX0_lamp 98 [s0, s1, s2, s3, s4, .val (.int x), s6, s7] (.int x :: st) h := e_go dX0_lamp_96 rfl rfl
theorem wX0_lamp_98 : E_ (d + 1) mX0_lamp 98 ls [.int x4, .int x3, .int x2, .int x1, .long u1] h = (C_ d mX0_waste [.int x1, .int x2, .int x3, .int x4] h).bind fun r => E_ (d + 1) mX0_lamp 101 ls (xpu r.1 [.long u1]) r.2 := e_call dX0_lamp_98 rfl rfl
theorem wX0_lamp_101 : E_ d mX0_lamp 101 [s0, s1, s2, s3, s4, s5, .val (.int x), s7] st h = E_ d mX0_lamp 103 [s0, s1, s2, s3, s4, s5, .val (.int x), s7] (.int x :: st) h := e_go dX0_lamp_101 rfl rfl
theorem wX0_lamp_103 : E_ d mX0_lamp 103 ls (.int x :: st) h = E_ d mX0_lamp 104 ls (.long x.toInt64 :: st) h := e_go dX0_lamp_103 rfl rfl
theorem wX0_lamp_104 : E_ d mX0_lamp 104 ls (.long v :: .long u :: st) h = E_ d mX0_lamp 105 ls (.long (u * v) :: st) h := e_go dX0_lamp_104 rfl rfl
theorem wX0_lamp_105 : E_ d mX0_lamp 105 ls (.long v :: .long u :: st) h = E_ d mX0_lamp 106 ls (.int (lg_cmp u v) :: st) h := e_go dX0_lamp_105 rfl rfl
theorem wX0_lamp_106 : E_ d mX0_lamp 106 ls (.int x :: st) h = if x < 0 then E_ d mX0_lamp 112 ls st h else E_ d mX0_lamp 109 ls st h := e_zlt dX0_lamp_106 rfl rfl
theorem wX0_lamp_109 : E_ d mX0_lamp 109 ls st h = E_ d mX0_lamp 120 ls st h := e_gt dX0_lamp_109 rfl
theorem wX0_lamp_112 : E_ d mX0_lamp 112 [s0, s1, s2, s3, s4, s5, .val (.int x), s7] st h = E_ d mX0_lamp 114 [s0, s1, s2, s3, s4, s5, .val (.int x), s7] (.int x :: st) h := e_go dX0_lamp_112 rfl rfl
theorem wX0_lamp_114 : E_ d mX0_lamp 114 [s0, s1, s2, s3, s4, s5, s6, s7] (.int x :: st) h = E_ d mX0_lamp 116 [s0, s1, s2, xk s3, .val (.int x), s5, s6, s7] st h := e_go dX0_lamp_114 rfl rfl
theorem wX0_lamp_116 : E_ d mX0_lamp 116 [s0, s1, s2, s3, s4, s5, s6, .val (.int x)] st h = E_ d mX0_lamp 118 [s0, s1, s2, s3, s4, s5, s6, .val (.int x)] (.int x :: st) h := e_go dX0_lamp_116 rfl rfl
theorem wX0_lamp_118 : E_ d mX0_lamp 118 [s0, s1, s2, s3, s4, s5, s6, s7] (.int x :: st) h = E_ d mX0_lamp 120 [s0, s1, s2, s3, xk s4, .val (.int x), s6, s7] st h := e_go dX0_lamp_118 rfl rfl
theorem wX0_lamp_120 : E_ d mX0_lamp 120 [s0, s1, s2, s3, s4, s5, s6, .val (.int x)] st h = E_ d mX0_lamp 123 [s0, s1, s2, s3, s4, s5, xk s6, .val (.int (x + nI 1))] st h := by rw [← kiinc_1]; exact e_go dX0_lamp_120 rfl rfl
theorem wX0_lamp_123 : E_ d mX0_lamp 123 ls st h = E_ d mX0_lamp 69 ls st h := e_gt dX0_lamp_123 rfl
theorem wX0_lamp_126 : E_ d mX0_lamp 126 [s0, s1, s2, s3, s4, s5, .val (.int x), s7] st h = E_ d mX0_lamp 129 [s0, s1, s2, s3, s4, xk s5, .val (.int (x + nI 1)), s7] st h := by rw [← kiinc_1]; exact e_go dX0_lamp_126 rfl rfl
theorem wX0_lamp_129 : E_ d mX0_lamp 129 ls st h = E_ d mX0_lamp 59 ls st h := e_gt dX0_lamp_129 rfl
theorem wX0_lamp_132 : E_ d mX0_lamp 132 [s0, s1, s2, .val (.int x), s4, s5, s6, s7] st h = E_ d mX0_lamp 133 [s0, s1, s2, .val (.int x), s4, s5, s6, s7] (.int x :: st) h := e_go dX0_lamp_132 rfl rfl
theorem wX0_lamp_133 : E_ d mX0_lamp 133 ls (.int x :: st) h = if x = 0 then E_ d mX0_lamp 136 ls st h else E_ d mX0_lamp 141 ls st h := e_zne dX0_lamp_133 rfl rfl
theorem wX0_lamp_136 : E_ d mX0_lamp 136 [s0, s1, s2, s3, .val (.int x), s5, s6, s7] st h = E_ d mX0_lamp 138 [s0, s1, s2, s3, .val (.int x), s5, s6, s7] (.int x :: st) h := e_go dX0_lamp_136 rfl rfl
theorem wX0_lamp_138 : E_ d mX0_lamp 138 ls st h = E_ d mX0_lamp 143 ls st h := e_gt dX0_lamp_138 rfl
theorem wX0_lamp_141 : E_ d mX0_lamp 141 [s0, s1, s2, s3, s4, .val (.int x), s6, s7] st h = E_ d mX0_lamp 143 [s0, s1, s2, s3, s4, .val (.int x), s6, s7] (.int x :: st) h := e_go dX0_lamp_141 rfl rfl
theorem wX0_lamp_143 : E_ d mX0_lamp 143 ls [.int x] h = some (some (.int x), h) := e_rt dX0_lamp_143 rfl rfl
/-! FootOut.waste -/
theorem wX0_waste_0 : E_ d mX0_waste 0 [.val (.int x), s1, s2, s3] st h = E_ d mX0_waste 1 [.val (.int x), s1, s2, s3] (.int x :: st) h := e_go dX0_waste_0 rfl rfl
theorem wX0_waste_1 : E_ d mX0_waste 1 ls (.int x :: st) h = E_ d mX0_waste 2 ls (.long x.toInt64 :: st) h := e_go dX0_waste_1 rfl rfl
theorem wX0_waste_2 : E_ d mX0_waste 2 [s0, s1, s2, .val (.int x)] st h = E_ d mX0_waste 3 [s0, s1, s2, .val (.int x)] (.int x :: st) h := e_go dX0_waste_2 rfl rfl
theorem wX0_waste_3 : E_ d mX0_waste 3 ls (.int x :: st) h = E_ d mX0_waste 4 ls (.long x.toInt64 :: st) h := e_go dX0_waste_3 rfl rfl
theorem wX0_waste_4 : E_ d mX0_waste 4 ls (.long v :: .long u :: st) h = E_ d mX0_waste 5 ls (.long (u * v) :: st) h := e_go dX0_waste_4 rfl rfl
theorem wX0_waste_5 : E_ d mX0_waste 5 [s0, s1, s2, .val (.int x)] st h = E_ d mX0_waste 6 [s0, s1, s2, .val (.int x)] (.int x :: st) h := e_go dX0_waste_5 rfl rfl
theorem wX0_waste_6 : E_ d mX0_waste 6 ls (.int x :: st) h = E_ d mX0_waste 7 ls (.long x.toInt64 :: st) h := e_go dX0_waste_6 rfl rfl
theorem wX0_waste_7 : E_ d mX0_waste 7 ls (.long v :: .long u :: st) h = E_ d mX0_waste 8 ls (.long (u * v) :: st) h := e_go dX0_waste_7 rfl rfl
theorem wX0_waste_8 : E_ d mX0_waste 8 [s0, .val (.int x), s2, s3] st h = E_ d mX0_waste 9 [s0, .val (.int x), s2, s3] (.int x :: st) h := e_go dX0_waste_8 rfl rfl
theorem wX0_waste_9 : E_ d mX0_waste 9 ls (.int x :: st) h = E_ d mX0_waste 10 ls (.long x.toInt64 :: st) h := e_go dX0_waste_9 rfl rfl
theorem wX0_waste_10 : E_ d mX0_waste 10 [s0, s1, .val (.int x), s3] st h = E_ d mX0_waste 11 [s0, s1, .val (.int x), s3] (.int x :: st) h := e_go dX0_waste_10 rfl rfl
theorem wX0_waste_11 : E_ d mX0_waste 11 [s0, s1, s2, .val (.int x)] st h = E_ d mX0_waste 12 [s0, s1, s2, .val (.int x)] (.int x :: st) h := e_go dX0_waste_11 rfl rfl
theorem wX0_waste_12 : E_ d mX0_waste 12 ls (.int y :: .int x :: st) h = E_ d mX0_waste 13 ls (.int (x - y) :: st) h := e_go dX0_waste_12 rfl rfl
theorem wX0_waste_13 : E_ d mX0_waste 13 ls (.int x :: st) h = E_ d mX0_waste 14 ls (.long x.toInt64 :: st) h := e_go dX0_waste_13 rfl rfl
theorem wX0_waste_14 : E_ d mX0_waste 14 ls (.long v :: .long u :: st) h = E_ d mX0_waste 15 ls (.long (u * v) :: st) h := e_go dX0_waste_14 rfl rfl
theorem wX0_waste_15 : E_ d mX0_waste 15 [s0, s1, .val (.int x), s3] st h = E_ d mX0_waste 16 [s0, s1, .val (.int x), s3] (.int x :: st) h := e_go dX0_waste_15 rfl rfl
theorem wX0_waste_16 : E_ d mX0_waste 16 [s0, s1, s2, .val (.int x)] st h = E_ d mX0_waste 17 [s0, s1, s2, .val (.int x)] (.int x :: st) h := e_go dX0_waste_16 rfl rfl
theorem wX0_waste_17 : E_ d mX0_waste 17 ls (.int y :: .int x :: st) h = E_ d mX0_waste 18 ls (.int (x - y) :: st) h := e_go dX0_waste_17 rfl rfl
theorem wX0_waste_18 : E_ d mX0_waste 18 ls (.int x :: st) h = E_ d mX0_waste 19 ls (.long x.toInt64 :: st) h := e_go dX0_waste_18 rfl rfl
theorem wX0_waste_19 : E_ d mX0_waste 19 ls (.long v :: .long u :: st) h = E_ d mX0_waste 20 ls (.long (u * v) :: st) h := e_go dX0_waste_19 rfl rfl
theorem wX0_waste_20 : E_ d mX0_waste 20 ls (.long v :: .long u :: st) h = E_ d mX0_waste 21 ls (.long (u + v) :: st) h := e_go dX0_waste_20 rfl rfl
theorem wX0_waste_21 : E_ d mX0_waste 21 ls [.long u] h = some (some (.long u), h) := e_rt dX0_waste_21 rfl rfl
/-! FootOut.pay -/
theorem wX0_pay_0 : E_ d mX0_pay 0 [s0, .val (.int x), s2, s3, s4, s5] st h = E_ d mX0_pay 1 [s0, .val (.int x), s2, s3, s4, s5] (.int x :: st) h := e_go dX0_pay_0 rfl rfl
theorem wX0_pay_1 : E_ d mX0_pay 1 ls (.int x :: st) h = E_ d mX0_pay 2 ls (.long x.toInt64 :: st) h := e_go dX0_pay_1 rfl rfl
theorem wX0_pay_2 : E_ d mX0_pay 2 ls st h = E_ d mX0_pay 3 ls (.long 0 :: st) h := e_go dX0_pay_2 rfl rfl
theorem wX0_pay_3 : E_ d mX0_pay 3 ls st h = E_ d mX0_pay 4 ls (.long 1 :: st) h := e_go dX0_pay_3 rfl rfl
theorem wX0_pay_4 : E_ (d + 1) mX0_pay 4 ls [.long u3, .long u2, .long u1] h = (C_ d mX0_in [.long u1, .long u2, .long u3] h).bind fun r => E_ (d + 1) mX0_pay 7 ls (xpu r.1 []) r.2 := e_call dX0_pay_4 rfl rfl
theorem wX0_pay_7 : E_ d mX0_pay 7 ls (.int x :: st) h = if x = 0 then E_ d mX0_pay 47 ls st h else E_ d mX0_pay 10 ls st h := e_zeq dX0_pay_7 rfl rfl
theorem wX0_pay_10 : E_ d mX0_pay 10 [s0, s1, .val (.int x), s3, s4, s5] st h = E_ d mX0_pay 11 [s0, s1, .val (.int x), s3, s4, s5] (.int x :: st) h := e_go dX0_pay_10 rfl rfl
theorem wX0_pay_11 : E_ d mX0_pay 11 ls (.int x :: st) h = E_ d mX0_pay 12 ls (.long x.toInt64 :: st) h := e_go dX0_pay_11 rfl rfl
theorem wX0_pay_12 : E_ d mX0_pay 12 ls st h = E_ d mX0_pay 13 ls (.long 0 :: st) h := e_go dX0_pay_12 rfl rfl
theorem wX0_pay_13 : E_ d mX0_pay 13 ls st h = E_ d mX0_pay 14 ls (.long 1 :: st) h := e_go dX0_pay_13 rfl rfl
theorem wX0_pay_14 : E_ (d + 1) mX0_pay 14 ls [.long u3, .long u2, .long u1] h = (C_ d mX0_in [.long u1, .long u2, .long u3] h).bind fun r => E_ (d + 1) mX0_pay 17 ls (xpu r.1 []) r.2 := e_call dX0_pay_14 rfl rfl
theorem wX0_pay_17 : E_ d mX0_pay 17 ls (.int x :: st) h = if x = 0 then E_ d mX0_pay 47 ls st h else E_ d mX0_pay 20 ls st h := e_zeq dX0_pay_17 rfl rfl
theorem wX0_pay_20 : E_ d mX0_pay 20 [s0, s1, s2, .val (.int x), s4, s5] st h = E_ d mX0_pay 21 [s0, s1, s2, .val (.int x), s4, s5] (.int x :: st) h := e_go dX0_pay_20 rfl rfl
theorem wX0_pay_21 : E_ d mX0_pay 21 ls (.int x :: st) h = E_ d mX0_pay 22 ls (.long x.toInt64 :: st) h := e_go dX0_pay_21 rfl rfl
theorem wX0_pay_22 : E_ d mX0_pay 22 ls st h = E_ d mX0_pay 23 ls (.long 0 :: st) h := e_go dX0_pay_22 rfl rfl
theorem wX0_pay_23 : E_ d mX0_pay 23 ls st h = E_ d mX0_pay 26 ls (.long (4) :: st) h := e_go dX0_pay_23 rfl rfl
theorem wX0_pay_26 : E_ (d + 1) mX0_pay 26 ls [.long u3, .long u2, .long u1] h = (C_ d mX0_in [.long u1, .long u2, .long u3] h).bind fun r => E_ (d + 1) mX0_pay 29 ls (xpu r.1 []) r.2 := e_call dX0_pay_26 rfl rfl
theorem wX0_pay_29 : E_ d mX0_pay 29 ls (.int x :: st) h = if x = 0 then E_ d mX0_pay 47 ls st h else E_ d mX0_pay 32 ls st h := e_zeq dX0_pay_29 rfl rfl
theorem wX0_pay_32 : E_ d mX0_pay 32 [s0, s1, s2, s3, .val (.int x), s5] st h = E_ d mX0_pay 34 [s0, s1, s2, s3, .val (.int x), s5] (.int x :: st) h := e_go dX0_pay_32 rfl rfl
theorem wX0_pay_34 : E_ d mX0_pay 34 ls (.int x :: st) h = E_ d mX0_pay 35 ls (.long x.toInt64 :: st) h := e_go dX0_pay_34 rfl rfl
theorem wX0_pay_35 : E_ d mX0_pay 35 ls st h = E_ d mX0_pay 38 ls (.long (-99) :: st) h := e_go dX0_pay_35 rfl rfl
theorem wX0_pay_38 : E_ d mX0_pay 38 ls st h = E_ d mX0_pay 41 ls (.long (99) :: st) h := e_go dX0_pay_38 rfl rfl
theorem wX0_pay_41 : E_ (d + 1) mX0_pay 41 ls [.long u3, .long u2, .long u1] h = (C_ d mX0_in [.long u1, .long u2, .long u3] h).bind fun r => E_ (d + 1) mX0_pay 44 ls (xpu r.1 []) r.2 := e_call dX0_pay_41 rfl rfl
theorem wX0_pay_44 : E_ d mX0_pay 44 ls (.int x :: st) h = if x = 0 then E_ d mX0_pay 47 ls st h else E_ d mX0_pay 55 ls st h := e_zne dX0_pay_44 rfl rfl
theorem wX0_pay_47 : E_ d mX0_pay 47 [.val (.ref a), s1, s2, s3, s4, s5] st h = E_ d mX0_pay 48 [.val (.ref a), s1, s2, s3, s4, s5] (.ref a :: st) h := e_go dX0_pay_47 rfl rfl
theorem wX0_pay_48 : E_ d mX0_pay 48 ls st h = E_ d mX0_pay 51 ls (.int ((-1000)) :: st) h := e_sipush dX0_pay_48 ksipush_m1000 rfl
theorem wX0_pay_51 (ht : oT h a = 1) : E_ (d + 1) mX0_pay 51 ls [.int x1, .ref a] h = (C_ d mX0_no [.ref a, .int x1] h).bind fun r => E_ (d + 1) mX0_pay 54 ls (xpu r.1 []) r.2 := e_vir dX0_pay_51 rfl rfl rfl rfl rfl rfl (Nat.le_of_ble_eq_true rfl) (Nat.le_of_ble_eq_true rfl) ht
theorem wX0_pay_54 : E_ d mX0_pay 54 ls [.int x] h = some (some (.int x), h) := e_rt dX0_pay_54 rfl rfl
theorem wX0_pay_55 : E_ d mX0_pay 55 [.val (.ref a), s1, s2, s3, s4, s5] st h = E_ d mX0_pay 56 [.val (.ref a), s1, s2, s3, s4, s5] (.ref a :: st) h := e_go dX0_pay_55 rfl rfl
theorem wX0_pay_56 (ht : oT h a = 1) : E_ d mX0_pay 56 ls (.ref a :: st) h = E_ d mX0_pay 59 ls (va_rf (oR h a 0) :: st) h := e_getR dX0_pay_56 rfl rfl ht
theorem wX0_pay_59 (ht : oT h a = 2) : E_ d mX0_pay 59 ls (.ref a :: st) h = E_ d mX0_pay 62 ls (va_rf (oR h a 5) :: st) h := e_getR0 dX0_pay_59 rfl rfl ht
theorem wX0_pay_62 : E_ d mX0_pay 62 [s0, .val (.int x), s2, s3, s4, s5] st h = E_ d mX0_pay 63 [s0, .val (.int x), s2, s3, s4, s5] (.int x :: st) h := e_go dX0_pay_62 rfl rfl
theorem wX0_pay_63 : E_ d mX0_pay 63 [s0, s1, .val (.int x), s3, s4, s5] st h = E_ d mX0_pay 64 [s0, s1, .val (.int x), s3, s4, s5] (.int x :: st) h := e_go dX0_pay_63 rfl rfl
theorem wX0_pay_64 : E_ d mX0_pay 64 [s0, s1, s2, .val (.int x), s4, s5] st h = E_ d mX0_pay 65 [s0, s1, s2, .val (.int x), s4, s5] (.int x :: st) h := e_go dX0_pay_64 rfl rfl
theorem wX0_pay_65 : E_ (d + 1) mX0_pay 65 ls [.int x3, .int x2, .int x1, .ref r1] h = (C_ d mX0_payAt [.int x1, .int x2, .int x3] h).bind fun r => E_ (d + 1) mX0_pay 68 ls (xpu r.1 [.ref r1]) r.2 := e_call dX0_pay_65 rfl rfl
theorem wX0_pay_68 (ht : oT h a = 40) (hi : xix x (oN h a) = true) : E_ d mX0_pay 68 ls (.int x :: .ref a :: st) h = E_ d mX0_pay 69 ls (.int (oI h a x.toNatClampNeg) :: st) h := e_iald dX0_pay_68 rfl ht hi
theorem wX0_pay_69 : E_ d mX0_pay 69 [s0, s1, s2, s3, s4, s5] (.int x :: st) h = E_ d mX0_pay 71 [s0, s1, s2, s3, xk s4, .val (.int x)] st h := e_go dX0_pay_69 rfl rfl
theorem wX0_pay_71 : E_ d mX0_pay 71 [.val (.ref a), s1, s2, s3, s4, s5] st h = E_ d mX0_pay 72 [.val (.ref a), s1, s2, s3, s4, s5] (.ref a :: st) h := e_go dX0_pay_71 rfl rfl
theorem wX0_pay_72 (ht : oT h a = 1) : E_ d mX0_pay 72 ls (.ref a :: st) h = E_ d mX0_pay 75 ls (va_rf (oR h a 0) :: st) h := e_getR dX0_pay_72 rfl rfl ht
theorem wX0_pay_75 (ht : oT h a = 2) : E_ d mX0_pay 75 ls (.ref a :: st) h = E_ d mX0_pay 78 ls (va_rf (oR h a 5) :: st) h := e_getR0 dX0_pay_75 rfl rfl ht
theorem wX0_pay_78 : E_ d mX0_pay 78 [s0, .val (.int x), s2, s3, s4, s5] st h = E_ d mX0_pay 79 [s0, .val (.int x), s2, s3, s4, s5] (.int x :: st) h := e_go dX0_pay_78 rfl rfl
theorem wX0_pay_79 : E_ d mX0_pay 79 [s0, s1, .val (.int x), s3, s4, s5] st h = E_ d mX0_pay 80 [s0, s1, .val (.int x), s3, s4, s5] (.int x :: st) h := e_go dX0_pay_79 rfl rfl
theorem wX0_pay_80 : E_ d mX0_pay 80 [s0, s1, s2, .val (.int x), s4, s5] st h = E_ d mX0_pay 81 [s0, s1, s2, .val (.int x), s4, s5] (.int x :: st) h := e_go dX0_pay_80 rfl rfl
theorem wX0_pay_81 : E_ (d + 1) mX0_pay 81 ls [.int x3, .int x2, .int x1, .ref r1] h = (C_ d mX0_payAt [.int x1, .int x2, .int x3] h).bind fun r => E_ (d + 1) mX0_pay 84 ls (xpu r.1 [.ref r1]) r.2 := e_call dX0_pay_81 rfl rfl
theorem wX0_pay_84 : E_ d mX0_pay 84 [s0, s1, s2, s3, .val (.int x), s5] st h = E_ d mX0_pay 86 [s0, s1, s2, s3, .val (.int x), s5] (.int x :: st) h := e_go dX0_pay_84 rfl rfl
theorem wX0_pay_86 (ht : oT h a = 40) (hi : xix x (oN h a) = true) : E_ d mX0_pay 86 ls (.int y :: .int x :: .ref a :: st) h = E_ d mX0_pay 87 ls st (pI h a (va_up (oI h a) x.toNatClampNeg y)) := e_iast dX0_pay_86 rfl ht hi
theorem wX0_pay_87 : E_ d mX0_pay 87 [s0, s1, s2, s3, s4, .val (.int x)] st h = E_ d mX0_pay 89 [s0, s1, s2, s3, s4, .val (.int x)] (.int x :: st) h := e_go dX0_pay_87 rfl rfl
theorem wX0_pay_89 : E_ d mX0_pay 89 ls [.int x] h = some (some (.int x), h) := e_rt dX0_pay_89 rfl rfl
/-! FootOut.payAt -/
theorem wX0_payAt_0 : E_ d mX0_payAt 0 ls st h = E_ d mX0_payAt 1 ls (.int (nI 5) :: st) h := e_iconst dX0_payAt_0 kiconst_5 rfl
theorem wX0_payAt_1 : E_ d mX0_payAt 1 ls st h = E_ d mX0_payAt 2 ls (.int (nI 2) :: st) h := e_iconst dX0_payAt_1 kiconst_2 rfl
theorem wX0_payAt_2 : E_ d mX0_payAt 2 [.val (.int x), s1, s2] st h = E_ d mX0_payAt 3 [.val (.int x), s1, s2] (.int x :: st) h := e_go dX0_payAt_2 rfl rfl
theorem wX0_payAt_3 : E_ d mX0_payAt 3 ls (.int y :: .int x :: st) h = E_ d mX0_payAt 4 ls (.int (x * y) :: st) h := e_go dX0_payAt_3 rfl rfl
theorem wX0_payAt_4 : E_ d mX0_payAt 4 [s0, .val (.int x), s2] st h = E_ d mX0_payAt 5 [s0, .val (.int x), s2] (.int x :: st) h := e_go dX0_payAt_4 rfl rfl
theorem wX0_payAt_5 : E_ d mX0_payAt 5 ls (.int y :: .int x :: st) h = E_ d mX0_payAt 6 ls (.int (x + y) :: st) h := e_go dX0_payAt_5 rfl rfl
theorem wX0_payAt_6 : E_ d mX0_payAt 6 ls (.int y :: .int x :: st) h = E_ d mX0_payAt 7 ls (.int (x * y) :: st) h := e_go dX0_payAt_6 rfl rfl
theorem wX0_payAt_7 : E_ d mX0_payAt 7 [s0, s1, .val (.int x)] st h = E_ d mX0_payAt 8 [s0, s1, .val (.int x)] (.int x :: st) h := e_go dX0_payAt_7 rfl rfl
theorem wX0_payAt_8 : E_ d mX0_payAt 8 ls (.int y :: .int x :: st) h = E_ d mX0_payAt 9 ls (.int (x + y) :: st) h := e_go dX0_payAt_8 rfl rfl
theorem wX0_payAt_9 : E_ d mX0_payAt 9 ls [.int x] h = some (some (.int x), h) := e_rt dX0_payAt_9 rfl rfl
/-! FootOut.rests -/
theorem wX0_rests_0 : E_ d mX0_rests 0 [s0, s1, s2, .val (.int x), s4, s5, s6, s7] st h = E_ d mX0_rests 1 [s0, s1, s2, .val (.int x), s4, s5, s6, s7] (.int x :: st) h := e_go dX0_rests_0 rfl rfl
theorem wX0_rests_1 : E_ d mX0_rests 1 ls (.int x :: st) h = E_ d mX0_rests 2 ls (.long x.toInt64 :: st) h := e_go dX0_rests_1 rfl rfl
theorem wX0_rests_2 : E_ d mX0_rests 2 ls st h = E_ d mX0_rests 3 ls (.long 0 :: st) h := e_go dX0_rests_2 rfl rfl
theorem wX0_rests_3 : E_ d mX0_rests 3 ls st h = E_ d mX0_rests 4 ls (.long 1 :: st) h := e_go dX0_rests_3 rfl rfl
theorem wX0_rests_4 : E_ (d + 1) mX0_rests 4 ls [.long u3, .long u2, .long u1] h = (C_ d mX0_in [.long u1, .long u2, .long u3] h).bind fun r => E_ (d + 1) mX0_rests 7 ls (xpu r.1 []) r.2 := e_call dX0_rests_4 rfl rfl
theorem wX0_rests_7 : E_ d mX0_rests 7 ls (.int x :: st) h = if x = 0 then E_ d mX0_rests 10 ls st h else E_ d mX0_rests 17 ls st h := e_zne dX0_rests_7 rfl rfl
theorem wX0_rests_10 : E_ d mX0_rests 10 [.val (.ref a), s1, s2, s3, s4, s5, s6, s7] st h = E_ d mX0_rests 11 [.val (.ref a), s1, s2, s3, s4, s5, s6, s7] (.ref a :: st) h := e_go dX0_rests_10 rfl rfl
theorem wX0_rests_11 : E_ d mX0_rests 11 ls st h = E_ d mX0_rests 13 ls (.int ((-2)) :: st) h := e_bipush dX0_rests_11 kbipush_m2 rfl
theorem wX0_rests_13 (ht : oT h a = 1) : E_ (d + 1) mX0_rests 13 ls [.int x1, .ref a] h = (C_ d mX0_no [.ref a, .int x1] h).bind fun r => E_ (d + 1) mX0_rests 16 ls (xpu r.1 []) r.2 := e_vir dX0_rests_13 rfl rfl rfl rfl rfl rfl (Nat.le_of_ble_eq_true rfl) (Nat.le_of_ble_eq_true rfl) ht
theorem wX0_rests_16 : E_ d mX0_rests 16 ls [.int x] h = some (some (.int x), h) := e_rt dX0_rests_16 rfl rfl
theorem wX0_rests_17 : E_ d mX0_rests 17 [s0, .val (.int x), s2, s3, s4, s5, s6, s7] st h = E_ d mX0_rests 18 [s0, .val (.int x), s2, s3, s4, s5, s6, s7] (.int x :: st) h := e_go dX0_rests_17 rfl rfl
theorem wX0_rests_18 : E_ d mX0_rests 18 ls (.int x :: st) h = E_ d mX0_rests 19 ls (.long x.toInt64 :: st) h := e_go dX0_rests_18 rfl rfl
theorem wX0_rests_19 : E_ d mX0_rests 19 ls st h = E_ d mX0_rests 20 ls (.long 0 :: st) h := e_go dX0_rests_19 rfl rfl
theorem wX0_rests_20 : E_ d mX0_rests 20 ls st h = E_ d mX0_rests 23 ls (.long (4) :: st) h := e_go dX0_rests_20 rfl rfl
theorem wX0_rests_23 : E_ (d + 1) mX0_rests 23 ls [.long u3, .long u2, .long u1] h = (C_ d mX0_in [.long u1, .long u2, .long u3] h).bind fun r => E_ (d + 1) mX0_rests 26 ls (xpu r.1 []) r.2 := e_call dX0_rests_23 rfl rfl
theorem wX0_rests_26 : E_ d mX0_rests 26 ls (.int x :: st) h = if x = 0 then E_ d mX0_rests 41 ls st h else E_ d mX0_rests 29 ls st h := e_zeq dX0_rests_26 rfl rfl
theorem wX0_rests_29 : E_ d mX0_rests 29 [s0, s1, .val (.int x), s3, s4, s5, s6, s7] st h = E_ d mX0_rests 30 [s0, s1, .val (.int x), s3, s4, s5, s6, s7] (.int x :: st) h := e_go dX0_rests_29 rfl rfl
theorem wX0_rests_30 : E_ d mX0_rests 30 ls (.int x :: st) h = E_ d mX0_rests 31 ls (.long x.toInt64 :: st) h := e_go dX0_rests_30 rfl rfl
theorem wX0_rests_31 : E_ d mX0_rests 31 ls st h = E_ d mX0_rests 32 ls (.long 0 :: st) h := e_go dX0_rests_31 rfl rfl
theorem wX0_rests_32 : E_ d mX0_rests 32 ls st h = E_ d mX0_rests 35 ls (.long (4) :: st) h := e_go dX0_rests_32 rfl rfl
theorem wX0_rests_35 : E_ (d + 1) mX0_rests 35 ls [.long u3, .long u2, .long u1] h = (C_ d mX0_in [.long u1, .long u2, .long u3] h).bind fun r => E_ (d + 1) mX0_rests 38 ls (xpu r.1 []) r.2 := e_call dX0_rests_35 rfl rfl
theorem wX0_rests_38 : E_ d mX0_rests 38 ls (.int x :: st) h = if x = 0 then E_ d mX0_rests 41 ls st h else E_ d mX0_rests 48 ls st h := e_zne dX0_rests_38 rfl rfl
theorem wX0_rests_41 : E_ d mX0_rests 41 [.val (.ref a), s1, s2, s3, s4, s5, s6, s7] st h = E_ d mX0_rests 42 [.val (.ref a), s1, s2, s3, s4, s5, s6, s7] (.ref a :: st) h := e_go dX0_rests_41 rfl rfl
theorem wX0_rests_42 : E_ d mX0_rests 42 ls st h = E_ d mX0_rests 44 ls (.int ((-3)) :: st) h := e_bipush dX0_rests_42 kbipush_m3 rfl
theorem wX0_rests_44 (ht : oT h a = 1) : E_ (d + 1) mX0_rests 44 ls [.int x1, .ref a] h = (C_ d mX0_no [.ref a, .int x1] h).bind fun r => E_ (d + 1) mX0_rests 47 ls (xpu r.1 []) r.2 := e_vir dX0_rests_44 rfl rfl rfl rfl rfl rfl (Nat.le_of_ble_eq_true rfl) (Nat.le_of_ble_eq_true rfl) ht
theorem wX0_rests_47 : E_ d mX0_rests 47 ls [.int x] h = some (some (.int x), h) := e_rt dX0_rests_47 rfl rfl
theorem wX0_rests_48 : E_ d mX0_rests 48 ls st h = E_ d mX0_rests 49 ls (.int (nI 0) :: st) h := e_iconst dX0_rests_48 kiconst_0 rfl
theorem wX0_rests_49 : E_ d mX0_rests 49 [s0, s1, s2, s3, s4, s5, s6, s7] (.int x :: st) h = E_ d mX0_rests 51 [s0, s1, s2, xk s3, .val (.int x), s5, s6, s7] st h := e_go dX0_rests_49 rfl rfl
theorem wX0_rests_51 : E_ d mX0_rests 51 ls st h = E_ d mX0_rests 52 ls (.int ((-1)) :: st) h := e_iconst dX0_rests_51 kiconst_m1 rfl
theorem wX0_rests_52 : E_ d mX0_rests 52 [s0, s1, s2, s3, s4, s5, s6, s7] (.int x :: st) h = E_ d mX0_rests 54 [s0, s1, s2, s3, xk s4, .val (.int x), s6, s7] st h := e_go dX0_rests_52 rfl rfl
theorem wX0_rests_54 : E_ d mX0_rests 54 ls st h = E_ d mX0_rests 55 ls (.int (nI 0) :: st) h := e_iconst dX0_rests_54 kiconst_0 rfl
theorem wX0_rests_55 : E_ d mX0_rests 55 [s0, s1, s2, s3, s4, s5, s6, s7] (.int x :: st) h = E_ d mX0_rests 57 [s0, s1, s2, s3, s4, xk s5, .val (.int x), s7] st h := e_go dX0_rests_55 rfl rfl
theorem wX0_rests_57 : E_ d mX0_rests 57 [s0, s1, s2, s3, s4, s5, .val (.int x), s7] st h = E_ d mX0_rests 59 [s0, s1, s2, s3, s4, s5, .val (.int x), s7] (.int x :: st) h := e_go dX0_rests_57 rfl rfl
theorem wX0_rests_59 : E_ d mX0_rests 59 [s0, .val (.int x), s2, s3, s4, s5, s6, s7] st h = E_ d mX0_rests 60 [s0, .val (.int x), s2, s3, s4, s5, s6, s7] (.int x :: st) h := e_go dX0_rests_59 rfl rfl
theorem wX0_rests_60 : E_ d mX0_rests 60 ls (.int y :: .int x :: st) h = if y < x then E_ d mX0_rests 137 ls st h else E_ d mX0_rests 63 ls st h := e_igt dX0_rests_60 rfl rfl
theorem wX0_rests_63 : E_ d mX0_rests 63 ls st h = E_ d mX0_rests 64 ls (.int (nI 0) :: st) h := e_iconst dX0_rests_63 kiconst_0 rfl
theorem wX0_rests_64 : E_ d mX0_rests 64 [s0, s1, s2, s3, s4, s5, s6, s7] (.int x :: st) h = E_ d mX0_rests 66 [s0, s1, s2, s3, s4, s5, xk s6, .val (.int x)] st h := e_go dX0_rests_64 rfl rfl
theorem wX0_rests_66 : E_ d mX0_rests 66 [s0, s1, s2, s3, s4, s5, s6, .val (.int x)] st h = E_ d mX0_rests 68 [s0, s1, s2, s3, s4, s5, s6, .val (.int x)] (.int x :: st) h := e_go dX0_rests_66 rfl rfl
theorem wX0_rests_68 : E_ d mX0_rests 68 [s0, s1, .val (.int x), s3, s4, s5, s6, s7] st h = E_ d mX0_rests 69 [s0, s1, .val (.int x), s3, s4, s5, s6, s7] (.int x :: st) h := e_go dX0_rests_68 rfl rfl
theorem wX0_rests_69 : E_ d mX0_rests 69 ls (.int y :: .int x :: st) h = if y < x then E_ d mX0_rests 131 ls st h else E_ d mX0_rests 72 ls st h := e_igt dX0_rests_69 rfl rfl
theorem wX0_rests_72 : E_ d mX0_rests 72 [.val (.ref a), s1, s2, s3, s4, s5, s6, s7] st h = E_ d mX0_rests 73 [.val (.ref a), s1, s2, s3, s4, s5, s6, s7] (.ref a :: st) h := e_go dX0_rests_72 rfl rfl
theorem wX0_rests_73 : E_ d mX0_rests 73 ls st h = E_ d mX0_rests 74 ls (.int (nI 0) :: st) h := e_iconst dX0_rests_73 kiconst_0 rfl
theorem wX0_rests_74 : E_ d mX0_rests 74 [s0, s1, s2, s3, s4, s5, .val (.int x), s7] st h = E_ d mX0_rests 76 [s0, s1, s2, s3, s4, s5, .val (.int x), s7] (.int x :: st) h := e_go dX0_rests_74 rfl rfl
theorem wX0_rests_76 : E_ d mX0_rests 76 [s0, .val (.int x), s2, s3, s4, s5, s6, s7] st h = E_ d mX0_rests 77 [s0, .val (.int x), s2, s3, s4, s5, s6, s7] (.int x :: st) h := e_go dX0_rests_76 rfl rfl
theorem wX0_rests_77 : E_ d mX0_rests 77 [s0, s1, s2, s3, s4, s5, s6, .val (.int x)] st h = E_ d mX0_rests 79 [s0, s1, s2, s3, s4, s5, s6, .val (.int x)] (.int x :: st) h := e_go dX0_rests_77 rfl rfl
theorem wX0_rests_79 (ht : oT h a = 1) : E_ (d + 1) mX0_rests 79 ls [.int x4, .int x3, .int x2, .int x1, .ref a] h = (C_ d mX0_isContent [.ref a, .int x1, .int x2, .int x3, .int x4] h).bind fun r => E_ (d + 1) mX0_rests 82 ls (xpu r.1 []) r.2 := e_vir dX0_rests_79 rfl rfl rfl rfl rfl rfl (Nat.le_of_ble_eq_true rfl) (Nat.le_of_ble_eq_true rfl) ht
theorem wX0_rests_82 : E_ d mX0_rests 82 ls (.int x :: st) h = if x = 0 then E_ d mX0_rests 125 ls st h else E_ d mX0_rests 85 ls st h := e_zeq dX0_rests_82 rfl rfl
theorem wX0_rests_85 : E_ d mX0_rests 85 [.val (.ref a), s1, s2, s3, s4, s5, s6, s7] st h = E_ d mX0_rests 86 [.val (.ref a), s1, s2, s3, s4, s5, s6, s7] (.ref a :: st) h := e_go dX0_rests_85 rfl rfl
theorem wX0_rests_86 : E_ d mX0_rests 86 ls st h = E_ d mX0_rests 87 ls (.int (nI 1) :: st) h := e_iconst dX0_rests_86 kiconst_1 rfl
theorem wX0_rests_87 : E_ d mX0_rests 87 [s0, s1, s2, s3, s4, s5, s6, .val (.int x)] st h = E_ d mX0_rests 89 [s0, s1, s2, s3, s4, s5, s6, .val (.int x)] (.int x :: st) h := e_go dX0_rests_87 rfl rfl
theorem wX0_rests_89 : E_ d mX0_rests 89 [s0, s1, .val (.int x), s3, s4, s5, s6, s7] st h = E_ d mX0_rests 90 [s0, s1, .val (.int x), s3, s4, s5, s6, s7] (.int x :: st) h := e_go dX0_rests_89 rfl rfl
theorem wX0_rests_90 : E_ d mX0_rests 90 [s0, s1, s2, s3, s4, s5, .val (.int x), s7] st h = E_ d mX0_rests 92 [s0, s1, s2, s3, s4, s5, .val (.int x), s7] (.int x :: st) h := e_go dX0_rests_90 rfl rfl
theorem wX0_rests_92 (ht : oT h a = 1) : E_ (d + 1) mX0_rests 92 ls [.int x4, .int x3, .int x2, .int x1, .ref a] h = (C_ d mX0_isContent [.ref a, .int x1, .int x2, .int x3, .int x4] h).bind fun r => E_ (d + 1) mX0_rests 95 ls (xpu r.1 []) r.2 := e_vir dX0_rests_92 rfl rfl rfl rfl rfl rfl (Nat.le_of_ble_eq_true rfl) (Nat.le_of_ble_eq_true rfl) ht
theorem wX0_rests_95 : E_ d mX0_rests 95 ls (.int x :: st) h = if x = 0 then E_ d mX0_rests 98 ls st h else E_ d mX0_rests 101 ls st h := e_zne dX0_rests_95 rfl rfl
theorem wX0_rests_98 : E_ d mX0_rests 98 ls st h = E_ d mX0_rests 125 ls st h := e_gt dX0_rests_98 rfl
theorem wX0_rests_101 : E_ d mX0_rests 101 [s0, s1, s2, s3, .val (.int x), s5, s6, s7] st h = E_ d mX0_rests 104 [s0, s1, s2, xk s3, .val (.int (x + nI 1)), s5, s6, s7] st h := by rw [← kiinc_1]; exact e_go dX0_rests_101 rfl rfl
theorem wX0_rests_104 : E_ d mX0_rests 104 [s0, s1, s2, s3, s4, .val (.int x), s6, s7] st h = E_ d mX0_rests 106 [s0, s1, s2, s3, s4, .val (.int x), s6, s7] (.int x :: st) h := e_go dX0_rests_104 rfl rfl
theorem wX0_rests_106 : E_ d mX0_rests 106 ls st h = E_ d mX0_rests 107 ls (.int ((-1)) :: st) h := e_iconst dX0_rests_106 kiconst_m1 rfl
theorem wX0_rests_107 : E_ d mX0_rests 107 ls (.int y :: .int x :: st) h = if x = y then E_ d mX0_rests 110 ls st h else E_ d mX0_rests 121 ls st h := e_ine dX0_rests_107 rfl rfl
theorem wX0_rests_110 : E_ d mX0_rests 110 ls st h = E_ d mX0_rests 112 ls (.int (nI 10) :: st) h := e_bipush dX0_rests_110 kbipush_10 rfl
theorem wX0_rests_112 : E_ d mX0_rests 112 [s0, s1, s2, s3, s4, s5, .val (.int x), s7] st h = E_ d mX0_rests 114 [s0, s1, s2, s3, s4, s5, .val (.int x), s7] (.int x :: st) h := e_go dX0_rests_112 rfl rfl
theorem wX0_rests_114 : E_ d mX0_rests 114 ls (.int y :: .int x :: st) h = E_ d mX0_rests 115 ls (.int (x * y) :: st) h := e_go dX0_rests_114 rfl rfl
theorem wX0_rests_115 : E_ d mX0_rests 115 [s0, s1, s2, s3, s4, s5, s6, .val (.int x)] st h = E_ d mX0_rests 117 [s0, s1, s2, s3, s4, s5, s6, .val (.int x)] (.int x :: st) h := e_go dX0_rests_115 rfl rfl
theorem wX0_rests_117 : E_ d mX0_rests 117 ls (.int y :: .int x :: st) h = E_ d mX0_rests 118 ls (.int (x + y) :: st) h := e_go dX0_rests_117 rfl rfl
theorem wX0_rests_118 : E_ d mX0_rests 118 ls st h = E_ d mX0_rests 123 ls st h := e_gt dX0_rests_118 rfl
theorem wX0_rests_121 : E_ d mX0_rests 121 [s0, s1, s2, s3, s4, .val (.int x), s6, s7] st h = E_ d mX0_rests 123 [s0, s1, s2, s3, s4, .val (.int x), s6, s7] (.int x :: st) h := e_go dX0_rests_121 rfl rfl
theorem wX0_rests_123 : E_ d mX0_rests 123 [s0, s1, s2, s3, s4, s5, s6, s7] (.int x :: st) h = E_ d mX0_rests 125 [s0, s1, s2, s3, xk s4, .val (.int x), s6, s7] st h := e_go dX0_rests_123 rfl rfl
theorem wX0_rests_125 : E_ d mX0_rests 125 [s0, s1, s2, s3, s4, s5, s6, .val (.int x)] st h = E_ d mX0_rests 128 [s0, s1, s2, s3, s4, s5, xk s6, .val (.int (x + nI 1))] st h := by rw [← kiinc_1]; exact e_go dX0_rests_125 rfl rfl
theorem wX0_rests_128 : E_ d mX0_rests 128 ls st h = E_ d mX0_rests 66 ls st h := e_gt dX0_rests_128 rfl
theorem wX0_rests_131 : E_ d mX0_rests 131 [s0, s1, s2, s3, s4, s5, .val (.int x), s7] st h = E_ d mX0_rests 134 [s0, s1, s2, s3, s4, xk s5, .val (.int (x + nI 1)), s7] st h := by rw [← kiinc_1]; exact e_go dX0_rests_131 rfl rfl
theorem wX0_rests_134 : E_ d mX0_rests 134 ls st h = E_ d mX0_rests 57 ls st h := e_gt dX0_rests_134 rfl
theorem wX0_rests_137 : E_ d mX0_rests 137 [s0, s1, s2, .val (.int x), s4, s5, s6, s7] st h = E_ d mX0_rests 138 [s0, s1, s2, .val (.int x), s4, s5, s6, s7] (.int x :: st) h := e_go dX0_rests_137 rfl rfl
theorem wX0_rests_138 : E_ d mX0_rests 138 ls (.int x :: st) h = if x = 0 then E_ d mX0_rests 141 ls st h else E_ d mX0_rests 146 ls st h := e_zne dX0_rests_138 rfl rfl
theorem wX0_rests_141 : E_ d mX0_rests 141 [s0, s1, s2, s3, .val (.int x), s5, s6, s7] st h = E_ d mX0_rests 143 [s0, s1, s2, s3, .val (.int x), s5, s6, s7] (.int x :: st) h := e_go dX0_rests_141 rfl rfl
theorem wX0_rests_143 : E_ d mX0_rests 143 ls st h = E_ d mX0_rests 148 ls st h := e_gt dX0_rests_143 rfl
theorem wX0_rests_146 : E_ d mX0_rests 146 [s0, s1, s2, s3, s4, .val (.int x), s6, s7] st h = E_ d mX0_rests 148 [s0, s1, s2, s3, s4, .val (.int x), s6, s7] (.int x :: st) h := e_go dX0_rests_146 rfl rfl
theorem wX0_rests_148 : E_ d mX0_rests 148 ls [.int x] h = some (some (.int x), h) := e_rt dX0_rests_148 rfl rfl
/-! FootOut.isContent -/
theorem wX0_isContent_0 : E_ d mX0_isContent 0 [.val (.ref a), s1, s2, s3, s4, s5, s6] st h = E_ d mX0_isContent 1 [.val (.ref a), s1, s2, s3, s4, s5, s6] (.ref a :: st) h := e_go dX0_isContent_0 rfl rfl
theorem wX0_isContent_1 (ht : oT h a = 1) : E_ d mX0_isContent 1 ls (.ref a :: st) h = E_ d mX0_isContent 4 ls (va_rf (oR h a 0) :: st) h := e_getR dX0_isContent_1 rfl rfl ht
theorem wX0_isContent_4 (ht : oT h a = 2) : E_ d mX0_isContent 4 ls (.ref a :: st) h = E_ d mX0_isContent 7 ls (va_rf (oR h a 5) :: st) h := e_getR0 dX0_isContent_4 rfl rfl ht
theorem wX0_isContent_7 : E_ d mX0_isContent 7 [s0, .val (.int x), s2, s3, s4, s5, s6] st h = E_ d mX0_isContent 8 [s0, .val (.int x), s2, s3, s4, s5, s6] (.int x :: st) h := e_go dX0_isContent_7 rfl rfl
theorem wX0_isContent_8 : E_ d mX0_isContent 8 ls st h = E_ d mX0_isContent 9 ls (.int (nI 1) :: st) h := e_iconst dX0_isContent_8 kiconst_1 rfl
theorem wX0_isContent_9 : E_ d mX0_isContent 9 [s0, s1, s2, s3, .val (.int x), s5, s6] st h = E_ d mX0_isContent 11 [s0, s1, s2, s3, .val (.int x), s5, s6] (.int x :: st) h := e_go dX0_isContent_9 rfl rfl
theorem wX0_isContent_11 : E_ (d + 1) mX0_isContent 11 ls [.int x3, .int x2, .int x1, .ref r1] h = (C_ d mX0_payAt [.int x1, .int x2, .int x3] h).bind fun r => E_ (d + 1) mX0_isContent 14 ls (xpu r.1 [.ref r1]) r.2 := e_call dX0_isContent_11 rfl rfl
theorem wX0_isContent_14 (ht : oT h a = 40) (hi : xix x (oN h a) = true) : E_ d mX0_isContent 14 ls (.int x :: .ref a :: st) h = E_ d mX0_isContent 15 ls (.int (oI h a x.toNatClampNeg) :: st) h := e_iald dX0_isContent_14 rfl ht hi
theorem wX0_isContent_15 : E_ d mX0_isContent 15 [s0, s1, s2, s3, s4, s5, s6] (.int x :: st) h = E_ d mX0_isContent 17 [s0, s1, s2, s3, xk s4, .val (.int x), s6] st h := e_go dX0_isContent_15 rfl rfl
theorem wX0_isContent_17 : E_ d mX0_isContent 17 [.val (.ref a), s1, s2, s3, s4, s5, s6] st h = E_ d mX0_isContent 18 [.val (.ref a), s1, s2, s3, s4, s5, s6] (.ref a :: st) h := e_go dX0_isContent_17 rfl rfl
theorem wX0_isContent_18 (ht : oT h a = 1) : E_ d mX0_isContent 18 ls (.ref a :: st) h = E_ d mX0_isContent 21 ls (va_rf (oR h a 0) :: st) h := e_getR dX0_isContent_18 rfl rfl ht
theorem wX0_isContent_21 (ht : oT h a = 2) : E_ d mX0_isContent 21 ls (.ref a :: st) h = E_ d mX0_isContent 24 ls (va_rf (oR h a 5) :: st) h := e_getR0 dX0_isContent_21 rfl rfl ht
theorem wX0_isContent_24 : E_ d mX0_isContent 24 [s0, .val (.int x), s2, s3, s4, s5, s6] st h = E_ d mX0_isContent 25 [s0, .val (.int x), s2, s3, s4, s5, s6] (.int x :: st) h := e_go dX0_isContent_24 rfl rfl
theorem wX0_isContent_25 : E_ d mX0_isContent 25 ls st h = E_ d mX0_isContent 26 ls (.int (nI 0) :: st) h := e_iconst dX0_isContent_25 kiconst_0 rfl
theorem wX0_isContent_26 : E_ d mX0_isContent 26 [s0, s1, s2, s3, .val (.int x), s5, s6] st h = E_ d mX0_isContent 28 [s0, s1, s2, s3, .val (.int x), s5, s6] (.int x :: st) h := e_go dX0_isContent_26 rfl rfl
theorem wX0_isContent_28 : E_ (d + 1) mX0_isContent 28 ls [.int x3, .int x2, .int x1, .ref r1] h = (C_ d mX0_payAt [.int x1, .int x2, .int x3] h).bind fun r => E_ (d + 1) mX0_isContent 31 ls (xpu r.1 [.ref r1]) r.2 := e_call dX0_isContent_28 rfl rfl
theorem wX0_isContent_31 (ht : oT h a = 40) (hi : xix x (oN h a) = true) : E_ d mX0_isContent 31 ls (.int x :: .ref a :: st) h = E_ d mX0_isContent 32 ls (.int (oI h a x.toNatClampNeg) :: st) h := e_iald dX0_isContent_31 rfl ht hi
theorem wX0_isContent_32 : E_ d mX0_isContent 32 [s0, s1, s2, s3, s4, s5, s6] (.int x :: st) h = E_ d mX0_isContent 34 [s0, s1, s2, s3, s4, xk s5, .val (.int x)] st h := e_go dX0_isContent_32 rfl rfl
theorem wX0_isContent_34 : E_ d mX0_isContent 34 [s0, s1, .val (.int x), s3, s4, s5, s6] st h = E_ d mX0_isContent 35 [s0, s1, .val (.int x), s3, s4, s5, s6] (.int x :: st) h := e_go dX0_isContent_34 rfl rfl
theorem wX0_isContent_35 : E_ d mX0_isContent 35 ls (.int x :: st) h = if x = 0 then E_ d mX0_isContent 45 ls st h else E_ d mX0_isContent 38 ls st h := e_zeq dX0_isContent_35 rfl rfl
theorem wX0_isContent_38 : E_ d mX0_isContent 38 [s0, s1, s2, s3, s4, .val (.int x), s6] st h = E_ d mX0_isContent 40 [s0, s1, s2, s3, s4, .val (.int x), s6] (.int x :: st) h := e_go dX0_isContent_38 rfl rfl
theorem wX0_isContent_40 : E_ d mX0_isContent 40 [s0, s1, s2, s3, s4, s5, .val (.int x)] st h = E_ d mX0_isContent 42 [s0, s1, s2, s3, s4, s5, .val (.int x)] (.int x :: st) h := e_go dX0_isContent_40 rfl rfl
theorem wX0_isContent_42 : E_ d mX0_isContent 42 ls (.int y :: .int x :: st) h = if x < y then E_ d mX0_isContent 61 ls st h else E_ d mX0_isContent 45 ls st h := e_ilt dX0_isContent_42 rfl rfl
theorem wX0_isContent_45 : E_ d mX0_isContent 45 [s0, s1, .val (.int x), s3, s4, s5, s6] st h = E_ d mX0_isContent 46 [s0, s1, .val (.int x), s3, s4, s5, s6] (.int x :: st) h := e_go dX0_isContent_45 rfl rfl
theorem wX0_isContent_46 : E_ d mX0_isContent 46 [s0, s1, s2, .val (.int x), s4, s5, s6] st h = E_ d mX0_isContent 47 [s0, s1, s2, .val (.int x), s4, s5, s6] (.int x :: st) h := e_go dX0_isContent_46 rfl rfl
theorem wX0_isContent_47 : E_ d mX0_isContent 47 ls (.int y :: .int x :: st) h = if x = y then E_ d mX0_isContent 57 ls st h else E_ d mX0_isContent 50 ls st h := e_ieq dX0_isContent_47 rfl rfl
theorem wX0_isContent_50 : E_ d mX0_isContent 50 [s0, s1, s2, s3, s4, s5, .val (.int x)] st h = E_ d mX0_isContent 52 [s0, s1, s2, s3, s4, s5, .val (.int x)] (.int x :: st) h := e_go dX0_isContent_50 rfl rfl
theorem wX0_isContent_52 : E_ d mX0_isContent 52 [s0, s1, s2, s3, s4, .val (.int x), s6] st h = E_ d mX0_isContent 54 [s0, s1, s2, s3, s4, .val (.int x), s6] (.int x :: st) h := e_go dX0_isContent_52 rfl rfl
theorem wX0_isContent_54 : E_ d mX0_isContent 54 ls (.int y :: .int x :: st) h = if x < y then E_ d mX0_isContent 61 ls st h else E_ d mX0_isContent 57 ls st h := e_ilt dX0_isContent_54 rfl rfl
theorem wX0_isContent_57 : E_ d mX0_isContent 57 ls st h = E_ d mX0_isContent 58 ls (.int (nI 1) :: st) h := e_iconst dX0_isContent_57 kiconst_1 rfl
theorem wX0_isContent_58 : E_ d mX0_isContent 58 ls st h = E_ d mX0_isContent 62 ls st h := e_gt dX0_isContent_58 rfl
theorem wX0_isContent_61 : E_ d mX0_isContent 61 ls st h = E_ d mX0_isContent 62 ls (.int (nI 0) :: st) h := e_iconst dX0_isContent_61 kiconst_0 rfl
theorem wX0_isContent_62 (hx : x = 0 ∨ x = 1) : E_ d mX0_isContent 62 ls [.int x] h = some (some (.int x), h) := e_rtZ dX0_isContent_62 rfl hx
/-! FootOut.thanks -/
theorem wX0_thanks_0 : E_ d mX0_thanks 0 [s0, .val (.int x), s2, s3, s4, s5, s6, s7, s8] st h = E_ d mX0_thanks 1 [s0, .val (.int x), s2, s3, s4, s5, s6, s7, s8] (.int x :: st) h := e_go dX0_thanks_0 rfl rfl
theorem wX0_thanks_1 : E_ d mX0_thanks 1 ls (.int x :: st) h = E_ d mX0_thanks 2 ls (.long x.toInt64 :: st) h := e_go dX0_thanks_1 rfl rfl
theorem wX0_thanks_2 : E_ d mX0_thanks 2 ls st h = E_ d mX0_thanks 3 ls (.long 0 :: st) h := e_go dX0_thanks_2 rfl rfl
theorem wX0_thanks_3 : E_ d mX0_thanks 3 ls st h = E_ d mX0_thanks 6 ls (.long (1000000) :: st) h := e_go dX0_thanks_3 rfl rfl
theorem wX0_thanks_6 : E_ (d + 1) mX0_thanks 6 ls [.long u3, .long u2, .long u1] h = (C_ d mX0_in [.long u1, .long u2, .long u3] h).bind fun r => E_ (d + 1) mX0_thanks 9 ls (xpu r.1 []) r.2 := e_call dX0_thanks_6 rfl rfl
theorem wX0_thanks_9 : E_ d mX0_thanks 9 ls (.int x :: st) h = if x = 0 then E_ d mX0_thanks 62 ls st h else E_ d mX0_thanks 12 ls st h := e_zeq dX0_thanks_9 rfl rfl
theorem wX0_thanks_12 : E_ d mX0_thanks 12 [s0, s1, .val (.int x), s3, s4, s5, s6, s7, s8] st h = E_ d mX0_thanks 13 [s0, s1, .val (.int x), s3, s4, s5, s6, s7, s8] (.int x :: st) h := e_go dX0_thanks_12 rfl rfl
theorem wX0_thanks_13 : E_ d mX0_thanks 13 ls (.int x :: st) h = E_ d mX0_thanks 14 ls (.long x.toInt64 :: st) h := e_go dX0_thanks_13 rfl rfl
theorem wX0_thanks_14 : E_ d mX0_thanks 14 ls st h = E_ d mX0_thanks 15 ls (.long 0 :: st) h := e_go dX0_thanks_14 rfl rfl
theorem wX0_thanks_15 : E_ d mX0_thanks 15 ls st h = E_ d mX0_thanks 18 ls (.long (100) :: st) h := e_go dX0_thanks_15 rfl rfl
theorem wX0_thanks_18 : E_ (d + 1) mX0_thanks 18 ls [.long u3, .long u2, .long u1] h = (C_ d mX0_in [.long u1, .long u2, .long u3] h).bind fun r => E_ (d + 1) mX0_thanks 21 ls (xpu r.1 []) r.2 := e_call dX0_thanks_18 rfl rfl
theorem wX0_thanks_21 : E_ d mX0_thanks 21 ls (.int x :: st) h = if x = 0 then E_ d mX0_thanks 62 ls st h else E_ d mX0_thanks 24 ls st h := e_zeq dX0_thanks_21 rfl rfl
theorem wX0_thanks_24 : E_ d mX0_thanks 24 [s0, s1, s2, .val (.int x), s4, s5, s6, s7, s8] st h = E_ d mX0_thanks 25 [s0, s1, s2, .val (.int x), s4, s5, s6, s7, s8] (.int x :: st) h := e_go dX0_thanks_24 rfl rfl
theorem wX0_thanks_25 : E_ d mX0_thanks 25 ls (.int x :: st) h = E_ d mX0_thanks 26 ls (.long x.toInt64 :: st) h := e_go dX0_thanks_25 rfl rfl
theorem wX0_thanks_26 : E_ d mX0_thanks 26 ls st h = E_ d mX0_thanks 27 ls (.long 0 :: st) h := e_go dX0_thanks_26 rfl rfl
theorem wX0_thanks_27 : E_ d mX0_thanks 27 ls st h = E_ d mX0_thanks 30 ls (.long (100) :: st) h := e_go dX0_thanks_27 rfl rfl
theorem wX0_thanks_30 : E_ (d + 1) mX0_thanks 30 ls [.long u3, .long u2, .long u1] h = (C_ d mX0_in [.long u1, .long u2, .long u3] h).bind fun r => E_ (d + 1) mX0_thanks 33 ls (xpu r.1 []) r.2 := e_call dX0_thanks_30 rfl rfl
theorem wX0_thanks_33 : E_ d mX0_thanks 33 ls (.int x :: st) h = if x = 0 then E_ d mX0_thanks 62 ls st h else E_ d mX0_thanks 36 ls st h := e_zeq dX0_thanks_33 rfl rfl
theorem wX0_thanks_36 : E_ d mX0_thanks 36 [s0, s1, s2, s3, .val (.int x), s5, s6, s7, s8] st h = E_ d mX0_thanks 38 [s0, s1, s2, s3, .val (.int x), s5, s6, s7, s8] (.int x :: st) h := e_go dX0_thanks_36 rfl rfl
theorem wX0_thanks_38 : E_ d mX0_thanks 38 ls (.int x :: st) h = E_ d mX0_thanks 39 ls (.long x.toInt64 :: st) h := e_go dX0_thanks_38 rfl rfl
theorem wX0_thanks_39 : E_ d mX0_thanks 39 ls st h = E_ d mX0_thanks 40 ls (.long 0 :: st) h := e_go dX0_thanks_39 rfl rfl
theorem wX0_thanks_40 : E_ d mX0_thanks 40 ls st h = E_ d mX0_thanks 43 ls (.long (100) :: st) h := e_go dX0_thanks_40 rfl rfl
theorem wX0_thanks_43 : E_ (d + 1) mX0_thanks 43 ls [.long u3, .long u2, .long u1] h = (C_ d mX0_in [.long u1, .long u2, .long u3] h).bind fun r => E_ (d + 1) mX0_thanks 46 ls (xpu r.1 []) r.2 := e_call dX0_thanks_43 rfl rfl
theorem wX0_thanks_46 : E_ d mX0_thanks 46 ls (.int x :: st) h = if x = 0 then E_ d mX0_thanks 62 ls st h else E_ d mX0_thanks 49 ls st h := e_zeq dX0_thanks_46 rfl rfl
theorem wX0_thanks_49 : E_ d mX0_thanks 49 [s0, s1, s2, s3, s4, .val (.int x), s6, s7, s8] st h = E_ d mX0_thanks 51 [s0, s1, s2, s3, s4, .val (.int x), s6, s7, s8] (.int x :: st) h := e_go dX0_thanks_49 rfl rfl
theorem wX0_thanks_51 : E_ d mX0_thanks 51 ls (.int x :: st) h = E_ d mX0_thanks 52 ls (.long x.toInt64 :: st) h := e_go dX0_thanks_51 rfl rfl
theorem wX0_thanks_52 : E_ d mX0_thanks 52 ls st h = E_ d mX0_thanks 53 ls (.long 0 :: st) h := e_go dX0_thanks_52 rfl rfl
theorem wX0_thanks_53 : E_ d mX0_thanks 53 ls st h = E_ d mX0_thanks 56 ls (.long (99) :: st) h := e_go dX0_thanks_53 rfl rfl
theorem wX0_thanks_56 : E_ (d + 1) mX0_thanks 56 ls [.long u3, .long u2, .long u1] h = (C_ d mX0_in [.long u1, .long u2, .long u3] h).bind fun r => E_ (d + 1) mX0_thanks 59 ls (xpu r.1 []) r.2 := e_call dX0_thanks_56 rfl rfl
theorem wX0_thanks_59 : E_ d mX0_thanks 59 ls (.int x :: st) h = if x = 0 then E_ d mX0_thanks 62 ls st h else E_ d mX0_thanks 69 ls st h := e_zne dX0_thanks_59 rfl rfl
theorem wX0_thanks_62 : E_ d mX0_thanks 62 [.val (.ref a), s1, s2, s3, s4, s5, s6, s7, s8] st h = E_ d mX0_thanks 63 [.val (.ref a), s1, s2, s3, s4, s5, s6, s7, s8] (.ref a :: st) h := e_go dX0_thanks_62 rfl rfl
theorem wX0_thanks_63 : E_ d mX0_thanks 63 ls st h = E_ d mX0_thanks 65 ls (.int ((-3)) :: st) h := e_bipush dX0_thanks_63 kbipush_m3 rfl
theorem wX0_thanks_65 (ht : oT h a = 1) : E_ (d + 1) mX0_thanks 65 ls [.int x1, .ref a] h = (C_ d mX0_no [.ref a, .int x1] h).bind fun r => E_ (d + 1) mX0_thanks 68 ls (xpu r.1 []) r.2 := e_vir dX0_thanks_65 rfl rfl rfl rfl rfl rfl (Nat.le_of_ble_eq_true rfl) (Nat.le_of_ble_eq_true rfl) ht
theorem wX0_thanks_68 : E_ d mX0_thanks 68 ls [.int x] h = some (some (.int x), h) := e_rt dX0_thanks_68 rfl rfl
theorem wX0_thanks_69 : E_ d mX0_thanks 69 [s0, .val (.int x), s2, s3, s4, s5, s6, s7, s8] st h = E_ d mX0_thanks 70 [s0, .val (.int x), s2, s3, s4, s5, s6, s7, s8] (.int x :: st) h := e_go dX0_thanks_69 rfl rfl
theorem wX0_thanks_70 : E_ d mX0_thanks 70 ls (.int x :: st) h = E_ d mX0_thanks 71 ls (.long x.toInt64 :: st) h := e_go dX0_thanks_70 rfl rfl
theorem wX0_thanks_71 : E_ d mX0_thanks 71 [s0, s1, s2, s3, s4, s5, s6, s7, s8] (.long u :: st) h = E_ d mX0_thanks 73 [s0, s1, s2, s3, s4, xk s5, .val (.long u), .unset, s8] st h := e_go dX0_thanks_71 rfl rfl
theorem wX0_thanks_73 : E_ d mX0_thanks 73 ls st h = E_ d mX0_thanks 74 ls (.int (nI 0) :: st) h := e_iconst dX0_thanks_73 kiconst_0 rfl
theorem wX0_thanks_74 : E_ d mX0_thanks 74 [s0, s1, s2, s3, s4, s5, s6, s7, s8] (.int x :: st) h = E_ d mX0_thanks 76 [s0, s1, s2, s3, s4, s5, s6, xk s7, .val (.int x)] st h := e_go dX0_thanks_74 rfl rfl
theorem wX0_thanks_76 : E_ d mX0_thanks 76 [s0, s1, s2, s3, s4, s5, s6, s7, .val (.int x)] st h = E_ d mX0_thanks 78 [s0, s1, s2, s3, s4, s5, s6, s7, .val (.int x)] (.int x :: st) h := e_go dX0_thanks_76 rfl rfl
theorem wX0_thanks_78 : E_ d mX0_thanks 78 [s0, s1, s2, s3, s4, .val (.int x), s6, s7, s8] st h = E_ d mX0_thanks 80 [s0, s1, s2, s3, s4, .val (.int x), s6, s7, s8] (.int x :: st) h := e_go dX0_thanks_78 rfl rfl
theorem wX0_thanks_80 : E_ d mX0_thanks 80 ls (.int y :: .int x :: st) h = if x < y then E_ d mX0_thanks 83 ls st h else E_ d mX0_thanks 117 ls st h := e_ige dX0_thanks_80 rfl rfl
theorem wX0_thanks_83 : E_ d mX0_thanks 83 [s0, s1, s2, s3, s4, s5, .val (.long u), s7, s8] st h = E_ d mX0_thanks 85 [s0, s1, s2, s3, s4, s5, .val (.long u), s7, s8] (.long u :: st) h := e_go dX0_thanks_83 rfl rfl
theorem wX0_thanks_85 : E_ d mX0_thanks 85 [s0, s1, .val (.int x), s3, s4, s5, s6, s7, s8] st h = E_ d mX0_thanks 86 [s0, s1, .val (.int x), s3, s4, s5, s6, s7, s8] (.int x :: st) h := e_go dX0_thanks_85 rfl rfl
theorem wX0_thanks_86 : E_ d mX0_thanks 86 ls (.int x :: st) h = E_ d mX0_thanks 87 ls (.long x.toInt64 :: st) h := e_go dX0_thanks_86 rfl rfl
theorem wX0_thanks_87 : E_ d mX0_thanks 87 ls (.long v :: .long u :: st) h = E_ d mX0_thanks 88 ls (.long (u * v) :: st) h := e_go dX0_thanks_87 rfl rfl
theorem wX0_thanks_88 : E_ d mX0_thanks 88 [s0, s1, s2, .val (.int x), s4, s5, s6, s7, s8] st h = E_ d mX0_thanks 89 [s0, s1, s2, .val (.int x), s4, s5, s6, s7, s8] (.int x :: st) h := e_go dX0_thanks_88 rfl rfl
theorem wX0_thanks_89 : E_ d mX0_thanks 89 ls (.int x :: st) h = E_ d mX0_thanks 90 ls (.long x.toInt64 :: st) h := e_go dX0_thanks_89 rfl rfl
theorem wX0_thanks_90 : E_ d mX0_thanks 90 ls (.long v :: .long u :: st) h = E_ d mX0_thanks 91 ls (.long (u * v) :: st) h := e_go dX0_thanks_90 rfl rfl
theorem wX0_thanks_91 : E_ d mX0_thanks 91 ls st h = E_ d mX0_thanks 94 ls (.long (100000000) :: st) h := e_go dX0_thanks_91 rfl rfl
theorem wX0_thanks_94 : E_ d mX0_thanks 94 [s0, s1, s2, s3, s4, s5, .val (.long u), s7, s8] st h = E_ d mX0_thanks 96 [s0, s1, s2, s3, s4, s5, .val (.long u), s7, s8] (.long u :: st) h := e_go dX0_thanks_94 rfl rfl
theorem wX0_thanks_96 : E_ d mX0_thanks 96 [s0, s1, .val (.int x), s3, s4, s5, s6, s7, s8] st h = E_ d mX0_thanks 97 [s0, s1, .val (.int x), s3, s4, s5, s6, s7, s8] (.int x :: st) h := e_go dX0_thanks_96 rfl rfl
theorem wX0_thanks_97 : E_ d mX0_thanks 97 ls (.int x :: st) h = E_ d mX0_thanks 98 ls (.long x.toInt64 :: st) h := e_go dX0_thanks_97 rfl rfl
theorem wX0_thanks_98 : E_ d mX0_thanks 98 ls (.long v :: .long u :: st) h = E_ d mX0_thanks 99 ls (.long (u * v) :: st) h := e_go dX0_thanks_98 rfl rfl
theorem wX0_thanks_99 : E_ d mX0_thanks 99 ls (.long v :: .long u :: st) h = E_ d mX0_thanks 100 ls (.long (u - v) :: st) h := e_go dX0_thanks_99 rfl rfl
theorem wX0_thanks_100 : E_ d mX0_thanks 100 [s0, s1, s2, s3, .val (.int x), s5, s6, s7, s8] st h = E_ d mX0_thanks 102 [s0, s1, s2, s3, .val (.int x), s5, s6, s7, s8] (.int x :: st) h := e_go dX0_thanks_100 rfl rfl
theorem wX0_thanks_102 : E_ d mX0_thanks 102 ls (.int x :: st) h = E_ d mX0_thanks 103 ls (.long x.toInt64 :: st) h := e_go dX0_thanks_102 rfl rfl
theorem wX0_thanks_103 : E_ d mX0_thanks 103 ls (.long v :: .long u :: st) h = E_ d mX0_thanks 104 ls (.long (u * v) :: st) h := e_go dX0_thanks_103 rfl rfl
theorem wX0_thanks_104 : E_ d mX0_thanks 104 ls (.long v :: .long u :: st) h = E_ d mX0_thanks 105 ls (.long (u + v) :: st) h := e_go dX0_thanks_104 rfl rfl
theorem wX0_thanks_105 : E_ d mX0_thanks 105 ls st h = E_ d mX0_thanks 108 ls (.long (10000) :: st) h := e_go dX0_thanks_105 rfl rfl
theorem wX0_thanks_108 (hy : ¬ v = 0) : E_ d mX0_thanks 108 ls (.long v :: .long u :: st) h = E_ d mX0_thanks 109 ls (.long (u / v) :: st) h := e_ldiv dX0_thanks_108 rfl hy
theorem wX0_thanks_109 : E_ d mX0_thanks 109 [s0, s1, s2, s3, s4, s5, s6, s7, s8] (.long u :: st) h = E_ d mX0_thanks 111 [s0, s1, s2, s3, s4, xk s5, .val (.long u), .unset, s8] st h := e_go dX0_thanks_109 rfl rfl
theorem wX0_thanks_111 : E_ d mX0_thanks 111 [s0, s1, s2, s3, s4, s5, s6, s7, .val (.int x)] st h = E_ d mX0_thanks 114 [s0, s1, s2, s3, s4, s5, s6, xk s7, .val (.int (x + nI 1))] st h := by rw [← kiinc_1]; exact e_go dX0_thanks_111 rfl rfl
theorem wX0_thanks_114 : E_ d mX0_thanks 114 ls st h = E_ d mX0_thanks 76 ls st h := e_gt dX0_thanks_114 rfl
theorem wX0_thanks_117 : E_ d mX0_thanks 117 [s0, s1, s2, s3, s4, s5, .val (.long u), s7, s8] st h = E_ d mX0_thanks 119 [s0, s1, s2, s3, s4, s5, .val (.long u), s7, s8] (.long u :: st) h := e_go dX0_thanks_117 rfl rfl
theorem wX0_thanks_119 : E_ d mX0_thanks 119 ls (.long u :: st) h = E_ d mX0_thanks 120 ls (.int u.toInt32 :: st) h := e_go dX0_thanks_119 rfl rfl
theorem wX0_thanks_120 : E_ d mX0_thanks 120 ls [.int x] h = some (some (.int x), h) := e_rt dX0_thanks_120 rfl rfl
/-! FootOut.filled -/
theorem wX0_filled_0 : E_ d mX0_filled 0 [s0, .val (.int x), s2, s3] st h = E_ d mX0_filled 1 [s0, .val (.int x), s2, s3] (.int x :: st) h := e_go dX0_filled_0 rfl rfl
theorem wX0_filled_1 : E_ (d + 1) mX0_filled 1 ls [.int x1] h = (C_ d mX0_isRow [.int x1] h).bind fun r => E_ (d + 1) mX0_filled 4 ls (xpu r.1 []) r.2 := e_call dX0_filled_1 rfl rfl
theorem wX0_filled_4 : E_ d mX0_filled 4 ls (.int x :: st) h = if x = 0 then E_ d mX0_filled 7 ls st h else E_ d mX0_filled 14 ls st h := e_zne dX0_filled_4 rfl rfl
theorem wX0_filled_7 : E_ d mX0_filled 7 [.val (.ref a), s1, s2, s3] st h = E_ d mX0_filled 8 [.val (.ref a), s1, s2, s3] (.ref a :: st) h := e_go dX0_filled_7 rfl rfl
theorem wX0_filled_8 : E_ d mX0_filled 8 ls st h = E_ d mX0_filled 10 ls (.int ((-2)) :: st) h := e_bipush dX0_filled_8 kbipush_m2 rfl
theorem wX0_filled_10 (ht : oT h a = 1) : E_ (d + 1) mX0_filled 10 ls [.int x1, .ref a] h = (C_ d mX0_no [.ref a, .int x1] h).bind fun r => E_ (d + 1) mX0_filled 13 ls (xpu r.1 []) r.2 := e_vir dX0_filled_10 rfl rfl rfl rfl rfl rfl (Nat.le_of_ble_eq_true rfl) (Nat.le_of_ble_eq_true rfl) ht
theorem wX0_filled_13 : E_ d mX0_filled 13 ls [.int x] h = some (some (.int x), h) := e_rt dX0_filled_13 rfl rfl
theorem wX0_filled_14 : E_ d mX0_filled 14 [.val (.ref a), s1, s2, s3] st h = E_ d mX0_filled 15 [.val (.ref a), s1, s2, s3] (.ref a :: st) h := e_go dX0_filled_14 rfl rfl
theorem wX0_filled_15 (ht : oT h a = 1) : E_ d mX0_filled 15 ls (.ref a :: st) h = E_ d mX0_filled 18 ls (va_rf (oR h a 17) :: st) h := e_getR0 dX0_filled_15 rfl rfl ht
theorem wX0_filled_18 : E_ d mX0_filled 18 [s0, .val (.int x), s2, s3] st h = E_ d mX0_filled 19 [s0, .val (.int x), s2, s3] (.int x :: st) h := e_go dX0_filled_18 rfl rfl
theorem wX0_filled_19 (ht : 45 ≤ oT h a ∧ oT h a ≤ 48) (hi : xix x (oN h a) = true) : E_ d mX0_filled 19 ls (.int x :: .ref a :: st) h = E_ d mX0_filled 20 ls (va_rf (oR h a x.toNatClampNeg) :: st) h := e_aald dX0_filled_19 rfl ht hi
theorem wX0_filled_20 (ht : oT h a = 6) : E_ d mX0_filled 20 ls (.ref a :: st) h = E_ d mX0_filled 23 ls (va_rf (oR h a 0) :: st) h := e_getR dX0_filled_20 rfl rfl ht
theorem wX0_filled_23 : E_ d mX0_filled 23 ls (.ref a :: st) h = E_ d mX0_filled 33 ls st h := e_nnR dX0_filled_23 rfl
theorem wX0_filled_23n : E_ d mX0_filled 23 ls (.null :: st) h = E_ d mX0_filled 26 ls st h := e_go dX0_filled_23 rfl rfl
theorem wX0_filled_26 : E_ d mX0_filled 26 [.val (.ref a), s1, s2, s3] st h = E_ d mX0_filled 27 [.val (.ref a), s1, s2, s3] (.ref a :: st) h := e_go dX0_filled_26 rfl rfl
theorem wX0_filled_27 : E_ d mX0_filled 27 ls st h = E_ d mX0_filled 29 ls (.int ((-6)) :: st) h := e_bipush dX0_filled_27 kbipush_m6 rfl
theorem wX0_filled_29 (ht : oT h a = 1) : E_ (d + 1) mX0_filled 29 ls [.int x1, .ref a] h = (C_ d mX0_no [.ref a, .int x1] h).bind fun r => E_ (d + 1) mX0_filled 32 ls (xpu r.1 []) r.2 := e_vir dX0_filled_29 rfl rfl rfl rfl rfl rfl (Nat.le_of_ble_eq_true rfl) (Nat.le_of_ble_eq_true rfl) ht
theorem wX0_filled_32 : E_ d mX0_filled 32 ls [.int x] h = some (some (.int x), h) := e_rt dX0_filled_32 rfl rfl
theorem wX0_filled_33 : E_ d mX0_filled 33 [s0, s1, .val (.int x), s3] st h = E_ d mX0_filled 34 [s0, s1, .val (.int x), s3] (.int x :: st) h := e_go dX0_filled_33 rfl rfl
theorem wX0_filled_34 : E_ d mX0_filled 34 ls (.int x :: st) h = E_ d mX0_filled 35 ls (.long x.toInt64 :: st) h := e_go dX0_filled_34 rfl rfl
theorem wX0_filled_35 : E_ d mX0_filled 35 ls st h = E_ d mX0_filled 36 ls (.long 0 :: st) h := e_go dX0_filled_35 rfl rfl
theorem wX0_filled_36 : E_ d mX0_filled 36 [.val (.ref a), s1, s2, s3] st h = E_ d mX0_filled 37 [.val (.ref a), s1, s2, s3] (.ref a :: st) h := e_go dX0_filled_36 rfl rfl
theorem wX0_filled_37 (ht : oT h a = 1) : E_ d mX0_filled 37 ls (.ref a :: st) h = E_ d mX0_filled 40 ls (va_rf (oR h a 17) :: st) h := e_getR0 dX0_filled_37 rfl rfl ht
theorem wX0_filled_40 : E_ d mX0_filled 40 [s0, .val (.int x), s2, s3] st h = E_ d mX0_filled 41 [s0, .val (.int x), s2, s3] (.int x :: st) h := e_go dX0_filled_40 rfl rfl
theorem wX0_filled_41 (ht : 45 ≤ oT h a ∧ oT h a ≤ 48) (hi : xix x (oN h a) = true) : E_ d mX0_filled 41 ls (.int x :: .ref a :: st) h = E_ d mX0_filled 42 ls (va_rf (oR h a x.toNatClampNeg) :: st) h := e_aald dX0_filled_41 rfl ht hi
theorem wX0_filled_42 (ht : oT h a = 6) : E_ (d + 1) mX0_filled 42 ls [.ref a, .long u1, .long u2] h = (C_ d mX4_many [.ref a] h).bind fun r => E_ (d + 1) mX0_filled 45 ls (xpu r.1 [.long u1, .long u2]) r.2 := e_vir dX0_filled_42 rfl rfl rfl rfl rfl rfl (Nat.le_of_ble_eq_true rfl) (Nat.le_of_ble_eq_true rfl) ht
theorem wX0_filled_45 : E_ d mX0_filled 45 ls st h = E_ d mX0_filled 46 ls (.int (nI 1) :: st) h := e_iconst dX0_filled_45 kiconst_1 rfl
theorem wX0_filled_46 : E_ d mX0_filled 46 ls (.int y :: .int x :: st) h = E_ d mX0_filled 47 ls (.int (x - y) :: st) h := e_go dX0_filled_46 rfl rfl
theorem wX0_filled_47 : E_ d mX0_filled 47 ls (.int x :: st) h = E_ d mX0_filled 48 ls (.long x.toInt64 :: st) h := e_go dX0_filled_47 rfl rfl
theorem wX0_filled_48 : E_ (d + 1) mX0_filled 48 ls [.long u3, .long u2, .long u1] h = (C_ d mX0_in [.long u1, .long u2, .long u3] h).bind fun r => E_ (d + 1) mX0_filled 51 ls (xpu r.1 []) r.2 := e_call dX0_filled_48 rfl rfl
theorem wX0_filled_51 : E_ d mX0_filled 51 ls (.int x :: st) h = if x = 0 then E_ d mX0_filled 54 ls st h else E_ d mX0_filled 61 ls st h := e_zne dX0_filled_51 rfl rfl
theorem wX0_filled_54 : E_ d mX0_filled 54 [.val (.ref a), s1, s2, s3] st h = E_ d mX0_filled 55 [.val (.ref a), s1, s2, s3] (.ref a :: st) h := e_go dX0_filled_54 rfl rfl
theorem wX0_filled_55 : E_ d mX0_filled 55 ls st h = E_ d mX0_filled 57 ls (.int ((-7)) :: st) h := e_bipush dX0_filled_55 kbipush_m7 rfl
theorem wX0_filled_57 (ht : oT h a = 1) : E_ (d + 1) mX0_filled 57 ls [.int x1, .ref a] h = (C_ d mX0_no [.ref a, .int x1] h).bind fun r => E_ (d + 1) mX0_filled 60 ls (xpu r.1 []) r.2 := e_vir dX0_filled_57 rfl rfl rfl rfl rfl rfl (Nat.le_of_ble_eq_true rfl) (Nat.le_of_ble_eq_true rfl) ht
theorem wX0_filled_60 : E_ d mX0_filled 60 ls [.int x] h = some (some (.int x), h) := e_rt dX0_filled_60 rfl rfl
theorem wX0_filled_61 : E_ d mX0_filled 61 [.val (.ref a), s1, s2, s3] st h = E_ d mX0_filled 62 [.val (.ref a), s1, s2, s3] (.ref a :: st) h := e_go dX0_filled_61 rfl rfl
theorem wX0_filled_62 : E_ d mX0_filled 62 [s0, .val (.int x), s2, s3] st h = E_ d mX0_filled 63 [s0, .val (.int x), s2, s3] (.int x :: st) h := e_go dX0_filled_62 rfl rfl
theorem wX0_filled_63 (ht : oT h a = 1) : E_ (d + 1) mX0_filled 63 ls [.int x1, .ref a] h = (C_ d mX0_countsFault [.ref a, .int x1] h).bind fun r => E_ (d + 1) mX0_filled 66 ls (xpu r.1 []) r.2 := e_vir dX0_filled_63 rfl rfl rfl rfl rfl rfl (Nat.le_of_ble_eq_true rfl) (Nat.le_of_ble_eq_true rfl) ht
theorem wX0_filled_66 : E_ d mX0_filled 66 [s0, s1, s2, s3] (.int x :: st) h = E_ d mX0_filled 67 [s0, s1, xk s2, .val (.int x)] st h := e_go dX0_filled_66 rfl rfl
theorem wX0_filled_67 : E_ d mX0_filled 67 [s0, s1, s2, .val (.int x)] st h = E_ d mX0_filled 68 [s0, s1, s2, .val (.int x)] (.int x :: st) h := e_go dX0_filled_67 rfl rfl
theorem wX0_filled_68 : E_ d mX0_filled 68 ls (.int x :: st) h = if x = 0 then E_ d mX0_filled 79 ls st h else E_ d mX0_filled 71 ls st h := e_zeq dX0_filled_68 rfl rfl
theorem wX0_filled_71 : E_ d mX0_filled 71 [.val (.ref a), s1, s2, s3] st h = E_ d mX0_filled 72 [.val (.ref a), s1, s2, s3] (.ref a :: st) h := e_go dX0_filled_71 rfl rfl
theorem wX0_filled_72 : E_ d mX0_filled 72 [s0, s1, s2, .val (.int x)] st h = E_ d mX0_filled 73 [s0, s1, s2, .val (.int x)] (.int x :: st) h := e_go dX0_filled_72 rfl rfl
theorem wX0_filled_73 (ht : oT h a = 1) : E_ (d + 1) mX0_filled 73 ls [.int x1, .ref a] h = (C_ d mX0_no [.ref a, .int x1] h).bind fun r => E_ (d + 1) mX0_filled 76 ls (xpu r.1 []) r.2 := e_vir dX0_filled_73 rfl rfl rfl rfl rfl rfl (Nat.le_of_ble_eq_true rfl) (Nat.le_of_ble_eq_true rfl) ht
theorem wX0_filled_76 : E_ d mX0_filled 76 ls st h = E_ d mX0_filled 85 ls st h := e_gt dX0_filled_76 rfl
theorem wX0_filled_79 : E_ d mX0_filled 79 [.val (.ref a), s1, s2, s3] st h = E_ d mX0_filled 80 [.val (.ref a), s1, s2, s3] (.ref a :: st) h := e_go dX0_filled_79 rfl rfl
theorem wX0_filled_80 : E_ d mX0_filled 80 [s0, .val (.int x), s2, s3] st h = E_ d mX0_filled 81 [s0, .val (.int x), s2, s3] (.int x :: st) h := e_go dX0_filled_80 rfl rfl
theorem wX0_filled_81 : E_ d mX0_filled 81 [s0, s1, .val (.int x), s3] st h = E_ d mX0_filled 82 [s0, s1, .val (.int x), s3] (.int x :: st) h := e_go dX0_filled_81 rfl rfl
theorem wX0_filled_82 (ht : oT h a = 1) : E_ (d + 1) mX0_filled 82 ls [.int x2, .int x1, .ref a] h = (C_ d mX0_filledAt [.ref a, .int x1, .int x2] h).bind fun r => E_ (d + 1) mX0_filled 85 ls (xpu r.1 []) r.2 := e_vir dX0_filled_82 rfl rfl rfl rfl rfl rfl (Nat.le_of_ble_eq_true rfl) (Nat.le_of_ble_eq_true rfl) ht
theorem wX0_filled_85 : E_ d mX0_filled 85 ls [.int x] h = some (some (.int x), h) := e_rt dX0_filled_85 rfl rfl
/-! FootOut.countsFault -/
theorem wX0_countsFault_0 : E_ d mX0_countsFault 0 [.val (.ref a), s1, s2] st h = E_ d mX0_countsFault 1 [.val (.ref a), s1, s2] (.ref a :: st) h := e_go dX0_countsFault_0 rfl rfl
theorem wX0_countsFault_1 (ht : oT h a = 1) : E_ d mX0_countsFault 1 ls (.ref a :: st) h = E_ d mX0_countsFault 4 ls (va_rf (oR h a 17) :: st) h := e_getR0 dX0_countsFault_1 rfl rfl ht
theorem wX0_countsFault_4 : E_ d mX0_countsFault 4 [s0, .val (.int x), s2] st h = E_ d mX0_countsFault 5 [s0, .val (.int x), s2] (.int x :: st) h := e_go dX0_countsFault_4 rfl rfl
theorem wX0_countsFault_5 (ht : 45 ≤ oT h a ∧ oT h a ≤ 48) (hi : xix x (oN h a) = true) : E_ d mX0_countsFault 5 ls (.int x :: .ref a :: st) h = E_ d mX0_countsFault 6 ls (va_rf (oR h a x.toNatClampNeg) :: st) h := e_aald dX0_countsFault_5 rfl ht hi
theorem wX0_countsFault_6 (ht : oT h a = 6) : E_ d mX0_countsFault 6 ls (.ref a :: st) h = E_ d mX0_countsFault 9 ls (va_rf (oR h a 0) :: st) h := e_getR dX0_countsFault_6 rfl rfl ht
theorem wX0_countsFault_9 : E_ d mX0_countsFault 9 ls (.ref a :: st) h = E_ d mX0_countsFault 15 ls st h := e_nnR dX0_countsFault_9 rfl
theorem wX0_countsFault_9n : E_ d mX0_countsFault 9 ls (.null :: st) h = E_ d mX0_countsFault 12 ls st h := e_go dX0_countsFault_9 rfl rfl
theorem wX0_countsFault_12 : E_ d mX0_countsFault 12 ls st h = E_ d mX0_countsFault 14 ls (.int ((-6)) :: st) h := e_bipush dX0_countsFault_12 kbipush_m6 rfl
theorem wX0_countsFault_14 : E_ d mX0_countsFault 14 ls [.int x] h = some (some (.int x), h) := e_rt dX0_countsFault_14 rfl rfl
theorem wX0_countsFault_15 : E_ d mX0_countsFault 15 ls st h = E_ d mX0_countsFault 16 ls (.int (nI 0) :: st) h := e_iconst dX0_countsFault_15 kiconst_0 rfl
theorem wX0_countsFault_16 : E_ d mX0_countsFault 16 [s0, s1, s2] (.int x :: st) h = E_ d mX0_countsFault 17 [s0, xk s1, .val (.int x)] st h := e_go dX0_countsFault_16 rfl rfl
theorem wX0_countsFault_17 : E_ d mX0_countsFault 17 [s0, s1, .val (.int x)] st h = E_ d mX0_countsFault 18 [s0, s1, .val (.int x)] (.int x :: st) h := e_go dX0_countsFault_17 rfl rfl
theorem wX0_countsFault_18 : E_ d mX0_countsFault 18 [.val (.ref a), s1, s2] st h = E_ d mX0_countsFault 19 [.val (.ref a), s1, s2] (.ref a :: st) h := e_go dX0_countsFault_18 rfl rfl
theorem wX0_countsFault_19 (ht : oT h a = 1) : E_ d mX0_countsFault 19 ls (.ref a :: st) h = E_ d mX0_countsFault 22 ls (va_rf (oR h a 17) :: st) h := e_getR0 dX0_countsFault_19 rfl rfl ht
theorem wX0_countsFault_22 : E_ d mX0_countsFault 22 [s0, .val (.int x), s2] st h = E_ d mX0_countsFault 23 [s0, .val (.int x), s2] (.int x :: st) h := e_go dX0_countsFault_22 rfl rfl
theorem wX0_countsFault_23 (ht : 45 ≤ oT h a ∧ oT h a ≤ 48) (hi : xix x (oN h a) = true) : E_ d mX0_countsFault 23 ls (.int x :: .ref a :: st) h = E_ d mX0_countsFault 24 ls (va_rf (oR h a x.toNatClampNeg) :: st) h := e_aald dX0_countsFault_23 rfl ht hi
theorem wX0_countsFault_24 (ht : oT h a = 6) : E_ (d + 1) mX0_countsFault 24 ls [.ref a, .int x1] h = (C_ d mX4_many [.ref a] h).bind fun r => E_ (d + 1) mX0_countsFault 27 ls (xpu r.1 [.int x1]) r.2 := e_vir dX0_countsFault_24 rfl rfl rfl rfl rfl rfl (Nat.le_of_ble_eq_true rfl) (Nat.le_of_ble_eq_true rfl) ht
theorem wX0_countsFault_27 : E_ d mX0_countsFault 27 ls (.int y :: .int x :: st) h = if x < y then E_ d mX0_countsFault 30 ls st h else E_ d mX0_countsFault 56 ls st h := e_ige dX0_countsFault_27 rfl rfl
theorem wX0_countsFault_30 : E_ d mX0_countsFault 30 [.val (.ref a), s1, s2] st h = E_ d mX0_countsFault 31 [.val (.ref a), s1, s2] (.ref a :: st) h := e_go dX0_countsFault_30 rfl rfl
theorem wX0_countsFault_31 (ht : oT h a = 1) : E_ d mX0_countsFault 31 ls (.ref a :: st) h = E_ d mX0_countsFault 34 ls (va_rf (oR h a 17) :: st) h := e_getR0 dX0_countsFault_31 rfl rfl ht
theorem wX0_countsFault_34 : E_ d mX0_countsFault 34 [s0, .val (.int x), s2] st h = E_ d mX0_countsFault 35 [s0, .val (.int x), s2] (.int x :: st) h := e_go dX0_countsFault_34 rfl rfl
theorem wX0_countsFault_35 (ht : 45 ≤ oT h a ∧ oT h a ≤ 48) (hi : xix x (oN h a) = true) : E_ d mX0_countsFault 35 ls (.int x :: .ref a :: st) h = E_ d mX0_countsFault 36 ls (va_rf (oR h a x.toNatClampNeg) :: st) h := e_aald dX0_countsFault_35 rfl ht hi
theorem wX0_countsFault_36 : E_ d mX0_countsFault 36 [s0, s1, .val (.int x)] st h = E_ d mX0_countsFault 37 [s0, s1, .val (.int x)] (.int x :: st) h := e_go dX0_countsFault_36 rfl rfl
theorem wX0_countsFault_37 (ht : oT h a = 6) : E_ (d + 1) mX0_countsFault 37 ls [.int x1, .ref a] h = (C_ d mX4_number [.ref a, .int x1] h).bind fun r => E_ (d + 1) mX0_countsFault 40 ls (xpu r.1 []) r.2 := e_vir dX0_countsFault_37 rfl rfl rfl rfl rfl rfl (Nat.le_of_ble_eq_true rfl) (Nat.le_of_ble_eq_true rfl) ht
theorem wX0_countsFault_40 : E_ d mX0_countsFault 40 ls st h = E_ d mX0_countsFault 43 ls (.long (1000000) :: st) h := e_go dX0_countsFault_40 rfl rfl
theorem wX0_countsFault_43 : E_ d mX0_countsFault 43 ls (.long v :: .long u :: st) h = E_ d mX0_countsFault 44 ls (.int (lg_cmp u v) :: st) h := e_go dX0_countsFault_43 rfl rfl
theorem wX0_countsFault_44 : E_ d mX0_countsFault 44 ls (.int x :: st) h = if 0 < x then E_ d mX0_countsFault 47 ls st h else E_ d mX0_countsFault 50 ls st h := e_zle dX0_countsFault_44 rfl rfl
theorem wX0_countsFault_47 : E_ d mX0_countsFault 47 ls st h = E_ d mX0_countsFault 49 ls (.int ((-3)) :: st) h := e_bipush dX0_countsFault_47 kbipush_m3 rfl
theorem wX0_countsFault_49 : E_ d mX0_countsFault 49 ls [.int x] h = some (some (.int x), h) := e_rt dX0_countsFault_49 rfl rfl
theorem wX0_countsFault_50 : E_ d mX0_countsFault 50 [s0, s1, .val (.int x)] st h = E_ d mX0_countsFault 53 [s0, xk s1, .val (.int (x + nI 1))] st h := by rw [← kiinc_1]; exact e_go dX0_countsFault_50 rfl rfl
theorem wX0_countsFault_53 : E_ d mX0_countsFault 53 ls st h = E_ d mX0_countsFault 17 ls st h := e_gt dX0_countsFault_53 rfl
theorem wX0_countsFault_56 : E_ d mX0_countsFault 56 ls st h = E_ d mX0_countsFault 57 ls (.int (nI 0) :: st) h := e_iconst dX0_countsFault_56 kiconst_0 rfl
theorem wX0_countsFault_57 : E_ d mX0_countsFault 57 ls [.int x] h = some (some (.int x), h) := e_rt dX0_countsFault_57 rfl rfl
/-! FootOut.filledAt -/
theorem wX0_filledAt_0 : E_ d mX0_filledAt 0 [.val (.ref a), s1, s2, s3, s4] st h = E_ d mX0_filledAt 1 [.val (.ref a), s1, s2, s3, s4] (.ref a :: st) h := e_go dX0_filledAt_0 rfl rfl
theorem wX0_filledAt_1 : E_ d mX0_filledAt 1 [s0, .val (.int x), s2, s3, s4] st h = E_ d mX0_filledAt 2 [s0, .val (.int x), s2, s3, s4] (.int x :: st) h := e_go dX0_filledAt_1 rfl rfl
theorem wX0_filledAt_2 : E_ d mX0_filledAt 2 [s0, s1, .val (.int x), s3, s4] st h = E_ d mX0_filledAt 3 [s0, s1, .val (.int x), s3, s4] (.int x :: st) h := e_go dX0_filledAt_2 rfl rfl
theorem wX0_filledAt_3 : E_ d mX0_filledAt 3 ls st h = E_ d mX0_filledAt 4 ls (.int ((-1)) :: st) h := e_iconst dX0_filledAt_3 kiconst_m1 rfl
theorem wX0_filledAt_4 (ht : oT h a = 1) : E_ (d + 1) mX0_filledAt 4 ls [.int x3, .int x2, .int x1, .ref a] h = (C_ d mX0_nearest [.ref a, .int x1, .int x2, .int x3] h).bind fun r => E_ (d + 1) mX0_filledAt 7 ls (xpu r.1 []) r.2 := e_vir dX0_filledAt_4 rfl rfl rfl rfl rfl rfl (Nat.le_of_ble_eq_true rfl) (Nat.le_of_ble_eq_true rfl) ht
theorem wX0_filledAt_7 : E_ d mX0_filledAt 7 [s0, s1, s2, s3, s4] (.int x :: st) h = E_ d mX0_filledAt 8 [s0, s1, xk s2, .val (.int x), s4] st h := e_go dX0_filledAt_7 rfl rfl
theorem wX0_filledAt_8 : E_ d mX0_filledAt 8 [.val (.ref a), s1, s2, s3, s4] st h = E_ d mX0_filledAt 9 [.val (.ref a), s1, s2, s3, s4] (.ref a :: st) h := e_go dX0_filledAt_8 rfl rfl
theorem wX0_filledAt_9 : E_ d mX0_filledAt 9 [s0, .val (.int x), s2, s3, s4] st h = E_ d mX0_filledAt 10 [s0, .val (.int x), s2, s3, s4] (.int x :: st) h := e_go dX0_filledAt_9 rfl rfl
theorem wX0_filledAt_10 : E_ d mX0_filledAt 10 [s0, s1, .val (.int x), s3, s4] st h = E_ d mX0_filledAt 11 [s0, s1, .val (.int x), s3, s4] (.int x :: st) h := e_go dX0_filledAt_10 rfl rfl
theorem wX0_filledAt_11 : E_ d mX0_filledAt 11 ls st h = E_ d mX0_filledAt 12 ls (.int (nI 1) :: st) h := e_iconst dX0_filledAt_11 kiconst_1 rfl
theorem wX0_filledAt_12 (ht : oT h a = 1) : E_ (d + 1) mX0_filledAt 12 ls [.int x3, .int x2, .int x1, .ref a] h = (C_ d mX0_nearest [.ref a, .int x1, .int x2, .int x3] h).bind fun r => E_ (d + 1) mX0_filledAt 15 ls (xpu r.1 []) r.2 := e_vir dX0_filledAt_12 rfl rfl rfl rfl rfl rfl (Nat.le_of_ble_eq_true rfl) (Nat.le_of_ble_eq_true rfl) ht
theorem wX0_filledAt_15 : E_ d mX0_filledAt 15 [s0, s1, s2, s3, s4] (.int x :: st) h = E_ d mX0_filledAt 17 [s0, s1, s2, xk s3, .val (.int x)] st h := e_go dX0_filledAt_15 rfl rfl
theorem wX0_filledAt_17 : E_ d mX0_filledAt 17 [s0, s1, s2, .val (.int x), s4] st h = E_ d mX0_filledAt 18 [s0, s1, s2, .val (.int x), s4] (.int x :: st) h := e_go dX0_filledAt_17 rfl rfl
theorem wX0_filledAt_18 : E_ d mX0_filledAt 18 ls st h = E_ d mX0_filledAt 19 ls (.int ((-1)) :: st) h := e_iconst dX0_filledAt_18 kiconst_m1 rfl
theorem wX0_filledAt_19 : E_ d mX0_filledAt 19 ls (.int y :: .int x :: st) h = if x = y then E_ d mX0_filledAt 28 ls st h else E_ d mX0_filledAt 22 ls st h := e_ieq dX0_filledAt_19 rfl rfl
theorem wX0_filledAt_22 : E_ d mX0_filledAt 22 [s0, s1, s2, s3, .val (.int x)] st h = E_ d mX0_filledAt 24 [s0, s1, s2, s3, .val (.int x)] (.int x :: st) h := e_go dX0_filledAt_22 rfl rfl
theorem wX0_filledAt_24 : E_ d mX0_filledAt 24 ls st h = E_ d mX0_filledAt 25 ls (.int ((-1)) :: st) h := e_iconst dX0_filledAt_24 kiconst_m1 rfl
theorem wX0_filledAt_25 : E_ d mX0_filledAt 25 ls (.int y :: .int x :: st) h = if x = y then E_ d mX0_filledAt 28 ls st h else E_ d mX0_filledAt 35 ls st h := e_ine dX0_filledAt_25 rfl rfl
theorem wX0_filledAt_28 : E_ d mX0_filledAt 28 [s0, s1, s2, .val (.int x), s4] st h = E_ d mX0_filledAt 29 [s0, s1, s2, .val (.int x), s4] (.int x :: st) h := e_go dX0_filledAt_28 rfl rfl
theorem wX0_filledAt_29 : E_ d mX0_filledAt 29 [s0, s1, s2, s3, .val (.int x)] st h = E_ d mX0_filledAt 31 [s0, s1, s2, s3, .val (.int x)] (.int x :: st) h := e_go dX0_filledAt_29 rfl rfl
theorem wX0_filledAt_31 : E_ d mX0_filledAt 31 ls [.int x2, .int x1] h = (xP 6 [.int x1, .int x2] h).bind fun r => E_ d mX0_filledAt 34 ls (xpu r.1 []) r.2 := e_staP dX0_filledAt_31 rfl (Nat.le_of_ble_eq_true rfl) rfl rfl rfl (Nat.le_of_ble_eq_true rfl)
theorem wX0_filledAt_34 : E_ d mX0_filledAt 34 ls [.int x] h = some (some (.int x), h) := e_rt dX0_filledAt_34 rfl rfl
theorem wX0_filledAt_35 : E_ d mX0_filledAt 35 [s0, s1, s2, .val (.int x), s4] st h = E_ d mX0_filledAt 36 [s0, s1, s2, .val (.int x), s4] (.int x :: st) h := e_go dX0_filledAt_35 rfl rfl
theorem wX0_filledAt_36 : E_ d mX0_filledAt 36 [s0, s1, s2, s3, .val (.int x)] st h = E_ d mX0_filledAt 38 [s0, s1, s2, s3, .val (.int x)] (.int x :: st) h := e_go dX0_filledAt_36 rfl rfl
theorem wX0_filledAt_38 : E_ d mX0_filledAt 38 ls (.int y :: .int x :: st) h = E_ d mX0_filledAt 39 ls (.int (x + y) :: st) h := e_go dX0_filledAt_38 rfl rfl
theorem wX0_filledAt_39 : E_ d mX0_filledAt 39 ls st h = E_ d mX0_filledAt 40 ls (.int (nI 2) :: st) h := e_iconst dX0_filledAt_39 kiconst_2 rfl
theorem wX0_filledAt_40 (hy : ¬ y = 0) : E_ d mX0_filledAt 40 ls (.int y :: .int x :: st) h = E_ d mX0_filledAt 41 ls (.int (x / y) :: st) h := e_div dX0_filledAt_40 rfl hy
theorem wX0_filledAt_41 : E_ d mX0_filledAt 41 ls [.int x] h = some (some (.int x), h) := e_rt dX0_filledAt_41 rfl rfl
/-! FootOut.nearest -/
theorem wX0_nearest_0 : E_ d mX0_nearest 0 [s0, s1, .val (.int x), s3, s4] st h = E_ d mX0_nearest 1 [s0, s1, .val (.int x), s3, s4] (.int x :: st) h := e_go dX0_nearest_0 rfl rfl
theorem wX0_nearest_1 : E_ d mX0_nearest 1 [s0, s1, s2, s3, s4] (.int x :: st) h = E_ d mX0_nearest 3 [s0, s1, s2, xk s3, .val (.int x)] st h := e_go dX0_nearest_1 rfl rfl
theorem wX0_nearest_3 : E_ d mX0_nearest 3 [s0, s1, s2, s3, .val (.int x)] st h = E_ d mX0_nearest 5 [s0, s1, s2, s3, .val (.int x)] (.int x :: st) h := e_go dX0_nearest_3 rfl rfl
theorem wX0_nearest_5 : E_ d mX0_nearest 5 ls (.int x :: st) h = E_ d mX0_nearest 6 ls (.long x.toInt64 :: st) h := e_go dX0_nearest_5 rfl rfl
theorem wX0_nearest_6 : E_ d mX0_nearest 6 ls st h = E_ d mX0_nearest 7 ls (.long 0 :: st) h := e_go dX0_nearest_6 rfl rfl
theorem wX0_nearest_7 : E_ d mX0_nearest 7 [.val (.ref a), s1, s2, s3, s4] st h = E_ d mX0_nearest 8 [.val (.ref a), s1, s2, s3, s4] (.ref a :: st) h := e_go dX0_nearest_7 rfl rfl
theorem wX0_nearest_8 (ht : oT h a = 1) : E_ d mX0_nearest 8 ls (.ref a :: st) h = E_ d mX0_nearest 11 ls (va_rf (oR h a 17) :: st) h := e_getR0 dX0_nearest_8 rfl rfl ht
theorem wX0_nearest_11 : E_ d mX0_nearest 11 [s0, .val (.int x), s2, s3, s4] st h = E_ d mX0_nearest 12 [s0, .val (.int x), s2, s3, s4] (.int x :: st) h := e_go dX0_nearest_11 rfl rfl
theorem wX0_nearest_12 (ht : 45 ≤ oT h a ∧ oT h a ≤ 48) (hi : xix x (oN h a) = true) : E_ d mX0_nearest 12 ls (.int x :: .ref a :: st) h = E_ d mX0_nearest 13 ls (va_rf (oR h a x.toNatClampNeg) :: st) h := e_aald dX0_nearest_12 rfl ht hi
theorem wX0_nearest_13 (ht : oT h a = 6) : E_ (d + 1) mX0_nearest 13 ls [.ref a, .long u1, .long u2] h = (C_ d mX4_many [.ref a] h).bind fun r => E_ (d + 1) mX0_nearest 16 ls (xpu r.1 [.long u1, .long u2]) r.2 := e_vir dX0_nearest_13 rfl rfl rfl rfl rfl rfl (Nat.le_of_ble_eq_true rfl) (Nat.le_of_ble_eq_true rfl) ht
theorem wX0_nearest_16 : E_ d mX0_nearest 16 ls st h = E_ d mX0_nearest 17 ls (.int (nI 1) :: st) h := e_iconst dX0_nearest_16 kiconst_1 rfl
theorem wX0_nearest_17 : E_ d mX0_nearest 17 ls (.int y :: .int x :: st) h = E_ d mX0_nearest 18 ls (.int (x - y) :: st) h := e_go dX0_nearest_17 rfl rfl
theorem wX0_nearest_18 : E_ d mX0_nearest 18 ls (.int x :: st) h = E_ d mX0_nearest 19 ls (.long x.toInt64 :: st) h := e_go dX0_nearest_18 rfl rfl
theorem wX0_nearest_19 : E_ (d + 1) mX0_nearest 19 ls [.long u3, .long u2, .long u1] h = (C_ d mX0_in [.long u1, .long u2, .long u3] h).bind fun r => E_ (d + 1) mX0_nearest 22 ls (xpu r.1 []) r.2 := e_call dX0_nearest_19 rfl rfl
theorem wX0_nearest_22 : E_ d mX0_nearest 22 ls (.int x :: st) h = if x = 0 then E_ d mX0_nearest 63 ls st h else E_ d mX0_nearest 25 ls st h := e_zeq dX0_nearest_22 rfl rfl
theorem wX0_nearest_25 : E_ d mX0_nearest 25 [.val (.ref a), s1, s2, s3, s4] st h = E_ d mX0_nearest 26 [.val (.ref a), s1, s2, s3, s4] (.ref a :: st) h := e_go dX0_nearest_25 rfl rfl
theorem wX0_nearest_26 (ht : oT h a = 1) : E_ d mX0_nearest 26 ls (.ref a :: st) h = E_ d mX0_nearest 29 ls (va_rf (oR h a 17) :: st) h := e_getR0 dX0_nearest_26 rfl rfl ht
theorem wX0_nearest_29 : E_ d mX0_nearest 29 [s0, .val (.int x), s2, s3, s4] st h = E_ d mX0_nearest 30 [s0, .val (.int x), s2, s3, s4] (.int x :: st) h := e_go dX0_nearest_29 rfl rfl
theorem wX0_nearest_30 (ht : 45 ≤ oT h a ∧ oT h a ≤ 48) (hi : xix x (oN h a) = true) : E_ d mX0_nearest 30 ls (.int x :: .ref a :: st) h = E_ d mX0_nearest 31 ls (va_rf (oR h a x.toNatClampNeg) :: st) h := e_aald dX0_nearest_30 rfl ht hi
theorem wX0_nearest_31 : E_ d mX0_nearest 31 [s0, s1, s2, s3, .val (.int x)] st h = E_ d mX0_nearest 33 [s0, s1, s2, s3, .val (.int x)] (.int x :: st) h := e_go dX0_nearest_31 rfl rfl
theorem wX0_nearest_33 (ht : oT h a = 6) : E_ (d + 1) mX0_nearest 33 ls [.int x1, .ref a] h = (C_ d mX4_number [.ref a, .int x1] h).bind fun r => E_ (d + 1) mX0_nearest 36 ls (xpu r.1 []) r.2 := e_vir dX0_nearest_33 rfl rfl rfl rfl rfl rfl (Nat.le_of_ble_eq_true rfl) (Nat.le_of_ble_eq_true rfl) ht
theorem wX0_nearest_36 : E_ d mX0_nearest 36 ls st h = E_ d mX0_nearest 37 ls (.long 0 :: st) h := e_go dX0_nearest_36 rfl rfl
theorem wX0_nearest_37 : E_ d mX0_nearest 37 ls (.long v :: .long u :: st) h = E_ d mX0_nearest 38 ls (.int (lg_cmp u v) :: st) h := e_go dX0_nearest_37 rfl rfl
theorem wX0_nearest_38 : E_ d mX0_nearest 38 ls (.int x :: st) h = if x < 0 then E_ d mX0_nearest 54 ls st h else E_ d mX0_nearest 41 ls st h := e_zlt dX0_nearest_38 rfl rfl
theorem wX0_nearest_41 : E_ d mX0_nearest 41 [.val (.ref a), s1, s2, s3, s4] st h = E_ d mX0_nearest 42 [.val (.ref a), s1, s2, s3, s4] (.ref a :: st) h := e_go dX0_nearest_41 rfl rfl
theorem wX0_nearest_42 (ht : oT h a = 1) : E_ d mX0_nearest 42 ls (.ref a :: st) h = E_ d mX0_nearest 45 ls (va_rf (oR h a 17) :: st) h := e_getR0 dX0_nearest_42 rfl rfl ht
theorem wX0_nearest_45 : E_ d mX0_nearest 45 [s0, .val (.int x), s2, s3, s4] st h = E_ d mX0_nearest 46 [s0, .val (.int x), s2, s3, s4] (.int x :: st) h := e_go dX0_nearest_45 rfl rfl
theorem wX0_nearest_46 (ht : 45 ≤ oT h a ∧ oT h a ≤ 48) (hi : xix x (oN h a) = true) : E_ d mX0_nearest 46 ls (.int x :: .ref a :: st) h = E_ d mX0_nearest 47 ls (va_rf (oR h a x.toNatClampNeg) :: st) h := e_aald dX0_nearest_46 rfl ht hi
theorem wX0_nearest_47 : E_ d mX0_nearest 47 [s0, s1, s2, s3, .val (.int x)] st h = E_ d mX0_nearest 49 [s0, s1, s2, s3, .val (.int x)] (.int x :: st) h := e_go dX0_nearest_47 rfl rfl
theorem wX0_nearest_49 (ht : oT h a = 6) : E_ (d + 1) mX0_nearest 49 ls [.int x1, .ref a] h = (C_ d mX4_number [.ref a, .int x1] h).bind fun r => E_ (d + 1) mX0_nearest 52 ls (xpu r.1 []) r.2 := e_vir dX0_nearest_49 rfl rfl rfl rfl rfl rfl (Nat.le_of_ble_eq_true rfl) (Nat.le_of_ble_eq_true rfl) ht
theorem wX0_nearest_52 : E_ d mX0_nearest 52 ls (.long u :: st) h = E_ d mX0_nearest 53 ls (.int u.toInt32 :: st) h := e_go dX0_nearest_52 rfl rfl
theorem wX0_nearest_53 : E_ d mX0_nearest 53 ls [.int x] h = some (some (.int x), h) := e_rt dX0_nearest_53 rfl rfl
theorem wX0_nearest_54 : E_ d mX0_nearest 54 [s0, s1, s2, s3, .val (.int x)] st h = E_ d mX0_nearest 56 [s0, s1, s2, s3, .val (.int x)] (.int x :: st) h := e_go dX0_nearest_54 rfl rfl
theorem wX0_nearest_56 : E_ d mX0_nearest 56 [s0, s1, s2, .val (.int x), s4] st h = E_ d mX0_nearest 57 [s0, s1, s2, .val (.int x), s4] (.int x :: st) h := e_go dX0_nearest_56 rfl rfl
theorem wX0_nearest_57 : E_ d mX0_nearest 57 ls (.int y :: .int x :: st) h = E_ d mX0_nearest 58 ls (.int (x + y) :: st) h := e_go dX0_nearest_57 rfl rfl
theorem wX0_nearest_58 : E_ d mX0_nearest 58 [s0, s1, s2, s3, s4] (.int x :: st) h = E_ d mX0_nearest 60 [s0, s1, s2, xk s3, .val (.int x)] st h := e_go dX0_nearest_58 rfl rfl
theorem wX0_nearest_60 : E_ d mX0_nearest 60 ls st h = E_ d mX0_nearest 3 ls st h := e_gt dX0_nearest_60 rfl
theorem wX0_nearest_63 : E_ d mX0_nearest 63 ls st h = E_ d mX0_nearest 64 ls (.int ((-1)) :: st) h := e_iconst dX0_nearest_63 kiconst_m1 rfl
theorem wX0_nearest_64 : E_ d mX0_nearest 64 ls [.int x] h = some (some (.int x), h) := e_rt dX0_nearest_64 rfl rfl
/-! FootOut.slip -/
theorem wX0_slip_0 : E_ d mX0_slip 0 [.val (.ref a), s1, s2, s3, s4, s5, s6, s7, s8] st h = E_ d mX0_slip 1 [.val (.ref a), s1, s2, s3, s4, s5, s6, s7, s8] (.ref a :: st) h := e_go dX0_slip_0 rfl rfl
theorem wX0_slip_1 : E_ d mX0_slip 1 [s0, .val (.int x), s2, s3, s4, s5, s6, s7, s8] st h = E_ d mX0_slip 2 [s0, .val (.int x), s2, s3, s4, s5, s6, s7, s8] (.int x :: st) h := e_go dX0_slip_1 rfl rfl
theorem wX0_slip_2 (ht : oT h a = 1) : E_ (d + 1) mX0_slip 2 ls [.int x1, .ref a] h = (C_ d mX0_isCounted [.ref a, .int x1] h).bind fun r => E_ (d + 1) mX0_slip 5 ls (xpu r.1 []) r.2 := e_vir dX0_slip_2 rfl rfl rfl rfl rfl rfl (Nat.le_of_ble_eq_true rfl) (Nat.le_of_ble_eq_true rfl) ht
theorem wX0_slip_5 : E_ d mX0_slip 5 ls (.int x :: st) h = if x = 0 then E_ d mX0_slip 16 ls st h else E_ d mX0_slip 8 ls st h := e_zeq dX0_slip_5 rfl rfl
theorem wX0_slip_8 : E_ d mX0_slip 8 [.val (.ref a), s1, s2, s3, s4, s5, s6, s7, s8] st h = E_ d mX0_slip 9 [.val (.ref a), s1, s2, s3, s4, s5, s6, s7, s8] (.ref a :: st) h := e_go dX0_slip_8 rfl rfl
theorem wX0_slip_9 : E_ d mX0_slip 9 [s0, s1, .val (.int x), s3, s4, s5, s6, s7, s8] st h = E_ d mX0_slip 10 [s0, s1, .val (.int x), s3, s4, s5, s6, s7, s8] (.int x :: st) h := e_go dX0_slip_9 rfl rfl
theorem wX0_slip_10 (ht : oT h a = 1) : E_ (d + 1) mX0_slip 10 ls [.int x1, .ref a] h = (C_ d mX0_isCounted [.ref a, .int x1] h).bind fun r => E_ (d + 1) mX0_slip 13 ls (xpu r.1 []) r.2 := e_vir dX0_slip_10 rfl rfl rfl rfl rfl rfl (Nat.le_of_ble_eq_true rfl) (Nat.le_of_ble_eq_true rfl) ht
theorem wX0_slip_13 : E_ d mX0_slip 13 ls (.int x :: st) h = if x = 0 then E_ d mX0_slip 16 ls st h else E_ d mX0_slip 23 ls st h := e_zne dX0_slip_13 rfl rfl
theorem wX0_slip_16 : E_ d mX0_slip 16 [.val (.ref a), s1, s2, s3, s4, s5, s6, s7, s8] st h = E_ d mX0_slip 17 [.val (.ref a), s1, s2, s3, s4, s5, s6, s7, s8] (.ref a :: st) h := e_go dX0_slip_16 rfl rfl
theorem wX0_slip_17 : E_ d mX0_slip 17 ls st h = E_ d mX0_slip 19 ls (.int ((-100)) :: st) h := e_bipush dX0_slip_17 kbipush_m100 rfl
theorem wX0_slip_19 (ht : oT h a = 1) : E_ (d + 1) mX0_slip 19 ls [.int x1, .ref a] h = (C_ d mX0_no [.ref a, .int x1] h).bind fun r => E_ (d + 1) mX0_slip 22 ls (xpu r.1 []) r.2 := e_vir dX0_slip_19 rfl rfl rfl rfl rfl rfl (Nat.le_of_ble_eq_true rfl) (Nat.le_of_ble_eq_true rfl) ht
theorem wX0_slip_22 : E_ d mX0_slip 22 ls [.int x] h = some (some (.int x), h) := e_rt dX0_slip_22 rfl rfl
theorem wX0_slip_23 : E_ d mX0_slip 23 ls st h = E_ d mX0_slip 24 ls (.int (nI 0) :: st) h := e_iconst dX0_slip_23 kiconst_0 rfl
theorem wX0_slip_24 : E_ d mX0_slip 24 [s0, s1, s2, s3, s4, s5, s6, s7, s8] (.int x :: st) h = E_ d mX0_slip 25 [s0, s1, xk s2, .val (.int x), s4, s5, s6, s7, s8] st h := e_go dX0_slip_24 rfl rfl
theorem wX0_slip_25 : E_ d mX0_slip 25 [.val (.ref a), s1, s2, s3, s4, s5, s6, s7, s8] st h = E_ d mX0_slip 26 [.val (.ref a), s1, s2, s3, s4, s5, s6, s7, s8] (.ref a :: st) h := e_go dX0_slip_25 rfl rfl
theorem wX0_slip_26 : E_ d mX0_slip 26 [s0, .val (.int x), s2, s3, s4, s5, s6, s7, s8] st h = E_ d mX0_slip 27 [s0, .val (.int x), s2, s3, s4, s5, s6, s7, s8] (.int x :: st) h := e_go dX0_slip_26 rfl rfl
theorem wX0_slip_27 : E_ d mX0_slip 27 [s0, s1, .val (.int x), s3, s4, s5, s6, s7, s8] st h = E_ d mX0_slip 28 [s0, s1, .val (.int x), s3, s4, s5, s6, s7, s8] (.int x :: st) h := e_go dX0_slip_27 rfl rfl
theorem wX0_slip_28 : E_ d mX0_slip 28 ls st h = E_ d mX0_slip 29 ls (.int (nI 0) :: st) h := e_iconst dX0_slip_28 kiconst_0 rfl
theorem wX0_slip_29 (ht : oT h a = 1) : E_ (d + 1) mX0_slip 29 ls [.int x3, .int x2, .int x1, .ref a] h = (C_ d mX0_slips [.ref a, .int x1, .int x2, .int x3] h).bind fun r => E_ (d + 1) mX0_slip 32 ls (xpu r.1 []) r.2 := e_vir dX0_slip_29 rfl rfl rfl rfl rfl rfl (Nat.le_of_ble_eq_true rfl) (Nat.le_of_ble_eq_true rfl) ht
theorem wX0_slip_32 : E_ d mX0_slip 32 [.val (.ref a), s1, s2, s3, s4, s5, s6, s7, s8] st h = E_ d mX0_slip 33 [.val (.ref a), s1, s2, s3, s4, s5, s6, s7, s8] (.ref a :: st) h := e_go dX0_slip_32 rfl rfl
theorem wX0_slip_33 (ht : oT h a = 1) : E_ d mX0_slip 33 ls (.ref a :: st) h = E_ d mX0_slip 36 ls (.long (oL h a 15) :: st) h := e_getL dX0_slip_33 rfl rfl ht
theorem wX0_slip_36 : E_ d mX0_slip 36 [s0, s1, s2, s3, s4, s5, s6, s7, s8] (.long u :: st) h = E_ d mX0_slip 38 [s0, s1, s2, xk s3, .val (.long u), .unset, s6, s7, s8] st h := e_go dX0_slip_36 rfl rfl
theorem wX0_slip_38 : E_ d mX0_slip 38 [.val (.ref a), s1, s2, s3, s4, s5, s6, s7, s8] st h = E_ d mX0_slip 39 [.val (.ref a), s1, s2, s3, s4, s5, s6, s7, s8] (.ref a :: st) h := e_go dX0_slip_38 rfl rfl
theorem wX0_slip_39 (ht : oT h a = 1) : E_ d mX0_slip 39 ls (.ref a :: st) h = E_ d mX0_slip 42 ls (.int (oI h a 16) :: st) h := e_getI dX0_slip_39 rfl rfl ht
theorem wX0_slip_42 : E_ d mX0_slip 42 [s0, s1, s2, s3, s4, s5, s6, s7, s8] (.int x :: st) h = E_ d mX0_slip 44 [s0, s1, s2, s3, s4, xk s5, .val (.int x), s7, s8] st h := e_go dX0_slip_42 rfl rfl
theorem wX0_slip_44 : E_ d mX0_slip 44 ls st h = E_ d mX0_slip 45 ls (.int (nI 1) :: st) h := e_iconst dX0_slip_44 kiconst_1 rfl
theorem wX0_slip_45 : E_ d mX0_slip 45 [s0, s1, s2, s3, s4, s5, s6, s7, s8] (.int x :: st) h = E_ d mX0_slip 47 [s0, s1, s2, s3, s4, s5, xk s6, .val (.int x), s8] st h := e_go dX0_slip_45 rfl rfl
theorem wX0_slip_47 : E_ d mX0_slip 47 [s0, s1, s2, s3, s4, s5, s6, .val (.int x), s8] st h = E_ d mX0_slip 49 [s0, s1, s2, s3, s4, s5, s6, .val (.int x), s8] (.int x :: st) h := e_go dX0_slip_47 rfl rfl
theorem wX0_slip_49 : E_ d mX0_slip 49 ls st h = E_ d mX0_slip 50 ls (.int (nI 3) :: st) h := e_iconst dX0_slip_49 kiconst_3 rfl
theorem wX0_slip_50 : E_ d mX0_slip 50 ls (.int y :: .int x :: st) h = if y < x then E_ d mX0_slip 136 ls st h else E_ d mX0_slip 53 ls st h := e_igt dX0_slip_50 rfl rfl
theorem wX0_slip_53 : E_ d mX0_slip 53 [s0, s1, s2, s3, s4, s5, s6, .val (.int x), s8] st h = E_ d mX0_slip 55 [s0, s1, s2, s3, s4, s5, s6, .val (.int x), s8] (.int x :: st) h := e_go dX0_slip_53 rfl rfl
theorem wX0_slip_55 : E_ d mX0_slip 55 ls (.int x :: st) h = E_ d mX0_slip 56 ls (.int (-x) :: st) h := e_go dX0_slip_55 rfl rfl
theorem wX0_slip_56 : E_ d mX0_slip 56 [s0, s1, s2, s3, s4, s5, s6, s7, s8] (.int x :: st) h = E_ d mX0_slip 58 [s0, s1, s2, s3, s4, s5, s6, xk s7, .val (.int x)] st h := e_go dX0_slip_56 rfl rfl
theorem wX0_slip_58 : E_ d mX0_slip 58 [s0, s1, s2, s3, s4, s5, s6, s7, .val (.int x)] st h = E_ d mX0_slip 60 [s0, s1, s2, s3, s4, s5, s6, s7, .val (.int x)] (.int x :: st) h := e_go dX0_slip_58 rfl rfl
theorem wX0_slip_60 : E_ d mX0_slip 60 [s0, s1, s2, s3, s4, s5, s6, .val (.int x), s8] st h = E_ d mX0_slip 62 [s0, s1, s2, s3, s4, s5, s6, .val (.int x), s8] (.int x :: st) h := e_go dX0_slip_60 rfl rfl
theorem wX0_slip_62 : E_ d mX0_slip 62 ls (.int y :: .int x :: st) h = if y < x then E_ d mX0_slip 130 ls st h else E_ d mX0_slip 65 ls st h := e_igt dX0_slip_62 rfl rfl
theorem wX0_slip_65 : E_ d mX0_slip 65 [.val (.ref a), s1, s2, s3, s4, s5, s6, s7, s8] st h = E_ d mX0_slip 66 [.val (.ref a), s1, s2, s3, s4, s5, s6, s7, s8] (.ref a :: st) h := e_go dX0_slip_65 rfl rfl
theorem wX0_slip_66 : E_ d mX0_slip 66 [s0, .val (.int x), s2, s3, s4, s5, s6, s7, s8] st h = E_ d mX0_slip 67 [s0, .val (.int x), s2, s3, s4, s5, s6, s7, s8] (.int x :: st) h := e_go dX0_slip_66 rfl rfl
theorem wX0_slip_67 : E_ d mX0_slip 67 [s0, s1, .val (.int x), s3, s4, s5, s6, s7, s8] st h = E_ d mX0_slip 68 [s0, s1, .val (.int x), s3, s4, s5, s6, s7, s8] (.int x :: st) h := e_go dX0_slip_67 rfl rfl
theorem wX0_slip_68 : E_ d mX0_slip 68 [s0, s1, s2, s3, s4, s5, s6, s7, .val (.int x)] st h = E_ d mX0_slip 70 [s0, s1, s2, s3, s4, s5, s6, s7, .val (.int x)] (.int x :: st) h := e_go dX0_slip_68 rfl rfl
theorem wX0_slip_70 (ht : oT h a = 1) : E_ (d + 1) mX0_slip 70 ls [.int x3, .int x2, .int x1, .ref a] h = (C_ d mX0_slips [.ref a, .int x1, .int x2, .int x3] h).bind fun r => E_ (d + 1) mX0_slip 73 ls (xpu r.1 []) r.2 := e_vir dX0_slip_70 rfl rfl rfl rfl rfl rfl (Nat.le_of_ble_eq_true rfl) (Nat.le_of_ble_eq_true rfl) ht
theorem wX0_slip_73 : E_ d mX0_slip 73 [.val (.ref a), s1, s2, s3, s4, s5, s6, s7, s8] st h = E_ d mX0_slip 74 [.val (.ref a), s1, s2, s3, s4, s5, s6, s7, s8] (.ref a :: st) h := e_go dX0_slip_73 rfl rfl
theorem wX0_slip_74 (ht : oT h a = 1) : E_ d mX0_slip 74 ls (.ref a :: st) h = E_ d mX0_slip 77 ls (.int (oI h a 16) :: st) h := e_getI dX0_slip_74 rfl rfl ht
theorem wX0_slip_77 : E_ d mX0_slip 77 ls (.int x :: st) h = if x = 0 then E_ d mX0_slip 118 ls st h else E_ d mX0_slip 80 ls st h := e_zeq dX0_slip_77 rfl rfl
theorem wX0_slip_80 : E_ d mX0_slip 80 [.val (.ref a), s1, s2, s3, s4, s5, s6, s7, s8] st h = E_ d mX0_slip 81 [.val (.ref a), s1, s2, s3, s4, s5, s6, s7, s8] (.ref a :: st) h := e_go dX0_slip_80 rfl rfl
theorem wX0_slip_81 (ht : oT h a = 1) : E_ d mX0_slip 81 ls (.ref a :: st) h = E_ d mX0_slip 84 ls (.long (oL h a 15) :: st) h := e_getL dX0_slip_81 rfl rfl ht
theorem wX0_slip_84 : E_ d mX0_slip 84 [s0, s1, s2, s3, s4, s5, .val (.int x), s7, s8] st h = E_ d mX0_slip 86 [s0, s1, s2, s3, s4, s5, .val (.int x), s7, s8] (.int x :: st) h := e_go dX0_slip_84 rfl rfl
theorem wX0_slip_86 : E_ d mX0_slip 86 ls (.int x :: st) h = E_ d mX0_slip 87 ls (.long x.toInt64 :: st) h := e_go dX0_slip_86 rfl rfl
theorem wX0_slip_87 : E_ d mX0_slip 87 ls (.long v :: .long u :: st) h = E_ d mX0_slip 88 ls (.long (u * v) :: st) h := e_go dX0_slip_87 rfl rfl
theorem wX0_slip_88 : E_ d mX0_slip 88 [s0, s1, s2, s3, .val (.long u), s5, s6, s7, s8] st h = E_ d mX0_slip 90 [s0, s1, s2, s3, .val (.long u), s5, s6, s7, s8] (.long u :: st) h := e_go dX0_slip_88 rfl rfl
theorem wX0_slip_90 : E_ d mX0_slip 90 [.val (.ref a), s1, s2, s3, s4, s5, s6, s7, s8] st h = E_ d mX0_slip 91 [.val (.ref a), s1, s2, s3, s4, s5, s6, s7, s8] (.ref a :: st) h := e_go dX0_slip_90 rfl rfl
theorem wX0_slip_91 (ht : oT h a = 1) : E_ d mX0_slip 91 ls (.ref a :: st) h = E_ d mX0_slip 94 ls (.int (oI h a 16) :: st) h := e_getI dX0_slip_91 rfl rfl ht
theorem wX0_slip_94 : E_ d mX0_slip 94 ls (.int x :: st) h = E_ d mX0_slip 95 ls (.long x.toInt64 :: st) h := e_go dX0_slip_94 rfl rfl
theorem wX0_slip_95 : E_ d mX0_slip 95 ls (.long v :: .long u :: st) h = E_ d mX0_slip 96 ls (.long (u * v) :: st) h := e_go dX0_slip_95 rfl rfl
theorem wX0_slip_96 : E_ d mX0_slip 96 ls (.long v :: .long u :: st) h = E_ d mX0_slip 97 ls (.int (lg_cmp u v) :: st) h := e_go dX0_slip_96 rfl rfl
theorem wX0_slip_97 : E_ d mX0_slip 97 ls (.int x :: st) h = if x < 0 then E_ d mX0_slip 103 ls st h else E_ d mX0_slip 100 ls st h := e_zlt dX0_slip_97 rfl rfl
theorem wX0_slip_100 : E_ d mX0_slip 100 ls st h = E_ d mX0_slip 118 ls st h := e_gt dX0_slip_100 rfl
theorem wX0_slip_103 : E_ d mX0_slip 103 [s0, s1, s2, s3, s4, s5, s6, s7, .val (.int x)] st h = E_ d mX0_slip 105 [s0, s1, s2, s3, s4, s5, s6, s7, .val (.int x)] (.int x :: st) h := e_go dX0_slip_103 rfl rfl
theorem wX0_slip_105 : E_ d mX0_slip 105 [s0, s1, s2, s3, s4, s5, s6, s7, s8] (.int x :: st) h = E_ d mX0_slip 106 [s0, s1, xk s2, .val (.int x), s4, s5, s6, s7, s8] st h := e_go dX0_slip_105 rfl rfl
theorem wX0_slip_106 : E_ d mX0_slip 106 [.val (.ref a), s1, s2, s3, s4, s5, s6, s7, s8] st h = E_ d mX0_slip 107 [.val (.ref a), s1, s2, s3, s4, s5, s6, s7, s8] (.ref a :: st) h := e_go dX0_slip_106 rfl rfl
theorem wX0_slip_107 (ht : oT h a = 1) : E_ d mX0_slip 107 ls (.ref a :: st) h = E_ d mX0_slip 110 ls (.long (oL h a 15) :: st) h := e_getL dX0_slip_107 rfl rfl ht
theorem wX0_slip_110 : E_ d mX0_slip 110 [s0, s1, s2, s3, s4, s5, s6, s7, s8] (.long u :: st) h = E_ d mX0_slip 112 [s0, s1, s2, xk s3, .val (.long u), .unset, s6, s7, s8] st h := e_go dX0_slip_110 rfl rfl
theorem wX0_slip_112 : E_ d mX0_slip 112 [.val (.ref a), s1, s2, s3, s4, s5, s6, s7, s8] st h = E_ d mX0_slip 113 [.val (.ref a), s1, s2, s3, s4, s5, s6, s7, s8] (.ref a :: st) h := e_go dX0_slip_112 rfl rfl
theorem wX0_slip_113 (ht : oT h a = 1) : E_ d mX0_slip 113 ls (.ref a :: st) h = E_ d mX0_slip 116 ls (.int (oI h a 16) :: st) h := e_getI dX0_slip_113 rfl rfl ht
theorem wX0_slip_116 : E_ d mX0_slip 116 [s0, s1, s2, s3, s4, s5, s6, s7, s8] (.int x :: st) h = E_ d mX0_slip 118 [s0, s1, s2, s3, s4, xk s5, .val (.int x), s7, s8] st h := e_go dX0_slip_116 rfl rfl
theorem wX0_slip_118 : E_ d mX0_slip 118 [s0, s1, s2, s3, s4, s5, s6, s7, .val (.int x)] st h = E_ d mX0_slip 120 [s0, s1, s2, s3, s4, s5, s6, s7, .val (.int x)] (.int x :: st) h := e_go dX0_slip_118 rfl rfl
theorem wX0_slip_120 : E_ d mX0_slip 120 ls st h = E_ d mX0_slip 121 ls (.int (nI 2) :: st) h := e_iconst dX0_slip_120 kiconst_2 rfl
theorem wX0_slip_121 : E_ d mX0_slip 121 [s0, s1, s2, s3, s4, s5, s6, .val (.int x), s8] st h = E_ d mX0_slip 123 [s0, s1, s2, s3, s4, s5, s6, .val (.int x), s8] (.int x :: st) h := e_go dX0_slip_121 rfl rfl
theorem wX0_slip_123 : E_ d mX0_slip 123 ls (.int y :: .int x :: st) h = E_ d mX0_slip 124 ls (.int (x * y) :: st) h := e_go dX0_slip_123 rfl rfl
theorem wX0_slip_124 : E_ d mX0_slip 124 ls (.int y :: .int x :: st) h = E_ d mX0_slip 125 ls (.int (x + y) :: st) h := e_go dX0_slip_124 rfl rfl
theorem wX0_slip_125 : E_ d mX0_slip 125 [s0, s1, s2, s3, s4, s5, s6, s7, s8] (.int x :: st) h = E_ d mX0_slip 127 [s0, s1, s2, s3, s4, s5, s6, xk s7, .val (.int x)] st h := e_go dX0_slip_125 rfl rfl
theorem wX0_slip_127 : E_ d mX0_slip 127 ls st h = E_ d mX0_slip 58 ls st h := e_gt dX0_slip_127 rfl
theorem wX0_slip_130 : E_ d mX0_slip 130 [s0, s1, s2, s3, s4, s5, s6, .val (.int x), s8] st h = E_ d mX0_slip 133 [s0, s1, s2, s3, s4, s5, xk s6, .val (.int (x + nI 1)), s8] st h := by rw [← kiinc_1]; exact e_go dX0_slip_130 rfl rfl
theorem wX0_slip_133 : E_ d mX0_slip 133 ls st h = E_ d mX0_slip 47 ls st h := e_gt dX0_slip_133 rfl
theorem wX0_slip_136 : E_ d mX0_slip 136 [s0, s1, s2, .val (.int x), s4, s5, s6, s7, s8] st h = E_ d mX0_slip 137 [s0, s1, s2, .val (.int x), s4, s5, s6, s7, s8] (.int x :: st) h := e_go dX0_slip_136 rfl rfl
theorem wX0_slip_137 : E_ d mX0_slip 137 ls [.int x] h = some (some (.int x), h) := e_rt dX0_slip_137 rfl rfl
/-! FootOut.isCounted -/
theorem wX0_isCounted_0 : E_ d mX0_isCounted 0 [s0, .val (.int x)] st h = E_ d mX0_isCounted 1 [s0, .val (.int x)] (.int x :: st) h := e_go dX0_isCounted_0 rfl rfl
theorem wX0_isCounted_1 : E_ (d + 1) mX0_isCounted 1 ls [.int x1] h = (C_ d mX0_isRow [.int x1] h).bind fun r => E_ (d + 1) mX0_isCounted 4 ls (xpu r.1 []) r.2 := e_call dX0_isCounted_1 rfl rfl
theorem wX0_isCounted_4 : E_ d mX0_isCounted 4 ls (.int x :: st) h = if x = 0 then E_ d mX0_isCounted 41 ls st h else E_ d mX0_isCounted 7 ls st h := e_zeq dX0_isCounted_4 rfl rfl
theorem wX0_isCounted_7 : E_ d mX0_isCounted 7 [.val (.ref a), s1] st h = E_ d mX0_isCounted 8 [.val (.ref a), s1] (.ref a :: st) h := e_go dX0_isCounted_7 rfl rfl
theorem wX0_isCounted_8 : E_ d mX0_isCounted 8 [s0, .val (.int x)] st h = E_ d mX0_isCounted 9 [s0, .val (.int x)] (.int x :: st) h := e_go dX0_isCounted_8 rfl rfl
theorem wX0_isCounted_9 (ht : oT h a = 1) : E_ (d + 1) mX0_isCounted 9 ls [.int x1, .ref a] h = (C_ d mX0_countsFault [.ref a, .int x1] h).bind fun r => E_ (d + 1) mX0_isCounted 12 ls (xpu r.1 []) r.2 := e_vir dX0_isCounted_9 rfl rfl rfl rfl rfl rfl (Nat.le_of_ble_eq_true rfl) (Nat.le_of_ble_eq_true rfl) ht
theorem wX0_isCounted_12 : E_ d mX0_isCounted 12 ls (.int x :: st) h = if x = 0 then E_ d mX0_isCounted 15 ls st h else E_ d mX0_isCounted 41 ls st h := e_zne dX0_isCounted_12 rfl rfl
theorem wX0_isCounted_15 : E_ d mX0_isCounted 15 [.val (.ref a), s1] st h = E_ d mX0_isCounted 16 [.val (.ref a), s1] (.ref a :: st) h := e_go dX0_isCounted_15 rfl rfl
theorem wX0_isCounted_16 (ht : oT h a = 1) : E_ d mX0_isCounted 16 ls (.ref a :: st) h = E_ d mX0_isCounted 19 ls (va_rf (oR h a 17) :: st) h := e_getR0 dX0_isCounted_16 rfl rfl ht
theorem wX0_isCounted_19 : E_ d mX0_isCounted 19 [s0, .val (.int x)] st h = E_ d mX0_isCounted 20 [s0, .val (.int x)] (.int x :: st) h := e_go dX0_isCounted_19 rfl rfl
theorem wX0_isCounted_20 (ht : 45 ≤ oT h a ∧ oT h a ≤ 48) (hi : xix x (oN h a) = true) : E_ d mX0_isCounted 20 ls (.int x :: .ref a :: st) h = E_ d mX0_isCounted 21 ls (va_rf (oR h a x.toNatClampNeg) :: st) h := e_aald dX0_isCounted_20 rfl ht hi
theorem wX0_isCounted_21 (ht : oT h a = 6) : E_ (d + 1) mX0_isCounted 21 ls [.ref a] h = (C_ d mX4_many [.ref a] h).bind fun r => E_ (d + 1) mX0_isCounted 24 ls (xpu r.1 []) r.2 := e_vir dX0_isCounted_21 rfl rfl rfl rfl rfl rfl (Nat.le_of_ble_eq_true rfl) (Nat.le_of_ble_eq_true rfl) ht
theorem wX0_isCounted_24 : E_ d mX0_isCounted 24 ls (.int x :: st) h = if 0 < x then E_ d mX0_isCounted 27 ls st h else E_ d mX0_isCounted 41 ls st h := e_zle dX0_isCounted_24 rfl rfl
theorem wX0_isCounted_27 : E_ d mX0_isCounted 27 [.val (.ref a), s1] st h = E_ d mX0_isCounted 28 [.val (.ref a), s1] (.ref a :: st) h := e_go dX0_isCounted_27 rfl rfl
theorem wX0_isCounted_28 : E_ d mX0_isCounted 28 [s0, .val (.int x)] st h = E_ d mX0_isCounted 29 [s0, .val (.int x)] (.int x :: st) h := e_go dX0_isCounted_28 rfl rfl
theorem wX0_isCounted_29 : E_ d mX0_isCounted 29 ls st h = E_ d mX0_isCounted 30 ls (.int (nI 0) :: st) h := e_iconst dX0_isCounted_29 kiconst_0 rfl
theorem wX0_isCounted_30 (ht : oT h a = 1) : E_ (d + 1) mX0_isCounted 30 ls [.int x2, .int x1, .ref a] h = (C_ d mX0_filledAt [.ref a, .int x1, .int x2] h).bind fun r => E_ (d + 1) mX0_isCounted 33 ls (xpu r.1 []) r.2 := e_vir dX0_isCounted_30 rfl rfl rfl rfl rfl rfl (Nat.le_of_ble_eq_true rfl) (Nat.le_of_ble_eq_true rfl) ht
theorem wX0_isCounted_33 : E_ d mX0_isCounted 33 ls st h = E_ d mX0_isCounted 34 ls (.int ((-1)) :: st) h := e_iconst dX0_isCounted_33 kiconst_m1 rfl
theorem wX0_isCounted_34 : E_ d mX0_isCounted 34 ls (.int y :: .int x :: st) h = if x = y then E_ d mX0_isCounted 41 ls st h else E_ d mX0_isCounted 37 ls st h := e_ieq dX0_isCounted_34 rfl rfl
theorem wX0_isCounted_37 : E_ d mX0_isCounted 37 ls st h = E_ d mX0_isCounted 38 ls (.int (nI 1) :: st) h := e_iconst dX0_isCounted_37 kiconst_1 rfl
theorem wX0_isCounted_38 : E_ d mX0_isCounted 38 ls st h = E_ d mX0_isCounted 42 ls st h := e_gt dX0_isCounted_38 rfl
theorem wX0_isCounted_41 : E_ d mX0_isCounted 41 ls st h = E_ d mX0_isCounted 42 ls (.int (nI 0) :: st) h := e_iconst dX0_isCounted_41 kiconst_0 rfl
theorem wX0_isCounted_42 (hx : x = 0 ∨ x = 1) : E_ d mX0_isCounted 42 ls [.int x] h = some (some (.int x), h) := e_rtZ dX0_isCounted_42 rfl hx
/-! FootOut.slips -/
theorem wX0_slips_0 : E_ d mX0_slips 0 [.val (.ref a), s1, s2, s3, s4] st h = E_ d mX0_slips 1 [.val (.ref a), s1, s2, s3, s4] (.ref a :: st) h := e_go dX0_slips_0 rfl rfl
theorem wX0_slips_1 : E_ d mX0_slips 1 ls st h = E_ d mX0_slips 2 ls (.long 0 :: st) h := e_go dX0_slips_1 rfl rfl
theorem wX0_slips_2 (ht : oT h a = 1) : E_ d mX0_slips 2 ls (.long u :: .ref a :: st) h = E_ d mX0_slips 5 ls st (pL h a (va_up (oL h a) 15 u)) := e_putL dX0_slips_2 rfl rfl ht
theorem wX0_slips_5 : E_ d mX0_slips 5 [.val (.ref a), s1, s2, s3, s4] st h = E_ d mX0_slips 6 [.val (.ref a), s1, s2, s3, s4] (.ref a :: st) h := e_go dX0_slips_5 rfl rfl
theorem wX0_slips_6 : E_ d mX0_slips 6 ls st h = E_ d mX0_slips 7 ls (.int (nI 0) :: st) h := e_iconst dX0_slips_6 kiconst_0 rfl
theorem wX0_slips_7 (ht : oT h a = 1) : E_ d mX0_slips 7 ls (.int x :: .ref a :: st) h = E_ d mX0_slips 10 ls st (pI h a (va_up (oI h a) 16 x)) := e_putI dX0_slips_7 rfl rfl ht
theorem wX0_slips_10 : E_ d mX0_slips 10 ls st h = E_ d mX0_slips 11 ls (.int (nI 0) :: st) h := e_iconst dX0_slips_10 kiconst_0 rfl
theorem wX0_slips_11 : E_ d mX0_slips 11 [s0, s1, s2, s3, s4] (.int x :: st) h = E_ d mX0_slips 13 [s0, s1, s2, xk s3, .val (.int x)] st h := e_go dX0_slips_11 rfl rfl
theorem wX0_slips_13 : E_ d mX0_slips 13 [s0, s1, s2, s3, .val (.int x)] st h = E_ d mX0_slips 15 [s0, s1, s2, s3, .val (.int x)] (.int x :: st) h := e_go dX0_slips_13 rfl rfl
theorem wX0_slips_15 : E_ d mX0_slips 15 [.val (.ref a), s1, s2, s3, s4] st h = E_ d mX0_slips 16 [.val (.ref a), s1, s2, s3, s4] (.ref a :: st) h := e_go dX0_slips_15 rfl rfl
theorem wX0_slips_16 (ht : oT h a = 1) : E_ d mX0_slips 16 ls (.ref a :: st) h = E_ d mX0_slips 19 ls (va_rf (oR h a 17) :: st) h := e_getR0 dX0_slips_16 rfl rfl ht
theorem wX0_slips_19 : E_ d mX0_slips 19 [s0, .val (.int x), s2, s3, s4] st h = E_ d mX0_slips 20 [s0, .val (.int x), s2, s3, s4] (.int x :: st) h := e_go dX0_slips_19 rfl rfl
theorem wX0_slips_20 (ht : 45 ≤ oT h a ∧ oT h a ≤ 48) (hi : xix x (oN h a) = true) : E_ d mX0_slips 20 ls (.int x :: .ref a :: st) h = E_ d mX0_slips 21 ls (va_rf (oR h a x.toNatClampNeg) :: st) h := e_aald dX0_slips_20 rfl ht hi
theorem wX0_slips_21 (ht : oT h a = 6) : E_ (d + 1) mX0_slips 21 ls [.ref a, .int x1] h = (C_ d mX4_many [.ref a] h).bind fun r => E_ (d + 1) mX0_slips 24 ls (xpu r.1 [.int x1]) r.2 := e_vir dX0_slips_21 rfl rfl rfl rfl rfl rfl (Nat.le_of_ble_eq_true rfl) (Nat.le_of_ble_eq_true rfl) ht
theorem wX0_slips_24 : E_ d mX0_slips 24 ls (.int y :: .int x :: st) h = if x < y then E_ d mX0_slips 27 ls st h else E_ d mX0_slips 100 ls st h := e_ige dX0_slips_24 rfl rfl
theorem wX0_slips_27 : E_ d mX0_slips 27 [s0, s1, s2, s3, .val (.int x)] st h = E_ d mX0_slips 29 [s0, s1, s2, s3, .val (.int x)] (.int x :: st) h := e_go dX0_slips_27 rfl rfl
theorem wX0_slips_29 : E_ d mX0_slips 29 [s0, s1, s2, .val (.int x), s4] st h = E_ d mX0_slips 30 [s0, s1, s2, .val (.int x), s4] (.int x :: st) h := e_go dX0_slips_29 rfl rfl
theorem wX0_slips_30 : E_ d mX0_slips 30 ls (.int y :: .int x :: st) h = E_ d mX0_slips 31 ls (.int (x + y) :: st) h := e_go dX0_slips_30 rfl rfl
theorem wX0_slips_31 : E_ d mX0_slips 31 ls (.int x :: st) h = E_ d mX0_slips 32 ls (.long x.toInt64 :: st) h := e_go dX0_slips_31 rfl rfl
theorem wX0_slips_32 : E_ d mX0_slips 32 ls st h = E_ d mX0_slips 33 ls (.long 0 :: st) h := e_go dX0_slips_32 rfl rfl
theorem wX0_slips_33 : E_ d mX0_slips 33 [.val (.ref a), s1, s2, s3, s4] st h = E_ d mX0_slips 34 [.val (.ref a), s1, s2, s3, s4] (.ref a :: st) h := e_go dX0_slips_33 rfl rfl
theorem wX0_slips_34 (ht : oT h a = 1) : E_ d mX0_slips 34 ls (.ref a :: st) h = E_ d mX0_slips 37 ls (va_rf (oR h a 17) :: st) h := e_getR0 dX0_slips_34 rfl rfl ht
theorem wX0_slips_37 : E_ d mX0_slips 37 [s0, s1, .val (.int x), s3, s4] st h = E_ d mX0_slips 38 [s0, s1, .val (.int x), s3, s4] (.int x :: st) h := e_go dX0_slips_37 rfl rfl
theorem wX0_slips_38 (ht : 45 ≤ oT h a ∧ oT h a ≤ 48) (hi : xix x (oN h a) = true) : E_ d mX0_slips 38 ls (.int x :: .ref a :: st) h = E_ d mX0_slips 39 ls (va_rf (oR h a x.toNatClampNeg) :: st) h := e_aald dX0_slips_38 rfl ht hi
theorem wX0_slips_39 (ht : oT h a = 6) : E_ (d + 1) mX0_slips 39 ls [.ref a, .long u1, .long u2] h = (C_ d mX4_many [.ref a] h).bind fun r => E_ (d + 1) mX0_slips 42 ls (xpu r.1 [.long u1, .long u2]) r.2 := e_vir dX0_slips_39 rfl rfl rfl rfl rfl rfl (Nat.le_of_ble_eq_true rfl) (Nat.le_of_ble_eq_true rfl) ht
theorem wX0_slips_42 : E_ d mX0_slips 42 ls st h = E_ d mX0_slips 43 ls (.int (nI 1) :: st) h := e_iconst dX0_slips_42 kiconst_1 rfl
theorem wX0_slips_43 : E_ d mX0_slips 43 ls (.int y :: .int x :: st) h = E_ d mX0_slips 44 ls (.int (x - y) :: st) h := e_go dX0_slips_43 rfl rfl
theorem wX0_slips_44 : E_ d mX0_slips 44 ls (.int x :: st) h = E_ d mX0_slips 45 ls (.long x.toInt64 :: st) h := e_go dX0_slips_44 rfl rfl
theorem wX0_slips_45 : E_ (d + 1) mX0_slips 45 ls [.long u3, .long u2, .long u1] h = (C_ d mX0_in [.long u1, .long u2, .long u3] h).bind fun r => E_ (d + 1) mX0_slips 48 ls (xpu r.1 []) r.2 := e_call dX0_slips_45 rfl rfl
theorem wX0_slips_48 : E_ d mX0_slips 48 ls (.int x :: st) h = if x = 0 then E_ d mX0_slips 51 ls st h else E_ d mX0_slips 54 ls st h := e_zne dX0_slips_48 rfl rfl
theorem wX0_slips_51 : E_ d mX0_slips 51 ls st h = E_ d mX0_slips 94 ls st h := e_gt dX0_slips_51 rfl
theorem wX0_slips_54 : E_ d mX0_slips 54 [.val (.ref a), s1, s2, s3, s4] st h = E_ d mX0_slips 55 [.val (.ref a), s1, s2, s3, s4] (.ref a :: st) h := e_go dX0_slips_54 rfl rfl
theorem wX0_slips_55 : E_ d mX0_slips 55 ls (.ref a :: st) h = E_ d mX0_slips 56 ls (.ref a :: .ref a :: st) h := e_go dX0_slips_55 rfl rfl
theorem wX0_slips_56 (ht : oT h a = 1) : E_ d mX0_slips 56 ls (.ref a :: st) h = E_ d mX0_slips 59 ls (.long (oL h a 15) :: st) h := e_getL dX0_slips_56 rfl rfl ht
theorem wX0_slips_59 : E_ d mX0_slips 59 [.val (.ref a), s1, s2, s3, s4] st h = E_ d mX0_slips 60 [.val (.ref a), s1, s2, s3, s4] (.ref a :: st) h := e_go dX0_slips_59 rfl rfl
theorem wX0_slips_60 : E_ d mX0_slips 60 [s0, .val (.int x), s2, s3, s4] st h = E_ d mX0_slips 61 [s0, .val (.int x), s2, s3, s4] (.int x :: st) h := e_go dX0_slips_60 rfl rfl
theorem wX0_slips_61 : E_ d mX0_slips 61 [s0, s1, s2, s3, .val (.int x)] st h = E_ d mX0_slips 63 [s0, s1, s2, s3, .val (.int x)] (.int x :: st) h := e_go dX0_slips_61 rfl rfl
theorem wX0_slips_63 (ht : oT h a = 1) : E_ (d + 1) mX0_slips 63 ls [.int x2, .int x1, .ref a, .long u1, .ref r1] h = (C_ d mX0_filledAt [.ref a, .int x1, .int x2] h).bind fun r => E_ (d + 1) mX0_slips 66 ls (xpu r.1 [.long u1, .ref r1]) r.2 := e_vir dX0_slips_63 rfl rfl rfl rfl rfl rfl (Nat.le_of_ble_eq_true rfl) (Nat.le_of_ble_eq_true rfl) ht
theorem wX0_slips_66 : E_ d mX0_slips 66 [.val (.ref a), s1, s2, s3, s4] st h = E_ d mX0_slips 67 [.val (.ref a), s1, s2, s3, s4] (.ref a :: st) h := e_go dX0_slips_66 rfl rfl
theorem wX0_slips_67 : E_ d mX0_slips 67 [s0, s1, .val (.int x), s3, s4] st h = E_ d mX0_slips 68 [s0, s1, .val (.int x), s3, s4] (.int x :: st) h := e_go dX0_slips_67 rfl rfl
theorem wX0_slips_68 : E_ d mX0_slips 68 [s0, s1, s2, s3, .val (.int x)] st h = E_ d mX0_slips 70 [s0, s1, s2, s3, .val (.int x)] (.int x :: st) h := e_go dX0_slips_68 rfl rfl
theorem wX0_slips_70 : E_ d mX0_slips 70 [s0, s1, s2, .val (.int x), s4] st h = E_ d mX0_slips 71 [s0, s1, s2, .val (.int x), s4] (.int x :: st) h := e_go dX0_slips_70 rfl rfl
theorem wX0_slips_71 : E_ d mX0_slips 71 ls (.int y :: .int x :: st) h = E_ d mX0_slips 72 ls (.int (x + y) :: st) h := e_go dX0_slips_71 rfl rfl
theorem wX0_slips_72 (ht : oT h a = 1) : E_ (d + 1) mX0_slips 72 ls [.int x2, .int x1, .ref a, .int x3, .long u1, .ref r1] h = (C_ d mX0_filledAt [.ref a, .int x1, .int x2] h).bind fun r => E_ (d + 1) mX0_slips 75 ls (xpu r.1 [.int x3, .long u1, .ref r1]) r.2 := e_vir dX0_slips_72 rfl rfl rfl rfl rfl rfl (Nat.le_of_ble_eq_true rfl) (Nat.le_of_ble_eq_true rfl) ht
theorem wX0_slips_75 : E_ d mX0_slips 75 ls (.int y :: .int x :: st) h = E_ d mX0_slips 76 ls (.int (x - y) :: st) h := e_go dX0_slips_75 rfl rfl
theorem wX0_slips_76 : E_ d mX0_slips 76 ls [.int x1, .long u1, .ref r1] h = (xP 8 [.int x1] h).bind fun r => E_ d mX0_slips 79 ls (xpu r.1 [.long u1, .ref r1]) r.2 := e_staP dX0_slips_76 rfl (Nat.le_of_ble_eq_true rfl) rfl rfl rfl (Nat.le_of_ble_eq_true rfl)
theorem wX0_slips_79 : E_ d mX0_slips 79 ls (.int x :: st) h = E_ d mX0_slips 80 ls (.long x.toInt64 :: st) h := e_go dX0_slips_79 rfl rfl
theorem wX0_slips_80 : E_ d mX0_slips 80 ls (.long v :: .long u :: st) h = E_ d mX0_slips 81 ls (.long (u + v) :: st) h := e_go dX0_slips_80 rfl rfl
theorem wX0_slips_81 (ht : oT h a = 1) : E_ d mX0_slips 81 ls (.long u :: .ref a :: st) h = E_ d mX0_slips 84 ls st (pL h a (va_up (oL h a) 15 u)) := e_putL dX0_slips_81 rfl rfl ht
theorem wX0_slips_84 : E_ d mX0_slips 84 [.val (.ref a), s1, s2, s3, s4] st h = E_ d mX0_slips 85 [.val (.ref a), s1, s2, s3, s4] (.ref a :: st) h := e_go dX0_slips_84 rfl rfl
theorem wX0_slips_85 : E_ d mX0_slips 85 ls (.ref a :: st) h = E_ d mX0_slips 86 ls (.ref a :: .ref a :: st) h := e_go dX0_slips_85 rfl rfl
theorem wX0_slips_86 (ht : oT h a = 1) : E_ d mX0_slips 86 ls (.ref a :: st) h = E_ d mX0_slips 89 ls (.int (oI h a 16) :: st) h := e_getI dX0_slips_86 rfl rfl ht
theorem wX0_slips_89 : E_ d mX0_slips 89 ls st h = E_ d mX0_slips 90 ls (.int (nI 1) :: st) h := e_iconst dX0_slips_89 kiconst_1 rfl
theorem wX0_slips_90 : E_ d mX0_slips 90 ls (.int y :: .int x :: st) h = E_ d mX0_slips 91 ls (.int (x + y) :: st) h := e_go dX0_slips_90 rfl rfl
theorem wX0_slips_91 (ht : oT h a = 1) : E_ d mX0_slips 91 ls (.int x :: .ref a :: st) h = E_ d mX0_slips 94 ls st (pI h a (va_up (oI h a) 16 x)) := e_putI dX0_slips_91 rfl rfl ht
theorem wX0_slips_94 : E_ d mX0_slips 94 [s0, s1, s2, s3, .val (.int x)] st h = E_ d mX0_slips 97 [s0, s1, s2, xk s3, .val (.int (x + nI 1))] st h := by rw [← kiinc_1]; exact e_go dX0_slips_94 rfl rfl
theorem wX0_slips_97 : E_ d mX0_slips 97 ls st h = E_ d mX0_slips 13 ls st h := e_gt dX0_slips_97 rfl
theorem wX0_slips_100 : E_ d mX0_slips 100 ls [] h = some (none, h) := e_rt dX0_slips_100 rfl rfl
/-! FootOut.numbers -/
theorem wX0_numbers_0 : E_ d mX0_numbers 0 [s0, .val (.int x), s2, s3] st h = E_ d mX0_numbers 1 [s0, .val (.int x), s2, s3] (.int x :: st) h := e_go dX0_numbers_0 rfl rfl
theorem wX0_numbers_1 : E_ (d + 1) mX0_numbers 1 ls [.int x1] h = (C_ d mX0_isRow [.int x1] h).bind fun r => E_ (d + 1) mX0_numbers 4 ls (xpu r.1 []) r.2 := e_call dX0_numbers_1 rfl rfl
theorem wX0_numbers_4 : E_ d mX0_numbers 4 ls (.int x :: st) h = if x = 0 then E_ d mX0_numbers 19 ls st h else E_ d mX0_numbers 7 ls st h := e_zeq dX0_numbers_4 rfl rfl
theorem wX0_numbers_7 : E_ d mX0_numbers 7 [s0, s1, .val (.int x), s3] st h = E_ d mX0_numbers 8 [s0, s1, .val (.int x), s3] (.int x :: st) h := e_go dX0_numbers_7 rfl rfl
theorem wX0_numbers_8 : E_ d mX0_numbers 8 ls (.int x :: st) h = E_ d mX0_numbers 9 ls (.long x.toInt64 :: st) h := e_go dX0_numbers_8 rfl rfl
theorem wX0_numbers_9 : E_ d mX0_numbers 9 ls st h = E_ d mX0_numbers 10 ls (.long 0 :: st) h := e_go dX0_numbers_9 rfl rfl
theorem wX0_numbers_10 : E_ d mX0_numbers 10 ls st h = E_ d mX0_numbers 13 ls (.long (3) :: st) h := e_go dX0_numbers_10 rfl rfl
theorem wX0_numbers_13 : E_ (d + 1) mX0_numbers 13 ls [.long u3, .long u2, .long u1] h = (C_ d mX0_in [.long u1, .long u2, .long u3] h).bind fun r => E_ (d + 1) mX0_numbers 16 ls (xpu r.1 []) r.2 := e_call dX0_numbers_13 rfl rfl
theorem wX0_numbers_16 : E_ d mX0_numbers 16 ls (.int x :: st) h = if x = 0 then E_ d mX0_numbers 19 ls st h else E_ d mX0_numbers 26 ls st h := e_zne dX0_numbers_16 rfl rfl
theorem wX0_numbers_19 : E_ d mX0_numbers 19 [.val (.ref a), s1, s2, s3] st h = E_ d mX0_numbers 20 [.val (.ref a), s1, s2, s3] (.ref a :: st) h := e_go dX0_numbers_19 rfl rfl
theorem wX0_numbers_20 : E_ d mX0_numbers 20 ls st h = E_ d mX0_numbers 22 ls (.int ((-2)) :: st) h := e_bipush dX0_numbers_20 kbipush_m2 rfl
theorem wX0_numbers_22 (ht : oT h a = 1) : E_ (d + 1) mX0_numbers 22 ls [.int x1, .ref a] h = (C_ d mX0_no [.ref a, .int x1] h).bind fun r => E_ (d + 1) mX0_numbers 25 ls (xpu r.1 []) r.2 := e_vir dX0_numbers_22 rfl rfl rfl rfl rfl rfl (Nat.le_of_ble_eq_true rfl) (Nat.le_of_ble_eq_true rfl) ht
theorem wX0_numbers_25 : E_ d mX0_numbers 25 ls [.int x] h = some (some (.int x), h) := e_rt dX0_numbers_25 rfl rfl
theorem wX0_numbers_26 : E_ d mX0_numbers 26 [s0, s1, s2, .val (.int x)] st h = E_ d mX0_numbers 27 [s0, s1, s2, .val (.int x)] (.int x :: st) h := e_go dX0_numbers_26 rfl rfl
theorem wX0_numbers_27 : E_ d mX0_numbers 27 ls st h = E_ d mX0_numbers 29 ls (.int (nI 40) :: st) h := e_bipush dX0_numbers_27 kbipush_40 rfl
theorem wX0_numbers_29 : E_ d mX0_numbers 29 ls (.int y :: .int x :: st) h = if y < x then E_ d mX0_numbers 32 ls st h else E_ d mX0_numbers 39 ls st h := e_ile dX0_numbers_29 rfl rfl
theorem wX0_numbers_32 : E_ d mX0_numbers 32 [.val (.ref a), s1, s2, s3] st h = E_ d mX0_numbers 33 [.val (.ref a), s1, s2, s3] (.ref a :: st) h := e_go dX0_numbers_32 rfl rfl
theorem wX0_numbers_33 : E_ d mX0_numbers 33 ls st h = E_ d mX0_numbers 35 ls (.int ((-3)) :: st) h := e_bipush dX0_numbers_33 kbipush_m3 rfl
theorem wX0_numbers_35 (ht : oT h a = 1) : E_ (d + 1) mX0_numbers 35 ls [.int x1, .ref a] h = (C_ d mX0_no [.ref a, .int x1] h).bind fun r => E_ (d + 1) mX0_numbers 38 ls (xpu r.1 []) r.2 := e_vir dX0_numbers_35 rfl rfl rfl rfl rfl rfl (Nat.le_of_ble_eq_true rfl) (Nat.le_of_ble_eq_true rfl) ht
theorem wX0_numbers_38 : E_ d mX0_numbers 38 ls [.int x] h = some (some (.int x), h) := e_rt dX0_numbers_38 rfl rfl
theorem wX0_numbers_39 : E_ d mX0_numbers 39 [.val (.ref a), s1, s2, s3] st h = E_ d mX0_numbers 40 [.val (.ref a), s1, s2, s3] (.ref a :: st) h := e_go dX0_numbers_39 rfl rfl
theorem wX0_numbers_40 (ht : oT h a = 1) : E_ d mX0_numbers 40 ls (.ref a :: st) h = E_ d mX0_numbers 43 ls (va_rf (oR h a 17) :: st) h := e_getR0 dX0_numbers_40 rfl rfl ht
theorem wX0_numbers_43 : E_ d mX0_numbers 43 [s0, .val (.int x), s2, s3] st h = E_ d mX0_numbers 44 [s0, .val (.int x), s2, s3] (.int x :: st) h := e_go dX0_numbers_43 rfl rfl
theorem wX0_numbers_44 (ht : 45 ≤ oT h a ∧ oT h a ≤ 48) (hi : xix x (oN h a) = true) : E_ d mX0_numbers 44 ls (.int x :: .ref a :: st) h = E_ d mX0_numbers 45 ls (va_rf (oR h a x.toNatClampNeg) :: st) h := e_aald dX0_numbers_44 rfl ht hi
theorem wX0_numbers_45 : E_ d mX0_numbers 45 [s0, s1, .val (.int x), s3] st h = E_ d mX0_numbers 46 [s0, s1, .val (.int x), s3] (.int x :: st) h := e_go dX0_numbers_45 rfl rfl
theorem wX0_numbers_46 : E_ d mX0_numbers 46 [s0, s1, s2, .val (.int x)] st h = E_ d mX0_numbers 47 [s0, s1, s2, .val (.int x)] (.int x :: st) h := e_go dX0_numbers_46 rfl rfl
theorem wX0_numbers_47 (ht : oT h a = 6) : E_ d mX0_numbers 47 ls [.int x2, .int x1, .ref a] h = (xP 4 [.ref a, .int x1, .int x2] h).bind fun r => E_ d mX0_numbers 50 ls (xpu r.1 []) r.2 := e_virP dX0_numbers_47 rfl rfl rfl rfl rfl rfl (Nat.le_of_ble_eq_true rfl) ht
theorem wX0_numbers_50 : E_ d mX0_numbers 50 ls (.int x :: st) h = if x = 0 then E_ d mX0_numbers 57 ls st h else E_ d mX0_numbers 53 ls st h := e_zeq dX0_numbers_50 rfl rfl
theorem wX0_numbers_53 : E_ d mX0_numbers 53 ls st h = E_ d mX0_numbers 54 ls (.int (nI 0) :: st) h := e_iconst dX0_numbers_53 kiconst_0 rfl
theorem wX0_numbers_54 : E_ d mX0_numbers 54 ls st h = E_ d mX0_numbers 63 ls st h := e_gt dX0_numbers_54 rfl
theorem wX0_numbers_57 : E_ d mX0_numbers 57 [.val (.ref a), s1, s2, s3] st h = E_ d mX0_numbers 58 [.val (.ref a), s1, s2, s3] (.ref a :: st) h := e_go dX0_numbers_57 rfl rfl
theorem wX0_numbers_58 : E_ d mX0_numbers 58 ls st h = E_ d mX0_numbers 60 ls (.int ((-3)) :: st) h := e_bipush dX0_numbers_58 kbipush_m3 rfl
theorem wX0_numbers_60 (ht : oT h a = 1) : E_ (d + 1) mX0_numbers 60 ls [.int x1, .ref a] h = (C_ d mX0_no [.ref a, .int x1] h).bind fun r => E_ (d + 1) mX0_numbers 63 ls (xpu r.1 []) r.2 := e_vir dX0_numbers_60 rfl rfl rfl rfl rfl rfl (Nat.le_of_ble_eq_true rfl) (Nat.le_of_ble_eq_true rfl) ht
theorem wX0_numbers_63 : E_ d mX0_numbers 63 ls [.int x] h = some (some (.int x), h) := e_rt dX0_numbers_63 rfl rfl
/-! FootOut.image -/
theorem wX0_image_0 : E_ d mX0_image 0 [s0, .val (.int x)] st h = E_ d mX0_image 1 [s0, .val (.int x)] (.int x :: st) h := e_go dX0_image_0 rfl rfl
theorem wX0_image_1 : E_ d mX0_image 1 ls (.int x :: st) h = E_ d mX0_image 2 ls (.long x.toInt64 :: st) h := e_go dX0_image_1 rfl rfl
theorem wX0_image_2 : E_ d mX0_image 2 ls st h = E_ d mX0_image 3 ls (.long 0 :: st) h := e_go dX0_image_2 rfl rfl
theorem wX0_image_3 : E_ d mX0_image 3 ls st h = E_ d mX0_image 4 ls (.long 1 :: st) h := e_go dX0_image_3 rfl rfl
theorem wX0_image_4 : E_ (d + 1) mX0_image 4 ls [.long u3, .long u2, .long u1] h = (C_ d mX0_in [.long u1, .long u2, .long u3] h).bind fun r => E_ (d + 1) mX0_image 7 ls (xpu r.1 []) r.2 := e_call dX0_image_4 rfl rfl
theorem wX0_image_7 : E_ d mX0_image 7 ls (.int x :: st) h = if x = 0 then E_ d mX0_image 10 ls st h else E_ d mX0_image 17 ls st h := e_zne dX0_image_7 rfl rfl
theorem wX0_image_10 : E_ d mX0_image 10 [.val (.ref a), s1] st h = E_ d mX0_image 11 [.val (.ref a), s1] (.ref a :: st) h := e_go dX0_image_10 rfl rfl
theorem wX0_image_11 : E_ d mX0_image 11 ls st h = E_ d mX0_image 13 ls (.int ((-2)) :: st) h := e_bipush dX0_image_11 kbipush_m2 rfl
theorem wX0_image_13 (ht : oT h a = 1) : E_ (d + 1) mX0_image 13 ls [.int x1, .ref a] h = (C_ d mX0_no [.ref a, .int x1] h).bind fun r => E_ (d + 1) mX0_image 16 ls (xpu r.1 []) r.2 := e_vir dX0_image_13 rfl rfl rfl rfl rfl rfl (Nat.le_of_ble_eq_true rfl) (Nat.le_of_ble_eq_true rfl) ht
theorem wX0_image_16 : E_ d mX0_image 16 ls [.int x] h = some (some (.int x), h) := e_rt dX0_image_16 rfl rfl
theorem wX0_image_17 : E_ d mX0_image 17 [.val (.ref a), s1] st h = E_ d mX0_image 18 [.val (.ref a), s1] (.ref a :: st) h := e_go dX0_image_17 rfl rfl
theorem wX0_image_18 (ht : oT h a = 1) : E_ d mX0_image 18 ls (.ref a :: st) h = E_ d mX0_image 21 ls (va_rf (oR h a 1) :: st) h := e_getR0 dX0_image_18 rfl rfl ht
theorem wX0_image_21 : E_ d mX0_image 21 [s0, .val (.int x)] st h = E_ d mX0_image 22 [s0, .val (.int x)] (.int x :: st) h := e_go dX0_image_21 rfl rfl
theorem wX0_image_22 : E_ d mX0_image 22 [.val (.ref a), s1] st h = E_ d mX0_image 23 [.val (.ref a), s1] (.ref a :: st) h := e_go dX0_image_22 rfl rfl
theorem wX0_image_23 (ht : oT h a = 1) : E_ d mX0_image 23 ls (.ref a :: st) h = E_ d mX0_image 26 ls (va_rf (oR h a 0) :: st) h := e_getR dX0_image_23 rfl rfl ht
theorem wX0_image_26 (ht : oT h a = 2) : E_ (d + 1) mX0_image 26 ls [.ref a, .int x1, .ref r1] h = (C_ d mX1_copy [.ref a] h).bind fun r => E_ (d + 1) mX0_image 29 ls (xpu r.1 [.int x1, .ref r1]) r.2 := e_vir dX0_image_26 rfl rfl rfl rfl rfl rfl (Nat.le_of_ble_eq_true rfl) (Nat.le_of_ble_eq_true rfl) ht
theorem wX0_image_29 (ht : xel (oT h a) (oT h b) = true) (hi : xix x (oN h a) = true) : E_ d mX0_image 29 ls (.ref b :: .int x :: .ref a :: st) h = E_ d mX0_image 30 ls st (pR h a (va_up (oR h a) x.toNatClampNeg (some b))) := e_aast dX0_image_29 rfl ht hi
theorem wX0_image_29n (ht : 45 ≤ oT h a ∧ oT h a ≤ 48) (hi : xix x (oN h a) = true) : E_ d mX0_image 29 ls (.null :: .int x :: .ref a :: st) h = E_ d mX0_image 30 ls st (pR h a (va_up (oR h a) x.toNatClampNeg none)) := e_aastN dX0_image_29 rfl ht hi
theorem wX0_image_30 : E_ d mX0_image 30 ls st h = E_ d mX0_image 31 ls (.int (nI 0) :: st) h := e_iconst dX0_image_30 kiconst_0 rfl
theorem wX0_image_31 : E_ d mX0_image 31 ls [.int x] h = some (some (.int x), h) := e_rt dX0_image_31 rfl rfl
/-! FootOut.restore -/
theorem wX0_restore_0 : E_ d mX0_restore 0 [s0, .val (.int x)] st h = E_ d mX0_restore 1 [s0, .val (.int x)] (.int x :: st) h := e_go dX0_restore_0 rfl rfl
theorem wX0_restore_1 : E_ d mX0_restore 1 ls (.int x :: st) h = E_ d mX0_restore 2 ls (.long x.toInt64 :: st) h := e_go dX0_restore_1 rfl rfl
theorem wX0_restore_2 : E_ d mX0_restore 2 ls st h = E_ d mX0_restore 3 ls (.long 0 :: st) h := e_go dX0_restore_2 rfl rfl
theorem wX0_restore_3 : E_ d mX0_restore 3 ls st h = E_ d mX0_restore 4 ls (.long 1 :: st) h := e_go dX0_restore_3 rfl rfl
theorem wX0_restore_4 : E_ (d + 1) mX0_restore 4 ls [.long u3, .long u2, .long u1] h = (C_ d mX0_in [.long u1, .long u2, .long u3] h).bind fun r => E_ (d + 1) mX0_restore 7 ls (xpu r.1 []) r.2 := e_call dX0_restore_4 rfl rfl
theorem wX0_restore_7 : E_ d mX0_restore 7 ls (.int x :: st) h = if x = 0 then E_ d mX0_restore 10 ls st h else E_ d mX0_restore 17 ls st h := e_zne dX0_restore_7 rfl rfl
theorem wX0_restore_10 : E_ d mX0_restore 10 [.val (.ref a), s1] st h = E_ d mX0_restore 11 [.val (.ref a), s1] (.ref a :: st) h := e_go dX0_restore_10 rfl rfl
theorem wX0_restore_11 : E_ d mX0_restore 11 ls st h = E_ d mX0_restore 13 ls (.int ((-2)) :: st) h := e_bipush dX0_restore_11 kbipush_m2 rfl
theorem wX0_restore_13 (ht : oT h a = 1) : E_ (d + 1) mX0_restore 13 ls [.int x1, .ref a] h = (C_ d mX0_no [.ref a, .int x1] h).bind fun r => E_ (d + 1) mX0_restore 16 ls (xpu r.1 []) r.2 := e_vir dX0_restore_13 rfl rfl rfl rfl rfl rfl (Nat.le_of_ble_eq_true rfl) (Nat.le_of_ble_eq_true rfl) ht
theorem wX0_restore_16 : E_ d mX0_restore 16 ls [.int x] h = some (some (.int x), h) := e_rt dX0_restore_16 rfl rfl
theorem wX0_restore_17 : E_ d mX0_restore 17 [.val (.ref a), s1] st h = E_ d mX0_restore 18 [.val (.ref a), s1] (.ref a :: st) h := e_go dX0_restore_17 rfl rfl
theorem wX0_restore_18 (ht : oT h a = 1) : E_ d mX0_restore 18 ls (.ref a :: st) h = E_ d mX0_restore 21 ls (va_rf (oR h a 1) :: st) h := e_getR0 dX0_restore_18 rfl rfl ht
theorem wX0_restore_21 : E_ d mX0_restore 21 [s0, .val (.int x)] st h = E_ d mX0_restore 22 [s0, .val (.int x)] (.int x :: st) h := e_go dX0_restore_21 rfl rfl
theorem wX0_restore_22 (ht : 45 ≤ oT h a ∧ oT h a ≤ 48) (hi : xix x (oN h a) = true) : E_ d mX0_restore 22 ls (.int x :: .ref a :: st) h = E_ d mX0_restore 23 ls (va_rf (oR h a x.toNatClampNeg) :: st) h := e_aald dX0_restore_22 rfl ht hi
theorem wX0_restore_23 : E_ d mX0_restore 23 ls (.ref a :: st) h = E_ d mX0_restore 33 ls st h := e_nnR dX0_restore_23 rfl
theorem wX0_restore_23n : E_ d mX0_restore 23 ls (.null :: st) h = E_ d mX0_restore 26 ls st h := e_go dX0_restore_23 rfl rfl
theorem wX0_restore_26 : E_ d mX0_restore 26 [.val (.ref a), s1] st h = E_ d mX0_restore 27 [.val (.ref a), s1] (.ref a :: st) h := e_go dX0_restore_26 rfl rfl
theorem wX0_restore_27 : E_ d mX0_restore 27 ls st h = E_ d mX0_restore 29 ls (.int ((-5)) :: st) h := e_bipush dX0_restore_27 kbipush_m5 rfl
theorem wX0_restore_29 (ht : oT h a = 1) : E_ (d + 1) mX0_restore 29 ls [.int x1, .ref a] h = (C_ d mX0_no [.ref a, .int x1] h).bind fun r => E_ (d + 1) mX0_restore 32 ls (xpu r.1 []) r.2 := e_vir dX0_restore_29 rfl rfl rfl rfl rfl rfl (Nat.le_of_ble_eq_true rfl) (Nat.le_of_ble_eq_true rfl) ht
theorem wX0_restore_32 : E_ d mX0_restore 32 ls [.int x] h = some (some (.int x), h) := e_rt dX0_restore_32 rfl rfl
theorem wX0_restore_33 : E_ d mX0_restore 33 [.val (.ref a), s1] st h = E_ d mX0_restore 34 [.val (.ref a), s1] (.ref a :: st) h := e_go dX0_restore_33 rfl rfl
theorem wX0_restore_34 : E_ d mX0_restore 34 [.val (.ref a), s1] st h = E_ d mX0_restore 35 [.val (.ref a), s1] (.ref a :: st) h := e_go dX0_restore_34 rfl rfl
theorem wX0_restore_35 (ht : oT h a = 1) : E_ d mX0_restore 35 ls (.ref a :: st) h = E_ d mX0_restore 38 ls (va_rf (oR h a 1) :: st) h := e_getR0 dX0_restore_35 rfl rfl ht
theorem wX0_restore_38 : E_ d mX0_restore 38 [s0, .val (.int x)] st h = E_ d mX0_restore 39 [s0, .val (.int x)] (.int x :: st) h := e_go dX0_restore_38 rfl rfl
theorem wX0_restore_39 (ht : 45 ≤ oT h a ∧ oT h a ≤ 48) (hi : xix x (oN h a) = true) : E_ d mX0_restore 39 ls (.int x :: .ref a :: st) h = E_ d mX0_restore 40 ls (va_rf (oR h a x.toNatClampNeg) :: st) h := e_aald dX0_restore_39 rfl ht hi
theorem wX0_restore_40 (ht : oT h a = 2) : E_ (d + 1) mX0_restore 40 ls [.ref a, .ref r1] h = (C_ d mX1_copy [.ref a] h).bind fun r => E_ (d + 1) mX0_restore 43 ls (xpu r.1 [.ref r1]) r.2 := e_vir dX0_restore_40 rfl rfl rfl rfl rfl rfl (Nat.le_of_ble_eq_true rfl) (Nat.le_of_ble_eq_true rfl) ht
theorem wX0_restore_43 (ht : oT h a = 1) : E_ d mX0_restore 43 ls (.ref b :: .ref a :: st) h = E_ d mX0_restore 46 ls st (pR h a (va_up (oR h a) 0 (some b))) := e_putR dX0_restore_43 rfl rfl ht
theorem wX0_restore_46 : E_ d mX0_restore 46 ls st h = E_ d mX0_restore 47 ls (.int (nI 0) :: st) h := e_iconst dX0_restore_46 kiconst_0 rfl
theorem wX0_restore_47 : E_ d mX0_restore 47 ls [.int x] h = some (some (.int x), h) := e_rt dX0_restore_47 rfl rfl
/-! FootOut.status -/
theorem wX0_status_0 : E_ d mX0_status 0 [s0, .val (.int x)] st h = E_ d mX0_status 1 [s0, .val (.int x)] (.int x :: st) h := e_go dX0_status_0 rfl rfl
theorem wX0_status_1 : E_ d mX0_status 1 ls (.int x :: st) h = E_ d mX0_status 2 ls (.long x.toInt64 :: st) h := e_go dX0_status_1 rfl rfl
theorem wX0_status_2 : E_ d mX0_status 2 ls st h = E_ d mX0_status 3 ls (.long 0 :: st) h := e_go dX0_status_2 rfl rfl
theorem wX0_status_3 : E_ d mX0_status 3 ls st h = E_ d mX0_status 6 ls (.long (5) :: st) h := e_go dX0_status_3 rfl rfl
theorem wX0_status_6 : E_ (d + 1) mX0_status 6 ls [.long u3, .long u2, .long u1] h = (C_ d mX0_in [.long u1, .long u2, .long u3] h).bind fun r => E_ (d + 1) mX0_status 9 ls (xpu r.1 []) r.2 := e_call dX0_status_6 rfl rfl
theorem wX0_status_9 : E_ d mX0_status 9 ls (.int x :: st) h = if x = 0 then E_ d mX0_status 21 ls st h else E_ d mX0_status 12 ls st h := e_zeq dX0_status_9 rfl rfl
theorem wX0_status_12 : E_ d mX0_status 12 [.val (.ref a), s1] st h = E_ d mX0_status 13 [.val (.ref a), s1] (.ref a :: st) h := e_go dX0_status_12 rfl rfl
theorem wX0_status_13 (ht : oT h a = 1) : E_ d mX0_status 13 ls (.ref a :: st) h = E_ d mX0_status 16 ls (va_rf (oR h a 2) :: st) h := e_getR0 dX0_status_13 rfl rfl ht
theorem wX0_status_16 : E_ d mX0_status 16 [s0, .val (.int x)] st h = E_ d mX0_status 17 [s0, .val (.int x)] (.int x :: st) h := e_go dX0_status_16 rfl rfl
theorem wX0_status_17 (ht : oT h a = 40) (hi : xix x (oN h a) = true) : E_ d mX0_status 17 ls (.int x :: .ref a :: st) h = E_ d mX0_status 18 ls (.int (oI h a x.toNatClampNeg) :: st) h := e_iald dX0_status_17 rfl ht hi
theorem wX0_status_18 : E_ d mX0_status 18 ls st h = E_ d mX0_status 22 ls st h := e_gt dX0_status_18 rfl
theorem wX0_status_21 : E_ d mX0_status 21 ls st h = E_ d mX0_status 22 ls (.int ((-1)) :: st) h := e_iconst dX0_status_21 kiconst_m1 rfl
theorem wX0_status_22 : E_ d mX0_status 22 ls [.int x] h = some (some (.int x), h) := e_rt dX0_status_22 rfl rfl
/-! FootOut.count -/
theorem wX0_count_0 : E_ d mX0_count 0 [s0, .val (.int x)] st h = E_ d mX0_count 1 [s0, .val (.int x)] (.int x :: st) h := e_go dX0_count_0 rfl rfl
theorem wX0_count_1d (hx : x.toInt < 0 ∨ 10 < x.toInt) : E_ d mX0_count 1 ls (.int x :: st) h = E_ d mX0_count 148 ls st h := e_swO dX0_count_1 rfl hx
theorem wX0_count_1c0 : E_ d mX0_count 1 ls (.int (nI 0) :: st) h = E_ d mX0_count 60 ls st h := e_swI (n := 0) dX0_count_1 (by decide) (by decide) rfl rfl
theorem wX0_count_1c1 : E_ d mX0_count 1 ls (.int (nI 1) :: st) h = E_ d mX0_count 71 ls st h := e_swI (n := 1) dX0_count_1 (by decide) (by decide) rfl rfl
theorem wX0_count_1c2 : E_ d mX0_count 1 ls (.int (nI 2) :: st) h = E_ d mX0_count 85 ls st h := e_swI (n := 2) dX0_count_1 (by decide) (by decide) rfl rfl
theorem wX0_count_1c3 : E_ d mX0_count 1 ls (.int (nI 3) :: st) h = E_ d mX0_count 96 ls st h := e_swI (n := 3) dX0_count_1 (by decide) (by decide) rfl rfl
theorem wX0_count_1c4 : E_ d mX0_count 1 ls (.int (nI 4) :: st) h = E_ d mX0_count 96 ls st h := e_swI (n := 4) dX0_count_1 (by decide) (by decide) rfl rfl
theorem wX0_count_1c5 : E_ d mX0_count 1 ls (.int (nI 5) :: st) h = E_ d mX0_count 96 ls st h := e_swI (n := 5) dX0_count_1 (by decide) (by decide) rfl rfl
theorem wX0_count_1c6 : E_ d mX0_count 1 ls (.int (nI 6) :: st) h = E_ d mX0_count 96 ls st h := e_swI (n := 6) dX0_count_1 (by decide) (by decide) rfl rfl
theorem wX0_count_1c7 : E_ d mX0_count 1 ls (.int (nI 7) :: st) h = E_ d mX0_count 110 ls st h := e_swI (n := 7) dX0_count_1 (by decide) (by decide) rfl rfl
theorem wX0_count_1c8 : E_ d mX0_count 1 ls (.int (nI 8) :: st) h = E_ d mX0_count 121 ls st h := e_swI (n := 8) dX0_count_1 (by decide) (by decide) rfl rfl
theorem wX0_count_1c9 : E_ d mX0_count 1 ls (.int (nI 9) :: st) h = E_ d mX0_count 132 ls st h := e_swI (n := 9) dX0_count_1 (by decide) (by decide) rfl rfl
theorem wX0_count_1c10 : E_ d mX0_count 1 ls (.int (nI 10) :: st) h = E_ d mX0_count 137 ls st h := e_swI (n := 10) dX0_count_1 (by decide) (by decide) rfl rfl
theorem wX0_count_60 : E_ d mX0_count 60 [.val (.ref a), s1] st h = E_ d mX0_count 61 [.val (.ref a), s1] (.ref a :: st) h := e_go dX0_count_60 rfl rfl
theorem wX0_count_61 (ht : oT h a = 1) : E_ d mX0_count 61 ls (.ref a :: st) h = E_ d mX0_count 64 ls (va_rf (oR h a 0) :: st) h := e_getR dX0_count_61 rfl rfl ht
theorem wX0_count_64 (ht : oT h a = 2) : E_ d mX0_count 64 ls (.ref a :: st) h = E_ d mX0_count 67 ls (va_rf (oR h a 0) :: st) h := e_getR dX0_count_64 rfl rfl ht
theorem wX0_count_67 (ht : oT h a = 3) : E_ d mX0_count 67 ls (.ref a :: st) h = E_ d mX0_count 70 ls (.int (oI h a 1) :: st) h := e_getI dX0_count_67 rfl rfl ht
theorem wX0_count_70 : E_ d mX0_count 70 ls [.int x] h = some (some (.int x), h) := e_rt dX0_count_70 rfl rfl
theorem wX0_count_71 : E_ d mX0_count 71 [.val (.ref a), s1] st h = E_ d mX0_count 72 [.val (.ref a), s1] (.ref a :: st) h := e_go dX0_count_71 rfl rfl
theorem wX0_count_72 (ht : oT h a = 1) : E_ d mX0_count 72 ls (.ref a :: st) h = E_ d mX0_count 75 ls (va_rf (oR h a 0) :: st) h := e_getR dX0_count_72 rfl rfl ht
theorem wX0_count_75 (ht : oT h a = 2) : E_ d mX0_count 75 ls (.ref a :: st) h = E_ d mX0_count 78 ls (va_rf (oR h a 0) :: st) h := e_getR dX0_count_75 rfl rfl ht
theorem wX0_count_78 (ht : oT h a = 3) : E_ d mX0_count 78 ls (.ref a :: st) h = E_ d mX0_count 81 ls (va_rf (oR h a 0) :: st) h := e_getR0 dX0_count_78 rfl rfl ht
theorem wX0_count_81 (ht : oT h a = 4) : E_ (d + 1) mX0_count 81 ls [.ref a] h = (C_ d mJ2_size [.ref a] h).bind fun r => E_ (d + 1) mX0_count 84 ls (xpu r.1 []) r.2 := e_vir dX0_count_81 rfl rfl rfl rfl rfl rfl (Nat.le_of_ble_eq_true rfl) (Nat.le_of_ble_eq_true rfl) ht
theorem wX0_count_84 : E_ d mX0_count 84 ls [.int x] h = some (some (.int x), h) := e_rt dX0_count_84 rfl rfl
theorem wX0_count_85 : E_ d mX0_count 85 [.val (.ref a), s1] st h = E_ d mX0_count 86 [.val (.ref a), s1] (.ref a :: st) h := e_go dX0_count_85 rfl rfl
theorem wX0_count_86 (ht : oT h a = 1) : E_ d mX0_count 86 ls (.ref a :: st) h = E_ d mX0_count 89 ls (va_rf (oR h a 0) :: st) h := e_getR dX0_count_86 rfl rfl ht
theorem wX0_count_89 (ht : oT h a = 2) : E_ d mX0_count 89 ls (.ref a :: st) h = E_ d mX0_count 92 ls (va_rf (oR h a 0) :: st) h := e_getR dX0_count_89 rfl rfl ht
theorem wX0_count_92 (ht : oT h a = 3) : E_ d mX0_count 92 ls (.ref a :: st) h = E_ d mX0_count 95 ls (.int (oI h a 2) :: st) h := e_getI dX0_count_92 rfl rfl ht
theorem wX0_count_95 : E_ d mX0_count 95 ls [.int x] h = some (some (.int x), h) := e_rt dX0_count_95 rfl rfl
theorem wX0_count_96 : E_ d mX0_count 96 [.val (.ref a), s1] st h = E_ d mX0_count 97 [.val (.ref a), s1] (.ref a :: st) h := e_go dX0_count_96 rfl rfl
theorem wX0_count_97 (ht : oT h a = 1) : E_ d mX0_count 97 ls (.ref a :: st) h = E_ d mX0_count 100 ls (va_rf (oR h a 0) :: st) h := e_getR dX0_count_97 rfl rfl ht
theorem wX0_count_100 (ht : oT h a = 2) : E_ d mX0_count 100 ls (.ref a :: st) h = E_ d mX0_count 103 ls (va_rf (oR h a 0) :: st) h := e_getR dX0_count_100 rfl rfl ht
theorem wX0_count_103 : E_ d mX0_count 103 [s0, .val (.int x)] st h = E_ d mX0_count 104 [s0, .val (.int x)] (.int x :: st) h := e_go dX0_count_103 rfl rfl
theorem wX0_count_104 : E_ d mX0_count 104 ls st h = E_ d mX0_count 105 ls (.int (nI 3) :: st) h := e_iconst dX0_count_104 kiconst_3 rfl
theorem wX0_count_105 : E_ d mX0_count 105 ls (.int y :: .int x :: st) h = E_ d mX0_count 106 ls (.int (x - y) :: st) h := e_go dX0_count_105 rfl rfl
theorem wX0_count_106 (ht : oT h a = 3) : E_ (d + 1) mX0_count 106 ls [.int x1, .ref a] h = (C_ d mX2_get [.ref a, .int x1] h).bind fun r => E_ (d + 1) mX0_count 109 ls (xpu r.1 []) r.2 := e_vir dX0_count_106 rfl rfl rfl rfl rfl rfl (Nat.le_of_ble_eq_true rfl) (Nat.le_of_ble_eq_true rfl) ht
theorem wX0_count_109 : E_ d mX0_count 109 ls [.int x] h = some (some (.int x), h) := e_rt dX0_count_109 rfl rfl
theorem wX0_count_110 : E_ d mX0_count 110 [.val (.ref a), s1] st h = E_ d mX0_count 111 [.val (.ref a), s1] (.ref a :: st) h := e_go dX0_count_110 rfl rfl
theorem wX0_count_111 (ht : oT h a = 1) : E_ d mX0_count 111 ls (.ref a :: st) h = E_ d mX0_count 114 ls (va_rf (oR h a 0) :: st) h := e_getR dX0_count_111 rfl rfl ht
theorem wX0_count_114 (ht : oT h a = 2) : E_ d mX0_count 114 ls (.ref a :: st) h = E_ d mX0_count 117 ls (va_rf (oR h a 1) :: st) h := e_getR dX0_count_114 rfl rfl ht
theorem wX0_count_117 (ht : oT h a = 4) : E_ (d + 1) mX0_count 117 ls [.ref a] h = (C_ d mJ2_size [.ref a] h).bind fun r => E_ (d + 1) mX0_count 120 ls (xpu r.1 []) r.2 := e_vir dX0_count_117 rfl rfl rfl rfl rfl rfl (Nat.le_of_ble_eq_true rfl) (Nat.le_of_ble_eq_true rfl) ht
theorem wX0_count_120 : E_ d mX0_count 120 ls [.int x] h = some (some (.int x), h) := e_rt dX0_count_120 rfl rfl
theorem wX0_count_121 : E_ d mX0_count 121 [.val (.ref a), s1] st h = E_ d mX0_count 122 [.val (.ref a), s1] (.ref a :: st) h := e_go dX0_count_121 rfl rfl
theorem wX0_count_122 (ht : oT h a = 1) : E_ d mX0_count 122 ls (.ref a :: st) h = E_ d mX0_count 125 ls (va_rf (oR h a 0) :: st) h := e_getR dX0_count_122 rfl rfl ht
theorem wX0_count_125 (ht : oT h a = 2) : E_ d mX0_count 125 ls (.ref a :: st) h = E_ d mX0_count 128 ls (va_rf (oR h a 2) :: st) h := e_getR0 dX0_count_125 rfl rfl ht
theorem wX0_count_128 (ht : oT h a = 4) : E_ (d + 1) mX0_count 128 ls [.ref a] h = (C_ d mJ2_size [.ref a] h).bind fun r => E_ (d + 1) mX0_count 131 ls (xpu r.1 []) r.2 := e_vir dX0_count_128 rfl rfl rfl rfl rfl rfl (Nat.le_of_ble_eq_true rfl) (Nat.le_of_ble_eq_true rfl) ht
theorem wX0_count_131 : E_ d mX0_count 131 ls [.int x] h = some (some (.int x), h) := e_rt dX0_count_131 rfl rfl
theorem wX0_count_132 : E_ d mX0_count 132 [.val (.ref a), s1] st h = E_ d mX0_count 133 [.val (.ref a), s1] (.ref a :: st) h := e_go dX0_count_132 rfl rfl
theorem wX0_count_133 (ht : oT h a = 1) : E_ d mX0_count 133 ls (.ref a :: st) h = E_ d mX0_count 136 ls (.int (oI h a 4) :: st) h := e_getI dX0_count_133 rfl rfl ht
theorem wX0_count_136 : E_ d mX0_count 136 ls [.int x] h = some (some (.int x), h) := e_rt dX0_count_136 rfl rfl
theorem wX0_count_137 : E_ d mX0_count 137 [.val (.ref a), s1] st h = E_ d mX0_count 138 [.val (.ref a), s1] (.ref a :: st) h := e_go dX0_count_137 rfl rfl
theorem wX0_count_138 (ht : oT h a = 1) : E_ d mX0_count 138 ls (.ref a :: st) h = E_ d mX0_count 141 ls (va_rf (oR h a 0) :: st) h := e_getR dX0_count_138 rfl rfl ht
theorem wX0_count_141 (ht : oT h a = 2) : E_ d mX0_count 141 ls (.ref a :: st) h = E_ d mX0_count 144 ls (va_rf (oR h a 0) :: st) h := e_getR dX0_count_141 rfl rfl ht
theorem wX0_count_144 (ht : oT h a = 3) : E_ d mX0_count 144 ls (.ref a :: st) h = E_ d mX0_count 147 ls (.int (oI h a 7) :: st) h := e_getI dX0_count_144 rfl rfl ht
theorem wX0_count_147 : E_ d mX0_count 147 ls [.int x] h = some (some (.int x), h) := e_rt dX0_count_147 rfl rfl
theorem wX0_count_148 : E_ d mX0_count 148 ls st h = E_ d mX0_count 149 ls (.int ((-1)) :: st) h := e_iconst dX0_count_148 kiconst_m1 rfl
theorem wX0_count_149 : E_ d mX0_count 149 ls [.int x] h = some (some (.int x), h) := e_rt dX0_count_149 rfl rfl
